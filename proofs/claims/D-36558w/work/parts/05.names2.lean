set_option maxRecDepth 100000
/-! java/util/TreeMap$KeySet -/
def RJ42 : String := "java/util/TreeMap$KeySet"
def TJ42 : u_T := fun k => match k with
  | _ => ("java/util/TreeMap$KeySet", "m", "Ljava/util/NavigableMap;", true)
def tyJ42 : Nat → FieldType := fun k => match k with
  | _ => .object "java/util/NavigableMap"
abbrev wsJ420 : List Cond := u_ws RJ42 TJ42 1
theorem nmJ42 : ∀ a, a < 1 → ∀ b, b < 1 → a ≠ b → (TJ42 a).2.1 ≠ (TJ42 b).2.1 := by decide +kernel
theorem tyJ42_ok : ∀ k, k < 1 → parseFieldDescriptor (TJ42 k).2.2.1 = some (tyJ42 k) := by decide +kernel
abbrev cJ42_iterator : ByteArray := prog_92_method_2_code
def yJ42_iterator : MethodName := ⟨RJ42, "iterator", "()Ljava/util/Iterator;"⟩
def dkwJ42_iterator_1 : List UInt8 := [180, 0, 7, 192, 0, 19, 182, 0, 21, 176]
abbrev dktJ42_iterator_1 : List UInt8 := dkwJ42_iterator_1 ++ []
def dkwJ42_iterator_0 : List UInt8 := [42, 180, 0, 7, 193, 0, 13, 153, 0, 14, 42, 180, 0, 7, 192, 0, 13, 182, 0, 15, 176, 42]
abbrev dktJ42_iterator_0 : List UInt8 := dkwJ42_iterator_0 ++ dktJ42_iterator_1
theorem dksJ42_iterator_0 : cJ42_iterator.data.toList.drop 0 = dktJ42_iterator_0 := by decide +kernel
theorem dksJ42_iterator_1 : cJ42_iterator.data.toList.drop 22 = dktJ42_iterator_1 := dk_seg dksJ42_iterator_0 22 rfl rfl
theorem dJ42_iterator_0 : decode cJ42_iterator 0 = .ok (.aload_n 0, 1) := dk_42 (dk_at dksJ42_iterator_0 0 rfl rfl)
theorem dJ42_iterator_1 : decode cJ42_iterator 1 = .ok (.getfield 7, 3) := dk_180 0 7 (dk_at dksJ42_iterator_0 1 rfl rfl)
theorem dJ42_iterator_4 : decode cJ42_iterator 4 = .ok (.instanceof 13, 3) := dk_193 0 13 (dk_at dksJ42_iterator_0 4 rfl rfl)
theorem dJ42_iterator_7 : decode cJ42_iterator 7 = .ok (.ifCond .eq 14, 3) := dk_153 0 14 (dk_at dksJ42_iterator_0 7 rfl rfl)
theorem dJ42_iterator_10 : decode cJ42_iterator 10 = .ok (.aload_n 0, 1) := dk_42 (dk_at dksJ42_iterator_0 10 rfl rfl)
theorem dJ42_iterator_11 : decode cJ42_iterator 11 = .ok (.getfield 7, 3) := dk_180 0 7 (dk_at dksJ42_iterator_0 11 rfl rfl)
theorem dJ42_iterator_14 : decode cJ42_iterator 14 = .ok (.checkcast 13, 3) := dk_192 0 13 (dk_at dksJ42_iterator_0 14 rfl rfl)
theorem dJ42_iterator_17 : decode cJ42_iterator 17 = .ok (.invokevirtual 15, 3) := dk_182 0 15 (dk_at dksJ42_iterator_0 17 rfl rfl)
theorem dJ42_iterator_20 : decode cJ42_iterator 20 = .ok (.areturn, 1) := dk_176 (dk_at dksJ42_iterator_0 20 rfl rfl)
theorem dJ42_iterator_21 : decode cJ42_iterator 21 = .ok (.aload_n 0, 1) := dk_42 (dk_at dksJ42_iterator_0 21 rfl rfl)
theorem dJ42_iterator_22 : decode cJ42_iterator 22 = .ok (.getfield 7, 3) := dk_180 0 7 (dk_at dksJ42_iterator_1 0 rfl rfl)
theorem dJ42_iterator_25 : decode cJ42_iterator 25 = .ok (.checkcast 19, 3) := dk_192 0 19 (dk_at dksJ42_iterator_1 3 rfl rfl)
theorem dJ42_iterator_28 : decode cJ42_iterator 28 = .ok (.invokevirtual 21, 3) := dk_182 0 21 (dk_at dksJ42_iterator_1 6 rfl rfl)
theorem dJ42_iterator_31 : decode cJ42_iterator 31 = .ok (.areturn, 1) := dk_176 (dk_at dksJ42_iterator_1 9 rfl rfl)
abbrev cJ42_init : ByteArray := prog_92_method_1_code
def yJ42_init : MethodName := ⟨RJ42, "<init>", "(Ljava/util/NavigableMap;)V"⟩
def dkwJ42_init_0 : List UInt8 := [42, 183, 0, 1, 42, 43, 181, 0, 7, 177]
abbrev dktJ42_init_0 : List UInt8 := dkwJ42_init_0 ++ []
theorem dksJ42_init_0 : cJ42_init.data.toList.drop 0 = dktJ42_init_0 := by decide +kernel
theorem dJ42_init_0 : decode cJ42_init 0 = .ok (.aload_n 0, 1) := dk_42 (dk_at dksJ42_init_0 0 rfl rfl)
theorem dJ42_init_1 : decode cJ42_init 1 = .ok (.invokespecial 1, 3) := dk_183 0 1 (dk_at dksJ42_init_0 1 rfl rfl)
theorem dJ42_init_4 : decode cJ42_init 4 = .ok (.aload_n 0, 1) := dk_42 (dk_at dksJ42_init_0 4 rfl rfl)
theorem dJ42_init_5 : decode cJ42_init 5 = .ok (.aload_n 1, 1) := dk_43 (dk_at dksJ42_init_0 5 rfl rfl)
theorem dJ42_init_6 : decode cJ42_init 6 = .ok (.putfield 7, 3) := dk_181 0 7 (dk_at dksJ42_init_0 6 rfl rfl)
theorem dJ42_init_9 : decode cJ42_init 9 = .ok (.return_, 1) := dk_177 (dk_at dksJ42_init_0 9 rfl rfl)
theorem q134 : (Jvm.Cond.initialized "java/util/TreeMap$KeySet") ∈ lw_all := lw_g (lw_at lw_m1 58 rfl) rfl
theorem q779 : (Jvm.Cond.selects "java/util/TreeMap$KeySet" ({ cls := "java/lang/Object", name := "getClass", desc := "()Ljava/lang/Class;" } : Jvm.MethodName) ({ cls := "java/lang/Object", name := "getClass", desc := "()Ljava/lang/Class;" } : Jvm.MethodName)) ∈ lw_all := lw_g (lw_at lw_m3 223 rfl) rfl
theorem q890 : (Jvm.Cond.castable "java/util/TreeMap$KeySet" "java/lang/Iterable") ∈ lw_tbl := lw_at lw_m4 94 rfl
theorem q891 : (Jvm.Cond.selects "java/util/TreeMap$KeySet" ({ cls := "java/lang/Iterable", name := "iterator", desc := "()Ljava/util/Iterator;" } : Jvm.MethodName) ({ cls := "java/util/TreeMap$KeySet", name := "iterator", desc := "()Ljava/util/Iterator;" } : Jvm.MethodName)) ∈ lw_all := lw_g (lw_at lw_m4 95 rfl) rfl
theorem q892 : (Jvm.Cond.unhidden "java/util/TreeMap$KeySet" "iterator" "()Ljava/util/Iterator;") ∈ lw_tbl := lw_at lw_m4 96 rfl
theorem q893 : (Jvm.Cond.instanceMethod ({ cls := "java/util/TreeMap$KeySet", name := "iterator", desc := "()Ljava/util/Iterator;" } : Jvm.MethodName)) ∈ lw_all := lw_g (lw_at lw_m4 97 rfl) rfl
theorem q894 : (Jvm.Cond.publicMethod ({ cls := "java/util/TreeMap$KeySet", name := "iterator", desc := "()Ljava/util/Iterator;" } : Jvm.MethodName)) ∈ lw_tbl := lw_at lw_m4 98 rfl
theorem q895 : (Jvm.Cond.code ({ cls := "java/util/TreeMap$KeySet", name := "iterator", desc := "()Ljava/util/Iterator;" } : Jvm.MethodName) prog_92_method_2_code (1 : Nat) (Option.some (Jvm.ClassFile.FieldType.object "java/util/Iterator"))) ∈ lw_all := lw_g (lw_at lw_m4 99 rfl) rfl
theorem q896 : (Jvm.Cond.classLink "java/util/TreeMap$KeySet" (13 : Nat) "java/util/TreeMap") ∈ lw_all := lw_g (lw_at lw_m4 100 rfl) rfl
theorem q897 : (Jvm.Cond.methodLink "java/util/TreeMap$KeySet" (15 : Nat) ({ cls := "java/util/TreeMap", name := "keyIterator", desc := "()Ljava/util/Iterator;" } : Jvm.MethodName)) ∈ lw_all := lw_g (lw_at lw_m4 101 rfl) rfl
theorem q913 : (Jvm.Cond.classLink "java/util/TreeMap$KeySet" (19 : Nat) "java/util/TreeMap$NavigableSubMap") ∈ lw_all := lw_g (lw_at lw_m4 117 rfl) rfl
theorem q914 : (Jvm.Cond.methodLink "java/util/TreeMap$KeySet" (21 : Nat) ({ cls := "java/util/TreeMap$NavigableSubMap", name := "keyIterator", desc := "()Ljava/util/Iterator;" } : Jvm.MethodName)) ∈ lw_all := lw_g (lw_at lw_m4 118 rfl) rfl
theorem q1200 : (Jvm.Cond.castable "java/util/TreeMap$KeySet" "java/util/Collection") ∈ lw_tbl := lw_at lw_m5 164 rfl
theorem q1201 : (Jvm.Cond.selects "java/util/TreeMap$KeySet" ({ cls := "java/util/Collection", name := "iterator", desc := "()Ljava/util/Iterator;" } : Jvm.MethodName) ({ cls := "java/util/TreeMap$KeySet", name := "iterator", desc := "()Ljava/util/Iterator;" } : Jvm.MethodName)) ∈ lw_all := lw_g (lw_at lw_m5 165 rfl) rfl
theorem q2217 : (Jvm.Cond.instantiable "java/util/TreeMap$KeySet" (1 : Nat)) ∈ lw_all := lw_g (lw_at lw_m9 221 rfl) rfl
theorem q2219 : (Jvm.Cond.instanceMethod ({ cls := "java/util/TreeMap$KeySet", name := "<init>", desc := "(Ljava/util/NavigableMap;)V" } : Jvm.MethodName)) ∈ lw_all := lw_g (lw_at lw_m9 223 rfl) rfl
theorem q2220 : (Jvm.Cond.code ({ cls := "java/util/TreeMap$KeySet", name := "<init>", desc := "(Ljava/util/NavigableMap;)V" } : Jvm.MethodName) prog_92_method_1_code (2 : Nat) (Option.none : Option Jvm.ClassFile.FieldType)) ∈ lw_all := lw_g (lw_at lw_m9 224 rfl) rfl
theorem q2221 : (Jvm.Cond.methodLink "java/util/TreeMap$KeySet" (1 : Nat) ({ cls := "java/util/AbstractSet", name := "<init>", desc := "()V" } : Jvm.MethodName)) ∈ lw_all := lw_g (lw_at lw_m9 225 rfl) rfl
theorem q2225 : (Jvm.Cond.fieldLink "java/util/TreeMap$KeySet" (7 : Nat) "java/util/TreeMap$KeySet" "m" "Ljava/util/NavigableMap;") ∈ lw_all := lw_g (lw_at lw_m9 229 rfl) rfl
theorem q2226 : (Jvm.Cond.laysFinal "java/util/TreeMap$KeySet" "java/util/TreeMap$KeySet" "m" "Ljava/util/NavigableMap;") ∈ lw_all := lw_g (lw_at lw_m9 230 rfl) rfl
theorem q2227 : (Jvm.Cond.soleField "java/util/TreeMap$KeySet" "m") ∈ lw_all := lw_g (lw_at lw_m9 231 rfl) rfl
theorem q2228 : (Jvm.Cond.superclass "java/util/TreeMap$KeySet" "java/util/AbstractSet") ∈ lw_all := lw_g (lw_at lw_m9 232 rfl) rfl
theorem q2237 : (Jvm.Cond.castable "java/util/TreeMap$KeySet" "java/util/Set") ∈ lw_tbl := lw_at lw_m10 1 rfl
theorem q2238 : (Jvm.Cond.selects "java/util/TreeMap$KeySet" ({ cls := "java/util/Set", name := "iterator", desc := "()Ljava/util/Iterator;" } : Jvm.MethodName) ({ cls := "java/util/TreeMap$KeySet", name := "iterator", desc := "()Ljava/util/Iterator;" } : Jvm.MethodName)) ∈ lw_all := lw_g (lw_at lw_m10 2 rfl) rfl
theorem q3709 : (Jvm.Cond.castable "java/util/TreeMap$KeySet" "java/lang/Object") ∈ lw_tbl := lw_at lw_m16 33 rfl
theorem in_J42 : ∀ w ∈ wsJ420, w ∈ lw_all := lw_in wsJ420 [2226] (by decide +kernel) (by decide +kernel)
/-! java/lang/UnsupportedOperationException -/
def RJ43 : String := "java/lang/UnsupportedOperationException"
def TJ43 : u_T := fun k => match k with
  | 0 => ("java/lang/Throwable", "cause", "Ljava/lang/Throwable;", false)
  | 1 => ("java/lang/Throwable", "stackTrace", "[Ljava/lang/StackTraceElement;", false)
  | 2 => ("java/lang/Throwable", "suppressedExceptions", "Ljava/util/List;", false)
  | 3 => ("java/lang/Throwable", "detailMessage", "Ljava/lang/String;", false)
  | 4 => ("java/lang/Throwable", "backtrace", "Ljava/lang/Object;", false)
  | _ => ("java/lang/Throwable", "depth", "I", false)
def tyJ43 : Nat → FieldType := fun k => match k with
  | 0 => .object "java/lang/Throwable"
  | 1 => .array (.object "java/lang/StackTraceElement")
  | 2 => .object "java/util/List"
  | 3 => .object "java/lang/String"
  | 4 => .object "java/lang/Object"
  | _ => .int
abbrev wsJ430 : List Cond := u_ws RJ43 TJ43 6
theorem nmJ43 : ∀ a, a < 6 → ∀ b, b < 6 → a ≠ b → (TJ43 a).2.1 ≠ (TJ43 b).2.1 := by decide +kernel
theorem tyJ43_ok : ∀ k, k < 6 → parseFieldDescriptor (TJ43 k).2.2.1 = some (tyJ43 k) := by decide +kernel
abbrev cJ43_init : ByteArray := prog_51_method_1_code
def yJ43_init : MethodName := ⟨RJ43, "<init>", "()V"⟩
theorem dJ43_init_0 : decode cJ43_init 0 = .ok (.aload_n 0, 1) := by decide +kernel
theorem dJ43_init_1 : decode cJ43_init 1 = .ok (.invokespecial 1, 3) := by decide +kernel
theorem dJ43_init_4 : decode cJ43_init 4 = .ok (.return_, 1) := by decide +kernel
theorem q135 : (Jvm.Cond.initialized "java/lang/UnsupportedOperationException") ∈ lw_all := lw_g (lw_at lw_m1 59 rfl) rfl
theorem q376 : (Jvm.Cond.selects "java/lang/UnsupportedOperationException" ({ cls := "java/lang/Throwable", name := "fillInStackTrace", desc := "()Ljava/lang/Throwable;" } : Jvm.MethodName) ({ cls := "java/lang/Throwable", name := "fillInStackTrace", desc := "()Ljava/lang/Throwable;" } : Jvm.MethodName)) ∈ lw_all := lw_g (lw_at lw_m2 60 rfl) rfl
theorem q763 : (Jvm.Cond.selects "java/lang/UnsupportedOperationException" ({ cls := "java/lang/Object", name := "getClass", desc := "()Ljava/lang/Class;" } : Jvm.MethodName) ({ cls := "java/lang/Object", name := "getClass", desc := "()Ljava/lang/Class;" } : Jvm.MethodName)) ∈ lw_all := lw_g (lw_at lw_m3 207 rfl) rfl
theorem q1359 : (Jvm.Cond.selects "java/lang/UnsupportedOperationException" ({ cls := "java/lang/Object", name := "hashCode", desc := "()I" } : Jvm.MethodName) ({ cls := "java/lang/Object", name := "hashCode", desc := "()I" } : Jvm.MethodName)) ∈ lw_all := lw_g (lw_at lw_m6 83 rfl) rfl
theorem q1405 : (Jvm.Cond.selects "java/lang/UnsupportedOperationException" ({ cls := "java/lang/Object", name := "equals", desc := "(Ljava/lang/Object;)Z" } : Jvm.MethodName) ({ cls := "java/lang/Object", name := "equals", desc := "(Ljava/lang/Object;)Z" } : Jvm.MethodName)) ∈ lw_all := lw_g (lw_at lw_m6 129 rfl) rfl
theorem q2335 : (Jvm.Cond.instantiable "java/lang/UnsupportedOperationException" (6 : Nat)) ∈ lw_all := lw_g (lw_at lw_m10 99 rfl) rfl
theorem q2336 : (Jvm.Cond.castable "java/lang/UnsupportedOperationException" "java/lang/UnsupportedOperationException") ∈ lw_tbl := lw_at lw_m10 100 rfl
theorem q2337 : (Jvm.Cond.selects "java/lang/UnsupportedOperationException" ({ cls := "java/lang/Throwable", name := "fillInStackTrace", desc := "(I)Ljava/lang/Throwable;" } : Jvm.MethodName) ({ cls := "java/lang/Throwable", name := "fillInStackTrace", desc := "(I)Ljava/lang/Throwable;" } : Jvm.MethodName)) ∈ lw_all := lw_g (lw_at lw_m10 101 rfl) rfl
theorem q2338 : (Jvm.Cond.lays "java/lang/UnsupportedOperationException" "java/lang/Throwable" "cause" "Ljava/lang/Throwable;") ∈ lw_all := lw_g (lw_at lw_m10 102 rfl) rfl
theorem q2339 : (Jvm.Cond.lays "java/lang/UnsupportedOperationException" "java/lang/Throwable" "stackTrace" "[Ljava/lang/StackTraceElement;") ∈ lw_all := lw_g (lw_at lw_m10 103 rfl) rfl
theorem q2340 : (Jvm.Cond.lays "java/lang/UnsupportedOperationException" "java/lang/Throwable" "suppressedExceptions" "Ljava/util/List;") ∈ lw_all := lw_g (lw_at lw_m10 104 rfl) rfl
theorem q2341 : (Jvm.Cond.lays "java/lang/UnsupportedOperationException" "java/lang/Throwable" "detailMessage" "Ljava/lang/String;") ∈ lw_all := lw_g (lw_at lw_m10 105 rfl) rfl
theorem q2342 : (Jvm.Cond.lays "java/lang/UnsupportedOperationException" "java/lang/Throwable" "backtrace" "Ljava/lang/Object;") ∈ lw_all := lw_g (lw_at lw_m10 106 rfl) rfl
theorem q2344 : (Jvm.Cond.instanceMethod ({ cls := "java/lang/UnsupportedOperationException", name := "<init>", desc := "()V" } : Jvm.MethodName)) ∈ lw_all := lw_g (lw_at lw_m10 108 rfl) rfl
theorem q2345 : (Jvm.Cond.code ({ cls := "java/lang/UnsupportedOperationException", name := "<init>", desc := "()V" } : Jvm.MethodName) prog_51_method_1_code (1 : Nat) (Option.none : Option Jvm.ClassFile.FieldType)) ∈ lw_all := lw_g (lw_at lw_m10 109 rfl) rfl
theorem q2346 : (Jvm.Cond.methodLink "java/lang/UnsupportedOperationException" (1 : Nat) ({ cls := "java/lang/RuntimeException", name := "<init>", desc := "()V" } : Jvm.MethodName)) ∈ lw_all := lw_g (lw_at lw_m10 110 rfl) rfl
theorem q2347 : (Jvm.Cond.lays "java/lang/UnsupportedOperationException" "java/lang/Throwable" "depth" "I") ∈ lw_all := lw_g (lw_at lw_m10 111 rfl) rfl
theorem q2348 : (Jvm.Cond.superclass "java/lang/UnsupportedOperationException" "java/lang/RuntimeException") ∈ lw_all := lw_g (lw_at lw_m10 112 rfl) rfl
theorem q3711 : (Jvm.Cond.castable "java/lang/UnsupportedOperationException" "java/lang/Object") ∈ lw_tbl := lw_at lw_m16 35 rfl
theorem in_J43 : ∀ w ∈ wsJ430, w ∈ lw_all := lw_in wsJ430 [2338, 2339, 2340, 2341, 2342, 2347] (by decide +kernel) (by decide +kernel)
/-! java/util/ConcurrentModificationException -/
def RJ44 : String := "java/util/ConcurrentModificationException"
def TJ44 : u_T := fun k => match k with
  | 0 => ("java/lang/Throwable", "cause", "Ljava/lang/Throwable;", false)
  | 1 => ("java/lang/Throwable", "stackTrace", "[Ljava/lang/StackTraceElement;", false)
  | 2 => ("java/lang/Throwable", "suppressedExceptions", "Ljava/util/List;", false)
  | 3 => ("java/lang/Throwable", "detailMessage", "Ljava/lang/String;", false)
  | 4 => ("java/lang/Throwable", "backtrace", "Ljava/lang/Object;", false)
  | _ => ("java/lang/Throwable", "depth", "I", false)
def tyJ44 : Nat → FieldType := fun k => match k with
  | 0 => .object "java/lang/Throwable"
  | 1 => .array (.object "java/lang/StackTraceElement")
  | 2 => .object "java/util/List"
  | 3 => .object "java/lang/String"
  | 4 => .object "java/lang/Object"
  | _ => .int
abbrev wsJ440 : List Cond := u_ws RJ44 TJ44 6
theorem nmJ44 : ∀ a, a < 6 → ∀ b, b < 6 → a ≠ b → (TJ44 a).2.1 ≠ (TJ44 b).2.1 := by decide +kernel
theorem tyJ44_ok : ∀ k, k < 6 → parseFieldDescriptor (TJ44 k).2.2.1 = some (tyJ44 k) := by decide +kernel
abbrev cJ44_init : ByteArray := prog_64_method_1_code
def yJ44_init : MethodName := ⟨RJ44, "<init>", "()V"⟩
theorem dJ44_init_0 : decode cJ44_init 0 = .ok (.aload_n 0, 1) := by decide +kernel
theorem dJ44_init_1 : decode cJ44_init 1 = .ok (.invokespecial 1, 3) := by decide +kernel
theorem dJ44_init_4 : decode cJ44_init 4 = .ok (.return_, 1) := by decide +kernel
theorem q136 : (Jvm.Cond.initialized "java/util/ConcurrentModificationException") ∈ lw_all := lw_g (lw_at lw_m1 60 rfl) rfl
theorem q377 : (Jvm.Cond.selects "java/util/ConcurrentModificationException" ({ cls := "java/lang/Throwable", name := "fillInStackTrace", desc := "()Ljava/lang/Throwable;" } : Jvm.MethodName) ({ cls := "java/lang/Throwable", name := "fillInStackTrace", desc := "()Ljava/lang/Throwable;" } : Jvm.MethodName)) ∈ lw_all := lw_g (lw_at lw_m2 61 rfl) rfl
theorem q767 : (Jvm.Cond.selects "java/util/ConcurrentModificationException" ({ cls := "java/lang/Object", name := "getClass", desc := "()Ljava/lang/Class;" } : Jvm.MethodName) ({ cls := "java/lang/Object", name := "getClass", desc := "()Ljava/lang/Class;" } : Jvm.MethodName)) ∈ lw_all := lw_g (lw_at lw_m3 211 rfl) rfl
theorem q2262 : (Jvm.Cond.instantiable "java/util/ConcurrentModificationException" (6 : Nat)) ∈ lw_all := lw_g (lw_at lw_m10 26 rfl) rfl
theorem q2263 : (Jvm.Cond.castable "java/util/ConcurrentModificationException" "java/util/ConcurrentModificationException") ∈ lw_tbl := lw_at lw_m10 27 rfl
theorem q2264 : (Jvm.Cond.selects "java/util/ConcurrentModificationException" ({ cls := "java/lang/Throwable", name := "fillInStackTrace", desc := "(I)Ljava/lang/Throwable;" } : Jvm.MethodName) ({ cls := "java/lang/Throwable", name := "fillInStackTrace", desc := "(I)Ljava/lang/Throwable;" } : Jvm.MethodName)) ∈ lw_all := lw_g (lw_at lw_m10 28 rfl) rfl
theorem q2265 : (Jvm.Cond.lays "java/util/ConcurrentModificationException" "java/lang/Throwable" "cause" "Ljava/lang/Throwable;") ∈ lw_all := lw_g (lw_at lw_m10 29 rfl) rfl
theorem q2266 : (Jvm.Cond.lays "java/util/ConcurrentModificationException" "java/lang/Throwable" "stackTrace" "[Ljava/lang/StackTraceElement;") ∈ lw_all := lw_g (lw_at lw_m10 30 rfl) rfl
theorem q2267 : (Jvm.Cond.lays "java/util/ConcurrentModificationException" "java/lang/Throwable" "suppressedExceptions" "Ljava/util/List;") ∈ lw_all := lw_g (lw_at lw_m10 31 rfl) rfl
theorem q2268 : (Jvm.Cond.lays "java/util/ConcurrentModificationException" "java/lang/Throwable" "detailMessage" "Ljava/lang/String;") ∈ lw_all := lw_g (lw_at lw_m10 32 rfl) rfl
theorem q2269 : (Jvm.Cond.lays "java/util/ConcurrentModificationException" "java/lang/Throwable" "backtrace" "Ljava/lang/Object;") ∈ lw_all := lw_g (lw_at lw_m10 33 rfl) rfl
theorem q2271 : (Jvm.Cond.instanceMethod ({ cls := "java/util/ConcurrentModificationException", name := "<init>", desc := "()V" } : Jvm.MethodName)) ∈ lw_all := lw_g (lw_at lw_m10 35 rfl) rfl
theorem q2272 : (Jvm.Cond.code ({ cls := "java/util/ConcurrentModificationException", name := "<init>", desc := "()V" } : Jvm.MethodName) prog_64_method_1_code (1 : Nat) (Option.none : Option Jvm.ClassFile.FieldType)) ∈ lw_all := lw_g (lw_at lw_m10 36 rfl) rfl
theorem q2273 : (Jvm.Cond.methodLink "java/util/ConcurrentModificationException" (1 : Nat) ({ cls := "java/lang/RuntimeException", name := "<init>", desc := "()V" } : Jvm.MethodName)) ∈ lw_all := lw_g (lw_at lw_m10 37 rfl) rfl
theorem q2274 : (Jvm.Cond.lays "java/util/ConcurrentModificationException" "java/lang/Throwable" "depth" "I") ∈ lw_all := lw_g (lw_at lw_m10 38 rfl) rfl
theorem q2275 : (Jvm.Cond.superclass "java/util/ConcurrentModificationException" "java/lang/RuntimeException") ∈ lw_all := lw_g (lw_at lw_m10 39 rfl) rfl
theorem q3712 : (Jvm.Cond.castable "java/util/ConcurrentModificationException" "java/lang/Object") ∈ lw_tbl := lw_at lw_m16 36 rfl
theorem in_J44 : ∀ w ∈ wsJ440, w ∈ lw_all := lw_in wsJ440 [2265, 2266, 2267, 2268, 2269, 2274] (by decide +kernel) (by decide +kernel)
/-! java/util/HashMap$EntrySet -/
def RJ45 : String := "java/util/HashMap$EntrySet"
def TJ45 : u_T := fun k => match k with
  | _ => ("java/util/HashMap$EntrySet", "this$0", "Ljava/util/HashMap;", true)
def tyJ45 : Nat → FieldType := fun k => match k with
  | _ => .object "java/util/HashMap"
abbrev wsJ450 : List Cond := u_ws RJ45 TJ45 1
theorem nmJ45 : ∀ a, a < 1 → ∀ b, b < 1 → a ≠ b → (TJ45 a).2.1 ≠ (TJ45 b).2.1 := by decide +kernel
theorem tyJ45_ok : ∀ k, k < 1 → parseFieldDescriptor (TJ45 k).2.2.1 = some (tyJ45 k) := by decide +kernel
abbrev cJ45_iterator : ByteArray := prog_67_method_4_code
def yJ45_iterator : MethodName := ⟨RJ45, "iterator", "()Ljava/util/Iterator;"⟩
def dkwJ45_iterator_0 : List UInt8 := [187, 0, 22, 89, 42, 180, 0, 1, 183, 0, 24, 176]
abbrev dktJ45_iterator_0 : List UInt8 := dkwJ45_iterator_0 ++ []
theorem dksJ45_iterator_0 : cJ45_iterator.data.toList.drop 0 = dktJ45_iterator_0 := by decide +kernel
theorem dJ45_iterator_0 : decode cJ45_iterator 0 = .ok (.new 22, 3) := dk_187 0 22 (dk_at dksJ45_iterator_0 0 rfl rfl)
theorem dJ45_iterator_3 : decode cJ45_iterator 3 = .ok (.dup, 1) := dk_89 (dk_at dksJ45_iterator_0 3 rfl rfl)
theorem dJ45_iterator_4 : decode cJ45_iterator 4 = .ok (.aload_n 0, 1) := dk_42 (dk_at dksJ45_iterator_0 4 rfl rfl)
theorem dJ45_iterator_5 : decode cJ45_iterator 5 = .ok (.getfield 1, 3) := dk_180 0 1 (dk_at dksJ45_iterator_0 5 rfl rfl)
theorem dJ45_iterator_8 : decode cJ45_iterator 8 = .ok (.invokespecial 24, 3) := dk_183 0 24 (dk_at dksJ45_iterator_0 8 rfl rfl)
theorem dJ45_iterator_11 : decode cJ45_iterator 11 = .ok (.areturn, 1) := dk_176 (dk_at dksJ45_iterator_0 11 rfl rfl)
abbrev cJ45_init : ByteArray := prog_67_method_1_code
def yJ45_init : MethodName := ⟨RJ45, "<init>", "(Ljava/util/HashMap;)V"⟩
def dkwJ45_init_0 : List UInt8 := [42, 43, 181, 0, 1, 42, 183, 0, 7, 177]
abbrev dktJ45_init_0 : List UInt8 := dkwJ45_init_0 ++ []
theorem dksJ45_init_0 : cJ45_init.data.toList.drop 0 = dktJ45_init_0 := by decide +kernel
theorem dJ45_init_0 : decode cJ45_init 0 = .ok (.aload_n 0, 1) := dk_42 (dk_at dksJ45_init_0 0 rfl rfl)
theorem dJ45_init_1 : decode cJ45_init 1 = .ok (.aload_n 1, 1) := dk_43 (dk_at dksJ45_init_0 1 rfl rfl)
theorem dJ45_init_2 : decode cJ45_init 2 = .ok (.putfield 1, 3) := dk_181 0 1 (dk_at dksJ45_init_0 2 rfl rfl)
theorem dJ45_init_5 : decode cJ45_init 5 = .ok (.aload_n 0, 1) := dk_42 (dk_at dksJ45_init_0 5 rfl rfl)
theorem dJ45_init_6 : decode cJ45_init 6 = .ok (.invokespecial 7, 3) := dk_183 0 7 (dk_at dksJ45_init_0 6 rfl rfl)
theorem dJ45_init_9 : decode cJ45_init 9 = .ok (.return_, 1) := dk_177 (dk_at dksJ45_init_0 9 rfl rfl)
theorem q144 : (Jvm.Cond.initialized "java/util/HashMap$EntrySet") ∈ lw_all := lw_g (lw_at lw_m1 68 rfl) rfl
theorem q770 : (Jvm.Cond.selects "java/util/HashMap$EntrySet" ({ cls := "java/lang/Object", name := "getClass", desc := "()Ljava/lang/Class;" } : Jvm.MethodName) ({ cls := "java/lang/Object", name := "getClass", desc := "()Ljava/lang/Class;" } : Jvm.MethodName)) ∈ lw_all := lw_g (lw_at lw_m3 214 rfl) rfl
theorem q827 : (Jvm.Cond.castable "java/util/HashMap$EntrySet" "java/lang/Iterable") ∈ lw_tbl := lw_at lw_m4 31 rfl
theorem q828 : (Jvm.Cond.selects "java/util/HashMap$EntrySet" ({ cls := "java/lang/Iterable", name := "iterator", desc := "()Ljava/util/Iterator;" } : Jvm.MethodName) ({ cls := "java/util/HashMap$EntrySet", name := "iterator", desc := "()Ljava/util/Iterator;" } : Jvm.MethodName)) ∈ lw_all := lw_g (lw_at lw_m4 32 rfl) rfl
theorem q829 : (Jvm.Cond.unhidden "java/util/HashMap$EntrySet" "iterator" "()Ljava/util/Iterator;") ∈ lw_tbl := lw_at lw_m4 33 rfl
theorem q830 : (Jvm.Cond.instanceMethod ({ cls := "java/util/HashMap$EntrySet", name := "iterator", desc := "()Ljava/util/Iterator;" } : Jvm.MethodName)) ∈ lw_all := lw_g (lw_at lw_m4 34 rfl) rfl
theorem q831 : (Jvm.Cond.publicMethod ({ cls := "java/util/HashMap$EntrySet", name := "iterator", desc := "()Ljava/util/Iterator;" } : Jvm.MethodName)) ∈ lw_tbl := lw_at lw_m4 35 rfl
theorem q832 : (Jvm.Cond.code ({ cls := "java/util/HashMap$EntrySet", name := "iterator", desc := "()Ljava/util/Iterator;" } : Jvm.MethodName) prog_67_method_4_code (1 : Nat) (Option.some (Jvm.ClassFile.FieldType.object "java/util/Iterator"))) ∈ lw_all := lw_g (lw_at lw_m4 36 rfl) rfl
theorem q833 : (Jvm.Cond.classLink "java/util/HashMap$EntrySet" (22 : Nat) "java/util/HashMap$EntryIterator") ∈ lw_all := lw_g (lw_at lw_m4 37 rfl) rfl
theorem q835 : (Jvm.Cond.methodLink "java/util/HashMap$EntrySet" (24 : Nat) ({ cls := "java/util/HashMap$EntryIterator", name := "<init>", desc := "(Ljava/util/HashMap;)V" } : Jvm.MethodName)) ∈ lw_all := lw_g (lw_at lw_m4 39 rfl) rfl
theorem q1196 : (Jvm.Cond.castable "java/util/HashMap$EntrySet" "java/util/Collection") ∈ lw_tbl := lw_at lw_m5 160 rfl
theorem q1197 : (Jvm.Cond.selects "java/util/HashMap$EntrySet" ({ cls := "java/util/Collection", name := "iterator", desc := "()Ljava/util/Iterator;" } : Jvm.MethodName) ({ cls := "java/util/HashMap$EntrySet", name := "iterator", desc := "()Ljava/util/Iterator;" } : Jvm.MethodName)) ∈ lw_all := lw_g (lw_at lw_m5 161 rfl) rfl
theorem q2233 : (Jvm.Cond.castable "java/util/HashMap$EntrySet" "java/util/Set") ∈ lw_tbl := lw_at lw_m9 237 rfl
theorem q2234 : (Jvm.Cond.selects "java/util/HashMap$EntrySet" ({ cls := "java/util/Set", name := "iterator", desc := "()Ljava/util/Iterator;" } : Jvm.MethodName) ({ cls := "java/util/HashMap$EntrySet", name := "iterator", desc := "()Ljava/util/Iterator;" } : Jvm.MethodName)) ∈ lw_all := lw_g (lw_at lw_m9 238 rfl) rfl
theorem q2636 : (Jvm.Cond.instantiable "java/util/HashMap$EntrySet" (1 : Nat)) ∈ lw_all := lw_g (lw_at lw_m11 160 rfl) rfl
theorem q2638 : (Jvm.Cond.instanceMethod ({ cls := "java/util/HashMap$EntrySet", name := "<init>", desc := "(Ljava/util/HashMap;)V" } : Jvm.MethodName)) ∈ lw_all := lw_g (lw_at lw_m11 162 rfl) rfl
theorem q2639 : (Jvm.Cond.code ({ cls := "java/util/HashMap$EntrySet", name := "<init>", desc := "(Ljava/util/HashMap;)V" } : Jvm.MethodName) prog_67_method_1_code (2 : Nat) (Option.none : Option Jvm.ClassFile.FieldType)) ∈ lw_all := lw_g (lw_at lw_m11 163 rfl) rfl
theorem q2640 : (Jvm.Cond.methodLink "java/util/HashMap$EntrySet" (7 : Nat) ({ cls := "java/util/AbstractSet", name := "<init>", desc := "()V" } : Jvm.MethodName)) ∈ lw_all := lw_g (lw_at lw_m11 164 rfl) rfl
theorem q2641 : (Jvm.Cond.fieldLink "java/util/HashMap$EntrySet" (1 : Nat) "java/util/HashMap$EntrySet" "this$0" "Ljava/util/HashMap;") ∈ lw_all := lw_g (lw_at lw_m11 165 rfl) rfl
theorem q2642 : (Jvm.Cond.laysFinal "java/util/HashMap$EntrySet" "java/util/HashMap$EntrySet" "this$0" "Ljava/util/HashMap;") ∈ lw_all := lw_g (lw_at lw_m11 166 rfl) rfl
theorem q2643 : (Jvm.Cond.soleField "java/util/HashMap$EntrySet" "this$0") ∈ lw_all := lw_g (lw_at lw_m11 167 rfl) rfl
theorem q2644 : (Jvm.Cond.superclass "java/util/HashMap$EntrySet" "java/util/AbstractSet") ∈ lw_all := lw_g (lw_at lw_m11 168 rfl) rfl
theorem q3718 : (Jvm.Cond.castable "java/util/HashMap$EntrySet" "java/lang/Object") ∈ lw_tbl := lw_at lw_m16 42 rfl
theorem in_J45 : ∀ w ∈ wsJ450, w ∈ lw_all := lw_in wsJ450 [2642] (by decide +kernel) (by decide +kernel)
/-! java/util/TreeMap$EntrySet -/
def RJ46 : String := "java/util/TreeMap$EntrySet"
def TJ46 : u_T := fun k => match k with
  | _ => ("java/util/TreeMap$EntrySet", "this$0", "Ljava/util/TreeMap;", true)
def tyJ46 : Nat → FieldType := fun k => match k with
  | _ => .object "java/util/TreeMap"
abbrev wsJ460 : List Cond := u_ws RJ46 TJ46 1
theorem nmJ46 : ∀ a, a < 1 → ∀ b, b < 1 → a ≠ b → (TJ46 a).2.1 ≠ (TJ46 b).2.1 := by decide +kernel
theorem tyJ46_ok : ∀ k, k < 1 → parseFieldDescriptor (TJ46 k).2.2.1 = some (tyJ46 k) := by decide +kernel
abbrev cJ46_iterator : ByteArray := prog_90_method_2_code
def yJ46_iterator : MethodName := ⟨RJ46, "iterator", "()Ljava/util/Iterator;"⟩
def dkwJ46_iterator_0 : List UInt8 := [187, 0, 13, 89, 42, 180, 0, 1, 42, 180, 0, 1, 182, 0, 15, 183, 0, 21, 176]
abbrev dktJ46_iterator_0 : List UInt8 := dkwJ46_iterator_0 ++ []
theorem dksJ46_iterator_0 : cJ46_iterator.data.toList.drop 0 = dktJ46_iterator_0 := by decide +kernel
theorem dJ46_iterator_0 : decode cJ46_iterator 0 = .ok (.new 13, 3) := dk_187 0 13 (dk_at dksJ46_iterator_0 0 rfl rfl)
theorem dJ46_iterator_3 : decode cJ46_iterator 3 = .ok (.dup, 1) := dk_89 (dk_at dksJ46_iterator_0 3 rfl rfl)
theorem dJ46_iterator_4 : decode cJ46_iterator 4 = .ok (.aload_n 0, 1) := dk_42 (dk_at dksJ46_iterator_0 4 rfl rfl)
theorem dJ46_iterator_5 : decode cJ46_iterator 5 = .ok (.getfield 1, 3) := dk_180 0 1 (dk_at dksJ46_iterator_0 5 rfl rfl)
theorem dJ46_iterator_8 : decode cJ46_iterator 8 = .ok (.aload_n 0, 1) := dk_42 (dk_at dksJ46_iterator_0 8 rfl rfl)
theorem dJ46_iterator_9 : decode cJ46_iterator 9 = .ok (.getfield 1, 3) := dk_180 0 1 (dk_at dksJ46_iterator_0 9 rfl rfl)
theorem dJ46_iterator_12 : decode cJ46_iterator 12 = .ok (.invokevirtual 15, 3) := dk_182 0 15 (dk_at dksJ46_iterator_0 12 rfl rfl)
theorem dJ46_iterator_15 : decode cJ46_iterator 15 = .ok (.invokespecial 21, 3) := dk_183 0 21 (dk_at dksJ46_iterator_0 15 rfl rfl)
theorem dJ46_iterator_18 : decode cJ46_iterator 18 = .ok (.areturn, 1) := dk_176 (dk_at dksJ46_iterator_0 18 rfl rfl)
abbrev cJ46_init : ByteArray := prog_90_method_1_code
def yJ46_init : MethodName := ⟨RJ46, "<init>", "(Ljava/util/TreeMap;)V"⟩
def dkwJ46_init_0 : List UInt8 := [42, 43, 181, 0, 1, 42, 183, 0, 7, 177]
abbrev dktJ46_init_0 : List UInt8 := dkwJ46_init_0 ++ []
theorem dksJ46_init_0 : cJ46_init.data.toList.drop 0 = dktJ46_init_0 := by decide +kernel
theorem dJ46_init_0 : decode cJ46_init 0 = .ok (.aload_n 0, 1) := dk_42 (dk_at dksJ46_init_0 0 rfl rfl)
theorem dJ46_init_1 : decode cJ46_init 1 = .ok (.aload_n 1, 1) := dk_43 (dk_at dksJ46_init_0 1 rfl rfl)
theorem dJ46_init_2 : decode cJ46_init 2 = .ok (.putfield 1, 3) := dk_181 0 1 (dk_at dksJ46_init_0 2 rfl rfl)
theorem dJ46_init_5 : decode cJ46_init 5 = .ok (.aload_n 0, 1) := dk_42 (dk_at dksJ46_init_0 5 rfl rfl)
theorem dJ46_init_6 : decode cJ46_init 6 = .ok (.invokespecial 7, 3) := dk_183 0 7 (dk_at dksJ46_init_0 6 rfl rfl)
theorem dJ46_init_9 : decode cJ46_init 9 = .ok (.return_, 1) := dk_177 (dk_at dksJ46_init_0 9 rfl rfl)
theorem q145 : (Jvm.Cond.initialized "java/util/TreeMap$EntrySet") ∈ lw_all := lw_g (lw_at lw_m1 69 rfl) rfl
theorem q777 : (Jvm.Cond.selects "java/util/TreeMap$EntrySet" ({ cls := "java/lang/Object", name := "getClass", desc := "()Ljava/lang/Class;" } : Jvm.MethodName) ({ cls := "java/lang/Object", name := "getClass", desc := "()Ljava/lang/Class;" } : Jvm.MethodName)) ∈ lw_all := lw_g (lw_at lw_m3 221 rfl) rfl
theorem q858 : (Jvm.Cond.castable "java/util/TreeMap$EntrySet" "java/lang/Iterable") ∈ lw_tbl := lw_at lw_m4 62 rfl
theorem q859 : (Jvm.Cond.selects "java/util/TreeMap$EntrySet" ({ cls := "java/lang/Iterable", name := "iterator", desc := "()Ljava/util/Iterator;" } : Jvm.MethodName) ({ cls := "java/util/TreeMap$EntrySet", name := "iterator", desc := "()Ljava/util/Iterator;" } : Jvm.MethodName)) ∈ lw_all := lw_g (lw_at lw_m4 63 rfl) rfl
theorem q860 : (Jvm.Cond.unhidden "java/util/TreeMap$EntrySet" "iterator" "()Ljava/util/Iterator;") ∈ lw_tbl := lw_at lw_m4 64 rfl
theorem q861 : (Jvm.Cond.instanceMethod ({ cls := "java/util/TreeMap$EntrySet", name := "iterator", desc := "()Ljava/util/Iterator;" } : Jvm.MethodName)) ∈ lw_all := lw_g (lw_at lw_m4 65 rfl) rfl
theorem q862 : (Jvm.Cond.publicMethod ({ cls := "java/util/TreeMap$EntrySet", name := "iterator", desc := "()Ljava/util/Iterator;" } : Jvm.MethodName)) ∈ lw_tbl := lw_at lw_m4 66 rfl
theorem q863 : (Jvm.Cond.code ({ cls := "java/util/TreeMap$EntrySet", name := "iterator", desc := "()Ljava/util/Iterator;" } : Jvm.MethodName) prog_90_method_2_code (1 : Nat) (Option.some (Jvm.ClassFile.FieldType.object "java/util/Iterator"))) ∈ lw_all := lw_g (lw_at lw_m4 67 rfl) rfl
theorem q864 : (Jvm.Cond.classLink "java/util/TreeMap$EntrySet" (13 : Nat) "java/util/TreeMap$EntryIterator") ∈ lw_all := lw_g (lw_at lw_m4 68 rfl) rfl
theorem q866 : (Jvm.Cond.methodLink "java/util/TreeMap$EntrySet" (15 : Nat) ({ cls := "java/util/TreeMap", name := "getFirstEntry", desc := "()Ljava/util/TreeMap$Entry;" } : Jvm.MethodName)) ∈ lw_all := lw_g (lw_at lw_m4 70 rfl) rfl
theorem q870 : (Jvm.Cond.methodLink "java/util/TreeMap$EntrySet" (21 : Nat) ({ cls := "java/util/TreeMap$EntryIterator", name := "<init>", desc := "(Ljava/util/TreeMap;Ljava/util/TreeMap$Entry;)V" } : Jvm.MethodName)) ∈ lw_all := lw_g (lw_at lw_m4 74 rfl) rfl
theorem q1198 : (Jvm.Cond.castable "java/util/TreeMap$EntrySet" "java/util/Collection") ∈ lw_tbl := lw_at lw_m5 162 rfl
theorem q1199 : (Jvm.Cond.selects "java/util/TreeMap$EntrySet" ({ cls := "java/util/Collection", name := "iterator", desc := "()Ljava/util/Iterator;" } : Jvm.MethodName) ({ cls := "java/util/TreeMap$EntrySet", name := "iterator", desc := "()Ljava/util/Iterator;" } : Jvm.MethodName)) ∈ lw_all := lw_g (lw_at lw_m5 163 rfl) rfl
theorem q2235 : (Jvm.Cond.castable "java/util/TreeMap$EntrySet" "java/util/Set") ∈ lw_tbl := lw_at lw_m9 239 rfl
theorem q2236 : (Jvm.Cond.selects "java/util/TreeMap$EntrySet" ({ cls := "java/util/Set", name := "iterator", desc := "()Ljava/util/Iterator;" } : Jvm.MethodName) ({ cls := "java/util/TreeMap$EntrySet", name := "iterator", desc := "()Ljava/util/Iterator;" } : Jvm.MethodName)) ∈ lw_all := lw_g (lw_at lw_m10 0 rfl) rfl
theorem q2651 : (Jvm.Cond.instantiable "java/util/TreeMap$EntrySet" (1 : Nat)) ∈ lw_all := lw_g (lw_at lw_m11 175 rfl) rfl
theorem q2653 : (Jvm.Cond.instanceMethod ({ cls := "java/util/TreeMap$EntrySet", name := "<init>", desc := "(Ljava/util/TreeMap;)V" } : Jvm.MethodName)) ∈ lw_all := lw_g (lw_at lw_m11 177 rfl) rfl
theorem q2654 : (Jvm.Cond.code ({ cls := "java/util/TreeMap$EntrySet", name := "<init>", desc := "(Ljava/util/TreeMap;)V" } : Jvm.MethodName) prog_90_method_1_code (2 : Nat) (Option.none : Option Jvm.ClassFile.FieldType)) ∈ lw_all := lw_g (lw_at lw_m11 178 rfl) rfl
theorem q2655 : (Jvm.Cond.methodLink "java/util/TreeMap$EntrySet" (7 : Nat) ({ cls := "java/util/AbstractSet", name := "<init>", desc := "()V" } : Jvm.MethodName)) ∈ lw_all := lw_g (lw_at lw_m11 179 rfl) rfl
theorem q2656 : (Jvm.Cond.fieldLink "java/util/TreeMap$EntrySet" (1 : Nat) "java/util/TreeMap$EntrySet" "this$0" "Ljava/util/TreeMap;") ∈ lw_all := lw_g (lw_at lw_m11 180 rfl) rfl
theorem q2657 : (Jvm.Cond.laysFinal "java/util/TreeMap$EntrySet" "java/util/TreeMap$EntrySet" "this$0" "Ljava/util/TreeMap;") ∈ lw_all := lw_g (lw_at lw_m11 181 rfl) rfl
theorem q2658 : (Jvm.Cond.soleField "java/util/TreeMap$EntrySet" "this$0") ∈ lw_all := lw_g (lw_at lw_m11 182 rfl) rfl
theorem q2659 : (Jvm.Cond.superclass "java/util/TreeMap$EntrySet" "java/util/AbstractSet") ∈ lw_all := lw_g (lw_at lw_m11 183 rfl) rfl
theorem q3719 : (Jvm.Cond.castable "java/util/TreeMap$EntrySet" "java/lang/Object") ∈ lw_tbl := lw_at lw_m16 43 rfl
theorem in_J46 : ∀ w ∈ wsJ460, w ∈ lw_all := lw_in wsJ460 [2657] (by decide +kernel) (by decide +kernel)
/-! java/lang/Character -/
def RJ47 : String := "java/lang/Character"
abbrev cJ47_isValidCodePoint : ByteArray := prog_30_method_11_code
def yJ47_isValidCodePoint : MethodName := ⟨RJ47, "isValidCodePoint", "(I)Z"⟩
def dkwJ47_isValidCodePoint_0 : List UInt8 := [26, 16, 16, 124, 60, 27, 16, 17, 162, 0, 7, 4, 167, 0, 4, 3, 172]
abbrev dktJ47_isValidCodePoint_0 : List UInt8 := dkwJ47_isValidCodePoint_0 ++ []
theorem dksJ47_isValidCodePoint_0 : cJ47_isValidCodePoint.data.toList.drop 0 = dktJ47_isValidCodePoint_0 := by decide +kernel
theorem dJ47_isValidCodePoint_0 : decode cJ47_isValidCodePoint 0 = .ok (.iload_n 0, 1) := dk_26 (dk_at dksJ47_isValidCodePoint_0 0 rfl rfl)
theorem dJ47_isValidCodePoint_1 : decode cJ47_isValidCodePoint 1 = .ok (.bipush 16, 2) := dk_16 16 (dk_at dksJ47_isValidCodePoint_0 1 rfl rfl)
theorem dJ47_isValidCodePoint_3 : decode cJ47_isValidCodePoint 3 = .ok (.iushr, 1) := dk_124 (dk_at dksJ47_isValidCodePoint_0 3 rfl rfl)
theorem dJ47_isValidCodePoint_4 : decode cJ47_isValidCodePoint 4 = .ok (.istore_n 1, 1) := dk_60 (dk_at dksJ47_isValidCodePoint_0 4 rfl rfl)
theorem dJ47_isValidCodePoint_5 : decode cJ47_isValidCodePoint 5 = .ok (.iload_n 1, 1) := dk_27 (dk_at dksJ47_isValidCodePoint_0 5 rfl rfl)
theorem dJ47_isValidCodePoint_6 : decode cJ47_isValidCodePoint 6 = .ok (.bipush 17, 2) := dk_16 17 (dk_at dksJ47_isValidCodePoint_0 6 rfl rfl)
theorem dJ47_isValidCodePoint_8 : decode cJ47_isValidCodePoint 8 = .ok (.if_icmp .ge 7, 3) := dk_162 0 7 (dk_at dksJ47_isValidCodePoint_0 8 rfl rfl)
theorem dJ47_isValidCodePoint_11 : decode cJ47_isValidCodePoint 11 = .ok (.iconst 1, 1) := dk_4 (dk_at dksJ47_isValidCodePoint_0 11 rfl rfl)
theorem dJ47_isValidCodePoint_12 : decode cJ47_isValidCodePoint 12 = .ok (.goto 4, 3) := dk_167 0 4 (dk_at dksJ47_isValidCodePoint_0 12 rfl rfl)
theorem dJ47_isValidCodePoint_15 : decode cJ47_isValidCodePoint 15 = .ok (.iconst 0, 1) := dk_3 (dk_at dksJ47_isValidCodePoint_0 15 rfl rfl)
theorem dJ47_isValidCodePoint_16 : decode cJ47_isValidCodePoint 16 = .ok (.ireturn, 1) := dk_172 (dk_at dksJ47_isValidCodePoint_0 16 rfl rfl)
abbrev cJ47_highSurrogate : ByteArray := prog_30_method_28_code
def yJ47_highSurrogate : MethodName := ⟨RJ47, "highSurrogate", "(I)C"⟩
def dkwJ47_highSurrogate_0 : List UInt8 := [26, 16, 10, 124, 18, 110, 96, 146, 172]
abbrev dktJ47_highSurrogate_0 : List UInt8 := dkwJ47_highSurrogate_0 ++ []
theorem dksJ47_highSurrogate_0 : cJ47_highSurrogate.data.toList.drop 0 = dktJ47_highSurrogate_0 := by decide +kernel
theorem dJ47_highSurrogate_0 : decode cJ47_highSurrogate 0 = .ok (.iload_n 0, 1) := dk_26 (dk_at dksJ47_highSurrogate_0 0 rfl rfl)
theorem dJ47_highSurrogate_1 : decode cJ47_highSurrogate 1 = .ok (.bipush 10, 2) := dk_16 10 (dk_at dksJ47_highSurrogate_0 1 rfl rfl)
theorem dJ47_highSurrogate_3 : decode cJ47_highSurrogate 3 = .ok (.iushr, 1) := dk_124 (dk_at dksJ47_highSurrogate_0 3 rfl rfl)
theorem dJ47_highSurrogate_4 : decode cJ47_highSurrogate 4 = .ok (.ldc 110, 2) := dk_18 110 (dk_at dksJ47_highSurrogate_0 4 rfl rfl)
theorem dJ47_highSurrogate_6 : decode cJ47_highSurrogate 6 = .ok (.iadd, 1) := dk_96 (dk_at dksJ47_highSurrogate_0 6 rfl rfl)
theorem dJ47_highSurrogate_7 : decode cJ47_highSurrogate 7 = .ok (.i2c, 1) := dk_146 (dk_at dksJ47_highSurrogate_0 7 rfl rfl)
theorem dJ47_highSurrogate_8 : decode cJ47_highSurrogate 8 = .ok (.ireturn, 1) := dk_172 (dk_at dksJ47_highSurrogate_0 8 rfl rfl)
abbrev cJ47_lowSurrogate : ByteArray := prog_30_method_29_code
def yJ47_lowSurrogate : MethodName := ⟨RJ47, "lowSurrogate", "(I)C"⟩
def dkwJ47_lowSurrogate_0 : List UInt8 := [26, 17, 3, 255, 126, 18, 76, 96, 146, 172]
abbrev dktJ47_lowSurrogate_0 : List UInt8 := dkwJ47_lowSurrogate_0 ++ []
theorem dksJ47_lowSurrogate_0 : cJ47_lowSurrogate.data.toList.drop 0 = dktJ47_lowSurrogate_0 := by decide +kernel
theorem dJ47_lowSurrogate_0 : decode cJ47_lowSurrogate 0 = .ok (.iload_n 0, 1) := dk_26 (dk_at dksJ47_lowSurrogate_0 0 rfl rfl)
theorem dJ47_lowSurrogate_1 : decode cJ47_lowSurrogate 1 = .ok (.sipush 1023, 3) := dk_17 3 255 (dk_at dksJ47_lowSurrogate_0 1 rfl rfl)
theorem dJ47_lowSurrogate_4 : decode cJ47_lowSurrogate 4 = .ok (.iand, 1) := dk_126 (dk_at dksJ47_lowSurrogate_0 4 rfl rfl)
theorem dJ47_lowSurrogate_5 : decode cJ47_lowSurrogate 5 = .ok (.ldc 76, 2) := dk_18 76 (dk_at dksJ47_lowSurrogate_0 5 rfl rfl)
theorem dJ47_lowSurrogate_7 : decode cJ47_lowSurrogate 7 = .ok (.iadd, 1) := dk_96 (dk_at dksJ47_lowSurrogate_0 7 rfl rfl)
theorem dJ47_lowSurrogate_8 : decode cJ47_lowSurrogate 8 = .ok (.i2c, 1) := dk_146 (dk_at dksJ47_lowSurrogate_0 8 rfl rfl)
theorem dJ47_lowSurrogate_9 : decode cJ47_lowSurrogate 9 = .ok (.ireturn, 1) := dk_172 (dk_at dksJ47_lowSurrogate_0 9 rfl rfl)
theorem q149 : (Jvm.Cond.initialized "java/lang/Character") ∈ lw_all := lw_g (lw_at lw_m1 73 rfl) rfl
theorem q2954 : (Jvm.Cond.static ({ cls := "java/lang/Character", name := "isValidCodePoint", desc := "(I)Z" } : Jvm.MethodName)) ∈ lw_all := lw_g (lw_at lw_m12 238 rfl) rfl
theorem q2955 : (Jvm.Cond.code ({ cls := "java/lang/Character", name := "isValidCodePoint", desc := "(I)Z" } : Jvm.MethodName) prog_30_method_11_code (2 : Nat) (Option.some Jvm.ClassFile.FieldType.boolean)) ∈ lw_all := lw_g (lw_at lw_m12 239 rfl) rfl
theorem q2957 : (Jvm.Cond.static ({ cls := "java/lang/Character", name := "highSurrogate", desc := "(I)C" } : Jvm.MethodName)) ∈ lw_all := lw_g (lw_at lw_m13 1 rfl) rfl
theorem q2958 : (Jvm.Cond.code ({ cls := "java/lang/Character", name := "highSurrogate", desc := "(I)C" } : Jvm.MethodName) prog_30_method_28_code (1 : Nat) (Option.some Jvm.ClassFile.FieldType.char)) ∈ lw_all := lw_g (lw_at lw_m13 2 rfl) rfl
theorem q2959 : (Jvm.Cond.constant "java/lang/Character" (110 : Nat) (55232 : Int32)) ∈ lw_all := lw_g (lw_at lw_m13 3 rfl) rfl
theorem q2961 : (Jvm.Cond.static ({ cls := "java/lang/Character", name := "lowSurrogate", desc := "(I)C" } : Jvm.MethodName)) ∈ lw_all := lw_g (lw_at lw_m13 5 rfl) rfl
theorem q2962 : (Jvm.Cond.code ({ cls := "java/lang/Character", name := "lowSurrogate", desc := "(I)C" } : Jvm.MethodName) prog_30_method_29_code (1 : Nat) (Option.some Jvm.ClassFile.FieldType.char)) ∈ lw_all := lw_g (lw_at lw_m13 6 rfl) rfl
theorem q2963 : (Jvm.Cond.constant "java/lang/Character" (76 : Nat) (56320 : Int32)) ∈ lw_all := lw_g (lw_at lw_m13 7 rfl) rfl
/-! java/lang/ArithmeticException -/
def RJ48 : String := "java/lang/ArithmeticException"
def TJ48 : u_T := fun k => match k with
  | 0 => ("java/lang/Throwable", "backtrace", "Ljava/lang/Object;", false)
  | 1 => ("java/lang/Throwable", "detailMessage", "Ljava/lang/String;", false)
  | 2 => ("java/lang/Throwable", "cause", "Ljava/lang/Throwable;", false)
  | 3 => ("java/lang/Throwable", "stackTrace", "[Ljava/lang/StackTraceElement;", false)
  | 4 => ("java/lang/Throwable", "depth", "I", false)
  | _ => ("java/lang/Throwable", "suppressedExceptions", "Ljava/util/List;", false)
def tyJ48 : Nat → FieldType := fun k => match k with
  | 0 => .object "java/lang/Object"
  | 1 => .object "java/lang/String"
  | 2 => .object "java/lang/Throwable"
  | 3 => .array (.object "java/lang/StackTraceElement")
  | 4 => .int
  | _ => .object "java/util/List"
abbrev wsJ480 : List Cond := u_ws RJ48 TJ48 6
theorem nmJ48 : ∀ a, a < 6 → ∀ b, b < 6 → a ≠ b → (TJ48 a).2.1 ≠ (TJ48 b).2.1 := by decide +kernel
theorem tyJ48_ok : ∀ k, k < 6 → parseFieldDescriptor (TJ48 k).2.2.1 = some (tyJ48 k) := by decide +kernel
abbrev cJ48_init : ByteArray := prog_27_method_2_code
def yJ48_init : MethodName := ⟨RJ48, "<init>", "(Ljava/lang/String;)V"⟩
def dkwJ48_init_0 : List UInt8 := [42, 43, 183, 0, 7, 177]
abbrev dktJ48_init_0 : List UInt8 := dkwJ48_init_0 ++ []
theorem dksJ48_init_0 : cJ48_init.data.toList.drop 0 = dktJ48_init_0 := by decide +kernel
theorem dJ48_init_0 : decode cJ48_init 0 = .ok (.aload_n 0, 1) := dk_42 (dk_at dksJ48_init_0 0 rfl rfl)
theorem dJ48_init_1 : decode cJ48_init 1 = .ok (.aload_n 1, 1) := dk_43 (dk_at dksJ48_init_0 1 rfl rfl)
theorem dJ48_init_2 : decode cJ48_init 2 = .ok (.invokespecial 7, 3) := dk_183 0 7 (dk_at dksJ48_init_0 2 rfl rfl)
theorem dJ48_init_5 : decode cJ48_init 5 = .ok (.return_, 1) := dk_177 (dk_at dksJ48_init_0 5 rfl rfl)
abbrev cJ48_init_2 : ByteArray := prog_27_method_1_code
def yJ48_init_2 : MethodName := ⟨RJ48, "<init>", "()V"⟩
theorem dJ48_init_2_0 : decode cJ48_init_2 0 = .ok (.aload_n 0, 1) := by decide +kernel
theorem dJ48_init_2_1 : decode cJ48_init_2 1 = .ok (.invokespecial 1, 3) := by decide +kernel
theorem dJ48_init_2_4 : decode cJ48_init_2 4 = .ok (.return_, 1) := by decide +kernel
theorem q150 : (Jvm.Cond.initialized "java/lang/ArithmeticException") ∈ lw_all := lw_g (lw_at lw_m1 74 rfl) rfl
theorem q372 : (Jvm.Cond.selects "java/lang/ArithmeticException" ({ cls := "java/lang/Throwable", name := "fillInStackTrace", desc := "()Ljava/lang/Throwable;" } : Jvm.MethodName) ({ cls := "java/lang/Throwable", name := "fillInStackTrace", desc := "()Ljava/lang/Throwable;" } : Jvm.MethodName)) ∈ lw_all := lw_g (lw_at lw_m2 56 rfl) rfl
theorem q754 : (Jvm.Cond.selects "java/lang/ArithmeticException" ({ cls := "java/lang/Object", name := "getClass", desc := "()Ljava/lang/Class;" } : Jvm.MethodName) ({ cls := "java/lang/Object", name := "getClass", desc := "()Ljava/lang/Class;" } : Jvm.MethodName)) ∈ lw_all := lw_g (lw_at lw_m3 198 rfl) rfl
theorem q1286 : (Jvm.Cond.selects "java/lang/ArithmeticException" ({ cls := "java/lang/Object", name := "hashCode", desc := "()I" } : Jvm.MethodName) ({ cls := "java/lang/Object", name := "hashCode", desc := "()I" } : Jvm.MethodName)) ∈ lw_all := lw_g (lw_at lw_m6 10 rfl) rfl
theorem q1387 : (Jvm.Cond.selects "java/lang/ArithmeticException" ({ cls := "java/lang/Object", name := "equals", desc := "(Ljava/lang/Object;)Z" } : Jvm.MethodName) ({ cls := "java/lang/Object", name := "equals", desc := "(Ljava/lang/Object;)Z" } : Jvm.MethodName)) ∈ lw_all := lw_g (lw_at lw_m6 111 rfl) rfl
theorem q3020 : (Jvm.Cond.instantiable "java/lang/ArithmeticException" (6 : Nat)) ∈ lw_all := lw_g (lw_at lw_m13 64 rfl) rfl
theorem q3021 : (Jvm.Cond.instanceMethod ({ cls := "java/lang/ArithmeticException", name := "<init>", desc := "(Ljava/lang/String;)V" } : Jvm.MethodName)) ∈ lw_all := lw_g (lw_at lw_m13 65 rfl) rfl
theorem q3022 : (Jvm.Cond.code ({ cls := "java/lang/ArithmeticException", name := "<init>", desc := "(Ljava/lang/String;)V" } : Jvm.MethodName) prog_27_method_2_code (2 : Nat) (Option.none : Option Jvm.ClassFile.FieldType)) ∈ lw_all := lw_g (lw_at lw_m13 66 rfl) rfl
theorem q3023 : (Jvm.Cond.methodLink "java/lang/ArithmeticException" (7 : Nat) ({ cls := "java/lang/RuntimeException", name := "<init>", desc := "(Ljava/lang/String;)V" } : Jvm.MethodName)) ∈ lw_all := lw_g (lw_at lw_m13 67 rfl) rfl
theorem q3024 : (Jvm.Cond.lays "java/lang/ArithmeticException" "java/lang/Throwable" "backtrace" "Ljava/lang/Object;") ∈ lw_all := lw_g (lw_at lw_m13 68 rfl) rfl
theorem q3025 : (Jvm.Cond.lays "java/lang/ArithmeticException" "java/lang/Throwable" "detailMessage" "Ljava/lang/String;") ∈ lw_all := lw_g (lw_at lw_m13 69 rfl) rfl
theorem q3026 : (Jvm.Cond.lays "java/lang/ArithmeticException" "java/lang/Throwable" "cause" "Ljava/lang/Throwable;") ∈ lw_all := lw_g (lw_at lw_m13 70 rfl) rfl
theorem q3027 : (Jvm.Cond.lays "java/lang/ArithmeticException" "java/lang/Throwable" "stackTrace" "[Ljava/lang/StackTraceElement;") ∈ lw_all := lw_g (lw_at lw_m13 71 rfl) rfl
theorem q3028 : (Jvm.Cond.lays "java/lang/ArithmeticException" "java/lang/Throwable" "depth" "I") ∈ lw_all := lw_g (lw_at lw_m13 72 rfl) rfl
theorem q3029 : (Jvm.Cond.lays "java/lang/ArithmeticException" "java/lang/Throwable" "suppressedExceptions" "Ljava/util/List;") ∈ lw_all := lw_g (lw_at lw_m13 73 rfl) rfl
theorem q3030 : (Jvm.Cond.superclass "java/lang/ArithmeticException" "java/lang/RuntimeException") ∈ lw_all := lw_g (lw_at lw_m13 74 rfl) rfl
theorem q3031 : (Jvm.Cond.castable "java/lang/ArithmeticException" "java/lang/ArithmeticException") ∈ lw_tbl := lw_at lw_m13 75 rfl
theorem q3032 : (Jvm.Cond.selects "java/lang/ArithmeticException" ({ cls := "java/lang/Throwable", name := "fillInStackTrace", desc := "(I)Ljava/lang/Throwable;" } : Jvm.MethodName) ({ cls := "java/lang/Throwable", name := "fillInStackTrace", desc := "(I)Ljava/lang/Throwable;" } : Jvm.MethodName)) ∈ lw_all := lw_g (lw_at lw_m13 76 rfl) rfl
theorem q3039 : (Jvm.Cond.instanceMethod ({ cls := "java/lang/ArithmeticException", name := "<init>", desc := "()V" } : Jvm.MethodName)) ∈ lw_all := lw_g (lw_at lw_m13 83 rfl) rfl
theorem q3040 : (Jvm.Cond.code ({ cls := "java/lang/ArithmeticException", name := "<init>", desc := "()V" } : Jvm.MethodName) prog_27_method_1_code (1 : Nat) (Option.none : Option Jvm.ClassFile.FieldType)) ∈ lw_all := lw_g (lw_at lw_m13 84 rfl) rfl
theorem q3041 : (Jvm.Cond.methodLink "java/lang/ArithmeticException" (1 : Nat) ({ cls := "java/lang/RuntimeException", name := "<init>", desc := "()V" } : Jvm.MethodName)) ∈ lw_all := lw_g (lw_at lw_m13 85 rfl) rfl
theorem q3725 : (Jvm.Cond.castable "java/lang/ArithmeticException" "java/lang/Object") ∈ lw_tbl := lw_at lw_m16 49 rfl
theorem in_J48 : ∀ w ∈ wsJ480, w ∈ lw_all := lw_in wsJ480 [3024, 3025, 3026, 3027, 3028, 3029] (by decide +kernel) (by decide +kernel)
/-! java/lang/Object -/
def RJ49 : String := "java/lang/Object"
abbrev cJ49_init : ByteArray := object_method_1_code
def yJ49_init : MethodName := ⟨RJ49, "<init>", "()V"⟩
theorem dJ49_init_0 : decode cJ49_init 0 = .ok (.return_, 1) := by decide +kernel
abbrev cJ49_equals : ByteArray := object_method_4_code
def yJ49_equals : MethodName := ⟨RJ49, "equals", "(Ljava/lang/Object;)Z"⟩
def dkwJ49_equals_0 : List UInt8 := [42, 43, 166, 0, 7, 4, 167, 0, 4, 3, 172]
abbrev dktJ49_equals_0 : List UInt8 := dkwJ49_equals_0 ++ []
theorem dksJ49_equals_0 : cJ49_equals.data.toList.drop 0 = dktJ49_equals_0 := by decide +kernel
theorem dJ49_equals_0 : decode cJ49_equals 0 = .ok (.aload_n 0, 1) := dk_42 (dk_at dksJ49_equals_0 0 rfl rfl)
theorem dJ49_equals_1 : decode cJ49_equals 1 = .ok (.aload_n 1, 1) := dk_43 (dk_at dksJ49_equals_0 1 rfl rfl)
theorem dJ49_equals_2 : decode cJ49_equals 2 = .ok (.if_acmp .ne 7, 3) := dk_166 0 7 (dk_at dksJ49_equals_0 2 rfl rfl)
theorem dJ49_equals_5 : decode cJ49_equals 5 = .ok (.iconst 1, 1) := dk_4 (dk_at dksJ49_equals_0 5 rfl rfl)
theorem dJ49_equals_6 : decode cJ49_equals 6 = .ok (.goto 4, 3) := dk_167 0 4 (dk_at dksJ49_equals_0 6 rfl rfl)
theorem dJ49_equals_9 : decode cJ49_equals 9 = .ok (.iconst 0, 1) := dk_3 (dk_at dksJ49_equals_0 9 rfl rfl)
theorem dJ49_equals_10 : decode cJ49_equals 10 = .ok (.ireturn, 1) := dk_172 (dk_at dksJ49_equals_0 10 rfl rfl)
theorem q157 : (Jvm.Cond.instanceMethod ({ cls := "java/lang/Object", name := "<init>", desc := "()V" } : Jvm.MethodName)) ∈ lw_all := lw_g (lw_at lw_m1 81 rfl) rfl
theorem q158 : (Jvm.Cond.code ({ cls := "java/lang/Object", name := "<init>", desc := "()V" } : Jvm.MethodName) object_method_1_code (1 : Nat) (Option.none : Option Jvm.ClassFile.FieldType)) ∈ lw_all := lw_g (lw_at lw_m1 82 rfl) rfl
theorem q453 : (Jvm.Cond.native ({ cls := "java/lang/Object", name := "clone", desc := "()Ljava/lang/Object;" } : Jvm.MethodName)) ∈ lw_all := lw_g (lw_at lw_m2 137 rfl) rfl
theorem q454 : (Jvm.Cond.instanceMethod ({ cls := "java/lang/Object", name := "clone", desc := "()Ljava/lang/Object;" } : Jvm.MethodName)) ∈ lw_all := lw_g (lw_at lw_m2 138 rfl) rfl
theorem q731 : (Jvm.Cond.instanceMethod ({ cls := "java/lang/Object", name := "getClass", desc := "()Ljava/lang/Class;" } : Jvm.MethodName)) ∈ lw_all := lw_g (lw_at lw_m3 175 rfl) rfl
theorem q732 : (Jvm.Cond.sameMethod "java/lang/Object" "java/lang/Object" "getClass" "()Ljava/lang/Class;") ∈ lw_all := lw_g (lw_at lw_m3 176 rfl) rfl
theorem q783 : (Jvm.Cond.native ({ cls := "java/lang/Object", name := "getClass", desc := "()Ljava/lang/Class;" } : Jvm.MethodName)) ∈ lw_all := lw_g (lw_at lw_m3 227 rfl) rfl
theorem q1261 : (Jvm.Cond.declares ({ cls := "java/lang/Object", name := "hashCode", desc := "()I" } : Jvm.MethodName)) ∈ lw_tbl := lw_at lw_m5 225 rfl
theorem q1263 : (Jvm.Cond.instanceMethod ({ cls := "java/lang/Object", name := "hashCode", desc := "()I" } : Jvm.MethodName)) ∈ lw_all := lw_g (lw_at lw_m5 227 rfl) rfl
theorem q1264 : (Jvm.Cond.sameMethod "java/lang/Object" "java/lang/Object" "hashCode" "()I") ∈ lw_all := lw_g (lw_at lw_m5 228 rfl) rfl
theorem q1361 : (Jvm.Cond.native ({ cls := "java/lang/Object", name := "hashCode", desc := "()I" } : Jvm.MethodName)) ∈ lw_all := lw_g (lw_at lw_m6 85 rfl) rfl
theorem q1362 : (Jvm.Cond.declares ({ cls := "java/lang/Object", name := "equals", desc := "(Ljava/lang/Object;)Z" } : Jvm.MethodName)) ∈ lw_tbl := lw_at lw_m6 86 rfl
theorem q1364 : (Jvm.Cond.instanceMethod ({ cls := "java/lang/Object", name := "equals", desc := "(Ljava/lang/Object;)Z" } : Jvm.MethodName)) ∈ lw_all := lw_g (lw_at lw_m6 88 rfl) rfl
theorem q1365 : (Jvm.Cond.sameMethod "java/lang/Object" "java/lang/Object" "equals" "(Ljava/lang/Object;)Z") ∈ lw_all := lw_g (lw_at lw_m6 89 rfl) rfl
theorem q1407 : (Jvm.Cond.code ({ cls := "java/lang/Object", name := "equals", desc := "(Ljava/lang/Object;)Z" } : Jvm.MethodName) object_method_4_code (2 : Nat) (Option.some Jvm.ClassFile.FieldType.boolean)) ∈ lw_all := lw_g (lw_at lw_m6 131 rfl) rfl
theorem q3671 : (Jvm.Cond.initialized "java/lang/Object") ∈ lw_all := lw_g (lw_at lw_m15 235 rfl) rfl
theorem q3730 : (Jvm.Cond.declares ({ cls := "java/lang/Object", name := "getClass", desc := "()Ljava/lang/Class;" } : Jvm.MethodName)) ∈ lw_tbl := lw_at lw_m16 54 rfl
/-! java/lang/System$2 -/
def RJ50 : String := "java/lang/System$2"
abbrev cJ50_getUTF16Char : ByteArray := prog_49_method_45_code
def yJ50_getUTF16Char : MethodName := ⟨RJ50, "getUTF16Char", "([BI)C"⟩
def dkwJ50_getUTF16Char_0 : List UInt8 := [43, 28, 184, 0, 185, 172]
abbrev dktJ50_getUTF16Char_0 : List UInt8 := dkwJ50_getUTF16Char_0 ++ []
theorem dksJ50_getUTF16Char_0 : cJ50_getUTF16Char.data.toList.drop 0 = dktJ50_getUTF16Char_0 := by decide +kernel
theorem dJ50_getUTF16Char_0 : decode cJ50_getUTF16Char 0 = .ok (.aload_n 1, 1) := dk_43 (dk_at dksJ50_getUTF16Char_0 0 rfl rfl)
theorem dJ50_getUTF16Char_1 : decode cJ50_getUTF16Char 1 = .ok (.iload_n 2, 1) := dk_28 (dk_at dksJ50_getUTF16Char_0 1 rfl rfl)
theorem dJ50_getUTF16Char_2 : decode cJ50_getUTF16Char 2 = .ok (.invokestatic 185, 3) := dk_184 0 185 (dk_at dksJ50_getUTF16Char_0 2 rfl rfl)
theorem dJ50_getUTF16Char_5 : decode cJ50_getUTF16Char 5 = .ok (.ireturn, 1) := dk_172 (dk_at dksJ50_getUTF16Char_0 5 rfl rfl)
theorem q762 : (Jvm.Cond.selects "java/lang/System$2" ({ cls := "java/lang/Object", name := "getClass", desc := "()Ljava/lang/Class;" } : Jvm.MethodName) ({ cls := "java/lang/Object", name := "getClass", desc := "()Ljava/lang/Class;" } : Jvm.MethodName)) ∈ lw_all := lw_g (lw_at lw_m3 206 rfl) rfl
theorem q1323 : (Jvm.Cond.castable "java/lang/System$2" "jdk/internal/access/JavaLangAccess") ∈ lw_tbl := lw_at lw_m6 47 rfl
theorem q1324 : (Jvm.Cond.selects "java/lang/System$2" ({ cls := "jdk/internal/access/JavaLangAccess", name := "getUTF16Char", desc := "([BI)C" } : Jvm.MethodName) ({ cls := "java/lang/System$2", name := "getUTF16Char", desc := "([BI)C" } : Jvm.MethodName)) ∈ lw_all := lw_g (lw_at lw_m6 48 rfl) rfl
theorem q1325 : (Jvm.Cond.unhidden "java/lang/System$2" "getUTF16Char" "([BI)C") ∈ lw_tbl := lw_at lw_m6 49 rfl
theorem q1326 : (Jvm.Cond.instanceMethod ({ cls := "java/lang/System$2", name := "getUTF16Char", desc := "([BI)C" } : Jvm.MethodName)) ∈ lw_all := lw_g (lw_at lw_m6 50 rfl) rfl
theorem q1327 : (Jvm.Cond.publicMethod ({ cls := "java/lang/System$2", name := "getUTF16Char", desc := "([BI)C" } : Jvm.MethodName)) ∈ lw_tbl := lw_at lw_m6 51 rfl
theorem q1328 : (Jvm.Cond.code ({ cls := "java/lang/System$2", name := "getUTF16Char", desc := "([BI)C" } : Jvm.MethodName) prog_49_method_45_code (3 : Nat) (Option.some Jvm.ClassFile.FieldType.char)) ∈ lw_all := lw_g (lw_at lw_m6 52 rfl) rfl
theorem q1329 : (Jvm.Cond.methodLink "java/lang/System$2" (185 : Nat) ({ cls := "java/lang/StringUTF16", name := "getChar", desc := "([BI)C" } : Jvm.MethodName)) ∈ lw_all := lw_g (lw_at lw_m6 53 rfl) rfl
theorem q1358 : (Jvm.Cond.selects "java/lang/System$2" ({ cls := "java/lang/Object", name := "hashCode", desc := "()I" } : Jvm.MethodName) ({ cls := "java/lang/Object", name := "hashCode", desc := "()I" } : Jvm.MethodName)) ∈ lw_all := lw_g (lw_at lw_m6 82 rfl) rfl
theorem q1404 : (Jvm.Cond.selects "java/lang/System$2" ({ cls := "java/lang/Object", name := "equals", desc := "(Ljava/lang/Object;)Z" } : Jvm.MethodName) ({ cls := "java/lang/Object", name := "equals", desc := "(Ljava/lang/Object;)Z" } : Jvm.MethodName)) ∈ lw_all := lw_g (lw_at lw_m6 128 rfl) rfl
theorem q3706 : (Jvm.Cond.castable "java/lang/System$2" "java/lang/Object") ∈ lw_tbl := lw_at lw_m16 30 rfl
theorem q452 : (Jvm.Cond.sameMethod "[B" "java/lang/Object" "clone" "()Ljava/lang/Object;") ∈ lw_all := lw_g (lw_at lw_m2 136 rfl) rfl
theorem q455 : (Jvm.Cond.selects "[B" ({ cls := "[B", name := "clone", desc := "()Ljava/lang/Object;" } : Jvm.MethodName) ({ cls := "java/lang/Object", name := "clone", desc := "()Ljava/lang/Object;" } : Jvm.MethodName)) ∈ lw_all := lw_g (lw_at lw_m2 139 rfl) rfl
theorem q456 : (Jvm.Cond.castable "[B" "java/lang/Cloneable") ∈ lw_tbl := lw_at lw_m2 140 rfl
theorem q3732 : (Jvm.Cond.castable "[B" "java/lang/Object") ∈ lw_tbl := lw_at lw_m16 56 rfl
theorem q3738 : (Jvm.Cond.castable "[D" "java/lang/Object") ∈ lw_tbl := lw_at lw_m16 62 rfl
theorem q3735 : (Jvm.Cond.castable "[I" "java/lang/Object") ∈ lw_tbl := lw_at lw_m16 59 rfl
theorem q1073 : (Jvm.Cond.sameMethod "[J" "java/lang/Object" "clone" "()Ljava/lang/Object;") ∈ lw_all := lw_g (lw_at lw_m5 37 rfl) rfl
theorem q1074 : (Jvm.Cond.selects "[J" ({ cls := "[J", name := "clone", desc := "()Ljava/lang/Object;" } : Jvm.MethodName) ({ cls := "java/lang/Object", name := "clone", desc := "()Ljava/lang/Object;" } : Jvm.MethodName)) ∈ lw_all := lw_g (lw_at lw_m5 38 rfl) rfl
theorem q1075 : (Jvm.Cond.castable "[J" "java/lang/Cloneable") ∈ lw_tbl := lw_at lw_m5 39 rfl
theorem q3731 : (Jvm.Cond.castable "[J" "java/lang/Object") ∈ lw_tbl := lw_at lw_m16 55 rfl
theorem q3736 : (Jvm.Cond.castable "[LKeygroveModel$Chain;" "java/lang/Object") ∈ lw_tbl := lw_at lw_m16 60 rfl
theorem q3728 : (Jvm.Cond.sameMethod "[Ljava/lang/Object;" "java/lang/Object" "getClass" "()Ljava/lang/Class;") ∈ lw_all := lw_g (lw_at lw_m16 52 rfl) rfl
theorem q3729 : (Jvm.Cond.selects "[Ljava/lang/Object;" ({ cls := "java/lang/Object", name := "getClass", desc := "()Ljava/lang/Class;" } : Jvm.MethodName) ({ cls := "java/lang/Object", name := "getClass", desc := "()Ljava/lang/Class;" } : Jvm.MethodName)) ∈ lw_all := lw_g (lw_at lw_m16 53 rfl) rfl
theorem q3733 : (Jvm.Cond.castable "[Ljava/lang/Object;" "java/lang/Object") ∈ lw_tbl := lw_at lw_m16 57 rfl
theorem q3734 : (Jvm.Cond.castable "[Ljava/util/HashMap$Node;" "java/lang/Object") ∈ lw_tbl := lw_at lw_m16 58 rfl
theorem q3737 : (Jvm.Cond.castable "[Z" "java/lang/Object") ∈ lw_tbl := lw_at lw_m16 61 rfl
theorem q1433 : (Jvm.Cond.interfaceMethod "java/lang/Comparable" "java/lang/Comparable" "compareTo" "(Ljava/lang/Object;)I") ∈ lw_tbl := lw_at lw_m6 157 rfl
theorem q1434 : (Jvm.Cond.declares ({ cls := "java/lang/Comparable", name := "compareTo", desc := "(Ljava/lang/Object;)I" } : Jvm.MethodName)) ∈ lw_tbl := lw_at lw_m6 158 rfl
theorem q122 : (Jvm.Cond.initialized "java/lang/Integer$IntegerCache") ∈ lw_all := lw_g (lw_at lw_m1 46 rfl) rfl
theorem q689 : (Jvm.Cond.laysStatic "java/lang/Integer$IntegerCache" "high" "I") ∈ lw_tbl := lw_at lw_m3 133 rfl
theorem q691 : (Jvm.Cond.laysStatic "java/lang/Integer$IntegerCache" "cache" "[Ljava/lang/Integer;") ∈ lw_tbl := lw_at lw_m3 135 rfl
theorem q800 : (Jvm.Cond.interfaceMethod "java/lang/Iterable" "java/lang/Iterable" "iterator" "()Ljava/util/Iterator;") ∈ lw_tbl := lw_at lw_m4 4 rfl
theorem q801 : (Jvm.Cond.declares ({ cls := "java/lang/Iterable", name := "iterator", desc := "()Ljava/util/Iterator;" } : Jvm.MethodName)) ∈ lw_tbl := lw_at lw_m4 5 rfl
theorem q95 : (Jvm.Cond.initialized "java/lang/System") ∈ lw_all := lw_g (lw_at lw_m1 19 rfl) rfl
theorem q462 : (Jvm.Cond.static ({ cls := "java/lang/System", name := "arraycopy", desc := "(Ljava/lang/Object;ILjava/lang/Object;II)V" } : Jvm.MethodName)) ∈ lw_all := lw_g (lw_at lw_m2 146 rfl) rfl
theorem q463 : (Jvm.Cond.native ({ cls := "java/lang/System", name := "arraycopy", desc := "(Ljava/lang/Object;ILjava/lang/Object;II)V" } : Jvm.MethodName)) ∈ lw_all := lw_g (lw_at lw_m2 147 rfl) rfl
theorem q1192 : (Jvm.Cond.interfaceMethod "java/util/Collection" "java/util/Collection" "iterator" "()Ljava/util/Iterator;") ∈ lw_tbl := lw_at lw_m5 156 rfl
theorem q1193 : (Jvm.Cond.declares ({ cls := "java/util/Collection", name := "iterator", desc := "()Ljava/util/Iterator;" } : Jvm.MethodName)) ∈ lw_tbl := lw_at lw_m5 157 rfl
theorem q1817 : (Jvm.Cond.interfaceMethod "java/util/Comparator" "java/util/Comparator" "compare" "(Ljava/lang/Object;Ljava/lang/Object;)I") ∈ lw_tbl := lw_at lw_m8 61 rfl
theorem q1818 : (Jvm.Cond.declares ({ cls := "java/util/Comparator", name := "compare", desc := "(Ljava/lang/Object;Ljava/lang/Object;)I" } : Jvm.MethodName)) ∈ lw_tbl := lw_at lw_m8 62 rfl
theorem q937 : (Jvm.Cond.interfaceMethod "java/util/Iterator" "java/util/Iterator" "hasNext" "()Z") ∈ lw_tbl := lw_at lw_m4 141 rfl
theorem q938 : (Jvm.Cond.declares ({ cls := "java/util/Iterator", name := "hasNext", desc := "()Z" } : Jvm.MethodName)) ∈ lw_tbl := lw_at lw_m4 142 rfl
theorem q965 : (Jvm.Cond.interfaceMethod "java/util/Iterator" "java/util/Iterator" "next" "()Ljava/lang/Object;") ∈ lw_tbl := lw_at lw_m4 169 rfl
theorem q966 : (Jvm.Cond.declares ({ cls := "java/util/Iterator", name := "next", desc := "()Ljava/lang/Object;" } : Jvm.MethodName)) ∈ lw_tbl := lw_at lw_m4 170 rfl
theorem q2243 : (Jvm.Cond.interfaceMethod "java/util/Iterator" "java/util/Iterator" "remove" "()V") ∈ lw_tbl := lw_at lw_m10 7 rfl
theorem q2244 : (Jvm.Cond.declares ({ cls := "java/util/Iterator", name := "remove", desc := "()V" } : Jvm.MethodName)) ∈ lw_tbl := lw_at lw_m10 8 rfl
theorem q316 : (Jvm.Cond.interfaceMethod "java/util/List" "java/util/List" "size" "()I") ∈ lw_tbl := lw_at lw_m2 0 rfl
theorem q317 : (Jvm.Cond.declares ({ cls := "java/util/List", name := "size", desc := "()I" } : Jvm.MethodName)) ∈ lw_tbl := lw_at lw_m2 1 rfl
theorem q707 : (Jvm.Cond.interfaceMethod "java/util/List" "java/util/List" "add" "(Ljava/lang/Object;)Z") ∈ lw_tbl := lw_at lw_m3 151 rfl
theorem q708 : (Jvm.Cond.declares ({ cls := "java/util/List", name := "add", desc := "(Ljava/lang/Object;)Z" } : Jvm.MethodName)) ∈ lw_tbl := lw_at lw_m3 152 rfl
theorem q1091 : (Jvm.Cond.interfaceMethod "java/util/List" "java/util/List" "get" "(I)Ljava/lang/Object;") ∈ lw_tbl := lw_at lw_m5 55 rfl
theorem q1092 : (Jvm.Cond.declares ({ cls := "java/util/List", name := "get", desc := "(I)Ljava/lang/Object;" } : Jvm.MethodName)) ∈ lw_tbl := lw_at lw_m5 56 rfl
theorem q1126 : (Jvm.Cond.interfaceMethod "java/util/List" "java/util/List" "isEmpty" "()Z") ∈ lw_tbl := lw_at lw_m5 90 rfl
theorem q1127 : (Jvm.Cond.declares ({ cls := "java/util/List", name := "isEmpty", desc := "()Z" } : Jvm.MethodName)) ∈ lw_tbl := lw_at lw_m5 91 rfl
theorem q1154 : (Jvm.Cond.interfaceMethod "java/util/List" "java/util/List" "iterator" "()Ljava/util/Iterator;") ∈ lw_tbl := lw_at lw_m5 118 rfl
theorem q1155 : (Jvm.Cond.declares ({ cls := "java/util/List", name := "iterator", desc := "()Ljava/util/Iterator;" } : Jvm.MethodName)) ∈ lw_tbl := lw_at lw_m5 119 rfl
theorem q2743 : (Jvm.Cond.interfaceMethod "java/util/List" "java/util/List" "clear" "()V") ∈ lw_tbl := lw_at lw_m12 27 rfl
theorem q2744 : (Jvm.Cond.declares ({ cls := "java/util/List", name := "clear", desc := "()V" } : Jvm.MethodName)) ∈ lw_tbl := lw_at lw_m12 28 rfl
theorem q2785 : (Jvm.Cond.interfaceMethod "java/util/List" "java/util/List" "remove" "(Ljava/lang/Object;)Z") ∈ lw_tbl := lw_at lw_m12 69 rfl
theorem q2786 : (Jvm.Cond.declares ({ cls := "java/util/List", name := "remove", desc := "(Ljava/lang/Object;)Z" } : Jvm.MethodName)) ∈ lw_tbl := lw_at lw_m12 70 rfl
theorem q2597 : (Jvm.Cond.interfaceMethod "java/util/Map" "java/util/Map" "size" "()I") ∈ lw_tbl := lw_at lw_m11 121 rfl
theorem q2598 : (Jvm.Cond.declares ({ cls := "java/util/Map", name := "size", desc := "()I" } : Jvm.MethodName)) ∈ lw_tbl := lw_at lw_m11 122 rfl
theorem q2628 : (Jvm.Cond.interfaceMethod "java/util/Map" "java/util/Map" "entrySet" "()Ljava/util/Set;") ∈ lw_tbl := lw_at lw_m11 152 rfl
theorem q2629 : (Jvm.Cond.declares ({ cls := "java/util/Map", name := "entrySet", desc := "()Ljava/util/Set;" } : Jvm.MethodName)) ∈ lw_tbl := lw_at lw_m11 153 rfl
theorem q2679 : (Jvm.Cond.interfaceMethod "java/util/Map$Entry" "java/util/Map$Entry" "getKey" "()Ljava/lang/Object;") ∈ lw_tbl := lw_at lw_m11 203 rfl
theorem q2680 : (Jvm.Cond.declares ({ cls := "java/util/Map$Entry", name := "getKey", desc := "()Ljava/lang/Object;" } : Jvm.MethodName)) ∈ lw_tbl := lw_at lw_m11 204 rfl
theorem q2698 : (Jvm.Cond.interfaceMethod "java/util/Map$Entry" "java/util/Map$Entry" "getValue" "()Ljava/lang/Object;") ∈ lw_tbl := lw_at lw_m11 222 rfl
theorem q2699 : (Jvm.Cond.declares ({ cls := "java/util/Map$Entry", name := "getValue", desc := "()Ljava/lang/Object;" } : Jvm.MethodName)) ∈ lw_tbl := lw_at lw_m11 223 rfl
theorem q2231 : (Jvm.Cond.interfaceMethod "java/util/Set" "java/util/Set" "iterator" "()Ljava/util/Iterator;") ∈ lw_tbl := lw_at lw_m9 235 rfl
theorem q2232 : (Jvm.Cond.declares ({ cls := "java/util/Set", name := "iterator", desc := "()Ljava/util/Iterator;" } : Jvm.MethodName)) ∈ lw_tbl := lw_at lw_m9 236 rfl
theorem q2614 : (Jvm.Cond.interfaceMethod "java/util/SortedMap" "java/util/SortedMap" "comparator" "()Ljava/util/Comparator;") ∈ lw_tbl := lw_at lw_m11 138 rfl
theorem q2615 : (Jvm.Cond.declares ({ cls := "java/util/SortedMap", name := "comparator", desc := "()Ljava/util/Comparator;" } : Jvm.MethodName)) ∈ lw_tbl := lw_at lw_m11 139 rfl
theorem q915 : (Jvm.Cond.declares ({ cls := "java/util/TreeMap$NavigableSubMap", name := "keyIterator", desc := "()Ljava/util/Iterator;" } : Jvm.MethodName)) ∈ lw_tbl := lw_at lw_m4 119 rfl
theorem q916 : (Jvm.Cond.selects "java/util/TreeMap$NavigableSubMap" ({ cls := "java/util/TreeMap$NavigableSubMap", name := "keyIterator", desc := "()Ljava/util/Iterator;" } : Jvm.MethodName) ({ cls := "java/util/TreeMap$NavigableSubMap", name := "keyIterator", desc := "()Ljava/util/Iterator;" } : Jvm.MethodName)) ∈ lw_all := lw_g (lw_at lw_m4 120 rfl) rfl
theorem q1321 : (Jvm.Cond.interfaceMethod "jdk/internal/access/JavaLangAccess" "jdk/internal/access/JavaLangAccess" "getUTF16Char" "([BI)C") ∈ lw_tbl := lw_at lw_m6 45 rfl
theorem q1322 : (Jvm.Cond.declares ({ cls := "jdk/internal/access/JavaLangAccess", name := "getUTF16Char", desc := "([BI)C" } : Jvm.MethodName)) ∈ lw_tbl := lw_at lw_m6 46 rfl
theorem q126 : (Jvm.Cond.initialized "jdk/internal/misc/UnsafeConstants") ∈ lw_all := lw_g (lw_at lw_m1 50 rfl) rfl
theorem q1505 : (Jvm.Cond.laysStatic "jdk/internal/misc/UnsafeConstants" "BIG_ENDIAN" "Z") ∈ lw_tbl := lw_at lw_m6 229 rfl
theorem q275 : (Jvm.Cond.arrayClass Jvm.ClassFile.FieldType.long) ∈ lw_all := lw_g (lw_at lw_m1 199 rfl) rfl
theorem q416 : (Jvm.Cond.arrayClass Jvm.ClassFile.FieldType.byte) ∈ lw_all := lw_g (lw_at lw_m2 100 rfl) rfl
theorem q788 : (Jvm.Cond.arrayOver (Jvm.ClassFile.FieldType.object "java/lang/Object")) ∈ lw_tbl := lw_at lw_m3 232 rfl
theorem q1657 : (Jvm.Cond.arrayOver (Jvm.ClassFile.FieldType.object "java/util/HashMap$Node")) ∈ lw_tbl := lw_at lw_m7 141 rfl
theorem q2055 : (Jvm.Cond.arrayClass Jvm.ClassFile.FieldType.int) ∈ lw_all := lw_g (lw_at lw_m9 59 rfl) rfl
theorem q3114 : (Jvm.Cond.arrayOver (Jvm.ClassFile.FieldType.object "KeygroveModel$Chain")) ∈ lw_tbl := lw_at lw_m13 158 rfl
theorem q3297 : (Jvm.Cond.arrayClass Jvm.ClassFile.FieldType.boolean) ∈ lw_all := lw_g (lw_at lw_m14 101 rfl) rfl
theorem q3653 : (Jvm.Cond.arrayClass Jvm.ClassFile.FieldType.double) ∈ lw_all := lw_g (lw_at lw_m15 217 rfl) rfl
theorem q3739 : (Jvm.Cond.arrayClass Jvm.ClassFile.FieldType.char) ∈ lw_all := lw_g (lw_at lw_m16 63 rfl) rfl
theorem q3740 : (Jvm.Cond.arrayClass Jvm.ClassFile.FieldType.short) ∈ lw_all := lw_g (lw_at lw_m16 64 rfl) rfl
/-! KeygroveLaw -/
def RX0 : String := "KeygroveLaw"
abbrev cX0_person : ByteArray := method_3_code
def yX0_person : MethodName := ⟨RX0, "person", "(LKeygrove;[J)I"⟩
def dkwX0_person_0 : List UInt8 := [43, 3, 42, 182, 0, 7, 133, 80, 167, 0, 6, 77, 4, 172, 3, 172]
abbrev dktX0_person_0 : List UInt8 := dkwX0_person_0 ++ []
theorem dksX0_person_0 : cX0_person.data.toList.drop 0 = dktX0_person_0 := by decide +kernel
theorem dX0_person_0 : decode cX0_person 0 = .ok (.aload_n 1, 1) := dk_43 (dk_at dksX0_person_0 0 rfl rfl)
theorem dX0_person_1 : decode cX0_person 1 = .ok (.iconst 0, 1) := dk_3 (dk_at dksX0_person_0 1 rfl rfl)
theorem dX0_person_2 : decode cX0_person 2 = .ok (.aload_n 0, 1) := dk_42 (dk_at dksX0_person_0 2 rfl rfl)
theorem dX0_person_3 : decode cX0_person 3 = .ok (.invokevirtual 7, 3) := dk_182 0 7 (dk_at dksX0_person_0 3 rfl rfl)
theorem dX0_person_6 : decode cX0_person 6 = .ok (.i2l, 1) := dk_133 (dk_at dksX0_person_0 6 rfl rfl)
theorem dX0_person_7 : decode cX0_person 7 = .ok (.lastore, 1) := dk_80 (dk_at dksX0_person_0 7 rfl rfl)
theorem dX0_person_8 : decode cX0_person 8 = .ok (.goto 6, 3) := dk_167 0 6 (dk_at dksX0_person_0 8 rfl rfl)
theorem dX0_person_11 : decode cX0_person 11 = .ok (.astore_n 2, 1) := dk_77 (dk_at dksX0_person_0 11 rfl rfl)
theorem dX0_person_12 : decode cX0_person 12 = .ok (.iconst 1, 1) := dk_4 (dk_at dksX0_person_0 12 rfl rfl)
theorem dX0_person_13 : decode cX0_person 13 = .ok (.ireturn, 1) := dk_172 (dk_at dksX0_person_0 13 rfl rfl)
theorem dX0_person_14 : decode cX0_person 14 = .ok (.iconst 0, 1) := dk_3 (dk_at dksX0_person_0 14 rfl rfl)
theorem dX0_person_15 : decode cX0_person 15 = .ok (.ireturn, 1) := dk_172 (dk_at dksX0_person_0 15 rfl rfl)
abbrev cX0_pack : ByteArray := method_4_code
def yX0_pack : MethodName := ⟨RX0, "pack", "(LKeygrove;I[J)I"⟩
def dkwX0_pack_0 : List UInt8 := [44, 3, 42, 27, 182, 0, 15, 133, 80, 167, 0, 9, 78, 4, 172, 78, 5, 172, 3, 172]
abbrev dktX0_pack_0 : List UInt8 := dkwX0_pack_0 ++ []
theorem dksX0_pack_0 : cX0_pack.data.toList.drop 0 = dktX0_pack_0 := by decide +kernel
theorem dX0_pack_0 : decode cX0_pack 0 = .ok (.aload_n 2, 1) := dk_44 (dk_at dksX0_pack_0 0 rfl rfl)
theorem dX0_pack_1 : decode cX0_pack 1 = .ok (.iconst 0, 1) := dk_3 (dk_at dksX0_pack_0 1 rfl rfl)
theorem dX0_pack_2 : decode cX0_pack 2 = .ok (.aload_n 0, 1) := dk_42 (dk_at dksX0_pack_0 2 rfl rfl)
theorem dX0_pack_3 : decode cX0_pack 3 = .ok (.iload_n 1, 1) := dk_27 (dk_at dksX0_pack_0 3 rfl rfl)
theorem dX0_pack_4 : decode cX0_pack 4 = .ok (.invokevirtual 15, 3) := dk_182 0 15 (dk_at dksX0_pack_0 4 rfl rfl)
theorem dX0_pack_7 : decode cX0_pack 7 = .ok (.i2l, 1) := dk_133 (dk_at dksX0_pack_0 7 rfl rfl)
theorem dX0_pack_8 : decode cX0_pack 8 = .ok (.lastore, 1) := dk_80 (dk_at dksX0_pack_0 8 rfl rfl)
theorem dX0_pack_9 : decode cX0_pack 9 = .ok (.goto 9, 3) := dk_167 0 9 (dk_at dksX0_pack_0 9 rfl rfl)
theorem dX0_pack_12 : decode cX0_pack 12 = .ok (.astore_n 3, 1) := dk_78 (dk_at dksX0_pack_0 12 rfl rfl)
theorem dX0_pack_13 : decode cX0_pack 13 = .ok (.iconst 1, 1) := dk_4 (dk_at dksX0_pack_0 13 rfl rfl)
theorem dX0_pack_14 : decode cX0_pack 14 = .ok (.ireturn, 1) := dk_172 (dk_at dksX0_pack_0 14 rfl rfl)
theorem dX0_pack_15 : decode cX0_pack 15 = .ok (.astore_n 3, 1) := dk_78 (dk_at dksX0_pack_0 15 rfl rfl)
theorem dX0_pack_16 : decode cX0_pack 16 = .ok (.iconst 2, 1) := dk_5 (dk_at dksX0_pack_0 16 rfl rfl)
theorem dX0_pack_17 : decode cX0_pack 17 = .ok (.ireturn, 1) := dk_172 (dk_at dksX0_pack_0 17 rfl rfl)
theorem dX0_pack_18 : decode cX0_pack 18 = .ok (.iconst 0, 1) := dk_3 (dk_at dksX0_pack_0 18 rfl rfl)
theorem dX0_pack_19 : decode cX0_pack 19 = .ok (.ireturn, 1) := dk_172 (dk_at dksX0_pack_0 19 rfl rfl)
abbrev cX0_create : ByteArray := method_5_code
def yX0_create : MethodName := ⟨RX0, "create", "(LKeygrove;I[J)I"⟩
def dkwX0_create_0 : List UInt8 := [44, 3, 42, 27, 182, 0, 21, 133, 80, 167, 0, 9, 78, 4, 172, 78, 5, 172, 3, 172]
abbrev dktX0_create_0 : List UInt8 := dkwX0_create_0 ++ []
theorem dksX0_create_0 : cX0_create.data.toList.drop 0 = dktX0_create_0 := by decide +kernel
theorem dX0_create_0 : decode cX0_create 0 = .ok (.aload_n 2, 1) := dk_44 (dk_at dksX0_create_0 0 rfl rfl)
theorem dX0_create_1 : decode cX0_create 1 = .ok (.iconst 0, 1) := dk_3 (dk_at dksX0_create_0 1 rfl rfl)
theorem dX0_create_2 : decode cX0_create 2 = .ok (.aload_n 0, 1) := dk_42 (dk_at dksX0_create_0 2 rfl rfl)
theorem dX0_create_3 : decode cX0_create 3 = .ok (.iload_n 1, 1) := dk_27 (dk_at dksX0_create_0 3 rfl rfl)
theorem dX0_create_4 : decode cX0_create 4 = .ok (.invokevirtual 21, 3) := dk_182 0 21 (dk_at dksX0_create_0 4 rfl rfl)
theorem dX0_create_7 : decode cX0_create 7 = .ok (.i2l, 1) := dk_133 (dk_at dksX0_create_0 7 rfl rfl)
theorem dX0_create_8 : decode cX0_create 8 = .ok (.lastore, 1) := dk_80 (dk_at dksX0_create_0 8 rfl rfl)
theorem dX0_create_9 : decode cX0_create 9 = .ok (.goto 9, 3) := dk_167 0 9 (dk_at dksX0_create_0 9 rfl rfl)
theorem dX0_create_12 : decode cX0_create 12 = .ok (.astore_n 3, 1) := dk_78 (dk_at dksX0_create_0 12 rfl rfl)
theorem dX0_create_13 : decode cX0_create 13 = .ok (.iconst 1, 1) := dk_4 (dk_at dksX0_create_0 13 rfl rfl)
theorem dX0_create_14 : decode cX0_create 14 = .ok (.ireturn, 1) := dk_172 (dk_at dksX0_create_0 14 rfl rfl)
theorem dX0_create_15 : decode cX0_create 15 = .ok (.astore_n 3, 1) := dk_78 (dk_at dksX0_create_0 15 rfl rfl)
theorem dX0_create_16 : decode cX0_create 16 = .ok (.iconst 2, 1) := dk_5 (dk_at dksX0_create_0 16 rfl rfl)
theorem dX0_create_17 : decode cX0_create 17 = .ok (.ireturn, 1) := dk_172 (dk_at dksX0_create_0 17 rfl rfl)
theorem dX0_create_18 : decode cX0_create 18 = .ok (.iconst 0, 1) := dk_3 (dk_at dksX0_create_0 18 rfl rfl)
theorem dX0_create_19 : decode cX0_create 19 = .ok (.ireturn, 1) := dk_172 (dk_at dksX0_create_0 19 rfl rfl)
abbrev cX0_epoch : ByteArray := method_6_code
def yX0_epoch : MethodName := ⟨RX0, "epoch", "(LKeygrove;[J)I"⟩
def dkwX0_epoch_0 : List UInt8 := [43, 3, 42, 182, 0, 24, 133, 80, 167, 0, 6, 77, 4, 172, 3, 172]
abbrev dktX0_epoch_0 : List UInt8 := dkwX0_epoch_0 ++ []
theorem dksX0_epoch_0 : cX0_epoch.data.toList.drop 0 = dktX0_epoch_0 := by decide +kernel
theorem dX0_epoch_0 : decode cX0_epoch 0 = .ok (.aload_n 1, 1) := dk_43 (dk_at dksX0_epoch_0 0 rfl rfl)
theorem dX0_epoch_1 : decode cX0_epoch 1 = .ok (.iconst 0, 1) := dk_3 (dk_at dksX0_epoch_0 1 rfl rfl)
theorem dX0_epoch_2 : decode cX0_epoch 2 = .ok (.aload_n 0, 1) := dk_42 (dk_at dksX0_epoch_0 2 rfl rfl)
theorem dX0_epoch_3 : decode cX0_epoch 3 = .ok (.invokevirtual 24, 3) := dk_182 0 24 (dk_at dksX0_epoch_0 3 rfl rfl)
theorem dX0_epoch_6 : decode cX0_epoch 6 = .ok (.i2l, 1) := dk_133 (dk_at dksX0_epoch_0 6 rfl rfl)
theorem dX0_epoch_7 : decode cX0_epoch 7 = .ok (.lastore, 1) := dk_80 (dk_at dksX0_epoch_0 7 rfl rfl)
theorem dX0_epoch_8 : decode cX0_epoch 8 = .ok (.goto 6, 3) := dk_167 0 6 (dk_at dksX0_epoch_0 8 rfl rfl)
theorem dX0_epoch_11 : decode cX0_epoch 11 = .ok (.astore_n 2, 1) := dk_77 (dk_at dksX0_epoch_0 11 rfl rfl)
theorem dX0_epoch_12 : decode cX0_epoch 12 = .ok (.iconst 1, 1) := dk_4 (dk_at dksX0_epoch_0 12 rfl rfl)
theorem dX0_epoch_13 : decode cX0_epoch 13 = .ok (.ireturn, 1) := dk_172 (dk_at dksX0_epoch_0 13 rfl rfl)
theorem dX0_epoch_14 : decode cX0_epoch 14 = .ok (.iconst 0, 1) := dk_3 (dk_at dksX0_epoch_0 14 rfl rfl)
theorem dX0_epoch_15 : decode cX0_epoch 15 = .ok (.ireturn, 1) := dk_172 (dk_at dksX0_epoch_0 15 rfl rfl)
abbrev cX0_epochOf : ByteArray := method_7_code
def yX0_epochOf : MethodName := ⟨RX0, "epochOf", "(LKeygrove;I[J)I"⟩
def dkwX0_epochOf_0 : List UInt8 := [44, 3, 42, 27, 182, 0, 29, 133, 80, 167, 0, 9, 78, 4, 172, 78, 5, 172, 3, 172]
abbrev dktX0_epochOf_0 : List UInt8 := dkwX0_epochOf_0 ++ []
theorem dksX0_epochOf_0 : cX0_epochOf.data.toList.drop 0 = dktX0_epochOf_0 := by decide +kernel
theorem dX0_epochOf_0 : decode cX0_epochOf 0 = .ok (.aload_n 2, 1) := dk_44 (dk_at dksX0_epochOf_0 0 rfl rfl)
theorem dX0_epochOf_1 : decode cX0_epochOf 1 = .ok (.iconst 0, 1) := dk_3 (dk_at dksX0_epochOf_0 1 rfl rfl)
theorem dX0_epochOf_2 : decode cX0_epochOf 2 = .ok (.aload_n 0, 1) := dk_42 (dk_at dksX0_epochOf_0 2 rfl rfl)
theorem dX0_epochOf_3 : decode cX0_epochOf 3 = .ok (.iload_n 1, 1) := dk_27 (dk_at dksX0_epochOf_0 3 rfl rfl)
theorem dX0_epochOf_4 : decode cX0_epochOf 4 = .ok (.invokevirtual 29, 3) := dk_182 0 29 (dk_at dksX0_epochOf_0 4 rfl rfl)
theorem dX0_epochOf_7 : decode cX0_epochOf 7 = .ok (.i2l, 1) := dk_133 (dk_at dksX0_epochOf_0 7 rfl rfl)
theorem dX0_epochOf_8 : decode cX0_epochOf 8 = .ok (.lastore, 1) := dk_80 (dk_at dksX0_epochOf_0 8 rfl rfl)
theorem dX0_epochOf_9 : decode cX0_epochOf 9 = .ok (.goto 9, 3) := dk_167 0 9 (dk_at dksX0_epochOf_0 9 rfl rfl)
theorem dX0_epochOf_12 : decode cX0_epochOf 12 = .ok (.astore_n 3, 1) := dk_78 (dk_at dksX0_epochOf_0 12 rfl rfl)
theorem dX0_epochOf_13 : decode cX0_epochOf 13 = .ok (.iconst 1, 1) := dk_4 (dk_at dksX0_epochOf_0 13 rfl rfl)
theorem dX0_epochOf_14 : decode cX0_epochOf 14 = .ok (.ireturn, 1) := dk_172 (dk_at dksX0_epochOf_0 14 rfl rfl)
theorem dX0_epochOf_15 : decode cX0_epochOf 15 = .ok (.astore_n 3, 1) := dk_78 (dk_at dksX0_epochOf_0 15 rfl rfl)
theorem dX0_epochOf_16 : decode cX0_epochOf 16 = .ok (.iconst 2, 1) := dk_5 (dk_at dksX0_epochOf_0 16 rfl rfl)
theorem dX0_epochOf_17 : decode cX0_epochOf 17 = .ok (.ireturn, 1) := dk_172 (dk_at dksX0_epochOf_0 17 rfl rfl)
theorem dX0_epochOf_18 : decode cX0_epochOf 18 = .ok (.iconst 0, 1) := dk_3 (dk_at dksX0_epochOf_0 18 rfl rfl)
theorem dX0_epochOf_19 : decode cX0_epochOf 19 = .ok (.ireturn, 1) := dk_172 (dk_at dksX0_epochOf_0 19 rfl rfl)
abbrev cX0_leafOf : ByteArray := method_8_code
def yX0_leafOf : MethodName := ⟨RX0, "leafOf", "(LKeygrove;I[J)I"⟩
def dkwX0_leafOf_0 : List UInt8 := [44, 3, 42, 27, 182, 0, 34, 133, 80, 167, 0, 9, 78, 4, 172, 78, 5, 172, 3, 172]
abbrev dktX0_leafOf_0 : List UInt8 := dkwX0_leafOf_0 ++ []
theorem dksX0_leafOf_0 : cX0_leafOf.data.toList.drop 0 = dktX0_leafOf_0 := by decide +kernel
theorem dX0_leafOf_0 : decode cX0_leafOf 0 = .ok (.aload_n 2, 1) := dk_44 (dk_at dksX0_leafOf_0 0 rfl rfl)
theorem dX0_leafOf_1 : decode cX0_leafOf 1 = .ok (.iconst 0, 1) := dk_3 (dk_at dksX0_leafOf_0 1 rfl rfl)
theorem dX0_leafOf_2 : decode cX0_leafOf 2 = .ok (.aload_n 0, 1) := dk_42 (dk_at dksX0_leafOf_0 2 rfl rfl)
theorem dX0_leafOf_3 : decode cX0_leafOf 3 = .ok (.iload_n 1, 1) := dk_27 (dk_at dksX0_leafOf_0 3 rfl rfl)
theorem dX0_leafOf_4 : decode cX0_leafOf 4 = .ok (.invokevirtual 34, 3) := dk_182 0 34 (dk_at dksX0_leafOf_0 4 rfl rfl)
theorem dX0_leafOf_7 : decode cX0_leafOf 7 = .ok (.i2l, 1) := dk_133 (dk_at dksX0_leafOf_0 7 rfl rfl)
theorem dX0_leafOf_8 : decode cX0_leafOf 8 = .ok (.lastore, 1) := dk_80 (dk_at dksX0_leafOf_0 8 rfl rfl)
theorem dX0_leafOf_9 : decode cX0_leafOf 9 = .ok (.goto 9, 3) := dk_167 0 9 (dk_at dksX0_leafOf_0 9 rfl rfl)
theorem dX0_leafOf_12 : decode cX0_leafOf 12 = .ok (.astore_n 3, 1) := dk_78 (dk_at dksX0_leafOf_0 12 rfl rfl)
theorem dX0_leafOf_13 : decode cX0_leafOf 13 = .ok (.iconst 1, 1) := dk_4 (dk_at dksX0_leafOf_0 13 rfl rfl)
theorem dX0_leafOf_14 : decode cX0_leafOf 14 = .ok (.ireturn, 1) := dk_172 (dk_at dksX0_leafOf_0 14 rfl rfl)
theorem dX0_leafOf_15 : decode cX0_leafOf 15 = .ok (.astore_n 3, 1) := dk_78 (dk_at dksX0_leafOf_0 15 rfl rfl)
theorem dX0_leafOf_16 : decode cX0_leafOf 16 = .ok (.iconst 2, 1) := dk_5 (dk_at dksX0_leafOf_0 16 rfl rfl)
theorem dX0_leafOf_17 : decode cX0_leafOf 17 = .ok (.ireturn, 1) := dk_172 (dk_at dksX0_leafOf_0 17 rfl rfl)
theorem dX0_leafOf_18 : decode cX0_leafOf 18 = .ok (.iconst 0, 1) := dk_3 (dk_at dksX0_leafOf_0 18 rfl rfl)
theorem dX0_leafOf_19 : decode cX0_leafOf 19 = .ok (.ireturn, 1) := dk_172 (dk_at dksX0_leafOf_0 19 rfl rfl)
abbrev cX0_isMember : ByteArray := method_9_code
def yX0_isMember : MethodName := ⟨RX0, "isMember", "(LKeygrove;II[J)I"⟩
def dkwX0_isMember_1 : List UInt8 := [3, 172]
abbrev dktX0_isMember_1 : List UInt8 := dkwX0_isMember_1 ++ []
def dkwX0_isMember_0 : List UInt8 := [45, 3, 42, 27, 28, 182, 0, 37, 153, 0, 7, 10, 167, 0, 4, 9, 80, 167, 0, 7, 58, 4, 4, 172]
abbrev dktX0_isMember_0 : List UInt8 := dkwX0_isMember_0 ++ dktX0_isMember_1
theorem dksX0_isMember_0 : cX0_isMember.data.toList.drop 0 = dktX0_isMember_0 := by decide +kernel
theorem dksX0_isMember_1 : cX0_isMember.data.toList.drop 24 = dktX0_isMember_1 := dk_seg dksX0_isMember_0 24 rfl rfl
theorem dX0_isMember_0 : decode cX0_isMember 0 = .ok (.aload_n 3, 1) := dk_45 (dk_at dksX0_isMember_0 0 rfl rfl)
theorem dX0_isMember_1 : decode cX0_isMember 1 = .ok (.iconst 0, 1) := dk_3 (dk_at dksX0_isMember_0 1 rfl rfl)
theorem dX0_isMember_2 : decode cX0_isMember 2 = .ok (.aload_n 0, 1) := dk_42 (dk_at dksX0_isMember_0 2 rfl rfl)
theorem dX0_isMember_3 : decode cX0_isMember 3 = .ok (.iload_n 1, 1) := dk_27 (dk_at dksX0_isMember_0 3 rfl rfl)
theorem dX0_isMember_4 : decode cX0_isMember 4 = .ok (.iload_n 2, 1) := dk_28 (dk_at dksX0_isMember_0 4 rfl rfl)
theorem dX0_isMember_5 : decode cX0_isMember 5 = .ok (.invokevirtual 37, 3) := dk_182 0 37 (dk_at dksX0_isMember_0 5 rfl rfl)
theorem dX0_isMember_8 : decode cX0_isMember 8 = .ok (.ifCond .eq 7, 3) := dk_153 0 7 (dk_at dksX0_isMember_0 8 rfl rfl)
theorem dX0_isMember_11 : decode cX0_isMember 11 = .ok (.lconst 1, 1) := dk_10 (dk_at dksX0_isMember_0 11 rfl rfl)
theorem dX0_isMember_12 : decode cX0_isMember 12 = .ok (.goto 4, 3) := dk_167 0 4 (dk_at dksX0_isMember_0 12 rfl rfl)
theorem dX0_isMember_15 : decode cX0_isMember 15 = .ok (.lconst 0, 1) := dk_9 (dk_at dksX0_isMember_0 15 rfl rfl)
theorem dX0_isMember_16 : decode cX0_isMember 16 = .ok (.lastore, 1) := dk_80 (dk_at dksX0_isMember_0 16 rfl rfl)
theorem dX0_isMember_17 : decode cX0_isMember 17 = .ok (.goto 7, 3) := dk_167 0 7 (dk_at dksX0_isMember_0 17 rfl rfl)
theorem dX0_isMember_20 : decode cX0_isMember 20 = .ok (.astore 4, 2) := dk_58 4 (dk_at dksX0_isMember_0 20 rfl rfl)
theorem dX0_isMember_22 : decode cX0_isMember 22 = .ok (.iconst 1, 1) := dk_4 (dk_at dksX0_isMember_0 22 rfl rfl)
theorem dX0_isMember_23 : decode cX0_isMember 23 = .ok (.ireturn, 1) := dk_172 (dk_at dksX0_isMember_0 23 rfl rfl)
theorem dX0_isMember_24 : decode cX0_isMember 24 = .ok (.iconst 0, 1) := dk_3 (dk_at dksX0_isMember_1 0 rfl rfl)
theorem dX0_isMember_25 : decode cX0_isMember 25 = .ok (.ireturn, 1) := dk_172 (dk_at dksX0_isMember_1 1 rfl rfl)
abbrev cX0_add : ByteArray := method_10_code
def yX0_add : MethodName := ⟨RX0, "add", "(LKeygrove;II[J)I"⟩
def dkwX0_add_1 : List UInt8 := [172, 3, 172]
abbrev dktX0_add_1 : List UInt8 := dkwX0_add_1 ++ []
def dkwX0_add_0 : List UInt8 := [45, 3, 42, 27, 28, 182, 0, 41, 133, 80, 167, 0, 15, 58, 4, 4, 172, 58, 4, 5, 172, 58, 4, 6]
abbrev dktX0_add_0 : List UInt8 := dkwX0_add_0 ++ dktX0_add_1
theorem dksX0_add_0 : cX0_add.data.toList.drop 0 = dktX0_add_0 := by decide +kernel
theorem dksX0_add_1 : cX0_add.data.toList.drop 24 = dktX0_add_1 := dk_seg dksX0_add_0 24 rfl rfl
theorem dX0_add_0 : decode cX0_add 0 = .ok (.aload_n 3, 1) := dk_45 (dk_at dksX0_add_0 0 rfl rfl)
theorem dX0_add_1 : decode cX0_add 1 = .ok (.iconst 0, 1) := dk_3 (dk_at dksX0_add_0 1 rfl rfl)
theorem dX0_add_2 : decode cX0_add 2 = .ok (.aload_n 0, 1) := dk_42 (dk_at dksX0_add_0 2 rfl rfl)
theorem dX0_add_3 : decode cX0_add 3 = .ok (.iload_n 1, 1) := dk_27 (dk_at dksX0_add_0 3 rfl rfl)
theorem dX0_add_4 : decode cX0_add 4 = .ok (.iload_n 2, 1) := dk_28 (dk_at dksX0_add_0 4 rfl rfl)
theorem dX0_add_5 : decode cX0_add 5 = .ok (.invokevirtual 41, 3) := dk_182 0 41 (dk_at dksX0_add_0 5 rfl rfl)
theorem dX0_add_8 : decode cX0_add 8 = .ok (.i2l, 1) := dk_133 (dk_at dksX0_add_0 8 rfl rfl)
theorem dX0_add_9 : decode cX0_add 9 = .ok (.lastore, 1) := dk_80 (dk_at dksX0_add_0 9 rfl rfl)
theorem dX0_add_10 : decode cX0_add 10 = .ok (.goto 15, 3) := dk_167 0 15 (dk_at dksX0_add_0 10 rfl rfl)
theorem dX0_add_13 : decode cX0_add 13 = .ok (.astore 4, 2) := dk_58 4 (dk_at dksX0_add_0 13 rfl rfl)
theorem dX0_add_15 : decode cX0_add 15 = .ok (.iconst 1, 1) := dk_4 (dk_at dksX0_add_0 15 rfl rfl)
theorem dX0_add_16 : decode cX0_add 16 = .ok (.ireturn, 1) := dk_172 (dk_at dksX0_add_0 16 rfl rfl)
theorem dX0_add_17 : decode cX0_add 17 = .ok (.astore 4, 2) := dk_58 4 (dk_at dksX0_add_0 17 rfl rfl)
theorem dX0_add_19 : decode cX0_add 19 = .ok (.iconst 2, 1) := dk_5 (dk_at dksX0_add_0 19 rfl rfl)
theorem dX0_add_20 : decode cX0_add 20 = .ok (.ireturn, 1) := dk_172 (dk_at dksX0_add_0 20 rfl rfl)
theorem dX0_add_21 : decode cX0_add 21 = .ok (.astore 4, 2) := dk_58 4 (dk_at dksX0_add_0 21 rfl rfl)
theorem dX0_add_23 : decode cX0_add 23 = .ok (.iconst 3, 1) := dk_6 (dk_at dksX0_add_0 23 rfl rfl)
theorem dX0_add_24 : decode cX0_add 24 = .ok (.ireturn, 1) := dk_172 (dk_at dksX0_add_1 0 rfl rfl)
theorem dX0_add_25 : decode cX0_add 25 = .ok (.iconst 0, 1) := dk_3 (dk_at dksX0_add_1 1 rfl rfl)
theorem dX0_add_26 : decode cX0_add 26 = .ok (.ireturn, 1) := dk_172 (dk_at dksX0_add_1 2 rfl rfl)
abbrev cX0_remove : ByteArray := method_11_code
def yX0_remove : MethodName := ⟨RX0, "remove", "(LKeygrove;II[J)I"⟩
def dkwX0_remove_1 : List UInt8 := [172, 3, 172]
abbrev dktX0_remove_1 : List UInt8 := dkwX0_remove_1 ++ []
def dkwX0_remove_0 : List UInt8 := [45, 3, 42, 27, 28, 182, 0, 45, 133, 80, 167, 0, 15, 58, 4, 4, 172, 58, 4, 5, 172, 58, 4, 6]
abbrev dktX0_remove_0 : List UInt8 := dkwX0_remove_0 ++ dktX0_remove_1
theorem dksX0_remove_0 : cX0_remove.data.toList.drop 0 = dktX0_remove_0 := by decide +kernel
theorem dksX0_remove_1 : cX0_remove.data.toList.drop 24 = dktX0_remove_1 := dk_seg dksX0_remove_0 24 rfl rfl
theorem dX0_remove_0 : decode cX0_remove 0 = .ok (.aload_n 3, 1) := dk_45 (dk_at dksX0_remove_0 0 rfl rfl)
theorem dX0_remove_1 : decode cX0_remove 1 = .ok (.iconst 0, 1) := dk_3 (dk_at dksX0_remove_0 1 rfl rfl)
theorem dX0_remove_2 : decode cX0_remove 2 = .ok (.aload_n 0, 1) := dk_42 (dk_at dksX0_remove_0 2 rfl rfl)
theorem dX0_remove_3 : decode cX0_remove 3 = .ok (.iload_n 1, 1) := dk_27 (dk_at dksX0_remove_0 3 rfl rfl)
theorem dX0_remove_4 : decode cX0_remove 4 = .ok (.iload_n 2, 1) := dk_28 (dk_at dksX0_remove_0 4 rfl rfl)
theorem dX0_remove_5 : decode cX0_remove 5 = .ok (.invokevirtual 45, 3) := dk_182 0 45 (dk_at dksX0_remove_0 5 rfl rfl)
theorem dX0_remove_8 : decode cX0_remove 8 = .ok (.i2l, 1) := dk_133 (dk_at dksX0_remove_0 8 rfl rfl)
theorem dX0_remove_9 : decode cX0_remove 9 = .ok (.lastore, 1) := dk_80 (dk_at dksX0_remove_0 9 rfl rfl)
theorem dX0_remove_10 : decode cX0_remove 10 = .ok (.goto 15, 3) := dk_167 0 15 (dk_at dksX0_remove_0 10 rfl rfl)
theorem dX0_remove_13 : decode cX0_remove 13 = .ok (.astore 4, 2) := dk_58 4 (dk_at dksX0_remove_0 13 rfl rfl)
theorem dX0_remove_15 : decode cX0_remove 15 = .ok (.iconst 1, 1) := dk_4 (dk_at dksX0_remove_0 15 rfl rfl)
theorem dX0_remove_16 : decode cX0_remove 16 = .ok (.ireturn, 1) := dk_172 (dk_at dksX0_remove_0 16 rfl rfl)
theorem dX0_remove_17 : decode cX0_remove 17 = .ok (.astore 4, 2) := dk_58 4 (dk_at dksX0_remove_0 17 rfl rfl)
theorem dX0_remove_19 : decode cX0_remove 19 = .ok (.iconst 2, 1) := dk_5 (dk_at dksX0_remove_0 19 rfl rfl)
theorem dX0_remove_20 : decode cX0_remove 20 = .ok (.ireturn, 1) := dk_172 (dk_at dksX0_remove_0 20 rfl rfl)
theorem dX0_remove_21 : decode cX0_remove 21 = .ok (.astore 4, 2) := dk_58 4 (dk_at dksX0_remove_0 21 rfl rfl)
theorem dX0_remove_23 : decode cX0_remove 23 = .ok (.iconst 3, 1) := dk_6 (dk_at dksX0_remove_0 23 rfl rfl)
theorem dX0_remove_24 : decode cX0_remove 24 = .ok (.ireturn, 1) := dk_172 (dk_at dksX0_remove_1 0 rfl rfl)
theorem dX0_remove_25 : decode cX0_remove 25 = .ok (.iconst 0, 1) := dk_3 (dk_at dksX0_remove_1 1 rfl rfl)
theorem dX0_remove_26 : decode cX0_remove 26 = .ok (.ireturn, 1) := dk_172 (dk_at dksX0_remove_1 2 rfl rfl)
abbrev cX0_renew : ByteArray := method_12_code
def yX0_renew : MethodName := ⟨RX0, "renew", "(LKeygrove;I[J)I"⟩
def dkwX0_renew_0 : List UInt8 := [44, 3, 42, 27, 182, 0, 48, 133, 80, 167, 0, 12, 78, 4, 172, 78, 5, 172, 78, 6, 172, 3, 172]
abbrev dktX0_renew_0 : List UInt8 := dkwX0_renew_0 ++ []
theorem dksX0_renew_0 : cX0_renew.data.toList.drop 0 = dktX0_renew_0 := by decide +kernel
theorem dX0_renew_0 : decode cX0_renew 0 = .ok (.aload_n 2, 1) := dk_44 (dk_at dksX0_renew_0 0 rfl rfl)
theorem dX0_renew_1 : decode cX0_renew 1 = .ok (.iconst 0, 1) := dk_3 (dk_at dksX0_renew_0 1 rfl rfl)
theorem dX0_renew_2 : decode cX0_renew 2 = .ok (.aload_n 0, 1) := dk_42 (dk_at dksX0_renew_0 2 rfl rfl)
theorem dX0_renew_3 : decode cX0_renew 3 = .ok (.iload_n 1, 1) := dk_27 (dk_at dksX0_renew_0 3 rfl rfl)
theorem dX0_renew_4 : decode cX0_renew 4 = .ok (.invokevirtual 48, 3) := dk_182 0 48 (dk_at dksX0_renew_0 4 rfl rfl)
theorem dX0_renew_7 : decode cX0_renew 7 = .ok (.i2l, 1) := dk_133 (dk_at dksX0_renew_0 7 rfl rfl)
theorem dX0_renew_8 : decode cX0_renew 8 = .ok (.lastore, 1) := dk_80 (dk_at dksX0_renew_0 8 rfl rfl)
theorem dX0_renew_9 : decode cX0_renew 9 = .ok (.goto 12, 3) := dk_167 0 12 (dk_at dksX0_renew_0 9 rfl rfl)
theorem dX0_renew_12 : decode cX0_renew 12 = .ok (.astore_n 3, 1) := dk_78 (dk_at dksX0_renew_0 12 rfl rfl)
theorem dX0_renew_13 : decode cX0_renew 13 = .ok (.iconst 1, 1) := dk_4 (dk_at dksX0_renew_0 13 rfl rfl)
theorem dX0_renew_14 : decode cX0_renew 14 = .ok (.ireturn, 1) := dk_172 (dk_at dksX0_renew_0 14 rfl rfl)
theorem dX0_renew_15 : decode cX0_renew 15 = .ok (.astore_n 3, 1) := dk_78 (dk_at dksX0_renew_0 15 rfl rfl)
theorem dX0_renew_16 : decode cX0_renew 16 = .ok (.iconst 2, 1) := dk_5 (dk_at dksX0_renew_0 16 rfl rfl)
theorem dX0_renew_17 : decode cX0_renew 17 = .ok (.ireturn, 1) := dk_172 (dk_at dksX0_renew_0 17 rfl rfl)
theorem dX0_renew_18 : decode cX0_renew 18 = .ok (.astore_n 3, 1) := dk_78 (dk_at dksX0_renew_0 18 rfl rfl)
theorem dX0_renew_19 : decode cX0_renew 19 = .ok (.iconst 3, 1) := dk_6 (dk_at dksX0_renew_0 19 rfl rfl)
theorem dX0_renew_20 : decode cX0_renew 20 = .ok (.ireturn, 1) := dk_172 (dk_at dksX0_renew_0 20 rfl rfl)
theorem dX0_renew_21 : decode cX0_renew 21 = .ok (.iconst 0, 1) := dk_3 (dk_at dksX0_renew_0 21 rfl rfl)
theorem dX0_renew_22 : decode cX0_renew 22 = .ok (.ireturn, 1) := dk_172 (dk_at dksX0_renew_0 22 rfl rfl)
abbrev cX0_proposal : ByteArray := method_13_code
def yX0_proposal : MethodName := ⟨RX0, "proposal", "(LKeygrove;I[J)I"⟩
def dkwX0_proposal_0 : List UInt8 := [44, 3, 42, 27, 182, 0, 51, 133, 80, 167, 0, 6, 78, 4, 172, 3, 172]
abbrev dktX0_proposal_0 : List UInt8 := dkwX0_proposal_0 ++ []
theorem dksX0_proposal_0 : cX0_proposal.data.toList.drop 0 = dktX0_proposal_0 := by decide +kernel
theorem dX0_proposal_0 : decode cX0_proposal 0 = .ok (.aload_n 2, 1) := dk_44 (dk_at dksX0_proposal_0 0 rfl rfl)
theorem dX0_proposal_1 : decode cX0_proposal 1 = .ok (.iconst 0, 1) := dk_3 (dk_at dksX0_proposal_0 1 rfl rfl)
theorem dX0_proposal_2 : decode cX0_proposal 2 = .ok (.aload_n 0, 1) := dk_42 (dk_at dksX0_proposal_0 2 rfl rfl)
theorem dX0_proposal_3 : decode cX0_proposal 3 = .ok (.iload_n 1, 1) := dk_27 (dk_at dksX0_proposal_0 3 rfl rfl)
theorem dX0_proposal_4 : decode cX0_proposal 4 = .ok (.invokevirtual 51, 3) := dk_182 0 51 (dk_at dksX0_proposal_0 4 rfl rfl)
theorem dX0_proposal_7 : decode cX0_proposal 7 = .ok (.i2l, 1) := dk_133 (dk_at dksX0_proposal_0 7 rfl rfl)
theorem dX0_proposal_8 : decode cX0_proposal 8 = .ok (.lastore, 1) := dk_80 (dk_at dksX0_proposal_0 8 rfl rfl)
theorem dX0_proposal_9 : decode cX0_proposal 9 = .ok (.goto 6, 3) := dk_167 0 6 (dk_at dksX0_proposal_0 9 rfl rfl)
theorem dX0_proposal_12 : decode cX0_proposal 12 = .ok (.astore_n 3, 1) := dk_78 (dk_at dksX0_proposal_0 12 rfl rfl)
theorem dX0_proposal_13 : decode cX0_proposal 13 = .ok (.iconst 1, 1) := dk_4 (dk_at dksX0_proposal_0 13 rfl rfl)
theorem dX0_proposal_14 : decode cX0_proposal 14 = .ok (.ireturn, 1) := dk_172 (dk_at dksX0_proposal_0 14 rfl rfl)
theorem dX0_proposal_15 : decode cX0_proposal 15 = .ok (.iconst 0, 1) := dk_3 (dk_at dksX0_proposal_0 15 rfl rfl)
theorem dX0_proposal_16 : decode cX0_proposal 16 = .ok (.ireturn, 1) := dk_172 (dk_at dksX0_proposal_0 16 rfl rfl)
abbrev cX0_commit : ByteArray := method_14_code
def yX0_commit : MethodName := ⟨RX0, "commit", "(LKeygrove;I[J)I"⟩
def dkwX0_commit_0 : List UInt8 := [44, 3, 42, 27, 182, 0, 55, 133, 80, 167, 0, 12, 78, 4, 172, 78, 5, 172, 78, 6, 172, 3, 172]
abbrev dktX0_commit_0 : List UInt8 := dkwX0_commit_0 ++ []
theorem dksX0_commit_0 : cX0_commit.data.toList.drop 0 = dktX0_commit_0 := by decide +kernel
theorem dX0_commit_0 : decode cX0_commit 0 = .ok (.aload_n 2, 1) := dk_44 (dk_at dksX0_commit_0 0 rfl rfl)
theorem dX0_commit_1 : decode cX0_commit 1 = .ok (.iconst 0, 1) := dk_3 (dk_at dksX0_commit_0 1 rfl rfl)
theorem dX0_commit_2 : decode cX0_commit 2 = .ok (.aload_n 0, 1) := dk_42 (dk_at dksX0_commit_0 2 rfl rfl)
theorem dX0_commit_3 : decode cX0_commit 3 = .ok (.iload_n 1, 1) := dk_27 (dk_at dksX0_commit_0 3 rfl rfl)
theorem dX0_commit_4 : decode cX0_commit 4 = .ok (.invokevirtual 55, 3) := dk_182 0 55 (dk_at dksX0_commit_0 4 rfl rfl)
theorem dX0_commit_7 : decode cX0_commit 7 = .ok (.i2l, 1) := dk_133 (dk_at dksX0_commit_0 7 rfl rfl)
theorem dX0_commit_8 : decode cX0_commit 8 = .ok (.lastore, 1) := dk_80 (dk_at dksX0_commit_0 8 rfl rfl)
theorem dX0_commit_9 : decode cX0_commit 9 = .ok (.goto 12, 3) := dk_167 0 12 (dk_at dksX0_commit_0 9 rfl rfl)
theorem dX0_commit_12 : decode cX0_commit 12 = .ok (.astore_n 3, 1) := dk_78 (dk_at dksX0_commit_0 12 rfl rfl)
theorem dX0_commit_13 : decode cX0_commit 13 = .ok (.iconst 1, 1) := dk_4 (dk_at dksX0_commit_0 13 rfl rfl)
theorem dX0_commit_14 : decode cX0_commit 14 = .ok (.ireturn, 1) := dk_172 (dk_at dksX0_commit_0 14 rfl rfl)
theorem dX0_commit_15 : decode cX0_commit 15 = .ok (.astore_n 3, 1) := dk_78 (dk_at dksX0_commit_0 15 rfl rfl)
theorem dX0_commit_16 : decode cX0_commit 16 = .ok (.iconst 2, 1) := dk_5 (dk_at dksX0_commit_0 16 rfl rfl)
theorem dX0_commit_17 : decode cX0_commit 17 = .ok (.ireturn, 1) := dk_172 (dk_at dksX0_commit_0 17 rfl rfl)
theorem dX0_commit_18 : decode cX0_commit 18 = .ok (.astore_n 3, 1) := dk_78 (dk_at dksX0_commit_0 18 rfl rfl)
theorem dX0_commit_19 : decode cX0_commit 19 = .ok (.iconst 3, 1) := dk_6 (dk_at dksX0_commit_0 19 rfl rfl)
theorem dX0_commit_20 : decode cX0_commit 20 = .ok (.ireturn, 1) := dk_172 (dk_at dksX0_commit_0 20 rfl rfl)
theorem dX0_commit_21 : decode cX0_commit 21 = .ok (.iconst 0, 1) := dk_3 (dk_at dksX0_commit_0 21 rfl rfl)
theorem dX0_commit_22 : decode cX0_commit 22 = .ok (.ireturn, 1) := dk_172 (dk_at dksX0_commit_0 22 rfl rfl)
abbrev cX0_goOn : ByteArray := method_15_code
def yX0_goOn : MethodName := ⟨RX0, "goOn", "(LKeygrove;I[J)I"⟩
def dkwX0_goOn_0 : List UInt8 := [44, 3, 42, 27, 182, 0, 58, 133, 80, 167, 0, 9, 78, 4, 172, 78, 5, 172, 3, 172]
abbrev dktX0_goOn_0 : List UInt8 := dkwX0_goOn_0 ++ []
theorem dksX0_goOn_0 : cX0_goOn.data.toList.drop 0 = dktX0_goOn_0 := by decide +kernel
theorem dX0_goOn_0 : decode cX0_goOn 0 = .ok (.aload_n 2, 1) := dk_44 (dk_at dksX0_goOn_0 0 rfl rfl)
theorem dX0_goOn_1 : decode cX0_goOn 1 = .ok (.iconst 0, 1) := dk_3 (dk_at dksX0_goOn_0 1 rfl rfl)
theorem dX0_goOn_2 : decode cX0_goOn 2 = .ok (.aload_n 0, 1) := dk_42 (dk_at dksX0_goOn_0 2 rfl rfl)
theorem dX0_goOn_3 : decode cX0_goOn 3 = .ok (.iload_n 1, 1) := dk_27 (dk_at dksX0_goOn_0 3 rfl rfl)
theorem dX0_goOn_4 : decode cX0_goOn 4 = .ok (.invokevirtual 58, 3) := dk_182 0 58 (dk_at dksX0_goOn_0 4 rfl rfl)
theorem dX0_goOn_7 : decode cX0_goOn 7 = .ok (.i2l, 1) := dk_133 (dk_at dksX0_goOn_0 7 rfl rfl)
theorem dX0_goOn_8 : decode cX0_goOn 8 = .ok (.lastore, 1) := dk_80 (dk_at dksX0_goOn_0 8 rfl rfl)
theorem dX0_goOn_9 : decode cX0_goOn 9 = .ok (.goto 9, 3) := dk_167 0 9 (dk_at dksX0_goOn_0 9 rfl rfl)
theorem dX0_goOn_12 : decode cX0_goOn 12 = .ok (.astore_n 3, 1) := dk_78 (dk_at dksX0_goOn_0 12 rfl rfl)
theorem dX0_goOn_13 : decode cX0_goOn 13 = .ok (.iconst 1, 1) := dk_4 (dk_at dksX0_goOn_0 13 rfl rfl)
theorem dX0_goOn_14 : decode cX0_goOn 14 = .ok (.ireturn, 1) := dk_172 (dk_at dksX0_goOn_0 14 rfl rfl)
theorem dX0_goOn_15 : decode cX0_goOn 15 = .ok (.astore_n 3, 1) := dk_78 (dk_at dksX0_goOn_0 15 rfl rfl)
theorem dX0_goOn_16 : decode cX0_goOn 16 = .ok (.iconst 2, 1) := dk_5 (dk_at dksX0_goOn_0 16 rfl rfl)
theorem dX0_goOn_17 : decode cX0_goOn 17 = .ok (.ireturn, 1) := dk_172 (dk_at dksX0_goOn_0 17 rfl rfl)
theorem dX0_goOn_18 : decode cX0_goOn 18 = .ok (.iconst 0, 1) := dk_3 (dk_at dksX0_goOn_0 18 rfl rfl)
theorem dX0_goOn_19 : decode cX0_goOn 19 = .ok (.ireturn, 1) := dk_172 (dk_at dksX0_goOn_0 19 rfl rfl)
abbrev cX0_join : ByteArray := method_16_code
def yX0_join : MethodName := ⟨RX0, "join", "(LKeygrove;I[J)I"⟩
def dkwX0_join_0 : List UInt8 := [44, 3, 42, 27, 182, 0, 61, 133, 80, 167, 0, 9, 78, 4, 172, 78, 5, 172, 3, 172]
abbrev dktX0_join_0 : List UInt8 := dkwX0_join_0 ++ []
theorem dksX0_join_0 : cX0_join.data.toList.drop 0 = dktX0_join_0 := by decide +kernel
theorem dX0_join_0 : decode cX0_join 0 = .ok (.aload_n 2, 1) := dk_44 (dk_at dksX0_join_0 0 rfl rfl)
theorem dX0_join_1 : decode cX0_join 1 = .ok (.iconst 0, 1) := dk_3 (dk_at dksX0_join_0 1 rfl rfl)
theorem dX0_join_2 : decode cX0_join 2 = .ok (.aload_n 0, 1) := dk_42 (dk_at dksX0_join_0 2 rfl rfl)
theorem dX0_join_3 : decode cX0_join 3 = .ok (.iload_n 1, 1) := dk_27 (dk_at dksX0_join_0 3 rfl rfl)
theorem dX0_join_4 : decode cX0_join 4 = .ok (.invokevirtual 61, 3) := dk_182 0 61 (dk_at dksX0_join_0 4 rfl rfl)
theorem dX0_join_7 : decode cX0_join 7 = .ok (.i2l, 1) := dk_133 (dk_at dksX0_join_0 7 rfl rfl)
theorem dX0_join_8 : decode cX0_join 8 = .ok (.lastore, 1) := dk_80 (dk_at dksX0_join_0 8 rfl rfl)
theorem dX0_join_9 : decode cX0_join 9 = .ok (.goto 9, 3) := dk_167 0 9 (dk_at dksX0_join_0 9 rfl rfl)
theorem dX0_join_12 : decode cX0_join 12 = .ok (.astore_n 3, 1) := dk_78 (dk_at dksX0_join_0 12 rfl rfl)
theorem dX0_join_13 : decode cX0_join 13 = .ok (.iconst 1, 1) := dk_4 (dk_at dksX0_join_0 13 rfl rfl)
theorem dX0_join_14 : decode cX0_join 14 = .ok (.ireturn, 1) := dk_172 (dk_at dksX0_join_0 14 rfl rfl)
theorem dX0_join_15 : decode cX0_join 15 = .ok (.astore_n 3, 1) := dk_78 (dk_at dksX0_join_0 15 rfl rfl)
theorem dX0_join_16 : decode cX0_join 16 = .ok (.iconst 2, 1) := dk_5 (dk_at dksX0_join_0 16 rfl rfl)
theorem dX0_join_17 : decode cX0_join 17 = .ok (.ireturn, 1) := dk_172 (dk_at dksX0_join_0 17 rfl rfl)
theorem dX0_join_18 : decode cX0_join 18 = .ok (.iconst 0, 1) := dk_3 (dk_at dksX0_join_0 18 rfl rfl)
theorem dX0_join_19 : decode cX0_join 19 = .ok (.ireturn, 1) := dk_172 (dk_at dksX0_join_0 19 rfl rfl)
abbrev cX0_leaves : ByteArray := method_17_code
def yX0_leaves : MethodName := ⟨RX0, "leaves", "(LKeygrove;[J)I"⟩
def dkwX0_leaves_0 : List UInt8 := [43, 3, 42, 182, 0, 64, 133, 80, 167, 0, 6, 77, 4, 172, 3, 172]
abbrev dktX0_leaves_0 : List UInt8 := dkwX0_leaves_0 ++ []
theorem dksX0_leaves_0 : cX0_leaves.data.toList.drop 0 = dktX0_leaves_0 := by decide +kernel
theorem dX0_leaves_0 : decode cX0_leaves 0 = .ok (.aload_n 1, 1) := dk_43 (dk_at dksX0_leaves_0 0 rfl rfl)
theorem dX0_leaves_1 : decode cX0_leaves 1 = .ok (.iconst 0, 1) := dk_3 (dk_at dksX0_leaves_0 1 rfl rfl)
theorem dX0_leaves_2 : decode cX0_leaves 2 = .ok (.aload_n 0, 1) := dk_42 (dk_at dksX0_leaves_0 2 rfl rfl)
theorem dX0_leaves_3 : decode cX0_leaves 3 = .ok (.invokevirtual 64, 3) := dk_182 0 64 (dk_at dksX0_leaves_0 3 rfl rfl)
theorem dX0_leaves_6 : decode cX0_leaves 6 = .ok (.i2l, 1) := dk_133 (dk_at dksX0_leaves_0 6 rfl rfl)
theorem dX0_leaves_7 : decode cX0_leaves 7 = .ok (.lastore, 1) := dk_80 (dk_at dksX0_leaves_0 7 rfl rfl)
theorem dX0_leaves_8 : decode cX0_leaves 8 = .ok (.goto 6, 3) := dk_167 0 6 (dk_at dksX0_leaves_0 8 rfl rfl)
theorem dX0_leaves_11 : decode cX0_leaves 11 = .ok (.astore_n 2, 1) := dk_77 (dk_at dksX0_leaves_0 11 rfl rfl)
theorem dX0_leaves_12 : decode cX0_leaves 12 = .ok (.iconst 1, 1) := dk_4 (dk_at dksX0_leaves_0 12 rfl rfl)
theorem dX0_leaves_13 : decode cX0_leaves 13 = .ok (.ireturn, 1) := dk_172 (dk_at dksX0_leaves_0 13 rfl rfl)
theorem dX0_leaves_14 : decode cX0_leaves 14 = .ok (.iconst 0, 1) := dk_3 (dk_at dksX0_leaves_0 14 rfl rfl)
theorem dX0_leaves_15 : decode cX0_leaves 15 = .ok (.ireturn, 1) := dk_172 (dk_at dksX0_leaves_0 15 rfl rfl)
abbrev cX0_isBlank : ByteArray := method_18_code
def yX0_isBlank : MethodName := ⟨RX0, "isBlank", "(LKeygrove;I[J)I"⟩
def dkwX0_isBlank_0 : List UInt8 := [44, 3, 42, 27, 182, 0, 67, 153, 0, 7, 10, 167, 0, 4, 9, 80, 167, 0, 6, 78, 4, 172, 3, 172]
abbrev dktX0_isBlank_0 : List UInt8 := dkwX0_isBlank_0 ++ []
theorem dksX0_isBlank_0 : cX0_isBlank.data.toList.drop 0 = dktX0_isBlank_0 := by decide +kernel
theorem dX0_isBlank_0 : decode cX0_isBlank 0 = .ok (.aload_n 2, 1) := dk_44 (dk_at dksX0_isBlank_0 0 rfl rfl)
theorem dX0_isBlank_1 : decode cX0_isBlank 1 = .ok (.iconst 0, 1) := dk_3 (dk_at dksX0_isBlank_0 1 rfl rfl)
theorem dX0_isBlank_2 : decode cX0_isBlank 2 = .ok (.aload_n 0, 1) := dk_42 (dk_at dksX0_isBlank_0 2 rfl rfl)
theorem dX0_isBlank_3 : decode cX0_isBlank 3 = .ok (.iload_n 1, 1) := dk_27 (dk_at dksX0_isBlank_0 3 rfl rfl)
theorem dX0_isBlank_4 : decode cX0_isBlank 4 = .ok (.invokevirtual 67, 3) := dk_182 0 67 (dk_at dksX0_isBlank_0 4 rfl rfl)
theorem dX0_isBlank_7 : decode cX0_isBlank 7 = .ok (.ifCond .eq 7, 3) := dk_153 0 7 (dk_at dksX0_isBlank_0 7 rfl rfl)
theorem dX0_isBlank_10 : decode cX0_isBlank 10 = .ok (.lconst 1, 1) := dk_10 (dk_at dksX0_isBlank_0 10 rfl rfl)
theorem dX0_isBlank_11 : decode cX0_isBlank 11 = .ok (.goto 4, 3) := dk_167 0 4 (dk_at dksX0_isBlank_0 11 rfl rfl)
theorem dX0_isBlank_14 : decode cX0_isBlank 14 = .ok (.lconst 0, 1) := dk_9 (dk_at dksX0_isBlank_0 14 rfl rfl)
theorem dX0_isBlank_15 : decode cX0_isBlank 15 = .ok (.lastore, 1) := dk_80 (dk_at dksX0_isBlank_0 15 rfl rfl)
theorem dX0_isBlank_16 : decode cX0_isBlank 16 = .ok (.goto 6, 3) := dk_167 0 6 (dk_at dksX0_isBlank_0 16 rfl rfl)
theorem dX0_isBlank_19 : decode cX0_isBlank 19 = .ok (.astore_n 3, 1) := dk_78 (dk_at dksX0_isBlank_0 19 rfl rfl)
theorem dX0_isBlank_20 : decode cX0_isBlank 20 = .ok (.iconst 1, 1) := dk_4 (dk_at dksX0_isBlank_0 20 rfl rfl)
theorem dX0_isBlank_21 : decode cX0_isBlank 21 = .ok (.ireturn, 1) := dk_172 (dk_at dksX0_isBlank_0 21 rfl rfl)
theorem dX0_isBlank_22 : decode cX0_isBlank 22 = .ok (.iconst 0, 1) := dk_3 (dk_at dksX0_isBlank_0 22 rfl rfl)
theorem dX0_isBlank_23 : decode cX0_isBlank 23 = .ok (.ireturn, 1) := dk_172 (dk_at dksX0_isBlank_0 23 rfl rfl)
abbrev cX0_late : ByteArray := method_19_code
def yX0_late : MethodName := ⟨RX0, "late", "(LKeygrove;I[J)I"⟩
def dkwX0_late_0 : List UInt8 := [44, 3, 42, 27, 182, 0, 71, 133, 80, 167, 0, 6, 78, 4, 172, 3, 172]
abbrev dktX0_late_0 : List UInt8 := dkwX0_late_0 ++ []
theorem dksX0_late_0 : cX0_late.data.toList.drop 0 = dktX0_late_0 := by decide +kernel
theorem dX0_late_0 : decode cX0_late 0 = .ok (.aload_n 2, 1) := dk_44 (dk_at dksX0_late_0 0 rfl rfl)
theorem dX0_late_1 : decode cX0_late 1 = .ok (.iconst 0, 1) := dk_3 (dk_at dksX0_late_0 1 rfl rfl)
theorem dX0_late_2 : decode cX0_late 2 = .ok (.aload_n 0, 1) := dk_42 (dk_at dksX0_late_0 2 rfl rfl)
theorem dX0_late_3 : decode cX0_late 3 = .ok (.iload_n 1, 1) := dk_27 (dk_at dksX0_late_0 3 rfl rfl)
theorem dX0_late_4 : decode cX0_late 4 = .ok (.invokevirtual 71, 3) := dk_182 0 71 (dk_at dksX0_late_0 4 rfl rfl)
theorem dX0_late_7 : decode cX0_late 7 = .ok (.i2l, 1) := dk_133 (dk_at dksX0_late_0 7 rfl rfl)
theorem dX0_late_8 : decode cX0_late 8 = .ok (.lastore, 1) := dk_80 (dk_at dksX0_late_0 8 rfl rfl)
theorem dX0_late_9 : decode cX0_late 9 = .ok (.goto 6, 3) := dk_167 0 6 (dk_at dksX0_late_0 9 rfl rfl)
theorem dX0_late_12 : decode cX0_late 12 = .ok (.astore_n 3, 1) := dk_78 (dk_at dksX0_late_0 12 rfl rfl)
theorem dX0_late_13 : decode cX0_late 13 = .ok (.iconst 1, 1) := dk_4 (dk_at dksX0_late_0 13 rfl rfl)
theorem dX0_late_14 : decode cX0_late 14 = .ok (.ireturn, 1) := dk_172 (dk_at dksX0_late_0 14 rfl rfl)
theorem dX0_late_15 : decode cX0_late 15 = .ok (.iconst 0, 1) := dk_3 (dk_at dksX0_late_0 15 rfl rfl)
theorem dX0_late_16 : decode cX0_late 16 = .ok (.ireturn, 1) := dk_172 (dk_at dksX0_late_0 16 rfl rfl)
abbrev cX0_cover : ByteArray := method_20_code
def yX0_cover : MethodName := ⟨RX0, "cover", "(LKeygrove;I[J)I"⟩
def dkwX0_cover_0 : List UInt8 := [44, 3, 42, 27, 182, 0, 74, 133, 80, 167, 0, 6, 78, 4, 172, 3, 172]
abbrev dktX0_cover_0 : List UInt8 := dkwX0_cover_0 ++ []
theorem dksX0_cover_0 : cX0_cover.data.toList.drop 0 = dktX0_cover_0 := by decide +kernel
theorem dX0_cover_0 : decode cX0_cover 0 = .ok (.aload_n 2, 1) := dk_44 (dk_at dksX0_cover_0 0 rfl rfl)
theorem dX0_cover_1 : decode cX0_cover 1 = .ok (.iconst 0, 1) := dk_3 (dk_at dksX0_cover_0 1 rfl rfl)
theorem dX0_cover_2 : decode cX0_cover 2 = .ok (.aload_n 0, 1) := dk_42 (dk_at dksX0_cover_0 2 rfl rfl)
theorem dX0_cover_3 : decode cX0_cover 3 = .ok (.iload_n 1, 1) := dk_27 (dk_at dksX0_cover_0 3 rfl rfl)
theorem dX0_cover_4 : decode cX0_cover 4 = .ok (.invokevirtual 74, 3) := dk_182 0 74 (dk_at dksX0_cover_0 4 rfl rfl)
theorem dX0_cover_7 : decode cX0_cover 7 = .ok (.i2l, 1) := dk_133 (dk_at dksX0_cover_0 7 rfl rfl)
theorem dX0_cover_8 : decode cX0_cover 8 = .ok (.lastore, 1) := dk_80 (dk_at dksX0_cover_0 8 rfl rfl)
theorem dX0_cover_9 : decode cX0_cover 9 = .ok (.goto 6, 3) := dk_167 0 6 (dk_at dksX0_cover_0 9 rfl rfl)
theorem dX0_cover_12 : decode cX0_cover 12 = .ok (.astore_n 3, 1) := dk_78 (dk_at dksX0_cover_0 12 rfl rfl)
theorem dX0_cover_13 : decode cX0_cover 13 = .ok (.iconst 1, 1) := dk_4 (dk_at dksX0_cover_0 13 rfl rfl)
theorem dX0_cover_14 : decode cX0_cover 14 = .ok (.ireturn, 1) := dk_172 (dk_at dksX0_cover_0 14 rfl rfl)
theorem dX0_cover_15 : decode cX0_cover 15 = .ok (.iconst 0, 1) := dk_3 (dk_at dksX0_cover_0 15 rfl rfl)
theorem dX0_cover_16 : decode cX0_cover 16 = .ok (.ireturn, 1) := dk_172 (dk_at dksX0_cover_0 16 rfl rfl)
abbrev cX0_coverAt : ByteArray := method_21_code
def yX0_coverAt : MethodName := ⟨RX0, "coverAt", "(LKeygrove;II[J)I"⟩
def dkwX0_coverAt_0 : List UInt8 := [45, 3, 42, 27, 28, 182, 0, 77, 133, 80, 167, 0, 11, 58, 4, 4, 172, 58, 4, 5, 172, 3, 172]
abbrev dktX0_coverAt_0 : List UInt8 := dkwX0_coverAt_0 ++ []
theorem dksX0_coverAt_0 : cX0_coverAt.data.toList.drop 0 = dktX0_coverAt_0 := by decide +kernel
theorem dX0_coverAt_0 : decode cX0_coverAt 0 = .ok (.aload_n 3, 1) := dk_45 (dk_at dksX0_coverAt_0 0 rfl rfl)
theorem dX0_coverAt_1 : decode cX0_coverAt 1 = .ok (.iconst 0, 1) := dk_3 (dk_at dksX0_coverAt_0 1 rfl rfl)
theorem dX0_coverAt_2 : decode cX0_coverAt 2 = .ok (.aload_n 0, 1) := dk_42 (dk_at dksX0_coverAt_0 2 rfl rfl)
theorem dX0_coverAt_3 : decode cX0_coverAt 3 = .ok (.iload_n 1, 1) := dk_27 (dk_at dksX0_coverAt_0 3 rfl rfl)
theorem dX0_coverAt_4 : decode cX0_coverAt 4 = .ok (.iload_n 2, 1) := dk_28 (dk_at dksX0_coverAt_0 4 rfl rfl)
theorem dX0_coverAt_5 : decode cX0_coverAt 5 = .ok (.invokevirtual 77, 3) := dk_182 0 77 (dk_at dksX0_coverAt_0 5 rfl rfl)
theorem dX0_coverAt_8 : decode cX0_coverAt 8 = .ok (.i2l, 1) := dk_133 (dk_at dksX0_coverAt_0 8 rfl rfl)
theorem dX0_coverAt_9 : decode cX0_coverAt 9 = .ok (.lastore, 1) := dk_80 (dk_at dksX0_coverAt_0 9 rfl rfl)
theorem dX0_coverAt_10 : decode cX0_coverAt 10 = .ok (.goto 11, 3) := dk_167 0 11 (dk_at dksX0_coverAt_0 10 rfl rfl)
theorem dX0_coverAt_13 : decode cX0_coverAt 13 = .ok (.astore 4, 2) := dk_58 4 (dk_at dksX0_coverAt_0 13 rfl rfl)
theorem dX0_coverAt_15 : decode cX0_coverAt 15 = .ok (.iconst 1, 1) := dk_4 (dk_at dksX0_coverAt_0 15 rfl rfl)
theorem dX0_coverAt_16 : decode cX0_coverAt 16 = .ok (.ireturn, 1) := dk_172 (dk_at dksX0_coverAt_0 16 rfl rfl)
theorem dX0_coverAt_17 : decode cX0_coverAt 17 = .ok (.astore 4, 2) := dk_58 4 (dk_at dksX0_coverAt_0 17 rfl rfl)
theorem dX0_coverAt_19 : decode cX0_coverAt 19 = .ok (.iconst 2, 1) := dk_5 (dk_at dksX0_coverAt_0 19 rfl rfl)
theorem dX0_coverAt_20 : decode cX0_coverAt 20 = .ok (.ireturn, 1) := dk_172 (dk_at dksX0_coverAt_0 20 rfl rfl)
theorem dX0_coverAt_21 : decode cX0_coverAt 21 = .ok (.iconst 0, 1) := dk_3 (dk_at dksX0_coverAt_0 21 rfl rfl)
theorem dX0_coverAt_22 : decode cX0_coverAt 22 = .ok (.ireturn, 1) := dk_172 (dk_at dksX0_coverAt_0 22 rfl rfl)
abbrev cX0_personAt : ByteArray := method_22_code
def yX0_personAt : MethodName := ⟨RX0, "personAt", "(LKeygrove;I[J)I"⟩
def dkwX0_personAt_0 : List UInt8 := [44, 3, 42, 27, 182, 0, 80, 133, 80, 167, 0, 9, 78, 4, 172, 78, 5, 172, 3, 172]
abbrev dktX0_personAt_0 : List UInt8 := dkwX0_personAt_0 ++ []
theorem dksX0_personAt_0 : cX0_personAt.data.toList.drop 0 = dktX0_personAt_0 := by decide +kernel
theorem dX0_personAt_0 : decode cX0_personAt 0 = .ok (.aload_n 2, 1) := dk_44 (dk_at dksX0_personAt_0 0 rfl rfl)
theorem dX0_personAt_1 : decode cX0_personAt 1 = .ok (.iconst 0, 1) := dk_3 (dk_at dksX0_personAt_0 1 rfl rfl)
theorem dX0_personAt_2 : decode cX0_personAt 2 = .ok (.aload_n 0, 1) := dk_42 (dk_at dksX0_personAt_0 2 rfl rfl)
theorem dX0_personAt_3 : decode cX0_personAt 3 = .ok (.iload_n 1, 1) := dk_27 (dk_at dksX0_personAt_0 3 rfl rfl)
theorem dX0_personAt_4 : decode cX0_personAt 4 = .ok (.invokevirtual 80, 3) := dk_182 0 80 (dk_at dksX0_personAt_0 4 rfl rfl)
theorem dX0_personAt_7 : decode cX0_personAt 7 = .ok (.i2l, 1) := dk_133 (dk_at dksX0_personAt_0 7 rfl rfl)
theorem dX0_personAt_8 : decode cX0_personAt 8 = .ok (.lastore, 1) := dk_80 (dk_at dksX0_personAt_0 8 rfl rfl)
theorem dX0_personAt_9 : decode cX0_personAt 9 = .ok (.goto 9, 3) := dk_167 0 9 (dk_at dksX0_personAt_0 9 rfl rfl)
theorem dX0_personAt_12 : decode cX0_personAt 12 = .ok (.astore_n 3, 1) := dk_78 (dk_at dksX0_personAt_0 12 rfl rfl)
theorem dX0_personAt_13 : decode cX0_personAt 13 = .ok (.iconst 1, 1) := dk_4 (dk_at dksX0_personAt_0 13 rfl rfl)
theorem dX0_personAt_14 : decode cX0_personAt 14 = .ok (.ireturn, 1) := dk_172 (dk_at dksX0_personAt_0 14 rfl rfl)
theorem dX0_personAt_15 : decode cX0_personAt 15 = .ok (.astore_n 3, 1) := dk_78 (dk_at dksX0_personAt_0 15 rfl rfl)
theorem dX0_personAt_16 : decode cX0_personAt 16 = .ok (.iconst 2, 1) := dk_5 (dk_at dksX0_personAt_0 16 rfl rfl)
theorem dX0_personAt_17 : decode cX0_personAt 17 = .ok (.ireturn, 1) := dk_172 (dk_at dksX0_personAt_0 17 rfl rfl)
theorem dX0_personAt_18 : decode cX0_personAt 18 = .ok (.iconst 0, 1) := dk_3 (dk_at dksX0_personAt_0 18 rfl rfl)
theorem dX0_personAt_19 : decode cX0_personAt 19 = .ok (.ireturn, 1) := dk_172 (dk_at dksX0_personAt_0 19 rfl rfl)
abbrev cX0_holds : ByteArray := method_23_code
def yX0_holds : MethodName := ⟨RX0, "holds", "(LKeygrove;II[J)I"⟩
def dkwX0_holds_1 : List UInt8 := [3, 172]
abbrev dktX0_holds_1 : List UInt8 := dkwX0_holds_1 ++ []
def dkwX0_holds_0 : List UInt8 := [45, 3, 42, 27, 28, 182, 0, 83, 153, 0, 7, 10, 167, 0, 4, 9, 80, 167, 0, 7, 58, 4, 4, 172]
abbrev dktX0_holds_0 : List UInt8 := dkwX0_holds_0 ++ dktX0_holds_1
theorem dksX0_holds_0 : cX0_holds.data.toList.drop 0 = dktX0_holds_0 := by decide +kernel
theorem dksX0_holds_1 : cX0_holds.data.toList.drop 24 = dktX0_holds_1 := dk_seg dksX0_holds_0 24 rfl rfl
theorem dX0_holds_0 : decode cX0_holds 0 = .ok (.aload_n 3, 1) := dk_45 (dk_at dksX0_holds_0 0 rfl rfl)
theorem dX0_holds_1 : decode cX0_holds 1 = .ok (.iconst 0, 1) := dk_3 (dk_at dksX0_holds_0 1 rfl rfl)
theorem dX0_holds_2 : decode cX0_holds 2 = .ok (.aload_n 0, 1) := dk_42 (dk_at dksX0_holds_0 2 rfl rfl)
theorem dX0_holds_3 : decode cX0_holds 3 = .ok (.iload_n 1, 1) := dk_27 (dk_at dksX0_holds_0 3 rfl rfl)
theorem dX0_holds_4 : decode cX0_holds 4 = .ok (.iload_n 2, 1) := dk_28 (dk_at dksX0_holds_0 4 rfl rfl)
theorem dX0_holds_5 : decode cX0_holds 5 = .ok (.invokevirtual 83, 3) := dk_182 0 83 (dk_at dksX0_holds_0 5 rfl rfl)
theorem dX0_holds_8 : decode cX0_holds 8 = .ok (.ifCond .eq 7, 3) := dk_153 0 7 (dk_at dksX0_holds_0 8 rfl rfl)
theorem dX0_holds_11 : decode cX0_holds 11 = .ok (.lconst 1, 1) := dk_10 (dk_at dksX0_holds_0 11 rfl rfl)
theorem dX0_holds_12 : decode cX0_holds 12 = .ok (.goto 4, 3) := dk_167 0 4 (dk_at dksX0_holds_0 12 rfl rfl)
theorem dX0_holds_15 : decode cX0_holds 15 = .ok (.lconst 0, 1) := dk_9 (dk_at dksX0_holds_0 15 rfl rfl)
theorem dX0_holds_16 : decode cX0_holds 16 = .ok (.lastore, 1) := dk_80 (dk_at dksX0_holds_0 16 rfl rfl)
theorem dX0_holds_17 : decode cX0_holds 17 = .ok (.goto 7, 3) := dk_167 0 7 (dk_at dksX0_holds_0 17 rfl rfl)
theorem dX0_holds_20 : decode cX0_holds 20 = .ok (.astore 4, 2) := dk_58 4 (dk_at dksX0_holds_0 20 rfl rfl)
theorem dX0_holds_22 : decode cX0_holds 22 = .ok (.iconst 1, 1) := dk_4 (dk_at dksX0_holds_0 22 rfl rfl)
theorem dX0_holds_23 : decode cX0_holds 23 = .ok (.ireturn, 1) := dk_172 (dk_at dksX0_holds_0 23 rfl rfl)
theorem dX0_holds_24 : decode cX0_holds 24 = .ok (.iconst 0, 1) := dk_3 (dk_at dksX0_holds_1 0 rfl rfl)
theorem dX0_holds_25 : decode cX0_holds 25 = .ok (.ireturn, 1) := dk_172 (dk_at dksX0_holds_1 1 rfl rfl)
abbrev cX0_key : ByteArray := method_24_code
def yX0_key : MethodName := ⟨RX0, "key", "(LKeygrove;I[J)I"⟩
def dkwX0_key_0 : List UInt8 := [44, 3, 42, 27, 182, 0, 86, 133, 80, 167, 0, 9, 78, 4, 172, 78, 5, 172, 3, 172]
abbrev dktX0_key_0 : List UInt8 := dkwX0_key_0 ++ []
theorem dksX0_key_0 : cX0_key.data.toList.drop 0 = dktX0_key_0 := by decide +kernel
theorem dX0_key_0 : decode cX0_key 0 = .ok (.aload_n 2, 1) := dk_44 (dk_at dksX0_key_0 0 rfl rfl)
theorem dX0_key_1 : decode cX0_key 1 = .ok (.iconst 0, 1) := dk_3 (dk_at dksX0_key_0 1 rfl rfl)
theorem dX0_key_2 : decode cX0_key 2 = .ok (.aload_n 0, 1) := dk_42 (dk_at dksX0_key_0 2 rfl rfl)
theorem dX0_key_3 : decode cX0_key 3 = .ok (.iload_n 1, 1) := dk_27 (dk_at dksX0_key_0 3 rfl rfl)
theorem dX0_key_4 : decode cX0_key 4 = .ok (.invokevirtual 86, 3) := dk_182 0 86 (dk_at dksX0_key_0 4 rfl rfl)
theorem dX0_key_7 : decode cX0_key 7 = .ok (.i2l, 1) := dk_133 (dk_at dksX0_key_0 7 rfl rfl)
theorem dX0_key_8 : decode cX0_key 8 = .ok (.lastore, 1) := dk_80 (dk_at dksX0_key_0 8 rfl rfl)
theorem dX0_key_9 : decode cX0_key 9 = .ok (.goto 9, 3) := dk_167 0 9 (dk_at dksX0_key_0 9 rfl rfl)
theorem dX0_key_12 : decode cX0_key 12 = .ok (.astore_n 3, 1) := dk_78 (dk_at dksX0_key_0 12 rfl rfl)
theorem dX0_key_13 : decode cX0_key 13 = .ok (.iconst 1, 1) := dk_4 (dk_at dksX0_key_0 13 rfl rfl)
theorem dX0_key_14 : decode cX0_key 14 = .ok (.ireturn, 1) := dk_172 (dk_at dksX0_key_0 14 rfl rfl)
theorem dX0_key_15 : decode cX0_key 15 = .ok (.astore_n 3, 1) := dk_78 (dk_at dksX0_key_0 15 rfl rfl)
theorem dX0_key_16 : decode cX0_key 16 = .ok (.iconst 2, 1) := dk_5 (dk_at dksX0_key_0 16 rfl rfl)
theorem dX0_key_17 : decode cX0_key 17 = .ok (.ireturn, 1) := dk_172 (dk_at dksX0_key_0 17 rfl rfl)
theorem dX0_key_18 : decode cX0_key 18 = .ok (.iconst 0, 1) := dk_3 (dk_at dksX0_key_0 18 rfl rfl)
theorem dX0_key_19 : decode cX0_key 19 = .ok (.ireturn, 1) := dk_172 (dk_at dksX0_key_0 19 rfl rfl)
abbrev cX0_held : ByteArray := method_25_code
def yX0_held : MethodName := ⟨RX0, "held", "(LKeygrove;I[J)I"⟩
def dkwX0_held_0 : List UInt8 := [44, 3, 42, 27, 182, 0, 89, 133, 80, 167, 0, 6, 78, 4, 172, 3, 172]
abbrev dktX0_held_0 : List UInt8 := dkwX0_held_0 ++ []
theorem dksX0_held_0 : cX0_held.data.toList.drop 0 = dktX0_held_0 := by decide +kernel
theorem dX0_held_0 : decode cX0_held 0 = .ok (.aload_n 2, 1) := dk_44 (dk_at dksX0_held_0 0 rfl rfl)
theorem dX0_held_1 : decode cX0_held 1 = .ok (.iconst 0, 1) := dk_3 (dk_at dksX0_held_0 1 rfl rfl)
theorem dX0_held_2 : decode cX0_held 2 = .ok (.aload_n 0, 1) := dk_42 (dk_at dksX0_held_0 2 rfl rfl)
theorem dX0_held_3 : decode cX0_held 3 = .ok (.iload_n 1, 1) := dk_27 (dk_at dksX0_held_0 3 rfl rfl)
theorem dX0_held_4 : decode cX0_held 4 = .ok (.invokevirtual 89, 3) := dk_182 0 89 (dk_at dksX0_held_0 4 rfl rfl)
theorem dX0_held_7 : decode cX0_held 7 = .ok (.i2l, 1) := dk_133 (dk_at dksX0_held_0 7 rfl rfl)
theorem dX0_held_8 : decode cX0_held 8 = .ok (.lastore, 1) := dk_80 (dk_at dksX0_held_0 8 rfl rfl)
theorem dX0_held_9 : decode cX0_held 9 = .ok (.goto 6, 3) := dk_167 0 6 (dk_at dksX0_held_0 9 rfl rfl)
theorem dX0_held_12 : decode cX0_held 12 = .ok (.astore_n 3, 1) := dk_78 (dk_at dksX0_held_0 12 rfl rfl)
theorem dX0_held_13 : decode cX0_held 13 = .ok (.iconst 1, 1) := dk_4 (dk_at dksX0_held_0 13 rfl rfl)
theorem dX0_held_14 : decode cX0_held 14 = .ok (.ireturn, 1) := dk_172 (dk_at dksX0_held_0 14 rfl rfl)
theorem dX0_held_15 : decode cX0_held 15 = .ok (.iconst 0, 1) := dk_3 (dk_at dksX0_held_0 15 rfl rfl)
theorem dX0_held_16 : decode cX0_held 16 = .ok (.ireturn, 1) := dk_172 (dk_at dksX0_held_0 16 rfl rfl)
abbrev cX0_send : ByteArray := method_26_code
def yX0_send : MethodName := ⟨RX0, "send", "(LKeygrove;I[J)I"⟩
def dkwX0_send_0 : List UInt8 := [44, 3, 42, 27, 182, 0, 92, 133, 80, 167, 0, 12, 78, 4, 172, 78, 5, 172, 78, 6, 172, 3, 172]
abbrev dktX0_send_0 : List UInt8 := dkwX0_send_0 ++ []
theorem dksX0_send_0 : cX0_send.data.toList.drop 0 = dktX0_send_0 := by decide +kernel
theorem dX0_send_0 : decode cX0_send 0 = .ok (.aload_n 2, 1) := dk_44 (dk_at dksX0_send_0 0 rfl rfl)
theorem dX0_send_1 : decode cX0_send 1 = .ok (.iconst 0, 1) := dk_3 (dk_at dksX0_send_0 1 rfl rfl)
theorem dX0_send_2 : decode cX0_send 2 = .ok (.aload_n 0, 1) := dk_42 (dk_at dksX0_send_0 2 rfl rfl)
theorem dX0_send_3 : decode cX0_send 3 = .ok (.iload_n 1, 1) := dk_27 (dk_at dksX0_send_0 3 rfl rfl)
theorem dX0_send_4 : decode cX0_send 4 = .ok (.invokevirtual 92, 3) := dk_182 0 92 (dk_at dksX0_send_0 4 rfl rfl)
theorem dX0_send_7 : decode cX0_send 7 = .ok (.i2l, 1) := dk_133 (dk_at dksX0_send_0 7 rfl rfl)
theorem dX0_send_8 : decode cX0_send 8 = .ok (.lastore, 1) := dk_80 (dk_at dksX0_send_0 8 rfl rfl)
theorem dX0_send_9 : decode cX0_send 9 = .ok (.goto 12, 3) := dk_167 0 12 (dk_at dksX0_send_0 9 rfl rfl)
theorem dX0_send_12 : decode cX0_send 12 = .ok (.astore_n 3, 1) := dk_78 (dk_at dksX0_send_0 12 rfl rfl)
theorem dX0_send_13 : decode cX0_send 13 = .ok (.iconst 1, 1) := dk_4 (dk_at dksX0_send_0 13 rfl rfl)
theorem dX0_send_14 : decode cX0_send 14 = .ok (.ireturn, 1) := dk_172 (dk_at dksX0_send_0 14 rfl rfl)
theorem dX0_send_15 : decode cX0_send 15 = .ok (.astore_n 3, 1) := dk_78 (dk_at dksX0_send_0 15 rfl rfl)
theorem dX0_send_16 : decode cX0_send 16 = .ok (.iconst 2, 1) := dk_5 (dk_at dksX0_send_0 16 rfl rfl)
theorem dX0_send_17 : decode cX0_send 17 = .ok (.ireturn, 1) := dk_172 (dk_at dksX0_send_0 17 rfl rfl)
theorem dX0_send_18 : decode cX0_send 18 = .ok (.astore_n 3, 1) := dk_78 (dk_at dksX0_send_0 18 rfl rfl)
theorem dX0_send_19 : decode cX0_send 19 = .ok (.iconst 3, 1) := dk_6 (dk_at dksX0_send_0 19 rfl rfl)
theorem dX0_send_20 : decode cX0_send 20 = .ok (.ireturn, 1) := dk_172 (dk_at dksX0_send_0 20 rfl rfl)
theorem dX0_send_21 : decode cX0_send 21 = .ok (.iconst 0, 1) := dk_3 (dk_at dksX0_send_0 21 rfl rfl)
theorem dX0_send_22 : decode cX0_send 22 = .ok (.ireturn, 1) := dk_172 (dk_at dksX0_send_0 22 rfl rfl)
abbrev cX0_read : ByteArray := method_27_code
def yX0_read : MethodName := ⟨RX0, "read", "(LKeygrove;II[J)I"⟩
def dkwX0_read_1 : List UInt8 := [172, 3, 172]
abbrev dktX0_read_1 : List UInt8 := dkwX0_read_1 ++ []
def dkwX0_read_0 : List UInt8 := [45, 3, 42, 27, 28, 182, 0, 95, 133, 80, 167, 0, 15, 58, 4, 4, 172, 58, 4, 5, 172, 58, 4, 6]
abbrev dktX0_read_0 : List UInt8 := dkwX0_read_0 ++ dktX0_read_1
theorem dksX0_read_0 : cX0_read.data.toList.drop 0 = dktX0_read_0 := by decide +kernel
theorem dksX0_read_1 : cX0_read.data.toList.drop 24 = dktX0_read_1 := dk_seg dksX0_read_0 24 rfl rfl
theorem dX0_read_0 : decode cX0_read 0 = .ok (.aload_n 3, 1) := dk_45 (dk_at dksX0_read_0 0 rfl rfl)
theorem dX0_read_1 : decode cX0_read 1 = .ok (.iconst 0, 1) := dk_3 (dk_at dksX0_read_0 1 rfl rfl)
theorem dX0_read_2 : decode cX0_read 2 = .ok (.aload_n 0, 1) := dk_42 (dk_at dksX0_read_0 2 rfl rfl)
theorem dX0_read_3 : decode cX0_read 3 = .ok (.iload_n 1, 1) := dk_27 (dk_at dksX0_read_0 3 rfl rfl)
theorem dX0_read_4 : decode cX0_read 4 = .ok (.iload_n 2, 1) := dk_28 (dk_at dksX0_read_0 4 rfl rfl)
theorem dX0_read_5 : decode cX0_read 5 = .ok (.invokevirtual 95, 3) := dk_182 0 95 (dk_at dksX0_read_0 5 rfl rfl)
theorem dX0_read_8 : decode cX0_read 8 = .ok (.i2l, 1) := dk_133 (dk_at dksX0_read_0 8 rfl rfl)
theorem dX0_read_9 : decode cX0_read 9 = .ok (.lastore, 1) := dk_80 (dk_at dksX0_read_0 9 rfl rfl)
theorem dX0_read_10 : decode cX0_read 10 = .ok (.goto 15, 3) := dk_167 0 15 (dk_at dksX0_read_0 10 rfl rfl)
theorem dX0_read_13 : decode cX0_read 13 = .ok (.astore 4, 2) := dk_58 4 (dk_at dksX0_read_0 13 rfl rfl)
theorem dX0_read_15 : decode cX0_read 15 = .ok (.iconst 1, 1) := dk_4 (dk_at dksX0_read_0 15 rfl rfl)
theorem dX0_read_16 : decode cX0_read 16 = .ok (.ireturn, 1) := dk_172 (dk_at dksX0_read_0 16 rfl rfl)
theorem dX0_read_17 : decode cX0_read 17 = .ok (.astore 4, 2) := dk_58 4 (dk_at dksX0_read_0 17 rfl rfl)
theorem dX0_read_19 : decode cX0_read 19 = .ok (.iconst 2, 1) := dk_5 (dk_at dksX0_read_0 19 rfl rfl)
theorem dX0_read_20 : decode cX0_read 20 = .ok (.ireturn, 1) := dk_172 (dk_at dksX0_read_0 20 rfl rfl)
theorem dX0_read_21 : decode cX0_read 21 = .ok (.astore 4, 2) := dk_58 4 (dk_at dksX0_read_0 21 rfl rfl)
theorem dX0_read_23 : decode cX0_read 23 = .ok (.iconst 3, 1) := dk_6 (dk_at dksX0_read_0 23 rfl rfl)
theorem dX0_read_24 : decode cX0_read 24 = .ok (.ireturn, 1) := dk_172 (dk_at dksX0_read_1 0 rfl rfl)
theorem dX0_read_25 : decode cX0_read 25 = .ok (.iconst 0, 1) := dk_3 (dk_at dksX0_read_1 1 rfl rfl)
theorem dX0_read_26 : decode cX0_read 26 = .ok (.ireturn, 1) := dk_172 (dk_at dksX0_read_1 2 rfl rfl)
abbrev cX0_messageOf : ByteArray := method_28_code
def yX0_messageOf : MethodName := ⟨RX0, "messageOf", "(LKeygrove;IC[J)I"⟩
def dkwX0_messageOf_0 : List UInt8 := [45, 3, 42, 27, 28, 182, 0, 98, 133, 80, 167, 0, 11, 58, 4, 4, 172, 58, 4, 5, 172, 3, 172]
abbrev dktX0_messageOf_0 : List UInt8 := dkwX0_messageOf_0 ++ []
theorem dksX0_messageOf_0 : cX0_messageOf.data.toList.drop 0 = dktX0_messageOf_0 := by decide +kernel
theorem dX0_messageOf_0 : decode cX0_messageOf 0 = .ok (.aload_n 3, 1) := dk_45 (dk_at dksX0_messageOf_0 0 rfl rfl)
theorem dX0_messageOf_1 : decode cX0_messageOf 1 = .ok (.iconst 0, 1) := dk_3 (dk_at dksX0_messageOf_0 1 rfl rfl)
theorem dX0_messageOf_2 : decode cX0_messageOf 2 = .ok (.aload_n 0, 1) := dk_42 (dk_at dksX0_messageOf_0 2 rfl rfl)
theorem dX0_messageOf_3 : decode cX0_messageOf 3 = .ok (.iload_n 1, 1) := dk_27 (dk_at dksX0_messageOf_0 3 rfl rfl)
theorem dX0_messageOf_4 : decode cX0_messageOf 4 = .ok (.iload_n 2, 1) := dk_28 (dk_at dksX0_messageOf_0 4 rfl rfl)
theorem dX0_messageOf_5 : decode cX0_messageOf 5 = .ok (.invokevirtual 98, 3) := dk_182 0 98 (dk_at dksX0_messageOf_0 5 rfl rfl)
theorem dX0_messageOf_8 : decode cX0_messageOf 8 = .ok (.i2l, 1) := dk_133 (dk_at dksX0_messageOf_0 8 rfl rfl)
theorem dX0_messageOf_9 : decode cX0_messageOf 9 = .ok (.lastore, 1) := dk_80 (dk_at dksX0_messageOf_0 9 rfl rfl)
theorem dX0_messageOf_10 : decode cX0_messageOf 10 = .ok (.goto 11, 3) := dk_167 0 11 (dk_at dksX0_messageOf_0 10 rfl rfl)
theorem dX0_messageOf_13 : decode cX0_messageOf 13 = .ok (.astore 4, 2) := dk_58 4 (dk_at dksX0_messageOf_0 13 rfl rfl)
theorem dX0_messageOf_15 : decode cX0_messageOf 15 = .ok (.iconst 1, 1) := dk_4 (dk_at dksX0_messageOf_0 15 rfl rfl)
theorem dX0_messageOf_16 : decode cX0_messageOf 16 = .ok (.ireturn, 1) := dk_172 (dk_at dksX0_messageOf_0 16 rfl rfl)
theorem dX0_messageOf_17 : decode cX0_messageOf 17 = .ok (.astore 4, 2) := dk_58 4 (dk_at dksX0_messageOf_0 17 rfl rfl)
theorem dX0_messageOf_19 : decode cX0_messageOf 19 = .ok (.iconst 2, 1) := dk_5 (dk_at dksX0_messageOf_0 19 rfl rfl)
theorem dX0_messageOf_20 : decode cX0_messageOf 20 = .ok (.ireturn, 1) := dk_172 (dk_at dksX0_messageOf_0 20 rfl rfl)
theorem dX0_messageOf_21 : decode cX0_messageOf 21 = .ok (.iconst 0, 1) := dk_3 (dk_at dksX0_messageOf_0 21 rfl rfl)
theorem dX0_messageOf_22 : decode cX0_messageOf 22 = .ok (.ireturn, 1) := dk_172 (dk_at dksX0_messageOf_0 22 rfl rfl)
abbrev cX0_steal : ByteArray := method_29_code
def yX0_steal : MethodName := ⟨RX0, "steal", "(LKeygrove;I[J)I"⟩
def dkwX0_steal_0 : List UInt8 := [44, 3, 42, 27, 182, 0, 104, 133, 80, 167, 0, 6, 78, 4, 172, 3, 172]
abbrev dktX0_steal_0 : List UInt8 := dkwX0_steal_0 ++ []
theorem dksX0_steal_0 : cX0_steal.data.toList.drop 0 = dktX0_steal_0 := by decide +kernel
theorem dX0_steal_0 : decode cX0_steal 0 = .ok (.aload_n 2, 1) := dk_44 (dk_at dksX0_steal_0 0 rfl rfl)
theorem dX0_steal_1 : decode cX0_steal 1 = .ok (.iconst 0, 1) := dk_3 (dk_at dksX0_steal_0 1 rfl rfl)
theorem dX0_steal_2 : decode cX0_steal 2 = .ok (.aload_n 0, 1) := dk_42 (dk_at dksX0_steal_0 2 rfl rfl)
theorem dX0_steal_3 : decode cX0_steal 3 = .ok (.iload_n 1, 1) := dk_27 (dk_at dksX0_steal_0 3 rfl rfl)
theorem dX0_steal_4 : decode cX0_steal 4 = .ok (.invokevirtual 104, 3) := dk_182 0 104 (dk_at dksX0_steal_0 4 rfl rfl)
theorem dX0_steal_7 : decode cX0_steal 7 = .ok (.i2l, 1) := dk_133 (dk_at dksX0_steal_0 7 rfl rfl)
theorem dX0_steal_8 : decode cX0_steal 8 = .ok (.lastore, 1) := dk_80 (dk_at dksX0_steal_0 8 rfl rfl)
theorem dX0_steal_9 : decode cX0_steal 9 = .ok (.goto 6, 3) := dk_167 0 6 (dk_at dksX0_steal_0 9 rfl rfl)
theorem dX0_steal_12 : decode cX0_steal 12 = .ok (.astore_n 3, 1) := dk_78 (dk_at dksX0_steal_0 12 rfl rfl)
theorem dX0_steal_13 : decode cX0_steal 13 = .ok (.iconst 1, 1) := dk_4 (dk_at dksX0_steal_0 13 rfl rfl)
theorem dX0_steal_14 : decode cX0_steal 14 = .ok (.ireturn, 1) := dk_172 (dk_at dksX0_steal_0 14 rfl rfl)
theorem dX0_steal_15 : decode cX0_steal 15 = .ok (.iconst 0, 1) := dk_3 (dk_at dksX0_steal_0 15 rfl rfl)
theorem dX0_steal_16 : decode cX0_steal 16 = .ok (.ireturn, 1) := dk_172 (dk_at dksX0_steal_0 16 rfl rfl)
abbrev cX0_finds : ByteArray := method_30_code
def yX0_finds : MethodName := ⟨RX0, "finds", "(LKeygrove;I[J)I"⟩
def dkwX0_finds_0 : List UInt8 := [44, 3, 42, 27, 182, 0, 107, 153, 0, 7, 10, 167, 0, 4, 9, 80, 167, 0, 6, 78, 4, 172, 3, 172]
abbrev dktX0_finds_0 : List UInt8 := dkwX0_finds_0 ++ []
theorem dksX0_finds_0 : cX0_finds.data.toList.drop 0 = dktX0_finds_0 := by decide +kernel
theorem dX0_finds_0 : decode cX0_finds 0 = .ok (.aload_n 2, 1) := dk_44 (dk_at dksX0_finds_0 0 rfl rfl)
theorem dX0_finds_1 : decode cX0_finds 1 = .ok (.iconst 0, 1) := dk_3 (dk_at dksX0_finds_0 1 rfl rfl)
theorem dX0_finds_2 : decode cX0_finds 2 = .ok (.aload_n 0, 1) := dk_42 (dk_at dksX0_finds_0 2 rfl rfl)
theorem dX0_finds_3 : decode cX0_finds 3 = .ok (.iload_n 1, 1) := dk_27 (dk_at dksX0_finds_0 3 rfl rfl)
theorem dX0_finds_4 : decode cX0_finds 4 = .ok (.invokevirtual 107, 3) := dk_182 0 107 (dk_at dksX0_finds_0 4 rfl rfl)
theorem dX0_finds_7 : decode cX0_finds 7 = .ok (.ifCond .eq 7, 3) := dk_153 0 7 (dk_at dksX0_finds_0 7 rfl rfl)
theorem dX0_finds_10 : decode cX0_finds 10 = .ok (.lconst 1, 1) := dk_10 (dk_at dksX0_finds_0 10 rfl rfl)
theorem dX0_finds_11 : decode cX0_finds 11 = .ok (.goto 4, 3) := dk_167 0 4 (dk_at dksX0_finds_0 11 rfl rfl)
theorem dX0_finds_14 : decode cX0_finds 14 = .ok (.lconst 0, 1) := dk_9 (dk_at dksX0_finds_0 14 rfl rfl)
theorem dX0_finds_15 : decode cX0_finds 15 = .ok (.lastore, 1) := dk_80 (dk_at dksX0_finds_0 15 rfl rfl)
theorem dX0_finds_16 : decode cX0_finds 16 = .ok (.goto 6, 3) := dk_167 0 6 (dk_at dksX0_finds_0 16 rfl rfl)
theorem dX0_finds_19 : decode cX0_finds 19 = .ok (.astore_n 3, 1) := dk_78 (dk_at dksX0_finds_0 19 rfl rfl)
theorem dX0_finds_20 : decode cX0_finds 20 = .ok (.iconst 1, 1) := dk_4 (dk_at dksX0_finds_0 20 rfl rfl)
theorem dX0_finds_21 : decode cX0_finds 21 = .ok (.ireturn, 1) := dk_172 (dk_at dksX0_finds_0 21 rfl rfl)
theorem dX0_finds_22 : decode cX0_finds 22 = .ok (.iconst 0, 1) := dk_3 (dk_at dksX0_finds_0 22 rfl rfl)
theorem dX0_finds_23 : decode cX0_finds 23 = .ok (.ireturn, 1) := dk_172 (dk_at dksX0_finds_0 23 rfl rfl)
abbrev cX0_findsText : ByteArray := method_31_code
def yX0_findsText : MethodName := ⟨RX0, "findsText", "(LKeygrove;I[J)I"⟩
def dkwX0_findsText_0 : List UInt8 := [44, 3, 42, 27, 182, 0, 110, 153, 0, 7, 10, 167, 0, 4, 9, 80, 167, 0, 6, 78, 4, 172, 3, 172]
abbrev dktX0_findsText_0 : List UInt8 := dkwX0_findsText_0 ++ []
theorem dksX0_findsText_0 : cX0_findsText.data.toList.drop 0 = dktX0_findsText_0 := by decide +kernel
theorem dX0_findsText_0 : decode cX0_findsText 0 = .ok (.aload_n 2, 1) := dk_44 (dk_at dksX0_findsText_0 0 rfl rfl)
theorem dX0_findsText_1 : decode cX0_findsText 1 = .ok (.iconst 0, 1) := dk_3 (dk_at dksX0_findsText_0 1 rfl rfl)
theorem dX0_findsText_2 : decode cX0_findsText 2 = .ok (.aload_n 0, 1) := dk_42 (dk_at dksX0_findsText_0 2 rfl rfl)
theorem dX0_findsText_3 : decode cX0_findsText 3 = .ok (.iload_n 1, 1) := dk_27 (dk_at dksX0_findsText_0 3 rfl rfl)
theorem dX0_findsText_4 : decode cX0_findsText 4 = .ok (.invokevirtual 110, 3) := dk_182 0 110 (dk_at dksX0_findsText_0 4 rfl rfl)
theorem dX0_findsText_7 : decode cX0_findsText 7 = .ok (.ifCond .eq 7, 3) := dk_153 0 7 (dk_at dksX0_findsText_0 7 rfl rfl)
theorem dX0_findsText_10 : decode cX0_findsText 10 = .ok (.lconst 1, 1) := dk_10 (dk_at dksX0_findsText_0 10 rfl rfl)
theorem dX0_findsText_11 : decode cX0_findsText 11 = .ok (.goto 4, 3) := dk_167 0 4 (dk_at dksX0_findsText_0 11 rfl rfl)
theorem dX0_findsText_14 : decode cX0_findsText 14 = .ok (.lconst 0, 1) := dk_9 (dk_at dksX0_findsText_0 14 rfl rfl)
theorem dX0_findsText_15 : decode cX0_findsText 15 = .ok (.lastore, 1) := dk_80 (dk_at dksX0_findsText_0 15 rfl rfl)
theorem dX0_findsText_16 : decode cX0_findsText 16 = .ok (.goto 6, 3) := dk_167 0 6 (dk_at dksX0_findsText_0 16 rfl rfl)
theorem dX0_findsText_19 : decode cX0_findsText 19 = .ok (.astore_n 3, 1) := dk_78 (dk_at dksX0_findsText_0 19 rfl rfl)
theorem dX0_findsText_20 : decode cX0_findsText 20 = .ok (.iconst 1, 1) := dk_4 (dk_at dksX0_findsText_0 20 rfl rfl)
theorem dX0_findsText_21 : decode cX0_findsText 21 = .ok (.ireturn, 1) := dk_172 (dk_at dksX0_findsText_0 21 rfl rfl)
theorem dX0_findsText_22 : decode cX0_findsText 22 = .ok (.iconst 0, 1) := dk_3 (dk_at dksX0_findsText_0 22 rfl rfl)
theorem dX0_findsText_23 : decode cX0_findsText 23 = .ok (.ireturn, 1) := dk_172 (dk_at dksX0_findsText_0 23 rfl rfl)
abbrev cX0_canFind : ByteArray := method_32_code
def yX0_canFind : MethodName := ⟨RX0, "canFind", "(LKeygrove;IIZ[J)I"⟩
def dkwX0_canFind_1 : List UInt8 := [4, 172, 3, 172]
abbrev dktX0_canFind_1 : List UInt8 := dkwX0_canFind_1 ++ []
def dkwX0_canFind_0 : List UInt8 := [25, 4, 3, 42, 27, 28, 29, 182, 0, 113, 153, 0, 7, 10, 167, 0, 4, 9, 80, 167, 0, 7, 58, 5]
abbrev dktX0_canFind_0 : List UInt8 := dkwX0_canFind_0 ++ dktX0_canFind_1
theorem dksX0_canFind_0 : cX0_canFind.data.toList.drop 0 = dktX0_canFind_0 := by decide +kernel
theorem dksX0_canFind_1 : cX0_canFind.data.toList.drop 24 = dktX0_canFind_1 := dk_seg dksX0_canFind_0 24 rfl rfl
theorem dX0_canFind_0 : decode cX0_canFind 0 = .ok (.aload 4, 2) := dk_25 4 (dk_at dksX0_canFind_0 0 rfl rfl)
theorem dX0_canFind_2 : decode cX0_canFind 2 = .ok (.iconst 0, 1) := dk_3 (dk_at dksX0_canFind_0 2 rfl rfl)
theorem dX0_canFind_3 : decode cX0_canFind 3 = .ok (.aload_n 0, 1) := dk_42 (dk_at dksX0_canFind_0 3 rfl rfl)
theorem dX0_canFind_4 : decode cX0_canFind 4 = .ok (.iload_n 1, 1) := dk_27 (dk_at dksX0_canFind_0 4 rfl rfl)
theorem dX0_canFind_5 : decode cX0_canFind 5 = .ok (.iload_n 2, 1) := dk_28 (dk_at dksX0_canFind_0 5 rfl rfl)
theorem dX0_canFind_6 : decode cX0_canFind 6 = .ok (.iload_n 3, 1) := dk_29 (dk_at dksX0_canFind_0 6 rfl rfl)
theorem dX0_canFind_7 : decode cX0_canFind 7 = .ok (.invokevirtual 113, 3) := dk_182 0 113 (dk_at dksX0_canFind_0 7 rfl rfl)
theorem dX0_canFind_10 : decode cX0_canFind 10 = .ok (.ifCond .eq 7, 3) := dk_153 0 7 (dk_at dksX0_canFind_0 10 rfl rfl)
theorem dX0_canFind_13 : decode cX0_canFind 13 = .ok (.lconst 1, 1) := dk_10 (dk_at dksX0_canFind_0 13 rfl rfl)
theorem dX0_canFind_14 : decode cX0_canFind 14 = .ok (.goto 4, 3) := dk_167 0 4 (dk_at dksX0_canFind_0 14 rfl rfl)
theorem dX0_canFind_17 : decode cX0_canFind 17 = .ok (.lconst 0, 1) := dk_9 (dk_at dksX0_canFind_0 17 rfl rfl)
theorem dX0_canFind_18 : decode cX0_canFind 18 = .ok (.lastore, 1) := dk_80 (dk_at dksX0_canFind_0 18 rfl rfl)
theorem dX0_canFind_19 : decode cX0_canFind 19 = .ok (.goto 7, 3) := dk_167 0 7 (dk_at dksX0_canFind_0 19 rfl rfl)
theorem dX0_canFind_22 : decode cX0_canFind 22 = .ok (.astore 5, 2) := dk_58 5 (dk_at dksX0_canFind_0 22 rfl rfl)
theorem dX0_canFind_24 : decode cX0_canFind 24 = .ok (.iconst 1, 1) := dk_4 (dk_at dksX0_canFind_1 0 rfl rfl)
theorem dX0_canFind_25 : decode cX0_canFind 25 = .ok (.ireturn, 1) := dk_172 (dk_at dksX0_canFind_1 1 rfl rfl)
theorem dX0_canFind_26 : decode cX0_canFind 26 = .ok (.iconst 0, 1) := dk_3 (dk_at dksX0_canFind_1 2 rfl rfl)
theorem dX0_canFind_27 : decode cX0_canFind 27 = .ok (.ireturn, 1) := dk_172 (dk_at dksX0_canFind_1 3 rfl rfl)
abbrev cX0_canRead : ByteArray := method_33_code
def yX0_canRead : MethodName := ⟨RX0, "canRead", "(LKeygrove;II[J)I"⟩
def dkwX0_canRead_1 : List UInt8 := [3, 172]
abbrev dktX0_canRead_1 : List UInt8 := dkwX0_canRead_1 ++ []
def dkwX0_canRead_0 : List UInt8 := [45, 3, 42, 27, 28, 182, 0, 117, 153, 0, 7, 10, 167, 0, 4, 9, 80, 167, 0, 7, 58, 4, 4, 172]
abbrev dktX0_canRead_0 : List UInt8 := dkwX0_canRead_0 ++ dktX0_canRead_1
theorem dksX0_canRead_0 : cX0_canRead.data.toList.drop 0 = dktX0_canRead_0 := by decide +kernel
theorem dksX0_canRead_1 : cX0_canRead.data.toList.drop 24 = dktX0_canRead_1 := dk_seg dksX0_canRead_0 24 rfl rfl
theorem dX0_canRead_0 : decode cX0_canRead 0 = .ok (.aload_n 3, 1) := dk_45 (dk_at dksX0_canRead_0 0 rfl rfl)
theorem dX0_canRead_1 : decode cX0_canRead 1 = .ok (.iconst 0, 1) := dk_3 (dk_at dksX0_canRead_0 1 rfl rfl)
theorem dX0_canRead_2 : decode cX0_canRead 2 = .ok (.aload_n 0, 1) := dk_42 (dk_at dksX0_canRead_0 2 rfl rfl)
theorem dX0_canRead_3 : decode cX0_canRead 3 = .ok (.iload_n 1, 1) := dk_27 (dk_at dksX0_canRead_0 3 rfl rfl)
theorem dX0_canRead_4 : decode cX0_canRead 4 = .ok (.iload_n 2, 1) := dk_28 (dk_at dksX0_canRead_0 4 rfl rfl)
theorem dX0_canRead_5 : decode cX0_canRead 5 = .ok (.invokevirtual 117, 3) := dk_182 0 117 (dk_at dksX0_canRead_0 5 rfl rfl)
theorem dX0_canRead_8 : decode cX0_canRead 8 = .ok (.ifCond .eq 7, 3) := dk_153 0 7 (dk_at dksX0_canRead_0 8 rfl rfl)
theorem dX0_canRead_11 : decode cX0_canRead 11 = .ok (.lconst 1, 1) := dk_10 (dk_at dksX0_canRead_0 11 rfl rfl)
theorem dX0_canRead_12 : decode cX0_canRead 12 = .ok (.goto 4, 3) := dk_167 0 4 (dk_at dksX0_canRead_0 12 rfl rfl)
theorem dX0_canRead_15 : decode cX0_canRead 15 = .ok (.lconst 0, 1) := dk_9 (dk_at dksX0_canRead_0 15 rfl rfl)
theorem dX0_canRead_16 : decode cX0_canRead 16 = .ok (.lastore, 1) := dk_80 (dk_at dksX0_canRead_0 16 rfl rfl)
theorem dX0_canRead_17 : decode cX0_canRead 17 = .ok (.goto 7, 3) := dk_167 0 7 (dk_at dksX0_canRead_0 17 rfl rfl)
theorem dX0_canRead_20 : decode cX0_canRead 20 = .ok (.astore 4, 2) := dk_58 4 (dk_at dksX0_canRead_0 20 rfl rfl)
theorem dX0_canRead_22 : decode cX0_canRead 22 = .ok (.iconst 1, 1) := dk_4 (dk_at dksX0_canRead_0 22 rfl rfl)
theorem dX0_canRead_23 : decode cX0_canRead 23 = .ok (.ireturn, 1) := dk_172 (dk_at dksX0_canRead_0 23 rfl rfl)
theorem dX0_canRead_24 : decode cX0_canRead 24 = .ok (.iconst 0, 1) := dk_3 (dk_at dksX0_canRead_1 0 rfl rfl)
theorem dX0_canRead_25 : decode cX0_canRead 25 = .ok (.ireturn, 1) := dk_172 (dk_at dksX0_canRead_1 1 rfl rfl)
abbrev cX0_blankShare : ByteArray := method_34_code
def yX0_blankShare : MethodName := ⟨RX0, "blankShare", "(LKeygrove;[D)I"⟩
def dkwX0_blankShare_0 : List UInt8 := [43, 3, 42, 182, 0, 120, 141, 82, 167, 0, 6, 77, 4, 172, 3, 172]
abbrev dktX0_blankShare_0 : List UInt8 := dkwX0_blankShare_0 ++ []
theorem dksX0_blankShare_0 : cX0_blankShare.data.toList.drop 0 = dktX0_blankShare_0 := by decide +kernel
theorem dX0_blankShare_0 : decode cX0_blankShare 0 = .ok (.aload_n 1, 1) := dk_43 (dk_at dksX0_blankShare_0 0 rfl rfl)
theorem dX0_blankShare_1 : decode cX0_blankShare 1 = .ok (.iconst 0, 1) := dk_3 (dk_at dksX0_blankShare_0 1 rfl rfl)
theorem dX0_blankShare_2 : decode cX0_blankShare 2 = .ok (.aload_n 0, 1) := dk_42 (dk_at dksX0_blankShare_0 2 rfl rfl)
theorem dX0_blankShare_3 : decode cX0_blankShare 3 = .ok (.invokevirtual 120, 3) := dk_182 0 120 (dk_at dksX0_blankShare_0 3 rfl rfl)
theorem dX0_blankShare_6 : decode cX0_blankShare 6 = .ok (.f2d, 1) := dk_141 (dk_at dksX0_blankShare_0 6 rfl rfl)
theorem dX0_blankShare_7 : decode cX0_blankShare 7 = .ok (.dastore, 1) := dk_82 (dk_at dksX0_blankShare_0 7 rfl rfl)
theorem dX0_blankShare_8 : decode cX0_blankShare 8 = .ok (.goto 6, 3) := dk_167 0 6 (dk_at dksX0_blankShare_0 8 rfl rfl)
theorem dX0_blankShare_11 : decode cX0_blankShare 11 = .ok (.astore_n 2, 1) := dk_77 (dk_at dksX0_blankShare_0 11 rfl rfl)
theorem dX0_blankShare_12 : decode cX0_blankShare 12 = .ok (.iconst 1, 1) := dk_4 (dk_at dksX0_blankShare_0 12 rfl rfl)
theorem dX0_blankShare_13 : decode cX0_blankShare 13 = .ok (.ireturn, 1) := dk_172 (dk_at dksX0_blankShare_0 13 rfl rfl)
theorem dX0_blankShare_14 : decode cX0_blankShare 14 = .ok (.iconst 0, 1) := dk_3 (dk_at dksX0_blankShare_0 14 rfl rfl)
theorem dX0_blankShare_15 : decode cX0_blankShare 15 = .ok (.ireturn, 1) := dk_172 (dk_at dksX0_blankShare_0 15 rfl rfl)
abbrev cX0_meanBoxes : ByteArray := method_35_code
def yX0_meanBoxes : MethodName := ⟨RX0, "meanBoxes", "(LKeygrove;[D)I"⟩
def dkwX0_meanBoxes_0 : List UInt8 := [43, 3, 42, 182, 0, 126, 82, 167, 0, 6, 77, 4, 172, 3, 172]
abbrev dktX0_meanBoxes_0 : List UInt8 := dkwX0_meanBoxes_0 ++ []
theorem dksX0_meanBoxes_0 : cX0_meanBoxes.data.toList.drop 0 = dktX0_meanBoxes_0 := by decide +kernel
theorem dX0_meanBoxes_0 : decode cX0_meanBoxes 0 = .ok (.aload_n 1, 1) := dk_43 (dk_at dksX0_meanBoxes_0 0 rfl rfl)
theorem dX0_meanBoxes_1 : decode cX0_meanBoxes 1 = .ok (.iconst 0, 1) := dk_3 (dk_at dksX0_meanBoxes_0 1 rfl rfl)
theorem dX0_meanBoxes_2 : decode cX0_meanBoxes 2 = .ok (.aload_n 0, 1) := dk_42 (dk_at dksX0_meanBoxes_0 2 rfl rfl)
theorem dX0_meanBoxes_3 : decode cX0_meanBoxes 3 = .ok (.invokevirtual 126, 3) := dk_182 0 126 (dk_at dksX0_meanBoxes_0 3 rfl rfl)
theorem dX0_meanBoxes_6 : decode cX0_meanBoxes 6 = .ok (.dastore, 1) := dk_82 (dk_at dksX0_meanBoxes_0 6 rfl rfl)
theorem dX0_meanBoxes_7 : decode cX0_meanBoxes 7 = .ok (.goto 6, 3) := dk_167 0 6 (dk_at dksX0_meanBoxes_0 7 rfl rfl)
theorem dX0_meanBoxes_10 : decode cX0_meanBoxes 10 = .ok (.astore_n 2, 1) := dk_77 (dk_at dksX0_meanBoxes_0 10 rfl rfl)
theorem dX0_meanBoxes_11 : decode cX0_meanBoxes 11 = .ok (.iconst 1, 1) := dk_4 (dk_at dksX0_meanBoxes_0 11 rfl rfl)
theorem dX0_meanBoxes_12 : decode cX0_meanBoxes 12 = .ok (.ireturn, 1) := dk_172 (dk_at dksX0_meanBoxes_0 12 rfl rfl)
theorem dX0_meanBoxes_13 : decode cX0_meanBoxes 13 = .ok (.iconst 0, 1) := dk_3 (dk_at dksX0_meanBoxes_0 13 rfl rfl)
theorem dX0_meanBoxes_14 : decode cX0_meanBoxes 14 = .ok (.ireturn, 1) := dk_172 (dk_at dksX0_meanBoxes_0 14 rfl rfl)
theorem q76 : (Jvm.Cond.initialized "KeygroveLaw") ∈ lw_all := lw_g (lw_at lw_m1 0 rfl) rfl
theorem q151 : (Jvm.Cond.classLink "KeygroveLaw" (8 : Nat) "Keygrove") ∈ lw_all := lw_g (lw_at lw_m1 75 rfl) rfl
theorem q153 : (Jvm.Cond.methodLink "KeygroveLaw" (130 : Nat) ({ cls := "Keygrove", name := "<init>", desc := "()V" } : Jvm.MethodName)) ∈ lw_all := lw_g (lw_at lw_m1 77 rfl) rfl
theorem q306 : (Jvm.Cond.methodLink "KeygroveLaw" (150 : Nat) ({ cls := "Keygrove", name := "seed", desc := "(I)I" } : Jvm.MethodName)) ∈ lw_all := lw_g (lw_at lw_m1 230 rfl) rfl
theorem q310 : (Jvm.Cond.methodLink "KeygroveLaw" (176 : Nat) ({ cls := "Keygrove", name := "proposals", desc := "()I" } : Jvm.MethodName)) ∈ lw_all := lw_g (lw_at lw_m1 234 rfl) rfl
theorem q324 : (Jvm.Cond.methodLink "KeygroveLaw" (216 : Nat) ({ cls := "Keygrove", name := "boxes", desc := "()I" } : Jvm.MethodName)) ∈ lw_all := lw_g (lw_at lw_m2 8 rfl) rfl
theorem q328 : (Jvm.Cond.methodLink "KeygroveLaw" (242 : Nat) ({ cls := "Keygrove", name := "found", desc := "()I" } : Jvm.MethodName)) ∈ lw_all := lw_g (lw_at lw_m2 12 rfl) rfl
theorem q1114 : (Jvm.Cond.methodLink "KeygroveLaw" (260 : Nat) ({ cls := "Keygrove", name := "checksum", desc := "()J" } : Jvm.MethodName)) ∈ lw_all := lw_g (lw_at lw_m5 78 rfl) rfl
theorem q1212 : (Jvm.Cond.methodLink "KeygroveLaw" (265 : Nat) ({ cls := "Keygrove", name := "isSound", desc := "()Z" } : Jvm.MethodName)) ∈ lw_all := lw_g (lw_at lw_m5 176 rfl) rfl
theorem q1831 : (Jvm.Cond.methodLink "KeygroveLaw" (134 : Nat) ({ cls := "KeygroveLaw", name := "person", desc := "(LKeygrove;[J)I" } : Jvm.MethodName)) ∈ lw_all := lw_g (lw_at lw_m8 75 rfl) rfl
theorem q1832 : (Jvm.Cond.static ({ cls := "KeygroveLaw", name := "person", desc := "(LKeygrove;[J)I" } : Jvm.MethodName)) ∈ lw_all := lw_g (lw_at lw_m8 76 rfl) rfl
theorem q1833 : (Jvm.Cond.codeWith ({ cls := "KeygroveLaw", name := "person", desc := "(LKeygrove;[J)I" } : Jvm.MethodName) method_3_code (3 : Nat) (Option.some Jvm.ClassFile.FieldType.int) [((0 : Nat), (8 : Nat), (11 : Nat), (13 : Nat))]) ∈ lw_all := lw_g (lw_at lw_m8 77 rfl) rfl
theorem q1834 : (Jvm.Cond.classLink "KeygroveLaw" (13 : Nat) "java/lang/IllegalStateException") ∈ lw_all := lw_g (lw_at lw_m8 78 rfl) rfl
theorem q1835 : (Jvm.Cond.methodLink "KeygroveLaw" (7 : Nat) ({ cls := "Keygrove", name := "person", desc := "()I" } : Jvm.MethodName)) ∈ lw_all := lw_g (lw_at lw_m8 79 rfl) rfl
theorem q1938 : (Jvm.Cond.methodLink "KeygroveLaw" (143 : Nat) ({ cls := "KeygroveLaw", name := "pack", desc := "(LKeygrove;I[J)I" } : Jvm.MethodName)) ∈ lw_all := lw_g (lw_at lw_m8 182 rfl) rfl
theorem q1939 : (Jvm.Cond.static ({ cls := "KeygroveLaw", name := "pack", desc := "(LKeygrove;I[J)I" } : Jvm.MethodName)) ∈ lw_all := lw_g (lw_at lw_m8 183 rfl) rfl
theorem q1940 : (Jvm.Cond.codeWith ({ cls := "KeygroveLaw", name := "pack", desc := "(LKeygrove;I[J)I" } : Jvm.MethodName) method_4_code (4 : Nat) (Option.some Jvm.ClassFile.FieldType.int) [((0 : Nat), (9 : Nat), (12 : Nat), (19 : Nat)), ((0 : Nat), (9 : Nat), (15 : Nat), (13 : Nat))]) ∈ lw_all := lw_g (lw_at lw_m8 184 rfl) rfl
theorem q1941 : (Jvm.Cond.classLink "KeygroveLaw" (19 : Nat) "java/lang/IndexOutOfBoundsException") ∈ lw_all := lw_g (lw_at lw_m8 185 rfl) rfl
theorem q1957 : (Jvm.Cond.methodLink "KeygroveLaw" (15 : Nat) ({ cls := "Keygrove", name := "pack", desc := "(I)I" } : Jvm.MethodName)) ∈ lw_all := lw_g (lw_at lw_m8 201 rfl) rfl
theorem q2023 : (Jvm.Cond.methodLink "KeygroveLaw" (147 : Nat) ({ cls := "KeygroveLaw", name := "create", desc := "(LKeygrove;I[J)I" } : Jvm.MethodName)) ∈ lw_all := lw_g (lw_at lw_m9 27 rfl) rfl
theorem q2024 : (Jvm.Cond.static ({ cls := "KeygroveLaw", name := "create", desc := "(LKeygrove;I[J)I" } : Jvm.MethodName)) ∈ lw_all := lw_g (lw_at lw_m9 28 rfl) rfl
theorem q2025 : (Jvm.Cond.codeWith ({ cls := "KeygroveLaw", name := "create", desc := "(LKeygrove;I[J)I" } : Jvm.MethodName) method_5_code (4 : Nat) (Option.some Jvm.ClassFile.FieldType.int) [((0 : Nat), (9 : Nat), (12 : Nat), (19 : Nat)), ((0 : Nat), (9 : Nat), (15 : Nat), (13 : Nat))]) ∈ lw_all := lw_g (lw_at lw_m9 29 rfl) rfl
theorem q2026 : (Jvm.Cond.methodLink "KeygroveLaw" (21 : Nat) ({ cls := "Keygrove", name := "create", desc := "(I)I" } : Jvm.MethodName)) ∈ lw_all := lw_g (lw_at lw_m9 30 rfl) rfl
theorem q2319 : (Jvm.Cond.methodLink "KeygroveLaw" (154 : Nat) ({ cls := "KeygroveLaw", name := "epoch", desc := "(LKeygrove;[J)I" } : Jvm.MethodName)) ∈ lw_all := lw_g (lw_at lw_m10 83 rfl) rfl
theorem q2320 : (Jvm.Cond.static ({ cls := "KeygroveLaw", name := "epoch", desc := "(LKeygrove;[J)I" } : Jvm.MethodName)) ∈ lw_all := lw_g (lw_at lw_m10 84 rfl) rfl
theorem q2321 : (Jvm.Cond.codeWith ({ cls := "KeygroveLaw", name := "epoch", desc := "(LKeygrove;[J)I" } : Jvm.MethodName) method_6_code (3 : Nat) (Option.some Jvm.ClassFile.FieldType.int) [((0 : Nat), (8 : Nat), (11 : Nat), (27 : Nat))]) ∈ lw_all := lw_g (lw_at lw_m10 85 rfl) rfl
theorem q2322 : (Jvm.Cond.classLink "KeygroveLaw" (27 : Nat) "java/lang/UnsupportedOperationException") ∈ lw_all := lw_g (lw_at lw_m10 86 rfl) rfl
theorem q2323 : (Jvm.Cond.methodLink "KeygroveLaw" (24 : Nat) ({ cls := "Keygrove", name := "epoch", desc := "()I" } : Jvm.MethodName)) ∈ lw_all := lw_g (lw_at lw_m10 87 rfl) rfl
theorem q2349 : (Jvm.Cond.methodLink "KeygroveLaw" (157 : Nat) ({ cls := "KeygroveLaw", name := "epochOf", desc := "(LKeygrove;I[J)I" } : Jvm.MethodName)) ∈ lw_all := lw_g (lw_at lw_m10 113 rfl) rfl
theorem q2350 : (Jvm.Cond.static ({ cls := "KeygroveLaw", name := "epochOf", desc := "(LKeygrove;I[J)I" } : Jvm.MethodName)) ∈ lw_all := lw_g (lw_at lw_m10 114 rfl) rfl
theorem q2351 : (Jvm.Cond.codeWith ({ cls := "KeygroveLaw", name := "epochOf", desc := "(LKeygrove;I[J)I" } : Jvm.MethodName) method_7_code (4 : Nat) (Option.some Jvm.ClassFile.FieldType.int) [((0 : Nat), (9 : Nat), (12 : Nat), (19 : Nat)), ((0 : Nat), (9 : Nat), (15 : Nat), (32 : Nat))]) ∈ lw_all := lw_g (lw_at lw_m10 115 rfl) rfl
theorem q2352 : (Jvm.Cond.classLink "KeygroveLaw" (32 : Nat) "java/util/NoSuchElementException") ∈ lw_all := lw_g (lw_at lw_m10 116 rfl) rfl
theorem q2353 : (Jvm.Cond.methodLink "KeygroveLaw" (29 : Nat) ({ cls := "Keygrove", name := "epochOf", desc := "(I)I" } : Jvm.MethodName)) ∈ lw_all := lw_g (lw_at lw_m10 117 rfl) rfl
theorem q2362 : (Jvm.Cond.methodLink "KeygroveLaw" (160 : Nat) ({ cls := "KeygroveLaw", name := "leafOf", desc := "(LKeygrove;I[J)I" } : Jvm.MethodName)) ∈ lw_all := lw_g (lw_at lw_m10 126 rfl) rfl
theorem q2363 : (Jvm.Cond.static ({ cls := "KeygroveLaw", name := "leafOf", desc := "(LKeygrove;I[J)I" } : Jvm.MethodName)) ∈ lw_all := lw_g (lw_at lw_m10 127 rfl) rfl
theorem q2364 : (Jvm.Cond.codeWith ({ cls := "KeygroveLaw", name := "leafOf", desc := "(LKeygrove;I[J)I" } : Jvm.MethodName) method_8_code (4 : Nat) (Option.some Jvm.ClassFile.FieldType.int) [((0 : Nat), (9 : Nat), (12 : Nat), (19 : Nat)), ((0 : Nat), (9 : Nat), (15 : Nat), (32 : Nat))]) ∈ lw_all := lw_g (lw_at lw_m10 128 rfl) rfl
theorem q2365 : (Jvm.Cond.methodLink "KeygroveLaw" (34 : Nat) ({ cls := "Keygrove", name := "leafOf", desc := "(I)I" } : Jvm.MethodName)) ∈ lw_all := lw_g (lw_at lw_m10 129 rfl) rfl
theorem q2369 : (Jvm.Cond.methodLink "KeygroveLaw" (163 : Nat) ({ cls := "KeygroveLaw", name := "isMember", desc := "(LKeygrove;II[J)I" } : Jvm.MethodName)) ∈ lw_all := lw_g (lw_at lw_m10 133 rfl) rfl
theorem q2370 : (Jvm.Cond.static ({ cls := "KeygroveLaw", name := "isMember", desc := "(LKeygrove;II[J)I" } : Jvm.MethodName)) ∈ lw_all := lw_g (lw_at lw_m10 134 rfl) rfl
theorem q2371 : (Jvm.Cond.codeWith ({ cls := "KeygroveLaw", name := "isMember", desc := "(LKeygrove;II[J)I" } : Jvm.MethodName) method_9_code (5 : Nat) (Option.some Jvm.ClassFile.FieldType.int) [((0 : Nat), (17 : Nat), (20 : Nat), (19 : Nat))]) ∈ lw_all := lw_g (lw_at lw_m10 135 rfl) rfl
theorem q2372 : (Jvm.Cond.methodLink "KeygroveLaw" (37 : Nat) ({ cls := "Keygrove", name := "isMember", desc := "(II)Z" } : Jvm.MethodName)) ∈ lw_all := lw_g (lw_at lw_m10 136 rfl) rfl
theorem q2380 : (Jvm.Cond.methodLink "KeygroveLaw" (167 : Nat) ({ cls := "KeygroveLaw", name := "add", desc := "(LKeygrove;II[J)I" } : Jvm.MethodName)) ∈ lw_all := lw_g (lw_at lw_m10 144 rfl) rfl
theorem q2381 : (Jvm.Cond.static ({ cls := "KeygroveLaw", name := "add", desc := "(LKeygrove;II[J)I" } : Jvm.MethodName)) ∈ lw_all := lw_g (lw_at lw_m10 145 rfl) rfl
theorem q2382 : (Jvm.Cond.codeWith ({ cls := "KeygroveLaw", name := "add", desc := "(LKeygrove;II[J)I" } : Jvm.MethodName) method_10_code (5 : Nat) (Option.some Jvm.ClassFile.FieldType.int) [((0 : Nat), (10 : Nat), (13 : Nat), (19 : Nat)), ((0 : Nat), (10 : Nat), (17 : Nat), (27 : Nat)), ((0 : Nat), (10 : Nat), (21 : Nat), (13 : Nat))]) ∈ lw_all := lw_g (lw_at lw_m10 146 rfl) rfl
theorem q2383 : (Jvm.Cond.methodLink "KeygroveLaw" (41 : Nat) ({ cls := "Keygrove", name := "add", desc := "(II)I" } : Jvm.MethodName)) ∈ lw_all := lw_g (lw_at lw_m10 147 rfl) rfl
theorem q2410 : (Jvm.Cond.methodLink "KeygroveLaw" (170 : Nat) ({ cls := "KeygroveLaw", name := "remove", desc := "(LKeygrove;II[J)I" } : Jvm.MethodName)) ∈ lw_all := lw_g (lw_at lw_m10 174 rfl) rfl
theorem q2411 : (Jvm.Cond.static ({ cls := "KeygroveLaw", name := "remove", desc := "(LKeygrove;II[J)I" } : Jvm.MethodName)) ∈ lw_all := lw_g (lw_at lw_m10 175 rfl) rfl
theorem q2412 : (Jvm.Cond.codeWith ({ cls := "KeygroveLaw", name := "remove", desc := "(LKeygrove;II[J)I" } : Jvm.MethodName) method_11_code (5 : Nat) (Option.some Jvm.ClassFile.FieldType.int) [((0 : Nat), (10 : Nat), (13 : Nat), (19 : Nat)), ((0 : Nat), (10 : Nat), (17 : Nat), (27 : Nat)), ((0 : Nat), (10 : Nat), (21 : Nat), (13 : Nat))]) ∈ lw_all := lw_g (lw_at lw_m10 176 rfl) rfl
theorem q2413 : (Jvm.Cond.methodLink "KeygroveLaw" (45 : Nat) ({ cls := "Keygrove", name := "remove", desc := "(II)I" } : Jvm.MethodName)) ∈ lw_all := lw_g (lw_at lw_m10 177 rfl) rfl
theorem q2432 : (Jvm.Cond.methodLink "KeygroveLaw" (173 : Nat) ({ cls := "KeygroveLaw", name := "renew", desc := "(LKeygrove;I[J)I" } : Jvm.MethodName)) ∈ lw_all := lw_g (lw_at lw_m10 196 rfl) rfl
theorem q2433 : (Jvm.Cond.static ({ cls := "KeygroveLaw", name := "renew", desc := "(LKeygrove;I[J)I" } : Jvm.MethodName)) ∈ lw_all := lw_g (lw_at lw_m10 197 rfl) rfl
theorem q2434 : (Jvm.Cond.codeWith ({ cls := "KeygroveLaw", name := "renew", desc := "(LKeygrove;I[J)I" } : Jvm.MethodName) method_12_code (4 : Nat) (Option.some Jvm.ClassFile.FieldType.int) [((0 : Nat), (9 : Nat), (12 : Nat), (19 : Nat)), ((0 : Nat), (9 : Nat), (15 : Nat), (27 : Nat)), ((0 : Nat), (9 : Nat), (18 : Nat), (13 : Nat))]) ∈ lw_all := lw_g (lw_at lw_m10 198 rfl) rfl
theorem q2435 : (Jvm.Cond.methodLink "KeygroveLaw" (48 : Nat) ({ cls := "Keygrove", name := "renew", desc := "(I)I" } : Jvm.MethodName)) ∈ lw_all := lw_g (lw_at lw_m10 199 rfl) rfl
theorem q2454 : (Jvm.Cond.methodLink "KeygroveLaw" (180 : Nat) ({ cls := "KeygroveLaw", name := "proposal", desc := "(LKeygrove;I[J)I" } : Jvm.MethodName)) ∈ lw_all := lw_g (lw_at lw_m10 218 rfl) rfl
theorem q2455 : (Jvm.Cond.static ({ cls := "KeygroveLaw", name := "proposal", desc := "(LKeygrove;I[J)I" } : Jvm.MethodName)) ∈ lw_all := lw_g (lw_at lw_m10 219 rfl) rfl
theorem q2456 : (Jvm.Cond.codeWith ({ cls := "KeygroveLaw", name := "proposal", desc := "(LKeygrove;I[J)I" } : Jvm.MethodName) method_13_code (4 : Nat) (Option.some Jvm.ClassFile.FieldType.int) [((0 : Nat), (9 : Nat), (12 : Nat), (32 : Nat))]) ∈ lw_all := lw_g (lw_at lw_m10 220 rfl) rfl
theorem q2457 : (Jvm.Cond.methodLink "KeygroveLaw" (51 : Nat) ({ cls := "Keygrove", name := "proposal", desc := "(I)C" } : Jvm.MethodName)) ∈ lw_all := lw_g (lw_at lw_m10 221 rfl) rfl
theorem q2473 : (Jvm.Cond.methodLink "KeygroveLaw" (183 : Nat) ({ cls := "KeygroveLaw", name := "commit", desc := "(LKeygrove;I[J)I" } : Jvm.MethodName)) ∈ lw_all := lw_g (lw_at lw_m10 237 rfl) rfl
theorem q2474 : (Jvm.Cond.static ({ cls := "KeygroveLaw", name := "commit", desc := "(LKeygrove;I[J)I" } : Jvm.MethodName)) ∈ lw_all := lw_g (lw_at lw_m10 238 rfl) rfl
theorem q2475 : (Jvm.Cond.codeWith ({ cls := "KeygroveLaw", name := "commit", desc := "(LKeygrove;I[J)I" } : Jvm.MethodName) method_14_code (4 : Nat) (Option.some Jvm.ClassFile.FieldType.int) [((0 : Nat), (9 : Nat), (12 : Nat), (19 : Nat)), ((0 : Nat), (9 : Nat), (15 : Nat), (27 : Nat)), ((0 : Nat), (9 : Nat), (18 : Nat), (13 : Nat))]) ∈ lw_all := lw_g (lw_at lw_m10 239 rfl) rfl
theorem q2476 : (Jvm.Cond.methodLink "KeygroveLaw" (55 : Nat) ({ cls := "Keygrove", name := "commit", desc := "(I)I" } : Jvm.MethodName)) ∈ lw_all := lw_g (lw_at lw_m11 0 rfl) rfl
theorem q2750 : (Jvm.Cond.methodLink "KeygroveLaw" (186 : Nat) ({ cls := "KeygroveLaw", name := "goOn", desc := "(LKeygrove;I[J)I" } : Jvm.MethodName)) ∈ lw_all := lw_g (lw_at lw_m12 34 rfl) rfl
theorem q2751 : (Jvm.Cond.static ({ cls := "KeygroveLaw", name := "goOn", desc := "(LKeygrove;I[J)I" } : Jvm.MethodName)) ∈ lw_all := lw_g (lw_at lw_m12 35 rfl) rfl
theorem q2752 : (Jvm.Cond.codeWith ({ cls := "KeygroveLaw", name := "goOn", desc := "(LKeygrove;I[J)I" } : Jvm.MethodName) method_15_code (4 : Nat) (Option.some Jvm.ClassFile.FieldType.int) [((0 : Nat), (9 : Nat), (12 : Nat), (19 : Nat)), ((0 : Nat), (9 : Nat), (15 : Nat), (27 : Nat))]) ∈ lw_all := lw_g (lw_at lw_m12 36 rfl) rfl
theorem q2753 : (Jvm.Cond.methodLink "KeygroveLaw" (58 : Nat) ({ cls := "Keygrove", name := "goOn", desc := "(I)C" } : Jvm.MethodName)) ∈ lw_all := lw_g (lw_at lw_m12 37 rfl) rfl
theorem q2772 : (Jvm.Cond.methodLink "KeygroveLaw" (189 : Nat) ({ cls := "KeygroveLaw", name := "join", desc := "(LKeygrove;I[J)I" } : Jvm.MethodName)) ∈ lw_all := lw_g (lw_at lw_m12 56 rfl) rfl
theorem q2773 : (Jvm.Cond.static ({ cls := "KeygroveLaw", name := "join", desc := "(LKeygrove;I[J)I" } : Jvm.MethodName)) ∈ lw_all := lw_g (lw_at lw_m12 57 rfl) rfl
theorem q2774 : (Jvm.Cond.codeWith ({ cls := "KeygroveLaw", name := "join", desc := "(LKeygrove;I[J)I" } : Jvm.MethodName) method_16_code (4 : Nat) (Option.some Jvm.ClassFile.FieldType.int) [((0 : Nat), (9 : Nat), (12 : Nat), (19 : Nat)), ((0 : Nat), (9 : Nat), (15 : Nat), (32 : Nat))]) ∈ lw_all := lw_g (lw_at lw_m12 58 rfl) rfl
theorem q2775 : (Jvm.Cond.methodLink "KeygroveLaw" (61 : Nat) ({ cls := "Keygrove", name := "join", desc := "(I)I" } : Jvm.MethodName)) ∈ lw_all := lw_g (lw_at lw_m12 59 rfl) rfl
theorem q2793 : (Jvm.Cond.methodLink "KeygroveLaw" (192 : Nat) ({ cls := "KeygroveLaw", name := "leaves", desc := "(LKeygrove;[J)I" } : Jvm.MethodName)) ∈ lw_all := lw_g (lw_at lw_m12 77 rfl) rfl
theorem q2794 : (Jvm.Cond.static ({ cls := "KeygroveLaw", name := "leaves", desc := "(LKeygrove;[J)I" } : Jvm.MethodName)) ∈ lw_all := lw_g (lw_at lw_m12 78 rfl) rfl
theorem q2795 : (Jvm.Cond.codeWith ({ cls := "KeygroveLaw", name := "leaves", desc := "(LKeygrove;[J)I" } : Jvm.MethodName) method_17_code (3 : Nat) (Option.some Jvm.ClassFile.FieldType.int) [((0 : Nat), (8 : Nat), (11 : Nat), (27 : Nat))]) ∈ lw_all := lw_g (lw_at lw_m12 79 rfl) rfl
theorem q2796 : (Jvm.Cond.methodLink "KeygroveLaw" (64 : Nat) ({ cls := "Keygrove", name := "leaves", desc := "()I" } : Jvm.MethodName)) ∈ lw_all := lw_g (lw_at lw_m12 80 rfl) rfl
theorem q2800 : (Jvm.Cond.methodLink "KeygroveLaw" (195 : Nat) ({ cls := "KeygroveLaw", name := "isBlank", desc := "(LKeygrove;I[J)I" } : Jvm.MethodName)) ∈ lw_all := lw_g (lw_at lw_m12 84 rfl) rfl
theorem q2801 : (Jvm.Cond.static ({ cls := "KeygroveLaw", name := "isBlank", desc := "(LKeygrove;I[J)I" } : Jvm.MethodName)) ∈ lw_all := lw_g (lw_at lw_m12 85 rfl) rfl
theorem q2802 : (Jvm.Cond.codeWith ({ cls := "KeygroveLaw", name := "isBlank", desc := "(LKeygrove;I[J)I" } : Jvm.MethodName) method_18_code (4 : Nat) (Option.some Jvm.ClassFile.FieldType.int) [((0 : Nat), (16 : Nat), (19 : Nat), (19 : Nat))]) ∈ lw_all := lw_g (lw_at lw_m12 86 rfl) rfl
theorem q2803 : (Jvm.Cond.methodLink "KeygroveLaw" (67 : Nat) ({ cls := "Keygrove", name := "isBlank", desc := "(I)Z" } : Jvm.MethodName)) ∈ lw_all := lw_g (lw_at lw_m12 87 rfl) rfl
theorem q2811 : (Jvm.Cond.methodLink "KeygroveLaw" (198 : Nat) ({ cls := "KeygroveLaw", name := "late", desc := "(LKeygrove;I[J)I" } : Jvm.MethodName)) ∈ lw_all := lw_g (lw_at lw_m12 95 rfl) rfl
theorem q2812 : (Jvm.Cond.static ({ cls := "KeygroveLaw", name := "late", desc := "(LKeygrove;I[J)I" } : Jvm.MethodName)) ∈ lw_all := lw_g (lw_at lw_m12 96 rfl) rfl
theorem q2813 : (Jvm.Cond.codeWith ({ cls := "KeygroveLaw", name := "late", desc := "(LKeygrove;I[J)I" } : Jvm.MethodName) method_19_code (4 : Nat) (Option.some Jvm.ClassFile.FieldType.int) [((0 : Nat), (9 : Nat), (12 : Nat), (19 : Nat))]) ∈ lw_all := lw_g (lw_at lw_m12 97 rfl) rfl
theorem q2814 : (Jvm.Cond.methodLink "KeygroveLaw" (71 : Nat) ({ cls := "Keygrove", name := "late", desc := "(I)I" } : Jvm.MethodName)) ∈ lw_all := lw_g (lw_at lw_m12 98 rfl) rfl
theorem q2818 : (Jvm.Cond.methodLink "KeygroveLaw" (201 : Nat) ({ cls := "KeygroveLaw", name := "cover", desc := "(LKeygrove;I[J)I" } : Jvm.MethodName)) ∈ lw_all := lw_g (lw_at lw_m12 102 rfl) rfl
theorem q2819 : (Jvm.Cond.static ({ cls := "KeygroveLaw", name := "cover", desc := "(LKeygrove;I[J)I" } : Jvm.MethodName)) ∈ lw_all := lw_g (lw_at lw_m12 103 rfl) rfl
theorem q2820 : (Jvm.Cond.codeWith ({ cls := "KeygroveLaw", name := "cover", desc := "(LKeygrove;I[J)I" } : Jvm.MethodName) method_20_code (4 : Nat) (Option.some Jvm.ClassFile.FieldType.int) [((0 : Nat), (9 : Nat), (12 : Nat), (19 : Nat))]) ∈ lw_all := lw_g (lw_at lw_m12 104 rfl) rfl
theorem q2821 : (Jvm.Cond.methodLink "KeygroveLaw" (74 : Nat) ({ cls := "Keygrove", name := "cover", desc := "(I)I" } : Jvm.MethodName)) ∈ lw_all := lw_g (lw_at lw_m12 105 rfl) rfl
theorem q2825 : (Jvm.Cond.methodLink "KeygroveLaw" (204 : Nat) ({ cls := "KeygroveLaw", name := "coverAt", desc := "(LKeygrove;II[J)I" } : Jvm.MethodName)) ∈ lw_all := lw_g (lw_at lw_m12 109 rfl) rfl
theorem q2826 : (Jvm.Cond.static ({ cls := "KeygroveLaw", name := "coverAt", desc := "(LKeygrove;II[J)I" } : Jvm.MethodName)) ∈ lw_all := lw_g (lw_at lw_m12 110 rfl) rfl
theorem q2827 : (Jvm.Cond.codeWith ({ cls := "KeygroveLaw", name := "coverAt", desc := "(LKeygrove;II[J)I" } : Jvm.MethodName) method_21_code (5 : Nat) (Option.some Jvm.ClassFile.FieldType.int) [((0 : Nat), (10 : Nat), (13 : Nat), (19 : Nat)), ((0 : Nat), (10 : Nat), (17 : Nat), (32 : Nat))]) ∈ lw_all := lw_g (lw_at lw_m12 111 rfl) rfl
theorem q2828 : (Jvm.Cond.methodLink "KeygroveLaw" (77 : Nat) ({ cls := "Keygrove", name := "coverAt", desc := "(II)I" } : Jvm.MethodName)) ∈ lw_all := lw_g (lw_at lw_m12 112 rfl) rfl
theorem q2832 : (Jvm.Cond.methodLink "KeygroveLaw" (207 : Nat) ({ cls := "KeygroveLaw", name := "personAt", desc := "(LKeygrove;I[J)I" } : Jvm.MethodName)) ∈ lw_all := lw_g (lw_at lw_m12 116 rfl) rfl
theorem q2833 : (Jvm.Cond.static ({ cls := "KeygroveLaw", name := "personAt", desc := "(LKeygrove;I[J)I" } : Jvm.MethodName)) ∈ lw_all := lw_g (lw_at lw_m12 117 rfl) rfl
theorem q2834 : (Jvm.Cond.codeWith ({ cls := "KeygroveLaw", name := "personAt", desc := "(LKeygrove;I[J)I" } : Jvm.MethodName) method_22_code (4 : Nat) (Option.some Jvm.ClassFile.FieldType.int) [((0 : Nat), (9 : Nat), (12 : Nat), (19 : Nat)), ((0 : Nat), (9 : Nat), (15 : Nat), (32 : Nat))]) ∈ lw_all := lw_g (lw_at lw_m12 118 rfl) rfl
theorem q2835 : (Jvm.Cond.methodLink "KeygroveLaw" (80 : Nat) ({ cls := "Keygrove", name := "personAt", desc := "(I)I" } : Jvm.MethodName)) ∈ lw_all := lw_g (lw_at lw_m12 119 rfl) rfl
theorem q2839 : (Jvm.Cond.methodLink "KeygroveLaw" (210 : Nat) ({ cls := "KeygroveLaw", name := "holds", desc := "(LKeygrove;II[J)I" } : Jvm.MethodName)) ∈ lw_all := lw_g (lw_at lw_m12 123 rfl) rfl
theorem q2840 : (Jvm.Cond.static ({ cls := "KeygroveLaw", name := "holds", desc := "(LKeygrove;II[J)I" } : Jvm.MethodName)) ∈ lw_all := lw_g (lw_at lw_m12 124 rfl) rfl
theorem q2841 : (Jvm.Cond.codeWith ({ cls := "KeygroveLaw", name := "holds", desc := "(LKeygrove;II[J)I" } : Jvm.MethodName) method_23_code (5 : Nat) (Option.some Jvm.ClassFile.FieldType.int) [((0 : Nat), (17 : Nat), (20 : Nat), (19 : Nat))]) ∈ lw_all := lw_g (lw_at lw_m12 125 rfl) rfl
theorem q2842 : (Jvm.Cond.methodLink "KeygroveLaw" (83 : Nat) ({ cls := "Keygrove", name := "holds", desc := "(II)Z" } : Jvm.MethodName)) ∈ lw_all := lw_g (lw_at lw_m12 126 rfl) rfl
theorem q2846 : (Jvm.Cond.methodLink "KeygroveLaw" (213 : Nat) ({ cls := "KeygroveLaw", name := "key", desc := "(LKeygrove;I[J)I" } : Jvm.MethodName)) ∈ lw_all := lw_g (lw_at lw_m12 130 rfl) rfl
theorem q2847 : (Jvm.Cond.static ({ cls := "KeygroveLaw", name := "key", desc := "(LKeygrove;I[J)I" } : Jvm.MethodName)) ∈ lw_all := lw_g (lw_at lw_m12 131 rfl) rfl
theorem q2848 : (Jvm.Cond.codeWith ({ cls := "KeygroveLaw", name := "key", desc := "(LKeygrove;I[J)I" } : Jvm.MethodName) method_24_code (4 : Nat) (Option.some Jvm.ClassFile.FieldType.int) [((0 : Nat), (9 : Nat), (12 : Nat), (19 : Nat)), ((0 : Nat), (9 : Nat), (15 : Nat), (32 : Nat))]) ∈ lw_all := lw_g (lw_at lw_m12 132 rfl) rfl
theorem q2849 : (Jvm.Cond.methodLink "KeygroveLaw" (86 : Nat) ({ cls := "Keygrove", name := "key", desc := "(I)I" } : Jvm.MethodName)) ∈ lw_all := lw_g (lw_at lw_m12 133 rfl) rfl
theorem q2853 : (Jvm.Cond.methodLink "KeygroveLaw" (220 : Nat) ({ cls := "KeygroveLaw", name := "held", desc := "(LKeygrove;I[J)I" } : Jvm.MethodName)) ∈ lw_all := lw_g (lw_at lw_m12 137 rfl) rfl
theorem q2854 : (Jvm.Cond.static ({ cls := "KeygroveLaw", name := "held", desc := "(LKeygrove;I[J)I" } : Jvm.MethodName)) ∈ lw_all := lw_g (lw_at lw_m12 138 rfl) rfl
theorem q2855 : (Jvm.Cond.codeWith ({ cls := "KeygroveLaw", name := "held", desc := "(LKeygrove;I[J)I" } : Jvm.MethodName) method_25_code (4 : Nat) (Option.some Jvm.ClassFile.FieldType.int) [((0 : Nat), (9 : Nat), (12 : Nat), (19 : Nat))]) ∈ lw_all := lw_g (lw_at lw_m12 139 rfl) rfl
theorem q2856 : (Jvm.Cond.methodLink "KeygroveLaw" (89 : Nat) ({ cls := "Keygrove", name := "held", desc := "(I)I" } : Jvm.MethodName)) ∈ lw_all := lw_g (lw_at lw_m12 140 rfl) rfl
theorem q2860 : (Jvm.Cond.methodLink "KeygroveLaw" (223 : Nat) ({ cls := "KeygroveLaw", name := "send", desc := "(LKeygrove;I[J)I" } : Jvm.MethodName)) ∈ lw_all := lw_g (lw_at lw_m12 144 rfl) rfl
theorem q2861 : (Jvm.Cond.static ({ cls := "KeygroveLaw", name := "send", desc := "(LKeygrove;I[J)I" } : Jvm.MethodName)) ∈ lw_all := lw_g (lw_at lw_m12 145 rfl) rfl
theorem q2862 : (Jvm.Cond.codeWith ({ cls := "KeygroveLaw", name := "send", desc := "(LKeygrove;I[J)I" } : Jvm.MethodName) method_26_code (4 : Nat) (Option.some Jvm.ClassFile.FieldType.int) [((0 : Nat), (9 : Nat), (12 : Nat), (19 : Nat)), ((0 : Nat), (9 : Nat), (15 : Nat), (27 : Nat)), ((0 : Nat), (9 : Nat), (18 : Nat), (13 : Nat))]) ∈ lw_all := lw_g (lw_at lw_m12 146 rfl) rfl
theorem q2863 : (Jvm.Cond.methodLink "KeygroveLaw" (92 : Nat) ({ cls := "Keygrove", name := "send", desc := "(I)I" } : Jvm.MethodName)) ∈ lw_all := lw_g (lw_at lw_m12 147 rfl) rfl
theorem q2891 : (Jvm.Cond.methodLink "KeygroveLaw" (226 : Nat) ({ cls := "KeygroveLaw", name := "read", desc := "(LKeygrove;II[J)I" } : Jvm.MethodName)) ∈ lw_all := lw_g (lw_at lw_m12 175 rfl) rfl
theorem q2892 : (Jvm.Cond.static ({ cls := "KeygroveLaw", name := "read", desc := "(LKeygrove;II[J)I" } : Jvm.MethodName)) ∈ lw_all := lw_g (lw_at lw_m12 176 rfl) rfl
theorem q2893 : (Jvm.Cond.codeWith ({ cls := "KeygroveLaw", name := "read", desc := "(LKeygrove;II[J)I" } : Jvm.MethodName) method_27_code (5 : Nat) (Option.some Jvm.ClassFile.FieldType.int) [((0 : Nat), (10 : Nat), (13 : Nat), (19 : Nat)), ((0 : Nat), (10 : Nat), (17 : Nat), (27 : Nat)), ((0 : Nat), (10 : Nat), (21 : Nat), (32 : Nat))]) ∈ lw_all := lw_g (lw_at lw_m12 177 rfl) rfl
theorem q2894 : (Jvm.Cond.methodLink "KeygroveLaw" (95 : Nat) ({ cls := "Keygrove", name := "read", desc := "(II)I" } : Jvm.MethodName)) ∈ lw_all := lw_g (lw_at lw_m12 178 rfl) rfl
theorem q2911 : (Jvm.Cond.methodLink "KeygroveLaw" (229 : Nat) ({ cls := "KeygroveLaw", name := "messageOf", desc := "(LKeygrove;IC[J)I" } : Jvm.MethodName)) ∈ lw_all := lw_g (lw_at lw_m12 195 rfl) rfl
theorem q2912 : (Jvm.Cond.static ({ cls := "KeygroveLaw", name := "messageOf", desc := "(LKeygrove;IC[J)I" } : Jvm.MethodName)) ∈ lw_all := lw_g (lw_at lw_m12 196 rfl) rfl
theorem q2913 : (Jvm.Cond.codeWith ({ cls := "KeygroveLaw", name := "messageOf", desc := "(LKeygrove;IC[J)I" } : Jvm.MethodName) method_28_code (5 : Nat) (Option.some Jvm.ClassFile.FieldType.int) [((0 : Nat), (10 : Nat), (13 : Nat), (19 : Nat)), ((0 : Nat), (10 : Nat), (17 : Nat), (102 : Nat))]) ∈ lw_all := lw_g (lw_at lw_m12 197 rfl) rfl
theorem q2914 : (Jvm.Cond.classLink "KeygroveLaw" (102 : Nat) "java/lang/IllegalArgumentException") ∈ lw_all := lw_g (lw_at lw_m12 198 rfl) rfl
theorem q2915 : (Jvm.Cond.methodLink "KeygroveLaw" (98 : Nat) ({ cls := "Keygrove", name := "messageOf", desc := "(IC)I" } : Jvm.MethodName)) ∈ lw_all := lw_g (lw_at lw_m12 199 rfl) rfl
theorem q2972 : (Jvm.Cond.methodLink "KeygroveLaw" (233 : Nat) ({ cls := "KeygroveLaw", name := "steal", desc := "(LKeygrove;I[J)I" } : Jvm.MethodName)) ∈ lw_all := lw_g (lw_at lw_m13 16 rfl) rfl
theorem q2973 : (Jvm.Cond.static ({ cls := "KeygroveLaw", name := "steal", desc := "(LKeygrove;I[J)I" } : Jvm.MethodName)) ∈ lw_all := lw_g (lw_at lw_m13 17 rfl) rfl
theorem q2974 : (Jvm.Cond.codeWith ({ cls := "KeygroveLaw", name := "steal", desc := "(LKeygrove;I[J)I" } : Jvm.MethodName) method_29_code (4 : Nat) (Option.some Jvm.ClassFile.FieldType.int) [((0 : Nat), (9 : Nat), (12 : Nat), (19 : Nat))]) ∈ lw_all := lw_g (lw_at lw_m13 18 rfl) rfl
theorem q2975 : (Jvm.Cond.methodLink "KeygroveLaw" (104 : Nat) ({ cls := "Keygrove", name := "steal", desc := "(I)I" } : Jvm.MethodName)) ∈ lw_all := lw_g (lw_at lw_m13 19 rfl) rfl
theorem q2988 : (Jvm.Cond.methodLink "KeygroveLaw" (236 : Nat) ({ cls := "KeygroveLaw", name := "finds", desc := "(LKeygrove;I[J)I" } : Jvm.MethodName)) ∈ lw_all := lw_g (lw_at lw_m13 32 rfl) rfl
theorem q2989 : (Jvm.Cond.static ({ cls := "KeygroveLaw", name := "finds", desc := "(LKeygrove;I[J)I" } : Jvm.MethodName)) ∈ lw_all := lw_g (lw_at lw_m13 33 rfl) rfl
theorem q2990 : (Jvm.Cond.codeWith ({ cls := "KeygroveLaw", name := "finds", desc := "(LKeygrove;I[J)I" } : Jvm.MethodName) method_30_code (4 : Nat) (Option.some Jvm.ClassFile.FieldType.int) [((0 : Nat), (16 : Nat), (19 : Nat), (19 : Nat))]) ∈ lw_all := lw_g (lw_at lw_m13 34 rfl) rfl
theorem q2991 : (Jvm.Cond.methodLink "KeygroveLaw" (107 : Nat) ({ cls := "Keygrove", name := "finds", desc := "(I)Z" } : Jvm.MethodName)) ∈ lw_all := lw_g (lw_at lw_m13 35 rfl) rfl
theorem q2995 : (Jvm.Cond.methodLink "KeygroveLaw" (239 : Nat) ({ cls := "KeygroveLaw", name := "findsText", desc := "(LKeygrove;I[J)I" } : Jvm.MethodName)) ∈ lw_all := lw_g (lw_at lw_m13 39 rfl) rfl
theorem q2996 : (Jvm.Cond.static ({ cls := "KeygroveLaw", name := "findsText", desc := "(LKeygrove;I[J)I" } : Jvm.MethodName)) ∈ lw_all := lw_g (lw_at lw_m13 40 rfl) rfl
theorem q2997 : (Jvm.Cond.codeWith ({ cls := "KeygroveLaw", name := "findsText", desc := "(LKeygrove;I[J)I" } : Jvm.MethodName) method_31_code (4 : Nat) (Option.some Jvm.ClassFile.FieldType.int) [((0 : Nat), (16 : Nat), (19 : Nat), (19 : Nat))]) ∈ lw_all := lw_g (lw_at lw_m13 41 rfl) rfl
theorem q2998 : (Jvm.Cond.methodLink "KeygroveLaw" (110 : Nat) ({ cls := "Keygrove", name := "findsText", desc := "(I)Z" } : Jvm.MethodName)) ∈ lw_all := lw_g (lw_at lw_m13 42 rfl) rfl
theorem q3002 : (Jvm.Cond.methodLink "KeygroveLaw" (246 : Nat) ({ cls := "KeygroveLaw", name := "canFind", desc := "(LKeygrove;IIZ[J)I" } : Jvm.MethodName)) ∈ lw_all := lw_g (lw_at lw_m13 46 rfl) rfl
theorem q3003 : (Jvm.Cond.static ({ cls := "KeygroveLaw", name := "canFind", desc := "(LKeygrove;IIZ[J)I" } : Jvm.MethodName)) ∈ lw_all := lw_g (lw_at lw_m13 47 rfl) rfl
theorem q3004 : (Jvm.Cond.codeWith ({ cls := "KeygroveLaw", name := "canFind", desc := "(LKeygrove;IIZ[J)I" } : Jvm.MethodName) method_32_code (6 : Nat) (Option.some Jvm.ClassFile.FieldType.int) [((0 : Nat), (19 : Nat), (22 : Nat), (19 : Nat))]) ∈ lw_all := lw_g (lw_at lw_m13 48 rfl) rfl
theorem q3005 : (Jvm.Cond.methodLink "KeygroveLaw" (113 : Nat) ({ cls := "Keygrove", name := "canFind", desc := "(IIZ)Z" } : Jvm.MethodName)) ∈ lw_all := lw_g (lw_at lw_m13 49 rfl) rfl
theorem q3009 : (Jvm.Cond.methodLink "KeygroveLaw" (250 : Nat) ({ cls := "KeygroveLaw", name := "canRead", desc := "(LKeygrove;II[J)I" } : Jvm.MethodName)) ∈ lw_all := lw_g (lw_at lw_m13 53 rfl) rfl
theorem q3010 : (Jvm.Cond.static ({ cls := "KeygroveLaw", name := "canRead", desc := "(LKeygrove;II[J)I" } : Jvm.MethodName)) ∈ lw_all := lw_g (lw_at lw_m13 54 rfl) rfl
theorem q3011 : (Jvm.Cond.codeWith ({ cls := "KeygroveLaw", name := "canRead", desc := "(LKeygrove;II[J)I" } : Jvm.MethodName) method_33_code (5 : Nat) (Option.some Jvm.ClassFile.FieldType.int) [((0 : Nat), (17 : Nat), (20 : Nat), (19 : Nat))]) ∈ lw_all := lw_g (lw_at lw_m13 55 rfl) rfl
theorem q3012 : (Jvm.Cond.methodLink "KeygroveLaw" (117 : Nat) ({ cls := "Keygrove", name := "canRead", desc := "(II)Z" } : Jvm.MethodName)) ∈ lw_all := lw_g (lw_at lw_m13 56 rfl) rfl
theorem q3016 : (Jvm.Cond.methodLink "KeygroveLaw" (253 : Nat) ({ cls := "KeygroveLaw", name := "blankShare", desc := "(LKeygrove;[D)I" } : Jvm.MethodName)) ∈ lw_all := lw_g (lw_at lw_m13 60 rfl) rfl
theorem q3017 : (Jvm.Cond.static ({ cls := "KeygroveLaw", name := "blankShare", desc := "(LKeygrove;[D)I" } : Jvm.MethodName)) ∈ lw_all := lw_g (lw_at lw_m13 61 rfl) rfl
theorem q3018 : (Jvm.Cond.codeWith ({ cls := "KeygroveLaw", name := "blankShare", desc := "(LKeygrove;[D)I" } : Jvm.MethodName) method_34_code (3 : Nat) (Option.some Jvm.ClassFile.FieldType.int) [((0 : Nat), (8 : Nat), (11 : Nat), (124 : Nat))]) ∈ lw_all := lw_g (lw_at lw_m13 62 rfl) rfl
theorem q3019 : (Jvm.Cond.classLink "KeygroveLaw" (124 : Nat) "java/lang/ArithmeticException") ∈ lw_all := lw_g (lw_at lw_m13 63 rfl) rfl
theorem q3033 : (Jvm.Cond.methodLink "KeygroveLaw" (120 : Nat) ({ cls := "Keygrove", name := "blankShare", desc := "()F" } : Jvm.MethodName)) ∈ lw_all := lw_g (lw_at lw_m13 77 rfl) rfl
theorem q3042 : (Jvm.Cond.methodLink "KeygroveLaw" (257 : Nat) ({ cls := "KeygroveLaw", name := "meanBoxes", desc := "(LKeygrove;[D)I" } : Jvm.MethodName)) ∈ lw_all := lw_g (lw_at lw_m13 86 rfl) rfl
theorem q3043 : (Jvm.Cond.static ({ cls := "KeygroveLaw", name := "meanBoxes", desc := "(LKeygrove;[D)I" } : Jvm.MethodName)) ∈ lw_all := lw_g (lw_at lw_m13 87 rfl) rfl
theorem q3044 : (Jvm.Cond.codeWith ({ cls := "KeygroveLaw", name := "meanBoxes", desc := "(LKeygrove;[D)I" } : Jvm.MethodName) method_35_code (3 : Nat) (Option.some Jvm.ClassFile.FieldType.int) [((0 : Nat), (7 : Nat), (10 : Nat), (124 : Nat))]) ∈ lw_all := lw_g (lw_at lw_m13 88 rfl) rfl
theorem q3045 : (Jvm.Cond.methodLink "KeygroveLaw" (126 : Nat) ({ cls := "Keygrove", name := "meanBoxes", desc := "()D" } : Jvm.MethodName)) ∈ lw_all := lw_g (lw_at lw_m13 89 rfl) rfl
theorem q3049 : (Jvm.Cond.classLink "KeygroveLaw" (131 : Nat) "KeygroveModel") ∈ lw_all := lw_g (lw_at lw_m13 93 rfl) rfl
theorem q3051 : (Jvm.Cond.methodLink "KeygroveLaw" (133 : Nat) ({ cls := "KeygroveModel", name := "<init>", desc := "()V" } : Jvm.MethodName)) ∈ lw_all := lw_g (lw_at lw_m13 95 rfl) rfl
theorem q3094 : (Jvm.Cond.methodLink "KeygroveLaw" (140 : Nat) ({ cls := "KeygroveModel", name := "thrown", desc := "()I" } : Jvm.MethodName)) ∈ lw_all := lw_g (lw_at lw_m13 138 rfl) rfl
theorem q3098 : (Jvm.Cond.methodLink "KeygroveLaw" (139 : Nat) ({ cls := "KeygroveModel", name := "person", desc := "()I" } : Jvm.MethodName)) ∈ lw_all := lw_g (lw_at lw_m13 142 rfl) rfl
theorem q3149 : (Jvm.Cond.methodLink "KeygroveLaw" (146 : Nat) ({ cls := "KeygroveModel", name := "pack", desc := "(I)I" } : Jvm.MethodName)) ∈ lw_all := lw_g (lw_at lw_m13 193 rfl) rfl
theorem q3244 : (Jvm.Cond.methodLink "KeygroveLaw" (149 : Nat) ({ cls := "KeygroveModel", name := "create", desc := "(I)I" } : Jvm.MethodName)) ∈ lw_all := lw_g (lw_at lw_m14 48 rfl) rfl
theorem q3334 : (Jvm.Cond.methodLink "KeygroveLaw" (153 : Nat) ({ cls := "KeygroveModel", name := "seed", desc := "(I)I" } : Jvm.MethodName)) ∈ lw_all := lw_g (lw_at lw_m14 138 rfl) rfl
theorem q3338 : (Jvm.Cond.methodLink "KeygroveLaw" (156 : Nat) ({ cls := "KeygroveModel", name := "epoch", desc := "()I" } : Jvm.MethodName)) ∈ lw_all := lw_g (lw_at lw_m14 142 rfl) rfl
theorem q3342 : (Jvm.Cond.methodLink "KeygroveLaw" (159 : Nat) ({ cls := "KeygroveModel", name := "epochOf", desc := "(I)I" } : Jvm.MethodName)) ∈ lw_all := lw_g (lw_at lw_m14 146 rfl) rfl
theorem q3350 : (Jvm.Cond.methodLink "KeygroveLaw" (162 : Nat) ({ cls := "KeygroveModel", name := "leafOf", desc := "(I)I" } : Jvm.MethodName)) ∈ lw_all := lw_g (lw_at lw_m14 154 rfl) rfl
theorem q3354 : (Jvm.Cond.methodLink "KeygroveLaw" (166 : Nat) ({ cls := "KeygroveModel", name := "isMember", desc := "(II)Z" } : Jvm.MethodName)) ∈ lw_all := lw_g (lw_at lw_m14 158 rfl) rfl
theorem q3366 : (Jvm.Cond.methodLink "KeygroveLaw" (169 : Nat) ({ cls := "KeygroveModel", name := "add", desc := "(II)I" } : Jvm.MethodName)) ∈ lw_all := lw_g (lw_at lw_m14 170 rfl) rfl
theorem q3405 : (Jvm.Cond.methodLink "KeygroveLaw" (172 : Nat) ({ cls := "KeygroveModel", name := "remove", desc := "(II)I" } : Jvm.MethodName)) ∈ lw_all := lw_g (lw_at lw_m14 209 rfl) rfl
theorem q3409 : (Jvm.Cond.methodLink "KeygroveLaw" (175 : Nat) ({ cls := "KeygroveModel", name := "renew", desc := "(I)I" } : Jvm.MethodName)) ∈ lw_all := lw_g (lw_at lw_m14 213 rfl) rfl
theorem q3413 : (Jvm.Cond.methodLink "KeygroveLaw" (179 : Nat) ({ cls := "KeygroveModel", name := "proposals", desc := "()I" } : Jvm.MethodName)) ∈ lw_all := lw_g (lw_at lw_m14 217 rfl) rfl
theorem q3417 : (Jvm.Cond.methodLink "KeygroveLaw" (182 : Nat) ({ cls := "KeygroveModel", name := "proposal", desc := "(I)C" } : Jvm.MethodName)) ∈ lw_all := lw_g (lw_at lw_m14 221 rfl) rfl
theorem q3421 : (Jvm.Cond.methodLink "KeygroveLaw" (185 : Nat) ({ cls := "KeygroveModel", name := "commit", desc := "(I)I" } : Jvm.MethodName)) ∈ lw_all := lw_g (lw_at lw_m14 225 rfl) rfl
theorem q3498 : (Jvm.Cond.methodLink "KeygroveLaw" (188 : Nat) ({ cls := "KeygroveModel", name := "goOn", desc := "(I)C" } : Jvm.MethodName)) ∈ lw_all := lw_g (lw_at lw_m15 62 rfl) rfl
theorem q3502 : (Jvm.Cond.methodLink "KeygroveLaw" (191 : Nat) ({ cls := "KeygroveModel", name := "join", desc := "(I)I" } : Jvm.MethodName)) ∈ lw_all := lw_g (lw_at lw_m15 66 rfl) rfl
theorem q3510 : (Jvm.Cond.methodLink "KeygroveLaw" (194 : Nat) ({ cls := "KeygroveModel", name := "leaves", desc := "()I" } : Jvm.MethodName)) ∈ lw_all := lw_g (lw_at lw_m15 74 rfl) rfl
theorem q3514 : (Jvm.Cond.methodLink "KeygroveLaw" (197 : Nat) ({ cls := "KeygroveModel", name := "isBlank", desc := "(I)Z" } : Jvm.MethodName)) ∈ lw_all := lw_g (lw_at lw_m15 78 rfl) rfl
theorem q3526 : (Jvm.Cond.methodLink "KeygroveLaw" (200 : Nat) ({ cls := "KeygroveModel", name := "late", desc := "(I)I" } : Jvm.MethodName)) ∈ lw_all := lw_g (lw_at lw_m15 90 rfl) rfl
theorem q3530 : (Jvm.Cond.methodLink "KeygroveLaw" (203 : Nat) ({ cls := "KeygroveModel", name := "cover", desc := "(I)I" } : Jvm.MethodName)) ∈ lw_all := lw_g (lw_at lw_m15 94 rfl) rfl
theorem q3534 : (Jvm.Cond.methodLink "KeygroveLaw" (206 : Nat) ({ cls := "KeygroveModel", name := "coverAt", desc := "(II)I" } : Jvm.MethodName)) ∈ lw_all := lw_g (lw_at lw_m15 98 rfl) rfl
theorem q3538 : (Jvm.Cond.methodLink "KeygroveLaw" (209 : Nat) ({ cls := "KeygroveModel", name := "personAt", desc := "(I)I" } : Jvm.MethodName)) ∈ lw_all := lw_g (lw_at lw_m15 102 rfl) rfl
theorem q3542 : (Jvm.Cond.methodLink "KeygroveLaw" (212 : Nat) ({ cls := "KeygroveModel", name := "holds", desc := "(II)Z" } : Jvm.MethodName)) ∈ lw_all := lw_g (lw_at lw_m15 106 rfl) rfl
theorem q3546 : (Jvm.Cond.methodLink "KeygroveLaw" (215 : Nat) ({ cls := "KeygroveModel", name := "key", desc := "(I)I" } : Jvm.MethodName)) ∈ lw_all := lw_g (lw_at lw_m15 110 rfl) rfl
theorem q3550 : (Jvm.Cond.methodLink "KeygroveLaw" (219 : Nat) ({ cls := "KeygroveModel", name := "boxes", desc := "()I" } : Jvm.MethodName)) ∈ lw_all := lw_g (lw_at lw_m15 114 rfl) rfl
theorem q3554 : (Jvm.Cond.methodLink "KeygroveLaw" (222 : Nat) ({ cls := "KeygroveModel", name := "held", desc := "(I)I" } : Jvm.MethodName)) ∈ lw_all := lw_g (lw_at lw_m15 118 rfl) rfl
theorem q3558 : (Jvm.Cond.methodLink "KeygroveLaw" (225 : Nat) ({ cls := "KeygroveModel", name := "send", desc := "(I)I" } : Jvm.MethodName)) ∈ lw_all := lw_g (lw_at lw_m15 122 rfl) rfl
theorem q3588 : (Jvm.Cond.methodLink "KeygroveLaw" (228 : Nat) ({ cls := "KeygroveModel", name := "read", desc := "(II)I" } : Jvm.MethodName)) ∈ lw_all := lw_g (lw_at lw_m15 152 rfl) rfl
theorem q3597 : (Jvm.Cond.methodLink "KeygroveLaw" (232 : Nat) ({ cls := "KeygroveModel", name := "messageOf", desc := "(IC)I" } : Jvm.MethodName)) ∈ lw_all := lw_g (lw_at lw_m15 161 rfl) rfl
theorem q3603 : (Jvm.Cond.methodLink "KeygroveLaw" (235 : Nat) ({ cls := "KeygroveModel", name := "steal", desc := "(I)I" } : Jvm.MethodName)) ∈ lw_all := lw_g (lw_at lw_m15 167 rfl) rfl
theorem q3611 : (Jvm.Cond.methodLink "KeygroveLaw" (238 : Nat) ({ cls := "KeygroveModel", name := "finds", desc := "(I)Z" } : Jvm.MethodName)) ∈ lw_all := lw_g (lw_at lw_m15 175 rfl) rfl
theorem q3615 : (Jvm.Cond.methodLink "KeygroveLaw" (241 : Nat) ({ cls := "KeygroveModel", name := "findsText", desc := "(I)Z" } : Jvm.MethodName)) ∈ lw_all := lw_g (lw_at lw_m15 179 rfl) rfl
theorem q3619 : (Jvm.Cond.methodLink "KeygroveLaw" (245 : Nat) ({ cls := "KeygroveModel", name := "found", desc := "()I" } : Jvm.MethodName)) ∈ lw_all := lw_g (lw_at lw_m15 183 rfl) rfl
theorem q3623 : (Jvm.Cond.methodLink "KeygroveLaw" (249 : Nat) ({ cls := "KeygroveModel", name := "canFind", desc := "(IIZ)Z" } : Jvm.MethodName)) ∈ lw_all := lw_g (lw_at lw_m15 187 rfl) rfl
theorem q3627 : (Jvm.Cond.methodLink "KeygroveLaw" (252 : Nat) ({ cls := "KeygroveModel", name := "canRead", desc := "(II)Z" } : Jvm.MethodName)) ∈ lw_all := lw_g (lw_at lw_m15 191 rfl) rfl
theorem q3631 : (Jvm.Cond.methodLink "KeygroveLaw" (256 : Nat) ({ cls := "KeygroveModel", name := "blankShare", desc := "()F" } : Jvm.MethodName)) ∈ lw_all := lw_g (lw_at lw_m15 195 rfl) rfl
theorem q3635 : (Jvm.Cond.methodLink "KeygroveLaw" (259 : Nat) ({ cls := "KeygroveModel", name := "meanBoxes", desc := "()D" } : Jvm.MethodName)) ∈ lw_all := lw_g (lw_at lw_m15 199 rfl) rfl
theorem q3639 : (Jvm.Cond.methodLink "KeygroveLaw" (264 : Nat) ({ cls := "KeygroveModel", name := "checksum", desc := "()J" } : Jvm.MethodName)) ∈ lw_all := lw_g (lw_at lw_m15 203 rfl) rfl
theorem q3645 : (Jvm.Cond.methodLink "KeygroveLaw" (269 : Nat) ({ cls := "KeygroveModel", name := "isSound", desc := "()Z" } : Jvm.MethodName)) ∈ lw_all := lw_g (lw_at lw_m15 209 rfl) rfl
/-! Keygrove -/
def RX1 : String := "Keygrove"
def TX1 : u_T := fun k => match k with
  | 0 => ("Keygrove", "book", "LKeygrove$Book;", true)
  | 1 => ("Keygrove", "persons", "Ljava/util/List;", true)
  | 2 => ("Keygrove", "packs", "Ljava/util/List;", true)
  | 3 => ("Keygrove", "proposals", "Ljava/util/List;", true)
  | 4 => ("Keygrove", "trees", "Ljava/util/List;", true)
  | 5 => ("Keygrove", "steps", "Ljava/util/List;", true)
  | 6 => ("Keygrove", "messages", "Ljava/util/List;", true)
  | 7 => ("Keygrove", "stolen", "Ljava/util/BitSet;", true)
  | _ => ("Keygrove", "boxes", "I", false)
def tyX1 : Nat → FieldType := fun k => match k with
  | 0 => .object "Keygrove$Book"
  | 1 => .object "java/util/List"
  | 2 => .object "java/util/List"
  | 3 => .object "java/util/List"
  | 4 => .object "java/util/List"
  | 5 => .object "java/util/List"
  | 6 => .object "java/util/List"
  | 7 => .object "java/util/BitSet"
  | _ => .int
abbrev wsX10 : List Cond := u_ws RX1 TX1 9
theorem nmX1 : ∀ a, a < 9 → ∀ b, b < 9 → a ≠ b → (TX1 a).2.1 ≠ (TX1 b).2.1 := by decide +kernel
theorem tyX1_ok : ∀ k, k < 9 → parseFieldDescriptor (TX1 k).2.2.1 = some (tyX1 k) := by decide +kernel
abbrev cX1_init : ByteArray := prog_1_method_9_code
def yX1_init : MethodName := ⟨RX1, "<init>", "()V"⟩
def dkwX1_init_4 : List UInt8 := [181, 0, 59, 177]
abbrev dktX1_init_4 : List UInt8 := dkwX1_init_4 ++ []
def dkwX1_init_3 : List UInt8 := [181, 0, 50, 42, 187, 0, 34, 89, 183, 0, 36, 181, 0, 53, 42, 187, 0, 56, 89, 183, 0, 58]
abbrev dktX1_init_3 : List UInt8 := dkwX1_init_3 ++ dktX1_init_4
def dkwX1_init_2 : List UInt8 := [181, 0, 44, 42, 187, 0, 34, 89, 183, 0, 36, 181, 0, 47, 42, 187, 0, 34, 89, 183, 0, 36]
abbrev dktX1_init_2 : List UInt8 := dkwX1_init_2 ++ dktX1_init_3
def dkwX1_init_1 : List UInt8 := [181, 0, 37, 42, 187, 0, 34, 89, 183, 0, 36, 181, 0, 41, 42, 187, 0, 34, 89, 183, 0, 36]
abbrev dktX1_init_1 : List UInt8 := dkwX1_init_1 ++ dktX1_init_2
def dkwX1_init_0 : List UInt8 := [42, 183, 0, 22, 42, 187, 0, 25, 89, 183, 0, 27, 181, 0, 28, 42, 187, 0, 34, 89, 183, 0, 36]
abbrev dktX1_init_0 : List UInt8 := dkwX1_init_0 ++ dktX1_init_1
theorem dksX1_init_0 : cX1_init.data.toList.drop 0 = dktX1_init_0 := by decide +kernel
theorem dksX1_init_1 : cX1_init.data.toList.drop 23 = dktX1_init_1 := dk_seg dksX1_init_0 23 rfl rfl
theorem dksX1_init_2 : cX1_init.data.toList.drop 45 = dktX1_init_2 := dk_seg dksX1_init_1 22 rfl rfl
theorem dksX1_init_3 : cX1_init.data.toList.drop 67 = dktX1_init_3 := dk_seg dksX1_init_2 22 rfl rfl
theorem dksX1_init_4 : cX1_init.data.toList.drop 89 = dktX1_init_4 := dk_seg dksX1_init_3 22 rfl rfl
theorem dX1_init_0 : decode cX1_init 0 = .ok (.aload_n 0, 1) := dk_42 (dk_at dksX1_init_0 0 rfl rfl)
theorem dX1_init_1 : decode cX1_init 1 = .ok (.invokespecial 22, 3) := dk_183 0 22 (dk_at dksX1_init_0 1 rfl rfl)
theorem dX1_init_4 : decode cX1_init 4 = .ok (.aload_n 0, 1) := dk_42 (dk_at dksX1_init_0 4 rfl rfl)
theorem dX1_init_5 : decode cX1_init 5 = .ok (.new 25, 3) := dk_187 0 25 (dk_at dksX1_init_0 5 rfl rfl)
theorem dX1_init_8 : decode cX1_init 8 = .ok (.dup, 1) := dk_89 (dk_at dksX1_init_0 8 rfl rfl)
theorem dX1_init_9 : decode cX1_init 9 = .ok (.invokespecial 27, 3) := dk_183 0 27 (dk_at dksX1_init_0 9 rfl rfl)
theorem dX1_init_12 : decode cX1_init 12 = .ok (.putfield 28, 3) := dk_181 0 28 (dk_at dksX1_init_0 12 rfl rfl)
theorem dX1_init_15 : decode cX1_init 15 = .ok (.aload_n 0, 1) := dk_42 (dk_at dksX1_init_0 15 rfl rfl)
theorem dX1_init_16 : decode cX1_init 16 = .ok (.new 34, 3) := dk_187 0 34 (dk_at dksX1_init_0 16 rfl rfl)
theorem dX1_init_19 : decode cX1_init 19 = .ok (.dup, 1) := dk_89 (dk_at dksX1_init_0 19 rfl rfl)
theorem dX1_init_20 : decode cX1_init 20 = .ok (.invokespecial 36, 3) := dk_183 0 36 (dk_at dksX1_init_0 20 rfl rfl)
theorem dX1_init_23 : decode cX1_init 23 = .ok (.putfield 37, 3) := dk_181 0 37 (dk_at dksX1_init_1 0 rfl rfl)
theorem dX1_init_26 : decode cX1_init 26 = .ok (.aload_n 0, 1) := dk_42 (dk_at dksX1_init_1 3 rfl rfl)
theorem dX1_init_27 : decode cX1_init 27 = .ok (.new 34, 3) := dk_187 0 34 (dk_at dksX1_init_1 4 rfl rfl)
theorem dX1_init_30 : decode cX1_init 30 = .ok (.dup, 1) := dk_89 (dk_at dksX1_init_1 7 rfl rfl)
theorem dX1_init_31 : decode cX1_init 31 = .ok (.invokespecial 36, 3) := dk_183 0 36 (dk_at dksX1_init_1 8 rfl rfl)
theorem dX1_init_34 : decode cX1_init 34 = .ok (.putfield 41, 3) := dk_181 0 41 (dk_at dksX1_init_1 11 rfl rfl)
theorem dX1_init_37 : decode cX1_init 37 = .ok (.aload_n 0, 1) := dk_42 (dk_at dksX1_init_1 14 rfl rfl)
theorem dX1_init_38 : decode cX1_init 38 = .ok (.new 34, 3) := dk_187 0 34 (dk_at dksX1_init_1 15 rfl rfl)
theorem dX1_init_41 : decode cX1_init 41 = .ok (.dup, 1) := dk_89 (dk_at dksX1_init_1 18 rfl rfl)
theorem dX1_init_42 : decode cX1_init 42 = .ok (.invokespecial 36, 3) := dk_183 0 36 (dk_at dksX1_init_1 19 rfl rfl)
theorem dX1_init_45 : decode cX1_init 45 = .ok (.putfield 44, 3) := dk_181 0 44 (dk_at dksX1_init_2 0 rfl rfl)
theorem dX1_init_48 : decode cX1_init 48 = .ok (.aload_n 0, 1) := dk_42 (dk_at dksX1_init_2 3 rfl rfl)
theorem dX1_init_49 : decode cX1_init 49 = .ok (.new 34, 3) := dk_187 0 34 (dk_at dksX1_init_2 4 rfl rfl)
theorem dX1_init_52 : decode cX1_init 52 = .ok (.dup, 1) := dk_89 (dk_at dksX1_init_2 7 rfl rfl)
theorem dX1_init_53 : decode cX1_init 53 = .ok (.invokespecial 36, 3) := dk_183 0 36 (dk_at dksX1_init_2 8 rfl rfl)
theorem dX1_init_56 : decode cX1_init 56 = .ok (.putfield 47, 3) := dk_181 0 47 (dk_at dksX1_init_2 11 rfl rfl)
theorem dX1_init_59 : decode cX1_init 59 = .ok (.aload_n 0, 1) := dk_42 (dk_at dksX1_init_2 14 rfl rfl)
theorem dX1_init_60 : decode cX1_init 60 = .ok (.new 34, 3) := dk_187 0 34 (dk_at dksX1_init_2 15 rfl rfl)
theorem dX1_init_63 : decode cX1_init 63 = .ok (.dup, 1) := dk_89 (dk_at dksX1_init_2 18 rfl rfl)
theorem dX1_init_64 : decode cX1_init 64 = .ok (.invokespecial 36, 3) := dk_183 0 36 (dk_at dksX1_init_2 19 rfl rfl)
theorem dX1_init_67 : decode cX1_init 67 = .ok (.putfield 50, 3) := dk_181 0 50 (dk_at dksX1_init_3 0 rfl rfl)
theorem dX1_init_70 : decode cX1_init 70 = .ok (.aload_n 0, 1) := dk_42 (dk_at dksX1_init_3 3 rfl rfl)
theorem dX1_init_71 : decode cX1_init 71 = .ok (.new 34, 3) := dk_187 0 34 (dk_at dksX1_init_3 4 rfl rfl)
theorem dX1_init_74 : decode cX1_init 74 = .ok (.dup, 1) := dk_89 (dk_at dksX1_init_3 7 rfl rfl)
theorem dX1_init_75 : decode cX1_init 75 = .ok (.invokespecial 36, 3) := dk_183 0 36 (dk_at dksX1_init_3 8 rfl rfl)
theorem dX1_init_78 : decode cX1_init 78 = .ok (.putfield 53, 3) := dk_181 0 53 (dk_at dksX1_init_3 11 rfl rfl)
theorem dX1_init_81 : decode cX1_init 81 = .ok (.aload_n 0, 1) := dk_42 (dk_at dksX1_init_3 14 rfl rfl)
theorem dX1_init_82 : decode cX1_init 82 = .ok (.new 56, 3) := dk_187 0 56 (dk_at dksX1_init_3 15 rfl rfl)
theorem dX1_init_85 : decode cX1_init 85 = .ok (.dup, 1) := dk_89 (dk_at dksX1_init_3 18 rfl rfl)
theorem dX1_init_86 : decode cX1_init 86 = .ok (.invokespecial 58, 3) := dk_183 0 58 (dk_at dksX1_init_3 19 rfl rfl)
theorem dX1_init_89 : decode cX1_init 89 = .ok (.putfield 59, 3) := dk_181 0 59 (dk_at dksX1_init_4 0 rfl rfl)
theorem dX1_init_92 : decode cX1_init 92 = .ok (.return_, 1) := dk_177 (dk_at dksX1_init_4 3 rfl rfl)
abbrev cX1_seed : ByteArray := prog_1_method_21_code
def yX1_seed : MethodName := ⟨RX1, "seed", "(I)I"⟩
def dkwX1_seed_0 : List UInt8 := [42, 180, 0, 28, 180, 0, 179, 61, 42, 180, 0, 28, 27, 181, 0, 179, 28, 172]
abbrev dktX1_seed_0 : List UInt8 := dkwX1_seed_0 ++ []
theorem dksX1_seed_0 : cX1_seed.data.toList.drop 0 = dktX1_seed_0 := by decide +kernel
theorem dX1_seed_0 : decode cX1_seed 0 = .ok (.aload_n 0, 1) := dk_42 (dk_at dksX1_seed_0 0 rfl rfl)
theorem dX1_seed_1 : decode cX1_seed 1 = .ok (.getfield 28, 3) := dk_180 0 28 (dk_at dksX1_seed_0 1 rfl rfl)
theorem dX1_seed_4 : decode cX1_seed 4 = .ok (.getfield 179, 3) := dk_180 0 179 (dk_at dksX1_seed_0 4 rfl rfl)
theorem dX1_seed_7 : decode cX1_seed 7 = .ok (.istore_n 2, 1) := dk_61 (dk_at dksX1_seed_0 7 rfl rfl)
theorem dX1_seed_8 : decode cX1_seed 8 = .ok (.aload_n 0, 1) := dk_42 (dk_at dksX1_seed_0 8 rfl rfl)
theorem dX1_seed_9 : decode cX1_seed 9 = .ok (.getfield 28, 3) := dk_180 0 28 (dk_at dksX1_seed_0 9 rfl rfl)
theorem dX1_seed_12 : decode cX1_seed 12 = .ok (.iload_n 1, 1) := dk_27 (dk_at dksX1_seed_0 12 rfl rfl)
theorem dX1_seed_13 : decode cX1_seed 13 = .ok (.putfield 179, 3) := dk_181 0 179 (dk_at dksX1_seed_0 13 rfl rfl)
theorem dX1_seed_16 : decode cX1_seed 16 = .ok (.iload_n 2, 1) := dk_28 (dk_at dksX1_seed_0 16 rfl rfl)
theorem dX1_seed_17 : decode cX1_seed 17 = .ok (.ireturn, 1) := dk_172 (dk_at dksX1_seed_0 17 rfl rfl)
abbrev cX1_proposals : ByteArray := prog_1_method_33_code
def yX1_proposals : MethodName := ⟨RX1, "proposals", "()I"⟩
def dkwX1_proposals_0 : List UInt8 := [42, 180, 0, 44, 185, 0, 63, 1, 0, 172]
abbrev dktX1_proposals_0 : List UInt8 := dkwX1_proposals_0 ++ []
theorem dksX1_proposals_0 : cX1_proposals.data.toList.drop 0 = dktX1_proposals_0 := by decide +kernel
theorem dX1_proposals_0 : decode cX1_proposals 0 = .ok (.aload_n 0, 1) := dk_42 (dk_at dksX1_proposals_0 0 rfl rfl)
theorem dX1_proposals_1 : decode cX1_proposals 1 = .ok (.getfield 44, 3) := dk_180 0 44 (dk_at dksX1_proposals_0 1 rfl rfl)
theorem dX1_proposals_4 : decode cX1_proposals 4 = .ok (.invokeinterface 63 1, 5) := by decide +kernel
theorem dX1_proposals_9 : decode cX1_proposals 9 = .ok (.ireturn, 1) := dk_172 (dk_at dksX1_proposals_0 9 rfl rfl)
abbrev cX1_boxes : ByteArray := prog_1_method_56_code
def yX1_boxes : MethodName := ⟨RX1, "boxes", "()I"⟩
theorem dX1_boxes_0 : decode cX1_boxes 0 = .ok (.aload_n 0, 1) := by decide +kernel
theorem dX1_boxes_1 : decode cX1_boxes 1 = .ok (.getfield 370, 3) := by decide +kernel
theorem dX1_boxes_4 : decode cX1_boxes 4 = .ok (.ireturn, 1) := by decide +kernel
abbrev cX1_found : ByteArray := prog_1_method_67_code
def yX1_found : MethodName := ⟨RX1, "found", "()I"⟩
def dkwX1_found_0 : List UInt8 := [42, 180, 0, 28, 42, 180, 0, 59, 184, 1, 222, 182, 1, 226, 182, 1, 173, 172]
abbrev dktX1_found_0 : List UInt8 := dkwX1_found_0 ++ []
theorem dksX1_found_0 : cX1_found.data.toList.drop 0 = dktX1_found_0 := by decide +kernel
theorem dX1_found_0 : decode cX1_found 0 = .ok (.aload_n 0, 1) := dk_42 (dk_at dksX1_found_0 0 rfl rfl)
theorem dX1_found_1 : decode cX1_found 1 = .ok (.getfield 28, 3) := dk_180 0 28 (dk_at dksX1_found_0 1 rfl rfl)
theorem dX1_found_4 : decode cX1_found 4 = .ok (.aload_n 0, 1) := dk_42 (dk_at dksX1_found_0 4 rfl rfl)
theorem dX1_found_5 : decode cX1_found 5 = .ok (.getfield 59, 3) := dk_180 0 59 (dk_at dksX1_found_0 5 rfl rfl)
theorem dX1_found_8 : decode cX1_found 8 = .ok (.invokestatic 478, 3) := dk_184 1 222 (dk_at dksX1_found_0 8 rfl rfl)
theorem dX1_found_11 : decode cX1_found 11 = .ok (.invokevirtual 482, 3) := dk_182 1 226 (dk_at dksX1_found_0 11 rfl rfl)
theorem dX1_found_14 : decode cX1_found 14 = .ok (.invokevirtual 429, 3) := dk_182 1 173 (dk_at dksX1_found_0 14 rfl rfl)
theorem dX1_found_17 : decode cX1_found 17 = .ok (.ireturn, 1) := dk_172 (dk_at dksX1_found_0 17 rfl rfl)
abbrev cX1_listOf : ByteArray := prog_1_method_16_code
def yX1_listOf : MethodName := ⟨RX1, "listOf", "(Ljava/util/BitSet;)Ljava/util/List;"⟩
def dkwX1_listOf_1 : List UInt8 := [185, 0, 116, 2, 0, 87, 42, 28, 4, 96, 182, 0, 106, 61, 167, 255, 233, 43, 176]
abbrev dktX1_listOf_1 : List UInt8 := dkwX1_listOf_1 ++ []
def dkwX1_listOf_0 : List UInt8 := [187, 0, 34, 89, 183, 0, 36, 76, 42, 3, 182, 0, 106, 61, 28, 155, 0, 25, 43, 28, 184, 0, 110]
abbrev dktX1_listOf_0 : List UInt8 := dkwX1_listOf_0 ++ dktX1_listOf_1
theorem dksX1_listOf_0 : cX1_listOf.data.toList.drop 0 = dktX1_listOf_0 := by decide +kernel
theorem dksX1_listOf_1 : cX1_listOf.data.toList.drop 23 = dktX1_listOf_1 := dk_seg dksX1_listOf_0 23 rfl rfl
theorem dX1_listOf_0 : decode cX1_listOf 0 = .ok (.new 34, 3) := dk_187 0 34 (dk_at dksX1_listOf_0 0 rfl rfl)
theorem dX1_listOf_3 : decode cX1_listOf 3 = .ok (.dup, 1) := dk_89 (dk_at dksX1_listOf_0 3 rfl rfl)
theorem dX1_listOf_4 : decode cX1_listOf 4 = .ok (.invokespecial 36, 3) := dk_183 0 36 (dk_at dksX1_listOf_0 4 rfl rfl)
theorem dX1_listOf_7 : decode cX1_listOf 7 = .ok (.astore_n 1, 1) := dk_76 (dk_at dksX1_listOf_0 7 rfl rfl)
theorem dX1_listOf_8 : decode cX1_listOf 8 = .ok (.aload_n 0, 1) := dk_42 (dk_at dksX1_listOf_0 8 rfl rfl)
theorem dX1_listOf_9 : decode cX1_listOf 9 = .ok (.iconst 0, 1) := dk_3 (dk_at dksX1_listOf_0 9 rfl rfl)
theorem dX1_listOf_10 : decode cX1_listOf 10 = .ok (.invokevirtual 106, 3) := dk_182 0 106 (dk_at dksX1_listOf_0 10 rfl rfl)
theorem dX1_listOf_13 : decode cX1_listOf 13 = .ok (.istore_n 2, 1) := dk_61 (dk_at dksX1_listOf_0 13 rfl rfl)
theorem dX1_listOf_14 : decode cX1_listOf 14 = .ok (.iload_n 2, 1) := dk_28 (dk_at dksX1_listOf_0 14 rfl rfl)
theorem dX1_listOf_15 : decode cX1_listOf 15 = .ok (.ifCond .lt 25, 3) := dk_155 0 25 (dk_at dksX1_listOf_0 15 rfl rfl)
theorem dX1_listOf_18 : decode cX1_listOf 18 = .ok (.aload_n 1, 1) := dk_43 (dk_at dksX1_listOf_0 18 rfl rfl)
theorem dX1_listOf_19 : decode cX1_listOf 19 = .ok (.iload_n 2, 1) := dk_28 (dk_at dksX1_listOf_0 19 rfl rfl)
theorem dX1_listOf_20 : decode cX1_listOf 20 = .ok (.invokestatic 110, 3) := dk_184 0 110 (dk_at dksX1_listOf_0 20 rfl rfl)
theorem dX1_listOf_23 : decode cX1_listOf 23 = .ok (.invokeinterface 116 2, 5) := by decide +kernel
theorem dX1_listOf_28 : decode cX1_listOf 28 = .ok (.pop, 1) := dk_87 (dk_at dksX1_listOf_1 5 rfl rfl)
theorem dX1_listOf_29 : decode cX1_listOf 29 = .ok (.aload_n 0, 1) := dk_42 (dk_at dksX1_listOf_1 6 rfl rfl)
theorem dX1_listOf_30 : decode cX1_listOf 30 = .ok (.iload_n 2, 1) := dk_28 (dk_at dksX1_listOf_1 7 rfl rfl)
theorem dX1_listOf_31 : decode cX1_listOf 31 = .ok (.iconst 1, 1) := dk_4 (dk_at dksX1_listOf_1 8 rfl rfl)
theorem dX1_listOf_32 : decode cX1_listOf 32 = .ok (.iadd, 1) := dk_96 (dk_at dksX1_listOf_1 9 rfl rfl)
theorem dX1_listOf_33 : decode cX1_listOf 33 = .ok (.invokevirtual 106, 3) := dk_182 0 106 (dk_at dksX1_listOf_1 10 rfl rfl)
theorem dX1_listOf_36 : decode cX1_listOf 36 = .ok (.istore_n 2, 1) := dk_61 (dk_at dksX1_listOf_1 13 rfl rfl)
theorem dX1_listOf_37 : decode cX1_listOf 37 = .ok (.goto (-23), 3) := dk_167 255 233 (dk_at dksX1_listOf_1 14 rfl rfl)
theorem dX1_listOf_40 : decode cX1_listOf 40 = .ok (.aload_n 1, 1) := dk_43 (dk_at dksX1_listOf_1 17 rfl rfl)
theorem dX1_listOf_41 : decode cX1_listOf 41 = .ok (.areturn, 1) := dk_176 (dk_at dksX1_listOf_1 18 rfl rfl)
abbrev cX1_checksum : ByteArray := prog_1_method_72_code
def yX1_checksum : MethodName := ⟨RX1, "checksum", "()J"⟩
def dkwX1_checksum_8 : List UInt8 := [167, 0, 4, 3, 133, 97, 64, 167, 255, 188, 31, 173]
abbrev dktX1_checksum_8 : List UInt8 := dkwX1_checksum_8 ++ []
def dkwX1_checksum_7 : List UInt8 := [31, 105, 25, 4, 182, 0, 88, 153, 0, 18, 42, 180, 0, 28, 25, 4, 180, 1, 167, 182, 1, 170]
abbrev dktX1_checksum_7 : List UInt8 := dkwX1_checksum_7 ++ dktX1_checksum_8
def dkwX1_checksum_6 : List UInt8 := [192, 0, 81, 58, 4, 20, 1, 248, 31, 105, 25, 4, 182, 1, 161, 182, 1, 173, 133, 97, 64, 20, 1, 248]
abbrev dktX1_checksum_6 : List UInt8 := dkwX1_checksum_6 ++ dktX1_checksum_7
def dkwX1_checksum_5 : List UInt8 := [180, 0, 37, 185, 0, 204, 1, 0, 78, 45, 185, 0, 208, 1, 0, 153, 0, 65, 45, 185, 0, 213, 1, 0]
abbrev dktX1_checksum_5 : List UInt8 := dkwX1_checksum_5 ++ dktX1_checksum_6
def dkwX1_checksum_4 : List UInt8 := [20, 1, 248, 31, 105, 42, 182, 0, 99, 180, 1, 79, 29, 46, 133, 97, 64, 132, 3, 1, 167, 255, 169, 42]
abbrev dktX1_checksum_4 : List UInt8 := dkwX1_checksum_4 ++ dktX1_checksum_5
def dkwX1_checksum_3 : List UInt8 := [20, 1, 248, 31, 105, 42, 180, 0, 28, 42, 182, 0, 99, 180, 0, 143, 29, 46, 182, 1, 170, 133, 97, 64]
abbrev dktX1_checksum_3 : List UInt8 := dkwX1_checksum_3 ++ dktX1_checksum_4
def dkwX1_checksum_2 : List UInt8 := [162, 0, 70, 42, 182, 0, 99, 29, 182, 1, 127, 153, 0, 12, 20, 1, 248, 31, 105, 64, 167, 0, 44]
abbrev dktX1_checksum_2 : List UInt8 := dkwX1_checksum_2 ++ dktX1_checksum_3
def dkwX1_checksum_1 : List UInt8 := [64, 3, 62, 42, 180, 0, 47, 185, 0, 96, 1, 0, 154, 0, 81, 29, 42, 182, 0, 99, 182, 0, 103]
abbrev dktX1_checksum_1 : List UInt8 := dkwX1_checksum_1 ++ dktX1_checksum_2
def dkwX1_checksum_0 : List UInt8 := [20, 1, 246, 42, 180, 0, 28, 180, 0, 179, 133, 97, 64, 20, 1, 248, 31, 105, 42, 182, 0, 83, 133, 97]
abbrev dktX1_checksum_0 : List UInt8 := dkwX1_checksum_0 ++ dktX1_checksum_1
theorem dksX1_checksum_0 : cX1_checksum.data.toList.drop 0 = dktX1_checksum_0 := by decide +kernel
theorem dksX1_checksum_1 : cX1_checksum.data.toList.drop 24 = dktX1_checksum_1 := dk_seg dksX1_checksum_0 24 rfl rfl
theorem dksX1_checksum_2 : cX1_checksum.data.toList.drop 47 = dktX1_checksum_2 := dk_seg dksX1_checksum_1 23 rfl rfl
theorem dksX1_checksum_3 : cX1_checksum.data.toList.drop 70 = dktX1_checksum_3 := dk_seg dksX1_checksum_2 23 rfl rfl
theorem dksX1_checksum_4 : cX1_checksum.data.toList.drop 94 = dktX1_checksum_4 := dk_seg dksX1_checksum_3 24 rfl rfl
theorem dksX1_checksum_5 : cX1_checksum.data.toList.drop 118 = dktX1_checksum_5 := dk_seg dksX1_checksum_4 24 rfl rfl
theorem dksX1_checksum_6 : cX1_checksum.data.toList.drop 142 = dktX1_checksum_6 := dk_seg dksX1_checksum_5 24 rfl rfl
theorem dksX1_checksum_7 : cX1_checksum.data.toList.drop 166 = dktX1_checksum_7 := dk_seg dksX1_checksum_6 24 rfl rfl
theorem dksX1_checksum_8 : cX1_checksum.data.toList.drop 188 = dktX1_checksum_8 := dk_seg dksX1_checksum_7 22 rfl rfl
theorem dX1_checksum_0 : decode cX1_checksum 0 = .ok (.ldc2_w 502, 3) := dk_20 1 246 (dk_at dksX1_checksum_0 0 rfl rfl)
theorem dX1_checksum_3 : decode cX1_checksum 3 = .ok (.aload_n 0, 1) := dk_42 (dk_at dksX1_checksum_0 3 rfl rfl)
theorem dX1_checksum_4 : decode cX1_checksum 4 = .ok (.getfield 28, 3) := dk_180 0 28 (dk_at dksX1_checksum_0 4 rfl rfl)
theorem dX1_checksum_7 : decode cX1_checksum 7 = .ok (.getfield 179, 3) := dk_180 0 179 (dk_at dksX1_checksum_0 7 rfl rfl)
theorem dX1_checksum_10 : decode cX1_checksum 10 = .ok (.i2l, 1) := dk_133 (dk_at dksX1_checksum_0 10 rfl rfl)
theorem dX1_checksum_11 : decode cX1_checksum 11 = .ok (.ladd, 1) := dk_97 (dk_at dksX1_checksum_0 11 rfl rfl)
theorem dX1_checksum_12 : decode cX1_checksum 12 = .ok (.lstore_n 1, 1) := dk_64 (dk_at dksX1_checksum_0 12 rfl rfl)
theorem dX1_checksum_13 : decode cX1_checksum 13 = .ok (.ldc2_w 504, 3) := dk_20 1 248 (dk_at dksX1_checksum_0 13 rfl rfl)
theorem dX1_checksum_16 : decode cX1_checksum 16 = .ok (.lload_n 1, 1) := dk_31 (dk_at dksX1_checksum_0 16 rfl rfl)
theorem dX1_checksum_17 : decode cX1_checksum 17 = .ok (.lmul, 1) := dk_105 (dk_at dksX1_checksum_0 17 rfl rfl)
theorem dX1_checksum_18 : decode cX1_checksum 18 = .ok (.aload_n 0, 1) := dk_42 (dk_at dksX1_checksum_0 18 rfl rfl)
theorem dX1_checksum_19 : decode cX1_checksum 19 = .ok (.invokevirtual 83, 3) := dk_182 0 83 (dk_at dksX1_checksum_0 19 rfl rfl)
theorem dX1_checksum_22 : decode cX1_checksum 22 = .ok (.i2l, 1) := dk_133 (dk_at dksX1_checksum_0 22 rfl rfl)
theorem dX1_checksum_23 : decode cX1_checksum 23 = .ok (.ladd, 1) := dk_97 (dk_at dksX1_checksum_0 23 rfl rfl)
theorem dX1_checksum_24 : decode cX1_checksum 24 = .ok (.lstore_n 1, 1) := dk_64 (dk_at dksX1_checksum_1 0 rfl rfl)
theorem dX1_checksum_25 : decode cX1_checksum 25 = .ok (.iconst 0, 1) := dk_3 (dk_at dksX1_checksum_1 1 rfl rfl)
theorem dX1_checksum_26 : decode cX1_checksum 26 = .ok (.istore_n 3, 1) := dk_62 (dk_at dksX1_checksum_1 2 rfl rfl)
theorem dX1_checksum_27 : decode cX1_checksum 27 = .ok (.aload_n 0, 1) := dk_42 (dk_at dksX1_checksum_1 3 rfl rfl)
theorem dX1_checksum_28 : decode cX1_checksum 28 = .ok (.getfield 47, 3) := dk_180 0 47 (dk_at dksX1_checksum_1 4 rfl rfl)
theorem dX1_checksum_31 : decode cX1_checksum 31 = .ok (.invokeinterface 96 1, 5) := by decide +kernel
theorem dX1_checksum_36 : decode cX1_checksum 36 = .ok (.ifCond .ne 81, 3) := dk_154 0 81 (dk_at dksX1_checksum_1 12 rfl rfl)
theorem dX1_checksum_39 : decode cX1_checksum 39 = .ok (.iload_n 3, 1) := dk_29 (dk_at dksX1_checksum_1 15 rfl rfl)
theorem dX1_checksum_40 : decode cX1_checksum 40 = .ok (.aload_n 0, 1) := dk_42 (dk_at dksX1_checksum_1 16 rfl rfl)
theorem dX1_checksum_41 : decode cX1_checksum 41 = .ok (.invokevirtual 99, 3) := dk_182 0 99 (dk_at dksX1_checksum_1 17 rfl rfl)
theorem dX1_checksum_44 : decode cX1_checksum 44 = .ok (.invokevirtual 103, 3) := dk_182 0 103 (dk_at dksX1_checksum_1 20 rfl rfl)
theorem dX1_checksum_47 : decode cX1_checksum 47 = .ok (.if_icmp .ge 70, 3) := dk_162 0 70 (dk_at dksX1_checksum_2 0 rfl rfl)
theorem dX1_checksum_50 : decode cX1_checksum 50 = .ok (.aload_n 0, 1) := dk_42 (dk_at dksX1_checksum_2 3 rfl rfl)
theorem dX1_checksum_51 : decode cX1_checksum 51 = .ok (.invokevirtual 99, 3) := dk_182 0 99 (dk_at dksX1_checksum_2 4 rfl rfl)
theorem dX1_checksum_54 : decode cX1_checksum 54 = .ok (.iload_n 3, 1) := dk_29 (dk_at dksX1_checksum_2 7 rfl rfl)
theorem dX1_checksum_55 : decode cX1_checksum 55 = .ok (.invokevirtual 383, 3) := dk_182 1 127 (dk_at dksX1_checksum_2 8 rfl rfl)
theorem dX1_checksum_58 : decode cX1_checksum 58 = .ok (.ifCond .eq 12, 3) := dk_153 0 12 (dk_at dksX1_checksum_2 11 rfl rfl)
theorem dX1_checksum_61 : decode cX1_checksum 61 = .ok (.ldc2_w 504, 3) := dk_20 1 248 (dk_at dksX1_checksum_2 14 rfl rfl)
theorem dX1_checksum_64 : decode cX1_checksum 64 = .ok (.lload_n 1, 1) := dk_31 (dk_at dksX1_checksum_2 17 rfl rfl)
theorem dX1_checksum_65 : decode cX1_checksum 65 = .ok (.lmul, 1) := dk_105 (dk_at dksX1_checksum_2 18 rfl rfl)
theorem dX1_checksum_66 : decode cX1_checksum 66 = .ok (.lstore_n 1, 1) := dk_64 (dk_at dksX1_checksum_2 19 rfl rfl)
theorem dX1_checksum_67 : decode cX1_checksum 67 = .ok (.goto 44, 3) := dk_167 0 44 (dk_at dksX1_checksum_2 20 rfl rfl)
theorem dX1_checksum_70 : decode cX1_checksum 70 = .ok (.ldc2_w 504, 3) := dk_20 1 248 (dk_at dksX1_checksum_3 0 rfl rfl)
theorem dX1_checksum_73 : decode cX1_checksum 73 = .ok (.lload_n 1, 1) := dk_31 (dk_at dksX1_checksum_3 3 rfl rfl)
theorem dX1_checksum_74 : decode cX1_checksum 74 = .ok (.lmul, 1) := dk_105 (dk_at dksX1_checksum_3 4 rfl rfl)
theorem dX1_checksum_75 : decode cX1_checksum 75 = .ok (.aload_n 0, 1) := dk_42 (dk_at dksX1_checksum_3 5 rfl rfl)
theorem dX1_checksum_76 : decode cX1_checksum 76 = .ok (.getfield 28, 3) := dk_180 0 28 (dk_at dksX1_checksum_3 6 rfl rfl)
theorem dX1_checksum_79 : decode cX1_checksum 79 = .ok (.aload_n 0, 1) := dk_42 (dk_at dksX1_checksum_3 9 rfl rfl)
theorem dX1_checksum_80 : decode cX1_checksum 80 = .ok (.invokevirtual 99, 3) := dk_182 0 99 (dk_at dksX1_checksum_3 10 rfl rfl)
theorem dX1_checksum_83 : decode cX1_checksum 83 = .ok (.getfield 143, 3) := dk_180 0 143 (dk_at dksX1_checksum_3 13 rfl rfl)
theorem dX1_checksum_86 : decode cX1_checksum 86 = .ok (.iload_n 3, 1) := dk_29 (dk_at dksX1_checksum_3 16 rfl rfl)
theorem dX1_checksum_87 : decode cX1_checksum 87 = .ok (.iaload, 1) := dk_46 (dk_at dksX1_checksum_3 17 rfl rfl)
theorem dX1_checksum_88 : decode cX1_checksum 88 = .ok (.invokevirtual 426, 3) := dk_182 1 170 (dk_at dksX1_checksum_3 18 rfl rfl)
theorem dX1_checksum_91 : decode cX1_checksum 91 = .ok (.i2l, 1) := dk_133 (dk_at dksX1_checksum_3 21 rfl rfl)
theorem dX1_checksum_92 : decode cX1_checksum 92 = .ok (.ladd, 1) := dk_97 (dk_at dksX1_checksum_3 22 rfl rfl)
theorem dX1_checksum_93 : decode cX1_checksum 93 = .ok (.lstore_n 1, 1) := dk_64 (dk_at dksX1_checksum_3 23 rfl rfl)
theorem dX1_checksum_94 : decode cX1_checksum 94 = .ok (.ldc2_w 504, 3) := dk_20 1 248 (dk_at dksX1_checksum_4 0 rfl rfl)
theorem dX1_checksum_97 : decode cX1_checksum 97 = .ok (.lload_n 1, 1) := dk_31 (dk_at dksX1_checksum_4 3 rfl rfl)
theorem dX1_checksum_98 : decode cX1_checksum 98 = .ok (.lmul, 1) := dk_105 (dk_at dksX1_checksum_4 4 rfl rfl)
theorem dX1_checksum_99 : decode cX1_checksum 99 = .ok (.aload_n 0, 1) := dk_42 (dk_at dksX1_checksum_4 5 rfl rfl)
theorem dX1_checksum_100 : decode cX1_checksum 100 = .ok (.invokevirtual 99, 3) := dk_182 0 99 (dk_at dksX1_checksum_4 6 rfl rfl)
theorem dX1_checksum_103 : decode cX1_checksum 103 = .ok (.getfield 335, 3) := dk_180 1 79 (dk_at dksX1_checksum_4 9 rfl rfl)
theorem dX1_checksum_106 : decode cX1_checksum 106 = .ok (.iload_n 3, 1) := dk_29 (dk_at dksX1_checksum_4 12 rfl rfl)
theorem dX1_checksum_107 : decode cX1_checksum 107 = .ok (.iaload, 1) := dk_46 (dk_at dksX1_checksum_4 13 rfl rfl)
theorem dX1_checksum_108 : decode cX1_checksum 108 = .ok (.i2l, 1) := dk_133 (dk_at dksX1_checksum_4 14 rfl rfl)
theorem dX1_checksum_109 : decode cX1_checksum 109 = .ok (.ladd, 1) := dk_97 (dk_at dksX1_checksum_4 15 rfl rfl)
theorem dX1_checksum_110 : decode cX1_checksum 110 = .ok (.lstore_n 1, 1) := dk_64 (dk_at dksX1_checksum_4 16 rfl rfl)
theorem dX1_checksum_111 : decode cX1_checksum 111 = .ok (.iinc 3 1, 3) := dk_132 3 1 (dk_at dksX1_checksum_4 17 rfl rfl)
theorem dX1_checksum_114 : decode cX1_checksum 114 = .ok (.goto (-87), 3) := dk_167 255 169 (dk_at dksX1_checksum_4 20 rfl rfl)
theorem dX1_checksum_117 : decode cX1_checksum 117 = .ok (.aload_n 0, 1) := dk_42 (dk_at dksX1_checksum_4 23 rfl rfl)
theorem dX1_checksum_118 : decode cX1_checksum 118 = .ok (.getfield 37, 3) := dk_180 0 37 (dk_at dksX1_checksum_5 0 rfl rfl)
theorem dX1_checksum_121 : decode cX1_checksum 121 = .ok (.invokeinterface 204 1, 5) := by decide +kernel
theorem dX1_checksum_126 : decode cX1_checksum 126 = .ok (.astore_n 3, 1) := dk_78 (dk_at dksX1_checksum_5 8 rfl rfl)
theorem dX1_checksum_127 : decode cX1_checksum 127 = .ok (.aload_n 3, 1) := dk_45 (dk_at dksX1_checksum_5 9 rfl rfl)
theorem dX1_checksum_128 : decode cX1_checksum 128 = .ok (.invokeinterface 208 1, 5) := by decide +kernel
theorem dX1_checksum_133 : decode cX1_checksum 133 = .ok (.ifCond .eq 65, 3) := dk_153 0 65 (dk_at dksX1_checksum_5 15 rfl rfl)
theorem dX1_checksum_136 : decode cX1_checksum 136 = .ok (.aload_n 3, 1) := dk_45 (dk_at dksX1_checksum_5 18 rfl rfl)
theorem dX1_checksum_137 : decode cX1_checksum 137 = .ok (.invokeinterface 213 1, 5) := by decide +kernel
theorem dX1_checksum_142 : decode cX1_checksum 142 = .ok (.checkcast 81, 3) := dk_192 0 81 (dk_at dksX1_checksum_6 0 rfl rfl)
theorem dX1_checksum_145 : decode cX1_checksum 145 = .ok (.astore 4, 2) := dk_58 4 (dk_at dksX1_checksum_6 3 rfl rfl)
theorem dX1_checksum_147 : decode cX1_checksum 147 = .ok (.ldc2_w 504, 3) := dk_20 1 248 (dk_at dksX1_checksum_6 5 rfl rfl)
theorem dX1_checksum_150 : decode cX1_checksum 150 = .ok (.lload_n 1, 1) := dk_31 (dk_at dksX1_checksum_6 8 rfl rfl)
theorem dX1_checksum_151 : decode cX1_checksum 151 = .ok (.lmul, 1) := dk_105 (dk_at dksX1_checksum_6 9 rfl rfl)
theorem dX1_checksum_152 : decode cX1_checksum 152 = .ok (.aload 4, 2) := dk_25 4 (dk_at dksX1_checksum_6 10 rfl rfl)
theorem dX1_checksum_154 : decode cX1_checksum 154 = .ok (.invokevirtual 417, 3) := dk_182 1 161 (dk_at dksX1_checksum_6 12 rfl rfl)
theorem dX1_checksum_157 : decode cX1_checksum 157 = .ok (.invokevirtual 429, 3) := dk_182 1 173 (dk_at dksX1_checksum_6 15 rfl rfl)
theorem dX1_checksum_160 : decode cX1_checksum 160 = .ok (.i2l, 1) := dk_133 (dk_at dksX1_checksum_6 18 rfl rfl)
theorem dX1_checksum_161 : decode cX1_checksum 161 = .ok (.ladd, 1) := dk_97 (dk_at dksX1_checksum_6 19 rfl rfl)
theorem dX1_checksum_162 : decode cX1_checksum 162 = .ok (.lstore_n 1, 1) := dk_64 (dk_at dksX1_checksum_6 20 rfl rfl)
theorem dX1_checksum_163 : decode cX1_checksum 163 = .ok (.ldc2_w 504, 3) := dk_20 1 248 (dk_at dksX1_checksum_6 21 rfl rfl)
theorem dX1_checksum_166 : decode cX1_checksum 166 = .ok (.lload_n 1, 1) := dk_31 (dk_at dksX1_checksum_7 0 rfl rfl)
theorem dX1_checksum_167 : decode cX1_checksum 167 = .ok (.lmul, 1) := dk_105 (dk_at dksX1_checksum_7 1 rfl rfl)
theorem dX1_checksum_168 : decode cX1_checksum 168 = .ok (.aload 4, 2) := dk_25 4 (dk_at dksX1_checksum_7 2 rfl rfl)
theorem dX1_checksum_170 : decode cX1_checksum 170 = .ok (.invokevirtual 88, 3) := dk_182 0 88 (dk_at dksX1_checksum_7 4 rfl rfl)
theorem dX1_checksum_173 : decode cX1_checksum 173 = .ok (.ifCond .eq 18, 3) := dk_153 0 18 (dk_at dksX1_checksum_7 7 rfl rfl)
theorem dX1_checksum_176 : decode cX1_checksum 176 = .ok (.aload_n 0, 1) := dk_42 (dk_at dksX1_checksum_7 10 rfl rfl)
theorem dX1_checksum_177 : decode cX1_checksum 177 = .ok (.getfield 28, 3) := dk_180 0 28 (dk_at dksX1_checksum_7 11 rfl rfl)
theorem dX1_checksum_180 : decode cX1_checksum 180 = .ok (.aload 4, 2) := dk_25 4 (dk_at dksX1_checksum_7 14 rfl rfl)
theorem dX1_checksum_182 : decode cX1_checksum 182 = .ok (.getfield 423, 3) := dk_180 1 167 (dk_at dksX1_checksum_7 16 rfl rfl)
theorem dX1_checksum_185 : decode cX1_checksum 185 = .ok (.invokevirtual 426, 3) := dk_182 1 170 (dk_at dksX1_checksum_7 19 rfl rfl)
theorem dX1_checksum_188 : decode cX1_checksum 188 = .ok (.goto 4, 3) := dk_167 0 4 (dk_at dksX1_checksum_8 0 rfl rfl)
theorem dX1_checksum_191 : decode cX1_checksum 191 = .ok (.iconst 0, 1) := dk_3 (dk_at dksX1_checksum_8 3 rfl rfl)
theorem dX1_checksum_192 : decode cX1_checksum 192 = .ok (.i2l, 1) := dk_133 (dk_at dksX1_checksum_8 4 rfl rfl)
theorem dX1_checksum_193 : decode cX1_checksum 193 = .ok (.ladd, 1) := dk_97 (dk_at dksX1_checksum_8 5 rfl rfl)
theorem dX1_checksum_194 : decode cX1_checksum 194 = .ok (.lstore_n 1, 1) := dk_64 (dk_at dksX1_checksum_8 6 rfl rfl)
theorem dX1_checksum_195 : decode cX1_checksum 195 = .ok (.goto (-68), 3) := dk_167 255 188 (dk_at dksX1_checksum_8 7 rfl rfl)
theorem dX1_checksum_198 : decode cX1_checksum 198 = .ok (.lload_n 1, 1) := dk_31 (dk_at dksX1_checksum_8 10 rfl rfl)
theorem dX1_checksum_199 : decode cX1_checksum 199 = .ok (.lreturn, 1) := dk_173 (dk_at dksX1_checksum_8 11 rfl rfl)
abbrev cX1_newest : ByteArray := prog_1_method_11_code
def yX1_newest : MethodName := ⟨RX1, "newest", "()I"⟩
def dkwX1_newest_0 : List UInt8 := [42, 180, 0, 47, 185, 0, 63, 1, 0, 4, 100, 172]
abbrev dktX1_newest_0 : List UInt8 := dkwX1_newest_0 ++ []
theorem dksX1_newest_0 : cX1_newest.data.toList.drop 0 = dktX1_newest_0 := by decide +kernel
theorem dX1_newest_0 : decode cX1_newest 0 = .ok (.aload_n 0, 1) := dk_42 (dk_at dksX1_newest_0 0 rfl rfl)
theorem dX1_newest_1 : decode cX1_newest 1 = .ok (.getfield 47, 3) := dk_180 0 47 (dk_at dksX1_newest_0 1 rfl rfl)
theorem dX1_newest_4 : decode cX1_newest 4 = .ok (.invokeinterface 63 1, 5) := by decide +kernel
theorem dX1_newest_9 : decode cX1_newest 9 = .ok (.iconst 1, 1) := dk_4 (dk_at dksX1_newest_0 9 rfl rfl)
theorem dX1_newest_10 : decode cX1_newest 10 = .ok (.isub, 1) := dk_100 (dk_at dksX1_newest_0 10 rfl rfl)
theorem dX1_newest_11 : decode cX1_newest 11 = .ok (.ireturn, 1) := dk_172 (dk_at dksX1_newest_0 11 rfl rfl)
abbrev cX1_tree : ByteArray := prog_1_method_12_code
def yX1_tree : MethodName := ⟨RX1, "tree", "()LKeygrove$Tree;"⟩
def dkwX1_tree_0 : List UInt8 := [42, 180, 0, 47, 42, 182, 0, 83, 185, 0, 77, 2, 0, 192, 0, 86, 176]
abbrev dktX1_tree_0 : List UInt8 := dkwX1_tree_0 ++ []
theorem dksX1_tree_0 : cX1_tree.data.toList.drop 0 = dktX1_tree_0 := by decide +kernel
theorem dX1_tree_0 : decode cX1_tree 0 = .ok (.aload_n 0, 1) := dk_42 (dk_at dksX1_tree_0 0 rfl rfl)
theorem dX1_tree_1 : decode cX1_tree 1 = .ok (.getfield 47, 3) := dk_180 0 47 (dk_at dksX1_tree_0 1 rfl rfl)
theorem dX1_tree_4 : decode cX1_tree 4 = .ok (.aload_n 0, 1) := dk_42 (dk_at dksX1_tree_0 4 rfl rfl)
theorem dX1_tree_5 : decode cX1_tree 5 = .ok (.invokevirtual 83, 3) := dk_182 0 83 (dk_at dksX1_tree_0 5 rfl rfl)
theorem dX1_tree_8 : decode cX1_tree 8 = .ok (.invokeinterface 77 2, 5) := by decide +kernel
theorem dX1_tree_13 : decode cX1_tree 13 = .ok (.checkcast 86, 3) := dk_192 0 86 (dk_at dksX1_tree_0 13 rfl rfl)
theorem dX1_tree_16 : decode cX1_tree 16 = .ok (.areturn, 1) := dk_176 (dk_at dksX1_tree_0 16 rfl rfl)
abbrev cX1_isSound : ByteArray := prog_1_method_75_code
def yX1_isSound : MethodName := ⟨RX1, "isSound", "()Z"⟩
def dkwX1_isSound_2 : List UInt8 := [167, 0, 4, 3, 60, 167, 255, 219, 27, 172]
abbrev dktX1_isSound_2 : List UInt8 := dkwX1_isSound_2 ++ []
def dkwX1_isSound_1 : List UInt8 := [185, 0, 213, 1, 0, 192, 0, 81, 78, 27, 153, 0, 15, 42, 45, 182, 1, 253, 153, 0, 7, 4]
abbrev dktX1_isSound_1 : List UInt8 := dkwX1_isSound_1 ++ dktX1_isSound_2
def dkwX1_isSound_0 : List UInt8 := [4, 60, 42, 180, 0, 37, 185, 0, 204, 1, 0, 77, 44, 185, 0, 208, 1, 0, 153, 0, 34, 44]
abbrev dktX1_isSound_0 : List UInt8 := dkwX1_isSound_0 ++ dktX1_isSound_1
theorem dksX1_isSound_0 : cX1_isSound.data.toList.drop 0 = dktX1_isSound_0 := by decide +kernel
theorem dksX1_isSound_1 : cX1_isSound.data.toList.drop 22 = dktX1_isSound_1 := dk_seg dksX1_isSound_0 22 rfl rfl
theorem dksX1_isSound_2 : cX1_isSound.data.toList.drop 44 = dktX1_isSound_2 := dk_seg dksX1_isSound_1 22 rfl rfl
theorem dX1_isSound_0 : decode cX1_isSound 0 = .ok (.iconst 1, 1) := dk_4 (dk_at dksX1_isSound_0 0 rfl rfl)
theorem dX1_isSound_1 : decode cX1_isSound 1 = .ok (.istore_n 1, 1) := dk_60 (dk_at dksX1_isSound_0 1 rfl rfl)
theorem dX1_isSound_2 : decode cX1_isSound 2 = .ok (.aload_n 0, 1) := dk_42 (dk_at dksX1_isSound_0 2 rfl rfl)
theorem dX1_isSound_3 : decode cX1_isSound 3 = .ok (.getfield 37, 3) := dk_180 0 37 (dk_at dksX1_isSound_0 3 rfl rfl)
theorem dX1_isSound_6 : decode cX1_isSound 6 = .ok (.invokeinterface 204 1, 5) := by decide +kernel
theorem dX1_isSound_11 : decode cX1_isSound 11 = .ok (.astore_n 2, 1) := dk_77 (dk_at dksX1_isSound_0 11 rfl rfl)
theorem dX1_isSound_12 : decode cX1_isSound 12 = .ok (.aload_n 2, 1) := dk_44 (dk_at dksX1_isSound_0 12 rfl rfl)
theorem dX1_isSound_13 : decode cX1_isSound 13 = .ok (.invokeinterface 208 1, 5) := by decide +kernel
theorem dX1_isSound_18 : decode cX1_isSound 18 = .ok (.ifCond .eq 34, 3) := dk_153 0 34 (dk_at dksX1_isSound_0 18 rfl rfl)
theorem dX1_isSound_21 : decode cX1_isSound 21 = .ok (.aload_n 2, 1) := dk_44 (dk_at dksX1_isSound_0 21 rfl rfl)
theorem dX1_isSound_22 : decode cX1_isSound 22 = .ok (.invokeinterface 213 1, 5) := by decide +kernel
theorem dX1_isSound_27 : decode cX1_isSound 27 = .ok (.checkcast 81, 3) := dk_192 0 81 (dk_at dksX1_isSound_1 5 rfl rfl)
theorem dX1_isSound_30 : decode cX1_isSound 30 = .ok (.astore_n 3, 1) := dk_78 (dk_at dksX1_isSound_1 8 rfl rfl)
theorem dX1_isSound_31 : decode cX1_isSound 31 = .ok (.iload_n 1, 1) := dk_27 (dk_at dksX1_isSound_1 9 rfl rfl)
theorem dX1_isSound_32 : decode cX1_isSound 32 = .ok (.ifCond .eq 15, 3) := dk_153 0 15 (dk_at dksX1_isSound_1 10 rfl rfl)
theorem dX1_isSound_35 : decode cX1_isSound 35 = .ok (.aload_n 0, 1) := dk_42 (dk_at dksX1_isSound_1 13 rfl rfl)
theorem dX1_isSound_36 : decode cX1_isSound 36 = .ok (.aload_n 3, 1) := dk_45 (dk_at dksX1_isSound_1 14 rfl rfl)
theorem dX1_isSound_37 : decode cX1_isSound 37 = .ok (.invokevirtual 509, 3) := dk_182 1 253 (dk_at dksX1_isSound_1 15 rfl rfl)
theorem dX1_isSound_40 : decode cX1_isSound 40 = .ok (.ifCond .eq 7, 3) := dk_153 0 7 (dk_at dksX1_isSound_1 18 rfl rfl)
theorem dX1_isSound_43 : decode cX1_isSound 43 = .ok (.iconst 1, 1) := dk_4 (dk_at dksX1_isSound_1 21 rfl rfl)
theorem dX1_isSound_44 : decode cX1_isSound 44 = .ok (.goto 4, 3) := dk_167 0 4 (dk_at dksX1_isSound_2 0 rfl rfl)
theorem dX1_isSound_47 : decode cX1_isSound 47 = .ok (.iconst 0, 1) := dk_3 (dk_at dksX1_isSound_2 3 rfl rfl)
theorem dX1_isSound_48 : decode cX1_isSound 48 = .ok (.istore_n 1, 1) := dk_60 (dk_at dksX1_isSound_2 4 rfl rfl)
theorem dX1_isSound_49 : decode cX1_isSound 49 = .ok (.goto (-37), 3) := dk_167 255 219 (dk_at dksX1_isSound_2 5 rfl rfl)
theorem dX1_isSound_52 : decode cX1_isSound 52 = .ok (.iload_n 1, 1) := dk_27 (dk_at dksX1_isSound_2 8 rfl rfl)
theorem dX1_isSound_53 : decode cX1_isSound 53 = .ok (.ireturn, 1) := dk_172 (dk_at dksX1_isSound_2 9 rfl rfl)
abbrev cX1_isRight : ByteArray := prog_1_method_73_code
def yX1_isRight : MethodName := ⟨RX1, "isRight", "(LKeygrove$Person;)Z"⟩
def dkwX1_isRight_9 : List UInt8 := [172]
abbrev dktX1_isRight_9 : List UInt8 := dkwX1_isRight_9 ++ []
def dkwX1_isRight_8 : List UInt8 := [153, 0, 23, 42, 43, 182, 0, 231, 153, 0, 11, 42, 43, 182, 1, 250, 153, 0, 7, 4, 167, 0, 4, 3]
abbrev dktX1_isRight_8 : List UInt8 := dkwX1_isRight_8 ++ dktX1_isRight_9
def dkwX1_isRight_7 : List UInt8 := [180, 1, 167, 42, 43, 180, 0, 92, 182, 1, 237, 160, 0, 7, 4, 167, 0, 4, 3, 54, 4, 21, 4]
abbrev dktX1_isRight_7 : List UInt8 := dkwX1_isRight_7 ++ dktX1_isRight_8
def dkwX1_isRight_6 : List UInt8 := [3, 54, 4, 132, 5, 1, 167, 255, 144, 21, 4, 153, 0, 29, 43, 182, 0, 88, 153, 0, 18, 43]
abbrev dktX1_isRight_6 : List UInt8 := dkwX1_isRight_6 ++ dktX1_isRight_7
def dkwX1_isRight_5 : List UInt8 := [43, 180, 0, 92, 162, 0, 16, 45, 42, 21, 5, 182, 1, 237, 182, 1, 165, 154, 0, 7, 4, 167, 0, 4]
abbrev dktX1_isRight_5 : List UInt8 := dkwX1_isRight_5 ++ dktX1_isRight_6
def dkwX1_isRight_4 : List UInt8 := [160, 0, 7, 4, 167, 0, 4, 3, 54, 4, 21, 4, 153, 0, 36, 43, 182, 0, 88, 153, 0, 25, 21, 5]
abbrev dktX1_isRight_4 : List UInt8 := dkwX1_isRight_4 ++ dktX1_isRight_5
def dkwX1_isRight_3 : List UInt8 := [4, 167, 0, 4, 3, 54, 6, 21, 4, 153, 0, 22, 44, 42, 21, 5, 182, 1, 237, 182, 1, 165, 21, 6]
abbrev dktX1_isRight_3 : List UInt8 := dkwX1_isRight_3 ++ dktX1_isRight_4
def dkwX1_isRight_2 : List UInt8 := [180, 0, 47, 21, 5, 185, 0, 77, 2, 0, 192, 0, 86, 43, 180, 0, 198, 182, 0, 201, 2, 159, 0, 7]
abbrev dktX1_isRight_2 : List UInt8 := dkwX1_isRight_2 ++ dktX1_isRight_3
def dkwX1_isRight_1 : List UInt8 := [184, 1, 222, 182, 1, 226, 78, 4, 54, 4, 3, 54, 5, 21, 5, 42, 182, 0, 83, 163, 0, 109, 42]
abbrev dktX1_isRight_1 : List UInt8 := dkwX1_isRight_1 ++ dktX1_isRight_2
def dkwX1_isRight_0 : List UInt8 := [42, 180, 0, 28, 43, 180, 1, 240, 184, 1, 222, 182, 1, 226, 77, 42, 180, 0, 28, 43, 182, 1, 161]
abbrev dktX1_isRight_0 : List UInt8 := dkwX1_isRight_0 ++ dktX1_isRight_1
theorem dksX1_isRight_0 : cX1_isRight.data.toList.drop 0 = dktX1_isRight_0 := by decide +kernel
theorem dksX1_isRight_1 : cX1_isRight.data.toList.drop 23 = dktX1_isRight_1 := dk_seg dksX1_isRight_0 23 rfl rfl
theorem dksX1_isRight_2 : cX1_isRight.data.toList.drop 46 = dktX1_isRight_2 := dk_seg dksX1_isRight_1 23 rfl rfl
theorem dksX1_isRight_3 : cX1_isRight.data.toList.drop 70 = dktX1_isRight_3 := dk_seg dksX1_isRight_2 24 rfl rfl
theorem dksX1_isRight_4 : cX1_isRight.data.toList.drop 94 = dktX1_isRight_4 := dk_seg dksX1_isRight_3 24 rfl rfl
theorem dksX1_isRight_5 : cX1_isRight.data.toList.drop 118 = dktX1_isRight_5 := dk_seg dksX1_isRight_4 24 rfl rfl
theorem dksX1_isRight_6 : cX1_isRight.data.toList.drop 142 = dktX1_isRight_6 := dk_seg dksX1_isRight_5 24 rfl rfl
theorem dksX1_isRight_7 : cX1_isRight.data.toList.drop 164 = dktX1_isRight_7 := dk_seg dksX1_isRight_6 22 rfl rfl
theorem dksX1_isRight_8 : cX1_isRight.data.toList.drop 187 = dktX1_isRight_8 := dk_seg dksX1_isRight_7 23 rfl rfl
theorem dksX1_isRight_9 : cX1_isRight.data.toList.drop 211 = dktX1_isRight_9 := dk_seg dksX1_isRight_8 24 rfl rfl
theorem dX1_isRight_0 : decode cX1_isRight 0 = .ok (.aload_n 0, 1) := dk_42 (dk_at dksX1_isRight_0 0 rfl rfl)
theorem dX1_isRight_1 : decode cX1_isRight 1 = .ok (.getfield 28, 3) := dk_180 0 28 (dk_at dksX1_isRight_0 1 rfl rfl)
theorem dX1_isRight_4 : decode cX1_isRight 4 = .ok (.aload_n 1, 1) := dk_43 (dk_at dksX1_isRight_0 4 rfl rfl)
theorem dX1_isRight_5 : decode cX1_isRight 5 = .ok (.getfield 496, 3) := dk_180 1 240 (dk_at dksX1_isRight_0 5 rfl rfl)
theorem dX1_isRight_8 : decode cX1_isRight 8 = .ok (.invokestatic 478, 3) := dk_184 1 222 (dk_at dksX1_isRight_0 8 rfl rfl)
theorem dX1_isRight_11 : decode cX1_isRight 11 = .ok (.invokevirtual 482, 3) := dk_182 1 226 (dk_at dksX1_isRight_0 11 rfl rfl)
theorem dX1_isRight_14 : decode cX1_isRight 14 = .ok (.astore_n 2, 1) := dk_77 (dk_at dksX1_isRight_0 14 rfl rfl)
theorem dX1_isRight_15 : decode cX1_isRight 15 = .ok (.aload_n 0, 1) := dk_42 (dk_at dksX1_isRight_0 15 rfl rfl)
theorem dX1_isRight_16 : decode cX1_isRight 16 = .ok (.getfield 28, 3) := dk_180 0 28 (dk_at dksX1_isRight_0 16 rfl rfl)
theorem dX1_isRight_19 : decode cX1_isRight 19 = .ok (.aload_n 1, 1) := dk_43 (dk_at dksX1_isRight_0 19 rfl rfl)
theorem dX1_isRight_20 : decode cX1_isRight 20 = .ok (.invokevirtual 417, 3) := dk_182 1 161 (dk_at dksX1_isRight_0 20 rfl rfl)
theorem dX1_isRight_23 : decode cX1_isRight 23 = .ok (.invokestatic 478, 3) := dk_184 1 222 (dk_at dksX1_isRight_1 0 rfl rfl)
theorem dX1_isRight_26 : decode cX1_isRight 26 = .ok (.invokevirtual 482, 3) := dk_182 1 226 (dk_at dksX1_isRight_1 3 rfl rfl)
theorem dX1_isRight_29 : decode cX1_isRight 29 = .ok (.astore_n 3, 1) := dk_78 (dk_at dksX1_isRight_1 6 rfl rfl)
theorem dX1_isRight_30 : decode cX1_isRight 30 = .ok (.iconst 1, 1) := dk_4 (dk_at dksX1_isRight_1 7 rfl rfl)
theorem dX1_isRight_31 : decode cX1_isRight 31 = .ok (.istore 4, 2) := dk_54 4 (dk_at dksX1_isRight_1 8 rfl rfl)
theorem dX1_isRight_33 : decode cX1_isRight 33 = .ok (.iconst 0, 1) := dk_3 (dk_at dksX1_isRight_1 10 rfl rfl)
theorem dX1_isRight_34 : decode cX1_isRight 34 = .ok (.istore 5, 2) := dk_54 5 (dk_at dksX1_isRight_1 11 rfl rfl)
theorem dX1_isRight_36 : decode cX1_isRight 36 = .ok (.iload 5, 2) := dk_21 5 (dk_at dksX1_isRight_1 13 rfl rfl)
theorem dX1_isRight_38 : decode cX1_isRight 38 = .ok (.aload_n 0, 1) := dk_42 (dk_at dksX1_isRight_1 15 rfl rfl)
theorem dX1_isRight_39 : decode cX1_isRight 39 = .ok (.invokevirtual 83, 3) := dk_182 0 83 (dk_at dksX1_isRight_1 16 rfl rfl)
theorem dX1_isRight_42 : decode cX1_isRight 42 = .ok (.if_icmp .gt 109, 3) := dk_163 0 109 (dk_at dksX1_isRight_1 19 rfl rfl)
theorem dX1_isRight_45 : decode cX1_isRight 45 = .ok (.aload_n 0, 1) := dk_42 (dk_at dksX1_isRight_1 22 rfl rfl)
theorem dX1_isRight_46 : decode cX1_isRight 46 = .ok (.getfield 47, 3) := dk_180 0 47 (dk_at dksX1_isRight_2 0 rfl rfl)
theorem dX1_isRight_49 : decode cX1_isRight 49 = .ok (.iload 5, 2) := dk_21 5 (dk_at dksX1_isRight_2 3 rfl rfl)
theorem dX1_isRight_51 : decode cX1_isRight 51 = .ok (.invokeinterface 77 2, 5) := by decide +kernel
theorem dX1_isRight_56 : decode cX1_isRight 56 = .ok (.checkcast 86, 3) := dk_192 0 86 (dk_at dksX1_isRight_2 10 rfl rfl)
theorem dX1_isRight_59 : decode cX1_isRight 59 = .ok (.aload_n 1, 1) := dk_43 (dk_at dksX1_isRight_2 13 rfl rfl)
theorem dX1_isRight_60 : decode cX1_isRight 60 = .ok (.getfield 198, 3) := dk_180 0 198 (dk_at dksX1_isRight_2 14 rfl rfl)
theorem dX1_isRight_63 : decode cX1_isRight 63 = .ok (.invokevirtual 201, 3) := dk_182 0 201 (dk_at dksX1_isRight_2 17 rfl rfl)
theorem dX1_isRight_66 : decode cX1_isRight 66 = .ok (.iconst (-1), 1) := dk_2 (dk_at dksX1_isRight_2 20 rfl rfl)
theorem dX1_isRight_67 : decode cX1_isRight 67 = .ok (.if_icmp .eq 7, 3) := dk_159 0 7 (dk_at dksX1_isRight_2 21 rfl rfl)
theorem dX1_isRight_70 : decode cX1_isRight 70 = .ok (.iconst 1, 1) := dk_4 (dk_at dksX1_isRight_3 0 rfl rfl)
theorem dX1_isRight_71 : decode cX1_isRight 71 = .ok (.goto 4, 3) := dk_167 0 4 (dk_at dksX1_isRight_3 1 rfl rfl)
theorem dX1_isRight_74 : decode cX1_isRight 74 = .ok (.iconst 0, 1) := dk_3 (dk_at dksX1_isRight_3 4 rfl rfl)
theorem dX1_isRight_75 : decode cX1_isRight 75 = .ok (.istore 6, 2) := dk_54 6 (dk_at dksX1_isRight_3 5 rfl rfl)
theorem dX1_isRight_77 : decode cX1_isRight 77 = .ok (.iload 4, 2) := dk_21 4 (dk_at dksX1_isRight_3 7 rfl rfl)
theorem dX1_isRight_79 : decode cX1_isRight 79 = .ok (.ifCond .eq 22, 3) := dk_153 0 22 (dk_at dksX1_isRight_3 9 rfl rfl)
theorem dX1_isRight_82 : decode cX1_isRight 82 = .ok (.aload_n 2, 1) := dk_44 (dk_at dksX1_isRight_3 12 rfl rfl)
theorem dX1_isRight_83 : decode cX1_isRight 83 = .ok (.aload_n 0, 1) := dk_42 (dk_at dksX1_isRight_3 13 rfl rfl)
theorem dX1_isRight_84 : decode cX1_isRight 84 = .ok (.iload 5, 2) := dk_21 5 (dk_at dksX1_isRight_3 14 rfl rfl)
theorem dX1_isRight_86 : decode cX1_isRight 86 = .ok (.invokevirtual 493, 3) := dk_182 1 237 (dk_at dksX1_isRight_3 16 rfl rfl)
theorem dX1_isRight_89 : decode cX1_isRight 89 = .ok (.invokevirtual 421, 3) := dk_182 1 165 (dk_at dksX1_isRight_3 19 rfl rfl)
theorem dX1_isRight_92 : decode cX1_isRight 92 = .ok (.iload 6, 2) := dk_21 6 (dk_at dksX1_isRight_3 22 rfl rfl)
theorem dX1_isRight_94 : decode cX1_isRight 94 = .ok (.if_icmp .ne 7, 3) := dk_160 0 7 (dk_at dksX1_isRight_4 0 rfl rfl)
theorem dX1_isRight_97 : decode cX1_isRight 97 = .ok (.iconst 1, 1) := dk_4 (dk_at dksX1_isRight_4 3 rfl rfl)
theorem dX1_isRight_98 : decode cX1_isRight 98 = .ok (.goto 4, 3) := dk_167 0 4 (dk_at dksX1_isRight_4 4 rfl rfl)
theorem dX1_isRight_101 : decode cX1_isRight 101 = .ok (.iconst 0, 1) := dk_3 (dk_at dksX1_isRight_4 7 rfl rfl)
theorem dX1_isRight_102 : decode cX1_isRight 102 = .ok (.istore 4, 2) := dk_54 4 (dk_at dksX1_isRight_4 8 rfl rfl)
theorem dX1_isRight_104 : decode cX1_isRight 104 = .ok (.iload 4, 2) := dk_21 4 (dk_at dksX1_isRight_4 10 rfl rfl)
theorem dX1_isRight_106 : decode cX1_isRight 106 = .ok (.ifCond .eq 36, 3) := dk_153 0 36 (dk_at dksX1_isRight_4 12 rfl rfl)
theorem dX1_isRight_109 : decode cX1_isRight 109 = .ok (.aload_n 1, 1) := dk_43 (dk_at dksX1_isRight_4 15 rfl rfl)
theorem dX1_isRight_110 : decode cX1_isRight 110 = .ok (.invokevirtual 88, 3) := dk_182 0 88 (dk_at dksX1_isRight_4 16 rfl rfl)
theorem dX1_isRight_113 : decode cX1_isRight 113 = .ok (.ifCond .eq 25, 3) := dk_153 0 25 (dk_at dksX1_isRight_4 19 rfl rfl)
theorem dX1_isRight_116 : decode cX1_isRight 116 = .ok (.iload 5, 2) := dk_21 5 (dk_at dksX1_isRight_4 22 rfl rfl)
theorem dX1_isRight_118 : decode cX1_isRight 118 = .ok (.aload_n 1, 1) := dk_43 (dk_at dksX1_isRight_5 0 rfl rfl)
theorem dX1_isRight_119 : decode cX1_isRight 119 = .ok (.getfield 92, 3) := dk_180 0 92 (dk_at dksX1_isRight_5 1 rfl rfl)
theorem dX1_isRight_122 : decode cX1_isRight 122 = .ok (.if_icmp .ge 16, 3) := dk_162 0 16 (dk_at dksX1_isRight_5 4 rfl rfl)
theorem dX1_isRight_125 : decode cX1_isRight 125 = .ok (.aload_n 3, 1) := dk_45 (dk_at dksX1_isRight_5 7 rfl rfl)
theorem dX1_isRight_126 : decode cX1_isRight 126 = .ok (.aload_n 0, 1) := dk_42 (dk_at dksX1_isRight_5 8 rfl rfl)
theorem dX1_isRight_127 : decode cX1_isRight 127 = .ok (.iload 5, 2) := dk_21 5 (dk_at dksX1_isRight_5 9 rfl rfl)
theorem dX1_isRight_129 : decode cX1_isRight 129 = .ok (.invokevirtual 493, 3) := dk_182 1 237 (dk_at dksX1_isRight_5 11 rfl rfl)
theorem dX1_isRight_132 : decode cX1_isRight 132 = .ok (.invokevirtual 421, 3) := dk_182 1 165 (dk_at dksX1_isRight_5 14 rfl rfl)
theorem dX1_isRight_135 : decode cX1_isRight 135 = .ok (.ifCond .ne 7, 3) := dk_154 0 7 (dk_at dksX1_isRight_5 17 rfl rfl)
theorem dX1_isRight_138 : decode cX1_isRight 138 = .ok (.iconst 1, 1) := dk_4 (dk_at dksX1_isRight_5 20 rfl rfl)
theorem dX1_isRight_139 : decode cX1_isRight 139 = .ok (.goto 4, 3) := dk_167 0 4 (dk_at dksX1_isRight_5 21 rfl rfl)
theorem dX1_isRight_142 : decode cX1_isRight 142 = .ok (.iconst 0, 1) := dk_3 (dk_at dksX1_isRight_6 0 rfl rfl)
theorem dX1_isRight_143 : decode cX1_isRight 143 = .ok (.istore 4, 2) := dk_54 4 (dk_at dksX1_isRight_6 1 rfl rfl)
theorem dX1_isRight_145 : decode cX1_isRight 145 = .ok (.iinc 5 1, 3) := dk_132 5 1 (dk_at dksX1_isRight_6 3 rfl rfl)
theorem dX1_isRight_148 : decode cX1_isRight 148 = .ok (.goto (-112), 3) := dk_167 255 144 (dk_at dksX1_isRight_6 6 rfl rfl)
theorem dX1_isRight_151 : decode cX1_isRight 151 = .ok (.iload 4, 2) := dk_21 4 (dk_at dksX1_isRight_6 9 rfl rfl)
theorem dX1_isRight_153 : decode cX1_isRight 153 = .ok (.ifCond .eq 29, 3) := dk_153 0 29 (dk_at dksX1_isRight_6 11 rfl rfl)
theorem dX1_isRight_156 : decode cX1_isRight 156 = .ok (.aload_n 1, 1) := dk_43 (dk_at dksX1_isRight_6 14 rfl rfl)
theorem dX1_isRight_157 : decode cX1_isRight 157 = .ok (.invokevirtual 88, 3) := dk_182 0 88 (dk_at dksX1_isRight_6 15 rfl rfl)
theorem dX1_isRight_160 : decode cX1_isRight 160 = .ok (.ifCond .eq 18, 3) := dk_153 0 18 (dk_at dksX1_isRight_6 18 rfl rfl)
theorem dX1_isRight_163 : decode cX1_isRight 163 = .ok (.aload_n 1, 1) := dk_43 (dk_at dksX1_isRight_6 21 rfl rfl)
theorem dX1_isRight_164 : decode cX1_isRight 164 = .ok (.getfield 423, 3) := dk_180 1 167 (dk_at dksX1_isRight_7 0 rfl rfl)
theorem dX1_isRight_167 : decode cX1_isRight 167 = .ok (.aload_n 0, 1) := dk_42 (dk_at dksX1_isRight_7 3 rfl rfl)
theorem dX1_isRight_168 : decode cX1_isRight 168 = .ok (.aload_n 1, 1) := dk_43 (dk_at dksX1_isRight_7 4 rfl rfl)
theorem dX1_isRight_169 : decode cX1_isRight 169 = .ok (.getfield 92, 3) := dk_180 0 92 (dk_at dksX1_isRight_7 5 rfl rfl)
theorem dX1_isRight_172 : decode cX1_isRight 172 = .ok (.invokevirtual 493, 3) := dk_182 1 237 (dk_at dksX1_isRight_7 8 rfl rfl)
theorem dX1_isRight_175 : decode cX1_isRight 175 = .ok (.if_icmp .ne 7, 3) := dk_160 0 7 (dk_at dksX1_isRight_7 11 rfl rfl)
theorem dX1_isRight_178 : decode cX1_isRight 178 = .ok (.iconst 1, 1) := dk_4 (dk_at dksX1_isRight_7 14 rfl rfl)
theorem dX1_isRight_179 : decode cX1_isRight 179 = .ok (.goto 4, 3) := dk_167 0 4 (dk_at dksX1_isRight_7 15 rfl rfl)
theorem dX1_isRight_182 : decode cX1_isRight 182 = .ok (.iconst 0, 1) := dk_3 (dk_at dksX1_isRight_7 18 rfl rfl)
theorem dX1_isRight_183 : decode cX1_isRight 183 = .ok (.istore 4, 2) := dk_54 4 (dk_at dksX1_isRight_7 19 rfl rfl)
theorem dX1_isRight_185 : decode cX1_isRight 185 = .ok (.iload 4, 2) := dk_21 4 (dk_at dksX1_isRight_7 21 rfl rfl)
theorem dX1_isRight_187 : decode cX1_isRight 187 = .ok (.ifCond .eq 23, 3) := dk_153 0 23 (dk_at dksX1_isRight_8 0 rfl rfl)
theorem dX1_isRight_190 : decode cX1_isRight 190 = .ok (.aload_n 0, 1) := dk_42 (dk_at dksX1_isRight_8 3 rfl rfl)
theorem dX1_isRight_191 : decode cX1_isRight 191 = .ok (.aload_n 1, 1) := dk_43 (dk_at dksX1_isRight_8 4 rfl rfl)
theorem dX1_isRight_192 : decode cX1_isRight 192 = .ok (.invokevirtual 231, 3) := dk_182 0 231 (dk_at dksX1_isRight_8 5 rfl rfl)
theorem dX1_isRight_195 : decode cX1_isRight 195 = .ok (.ifCond .eq 11, 3) := dk_153 0 11 (dk_at dksX1_isRight_8 8 rfl rfl)
theorem dX1_isRight_198 : decode cX1_isRight 198 = .ok (.aload_n 0, 1) := dk_42 (dk_at dksX1_isRight_8 11 rfl rfl)
theorem dX1_isRight_199 : decode cX1_isRight 199 = .ok (.aload_n 1, 1) := dk_43 (dk_at dksX1_isRight_8 12 rfl rfl)
theorem dX1_isRight_200 : decode cX1_isRight 200 = .ok (.invokevirtual 506, 3) := dk_182 1 250 (dk_at dksX1_isRight_8 13 rfl rfl)
theorem dX1_isRight_203 : decode cX1_isRight 203 = .ok (.ifCond .eq 7, 3) := dk_153 0 7 (dk_at dksX1_isRight_8 16 rfl rfl)
theorem dX1_isRight_206 : decode cX1_isRight 206 = .ok (.iconst 1, 1) := dk_4 (dk_at dksX1_isRight_8 19 rfl rfl)
theorem dX1_isRight_207 : decode cX1_isRight 207 = .ok (.goto 4, 3) := dk_167 0 4 (dk_at dksX1_isRight_8 20 rfl rfl)
theorem dX1_isRight_210 : decode cX1_isRight 210 = .ok (.iconst 0, 1) := dk_3 (dk_at dksX1_isRight_8 23 rfl rfl)
theorem dX1_isRight_211 : decode cX1_isRight 211 = .ok (.ireturn, 1) := dk_172 (dk_at dksX1_isRight_9 0 rfl rfl)
abbrev cX1_keyOf : ByteArray := prog_1_method_64_code
def yX1_keyOf : MethodName := ⟨RX1, "keyOf", "(I)I"⟩
def dkwX1_keyOf_1 : List UInt8 := [182, 0, 172, 172]
abbrev dktX1_keyOf_1 : List UInt8 := dkwX1_keyOf_1 ++ []
def dkwX1_keyOf_0 : List UInt8 := [42, 180, 0, 28, 42, 180, 0, 50, 27, 185, 0, 77, 2, 0, 192, 0, 149, 180, 0, 161, 16, 6]
abbrev dktX1_keyOf_0 : List UInt8 := dkwX1_keyOf_0 ++ dktX1_keyOf_1
theorem dksX1_keyOf_0 : cX1_keyOf.data.toList.drop 0 = dktX1_keyOf_0 := by decide +kernel
theorem dksX1_keyOf_1 : cX1_keyOf.data.toList.drop 22 = dktX1_keyOf_1 := dk_seg dksX1_keyOf_0 22 rfl rfl
theorem dX1_keyOf_0 : decode cX1_keyOf 0 = .ok (.aload_n 0, 1) := dk_42 (dk_at dksX1_keyOf_0 0 rfl rfl)
theorem dX1_keyOf_1 : decode cX1_keyOf 1 = .ok (.getfield 28, 3) := dk_180 0 28 (dk_at dksX1_keyOf_0 1 rfl rfl)
theorem dX1_keyOf_4 : decode cX1_keyOf 4 = .ok (.aload_n 0, 1) := dk_42 (dk_at dksX1_keyOf_0 4 rfl rfl)
theorem dX1_keyOf_5 : decode cX1_keyOf 5 = .ok (.getfield 50, 3) := dk_180 0 50 (dk_at dksX1_keyOf_0 5 rfl rfl)
theorem dX1_keyOf_8 : decode cX1_keyOf 8 = .ok (.iload_n 1, 1) := dk_27 (dk_at dksX1_keyOf_0 8 rfl rfl)
theorem dX1_keyOf_9 : decode cX1_keyOf 9 = .ok (.invokeinterface 77 2, 5) := by decide +kernel
theorem dX1_keyOf_14 : decode cX1_keyOf 14 = .ok (.checkcast 149, 3) := dk_192 0 149 (dk_at dksX1_keyOf_0 14 rfl rfl)
theorem dX1_keyOf_17 : decode cX1_keyOf 17 = .ok (.getfield 161, 3) := dk_180 0 161 (dk_at dksX1_keyOf_0 17 rfl rfl)
theorem dX1_keyOf_20 : decode cX1_keyOf 20 = .ok (.bipush 6, 2) := dk_16 6 (dk_at dksX1_keyOf_0 20 rfl rfl)
theorem dX1_keyOf_22 : decode cX1_keyOf 22 = .ok (.invokevirtual 172, 3) := dk_182 0 172 (dk_at dksX1_keyOf_1 0 rfl rfl)
theorem dX1_keyOf_25 : decode cX1_keyOf 25 = .ok (.ireturn, 1) := dk_172 (dk_at dksX1_keyOf_1 3 rfl rfl)
abbrev cX1_mix : ByteArray := prog_1_method_7_code
def yX1_mix : MethodName := ⟨RX1, "mix", "(II)I"⟩
def dkwX1_mix_1 : List UInt8 := [130, 18, 21, 104, 61, 28, 28, 16, 16, 124, 130, 172]
abbrev dktX1_mix_1 : List UInt8 := dkwX1_mix_1 ++ []
def dkwX1_mix_0 : List UInt8 := [26, 18, 19, 27, 4, 96, 104, 96, 61, 28, 28, 16, 16, 124, 130, 18, 20, 104, 61, 28, 28, 16, 13, 124]
abbrev dktX1_mix_0 : List UInt8 := dkwX1_mix_0 ++ dktX1_mix_1
theorem dksX1_mix_0 : cX1_mix.data.toList.drop 0 = dktX1_mix_0 := by decide +kernel
theorem dksX1_mix_1 : cX1_mix.data.toList.drop 24 = dktX1_mix_1 := dk_seg dksX1_mix_0 24 rfl rfl
theorem dX1_mix_0 : decode cX1_mix 0 = .ok (.iload_n 0, 1) := dk_26 (dk_at dksX1_mix_0 0 rfl rfl)
theorem dX1_mix_1 : decode cX1_mix 1 = .ok (.ldc 19, 2) := dk_18 19 (dk_at dksX1_mix_0 1 rfl rfl)
theorem dX1_mix_3 : decode cX1_mix 3 = .ok (.iload_n 1, 1) := dk_27 (dk_at dksX1_mix_0 3 rfl rfl)
theorem dX1_mix_4 : decode cX1_mix 4 = .ok (.iconst 1, 1) := dk_4 (dk_at dksX1_mix_0 4 rfl rfl)
theorem dX1_mix_5 : decode cX1_mix 5 = .ok (.iadd, 1) := dk_96 (dk_at dksX1_mix_0 5 rfl rfl)
theorem dX1_mix_6 : decode cX1_mix 6 = .ok (.imul, 1) := dk_104 (dk_at dksX1_mix_0 6 rfl rfl)
theorem dX1_mix_7 : decode cX1_mix 7 = .ok (.iadd, 1) := dk_96 (dk_at dksX1_mix_0 7 rfl rfl)
theorem dX1_mix_8 : decode cX1_mix 8 = .ok (.istore_n 2, 1) := dk_61 (dk_at dksX1_mix_0 8 rfl rfl)
theorem dX1_mix_9 : decode cX1_mix 9 = .ok (.iload_n 2, 1) := dk_28 (dk_at dksX1_mix_0 9 rfl rfl)
theorem dX1_mix_10 : decode cX1_mix 10 = .ok (.iload_n 2, 1) := dk_28 (dk_at dksX1_mix_0 10 rfl rfl)
theorem dX1_mix_11 : decode cX1_mix 11 = .ok (.bipush 16, 2) := dk_16 16 (dk_at dksX1_mix_0 11 rfl rfl)
theorem dX1_mix_13 : decode cX1_mix 13 = .ok (.iushr, 1) := dk_124 (dk_at dksX1_mix_0 13 rfl rfl)
theorem dX1_mix_14 : decode cX1_mix 14 = .ok (.ixor, 1) := dk_130 (dk_at dksX1_mix_0 14 rfl rfl)
theorem dX1_mix_15 : decode cX1_mix 15 = .ok (.ldc 20, 2) := dk_18 20 (dk_at dksX1_mix_0 15 rfl rfl)
theorem dX1_mix_17 : decode cX1_mix 17 = .ok (.imul, 1) := dk_104 (dk_at dksX1_mix_0 17 rfl rfl)
theorem dX1_mix_18 : decode cX1_mix 18 = .ok (.istore_n 2, 1) := dk_61 (dk_at dksX1_mix_0 18 rfl rfl)
theorem dX1_mix_19 : decode cX1_mix 19 = .ok (.iload_n 2, 1) := dk_28 (dk_at dksX1_mix_0 19 rfl rfl)
theorem dX1_mix_20 : decode cX1_mix 20 = .ok (.iload_n 2, 1) := dk_28 (dk_at dksX1_mix_0 20 rfl rfl)
theorem dX1_mix_21 : decode cX1_mix 21 = .ok (.bipush 13, 2) := dk_16 13 (dk_at dksX1_mix_0 21 rfl rfl)
theorem dX1_mix_23 : decode cX1_mix 23 = .ok (.iushr, 1) := dk_124 (dk_at dksX1_mix_0 23 rfl rfl)
theorem dX1_mix_24 : decode cX1_mix 24 = .ok (.ixor, 1) := dk_130 (dk_at dksX1_mix_1 0 rfl rfl)
theorem dX1_mix_25 : decode cX1_mix 25 = .ok (.ldc 21, 2) := dk_18 21 (dk_at dksX1_mix_1 1 rfl rfl)
theorem dX1_mix_27 : decode cX1_mix 27 = .ok (.imul, 1) := dk_104 (dk_at dksX1_mix_1 3 rfl rfl)
theorem dX1_mix_28 : decode cX1_mix 28 = .ok (.istore_n 2, 1) := dk_61 (dk_at dksX1_mix_1 4 rfl rfl)
theorem dX1_mix_29 : decode cX1_mix 29 = .ok (.iload_n 2, 1) := dk_28 (dk_at dksX1_mix_1 5 rfl rfl)
theorem dX1_mix_30 : decode cX1_mix 30 = .ok (.iload_n 2, 1) := dk_28 (dk_at dksX1_mix_1 6 rfl rfl)
theorem dX1_mix_31 : decode cX1_mix 31 = .ok (.bipush 16, 2) := dk_16 16 (dk_at dksX1_mix_1 7 rfl rfl)
theorem dX1_mix_33 : decode cX1_mix 33 = .ok (.iushr, 1) := dk_124 (dk_at dksX1_mix_1 9 rfl rfl)
theorem dX1_mix_34 : decode cX1_mix 34 = .ok (.ixor, 1) := dk_130 (dk_at dksX1_mix_1 10 rfl rfl)
theorem dX1_mix_35 : decode cX1_mix 35 = .ok (.ireturn, 1) := dk_172 (dk_at dksX1_mix_1 11 rfl rfl)
abbrev cX1_isFresh : ByteArray := prog_1_method_13_code
def yX1_isFresh : MethodName := ⟨RX1, "isFresh", "(LKeygrove$Person;)Z"⟩
def dkwX1_isFresh_0 : List UInt8 := [43, 182, 0, 88, 153, 0, 18, 43, 180, 0, 92, 42, 182, 0, 83, 160, 0, 7, 4, 167, 0, 4, 3, 172]
abbrev dktX1_isFresh_0 : List UInt8 := dkwX1_isFresh_0 ++ []
theorem dksX1_isFresh_0 : cX1_isFresh.data.toList.drop 0 = dktX1_isFresh_0 := by decide +kernel
theorem dX1_isFresh_0 : decode cX1_isFresh 0 = .ok (.aload_n 1, 1) := dk_43 (dk_at dksX1_isFresh_0 0 rfl rfl)
theorem dX1_isFresh_1 : decode cX1_isFresh 1 = .ok (.invokevirtual 88, 3) := dk_182 0 88 (dk_at dksX1_isFresh_0 1 rfl rfl)
theorem dX1_isFresh_4 : decode cX1_isFresh 4 = .ok (.ifCond .eq 18, 3) := dk_153 0 18 (dk_at dksX1_isFresh_0 4 rfl rfl)
theorem dX1_isFresh_7 : decode cX1_isFresh 7 = .ok (.aload_n 1, 1) := dk_43 (dk_at dksX1_isFresh_0 7 rfl rfl)
theorem dX1_isFresh_8 : decode cX1_isFresh 8 = .ok (.getfield 92, 3) := dk_180 0 92 (dk_at dksX1_isFresh_0 8 rfl rfl)
theorem dX1_isFresh_11 : decode cX1_isFresh 11 = .ok (.aload_n 0, 1) := dk_42 (dk_at dksX1_isFresh_0 11 rfl rfl)
theorem dX1_isFresh_12 : decode cX1_isFresh 12 = .ok (.invokevirtual 83, 3) := dk_182 0 83 (dk_at dksX1_isFresh_0 12 rfl rfl)
theorem dX1_isFresh_15 : decode cX1_isFresh 15 = .ok (.if_icmp .ne 7, 3) := dk_160 0 7 (dk_at dksX1_isFresh_0 15 rfl rfl)
theorem dX1_isFresh_18 : decode cX1_isFresh 18 = .ok (.iconst 1, 1) := dk_4 (dk_at dksX1_isFresh_0 18 rfl rfl)
theorem dX1_isFresh_19 : decode cX1_isFresh 19 = .ok (.goto 4, 3) := dk_167 0 4 (dk_at dksX1_isFresh_0 19 rfl rfl)
theorem dX1_isFresh_22 : decode cX1_isFresh 22 = .ok (.iconst 0, 1) := dk_3 (dk_at dksX1_isFresh_0 22 rfl rfl)
theorem dX1_isFresh_23 : decode cX1_isFresh 23 = .ok (.ireturn, 1) := dk_172 (dk_at dksX1_isFresh_0 23 rfl rfl)
abbrev cX1_holdsJust : ByteArray := prog_1_method_74_code
def yX1_holdsJust : MethodName := ⟨RX1, "holdsJust", "(LKeygrove$Person;)Z"⟩
def dkwX1_holdsJust_5 : List UInt8 := [160, 0, 7, 4, 167, 0, 4, 3, 61, 132, 4, 1, 167, 255, 139, 28, 172]
abbrev dktX1_holdsJust_5 : List UInt8 := dkwX1_holdsJust_5 ++ []
def dkwX1_holdsJust_4 : List UInt8 := [180, 0, 152, 21, 4, 184, 0, 110, 182, 1, 142, 192, 0, 111, 182, 1, 67, 45, 180, 0, 143, 21, 4, 46]
abbrev dktX1_holdsJust_4 : List UInt8 := dkwX1_holdsJust_4 ++ dktX1_holdsJust_5
def dkwX1_holdsJust_3 : List UInt8 := [180, 0, 152, 21, 4, 184, 0, 110, 182, 1, 200, 21, 5, 160, 0, 40, 21, 5, 153, 0, 31, 43]
abbrev dktX1_holdsJust_3 : List UInt8 := dkwX1_holdsJust_3 ++ dktX1_holdsJust_4
def dkwX1_holdsJust_2 : List UInt8 := [46, 43, 180, 0, 191, 184, 1, 88, 154, 0, 7, 4, 167, 0, 4, 3, 54, 5, 28, 153, 0, 57, 43]
abbrev dktX1_holdsJust_2 : List UInt8 := dkwX1_holdsJust_2 ++ dktX1_holdsJust_3
def dkwX1_holdsJust_1 : List UInt8 := [180, 0, 191, 184, 1, 130, 153, 0, 33, 45, 21, 4, 182, 1, 127, 154, 0, 24, 45, 180, 1, 79, 21, 4]
abbrev dktX1_holdsJust_1 : List UInt8 := dkwX1_holdsJust_1 ++ dktX1_holdsJust_2
def dkwX1_holdsJust_0 : List UInt8 := [4, 61, 42, 182, 0, 99, 78, 3, 54, 4, 21, 4, 45, 182, 0, 103, 162, 0, 114, 21, 4, 43]
abbrev dktX1_holdsJust_0 : List UInt8 := dkwX1_holdsJust_0 ++ dktX1_holdsJust_1
theorem dksX1_holdsJust_0 : cX1_holdsJust.data.toList.drop 0 = dktX1_holdsJust_0 := by decide +kernel
theorem dksX1_holdsJust_1 : cX1_holdsJust.data.toList.drop 22 = dktX1_holdsJust_1 := dk_seg dksX1_holdsJust_0 22 rfl rfl
theorem dksX1_holdsJust_2 : cX1_holdsJust.data.toList.drop 46 = dktX1_holdsJust_2 := dk_seg dksX1_holdsJust_1 24 rfl rfl
theorem dksX1_holdsJust_3 : cX1_holdsJust.data.toList.drop 69 = dktX1_holdsJust_3 := dk_seg dksX1_holdsJust_2 23 rfl rfl
theorem dksX1_holdsJust_4 : cX1_holdsJust.data.toList.drop 91 = dktX1_holdsJust_4 := dk_seg dksX1_holdsJust_3 22 rfl rfl
theorem dksX1_holdsJust_5 : cX1_holdsJust.data.toList.drop 115 = dktX1_holdsJust_5 := dk_seg dksX1_holdsJust_4 24 rfl rfl
theorem dX1_holdsJust_0 : decode cX1_holdsJust 0 = .ok (.iconst 1, 1) := dk_4 (dk_at dksX1_holdsJust_0 0 rfl rfl)
theorem dX1_holdsJust_1 : decode cX1_holdsJust 1 = .ok (.istore_n 2, 1) := dk_61 (dk_at dksX1_holdsJust_0 1 rfl rfl)
theorem dX1_holdsJust_2 : decode cX1_holdsJust 2 = .ok (.aload_n 0, 1) := dk_42 (dk_at dksX1_holdsJust_0 2 rfl rfl)
theorem dX1_holdsJust_3 : decode cX1_holdsJust 3 = .ok (.invokevirtual 99, 3) := dk_182 0 99 (dk_at dksX1_holdsJust_0 3 rfl rfl)
theorem dX1_holdsJust_6 : decode cX1_holdsJust 6 = .ok (.astore_n 3, 1) := dk_78 (dk_at dksX1_holdsJust_0 6 rfl rfl)
theorem dX1_holdsJust_7 : decode cX1_holdsJust 7 = .ok (.iconst 0, 1) := dk_3 (dk_at dksX1_holdsJust_0 7 rfl rfl)
theorem dX1_holdsJust_8 : decode cX1_holdsJust 8 = .ok (.istore 4, 2) := dk_54 4 (dk_at dksX1_holdsJust_0 8 rfl rfl)
theorem dX1_holdsJust_10 : decode cX1_holdsJust 10 = .ok (.iload 4, 2) := dk_21 4 (dk_at dksX1_holdsJust_0 10 rfl rfl)
theorem dX1_holdsJust_12 : decode cX1_holdsJust 12 = .ok (.aload_n 3, 1) := dk_45 (dk_at dksX1_holdsJust_0 12 rfl rfl)
theorem dX1_holdsJust_13 : decode cX1_holdsJust 13 = .ok (.invokevirtual 103, 3) := dk_182 0 103 (dk_at dksX1_holdsJust_0 13 rfl rfl)
theorem dX1_holdsJust_16 : decode cX1_holdsJust 16 = .ok (.if_icmp .ge 114, 3) := dk_162 0 114 (dk_at dksX1_holdsJust_0 16 rfl rfl)
theorem dX1_holdsJust_19 : decode cX1_holdsJust 19 = .ok (.iload 4, 2) := dk_21 4 (dk_at dksX1_holdsJust_0 19 rfl rfl)
theorem dX1_holdsJust_21 : decode cX1_holdsJust 21 = .ok (.aload_n 1, 1) := dk_43 (dk_at dksX1_holdsJust_0 21 rfl rfl)
theorem dX1_holdsJust_22 : decode cX1_holdsJust 22 = .ok (.getfield 191, 3) := dk_180 0 191 (dk_at dksX1_holdsJust_1 0 rfl rfl)
theorem dX1_holdsJust_25 : decode cX1_holdsJust 25 = .ok (.invokestatic 386, 3) := dk_184 1 130 (dk_at dksX1_holdsJust_1 3 rfl rfl)
theorem dX1_holdsJust_28 : decode cX1_holdsJust 28 = .ok (.ifCond .eq 33, 3) := dk_153 0 33 (dk_at dksX1_holdsJust_1 6 rfl rfl)
theorem dX1_holdsJust_31 : decode cX1_holdsJust 31 = .ok (.aload_n 3, 1) := dk_45 (dk_at dksX1_holdsJust_1 9 rfl rfl)
theorem dX1_holdsJust_32 : decode cX1_holdsJust 32 = .ok (.iload 4, 2) := dk_21 4 (dk_at dksX1_holdsJust_1 10 rfl rfl)
theorem dX1_holdsJust_34 : decode cX1_holdsJust 34 = .ok (.invokevirtual 383, 3) := dk_182 1 127 (dk_at dksX1_holdsJust_1 12 rfl rfl)
theorem dX1_holdsJust_37 : decode cX1_holdsJust 37 = .ok (.ifCond .ne 24, 3) := dk_154 0 24 (dk_at dksX1_holdsJust_1 15 rfl rfl)
theorem dX1_holdsJust_40 : decode cX1_holdsJust 40 = .ok (.aload_n 3, 1) := dk_45 (dk_at dksX1_holdsJust_1 18 rfl rfl)
theorem dX1_holdsJust_41 : decode cX1_holdsJust 41 = .ok (.getfield 335, 3) := dk_180 1 79 (dk_at dksX1_holdsJust_1 19 rfl rfl)
theorem dX1_holdsJust_44 : decode cX1_holdsJust 44 = .ok (.iload 4, 2) := dk_21 4 (dk_at dksX1_holdsJust_1 22 rfl rfl)
theorem dX1_holdsJust_46 : decode cX1_holdsJust 46 = .ok (.iaload, 1) := dk_46 (dk_at dksX1_holdsJust_2 0 rfl rfl)
theorem dX1_holdsJust_47 : decode cX1_holdsJust 47 = .ok (.aload_n 1, 1) := dk_43 (dk_at dksX1_holdsJust_2 1 rfl rfl)
theorem dX1_holdsJust_48 : decode cX1_holdsJust 48 = .ok (.getfield 191, 3) := dk_180 0 191 (dk_at dksX1_holdsJust_2 2 rfl rfl)
theorem dX1_holdsJust_51 : decode cX1_holdsJust 51 = .ok (.invokestatic 344, 3) := dk_184 1 88 (dk_at dksX1_holdsJust_2 5 rfl rfl)
theorem dX1_holdsJust_54 : decode cX1_holdsJust 54 = .ok (.ifCond .ne 7, 3) := dk_154 0 7 (dk_at dksX1_holdsJust_2 8 rfl rfl)
theorem dX1_holdsJust_57 : decode cX1_holdsJust 57 = .ok (.iconst 1, 1) := dk_4 (dk_at dksX1_holdsJust_2 11 rfl rfl)
theorem dX1_holdsJust_58 : decode cX1_holdsJust 58 = .ok (.goto 4, 3) := dk_167 0 4 (dk_at dksX1_holdsJust_2 12 rfl rfl)
theorem dX1_holdsJust_61 : decode cX1_holdsJust 61 = .ok (.iconst 0, 1) := dk_3 (dk_at dksX1_holdsJust_2 15 rfl rfl)
theorem dX1_holdsJust_62 : decode cX1_holdsJust 62 = .ok (.istore 5, 2) := dk_54 5 (dk_at dksX1_holdsJust_2 16 rfl rfl)
theorem dX1_holdsJust_64 : decode cX1_holdsJust 64 = .ok (.iload_n 2, 1) := dk_28 (dk_at dksX1_holdsJust_2 18 rfl rfl)
theorem dX1_holdsJust_65 : decode cX1_holdsJust 65 = .ok (.ifCond .eq 57, 3) := dk_153 0 57 (dk_at dksX1_holdsJust_2 19 rfl rfl)
theorem dX1_holdsJust_68 : decode cX1_holdsJust 68 = .ok (.aload_n 1, 1) := dk_43 (dk_at dksX1_holdsJust_2 22 rfl rfl)
theorem dX1_holdsJust_69 : decode cX1_holdsJust 69 = .ok (.getfield 152, 3) := dk_180 0 152 (dk_at dksX1_holdsJust_3 0 rfl rfl)
theorem dX1_holdsJust_72 : decode cX1_holdsJust 72 = .ok (.iload 4, 2) := dk_21 4 (dk_at dksX1_holdsJust_3 3 rfl rfl)
theorem dX1_holdsJust_74 : decode cX1_holdsJust 74 = .ok (.invokestatic 110, 3) := dk_184 0 110 (dk_at dksX1_holdsJust_3 5 rfl rfl)
theorem dX1_holdsJust_77 : decode cX1_holdsJust 77 = .ok (.invokevirtual 456, 3) := dk_182 1 200 (dk_at dksX1_holdsJust_3 8 rfl rfl)
theorem dX1_holdsJust_80 : decode cX1_holdsJust 80 = .ok (.iload 5, 2) := dk_21 5 (dk_at dksX1_holdsJust_3 11 rfl rfl)
theorem dX1_holdsJust_82 : decode cX1_holdsJust 82 = .ok (.if_icmp .ne 40, 3) := dk_160 0 40 (dk_at dksX1_holdsJust_3 13 rfl rfl)
theorem dX1_holdsJust_85 : decode cX1_holdsJust 85 = .ok (.iload 5, 2) := dk_21 5 (dk_at dksX1_holdsJust_3 16 rfl rfl)
theorem dX1_holdsJust_87 : decode cX1_holdsJust 87 = .ok (.ifCond .eq 31, 3) := dk_153 0 31 (dk_at dksX1_holdsJust_3 18 rfl rfl)
theorem dX1_holdsJust_90 : decode cX1_holdsJust 90 = .ok (.aload_n 1, 1) := dk_43 (dk_at dksX1_holdsJust_3 21 rfl rfl)
theorem dX1_holdsJust_91 : decode cX1_holdsJust 91 = .ok (.getfield 152, 3) := dk_180 0 152 (dk_at dksX1_holdsJust_4 0 rfl rfl)
theorem dX1_holdsJust_94 : decode cX1_holdsJust 94 = .ok (.iload 4, 2) := dk_21 4 (dk_at dksX1_holdsJust_4 3 rfl rfl)
theorem dX1_holdsJust_96 : decode cX1_holdsJust 96 = .ok (.invokestatic 110, 3) := dk_184 0 110 (dk_at dksX1_holdsJust_4 5 rfl rfl)
theorem dX1_holdsJust_99 : decode cX1_holdsJust 99 = .ok (.invokevirtual 398, 3) := dk_182 1 142 (dk_at dksX1_holdsJust_4 8 rfl rfl)
theorem dX1_holdsJust_102 : decode cX1_holdsJust 102 = .ok (.checkcast 111, 3) := dk_192 0 111 (dk_at dksX1_holdsJust_4 11 rfl rfl)
theorem dX1_holdsJust_105 : decode cX1_holdsJust 105 = .ok (.invokevirtual 323, 3) := dk_182 1 67 (dk_at dksX1_holdsJust_4 14 rfl rfl)
theorem dX1_holdsJust_108 : decode cX1_holdsJust 108 = .ok (.aload_n 3, 1) := dk_45 (dk_at dksX1_holdsJust_4 17 rfl rfl)
theorem dX1_holdsJust_109 : decode cX1_holdsJust 109 = .ok (.getfield 143, 3) := dk_180 0 143 (dk_at dksX1_holdsJust_4 18 rfl rfl)
theorem dX1_holdsJust_112 : decode cX1_holdsJust 112 = .ok (.iload 4, 2) := dk_21 4 (dk_at dksX1_holdsJust_4 21 rfl rfl)
theorem dX1_holdsJust_114 : decode cX1_holdsJust 114 = .ok (.iaload, 1) := dk_46 (dk_at dksX1_holdsJust_4 23 rfl rfl)
theorem dX1_holdsJust_115 : decode cX1_holdsJust 115 = .ok (.if_icmp .ne 7, 3) := dk_160 0 7 (dk_at dksX1_holdsJust_5 0 rfl rfl)
theorem dX1_holdsJust_118 : decode cX1_holdsJust 118 = .ok (.iconst 1, 1) := dk_4 (dk_at dksX1_holdsJust_5 3 rfl rfl)
theorem dX1_holdsJust_119 : decode cX1_holdsJust 119 = .ok (.goto 4, 3) := dk_167 0 4 (dk_at dksX1_holdsJust_5 4 rfl rfl)
theorem dX1_holdsJust_122 : decode cX1_holdsJust 122 = .ok (.iconst 0, 1) := dk_3 (dk_at dksX1_holdsJust_5 7 rfl rfl)
theorem dX1_holdsJust_123 : decode cX1_holdsJust 123 = .ok (.istore_n 2, 1) := dk_61 (dk_at dksX1_holdsJust_5 8 rfl rfl)
theorem dX1_holdsJust_124 : decode cX1_holdsJust 124 = .ok (.iinc 4 1, 3) := dk_132 4 1 (dk_at dksX1_holdsJust_5 9 rfl rfl)
theorem dX1_holdsJust_127 : decode cX1_holdsJust 127 = .ok (.goto (-117), 3) := dk_167 255 139 (dk_at dksX1_holdsJust_5 12 rfl rfl)
theorem dX1_holdsJust_130 : decode cX1_holdsJust 130 = .ok (.iload_n 2, 1) := dk_28 (dk_at dksX1_holdsJust_5 15 rfl rfl)
theorem dX1_holdsJust_131 : decode cX1_holdsJust 131 = .ok (.ireturn, 1) := dk_172 (dk_at dksX1_holdsJust_5 16 rfl rfl)
abbrev cX1_has : ByteArray := prog_1_method_8_code
def yX1_has : MethodName := ⟨RX1, "has", "(II)Z"⟩
def dkwX1_has_0 : List UInt8 := [26, 27, 122, 4, 126, 4, 160, 0, 7, 4, 167, 0, 4, 3, 172]
abbrev dktX1_has_0 : List UInt8 := dkwX1_has_0 ++ []
theorem dksX1_has_0 : cX1_has.data.toList.drop 0 = dktX1_has_0 := by decide +kernel
theorem dX1_has_0 : decode cX1_has 0 = .ok (.iload_n 0, 1) := dk_26 (dk_at dksX1_has_0 0 rfl rfl)
theorem dX1_has_1 : decode cX1_has 1 = .ok (.iload_n 1, 1) := dk_27 (dk_at dksX1_has_0 1 rfl rfl)
theorem dX1_has_2 : decode cX1_has 2 = .ok (.ishr, 1) := dk_122 (dk_at dksX1_has_0 2 rfl rfl)
theorem dX1_has_3 : decode cX1_has 3 = .ok (.iconst 1, 1) := dk_4 (dk_at dksX1_has_0 3 rfl rfl)
theorem dX1_has_4 : decode cX1_has 4 = .ok (.iand, 1) := dk_126 (dk_at dksX1_has_0 4 rfl rfl)
theorem dX1_has_5 : decode cX1_has 5 = .ok (.iconst 1, 1) := dk_4 (dk_at dksX1_has_0 5 rfl rfl)
theorem dX1_has_6 : decode cX1_has 6 = .ok (.if_icmp .ne 7, 3) := dk_160 0 7 (dk_at dksX1_has_0 6 rfl rfl)
theorem dX1_has_9 : decode cX1_has 9 = .ok (.iconst 1, 1) := dk_4 (dk_at dksX1_has_0 9 rfl rfl)
theorem dX1_has_10 : decode cX1_has 10 = .ok (.goto 4, 3) := dk_167 0 4 (dk_at dksX1_has_0 10 rfl rfl)
theorem dX1_has_13 : decode cX1_has 13 = .ok (.iconst 0, 1) := dk_3 (dk_at dksX1_has_0 13 rfl rfl)
theorem dX1_has_14 : decode cX1_has 14 = .ok (.ireturn, 1) := dk_172 (dk_at dksX1_has_0 14 rfl rfl)
abbrev cX1_person : ByteArray := prog_1_method_17_code
def yX1_person : MethodName := ⟨RX1, "person", "()I"⟩
def dkwX1_person_2 : List UInt8 := [185, 0, 116, 2, 0, 87, 42, 180, 0, 37, 185, 0, 63, 1, 0, 4, 100, 172]
abbrev dktX1_person_2 : List UInt8 := dkwX1_person_2 ++ []
def dkwX1_person_1 : List UInt8 := [180, 0, 37, 187, 0, 81, 89, 42, 42, 180, 0, 37, 185, 0, 63, 1, 0, 183, 0, 123]
abbrev dktX1_person_1 : List UInt8 := dkwX1_person_1 ++ dktX1_person_2
def dkwX1_person_0 : List UInt8 := [42, 180, 0, 37, 185, 0, 63, 1, 0, 16, 10, 162, 0, 7, 4, 167, 0, 4, 3, 184, 0, 120, 42]
abbrev dktX1_person_0 : List UInt8 := dkwX1_person_0 ++ dktX1_person_1
theorem dksX1_person_0 : cX1_person.data.toList.drop 0 = dktX1_person_0 := by decide +kernel
theorem dksX1_person_1 : cX1_person.data.toList.drop 23 = dktX1_person_1 := dk_seg dksX1_person_0 23 rfl rfl
theorem dksX1_person_2 : cX1_person.data.toList.drop 43 = dktX1_person_2 := dk_seg dksX1_person_1 20 rfl rfl
theorem dX1_person_0 : decode cX1_person 0 = .ok (.aload_n 0, 1) := dk_42 (dk_at dksX1_person_0 0 rfl rfl)
theorem dX1_person_1 : decode cX1_person 1 = .ok (.getfield 37, 3) := dk_180 0 37 (dk_at dksX1_person_0 1 rfl rfl)
theorem dX1_person_4 : decode cX1_person 4 = .ok (.invokeinterface 63 1, 5) := by decide +kernel
theorem dX1_person_9 : decode cX1_person 9 = .ok (.bipush 10, 2) := dk_16 10 (dk_at dksX1_person_0 9 rfl rfl)
theorem dX1_person_11 : decode cX1_person 11 = .ok (.if_icmp .ge 7, 3) := dk_162 0 7 (dk_at dksX1_person_0 11 rfl rfl)
theorem dX1_person_14 : decode cX1_person 14 = .ok (.iconst 1, 1) := dk_4 (dk_at dksX1_person_0 14 rfl rfl)
theorem dX1_person_15 : decode cX1_person 15 = .ok (.goto 4, 3) := dk_167 0 4 (dk_at dksX1_person_0 15 rfl rfl)
theorem dX1_person_18 : decode cX1_person 18 = .ok (.iconst 0, 1) := dk_3 (dk_at dksX1_person_0 18 rfl rfl)
theorem dX1_person_19 : decode cX1_person 19 = .ok (.invokestatic 120, 3) := dk_184 0 120 (dk_at dksX1_person_0 19 rfl rfl)
theorem dX1_person_22 : decode cX1_person 22 = .ok (.aload_n 0, 1) := dk_42 (dk_at dksX1_person_0 22 rfl rfl)
theorem dX1_person_23 : decode cX1_person 23 = .ok (.getfield 37, 3) := dk_180 0 37 (dk_at dksX1_person_1 0 rfl rfl)
theorem dX1_person_26 : decode cX1_person 26 = .ok (.new 81, 3) := dk_187 0 81 (dk_at dksX1_person_1 3 rfl rfl)
theorem dX1_person_29 : decode cX1_person 29 = .ok (.dup, 1) := dk_89 (dk_at dksX1_person_1 6 rfl rfl)
theorem dX1_person_30 : decode cX1_person 30 = .ok (.aload_n 0, 1) := dk_42 (dk_at dksX1_person_1 7 rfl rfl)
theorem dX1_person_31 : decode cX1_person 31 = .ok (.aload_n 0, 1) := dk_42 (dk_at dksX1_person_1 8 rfl rfl)
theorem dX1_person_32 : decode cX1_person 32 = .ok (.getfield 37, 3) := dk_180 0 37 (dk_at dksX1_person_1 9 rfl rfl)
theorem dX1_person_35 : decode cX1_person 35 = .ok (.invokeinterface 63 1, 5) := by decide +kernel
theorem dX1_person_40 : decode cX1_person 40 = .ok (.invokespecial 123, 3) := dk_183 0 123 (dk_at dksX1_person_1 17 rfl rfl)
theorem dX1_person_43 : decode cX1_person 43 = .ok (.invokeinterface 116 2, 5) := by decide +kernel
theorem dX1_person_48 : decode cX1_person 48 = .ok (.pop, 1) := dk_87 (dk_at dksX1_person_2 5 rfl rfl)
theorem dX1_person_49 : decode cX1_person 49 = .ok (.aload_n 0, 1) := dk_42 (dk_at dksX1_person_2 6 rfl rfl)
theorem dX1_person_50 : decode cX1_person 50 = .ok (.getfield 37, 3) := dk_180 0 37 (dk_at dksX1_person_2 7 rfl rfl)
theorem dX1_person_53 : decode cX1_person 53 = .ok (.invokeinterface 63 1, 5) := by decide +kernel
theorem dX1_person_58 : decode cX1_person 58 = .ok (.iconst 1, 1) := dk_4 (dk_at dksX1_person_2 15 rfl rfl)
theorem dX1_person_59 : decode cX1_person 59 = .ok (.isub, 1) := dk_100 (dk_at dksX1_person_2 16 rfl rfl)
theorem dX1_person_60 : decode cX1_person 60 = .ok (.ireturn, 1) := dk_172 (dk_at dksX1_person_2 17 rfl rfl)
abbrev cX1_ready : ByteArray := prog_1_method_5_code
def yX1_ready : MethodName := ⟨RX1, "ready", "(Z)V"⟩
def dkwX1_ready_0 : List UInt8 := [26, 154, 0, 11, 187, 0, 13, 89, 183, 0, 15, 191, 177]
abbrev dktX1_ready_0 : List UInt8 := dkwX1_ready_0 ++ []
theorem dksX1_ready_0 : cX1_ready.data.toList.drop 0 = dktX1_ready_0 := by decide +kernel
theorem dX1_ready_0 : decode cX1_ready 0 = .ok (.iload_n 0, 1) := dk_26 (dk_at dksX1_ready_0 0 rfl rfl)
theorem dX1_ready_1 : decode cX1_ready 1 = .ok (.ifCond .ne 11, 3) := dk_154 0 11 (dk_at dksX1_ready_0 1 rfl rfl)
theorem dX1_ready_4 : decode cX1_ready 4 = .ok (.new 13, 3) := dk_187 0 13 (dk_at dksX1_ready_0 4 rfl rfl)
theorem dX1_ready_7 : decode cX1_ready 7 = .ok (.dup, 1) := dk_89 (dk_at dksX1_ready_0 7 rfl rfl)
theorem dX1_ready_8 : decode cX1_ready 8 = .ok (.invokespecial 15, 3) := dk_183 0 15 (dk_at dksX1_ready_0 8 rfl rfl)
theorem dX1_ready_11 : decode cX1_ready 11 = .ok (.athrow, 1) := dk_191 (dk_at dksX1_ready_0 11 rfl rfl)
theorem dX1_ready_12 : decode cX1_ready 12 = .ok (.return_, 1) := dk_177 (dk_at dksX1_ready_0 12 rfl rfl)
abbrev cX1_pack : ByteArray := prog_1_method_18_code
def yX1_pack : MethodName := ⟨RX1, "pack", "(I)I"⟩
def dkwX1_pack_3 : List UInt8 := [25, 4, 185, 0, 116, 2, 0, 87, 44, 182, 0, 139, 42, 180, 0, 41, 185, 0, 63, 1, 0, 4, 100, 172]
abbrev dktX1_pack_3 : List UInt8 := dkwX1_pack_3 ++ []
def dkwX1_pack_2 : List UInt8 := [182, 0, 130, 183, 0, 135, 58, 4, 42, 180, 0, 41, 25, 4, 185, 0, 116, 2, 0, 87, 44, 180, 0, 138]
abbrev dktX1_pack_2 : List UInt8 := dkwX1_pack_2 ++ dktX1_pack_3
def dkwX1_pack_1 : List UInt8 := [3, 184, 0, 120, 42, 180, 0, 28, 182, 0, 130, 62, 187, 0, 133, 89, 27, 29, 42, 180, 0, 28]
abbrev dktX1_pack_1 : List UInt8 := dkwX1_pack_1 ++ dktX1_pack_2
def dkwX1_pack_0 : List UInt8 := [42, 27, 182, 0, 126, 77, 42, 180, 0, 41, 185, 0, 63, 1, 0, 16, 24, 162, 0, 7, 4, 167, 0, 4]
abbrev dktX1_pack_0 : List UInt8 := dkwX1_pack_0 ++ dktX1_pack_1
theorem dksX1_pack_0 : cX1_pack.data.toList.drop 0 = dktX1_pack_0 := by decide +kernel
theorem dksX1_pack_1 : cX1_pack.data.toList.drop 24 = dktX1_pack_1 := dk_seg dksX1_pack_0 24 rfl rfl
theorem dksX1_pack_2 : cX1_pack.data.toList.drop 46 = dktX1_pack_2 := dk_seg dksX1_pack_1 22 rfl rfl
theorem dksX1_pack_3 : cX1_pack.data.toList.drop 70 = dktX1_pack_3 := dk_seg dksX1_pack_2 24 rfl rfl
theorem dX1_pack_0 : decode cX1_pack 0 = .ok (.aload_n 0, 1) := dk_42 (dk_at dksX1_pack_0 0 rfl rfl)
theorem dX1_pack_1 : decode cX1_pack 1 = .ok (.iload_n 1, 1) := dk_27 (dk_at dksX1_pack_0 1 rfl rfl)
theorem dX1_pack_2 : decode cX1_pack 2 = .ok (.invokevirtual 126, 3) := dk_182 0 126 (dk_at dksX1_pack_0 2 rfl rfl)
theorem dX1_pack_5 : decode cX1_pack 5 = .ok (.astore_n 2, 1) := dk_77 (dk_at dksX1_pack_0 5 rfl rfl)
theorem dX1_pack_6 : decode cX1_pack 6 = .ok (.aload_n 0, 1) := dk_42 (dk_at dksX1_pack_0 6 rfl rfl)
theorem dX1_pack_7 : decode cX1_pack 7 = .ok (.getfield 41, 3) := dk_180 0 41 (dk_at dksX1_pack_0 7 rfl rfl)
theorem dX1_pack_10 : decode cX1_pack 10 = .ok (.invokeinterface 63 1, 5) := by decide +kernel
theorem dX1_pack_15 : decode cX1_pack 15 = .ok (.bipush 24, 2) := dk_16 24 (dk_at dksX1_pack_0 15 rfl rfl)
theorem dX1_pack_17 : decode cX1_pack 17 = .ok (.if_icmp .ge 7, 3) := dk_162 0 7 (dk_at dksX1_pack_0 17 rfl rfl)
theorem dX1_pack_20 : decode cX1_pack 20 = .ok (.iconst 1, 1) := dk_4 (dk_at dksX1_pack_0 20 rfl rfl)
theorem dX1_pack_21 : decode cX1_pack 21 = .ok (.goto 4, 3) := dk_167 0 4 (dk_at dksX1_pack_0 21 rfl rfl)
theorem dX1_pack_24 : decode cX1_pack 24 = .ok (.iconst 0, 1) := dk_3 (dk_at dksX1_pack_1 0 rfl rfl)
theorem dX1_pack_25 : decode cX1_pack 25 = .ok (.invokestatic 120, 3) := dk_184 0 120 (dk_at dksX1_pack_1 1 rfl rfl)
theorem dX1_pack_28 : decode cX1_pack 28 = .ok (.aload_n 0, 1) := dk_42 (dk_at dksX1_pack_1 4 rfl rfl)
theorem dX1_pack_29 : decode cX1_pack 29 = .ok (.getfield 28, 3) := dk_180 0 28 (dk_at dksX1_pack_1 5 rfl rfl)
theorem dX1_pack_32 : decode cX1_pack 32 = .ok (.invokevirtual 130, 3) := dk_182 0 130 (dk_at dksX1_pack_1 8 rfl rfl)
theorem dX1_pack_35 : decode cX1_pack 35 = .ok (.istore_n 3, 1) := dk_62 (dk_at dksX1_pack_1 11 rfl rfl)
theorem dX1_pack_36 : decode cX1_pack 36 = .ok (.new 133, 3) := dk_187 0 133 (dk_at dksX1_pack_1 12 rfl rfl)
theorem dX1_pack_39 : decode cX1_pack 39 = .ok (.dup, 1) := dk_89 (dk_at dksX1_pack_1 15 rfl rfl)
theorem dX1_pack_40 : decode cX1_pack 40 = .ok (.iload_n 1, 1) := dk_27 (dk_at dksX1_pack_1 16 rfl rfl)
theorem dX1_pack_41 : decode cX1_pack 41 = .ok (.iload_n 3, 1) := dk_29 (dk_at dksX1_pack_1 17 rfl rfl)
theorem dX1_pack_42 : decode cX1_pack 42 = .ok (.aload_n 0, 1) := dk_42 (dk_at dksX1_pack_1 18 rfl rfl)
theorem dX1_pack_43 : decode cX1_pack 43 = .ok (.getfield 28, 3) := dk_180 0 28 (dk_at dksX1_pack_1 19 rfl rfl)
theorem dX1_pack_46 : decode cX1_pack 46 = .ok (.invokevirtual 130, 3) := dk_182 0 130 (dk_at dksX1_pack_2 0 rfl rfl)
theorem dX1_pack_49 : decode cX1_pack 49 = .ok (.invokespecial 135, 3) := dk_183 0 135 (dk_at dksX1_pack_2 3 rfl rfl)
theorem dX1_pack_52 : decode cX1_pack 52 = .ok (.astore 4, 2) := dk_58 4 (dk_at dksX1_pack_2 6 rfl rfl)
theorem dX1_pack_54 : decode cX1_pack 54 = .ok (.aload_n 0, 1) := dk_42 (dk_at dksX1_pack_2 8 rfl rfl)
theorem dX1_pack_55 : decode cX1_pack 55 = .ok (.getfield 41, 3) := dk_180 0 41 (dk_at dksX1_pack_2 9 rfl rfl)
theorem dX1_pack_58 : decode cX1_pack 58 = .ok (.aload 4, 2) := dk_25 4 (dk_at dksX1_pack_2 12 rfl rfl)
theorem dX1_pack_60 : decode cX1_pack 60 = .ok (.invokeinterface 116 2, 5) := by decide +kernel
theorem dX1_pack_65 : decode cX1_pack 65 = .ok (.pop, 1) := dk_87 (dk_at dksX1_pack_2 19 rfl rfl)
theorem dX1_pack_66 : decode cX1_pack 66 = .ok (.aload_n 2, 1) := dk_44 (dk_at dksX1_pack_2 20 rfl rfl)
theorem dX1_pack_67 : decode cX1_pack 67 = .ok (.getfield 138, 3) := dk_180 0 138 (dk_at dksX1_pack_2 21 rfl rfl)
theorem dX1_pack_70 : decode cX1_pack 70 = .ok (.aload 4, 2) := dk_25 4 (dk_at dksX1_pack_3 0 rfl rfl)
theorem dX1_pack_72 : decode cX1_pack 72 = .ok (.invokeinterface 116 2, 5) := by decide +kernel
theorem dX1_pack_77 : decode cX1_pack 77 = .ok (.pop, 1) := dk_87 (dk_at dksX1_pack_3 7 rfl rfl)
theorem dX1_pack_78 : decode cX1_pack 78 = .ok (.aload_n 2, 1) := dk_44 (dk_at dksX1_pack_3 8 rfl rfl)
theorem dX1_pack_79 : decode cX1_pack 79 = .ok (.invokevirtual 139, 3) := dk_182 0 139 (dk_at dksX1_pack_3 9 rfl rfl)
theorem dX1_pack_82 : decode cX1_pack 82 = .ok (.aload_n 0, 1) := dk_42 (dk_at dksX1_pack_3 12 rfl rfl)
theorem dX1_pack_83 : decode cX1_pack 83 = .ok (.getfield 41, 3) := dk_180 0 41 (dk_at dksX1_pack_3 13 rfl rfl)
theorem dX1_pack_86 : decode cX1_pack 86 = .ok (.invokeinterface 63 1, 5) := by decide +kernel
theorem dX1_pack_91 : decode cX1_pack 91 = .ok (.iconst 1, 1) := dk_4 (dk_at dksX1_pack_3 21 rfl rfl)
theorem dX1_pack_92 : decode cX1_pack 92 = .ok (.isub, 1) := dk_100 (dk_at dksX1_pack_3 22 rfl rfl)
theorem dX1_pack_93 : decode cX1_pack 93 = .ok (.ireturn, 1) := dk_172 (dk_at dksX1_pack_3 23 rfl rfl)
abbrev cX1_personWith : ByteArray := prog_1_method_10_code
def yX1_personWith : MethodName := ⟨RX1, "personWith", "(I)LKeygrove$Person;"⟩
def dkwX1_personWith_1 : List UInt8 := [185, 0, 77, 2, 0, 192, 0, 81, 176]
abbrev dktX1_personWith_1 : List UInt8 := dkwX1_personWith_1 ++ []
def dkwX1_personWith_0 : List UInt8 := [27, 3, 42, 180, 0, 37, 185, 0, 63, 1, 0, 4, 100, 184, 0, 69, 184, 0, 73, 42, 180, 0, 37, 27]
abbrev dktX1_personWith_0 : List UInt8 := dkwX1_personWith_0 ++ dktX1_personWith_1
theorem dksX1_personWith_0 : cX1_personWith.data.toList.drop 0 = dktX1_personWith_0 := by decide +kernel
theorem dksX1_personWith_1 : cX1_personWith.data.toList.drop 24 = dktX1_personWith_1 := dk_seg dksX1_personWith_0 24 rfl rfl
theorem dX1_personWith_0 : decode cX1_personWith 0 = .ok (.iload_n 1, 1) := dk_27 (dk_at dksX1_personWith_0 0 rfl rfl)
theorem dX1_personWith_1 : decode cX1_personWith 1 = .ok (.iconst 0, 1) := dk_3 (dk_at dksX1_personWith_0 1 rfl rfl)
theorem dX1_personWith_2 : decode cX1_personWith 2 = .ok (.aload_n 0, 1) := dk_42 (dk_at dksX1_personWith_0 2 rfl rfl)
theorem dX1_personWith_3 : decode cX1_personWith 3 = .ok (.getfield 37, 3) := dk_180 0 37 (dk_at dksX1_personWith_0 3 rfl rfl)
theorem dX1_personWith_6 : decode cX1_personWith 6 = .ok (.invokeinterface 63 1, 5) := by decide +kernel
theorem dX1_personWith_11 : decode cX1_personWith 11 = .ok (.iconst 1, 1) := dk_4 (dk_at dksX1_personWith_0 11 rfl rfl)
theorem dX1_personWith_12 : decode cX1_personWith 12 = .ok (.isub, 1) := dk_100 (dk_at dksX1_personWith_0 12 rfl rfl)
theorem dX1_personWith_13 : decode cX1_personWith 13 = .ok (.invokestatic 69, 3) := dk_184 0 69 (dk_at dksX1_personWith_0 13 rfl rfl)
theorem dX1_personWith_16 : decode cX1_personWith 16 = .ok (.invokestatic 73, 3) := dk_184 0 73 (dk_at dksX1_personWith_0 16 rfl rfl)
theorem dX1_personWith_19 : decode cX1_personWith 19 = .ok (.aload_n 0, 1) := dk_42 (dk_at dksX1_personWith_0 19 rfl rfl)
theorem dX1_personWith_20 : decode cX1_personWith 20 = .ok (.getfield 37, 3) := dk_180 0 37 (dk_at dksX1_personWith_0 20 rfl rfl)
theorem dX1_personWith_23 : decode cX1_personWith 23 = .ok (.iload_n 1, 1) := dk_27 (dk_at dksX1_personWith_0 23 rfl rfl)
theorem dX1_personWith_24 : decode cX1_personWith 24 = .ok (.invokeinterface 77 2, 5) := by decide +kernel
theorem dX1_personWith_29 : decode cX1_personWith 29 = .ok (.checkcast 81, 3) := dk_192 0 81 (dk_at dksX1_personWith_1 5 rfl rfl)
theorem dX1_personWith_32 : decode cX1_personWith 32 = .ok (.areturn, 1) := dk_176 (dk_at dksX1_personWith_1 8 rfl rfl)
abbrev cX1_in : ByteArray := prog_1_method_1_code
def yX1_in : MethodName := ⟨RX1, "in", "(III)Z"⟩
def dkwX1_in_0 : List UInt8 := [26, 27, 161, 0, 12, 26, 28, 163, 0, 7, 4, 167, 0, 4, 3, 172]
abbrev dktX1_in_0 : List UInt8 := dkwX1_in_0 ++ []
theorem dksX1_in_0 : cX1_in.data.toList.drop 0 = dktX1_in_0 := by decide +kernel
theorem dX1_in_0 : decode cX1_in 0 = .ok (.iload_n 0, 1) := dk_26 (dk_at dksX1_in_0 0 rfl rfl)
theorem dX1_in_1 : decode cX1_in 1 = .ok (.iload_n 1, 1) := dk_27 (dk_at dksX1_in_0 1 rfl rfl)
theorem dX1_in_2 : decode cX1_in 2 = .ok (.if_icmp .lt 12, 3) := dk_161 0 12 (dk_at dksX1_in_0 2 rfl rfl)
theorem dX1_in_5 : decode cX1_in 5 = .ok (.iload_n 0, 1) := dk_26 (dk_at dksX1_in_0 5 rfl rfl)
theorem dX1_in_6 : decode cX1_in 6 = .ok (.iload_n 2, 1) := dk_28 (dk_at dksX1_in_0 6 rfl rfl)
theorem dX1_in_7 : decode cX1_in 7 = .ok (.if_icmp .gt 7, 3) := dk_163 0 7 (dk_at dksX1_in_0 7 rfl rfl)
theorem dX1_in_10 : decode cX1_in 10 = .ok (.iconst 1, 1) := dk_4 (dk_at dksX1_in_0 10 rfl rfl)
theorem dX1_in_11 : decode cX1_in 11 = .ok (.goto 4, 3) := dk_167 0 4 (dk_at dksX1_in_0 11 rfl rfl)
theorem dX1_in_14 : decode cX1_in 14 = .ok (.iconst 0, 1) := dk_3 (dk_at dksX1_in_0 14 rfl rfl)
theorem dX1_in_15 : decode cX1_in 15 = .ok (.ireturn, 1) := dk_172 (dk_at dksX1_in_0 15 rfl rfl)
abbrev cX1_there : ByteArray := prog_1_method_2_code
def yX1_there : MethodName := ⟨RX1, "there", "(Z)V"⟩
def dkwX1_there_0 : List UInt8 := [26, 154, 0, 11, 187, 0, 1, 89, 183, 0, 3, 191, 177]
abbrev dktX1_there_0 : List UInt8 := dkwX1_there_0 ++ []
theorem dksX1_there_0 : cX1_there.data.toList.drop 0 = dktX1_there_0 := by decide +kernel
theorem dX1_there_0 : decode cX1_there 0 = .ok (.iload_n 0, 1) := dk_26 (dk_at dksX1_there_0 0 rfl rfl)
theorem dX1_there_1 : decode cX1_there 1 = .ok (.ifCond .ne 11, 3) := dk_154 0 11 (dk_at dksX1_there_0 1 rfl rfl)
theorem dX1_there_4 : decode cX1_there 4 = .ok (.new 1, 3) := dk_187 0 1 (dk_at dksX1_there_0 4 rfl rfl)
theorem dX1_there_7 : decode cX1_there 7 = .ok (.dup, 1) := dk_89 (dk_at dksX1_there_0 7 rfl rfl)
theorem dX1_there_8 : decode cX1_there 8 = .ok (.invokespecial 3, 3) := dk_183 0 3 (dk_at dksX1_there_0 8 rfl rfl)
theorem dX1_there_11 : decode cX1_there 11 = .ok (.athrow, 1) := dk_191 (dk_at dksX1_there_0 11 rfl rfl)
theorem dX1_there_12 : decode cX1_there 12 = .ok (.return_, 1) := dk_177 (dk_at dksX1_there_0 12 rfl rfl)
abbrev cX1_create : ByteArray := prog_1_method_19_code
def yX1_create : MethodName := ⟨RX1, "create", "(I)I"⟩
def dkwX1_create_6 : List UInt8 := [180, 0, 161, 182, 0, 168, 3, 172]
abbrev dktX1_create_6 : List UInt8 := dkwX1_create_6 ++ []
def dkwX1_create_5 : List UInt8 := [192, 0, 149, 180, 0, 161, 182, 0, 164, 44, 3, 42, 180, 0, 50, 3, 185, 0, 77, 2, 0, 192, 0, 149]
abbrev dktX1_create_5 : List UInt8 := dkwX1_create_5 ++ dktX1_create_6
def dkwX1_create_4 : List UInt8 := [184, 0, 110, 21, 4, 184, 0, 110, 182, 0, 155, 87, 42, 45, 42, 180, 0, 50, 3, 185, 0, 77, 2, 0]
abbrev dktX1_create_4 : List UInt8 := dkwX1_create_4 ++ dktX1_create_5
def dkwX1_create_3 : List UInt8 := [89, 3, 2, 42, 180, 0, 28, 182, 0, 130, 183, 0, 151, 185, 0, 116, 2, 0, 87, 44, 180, 0, 152, 3]
abbrev dktX1_create_3 : List UInt8 := dkwX1_create_3 ++ dktX1_create_4
def dkwX1_create_2 : List UInt8 := [180, 0, 147, 3, 27, 79, 42, 180, 0, 47, 45, 185, 0, 116, 2, 0, 87, 42, 180, 0, 50, 187, 0, 149]
abbrev dktX1_create_2 : List UInt8 := dkwX1_create_2 ++ dktX1_create_3
def dkwX1_create_1 : List UInt8 := [183, 0, 142, 78, 42, 180, 0, 28, 182, 0, 130, 54, 4, 45, 180, 0, 143, 3, 21, 4, 79, 45]
abbrev dktX1_create_1 : List UInt8 := dkwX1_create_1 ++ dktX1_create_2
def dkwX1_create_0 : List UInt8 := [42, 27, 182, 0, 126, 77, 42, 180, 0, 47, 185, 0, 96, 1, 0, 184, 0, 120, 187, 0, 86, 89]
abbrev dktX1_create_0 : List UInt8 := dkwX1_create_0 ++ dktX1_create_1
theorem dksX1_create_0 : cX1_create.data.toList.drop 0 = dktX1_create_0 := by decide +kernel
theorem dksX1_create_1 : cX1_create.data.toList.drop 22 = dktX1_create_1 := dk_seg dksX1_create_0 22 rfl rfl
theorem dksX1_create_2 : cX1_create.data.toList.drop 44 = dktX1_create_2 := dk_seg dksX1_create_1 22 rfl rfl
theorem dksX1_create_3 : cX1_create.data.toList.drop 68 = dktX1_create_3 := dk_seg dksX1_create_2 24 rfl rfl
theorem dksX1_create_4 : cX1_create.data.toList.drop 92 = dktX1_create_4 := dk_seg dksX1_create_3 24 rfl rfl
theorem dksX1_create_5 : cX1_create.data.toList.drop 116 = dktX1_create_5 := dk_seg dksX1_create_4 24 rfl rfl
theorem dksX1_create_6 : cX1_create.data.toList.drop 140 = dktX1_create_6 := dk_seg dksX1_create_5 24 rfl rfl
theorem dX1_create_0 : decode cX1_create 0 = .ok (.aload_n 0, 1) := dk_42 (dk_at dksX1_create_0 0 rfl rfl)
theorem dX1_create_1 : decode cX1_create 1 = .ok (.iload_n 1, 1) := dk_27 (dk_at dksX1_create_0 1 rfl rfl)
theorem dX1_create_2 : decode cX1_create 2 = .ok (.invokevirtual 126, 3) := dk_182 0 126 (dk_at dksX1_create_0 2 rfl rfl)
theorem dX1_create_5 : decode cX1_create 5 = .ok (.astore_n 2, 1) := dk_77 (dk_at dksX1_create_0 5 rfl rfl)
theorem dX1_create_6 : decode cX1_create 6 = .ok (.aload_n 0, 1) := dk_42 (dk_at dksX1_create_0 6 rfl rfl)
theorem dX1_create_7 : decode cX1_create 7 = .ok (.getfield 47, 3) := dk_180 0 47 (dk_at dksX1_create_0 7 rfl rfl)
theorem dX1_create_10 : decode cX1_create 10 = .ok (.invokeinterface 96 1, 5) := by decide +kernel
theorem dX1_create_15 : decode cX1_create 15 = .ok (.invokestatic 120, 3) := dk_184 0 120 (dk_at dksX1_create_0 15 rfl rfl)
theorem dX1_create_18 : decode cX1_create 18 = .ok (.new 86, 3) := dk_187 0 86 (dk_at dksX1_create_0 18 rfl rfl)
theorem dX1_create_21 : decode cX1_create 21 = .ok (.dup, 1) := dk_89 (dk_at dksX1_create_0 21 rfl rfl)
theorem dX1_create_22 : decode cX1_create 22 = .ok (.invokespecial 142, 3) := dk_183 0 142 (dk_at dksX1_create_1 0 rfl rfl)
theorem dX1_create_25 : decode cX1_create 25 = .ok (.astore_n 3, 1) := dk_78 (dk_at dksX1_create_1 3 rfl rfl)
theorem dX1_create_26 : decode cX1_create 26 = .ok (.aload_n 0, 1) := dk_42 (dk_at dksX1_create_1 4 rfl rfl)
theorem dX1_create_27 : decode cX1_create 27 = .ok (.getfield 28, 3) := dk_180 0 28 (dk_at dksX1_create_1 5 rfl rfl)
theorem dX1_create_30 : decode cX1_create 30 = .ok (.invokevirtual 130, 3) := dk_182 0 130 (dk_at dksX1_create_1 8 rfl rfl)
theorem dX1_create_33 : decode cX1_create 33 = .ok (.istore 4, 2) := dk_54 4 (dk_at dksX1_create_1 11 rfl rfl)
theorem dX1_create_35 : decode cX1_create 35 = .ok (.aload_n 3, 1) := dk_45 (dk_at dksX1_create_1 13 rfl rfl)
theorem dX1_create_36 : decode cX1_create 36 = .ok (.getfield 143, 3) := dk_180 0 143 (dk_at dksX1_create_1 14 rfl rfl)
theorem dX1_create_39 : decode cX1_create 39 = .ok (.iconst 0, 1) := dk_3 (dk_at dksX1_create_1 17 rfl rfl)
theorem dX1_create_40 : decode cX1_create 40 = .ok (.iload 4, 2) := dk_21 4 (dk_at dksX1_create_1 18 rfl rfl)
theorem dX1_create_42 : decode cX1_create 42 = .ok (.iastore, 1) := dk_79 (dk_at dksX1_create_1 20 rfl rfl)
theorem dX1_create_43 : decode cX1_create 43 = .ok (.aload_n 3, 1) := dk_45 (dk_at dksX1_create_1 21 rfl rfl)
theorem dX1_create_44 : decode cX1_create 44 = .ok (.getfield 147, 3) := dk_180 0 147 (dk_at dksX1_create_2 0 rfl rfl)
theorem dX1_create_47 : decode cX1_create 47 = .ok (.iconst 0, 1) := dk_3 (dk_at dksX1_create_2 3 rfl rfl)
theorem dX1_create_48 : decode cX1_create 48 = .ok (.iload_n 1, 1) := dk_27 (dk_at dksX1_create_2 4 rfl rfl)
theorem dX1_create_49 : decode cX1_create 49 = .ok (.iastore, 1) := dk_79 (dk_at dksX1_create_2 5 rfl rfl)
theorem dX1_create_50 : decode cX1_create 50 = .ok (.aload_n 0, 1) := dk_42 (dk_at dksX1_create_2 6 rfl rfl)
theorem dX1_create_51 : decode cX1_create 51 = .ok (.getfield 47, 3) := dk_180 0 47 (dk_at dksX1_create_2 7 rfl rfl)
theorem dX1_create_54 : decode cX1_create 54 = .ok (.aload_n 3, 1) := dk_45 (dk_at dksX1_create_2 10 rfl rfl)
theorem dX1_create_55 : decode cX1_create 55 = .ok (.invokeinterface 116 2, 5) := by decide +kernel
theorem dX1_create_60 : decode cX1_create 60 = .ok (.pop, 1) := dk_87 (dk_at dksX1_create_2 16 rfl rfl)
theorem dX1_create_61 : decode cX1_create 61 = .ok (.aload_n 0, 1) := dk_42 (dk_at dksX1_create_2 17 rfl rfl)
theorem dX1_create_62 : decode cX1_create 62 = .ok (.getfield 50, 3) := dk_180 0 50 (dk_at dksX1_create_2 18 rfl rfl)
theorem dX1_create_65 : decode cX1_create 65 = .ok (.new 149, 3) := dk_187 0 149 (dk_at dksX1_create_2 21 rfl rfl)
theorem dX1_create_68 : decode cX1_create 68 = .ok (.dup, 1) := dk_89 (dk_at dksX1_create_3 0 rfl rfl)
theorem dX1_create_69 : decode cX1_create 69 = .ok (.iconst 0, 1) := dk_3 (dk_at dksX1_create_3 1 rfl rfl)
theorem dX1_create_70 : decode cX1_create 70 = .ok (.iconst (-1), 1) := dk_2 (dk_at dksX1_create_3 2 rfl rfl)
theorem dX1_create_71 : decode cX1_create 71 = .ok (.aload_n 0, 1) := dk_42 (dk_at dksX1_create_3 3 rfl rfl)
theorem dX1_create_72 : decode cX1_create 72 = .ok (.getfield 28, 3) := dk_180 0 28 (dk_at dksX1_create_3 4 rfl rfl)
theorem dX1_create_75 : decode cX1_create 75 = .ok (.invokevirtual 130, 3) := dk_182 0 130 (dk_at dksX1_create_3 7 rfl rfl)
theorem dX1_create_78 : decode cX1_create 78 = .ok (.invokespecial 151, 3) := dk_183 0 151 (dk_at dksX1_create_3 10 rfl rfl)
theorem dX1_create_81 : decode cX1_create 81 = .ok (.invokeinterface 116 2, 5) := by decide +kernel
theorem dX1_create_86 : decode cX1_create 86 = .ok (.pop, 1) := dk_87 (dk_at dksX1_create_3 18 rfl rfl)
theorem dX1_create_87 : decode cX1_create 87 = .ok (.aload_n 2, 1) := dk_44 (dk_at dksX1_create_3 19 rfl rfl)
theorem dX1_create_88 : decode cX1_create 88 = .ok (.getfield 152, 3) := dk_180 0 152 (dk_at dksX1_create_3 20 rfl rfl)
theorem dX1_create_91 : decode cX1_create 91 = .ok (.iconst 0, 1) := dk_3 (dk_at dksX1_create_3 23 rfl rfl)
theorem dX1_create_92 : decode cX1_create 92 = .ok (.invokestatic 110, 3) := dk_184 0 110 (dk_at dksX1_create_4 0 rfl rfl)
theorem dX1_create_95 : decode cX1_create 95 = .ok (.iload 4, 2) := dk_21 4 (dk_at dksX1_create_4 3 rfl rfl)
theorem dX1_create_97 : decode cX1_create 97 = .ok (.invokestatic 110, 3) := dk_184 0 110 (dk_at dksX1_create_4 5 rfl rfl)
theorem dX1_create_100 : decode cX1_create 100 = .ok (.invokevirtual 155, 3) := dk_182 0 155 (dk_at dksX1_create_4 8 rfl rfl)
theorem dX1_create_103 : decode cX1_create 103 = .ok (.pop, 1) := dk_87 (dk_at dksX1_create_4 11 rfl rfl)
theorem dX1_create_104 : decode cX1_create 104 = .ok (.aload_n 0, 1) := dk_42 (dk_at dksX1_create_4 12 rfl rfl)
theorem dX1_create_105 : decode cX1_create 105 = .ok (.aload_n 3, 1) := dk_45 (dk_at dksX1_create_4 13 rfl rfl)
theorem dX1_create_106 : decode cX1_create 106 = .ok (.aload_n 0, 1) := dk_42 (dk_at dksX1_create_4 14 rfl rfl)
theorem dX1_create_107 : decode cX1_create 107 = .ok (.getfield 50, 3) := dk_180 0 50 (dk_at dksX1_create_4 15 rfl rfl)
theorem dX1_create_110 : decode cX1_create 110 = .ok (.iconst 0, 1) := dk_3 (dk_at dksX1_create_4 18 rfl rfl)
theorem dX1_create_111 : decode cX1_create 111 = .ok (.invokeinterface 77 2, 5) := by decide +kernel
theorem dX1_create_116 : decode cX1_create 116 = .ok (.checkcast 149, 3) := dk_192 0 149 (dk_at dksX1_create_5 0 rfl rfl)
theorem dX1_create_119 : decode cX1_create 119 = .ok (.getfield 161, 3) := dk_180 0 161 (dk_at dksX1_create_5 3 rfl rfl)
theorem dX1_create_122 : decode cX1_create 122 = .ok (.invokevirtual 164, 3) := dk_182 0 164 (dk_at dksX1_create_5 6 rfl rfl)
theorem dX1_create_125 : decode cX1_create 125 = .ok (.aload_n 2, 1) := dk_44 (dk_at dksX1_create_5 9 rfl rfl)
theorem dX1_create_126 : decode cX1_create 126 = .ok (.iconst 0, 1) := dk_3 (dk_at dksX1_create_5 10 rfl rfl)
theorem dX1_create_127 : decode cX1_create 127 = .ok (.aload_n 0, 1) := dk_42 (dk_at dksX1_create_5 11 rfl rfl)
theorem dX1_create_128 : decode cX1_create 128 = .ok (.getfield 50, 3) := dk_180 0 50 (dk_at dksX1_create_5 12 rfl rfl)
theorem dX1_create_131 : decode cX1_create 131 = .ok (.iconst 0, 1) := dk_3 (dk_at dksX1_create_5 15 rfl rfl)
theorem dX1_create_132 : decode cX1_create 132 = .ok (.invokeinterface 77 2, 5) := by decide +kernel
theorem dX1_create_137 : decode cX1_create 137 = .ok (.checkcast 149, 3) := dk_192 0 149 (dk_at dksX1_create_5 21 rfl rfl)
theorem dX1_create_140 : decode cX1_create 140 = .ok (.getfield 161, 3) := dk_180 0 161 (dk_at dksX1_create_6 0 rfl rfl)
theorem dX1_create_143 : decode cX1_create 143 = .ok (.invokevirtual 168, 3) := dk_182 0 168 (dk_at dksX1_create_6 3 rfl rfl)
theorem dX1_create_146 : decode cX1_create 146 = .ok (.iconst 0, 1) := dk_3 (dk_at dksX1_create_6 6 rfl rfl)
theorem dX1_create_147 : decode cX1_create 147 = .ok (.ireturn, 1) := dk_172 (dk_at dksX1_create_6 7 rfl rfl)
abbrev cX1_follows : ByteArray := prog_1_method_20_code
def yX1_follows : MethodName := ⟨RX1, "follows", "(LKeygrove$Tree;I)V"⟩
def dkwX1_follows_2 : List UInt8 := [180, 0, 28, 28, 16, 100, 21, 5, 96, 182, 0, 172, 54, 6, 132, 5, 1, 167, 255, 218, 177]
abbrev dktX1_follows_2 : List UInt8 := dkwX1_follows_2 ++ []
def dkwX1_follows_1 : List UInt8 := [54, 5, 21, 5, 43, 180, 0, 176, 162, 0, 35, 43, 180, 0, 147, 21, 5, 46, 2, 159, 0, 18, 42]
abbrev dktX1_follows_1 : List UInt8 := dkwX1_follows_1 ++ dktX1_follows_2
def dkwX1_follows_0 : List UInt8 := [42, 180, 0, 28, 28, 8, 182, 0, 172, 62, 42, 180, 0, 28, 28, 16, 6, 182, 0, 172, 54, 4, 3]
abbrev dktX1_follows_0 : List UInt8 := dkwX1_follows_0 ++ dktX1_follows_1
theorem dksX1_follows_0 : cX1_follows.data.toList.drop 0 = dktX1_follows_0 := by decide +kernel
theorem dksX1_follows_1 : cX1_follows.data.toList.drop 23 = dktX1_follows_1 := dk_seg dksX1_follows_0 23 rfl rfl
theorem dksX1_follows_2 : cX1_follows.data.toList.drop 46 = dktX1_follows_2 := dk_seg dksX1_follows_1 23 rfl rfl
theorem dX1_follows_0 : decode cX1_follows 0 = .ok (.aload_n 0, 1) := dk_42 (dk_at dksX1_follows_0 0 rfl rfl)
theorem dX1_follows_1 : decode cX1_follows 1 = .ok (.getfield 28, 3) := dk_180 0 28 (dk_at dksX1_follows_0 1 rfl rfl)
theorem dX1_follows_4 : decode cX1_follows 4 = .ok (.iload_n 2, 1) := dk_28 (dk_at dksX1_follows_0 4 rfl rfl)
theorem dX1_follows_5 : decode cX1_follows 5 = .ok (.iconst 5, 1) := dk_8 (dk_at dksX1_follows_0 5 rfl rfl)
theorem dX1_follows_6 : decode cX1_follows 6 = .ok (.invokevirtual 172, 3) := dk_182 0 172 (dk_at dksX1_follows_0 6 rfl rfl)
theorem dX1_follows_9 : decode cX1_follows 9 = .ok (.istore_n 3, 1) := dk_62 (dk_at dksX1_follows_0 9 rfl rfl)
theorem dX1_follows_10 : decode cX1_follows 10 = .ok (.aload_n 0, 1) := dk_42 (dk_at dksX1_follows_0 10 rfl rfl)
theorem dX1_follows_11 : decode cX1_follows 11 = .ok (.getfield 28, 3) := dk_180 0 28 (dk_at dksX1_follows_0 11 rfl rfl)
theorem dX1_follows_14 : decode cX1_follows 14 = .ok (.iload_n 2, 1) := dk_28 (dk_at dksX1_follows_0 14 rfl rfl)
theorem dX1_follows_15 : decode cX1_follows 15 = .ok (.bipush 6, 2) := dk_16 6 (dk_at dksX1_follows_0 15 rfl rfl)
theorem dX1_follows_17 : decode cX1_follows 17 = .ok (.invokevirtual 172, 3) := dk_182 0 172 (dk_at dksX1_follows_0 17 rfl rfl)
theorem dX1_follows_20 : decode cX1_follows 20 = .ok (.istore 4, 2) := dk_54 4 (dk_at dksX1_follows_0 20 rfl rfl)
theorem dX1_follows_22 : decode cX1_follows 22 = .ok (.iconst 0, 1) := dk_3 (dk_at dksX1_follows_0 22 rfl rfl)
theorem dX1_follows_23 : decode cX1_follows 23 = .ok (.istore 5, 2) := dk_54 5 (dk_at dksX1_follows_1 0 rfl rfl)
theorem dX1_follows_25 : decode cX1_follows 25 = .ok (.iload 5, 2) := dk_21 5 (dk_at dksX1_follows_1 2 rfl rfl)
theorem dX1_follows_27 : decode cX1_follows 27 = .ok (.aload_n 1, 1) := dk_43 (dk_at dksX1_follows_1 4 rfl rfl)
theorem dX1_follows_28 : decode cX1_follows 28 = .ok (.getfield 176, 3) := dk_180 0 176 (dk_at dksX1_follows_1 5 rfl rfl)
theorem dX1_follows_31 : decode cX1_follows 31 = .ok (.if_icmp .ge 35, 3) := dk_162 0 35 (dk_at dksX1_follows_1 8 rfl rfl)
theorem dX1_follows_34 : decode cX1_follows 34 = .ok (.aload_n 1, 1) := dk_43 (dk_at dksX1_follows_1 11 rfl rfl)
theorem dX1_follows_35 : decode cX1_follows 35 = .ok (.getfield 147, 3) := dk_180 0 147 (dk_at dksX1_follows_1 12 rfl rfl)
theorem dX1_follows_38 : decode cX1_follows 38 = .ok (.iload 5, 2) := dk_21 5 (dk_at dksX1_follows_1 15 rfl rfl)
theorem dX1_follows_40 : decode cX1_follows 40 = .ok (.iaload, 1) := dk_46 (dk_at dksX1_follows_1 17 rfl rfl)
theorem dX1_follows_41 : decode cX1_follows 41 = .ok (.iconst (-1), 1) := dk_2 (dk_at dksX1_follows_1 18 rfl rfl)
theorem dX1_follows_42 : decode cX1_follows 42 = .ok (.if_icmp .eq 18, 3) := dk_159 0 18 (dk_at dksX1_follows_1 19 rfl rfl)
theorem dX1_follows_45 : decode cX1_follows 45 = .ok (.aload_n 0, 1) := dk_42 (dk_at dksX1_follows_1 22 rfl rfl)
theorem dX1_follows_46 : decode cX1_follows 46 = .ok (.getfield 28, 3) := dk_180 0 28 (dk_at dksX1_follows_2 0 rfl rfl)
theorem dX1_follows_49 : decode cX1_follows 49 = .ok (.iload_n 2, 1) := dk_28 (dk_at dksX1_follows_2 3 rfl rfl)
theorem dX1_follows_50 : decode cX1_follows 50 = .ok (.bipush 100, 2) := dk_16 100 (dk_at dksX1_follows_2 4 rfl rfl)
theorem dX1_follows_52 : decode cX1_follows 52 = .ok (.iload 5, 2) := dk_21 5 (dk_at dksX1_follows_2 6 rfl rfl)
theorem dX1_follows_54 : decode cX1_follows 54 = .ok (.iadd, 1) := dk_96 (dk_at dksX1_follows_2 8 rfl rfl)
theorem dX1_follows_55 : decode cX1_follows 55 = .ok (.invokevirtual 172, 3) := dk_182 0 172 (dk_at dksX1_follows_2 9 rfl rfl)
theorem dX1_follows_58 : decode cX1_follows 58 = .ok (.istore 6, 2) := dk_54 6 (dk_at dksX1_follows_2 12 rfl rfl)
theorem dX1_follows_60 : decode cX1_follows 60 = .ok (.iinc 5 1, 3) := dk_132 5 1 (dk_at dksX1_follows_2 14 rfl rfl)
theorem dX1_follows_63 : decode cX1_follows 63 = .ok (.goto (-38), 3) := dk_167 255 218 (dk_at dksX1_follows_2 17 rfl rfl)
theorem dX1_follows_66 : decode cX1_follows 66 = .ok (.return_, 1) := dk_177 (dk_at dksX1_follows_2 20 rfl rfl)
abbrev cX1_epoch : ByteArray := prog_1_method_23_code
def yX1_epoch : MethodName := ⟨RX1, "epoch", "()I"⟩
def dkwX1_epoch_0 : List UInt8 := [42, 182, 0, 185, 42, 182, 0, 83, 172]
abbrev dktX1_epoch_0 : List UInt8 := dkwX1_epoch_0 ++ []
theorem dksX1_epoch_0 : cX1_epoch.data.toList.drop 0 = dktX1_epoch_0 := by decide +kernel
theorem dX1_epoch_0 : decode cX1_epoch 0 = .ok (.aload_n 0, 1) := dk_42 (dk_at dksX1_epoch_0 0 rfl rfl)
theorem dX1_epoch_1 : decode cX1_epoch 1 = .ok (.invokevirtual 185, 3) := dk_182 0 185 (dk_at dksX1_epoch_0 1 rfl rfl)
theorem dX1_epoch_4 : decode cX1_epoch 4 = .ok (.aload_n 0, 1) := dk_42 (dk_at dksX1_epoch_0 4 rfl rfl)
theorem dX1_epoch_5 : decode cX1_epoch 5 = .ok (.invokevirtual 83, 3) := dk_182 0 83 (dk_at dksX1_epoch_0 5 rfl rfl)
theorem dX1_epoch_8 : decode cX1_epoch 8 = .ok (.ireturn, 1) := dk_172 (dk_at dksX1_epoch_0 8 rfl rfl)
abbrev cX1_isGroup : ByteArray := prog_1_method_22_code
def yX1_isGroup : MethodName := ⟨RX1, "isGroup", "()V"⟩
def dkwX1_isGroup_0 : List UInt8 := [42, 180, 0, 47, 185, 0, 96, 1, 0, 154, 0, 7, 4, 167, 0, 4, 3, 184, 0, 182, 177]
abbrev dktX1_isGroup_0 : List UInt8 := dkwX1_isGroup_0 ++ []
theorem dksX1_isGroup_0 : cX1_isGroup.data.toList.drop 0 = dktX1_isGroup_0 := by decide +kernel
theorem dX1_isGroup_0 : decode cX1_isGroup 0 = .ok (.aload_n 0, 1) := dk_42 (dk_at dksX1_isGroup_0 0 rfl rfl)
theorem dX1_isGroup_1 : decode cX1_isGroup 1 = .ok (.getfield 47, 3) := dk_180 0 47 (dk_at dksX1_isGroup_0 1 rfl rfl)
theorem dX1_isGroup_4 : decode cX1_isGroup 4 = .ok (.invokeinterface 96 1, 5) := by decide +kernel
theorem dX1_isGroup_9 : decode cX1_isGroup 9 = .ok (.ifCond .ne 7, 3) := dk_154 0 7 (dk_at dksX1_isGroup_0 9 rfl rfl)
theorem dX1_isGroup_12 : decode cX1_isGroup 12 = .ok (.iconst 1, 1) := dk_4 (dk_at dksX1_isGroup_0 12 rfl rfl)
theorem dX1_isGroup_13 : decode cX1_isGroup 13 = .ok (.goto 4, 3) := dk_167 0 4 (dk_at dksX1_isGroup_0 13 rfl rfl)
theorem dX1_isGroup_16 : decode cX1_isGroup 16 = .ok (.iconst 0, 1) := dk_3 (dk_at dksX1_isGroup_0 16 rfl rfl)
theorem dX1_isGroup_17 : decode cX1_isGroup 17 = .ok (.invokestatic 182, 3) := dk_184 0 182 (dk_at dksX1_isGroup_0 17 rfl rfl)
theorem dX1_isGroup_20 : decode cX1_isGroup 20 = .ok (.return_, 1) := dk_177 (dk_at dksX1_isGroup_0 20 rfl rfl)
abbrev cX1_can : ByteArray := prog_1_method_4_code
def yX1_can : MethodName := ⟨RX1, "can", "(Z)V"⟩
def dkwX1_can_0 : List UInt8 := [26, 154, 0, 11, 187, 0, 10, 89, 183, 0, 12, 191, 177]
abbrev dktX1_can_0 : List UInt8 := dkwX1_can_0 ++ []
theorem dksX1_can_0 : cX1_can.data.toList.drop 0 = dktX1_can_0 := by decide +kernel
theorem dX1_can_0 : decode cX1_can 0 = .ok (.iload_n 0, 1) := dk_26 (dk_at dksX1_can_0 0 rfl rfl)
theorem dX1_can_1 : decode cX1_can 1 = .ok (.ifCond .ne 11, 3) := dk_154 0 11 (dk_at dksX1_can_0 1 rfl rfl)
theorem dX1_can_4 : decode cX1_can 4 = .ok (.new 10, 3) := dk_187 0 10 (dk_at dksX1_can_0 4 rfl rfl)
theorem dX1_can_7 : decode cX1_can 7 = .ok (.dup, 1) := dk_89 (dk_at dksX1_can_0 7 rfl rfl)
theorem dX1_can_8 : decode cX1_can 8 = .ok (.invokespecial 12, 3) := dk_183 0 12 (dk_at dksX1_can_0 8 rfl rfl)
theorem dX1_can_11 : decode cX1_can 11 = .ok (.athrow, 1) := dk_191 (dk_at dksX1_can_0 11 rfl rfl)
theorem dX1_can_12 : decode cX1_can 12 = .ok (.return_, 1) := dk_177 (dk_at dksX1_can_0 12 rfl rfl)
abbrev cX1_epochOf : ByteArray := prog_1_method_24_code
def yX1_epochOf : MethodName := ⟨RX1, "epochOf", "(I)I"⟩
def dkwX1_epochOf_0 : List UInt8 := [42, 27, 182, 0, 126, 77, 44, 182, 0, 88, 184, 0, 188, 44, 180, 0, 92, 172]
abbrev dktX1_epochOf_0 : List UInt8 := dkwX1_epochOf_0 ++ []
theorem dksX1_epochOf_0 : cX1_epochOf.data.toList.drop 0 = dktX1_epochOf_0 := by decide +kernel
theorem dX1_epochOf_0 : decode cX1_epochOf 0 = .ok (.aload_n 0, 1) := dk_42 (dk_at dksX1_epochOf_0 0 rfl rfl)
theorem dX1_epochOf_1 : decode cX1_epochOf 1 = .ok (.iload_n 1, 1) := dk_27 (dk_at dksX1_epochOf_0 1 rfl rfl)
theorem dX1_epochOf_2 : decode cX1_epochOf 2 = .ok (.invokevirtual 126, 3) := dk_182 0 126 (dk_at dksX1_epochOf_0 2 rfl rfl)
theorem dX1_epochOf_5 : decode cX1_epochOf 5 = .ok (.astore_n 2, 1) := dk_77 (dk_at dksX1_epochOf_0 5 rfl rfl)
theorem dX1_epochOf_6 : decode cX1_epochOf 6 = .ok (.aload_n 2, 1) := dk_44 (dk_at dksX1_epochOf_0 6 rfl rfl)
theorem dX1_epochOf_7 : decode cX1_epochOf 7 = .ok (.invokevirtual 88, 3) := dk_182 0 88 (dk_at dksX1_epochOf_0 7 rfl rfl)
theorem dX1_epochOf_10 : decode cX1_epochOf 10 = .ok (.invokestatic 188, 3) := dk_184 0 188 (dk_at dksX1_epochOf_0 10 rfl rfl)
theorem dX1_epochOf_13 : decode cX1_epochOf 13 = .ok (.aload_n 2, 1) := dk_44 (dk_at dksX1_epochOf_0 13 rfl rfl)
theorem dX1_epochOf_14 : decode cX1_epochOf 14 = .ok (.getfield 92, 3) := dk_180 0 92 (dk_at dksX1_epochOf_0 14 rfl rfl)
theorem dX1_epochOf_17 : decode cX1_epochOf 17 = .ok (.ireturn, 1) := dk_172 (dk_at dksX1_epochOf_0 17 rfl rfl)
abbrev cX1_found_2 : ByteArray := prog_1_method_6_code
def yX1_found_2 : MethodName := ⟨RX1, "found", "(Z)V"⟩
def dkwX1_found_2_0 : List UInt8 := [26, 154, 0, 11, 187, 0, 16, 89, 183, 0, 18, 191, 177]
abbrev dktX1_found_2_0 : List UInt8 := dkwX1_found_2_0 ++ []
theorem dksX1_found_2_0 : cX1_found_2.data.toList.drop 0 = dktX1_found_2_0 := by decide +kernel
theorem dX1_found_2_0 : decode cX1_found_2 0 = .ok (.iload_n 0, 1) := dk_26 (dk_at dksX1_found_2_0 0 rfl rfl)
theorem dX1_found_2_1 : decode cX1_found_2 1 = .ok (.ifCond .ne 11, 3) := dk_154 0 11 (dk_at dksX1_found_2_0 1 rfl rfl)
theorem dX1_found_2_4 : decode cX1_found_2 4 = .ok (.new 16, 3) := dk_187 0 16 (dk_at dksX1_found_2_0 4 rfl rfl)
theorem dX1_found_2_7 : decode cX1_found_2 7 = .ok (.dup, 1) := dk_89 (dk_at dksX1_found_2_0 7 rfl rfl)
theorem dX1_found_2_8 : decode cX1_found_2 8 = .ok (.invokespecial 18, 3) := dk_183 0 18 (dk_at dksX1_found_2_0 8 rfl rfl)
theorem dX1_found_2_11 : decode cX1_found_2 11 = .ok (.athrow, 1) := dk_191 (dk_at dksX1_found_2_0 11 rfl rfl)
theorem dX1_found_2_12 : decode cX1_found_2 12 = .ok (.return_, 1) := dk_177 (dk_at dksX1_found_2_0 12 rfl rfl)
abbrev cX1_leafOf : ByteArray := prog_1_method_25_code
def yX1_leafOf : MethodName := ⟨RX1, "leafOf", "(I)I"⟩
def dkwX1_leafOf_0 : List UInt8 := [42, 27, 182, 0, 126, 77, 44, 182, 0, 88, 184, 0, 188, 44, 180, 0, 191, 172]
abbrev dktX1_leafOf_0 : List UInt8 := dkwX1_leafOf_0 ++ []
theorem dksX1_leafOf_0 : cX1_leafOf.data.toList.drop 0 = dktX1_leafOf_0 := by decide +kernel
theorem dX1_leafOf_0 : decode cX1_leafOf 0 = .ok (.aload_n 0, 1) := dk_42 (dk_at dksX1_leafOf_0 0 rfl rfl)
theorem dX1_leafOf_1 : decode cX1_leafOf 1 = .ok (.iload_n 1, 1) := dk_27 (dk_at dksX1_leafOf_0 1 rfl rfl)
theorem dX1_leafOf_2 : decode cX1_leafOf 2 = .ok (.invokevirtual 126, 3) := dk_182 0 126 (dk_at dksX1_leafOf_0 2 rfl rfl)
theorem dX1_leafOf_5 : decode cX1_leafOf 5 = .ok (.astore_n 2, 1) := dk_77 (dk_at dksX1_leafOf_0 5 rfl rfl)
theorem dX1_leafOf_6 : decode cX1_leafOf 6 = .ok (.aload_n 2, 1) := dk_44 (dk_at dksX1_leafOf_0 6 rfl rfl)
theorem dX1_leafOf_7 : decode cX1_leafOf 7 = .ok (.invokevirtual 88, 3) := dk_182 0 88 (dk_at dksX1_leafOf_0 7 rfl rfl)
theorem dX1_leafOf_10 : decode cX1_leafOf 10 = .ok (.invokestatic 188, 3) := dk_184 0 188 (dk_at dksX1_leafOf_0 10 rfl rfl)
theorem dX1_leafOf_13 : decode cX1_leafOf 13 = .ok (.aload_n 2, 1) := dk_44 (dk_at dksX1_leafOf_0 13 rfl rfl)
theorem dX1_leafOf_14 : decode cX1_leafOf 14 = .ok (.getfield 191, 3) := dk_180 0 191 (dk_at dksX1_leafOf_0 14 rfl rfl)
theorem dX1_leafOf_17 : decode cX1_leafOf 17 = .ok (.ireturn, 1) := dk_172 (dk_at dksX1_leafOf_0 17 rfl rfl)
abbrev cX1_isMember : ByteArray := prog_1_method_26_code
def yX1_isMember : MethodName := ⟨RX1, "isMember", "(II)Z"⟩
def dkwX1_isMember_1 : List UInt8 := [45, 180, 0, 198, 182, 0, 201, 2, 159, 0, 7, 4, 167, 0, 4, 3, 172]
abbrev dktX1_isMember_1 : List UInt8 := dkwX1_isMember_1 ++ []
def dkwX1_isMember_0 : List UInt8 := [42, 27, 182, 0, 126, 78, 42, 28, 182, 0, 194, 42, 180, 0, 47, 28, 185, 0, 77, 2, 0, 192, 0, 86]
abbrev dktX1_isMember_0 : List UInt8 := dkwX1_isMember_0 ++ dktX1_isMember_1
theorem dksX1_isMember_0 : cX1_isMember.data.toList.drop 0 = dktX1_isMember_0 := by decide +kernel
theorem dksX1_isMember_1 : cX1_isMember.data.toList.drop 24 = dktX1_isMember_1 := dk_seg dksX1_isMember_0 24 rfl rfl
theorem dX1_isMember_0 : decode cX1_isMember 0 = .ok (.aload_n 0, 1) := dk_42 (dk_at dksX1_isMember_0 0 rfl rfl)
theorem dX1_isMember_1 : decode cX1_isMember 1 = .ok (.iload_n 1, 1) := dk_27 (dk_at dksX1_isMember_0 1 rfl rfl)
theorem dX1_isMember_2 : decode cX1_isMember 2 = .ok (.invokevirtual 126, 3) := dk_182 0 126 (dk_at dksX1_isMember_0 2 rfl rfl)
theorem dX1_isMember_5 : decode cX1_isMember 5 = .ok (.astore_n 3, 1) := dk_78 (dk_at dksX1_isMember_0 5 rfl rfl)
theorem dX1_isMember_6 : decode cX1_isMember 6 = .ok (.aload_n 0, 1) := dk_42 (dk_at dksX1_isMember_0 6 rfl rfl)
theorem dX1_isMember_7 : decode cX1_isMember 7 = .ok (.iload_n 2, 1) := dk_28 (dk_at dksX1_isMember_0 7 rfl rfl)
theorem dX1_isMember_8 : decode cX1_isMember 8 = .ok (.invokevirtual 194, 3) := dk_182 0 194 (dk_at dksX1_isMember_0 8 rfl rfl)
theorem dX1_isMember_11 : decode cX1_isMember 11 = .ok (.aload_n 0, 1) := dk_42 (dk_at dksX1_isMember_0 11 rfl rfl)
theorem dX1_isMember_12 : decode cX1_isMember 12 = .ok (.getfield 47, 3) := dk_180 0 47 (dk_at dksX1_isMember_0 12 rfl rfl)
theorem dX1_isMember_15 : decode cX1_isMember 15 = .ok (.iload_n 2, 1) := dk_28 (dk_at dksX1_isMember_0 15 rfl rfl)
theorem dX1_isMember_16 : decode cX1_isMember 16 = .ok (.invokeinterface 77 2, 5) := by decide +kernel
theorem dX1_isMember_21 : decode cX1_isMember 21 = .ok (.checkcast 86, 3) := dk_192 0 86 (dk_at dksX1_isMember_0 21 rfl rfl)
theorem dX1_isMember_24 : decode cX1_isMember 24 = .ok (.aload_n 3, 1) := dk_45 (dk_at dksX1_isMember_1 0 rfl rfl)
theorem dX1_isMember_25 : decode cX1_isMember 25 = .ok (.getfield 198, 3) := dk_180 0 198 (dk_at dksX1_isMember_1 1 rfl rfl)
theorem dX1_isMember_28 : decode cX1_isMember 28 = .ok (.invokevirtual 201, 3) := dk_182 0 201 (dk_at dksX1_isMember_1 4 rfl rfl)
theorem dX1_isMember_31 : decode cX1_isMember 31 = .ok (.iconst (-1), 1) := dk_2 (dk_at dksX1_isMember_1 7 rfl rfl)
theorem dX1_isMember_32 : decode cX1_isMember 32 = .ok (.if_icmp .eq 7, 3) := dk_159 0 7 (dk_at dksX1_isMember_1 8 rfl rfl)
theorem dX1_isMember_35 : decode cX1_isMember 35 = .ok (.iconst 1, 1) := dk_4 (dk_at dksX1_isMember_1 11 rfl rfl)
theorem dX1_isMember_36 : decode cX1_isMember 36 = .ok (.goto 4, 3) := dk_167 0 4 (dk_at dksX1_isMember_1 12 rfl rfl)
theorem dX1_isMember_39 : decode cX1_isMember 39 = .ok (.iconst 0, 1) := dk_3 (dk_at dksX1_isMember_1 15 rfl rfl)
theorem dX1_isMember_40 : decode cX1_isMember 40 = .ok (.ireturn, 1) := dk_172 (dk_at dksX1_isMember_1 16 rfl rfl)
abbrev cX1_hasEpoch : ByteArray := prog_1_method_14_code
def yX1_hasEpoch : MethodName := ⟨RX1, "hasEpoch", "(I)V"⟩
def dkwX1_hasEpoch_0 : List UInt8 := [27, 3, 42, 182, 0, 83, 184, 0, 69, 184, 0, 73, 177]
abbrev dktX1_hasEpoch_0 : List UInt8 := dkwX1_hasEpoch_0 ++ []
theorem dksX1_hasEpoch_0 : cX1_hasEpoch.data.toList.drop 0 = dktX1_hasEpoch_0 := by decide +kernel
theorem dX1_hasEpoch_0 : decode cX1_hasEpoch 0 = .ok (.iload_n 1, 1) := dk_27 (dk_at dksX1_hasEpoch_0 0 rfl rfl)
theorem dX1_hasEpoch_1 : decode cX1_hasEpoch 1 = .ok (.iconst 0, 1) := dk_3 (dk_at dksX1_hasEpoch_0 1 rfl rfl)
theorem dX1_hasEpoch_2 : decode cX1_hasEpoch 2 = .ok (.aload_n 0, 1) := dk_42 (dk_at dksX1_hasEpoch_0 2 rfl rfl)
theorem dX1_hasEpoch_3 : decode cX1_hasEpoch 3 = .ok (.invokevirtual 83, 3) := dk_182 0 83 (dk_at dksX1_hasEpoch_0 3 rfl rfl)
theorem dX1_hasEpoch_6 : decode cX1_hasEpoch 6 = .ok (.invokestatic 69, 3) := dk_184 0 69 (dk_at dksX1_hasEpoch_0 6 rfl rfl)
theorem dX1_hasEpoch_9 : decode cX1_hasEpoch 9 = .ok (.invokestatic 73, 3) := dk_184 0 73 (dk_at dksX1_hasEpoch_0 9 rfl rfl)
theorem dX1_hasEpoch_12 : decode cX1_hasEpoch 12 = .ok (.return_, 1) := dk_177 (dk_at dksX1_hasEpoch_0 12 rfl rfl)
abbrev cX1_add : ByteArray := prog_1_method_30_code
def yX1_add : MethodName := ⟨RX1, "add", "(II)I"⟩
def dkwX1_add_6 : List UInt8 := [187, 0, 219, 89, 25, 4, 183, 0, 243, 182, 0, 246, 172]
abbrev dktX1_add_6 : List UInt8 := dkwX1_add_6 ++ []
def dkwX1_add_5 : List UInt8 := [180, 0, 44, 185, 0, 63, 1, 0, 16, 8, 162, 0, 7, 4, 167, 0, 4, 3, 184, 0, 120, 42]
abbrev dktX1_add_5 : List UInt8 := dkwX1_add_5 ++ dktX1_add_6
def dkwX1_add_4 : List UInt8 := [154, 0, 19, 42, 25, 4, 180, 0, 225, 182, 0, 239, 154, 0, 7, 4, 167, 0, 4, 3, 184, 0, 182, 42]
abbrev dktX1_add_4 : List UInt8 := dkwX1_add_4 ++ dktX1_add_5
def dkwX1_add_3 : List UInt8 := [160, 0, 42, 42, 180, 0, 37, 25, 4, 180, 0, 225, 185, 0, 77, 2, 0, 192, 0, 81, 182, 0, 88]
abbrev dktX1_add_3 : List UInt8 := dkwX1_add_3 ++ dktX1_add_4
def dkwX1_add_2 : List UInt8 := [153, 0, 66, 25, 4, 180, 0, 235, 154, 0, 58, 42, 182, 0, 99, 25, 4, 180, 0, 225, 182, 0, 201, 2]
abbrev dktX1_add_2 : List UInt8 := dkwX1_add_2 ++ dktX1_add_3
def dkwX1_add_1 : List UInt8 := [184, 0, 73, 42, 180, 0, 41, 28, 185, 0, 77, 2, 0, 192, 0, 133, 58, 4, 42, 45, 182, 0, 231]
abbrev dktX1_add_1 : List UInt8 := dkwX1_add_1 ++ dktX1_add_2
def dkwX1_add_0 : List UInt8 := [42, 27, 182, 0, 126, 78, 28, 3, 42, 180, 0, 41, 185, 0, 63, 1, 0, 4, 100, 184, 0, 69]
abbrev dktX1_add_0 : List UInt8 := dkwX1_add_0 ++ dktX1_add_1
theorem dksX1_add_0 : cX1_add.data.toList.drop 0 = dktX1_add_0 := by decide +kernel
theorem dksX1_add_1 : cX1_add.data.toList.drop 22 = dktX1_add_1 := dk_seg dksX1_add_0 22 rfl rfl
theorem dksX1_add_2 : cX1_add.data.toList.drop 45 = dktX1_add_2 := dk_seg dksX1_add_1 23 rfl rfl
theorem dksX1_add_3 : cX1_add.data.toList.drop 69 = dktX1_add_3 := dk_seg dksX1_add_2 24 rfl rfl
theorem dksX1_add_4 : cX1_add.data.toList.drop 92 = dktX1_add_4 := dk_seg dksX1_add_3 23 rfl rfl
theorem dksX1_add_5 : cX1_add.data.toList.drop 116 = dktX1_add_5 := dk_seg dksX1_add_4 24 rfl rfl
theorem dksX1_add_6 : cX1_add.data.toList.drop 138 = dktX1_add_6 := dk_seg dksX1_add_5 22 rfl rfl
theorem dX1_add_0 : decode cX1_add 0 = .ok (.aload_n 0, 1) := dk_42 (dk_at dksX1_add_0 0 rfl rfl)
theorem dX1_add_1 : decode cX1_add 1 = .ok (.iload_n 1, 1) := dk_27 (dk_at dksX1_add_0 1 rfl rfl)
theorem dX1_add_2 : decode cX1_add 2 = .ok (.invokevirtual 126, 3) := dk_182 0 126 (dk_at dksX1_add_0 2 rfl rfl)
theorem dX1_add_5 : decode cX1_add 5 = .ok (.astore_n 3, 1) := dk_78 (dk_at dksX1_add_0 5 rfl rfl)
theorem dX1_add_6 : decode cX1_add 6 = .ok (.iload_n 2, 1) := dk_28 (dk_at dksX1_add_0 6 rfl rfl)
theorem dX1_add_7 : decode cX1_add 7 = .ok (.iconst 0, 1) := dk_3 (dk_at dksX1_add_0 7 rfl rfl)
theorem dX1_add_8 : decode cX1_add 8 = .ok (.aload_n 0, 1) := dk_42 (dk_at dksX1_add_0 8 rfl rfl)
theorem dX1_add_9 : decode cX1_add 9 = .ok (.getfield 41, 3) := dk_180 0 41 (dk_at dksX1_add_0 9 rfl rfl)
theorem dX1_add_12 : decode cX1_add 12 = .ok (.invokeinterface 63 1, 5) := by decide +kernel
theorem dX1_add_17 : decode cX1_add 17 = .ok (.iconst 1, 1) := dk_4 (dk_at dksX1_add_0 17 rfl rfl)
theorem dX1_add_18 : decode cX1_add 18 = .ok (.isub, 1) := dk_100 (dk_at dksX1_add_0 18 rfl rfl)
theorem dX1_add_19 : decode cX1_add 19 = .ok (.invokestatic 69, 3) := dk_184 0 69 (dk_at dksX1_add_0 19 rfl rfl)
theorem dX1_add_22 : decode cX1_add 22 = .ok (.invokestatic 73, 3) := dk_184 0 73 (dk_at dksX1_add_1 0 rfl rfl)
theorem dX1_add_25 : decode cX1_add 25 = .ok (.aload_n 0, 1) := dk_42 (dk_at dksX1_add_1 3 rfl rfl)
theorem dX1_add_26 : decode cX1_add 26 = .ok (.getfield 41, 3) := dk_180 0 41 (dk_at dksX1_add_1 4 rfl rfl)
theorem dX1_add_29 : decode cX1_add 29 = .ok (.iload_n 2, 1) := dk_28 (dk_at dksX1_add_1 7 rfl rfl)
theorem dX1_add_30 : decode cX1_add 30 = .ok (.invokeinterface 77 2, 5) := by decide +kernel
theorem dX1_add_35 : decode cX1_add 35 = .ok (.checkcast 133, 3) := dk_192 0 133 (dk_at dksX1_add_1 13 rfl rfl)
theorem dX1_add_38 : decode cX1_add 38 = .ok (.astore 4, 2) := dk_58 4 (dk_at dksX1_add_1 16 rfl rfl)
theorem dX1_add_40 : decode cX1_add 40 = .ok (.aload_n 0, 1) := dk_42 (dk_at dksX1_add_1 18 rfl rfl)
theorem dX1_add_41 : decode cX1_add 41 = .ok (.aload_n 3, 1) := dk_45 (dk_at dksX1_add_1 19 rfl rfl)
theorem dX1_add_42 : decode cX1_add 42 = .ok (.invokevirtual 231, 3) := dk_182 0 231 (dk_at dksX1_add_1 20 rfl rfl)
theorem dX1_add_45 : decode cX1_add 45 = .ok (.ifCond .eq 66, 3) := dk_153 0 66 (dk_at dksX1_add_2 0 rfl rfl)
theorem dX1_add_48 : decode cX1_add 48 = .ok (.aload 4, 2) := dk_25 4 (dk_at dksX1_add_2 3 rfl rfl)
theorem dX1_add_50 : decode cX1_add 50 = .ok (.getfield 235, 3) := dk_180 0 235 (dk_at dksX1_add_2 5 rfl rfl)
theorem dX1_add_53 : decode cX1_add 53 = .ok (.ifCond .ne 58, 3) := dk_154 0 58 (dk_at dksX1_add_2 8 rfl rfl)
theorem dX1_add_56 : decode cX1_add 56 = .ok (.aload_n 0, 1) := dk_42 (dk_at dksX1_add_2 11 rfl rfl)
theorem dX1_add_57 : decode cX1_add 57 = .ok (.invokevirtual 99, 3) := dk_182 0 99 (dk_at dksX1_add_2 12 rfl rfl)
theorem dX1_add_60 : decode cX1_add 60 = .ok (.aload 4, 2) := dk_25 4 (dk_at dksX1_add_2 15 rfl rfl)
theorem dX1_add_62 : decode cX1_add 62 = .ok (.getfield 225, 3) := dk_180 0 225 (dk_at dksX1_add_2 17 rfl rfl)
theorem dX1_add_65 : decode cX1_add 65 = .ok (.invokevirtual 201, 3) := dk_182 0 201 (dk_at dksX1_add_2 20 rfl rfl)
theorem dX1_add_68 : decode cX1_add 68 = .ok (.iconst (-1), 1) := dk_2 (dk_at dksX1_add_2 23 rfl rfl)
theorem dX1_add_69 : decode cX1_add 69 = .ok (.if_icmp .ne 42, 3) := dk_160 0 42 (dk_at dksX1_add_3 0 rfl rfl)
theorem dX1_add_72 : decode cX1_add 72 = .ok (.aload_n 0, 1) := dk_42 (dk_at dksX1_add_3 3 rfl rfl)
theorem dX1_add_73 : decode cX1_add 73 = .ok (.getfield 37, 3) := dk_180 0 37 (dk_at dksX1_add_3 4 rfl rfl)
theorem dX1_add_76 : decode cX1_add 76 = .ok (.aload 4, 2) := dk_25 4 (dk_at dksX1_add_3 7 rfl rfl)
theorem dX1_add_78 : decode cX1_add 78 = .ok (.getfield 225, 3) := dk_180 0 225 (dk_at dksX1_add_3 9 rfl rfl)
theorem dX1_add_81 : decode cX1_add 81 = .ok (.invokeinterface 77 2, 5) := by decide +kernel
theorem dX1_add_86 : decode cX1_add 86 = .ok (.checkcast 81, 3) := dk_192 0 81 (dk_at dksX1_add_3 17 rfl rfl)
theorem dX1_add_89 : decode cX1_add 89 = .ok (.invokevirtual 88, 3) := dk_182 0 88 (dk_at dksX1_add_3 20 rfl rfl)
theorem dX1_add_92 : decode cX1_add 92 = .ok (.ifCond .ne 19, 3) := dk_154 0 19 (dk_at dksX1_add_4 0 rfl rfl)
theorem dX1_add_95 : decode cX1_add 95 = .ok (.aload_n 0, 1) := dk_42 (dk_at dksX1_add_4 3 rfl rfl)
theorem dX1_add_96 : decode cX1_add 96 = .ok (.aload 4, 2) := dk_25 4 (dk_at dksX1_add_4 4 rfl rfl)
theorem dX1_add_98 : decode cX1_add 98 = .ok (.getfield 225, 3) := dk_180 0 225 (dk_at dksX1_add_4 6 rfl rfl)
theorem dX1_add_101 : decode cX1_add 101 = .ok (.invokevirtual 239, 3) := dk_182 0 239 (dk_at dksX1_add_4 9 rfl rfl)
theorem dX1_add_104 : decode cX1_add 104 = .ok (.ifCond .ne 7, 3) := dk_154 0 7 (dk_at dksX1_add_4 12 rfl rfl)
theorem dX1_add_107 : decode cX1_add 107 = .ok (.iconst 1, 1) := dk_4 (dk_at dksX1_add_4 15 rfl rfl)
theorem dX1_add_108 : decode cX1_add 108 = .ok (.goto 4, 3) := dk_167 0 4 (dk_at dksX1_add_4 16 rfl rfl)
theorem dX1_add_111 : decode cX1_add 111 = .ok (.iconst 0, 1) := dk_3 (dk_at dksX1_add_4 19 rfl rfl)
theorem dX1_add_112 : decode cX1_add 112 = .ok (.invokestatic 182, 3) := dk_184 0 182 (dk_at dksX1_add_4 20 rfl rfl)
theorem dX1_add_115 : decode cX1_add 115 = .ok (.aload_n 0, 1) := dk_42 (dk_at dksX1_add_4 23 rfl rfl)
theorem dX1_add_116 : decode cX1_add 116 = .ok (.getfield 44, 3) := dk_180 0 44 (dk_at dksX1_add_5 0 rfl rfl)
theorem dX1_add_119 : decode cX1_add 119 = .ok (.invokeinterface 63 1, 5) := by decide +kernel
theorem dX1_add_124 : decode cX1_add 124 = .ok (.bipush 8, 2) := dk_16 8 (dk_at dksX1_add_5 8 rfl rfl)
theorem dX1_add_126 : decode cX1_add 126 = .ok (.if_icmp .ge 7, 3) := dk_162 0 7 (dk_at dksX1_add_5 10 rfl rfl)
theorem dX1_add_129 : decode cX1_add 129 = .ok (.iconst 1, 1) := dk_4 (dk_at dksX1_add_5 13 rfl rfl)
theorem dX1_add_130 : decode cX1_add 130 = .ok (.goto 4, 3) := dk_167 0 4 (dk_at dksX1_add_5 14 rfl rfl)
theorem dX1_add_133 : decode cX1_add 133 = .ok (.iconst 0, 1) := dk_3 (dk_at dksX1_add_5 17 rfl rfl)
theorem dX1_add_134 : decode cX1_add 134 = .ok (.invokestatic 120, 3) := dk_184 0 120 (dk_at dksX1_add_5 18 rfl rfl)
theorem dX1_add_137 : decode cX1_add 137 = .ok (.aload_n 0, 1) := dk_42 (dk_at dksX1_add_5 21 rfl rfl)
theorem dX1_add_138 : decode cX1_add 138 = .ok (.new 219, 3) := dk_187 0 219 (dk_at dksX1_add_6 0 rfl rfl)
theorem dX1_add_141 : decode cX1_add 141 = .ok (.dup, 1) := dk_89 (dk_at dksX1_add_6 3 rfl rfl)
theorem dX1_add_142 : decode cX1_add 142 = .ok (.aload 4, 2) := dk_25 4 (dk_at dksX1_add_6 4 rfl rfl)
theorem dX1_add_144 : decode cX1_add 144 = .ok (.invokespecial 243, 3) := dk_183 0 243 (dk_at dksX1_add_6 6 rfl rfl)
theorem dX1_add_147 : decode cX1_add 147 = .ok (.invokevirtual 246, 3) := dk_182 0 246 (dk_at dksX1_add_6 9 rfl rfl)
theorem dX1_add_150 : decode cX1_add 150 = .ok (.ireturn, 1) := dk_172 (dk_at dksX1_add_6 12 rfl rfl)
abbrev cX1_isToBeAdded : ByteArray := prog_1_method_27_code
def yX1_isToBeAdded : MethodName := ⟨RX1, "isToBeAdded", "(I)Z"⟩
def dkwX1_isToBeAdded_2 : List UInt8 := [192, 0, 219, 180, 0, 221, 180, 0, 225, 27, 160, 0, 7, 4, 167, 0, 4, 3, 61, 167, 255, 203, 28, 172]
abbrev dktX1_isToBeAdded_2 : List UInt8 := dkwX1_isToBeAdded_2 ++ []
def dkwX1_isToBeAdded_1 : List UInt8 := [185, 0, 213, 1, 0, 192, 0, 217, 58, 4, 28, 154, 0, 26, 25, 4, 193, 0, 219, 153, 0, 22, 25, 4]
abbrev dktX1_isToBeAdded_1 : List UInt8 := dkwX1_isToBeAdded_1 ++ dktX1_isToBeAdded_2
def dkwX1_isToBeAdded_0 : List UInt8 := [3, 61, 42, 180, 0, 44, 185, 0, 204, 1, 0, 78, 45, 185, 0, 208, 1, 0, 153, 0, 50, 45]
abbrev dktX1_isToBeAdded_0 : List UInt8 := dkwX1_isToBeAdded_0 ++ dktX1_isToBeAdded_1
theorem dksX1_isToBeAdded_0 : cX1_isToBeAdded.data.toList.drop 0 = dktX1_isToBeAdded_0 := by decide +kernel
theorem dksX1_isToBeAdded_1 : cX1_isToBeAdded.data.toList.drop 22 = dktX1_isToBeAdded_1 := dk_seg dksX1_isToBeAdded_0 22 rfl rfl
theorem dksX1_isToBeAdded_2 : cX1_isToBeAdded.data.toList.drop 46 = dktX1_isToBeAdded_2 := dk_seg dksX1_isToBeAdded_1 24 rfl rfl
theorem dX1_isToBeAdded_0 : decode cX1_isToBeAdded 0 = .ok (.iconst 0, 1) := dk_3 (dk_at dksX1_isToBeAdded_0 0 rfl rfl)
theorem dX1_isToBeAdded_1 : decode cX1_isToBeAdded 1 = .ok (.istore_n 2, 1) := dk_61 (dk_at dksX1_isToBeAdded_0 1 rfl rfl)
theorem dX1_isToBeAdded_2 : decode cX1_isToBeAdded 2 = .ok (.aload_n 0, 1) := dk_42 (dk_at dksX1_isToBeAdded_0 2 rfl rfl)
theorem dX1_isToBeAdded_3 : decode cX1_isToBeAdded 3 = .ok (.getfield 44, 3) := dk_180 0 44 (dk_at dksX1_isToBeAdded_0 3 rfl rfl)
theorem dX1_isToBeAdded_6 : decode cX1_isToBeAdded 6 = .ok (.invokeinterface 204 1, 5) := by decide +kernel
theorem dX1_isToBeAdded_11 : decode cX1_isToBeAdded 11 = .ok (.astore_n 3, 1) := dk_78 (dk_at dksX1_isToBeAdded_0 11 rfl rfl)
theorem dX1_isToBeAdded_12 : decode cX1_isToBeAdded 12 = .ok (.aload_n 3, 1) := dk_45 (dk_at dksX1_isToBeAdded_0 12 rfl rfl)
theorem dX1_isToBeAdded_13 : decode cX1_isToBeAdded 13 = .ok (.invokeinterface 208 1, 5) := by decide +kernel
theorem dX1_isToBeAdded_18 : decode cX1_isToBeAdded 18 = .ok (.ifCond .eq 50, 3) := dk_153 0 50 (dk_at dksX1_isToBeAdded_0 18 rfl rfl)
theorem dX1_isToBeAdded_21 : decode cX1_isToBeAdded 21 = .ok (.aload_n 3, 1) := dk_45 (dk_at dksX1_isToBeAdded_0 21 rfl rfl)
theorem dX1_isToBeAdded_22 : decode cX1_isToBeAdded 22 = .ok (.invokeinterface 213 1, 5) := by decide +kernel
theorem dX1_isToBeAdded_27 : decode cX1_isToBeAdded 27 = .ok (.checkcast 217, 3) := dk_192 0 217 (dk_at dksX1_isToBeAdded_1 5 rfl rfl)
theorem dX1_isToBeAdded_30 : decode cX1_isToBeAdded 30 = .ok (.astore 4, 2) := dk_58 4 (dk_at dksX1_isToBeAdded_1 8 rfl rfl)
theorem dX1_isToBeAdded_32 : decode cX1_isToBeAdded 32 = .ok (.iload_n 2, 1) := dk_28 (dk_at dksX1_isToBeAdded_1 10 rfl rfl)
theorem dX1_isToBeAdded_33 : decode cX1_isToBeAdded 33 = .ok (.ifCond .ne 26, 3) := dk_154 0 26 (dk_at dksX1_isToBeAdded_1 11 rfl rfl)
theorem dX1_isToBeAdded_36 : decode cX1_isToBeAdded 36 = .ok (.aload 4, 2) := dk_25 4 (dk_at dksX1_isToBeAdded_1 14 rfl rfl)
theorem dX1_isToBeAdded_38 : decode cX1_isToBeAdded 38 = .ok (.instanceof 219, 3) := dk_193 0 219 (dk_at dksX1_isToBeAdded_1 16 rfl rfl)
theorem dX1_isToBeAdded_41 : decode cX1_isToBeAdded 41 = .ok (.ifCond .eq 22, 3) := dk_153 0 22 (dk_at dksX1_isToBeAdded_1 19 rfl rfl)
theorem dX1_isToBeAdded_44 : decode cX1_isToBeAdded 44 = .ok (.aload 4, 2) := dk_25 4 (dk_at dksX1_isToBeAdded_1 22 rfl rfl)
theorem dX1_isToBeAdded_46 : decode cX1_isToBeAdded 46 = .ok (.checkcast 219, 3) := dk_192 0 219 (dk_at dksX1_isToBeAdded_2 0 rfl rfl)
theorem dX1_isToBeAdded_49 : decode cX1_isToBeAdded 49 = .ok (.getfield 221, 3) := dk_180 0 221 (dk_at dksX1_isToBeAdded_2 3 rfl rfl)
theorem dX1_isToBeAdded_52 : decode cX1_isToBeAdded 52 = .ok (.getfield 225, 3) := dk_180 0 225 (dk_at dksX1_isToBeAdded_2 6 rfl rfl)
theorem dX1_isToBeAdded_55 : decode cX1_isToBeAdded 55 = .ok (.iload_n 1, 1) := dk_27 (dk_at dksX1_isToBeAdded_2 9 rfl rfl)
theorem dX1_isToBeAdded_56 : decode cX1_isToBeAdded 56 = .ok (.if_icmp .ne 7, 3) := dk_160 0 7 (dk_at dksX1_isToBeAdded_2 10 rfl rfl)
theorem dX1_isToBeAdded_59 : decode cX1_isToBeAdded 59 = .ok (.iconst 1, 1) := dk_4 (dk_at dksX1_isToBeAdded_2 13 rfl rfl)
theorem dX1_isToBeAdded_60 : decode cX1_isToBeAdded 60 = .ok (.goto 4, 3) := dk_167 0 4 (dk_at dksX1_isToBeAdded_2 14 rfl rfl)
theorem dX1_isToBeAdded_63 : decode cX1_isToBeAdded 63 = .ok (.iconst 0, 1) := dk_3 (dk_at dksX1_isToBeAdded_2 17 rfl rfl)
theorem dX1_isToBeAdded_64 : decode cX1_isToBeAdded 64 = .ok (.istore_n 2, 1) := dk_61 (dk_at dksX1_isToBeAdded_2 18 rfl rfl)
theorem dX1_isToBeAdded_65 : decode cX1_isToBeAdded 65 = .ok (.goto (-53), 3) := dk_167 255 203 (dk_at dksX1_isToBeAdded_2 19 rfl rfl)
theorem dX1_isToBeAdded_68 : decode cX1_isToBeAdded 68 = .ok (.iload_n 2, 1) := dk_28 (dk_at dksX1_isToBeAdded_2 22 rfl rfl)
theorem dX1_isToBeAdded_69 : decode cX1_isToBeAdded 69 = .ok (.ireturn, 1) := dk_172 (dk_at dksX1_isToBeAdded_2 23 rfl rfl)
abbrev cX1_proposes : ByteArray := prog_1_method_29_code
def yX1_proposes : MethodName := ⟨RX1, "proposes", "(LKeygrove$Proposal;)I"⟩
def dkwX1_proposes_0 : List UInt8 := [42, 180, 0, 44, 43, 185, 0, 116, 2, 0, 87, 42, 180, 0, 44, 185, 0, 63, 1, 0, 172]
abbrev dktX1_proposes_0 : List UInt8 := dkwX1_proposes_0 ++ []
theorem dksX1_proposes_0 : cX1_proposes.data.toList.drop 0 = dktX1_proposes_0 := by decide +kernel
theorem dX1_proposes_0 : decode cX1_proposes 0 = .ok (.aload_n 0, 1) := dk_42 (dk_at dksX1_proposes_0 0 rfl rfl)
theorem dX1_proposes_1 : decode cX1_proposes 1 = .ok (.getfield 44, 3) := dk_180 0 44 (dk_at dksX1_proposes_0 1 rfl rfl)
theorem dX1_proposes_4 : decode cX1_proposes 4 = .ok (.aload_n 1, 1) := dk_43 (dk_at dksX1_proposes_0 4 rfl rfl)
theorem dX1_proposes_5 : decode cX1_proposes 5 = .ok (.invokeinterface 116 2, 5) := by decide +kernel
theorem dX1_proposes_10 : decode cX1_proposes 10 = .ok (.pop, 1) := dk_87 (dk_at dksX1_proposes_0 10 rfl rfl)
theorem dX1_proposes_11 : decode cX1_proposes 11 = .ok (.aload_n 0, 1) := dk_42 (dk_at dksX1_proposes_0 11 rfl rfl)
theorem dX1_proposes_12 : decode cX1_proposes 12 = .ok (.getfield 44, 3) := dk_180 0 44 (dk_at dksX1_proposes_0 12 rfl rfl)
theorem dX1_proposes_15 : decode cX1_proposes 15 = .ok (.invokeinterface 63 1, 5) := by decide +kernel
theorem dX1_proposes_20 : decode cX1_proposes 20 = .ok (.ireturn, 1) := dk_172 (dk_at dksX1_proposes_0 20 rfl rfl)
abbrev cX1_remove : ByteArray := prog_1_method_31_code
def yX1_remove : MethodName := ⟨RX1, "remove", "(II)I"⟩
def dkwX1_remove_4 : List UInt8 := [167, 0, 4, 3, 184, 0, 120, 42, 187, 0, 228, 89, 28, 183, 0, 253, 182, 0, 246, 172]
abbrev dktX1_remove_4 : List UInt8 := dkwX1_remove_4 ++ []
def dkwX1_remove_3 : List UInt8 := [4, 167, 0, 4, 3, 184, 0, 182, 42, 180, 0, 44, 185, 0, 63, 1, 0, 16, 8, 162, 0, 7, 4]
abbrev dktX1_remove_3 : List UInt8 := dkwX1_remove_3 ++ dktX1_remove_4
def dkwX1_remove_2 : List UInt8 := [153, 0, 28, 42, 182, 0, 99, 180, 0, 147, 28, 46, 2, 159, 0, 15, 42, 28, 182, 0, 250, 154, 0, 7]
abbrev dktX1_remove_2 : List UInt8 := dkwX1_remove_2 ++ dktX1_remove_3
def dkwX1_remove_1 : List UInt8 := [180, 0, 176, 4, 100, 184, 0, 69, 153, 0, 7, 4, 167, 0, 4, 3, 184, 0, 73, 42, 45, 182, 0, 231]
abbrev dktX1_remove_1 : List UInt8 := dkwX1_remove_1 ++ dktX1_remove_2
def dkwX1_remove_0 : List UInt8 := [42, 27, 182, 0, 126, 78, 42, 180, 0, 47, 185, 0, 96, 1, 0, 154, 0, 24, 28, 3, 42, 182, 0, 99]
abbrev dktX1_remove_0 : List UInt8 := dkwX1_remove_0 ++ dktX1_remove_1
theorem dksX1_remove_0 : cX1_remove.data.toList.drop 0 = dktX1_remove_0 := by decide +kernel
theorem dksX1_remove_1 : cX1_remove.data.toList.drop 24 = dktX1_remove_1 := dk_seg dksX1_remove_0 24 rfl rfl
theorem dksX1_remove_2 : cX1_remove.data.toList.drop 48 = dktX1_remove_2 := dk_seg dksX1_remove_1 24 rfl rfl
theorem dksX1_remove_3 : cX1_remove.data.toList.drop 72 = dktX1_remove_3 := dk_seg dksX1_remove_2 24 rfl rfl
theorem dksX1_remove_4 : cX1_remove.data.toList.drop 95 = dktX1_remove_4 := dk_seg dksX1_remove_3 23 rfl rfl
theorem dX1_remove_0 : decode cX1_remove 0 = .ok (.aload_n 0, 1) := dk_42 (dk_at dksX1_remove_0 0 rfl rfl)
theorem dX1_remove_1 : decode cX1_remove 1 = .ok (.iload_n 1, 1) := dk_27 (dk_at dksX1_remove_0 1 rfl rfl)
theorem dX1_remove_2 : decode cX1_remove 2 = .ok (.invokevirtual 126, 3) := dk_182 0 126 (dk_at dksX1_remove_0 2 rfl rfl)
theorem dX1_remove_5 : decode cX1_remove 5 = .ok (.astore_n 3, 1) := dk_78 (dk_at dksX1_remove_0 5 rfl rfl)
theorem dX1_remove_6 : decode cX1_remove 6 = .ok (.aload_n 0, 1) := dk_42 (dk_at dksX1_remove_0 6 rfl rfl)
theorem dX1_remove_7 : decode cX1_remove 7 = .ok (.getfield 47, 3) := dk_180 0 47 (dk_at dksX1_remove_0 7 rfl rfl)
theorem dX1_remove_10 : decode cX1_remove 10 = .ok (.invokeinterface 96 1, 5) := by decide +kernel
theorem dX1_remove_15 : decode cX1_remove 15 = .ok (.ifCond .ne 24, 3) := dk_154 0 24 (dk_at dksX1_remove_0 15 rfl rfl)
theorem dX1_remove_18 : decode cX1_remove 18 = .ok (.iload_n 2, 1) := dk_28 (dk_at dksX1_remove_0 18 rfl rfl)
theorem dX1_remove_19 : decode cX1_remove 19 = .ok (.iconst 0, 1) := dk_3 (dk_at dksX1_remove_0 19 rfl rfl)
theorem dX1_remove_20 : decode cX1_remove 20 = .ok (.aload_n 0, 1) := dk_42 (dk_at dksX1_remove_0 20 rfl rfl)
theorem dX1_remove_21 : decode cX1_remove 21 = .ok (.invokevirtual 99, 3) := dk_182 0 99 (dk_at dksX1_remove_0 21 rfl rfl)
theorem dX1_remove_24 : decode cX1_remove 24 = .ok (.getfield 176, 3) := dk_180 0 176 (dk_at dksX1_remove_1 0 rfl rfl)
theorem dX1_remove_27 : decode cX1_remove 27 = .ok (.iconst 1, 1) := dk_4 (dk_at dksX1_remove_1 3 rfl rfl)
theorem dX1_remove_28 : decode cX1_remove 28 = .ok (.isub, 1) := dk_100 (dk_at dksX1_remove_1 4 rfl rfl)
theorem dX1_remove_29 : decode cX1_remove 29 = .ok (.invokestatic 69, 3) := dk_184 0 69 (dk_at dksX1_remove_1 5 rfl rfl)
theorem dX1_remove_32 : decode cX1_remove 32 = .ok (.ifCond .eq 7, 3) := dk_153 0 7 (dk_at dksX1_remove_1 8 rfl rfl)
theorem dX1_remove_35 : decode cX1_remove 35 = .ok (.iconst 1, 1) := dk_4 (dk_at dksX1_remove_1 11 rfl rfl)
theorem dX1_remove_36 : decode cX1_remove 36 = .ok (.goto 4, 3) := dk_167 0 4 (dk_at dksX1_remove_1 12 rfl rfl)
theorem dX1_remove_39 : decode cX1_remove 39 = .ok (.iconst 0, 1) := dk_3 (dk_at dksX1_remove_1 15 rfl rfl)
theorem dX1_remove_40 : decode cX1_remove 40 = .ok (.invokestatic 73, 3) := dk_184 0 73 (dk_at dksX1_remove_1 16 rfl rfl)
theorem dX1_remove_43 : decode cX1_remove 43 = .ok (.aload_n 0, 1) := dk_42 (dk_at dksX1_remove_1 19 rfl rfl)
theorem dX1_remove_44 : decode cX1_remove 44 = .ok (.aload_n 3, 1) := dk_45 (dk_at dksX1_remove_1 20 rfl rfl)
theorem dX1_remove_45 : decode cX1_remove 45 = .ok (.invokevirtual 231, 3) := dk_182 0 231 (dk_at dksX1_remove_1 21 rfl rfl)
theorem dX1_remove_48 : decode cX1_remove 48 = .ok (.ifCond .eq 28, 3) := dk_153 0 28 (dk_at dksX1_remove_2 0 rfl rfl)
theorem dX1_remove_51 : decode cX1_remove 51 = .ok (.aload_n 0, 1) := dk_42 (dk_at dksX1_remove_2 3 rfl rfl)
theorem dX1_remove_52 : decode cX1_remove 52 = .ok (.invokevirtual 99, 3) := dk_182 0 99 (dk_at dksX1_remove_2 4 rfl rfl)
theorem dX1_remove_55 : decode cX1_remove 55 = .ok (.getfield 147, 3) := dk_180 0 147 (dk_at dksX1_remove_2 7 rfl rfl)
theorem dX1_remove_58 : decode cX1_remove 58 = .ok (.iload_n 2, 1) := dk_28 (dk_at dksX1_remove_2 10 rfl rfl)
theorem dX1_remove_59 : decode cX1_remove 59 = .ok (.iaload, 1) := dk_46 (dk_at dksX1_remove_2 11 rfl rfl)
theorem dX1_remove_60 : decode cX1_remove 60 = .ok (.iconst (-1), 1) := dk_2 (dk_at dksX1_remove_2 12 rfl rfl)
theorem dX1_remove_61 : decode cX1_remove 61 = .ok (.if_icmp .eq 15, 3) := dk_159 0 15 (dk_at dksX1_remove_2 13 rfl rfl)
theorem dX1_remove_64 : decode cX1_remove 64 = .ok (.aload_n 0, 1) := dk_42 (dk_at dksX1_remove_2 16 rfl rfl)
theorem dX1_remove_65 : decode cX1_remove 65 = .ok (.iload_n 2, 1) := dk_28 (dk_at dksX1_remove_2 17 rfl rfl)
theorem dX1_remove_66 : decode cX1_remove 66 = .ok (.invokevirtual 250, 3) := dk_182 0 250 (dk_at dksX1_remove_2 18 rfl rfl)
theorem dX1_remove_69 : decode cX1_remove 69 = .ok (.ifCond .ne 7, 3) := dk_154 0 7 (dk_at dksX1_remove_2 21 rfl rfl)
theorem dX1_remove_72 : decode cX1_remove 72 = .ok (.iconst 1, 1) := dk_4 (dk_at dksX1_remove_3 0 rfl rfl)
theorem dX1_remove_73 : decode cX1_remove 73 = .ok (.goto 4, 3) := dk_167 0 4 (dk_at dksX1_remove_3 1 rfl rfl)
theorem dX1_remove_76 : decode cX1_remove 76 = .ok (.iconst 0, 1) := dk_3 (dk_at dksX1_remove_3 4 rfl rfl)
theorem dX1_remove_77 : decode cX1_remove 77 = .ok (.invokestatic 182, 3) := dk_184 0 182 (dk_at dksX1_remove_3 5 rfl rfl)
theorem dX1_remove_80 : decode cX1_remove 80 = .ok (.aload_n 0, 1) := dk_42 (dk_at dksX1_remove_3 8 rfl rfl)
theorem dX1_remove_81 : decode cX1_remove 81 = .ok (.getfield 44, 3) := dk_180 0 44 (dk_at dksX1_remove_3 9 rfl rfl)
theorem dX1_remove_84 : decode cX1_remove 84 = .ok (.invokeinterface 63 1, 5) := by decide +kernel
theorem dX1_remove_89 : decode cX1_remove 89 = .ok (.bipush 8, 2) := dk_16 8 (dk_at dksX1_remove_3 17 rfl rfl)
theorem dX1_remove_91 : decode cX1_remove 91 = .ok (.if_icmp .ge 7, 3) := dk_162 0 7 (dk_at dksX1_remove_3 19 rfl rfl)
theorem dX1_remove_94 : decode cX1_remove 94 = .ok (.iconst 1, 1) := dk_4 (dk_at dksX1_remove_3 22 rfl rfl)
theorem dX1_remove_95 : decode cX1_remove 95 = .ok (.goto 4, 3) := dk_167 0 4 (dk_at dksX1_remove_4 0 rfl rfl)
theorem dX1_remove_98 : decode cX1_remove 98 = .ok (.iconst 0, 1) := dk_3 (dk_at dksX1_remove_4 3 rfl rfl)
theorem dX1_remove_99 : decode cX1_remove 99 = .ok (.invokestatic 120, 3) := dk_184 0 120 (dk_at dksX1_remove_4 4 rfl rfl)
theorem dX1_remove_102 : decode cX1_remove 102 = .ok (.aload_n 0, 1) := dk_42 (dk_at dksX1_remove_4 7 rfl rfl)
theorem dX1_remove_103 : decode cX1_remove 103 = .ok (.new 228, 3) := dk_187 0 228 (dk_at dksX1_remove_4 8 rfl rfl)
theorem dX1_remove_106 : decode cX1_remove 106 = .ok (.dup, 1) := dk_89 (dk_at dksX1_remove_4 11 rfl rfl)
theorem dX1_remove_107 : decode cX1_remove 107 = .ok (.iload_n 2, 1) := dk_28 (dk_at dksX1_remove_4 12 rfl rfl)
theorem dX1_remove_108 : decode cX1_remove 108 = .ok (.invokespecial 253, 3) := dk_183 0 253 (dk_at dksX1_remove_4 13 rfl rfl)
theorem dX1_remove_111 : decode cX1_remove 111 = .ok (.invokevirtual 246, 3) := dk_182 0 246 (dk_at dksX1_remove_4 16 rfl rfl)
theorem dX1_remove_114 : decode cX1_remove 114 = .ok (.ireturn, 1) := dk_172 (dk_at dksX1_remove_4 19 rfl rfl)
abbrev cX1_isToBeRemoved : ByteArray := prog_1_method_28_code
def yX1_isToBeRemoved : MethodName := ⟨RX1, "isToBeRemoved", "(I)Z"⟩
def dkwX1_isToBeRemoved_2 : List UInt8 := [192, 0, 228, 180, 0, 230, 27, 160, 0, 7, 4, 167, 0, 4, 3, 61, 167, 255, 206, 28, 172]
abbrev dktX1_isToBeRemoved_2 : List UInt8 := dkwX1_isToBeRemoved_2 ++ []
def dkwX1_isToBeRemoved_1 : List UInt8 := [185, 0, 213, 1, 0, 192, 0, 217, 58, 4, 28, 154, 0, 23, 25, 4, 193, 0, 228, 153, 0, 19, 25, 4]
abbrev dktX1_isToBeRemoved_1 : List UInt8 := dkwX1_isToBeRemoved_1 ++ dktX1_isToBeRemoved_2
def dkwX1_isToBeRemoved_0 : List UInt8 := [3, 61, 42, 180, 0, 44, 185, 0, 204, 1, 0, 78, 45, 185, 0, 208, 1, 0, 153, 0, 47, 45]
abbrev dktX1_isToBeRemoved_0 : List UInt8 := dkwX1_isToBeRemoved_0 ++ dktX1_isToBeRemoved_1
theorem dksX1_isToBeRemoved_0 : cX1_isToBeRemoved.data.toList.drop 0 = dktX1_isToBeRemoved_0 := by decide +kernel
theorem dksX1_isToBeRemoved_1 : cX1_isToBeRemoved.data.toList.drop 22 = dktX1_isToBeRemoved_1 := dk_seg dksX1_isToBeRemoved_0 22 rfl rfl
theorem dksX1_isToBeRemoved_2 : cX1_isToBeRemoved.data.toList.drop 46 = dktX1_isToBeRemoved_2 := dk_seg dksX1_isToBeRemoved_1 24 rfl rfl
theorem dX1_isToBeRemoved_0 : decode cX1_isToBeRemoved 0 = .ok (.iconst 0, 1) := dk_3 (dk_at dksX1_isToBeRemoved_0 0 rfl rfl)
theorem dX1_isToBeRemoved_1 : decode cX1_isToBeRemoved 1 = .ok (.istore_n 2, 1) := dk_61 (dk_at dksX1_isToBeRemoved_0 1 rfl rfl)
theorem dX1_isToBeRemoved_2 : decode cX1_isToBeRemoved 2 = .ok (.aload_n 0, 1) := dk_42 (dk_at dksX1_isToBeRemoved_0 2 rfl rfl)
theorem dX1_isToBeRemoved_3 : decode cX1_isToBeRemoved 3 = .ok (.getfield 44, 3) := dk_180 0 44 (dk_at dksX1_isToBeRemoved_0 3 rfl rfl)
theorem dX1_isToBeRemoved_6 : decode cX1_isToBeRemoved 6 = .ok (.invokeinterface 204 1, 5) := by decide +kernel
theorem dX1_isToBeRemoved_11 : decode cX1_isToBeRemoved 11 = .ok (.astore_n 3, 1) := dk_78 (dk_at dksX1_isToBeRemoved_0 11 rfl rfl)
theorem dX1_isToBeRemoved_12 : decode cX1_isToBeRemoved 12 = .ok (.aload_n 3, 1) := dk_45 (dk_at dksX1_isToBeRemoved_0 12 rfl rfl)
theorem dX1_isToBeRemoved_13 : decode cX1_isToBeRemoved 13 = .ok (.invokeinterface 208 1, 5) := by decide +kernel
theorem dX1_isToBeRemoved_18 : decode cX1_isToBeRemoved 18 = .ok (.ifCond .eq 47, 3) := dk_153 0 47 (dk_at dksX1_isToBeRemoved_0 18 rfl rfl)
theorem dX1_isToBeRemoved_21 : decode cX1_isToBeRemoved 21 = .ok (.aload_n 3, 1) := dk_45 (dk_at dksX1_isToBeRemoved_0 21 rfl rfl)
theorem dX1_isToBeRemoved_22 : decode cX1_isToBeRemoved 22 = .ok (.invokeinterface 213 1, 5) := by decide +kernel
theorem dX1_isToBeRemoved_27 : decode cX1_isToBeRemoved 27 = .ok (.checkcast 217, 3) := dk_192 0 217 (dk_at dksX1_isToBeRemoved_1 5 rfl rfl)
theorem dX1_isToBeRemoved_30 : decode cX1_isToBeRemoved 30 = .ok (.astore 4, 2) := dk_58 4 (dk_at dksX1_isToBeRemoved_1 8 rfl rfl)
theorem dX1_isToBeRemoved_32 : decode cX1_isToBeRemoved 32 = .ok (.iload_n 2, 1) := dk_28 (dk_at dksX1_isToBeRemoved_1 10 rfl rfl)
theorem dX1_isToBeRemoved_33 : decode cX1_isToBeRemoved 33 = .ok (.ifCond .ne 23, 3) := dk_154 0 23 (dk_at dksX1_isToBeRemoved_1 11 rfl rfl)
theorem dX1_isToBeRemoved_36 : decode cX1_isToBeRemoved 36 = .ok (.aload 4, 2) := dk_25 4 (dk_at dksX1_isToBeRemoved_1 14 rfl rfl)
theorem dX1_isToBeRemoved_38 : decode cX1_isToBeRemoved 38 = .ok (.instanceof 228, 3) := dk_193 0 228 (dk_at dksX1_isToBeRemoved_1 16 rfl rfl)
theorem dX1_isToBeRemoved_41 : decode cX1_isToBeRemoved 41 = .ok (.ifCond .eq 19, 3) := dk_153 0 19 (dk_at dksX1_isToBeRemoved_1 19 rfl rfl)
theorem dX1_isToBeRemoved_44 : decode cX1_isToBeRemoved 44 = .ok (.aload 4, 2) := dk_25 4 (dk_at dksX1_isToBeRemoved_1 22 rfl rfl)
theorem dX1_isToBeRemoved_46 : decode cX1_isToBeRemoved 46 = .ok (.checkcast 228, 3) := dk_192 0 228 (dk_at dksX1_isToBeRemoved_2 0 rfl rfl)
theorem dX1_isToBeRemoved_49 : decode cX1_isToBeRemoved 49 = .ok (.getfield 230, 3) := dk_180 0 230 (dk_at dksX1_isToBeRemoved_2 3 rfl rfl)
theorem dX1_isToBeRemoved_52 : decode cX1_isToBeRemoved 52 = .ok (.iload_n 1, 1) := dk_27 (dk_at dksX1_isToBeRemoved_2 6 rfl rfl)
theorem dX1_isToBeRemoved_53 : decode cX1_isToBeRemoved 53 = .ok (.if_icmp .ne 7, 3) := dk_160 0 7 (dk_at dksX1_isToBeRemoved_2 7 rfl rfl)
theorem dX1_isToBeRemoved_56 : decode cX1_isToBeRemoved 56 = .ok (.iconst 1, 1) := dk_4 (dk_at dksX1_isToBeRemoved_2 10 rfl rfl)
theorem dX1_isToBeRemoved_57 : decode cX1_isToBeRemoved 57 = .ok (.goto 4, 3) := dk_167 0 4 (dk_at dksX1_isToBeRemoved_2 11 rfl rfl)
theorem dX1_isToBeRemoved_60 : decode cX1_isToBeRemoved 60 = .ok (.iconst 0, 1) := dk_3 (dk_at dksX1_isToBeRemoved_2 14 rfl rfl)
theorem dX1_isToBeRemoved_61 : decode cX1_isToBeRemoved 61 = .ok (.istore_n 2, 1) := dk_61 (dk_at dksX1_isToBeRemoved_2 15 rfl rfl)
theorem dX1_isToBeRemoved_62 : decode cX1_isToBeRemoved 62 = .ok (.goto (-50), 3) := dk_167 255 206 (dk_at dksX1_isToBeRemoved_2 16 rfl rfl)
theorem dX1_isToBeRemoved_65 : decode cX1_isToBeRemoved 65 = .ok (.iload_n 2, 1) := dk_28 (dk_at dksX1_isToBeRemoved_2 19 rfl rfl)
theorem dX1_isToBeRemoved_66 : decode cX1_isToBeRemoved 66 = .ok (.ireturn, 1) := dk_172 (dk_at dksX1_isToBeRemoved_2 20 rfl rfl)
abbrev cX1_renew : ByteArray := prog_1_method_32_code
def yX1_renew : MethodName := ⟨RX1, "renew", "(I)I"⟩
def dkwX1_renew_3 : List UInt8 := [187, 1, 2, 89, 44, 180, 0, 191, 44, 180, 0, 255, 183, 1, 4, 182, 0, 246, 172]
abbrev dktX1_renew_3 : List UInt8 := dkwX1_renew_3 ++ []
def dkwX1_renew_2 : List UInt8 := [167, 0, 4, 3, 184, 0, 120, 44, 42, 180, 0, 28, 182, 0, 130, 181, 0, 255, 44, 182, 0, 139, 42]
abbrev dktX1_renew_2 : List UInt8 := dkwX1_renew_2 ++ dktX1_renew_3
def dkwX1_renew_1 : List UInt8 := [167, 0, 4, 3, 184, 0, 182, 42, 180, 0, 44, 185, 0, 63, 1, 0, 16, 8, 162, 0, 7, 4]
abbrev dktX1_renew_1 : List UInt8 := dkwX1_renew_1 ++ dktX1_renew_2
def dkwX1_renew_0 : List UInt8 := [42, 27, 182, 0, 126, 77, 42, 44, 182, 0, 231, 153, 0, 15, 44, 180, 0, 255, 2, 160, 0, 7, 4]
abbrev dktX1_renew_0 : List UInt8 := dkwX1_renew_0 ++ dktX1_renew_1
theorem dksX1_renew_0 : cX1_renew.data.toList.drop 0 = dktX1_renew_0 := by decide +kernel
theorem dksX1_renew_1 : cX1_renew.data.toList.drop 23 = dktX1_renew_1 := dk_seg dksX1_renew_0 23 rfl rfl
theorem dksX1_renew_2 : cX1_renew.data.toList.drop 45 = dktX1_renew_2 := dk_seg dksX1_renew_1 22 rfl rfl
theorem dksX1_renew_3 : cX1_renew.data.toList.drop 68 = dktX1_renew_3 := dk_seg dksX1_renew_2 23 rfl rfl
theorem dX1_renew_0 : decode cX1_renew 0 = .ok (.aload_n 0, 1) := dk_42 (dk_at dksX1_renew_0 0 rfl rfl)
theorem dX1_renew_1 : decode cX1_renew 1 = .ok (.iload_n 1, 1) := dk_27 (dk_at dksX1_renew_0 1 rfl rfl)
theorem dX1_renew_2 : decode cX1_renew 2 = .ok (.invokevirtual 126, 3) := dk_182 0 126 (dk_at dksX1_renew_0 2 rfl rfl)
theorem dX1_renew_5 : decode cX1_renew 5 = .ok (.astore_n 2, 1) := dk_77 (dk_at dksX1_renew_0 5 rfl rfl)
theorem dX1_renew_6 : decode cX1_renew 6 = .ok (.aload_n 0, 1) := dk_42 (dk_at dksX1_renew_0 6 rfl rfl)
theorem dX1_renew_7 : decode cX1_renew 7 = .ok (.aload_n 2, 1) := dk_44 (dk_at dksX1_renew_0 7 rfl rfl)
theorem dX1_renew_8 : decode cX1_renew 8 = .ok (.invokevirtual 231, 3) := dk_182 0 231 (dk_at dksX1_renew_0 8 rfl rfl)
theorem dX1_renew_11 : decode cX1_renew 11 = .ok (.ifCond .eq 15, 3) := dk_153 0 15 (dk_at dksX1_renew_0 11 rfl rfl)
theorem dX1_renew_14 : decode cX1_renew 14 = .ok (.aload_n 2, 1) := dk_44 (dk_at dksX1_renew_0 14 rfl rfl)
theorem dX1_renew_15 : decode cX1_renew 15 = .ok (.getfield 255, 3) := dk_180 0 255 (dk_at dksX1_renew_0 15 rfl rfl)
theorem dX1_renew_18 : decode cX1_renew 18 = .ok (.iconst (-1), 1) := dk_2 (dk_at dksX1_renew_0 18 rfl rfl)
theorem dX1_renew_19 : decode cX1_renew 19 = .ok (.if_icmp .ne 7, 3) := dk_160 0 7 (dk_at dksX1_renew_0 19 rfl rfl)
theorem dX1_renew_22 : decode cX1_renew 22 = .ok (.iconst 1, 1) := dk_4 (dk_at dksX1_renew_0 22 rfl rfl)
theorem dX1_renew_23 : decode cX1_renew 23 = .ok (.goto 4, 3) := dk_167 0 4 (dk_at dksX1_renew_1 0 rfl rfl)
theorem dX1_renew_26 : decode cX1_renew 26 = .ok (.iconst 0, 1) := dk_3 (dk_at dksX1_renew_1 3 rfl rfl)
theorem dX1_renew_27 : decode cX1_renew 27 = .ok (.invokestatic 182, 3) := dk_184 0 182 (dk_at dksX1_renew_1 4 rfl rfl)
theorem dX1_renew_30 : decode cX1_renew 30 = .ok (.aload_n 0, 1) := dk_42 (dk_at dksX1_renew_1 7 rfl rfl)
theorem dX1_renew_31 : decode cX1_renew 31 = .ok (.getfield 44, 3) := dk_180 0 44 (dk_at dksX1_renew_1 8 rfl rfl)
theorem dX1_renew_34 : decode cX1_renew 34 = .ok (.invokeinterface 63 1, 5) := by decide +kernel
theorem dX1_renew_39 : decode cX1_renew 39 = .ok (.bipush 8, 2) := dk_16 8 (dk_at dksX1_renew_1 16 rfl rfl)
theorem dX1_renew_41 : decode cX1_renew 41 = .ok (.if_icmp .ge 7, 3) := dk_162 0 7 (dk_at dksX1_renew_1 18 rfl rfl)
theorem dX1_renew_44 : decode cX1_renew 44 = .ok (.iconst 1, 1) := dk_4 (dk_at dksX1_renew_1 21 rfl rfl)
theorem dX1_renew_45 : decode cX1_renew 45 = .ok (.goto 4, 3) := dk_167 0 4 (dk_at dksX1_renew_2 0 rfl rfl)
theorem dX1_renew_48 : decode cX1_renew 48 = .ok (.iconst 0, 1) := dk_3 (dk_at dksX1_renew_2 3 rfl rfl)
theorem dX1_renew_49 : decode cX1_renew 49 = .ok (.invokestatic 120, 3) := dk_184 0 120 (dk_at dksX1_renew_2 4 rfl rfl)
theorem dX1_renew_52 : decode cX1_renew 52 = .ok (.aload_n 2, 1) := dk_44 (dk_at dksX1_renew_2 7 rfl rfl)
theorem dX1_renew_53 : decode cX1_renew 53 = .ok (.aload_n 0, 1) := dk_42 (dk_at dksX1_renew_2 8 rfl rfl)
theorem dX1_renew_54 : decode cX1_renew 54 = .ok (.getfield 28, 3) := dk_180 0 28 (dk_at dksX1_renew_2 9 rfl rfl)
theorem dX1_renew_57 : decode cX1_renew 57 = .ok (.invokevirtual 130, 3) := dk_182 0 130 (dk_at dksX1_renew_2 12 rfl rfl)
theorem dX1_renew_60 : decode cX1_renew 60 = .ok (.putfield 255, 3) := dk_181 0 255 (dk_at dksX1_renew_2 15 rfl rfl)
theorem dX1_renew_63 : decode cX1_renew 63 = .ok (.aload_n 2, 1) := dk_44 (dk_at dksX1_renew_2 18 rfl rfl)
theorem dX1_renew_64 : decode cX1_renew 64 = .ok (.invokevirtual 139, 3) := dk_182 0 139 (dk_at dksX1_renew_2 19 rfl rfl)
theorem dX1_renew_67 : decode cX1_renew 67 = .ok (.aload_n 0, 1) := dk_42 (dk_at dksX1_renew_2 22 rfl rfl)
theorem dX1_renew_68 : decode cX1_renew 68 = .ok (.new 258, 3) := dk_187 1 2 (dk_at dksX1_renew_3 0 rfl rfl)
theorem dX1_renew_71 : decode cX1_renew 71 = .ok (.dup, 1) := dk_89 (dk_at dksX1_renew_3 3 rfl rfl)
theorem dX1_renew_72 : decode cX1_renew 72 = .ok (.aload_n 2, 1) := dk_44 (dk_at dksX1_renew_3 4 rfl rfl)
theorem dX1_renew_73 : decode cX1_renew 73 = .ok (.getfield 191, 3) := dk_180 0 191 (dk_at dksX1_renew_3 5 rfl rfl)
theorem dX1_renew_76 : decode cX1_renew 76 = .ok (.aload_n 2, 1) := dk_44 (dk_at dksX1_renew_3 8 rfl rfl)
theorem dX1_renew_77 : decode cX1_renew 77 = .ok (.getfield 255, 3) := dk_180 0 255 (dk_at dksX1_renew_3 9 rfl rfl)
theorem dX1_renew_80 : decode cX1_renew 80 = .ok (.invokespecial 260, 3) := dk_183 1 4 (dk_at dksX1_renew_3 12 rfl rfl)
theorem dX1_renew_83 : decode cX1_renew 83 = .ok (.invokevirtual 246, 3) := dk_182 0 246 (dk_at dksX1_renew_3 15 rfl rfl)
theorem dX1_renew_86 : decode cX1_renew 86 = .ok (.ireturn, 1) := dk_172 (dk_at dksX1_renew_3 18 rfl rfl)
abbrev cX1_proposal : ByteArray := prog_1_method_34_code
def yX1_proposal : MethodName := ⟨RX1, "proposal", "(I)C"⟩
def dkwX1_proposal_1 : List UInt8 := [185, 0, 77, 2, 0, 192, 0, 217, 182, 1, 6, 172]
abbrev dktX1_proposal_1 : List UInt8 := dkwX1_proposal_1 ++ []
def dkwX1_proposal_0 : List UInt8 := [27, 3, 42, 180, 0, 44, 185, 0, 63, 1, 0, 4, 100, 184, 0, 69, 184, 0, 188, 42, 180, 0, 44, 27]
abbrev dktX1_proposal_0 : List UInt8 := dkwX1_proposal_0 ++ dktX1_proposal_1
theorem dksX1_proposal_0 : cX1_proposal.data.toList.drop 0 = dktX1_proposal_0 := by decide +kernel
theorem dksX1_proposal_1 : cX1_proposal.data.toList.drop 24 = dktX1_proposal_1 := dk_seg dksX1_proposal_0 24 rfl rfl
theorem dX1_proposal_0 : decode cX1_proposal 0 = .ok (.iload_n 1, 1) := dk_27 (dk_at dksX1_proposal_0 0 rfl rfl)
theorem dX1_proposal_1 : decode cX1_proposal 1 = .ok (.iconst 0, 1) := dk_3 (dk_at dksX1_proposal_0 1 rfl rfl)
theorem dX1_proposal_2 : decode cX1_proposal 2 = .ok (.aload_n 0, 1) := dk_42 (dk_at dksX1_proposal_0 2 rfl rfl)
theorem dX1_proposal_3 : decode cX1_proposal 3 = .ok (.getfield 44, 3) := dk_180 0 44 (dk_at dksX1_proposal_0 3 rfl rfl)
theorem dX1_proposal_6 : decode cX1_proposal 6 = .ok (.invokeinterface 63 1, 5) := by decide +kernel
theorem dX1_proposal_11 : decode cX1_proposal 11 = .ok (.iconst 1, 1) := dk_4 (dk_at dksX1_proposal_0 11 rfl rfl)
theorem dX1_proposal_12 : decode cX1_proposal 12 = .ok (.isub, 1) := dk_100 (dk_at dksX1_proposal_0 12 rfl rfl)
theorem dX1_proposal_13 : decode cX1_proposal 13 = .ok (.invokestatic 69, 3) := dk_184 0 69 (dk_at dksX1_proposal_0 13 rfl rfl)
theorem dX1_proposal_16 : decode cX1_proposal 16 = .ok (.invokestatic 188, 3) := dk_184 0 188 (dk_at dksX1_proposal_0 16 rfl rfl)
theorem dX1_proposal_19 : decode cX1_proposal 19 = .ok (.aload_n 0, 1) := dk_42 (dk_at dksX1_proposal_0 19 rfl rfl)
theorem dX1_proposal_20 : decode cX1_proposal 20 = .ok (.getfield 44, 3) := dk_180 0 44 (dk_at dksX1_proposal_0 20 rfl rfl)
theorem dX1_proposal_23 : decode cX1_proposal 23 = .ok (.iload_n 1, 1) := dk_27 (dk_at dksX1_proposal_0 23 rfl rfl)
theorem dX1_proposal_24 : decode cX1_proposal 24 = .ok (.invokeinterface 77 2, 5) := by decide +kernel
theorem dX1_proposal_29 : decode cX1_proposal 29 = .ok (.checkcast 217, 3) := dk_192 0 217 (dk_at dksX1_proposal_1 5 rfl rfl)
theorem dX1_proposal_32 : decode cX1_proposal 32 = .ok (.invokevirtual 262, 3) := dk_182 1 6 (dk_at dksX1_proposal_1 8 rfl rfl)
theorem dX1_proposal_35 : decode cX1_proposal 35 = .ok (.ireturn, 1) := dk_172 (dk_at dksX1_proposal_1 11 rfl rfl)
abbrev cX1_commit : ByteArray := prog_1_method_35_code
def yX1_commit : MethodName := ⟨RX1, "commit", "(I)I"⟩
def dkwX1_commit_7 : List UInt8 := [180, 0, 161, 182, 0, 168, 42, 182, 0, 83, 172]
abbrev dktX1_commit_7 : List UInt8 := dkwX1_commit_7 ++ []
def dkwX1_commit_6 : List UInt8 := [25, 6, 25, 4, 182, 1, 31, 42, 180, 0, 44, 185, 1, 35, 1, 0, 44, 42, 182, 0, 83, 25, 6]
abbrev dktX1_commit_6 : List UInt8 := dkwX1_commit_6 ++ dktX1_commit_7
def dkwX1_commit_5 : List UInt8 := [180, 0, 50, 25, 6, 185, 0, 116, 2, 0, 87, 42, 45, 25, 6, 180, 0, 161, 182, 0, 164, 42, 45]
abbrev dktX1_commit_5 : List UInt8 := dkwX1_commit_5 ++ dktX1_commit_6
def dkwX1_commit_4 : List UInt8 := [54, 5, 42, 44, 45, 21, 5, 182, 1, 27, 58, 6, 42, 180, 0, 47, 45, 185, 0, 116, 2, 0, 87, 42]
abbrev dktX1_commit_4 : List UInt8 := dkwX1_commit_4 ++ dktX1_commit_5
def dkwX1_commit_3 : List UInt8 := [182, 1, 16, 45, 182, 1, 20, 187, 0, 34, 89, 183, 0, 36, 58, 4, 42, 45, 25, 4, 182, 1, 23]
abbrev dktX1_commit_3 : List UInt8 := dkwX1_commit_3 ++ dktX1_commit_4
def dkwX1_commit_2 : List UInt8 := [3, 184, 0, 120, 42, 182, 0, 99, 182, 1, 10, 78, 42, 45, 44, 180, 0, 191, 182, 1, 13, 42, 45]
abbrev dktX1_commit_2 : List UInt8 := dkwX1_commit_2 ++ dktX1_commit_3
def dkwX1_commit_1 : List UInt8 := [154, 0, 7, 4, 167, 0, 4, 3, 184, 0, 182, 42, 182, 0, 83, 16, 23, 162, 0, 7, 4, 167, 0, 4]
abbrev dktX1_commit_1 : List UInt8 := dkwX1_commit_1 ++ dktX1_commit_2
def dkwX1_commit_0 : List UInt8 := [42, 27, 182, 0, 126, 77, 42, 44, 182, 0, 231, 153, 0, 18, 42, 44, 180, 0, 191, 182, 0, 250]
abbrev dktX1_commit_0 : List UInt8 := dkwX1_commit_0 ++ dktX1_commit_1
theorem dksX1_commit_0 : cX1_commit.data.toList.drop 0 = dktX1_commit_0 := by decide +kernel
theorem dksX1_commit_1 : cX1_commit.data.toList.drop 22 = dktX1_commit_1 := dk_seg dksX1_commit_0 22 rfl rfl
theorem dksX1_commit_2 : cX1_commit.data.toList.drop 46 = dktX1_commit_2 := dk_seg dksX1_commit_1 24 rfl rfl
theorem dksX1_commit_3 : cX1_commit.data.toList.drop 69 = dktX1_commit_3 := dk_seg dksX1_commit_2 23 rfl rfl
theorem dksX1_commit_4 : cX1_commit.data.toList.drop 92 = dktX1_commit_4 := dk_seg dksX1_commit_3 23 rfl rfl
theorem dksX1_commit_5 : cX1_commit.data.toList.drop 116 = dktX1_commit_5 := dk_seg dksX1_commit_4 24 rfl rfl
theorem dksX1_commit_6 : cX1_commit.data.toList.drop 139 = dktX1_commit_6 := dk_seg dksX1_commit_5 23 rfl rfl
theorem dksX1_commit_7 : cX1_commit.data.toList.drop 162 = dktX1_commit_7 := dk_seg dksX1_commit_6 23 rfl rfl
theorem dX1_commit_0 : decode cX1_commit 0 = .ok (.aload_n 0, 1) := dk_42 (dk_at dksX1_commit_0 0 rfl rfl)
theorem dX1_commit_1 : decode cX1_commit 1 = .ok (.iload_n 1, 1) := dk_27 (dk_at dksX1_commit_0 1 rfl rfl)
theorem dX1_commit_2 : decode cX1_commit 2 = .ok (.invokevirtual 126, 3) := dk_182 0 126 (dk_at dksX1_commit_0 2 rfl rfl)
theorem dX1_commit_5 : decode cX1_commit 5 = .ok (.astore_n 2, 1) := dk_77 (dk_at dksX1_commit_0 5 rfl rfl)
theorem dX1_commit_6 : decode cX1_commit 6 = .ok (.aload_n 0, 1) := dk_42 (dk_at dksX1_commit_0 6 rfl rfl)
theorem dX1_commit_7 : decode cX1_commit 7 = .ok (.aload_n 2, 1) := dk_44 (dk_at dksX1_commit_0 7 rfl rfl)
theorem dX1_commit_8 : decode cX1_commit 8 = .ok (.invokevirtual 231, 3) := dk_182 0 231 (dk_at dksX1_commit_0 8 rfl rfl)
theorem dX1_commit_11 : decode cX1_commit 11 = .ok (.ifCond .eq 18, 3) := dk_153 0 18 (dk_at dksX1_commit_0 11 rfl rfl)
theorem dX1_commit_14 : decode cX1_commit 14 = .ok (.aload_n 0, 1) := dk_42 (dk_at dksX1_commit_0 14 rfl rfl)
theorem dX1_commit_15 : decode cX1_commit 15 = .ok (.aload_n 2, 1) := dk_44 (dk_at dksX1_commit_0 15 rfl rfl)
theorem dX1_commit_16 : decode cX1_commit 16 = .ok (.getfield 191, 3) := dk_180 0 191 (dk_at dksX1_commit_0 16 rfl rfl)
theorem dX1_commit_19 : decode cX1_commit 19 = .ok (.invokevirtual 250, 3) := dk_182 0 250 (dk_at dksX1_commit_0 19 rfl rfl)
theorem dX1_commit_22 : decode cX1_commit 22 = .ok (.ifCond .ne 7, 3) := dk_154 0 7 (dk_at dksX1_commit_1 0 rfl rfl)
theorem dX1_commit_25 : decode cX1_commit 25 = .ok (.iconst 1, 1) := dk_4 (dk_at dksX1_commit_1 3 rfl rfl)
theorem dX1_commit_26 : decode cX1_commit 26 = .ok (.goto 4, 3) := dk_167 0 4 (dk_at dksX1_commit_1 4 rfl rfl)
theorem dX1_commit_29 : decode cX1_commit 29 = .ok (.iconst 0, 1) := dk_3 (dk_at dksX1_commit_1 7 rfl rfl)
theorem dX1_commit_30 : decode cX1_commit 30 = .ok (.invokestatic 182, 3) := dk_184 0 182 (dk_at dksX1_commit_1 8 rfl rfl)
theorem dX1_commit_33 : decode cX1_commit 33 = .ok (.aload_n 0, 1) := dk_42 (dk_at dksX1_commit_1 11 rfl rfl)
theorem dX1_commit_34 : decode cX1_commit 34 = .ok (.invokevirtual 83, 3) := dk_182 0 83 (dk_at dksX1_commit_1 12 rfl rfl)
theorem dX1_commit_37 : decode cX1_commit 37 = .ok (.bipush 23, 2) := dk_16 23 (dk_at dksX1_commit_1 15 rfl rfl)
theorem dX1_commit_39 : decode cX1_commit 39 = .ok (.if_icmp .ge 7, 3) := dk_162 0 7 (dk_at dksX1_commit_1 17 rfl rfl)
theorem dX1_commit_42 : decode cX1_commit 42 = .ok (.iconst 1, 1) := dk_4 (dk_at dksX1_commit_1 20 rfl rfl)
theorem dX1_commit_43 : decode cX1_commit 43 = .ok (.goto 4, 3) := dk_167 0 4 (dk_at dksX1_commit_1 21 rfl rfl)
theorem dX1_commit_46 : decode cX1_commit 46 = .ok (.iconst 0, 1) := dk_3 (dk_at dksX1_commit_2 0 rfl rfl)
theorem dX1_commit_47 : decode cX1_commit 47 = .ok (.invokestatic 120, 3) := dk_184 0 120 (dk_at dksX1_commit_2 1 rfl rfl)
theorem dX1_commit_50 : decode cX1_commit 50 = .ok (.aload_n 0, 1) := dk_42 (dk_at dksX1_commit_2 4 rfl rfl)
theorem dX1_commit_51 : decode cX1_commit 51 = .ok (.invokevirtual 99, 3) := dk_182 0 99 (dk_at dksX1_commit_2 5 rfl rfl)
theorem dX1_commit_54 : decode cX1_commit 54 = .ok (.invokevirtual 266, 3) := dk_182 1 10 (dk_at dksX1_commit_2 8 rfl rfl)
theorem dX1_commit_57 : decode cX1_commit 57 = .ok (.astore_n 3, 1) := dk_78 (dk_at dksX1_commit_2 11 rfl rfl)
theorem dX1_commit_58 : decode cX1_commit 58 = .ok (.aload_n 0, 1) := dk_42 (dk_at dksX1_commit_2 12 rfl rfl)
theorem dX1_commit_59 : decode cX1_commit 59 = .ok (.aload_n 3, 1) := dk_45 (dk_at dksX1_commit_2 13 rfl rfl)
theorem dX1_commit_60 : decode cX1_commit 60 = .ok (.aload_n 2, 1) := dk_44 (dk_at dksX1_commit_2 14 rfl rfl)
theorem dX1_commit_61 : decode cX1_commit 61 = .ok (.getfield 191, 3) := dk_180 0 191 (dk_at dksX1_commit_2 15 rfl rfl)
theorem dX1_commit_64 : decode cX1_commit 64 = .ok (.invokevirtual 269, 3) := dk_182 1 13 (dk_at dksX1_commit_2 18 rfl rfl)
theorem dX1_commit_67 : decode cX1_commit 67 = .ok (.aload_n 0, 1) := dk_42 (dk_at dksX1_commit_2 21 rfl rfl)
theorem dX1_commit_68 : decode cX1_commit 68 = .ok (.aload_n 3, 1) := dk_45 (dk_at dksX1_commit_2 22 rfl rfl)
theorem dX1_commit_69 : decode cX1_commit 69 = .ok (.invokevirtual 272, 3) := dk_182 1 16 (dk_at dksX1_commit_3 0 rfl rfl)
theorem dX1_commit_72 : decode cX1_commit 72 = .ok (.aload_n 3, 1) := dk_45 (dk_at dksX1_commit_3 3 rfl rfl)
theorem dX1_commit_73 : decode cX1_commit 73 = .ok (.invokevirtual 276, 3) := dk_182 1 20 (dk_at dksX1_commit_3 4 rfl rfl)
theorem dX1_commit_76 : decode cX1_commit 76 = .ok (.new 34, 3) := dk_187 0 34 (dk_at dksX1_commit_3 7 rfl rfl)
theorem dX1_commit_79 : decode cX1_commit 79 = .ok (.dup, 1) := dk_89 (dk_at dksX1_commit_3 10 rfl rfl)
theorem dX1_commit_80 : decode cX1_commit 80 = .ok (.invokespecial 36, 3) := dk_183 0 36 (dk_at dksX1_commit_3 11 rfl rfl)
theorem dX1_commit_83 : decode cX1_commit 83 = .ok (.astore 4, 2) := dk_58 4 (dk_at dksX1_commit_3 14 rfl rfl)
theorem dX1_commit_85 : decode cX1_commit 85 = .ok (.aload_n 0, 1) := dk_42 (dk_at dksX1_commit_3 16 rfl rfl)
theorem dX1_commit_86 : decode cX1_commit 86 = .ok (.aload_n 3, 1) := dk_45 (dk_at dksX1_commit_3 17 rfl rfl)
theorem dX1_commit_87 : decode cX1_commit 87 = .ok (.aload 4, 2) := dk_25 4 (dk_at dksX1_commit_3 18 rfl rfl)
theorem dX1_commit_89 : decode cX1_commit 89 = .ok (.invokevirtual 279, 3) := dk_182 1 23 (dk_at dksX1_commit_3 20 rfl rfl)
theorem dX1_commit_92 : decode cX1_commit 92 = .ok (.istore 5, 2) := dk_54 5 (dk_at dksX1_commit_4 0 rfl rfl)
theorem dX1_commit_94 : decode cX1_commit 94 = .ok (.aload_n 0, 1) := dk_42 (dk_at dksX1_commit_4 2 rfl rfl)
theorem dX1_commit_95 : decode cX1_commit 95 = .ok (.aload_n 2, 1) := dk_44 (dk_at dksX1_commit_4 3 rfl rfl)
theorem dX1_commit_96 : decode cX1_commit 96 = .ok (.aload_n 3, 1) := dk_45 (dk_at dksX1_commit_4 4 rfl rfl)
theorem dX1_commit_97 : decode cX1_commit 97 = .ok (.iload 5, 2) := dk_21 5 (dk_at dksX1_commit_4 5 rfl rfl)
theorem dX1_commit_99 : decode cX1_commit 99 = .ok (.invokevirtual 283, 3) := dk_182 1 27 (dk_at dksX1_commit_4 7 rfl rfl)
theorem dX1_commit_102 : decode cX1_commit 102 = .ok (.astore 6, 2) := dk_58 6 (dk_at dksX1_commit_4 10 rfl rfl)
theorem dX1_commit_104 : decode cX1_commit 104 = .ok (.aload_n 0, 1) := dk_42 (dk_at dksX1_commit_4 12 rfl rfl)
theorem dX1_commit_105 : decode cX1_commit 105 = .ok (.getfield 47, 3) := dk_180 0 47 (dk_at dksX1_commit_4 13 rfl rfl)
theorem dX1_commit_108 : decode cX1_commit 108 = .ok (.aload_n 3, 1) := dk_45 (dk_at dksX1_commit_4 16 rfl rfl)
theorem dX1_commit_109 : decode cX1_commit 109 = .ok (.invokeinterface 116 2, 5) := by decide +kernel
theorem dX1_commit_114 : decode cX1_commit 114 = .ok (.pop, 1) := dk_87 (dk_at dksX1_commit_4 22 rfl rfl)
theorem dX1_commit_115 : decode cX1_commit 115 = .ok (.aload_n 0, 1) := dk_42 (dk_at dksX1_commit_4 23 rfl rfl)
theorem dX1_commit_116 : decode cX1_commit 116 = .ok (.getfield 50, 3) := dk_180 0 50 (dk_at dksX1_commit_5 0 rfl rfl)
theorem dX1_commit_119 : decode cX1_commit 119 = .ok (.aload 6, 2) := dk_25 6 (dk_at dksX1_commit_5 3 rfl rfl)
theorem dX1_commit_121 : decode cX1_commit 121 = .ok (.invokeinterface 116 2, 5) := by decide +kernel
theorem dX1_commit_126 : decode cX1_commit 126 = .ok (.pop, 1) := dk_87 (dk_at dksX1_commit_5 10 rfl rfl)
theorem dX1_commit_127 : decode cX1_commit 127 = .ok (.aload_n 0, 1) := dk_42 (dk_at dksX1_commit_5 11 rfl rfl)
theorem dX1_commit_128 : decode cX1_commit 128 = .ok (.aload_n 3, 1) := dk_45 (dk_at dksX1_commit_5 12 rfl rfl)
theorem dX1_commit_129 : decode cX1_commit 129 = .ok (.aload 6, 2) := dk_25 6 (dk_at dksX1_commit_5 13 rfl rfl)
theorem dX1_commit_131 : decode cX1_commit 131 = .ok (.getfield 161, 3) := dk_180 0 161 (dk_at dksX1_commit_5 15 rfl rfl)
theorem dX1_commit_134 : decode cX1_commit 134 = .ok (.invokevirtual 164, 3) := dk_182 0 164 (dk_at dksX1_commit_5 18 rfl rfl)
theorem dX1_commit_137 : decode cX1_commit 137 = .ok (.aload_n 0, 1) := dk_42 (dk_at dksX1_commit_5 21 rfl rfl)
theorem dX1_commit_138 : decode cX1_commit 138 = .ok (.aload_n 3, 1) := dk_45 (dk_at dksX1_commit_5 22 rfl rfl)
theorem dX1_commit_139 : decode cX1_commit 139 = .ok (.aload 6, 2) := dk_25 6 (dk_at dksX1_commit_6 0 rfl rfl)
theorem dX1_commit_141 : decode cX1_commit 141 = .ok (.aload 4, 2) := dk_25 4 (dk_at dksX1_commit_6 2 rfl rfl)
theorem dX1_commit_143 : decode cX1_commit 143 = .ok (.invokevirtual 287, 3) := dk_182 1 31 (dk_at dksX1_commit_6 4 rfl rfl)
theorem dX1_commit_146 : decode cX1_commit 146 = .ok (.aload_n 0, 1) := dk_42 (dk_at dksX1_commit_6 7 rfl rfl)
theorem dX1_commit_147 : decode cX1_commit 147 = .ok (.getfield 44, 3) := dk_180 0 44 (dk_at dksX1_commit_6 8 rfl rfl)
theorem dX1_commit_150 : decode cX1_commit 150 = .ok (.invokeinterface 291 1, 5) := by decide +kernel
theorem dX1_commit_155 : decode cX1_commit 155 = .ok (.aload_n 2, 1) := dk_44 (dk_at dksX1_commit_6 16 rfl rfl)
theorem dX1_commit_156 : decode cX1_commit 156 = .ok (.aload_n 0, 1) := dk_42 (dk_at dksX1_commit_6 17 rfl rfl)
theorem dX1_commit_157 : decode cX1_commit 157 = .ok (.invokevirtual 83, 3) := dk_182 0 83 (dk_at dksX1_commit_6 18 rfl rfl)
theorem dX1_commit_160 : decode cX1_commit 160 = .ok (.aload 6, 2) := dk_25 6 (dk_at dksX1_commit_6 21 rfl rfl)
theorem dX1_commit_162 : decode cX1_commit 162 = .ok (.getfield 161, 3) := dk_180 0 161 (dk_at dksX1_commit_7 0 rfl rfl)
theorem dX1_commit_165 : decode cX1_commit 165 = .ok (.invokevirtual 168, 3) := dk_182 0 168 (dk_at dksX1_commit_7 3 rfl rfl)
theorem dX1_commit_168 : decode cX1_commit 168 = .ok (.aload_n 0, 1) := dk_42 (dk_at dksX1_commit_7 6 rfl rfl)
theorem dX1_commit_169 : decode cX1_commit 169 = .ok (.invokevirtual 83, 3) := dk_182 0 83 (dk_at dksX1_commit_7 7 rfl rfl)
theorem dX1_commit_172 : decode cX1_commit 172 = .ok (.ireturn, 1) := dk_172 (dk_at dksX1_commit_7 10 rfl rfl)
abbrev cX1_renews : ByteArray := prog_1_method_36_code
def yX1_renews : MethodName := ⟨RX1, "renews", "(LKeygrove$Tree;I)V"⟩
def dkwX1_renews_4 : List UInt8 := [25, 5, 180, 1, 38, 182, 1, 40, 167, 255, 168, 177]
abbrev dktX1_renews_4 : List UInt8 := dkwX1_renews_4 ++ []
def dkwX1_renews_3 : List UInt8 := [192, 1, 2, 58, 5, 43, 180, 0, 143, 5, 25, 5, 180, 1, 38, 104, 25, 5, 180, 1, 39, 79, 43]
abbrev dktX1_renews_3 : List UInt8 := dkwX1_renews_3 ++ dktX1_renews_4
def dkwX1_renews_2 : List UInt8 := [180, 1, 38, 28, 159, 0, 51, 42, 25, 4, 192, 1, 2, 180, 1, 38, 182, 0, 250, 154, 0, 36, 25, 4]
abbrev dktX1_renews_2 : List UInt8 := dkwX1_renews_2 ++ dktX1_renews_3
def dkwX1_renews_1 : List UInt8 := [185, 0, 213, 1, 0, 192, 0, 217, 58, 4, 25, 4, 193, 1, 2, 153, 0, 63, 25, 4, 192, 1, 2]
abbrev dktX1_renews_1 : List UInt8 := dkwX1_renews_1 ++ dktX1_renews_2
def dkwX1_renews_0 : List UInt8 := [42, 180, 0, 44, 185, 0, 204, 1, 0, 78, 45, 185, 0, 208, 1, 0, 153, 0, 85, 45]
abbrev dktX1_renews_0 : List UInt8 := dkwX1_renews_0 ++ dktX1_renews_1
theorem dksX1_renews_0 : cX1_renews.data.toList.drop 0 = dktX1_renews_0 := by decide +kernel
theorem dksX1_renews_1 : cX1_renews.data.toList.drop 20 = dktX1_renews_1 := dk_seg dksX1_renews_0 20 rfl rfl
theorem dksX1_renews_2 : cX1_renews.data.toList.drop 43 = dktX1_renews_2 := dk_seg dksX1_renews_1 23 rfl rfl
theorem dksX1_renews_3 : cX1_renews.data.toList.drop 67 = dktX1_renews_3 := dk_seg dksX1_renews_2 24 rfl rfl
theorem dksX1_renews_4 : cX1_renews.data.toList.drop 90 = dktX1_renews_4 := dk_seg dksX1_renews_3 23 rfl rfl
theorem dX1_renews_0 : decode cX1_renews 0 = .ok (.aload_n 0, 1) := dk_42 (dk_at dksX1_renews_0 0 rfl rfl)
theorem dX1_renews_1 : decode cX1_renews 1 = .ok (.getfield 44, 3) := dk_180 0 44 (dk_at dksX1_renews_0 1 rfl rfl)
theorem dX1_renews_4 : decode cX1_renews 4 = .ok (.invokeinterface 204 1, 5) := by decide +kernel
theorem dX1_renews_9 : decode cX1_renews 9 = .ok (.astore_n 3, 1) := dk_78 (dk_at dksX1_renews_0 9 rfl rfl)
theorem dX1_renews_10 : decode cX1_renews 10 = .ok (.aload_n 3, 1) := dk_45 (dk_at dksX1_renews_0 10 rfl rfl)
theorem dX1_renews_11 : decode cX1_renews 11 = .ok (.invokeinterface 208 1, 5) := by decide +kernel
theorem dX1_renews_16 : decode cX1_renews 16 = .ok (.ifCond .eq 85, 3) := dk_153 0 85 (dk_at dksX1_renews_0 16 rfl rfl)
theorem dX1_renews_19 : decode cX1_renews 19 = .ok (.aload_n 3, 1) := dk_45 (dk_at dksX1_renews_0 19 rfl rfl)
theorem dX1_renews_20 : decode cX1_renews 20 = .ok (.invokeinterface 213 1, 5) := by decide +kernel
theorem dX1_renews_25 : decode cX1_renews 25 = .ok (.checkcast 217, 3) := dk_192 0 217 (dk_at dksX1_renews_1 5 rfl rfl)
theorem dX1_renews_28 : decode cX1_renews 28 = .ok (.astore 4, 2) := dk_58 4 (dk_at dksX1_renews_1 8 rfl rfl)
theorem dX1_renews_30 : decode cX1_renews 30 = .ok (.aload 4, 2) := dk_25 4 (dk_at dksX1_renews_1 10 rfl rfl)
theorem dX1_renews_32 : decode cX1_renews 32 = .ok (.instanceof 258, 3) := dk_193 1 2 (dk_at dksX1_renews_1 12 rfl rfl)
theorem dX1_renews_35 : decode cX1_renews 35 = .ok (.ifCond .eq 63, 3) := dk_153 0 63 (dk_at dksX1_renews_1 15 rfl rfl)
theorem dX1_renews_38 : decode cX1_renews 38 = .ok (.aload 4, 2) := dk_25 4 (dk_at dksX1_renews_1 18 rfl rfl)
theorem dX1_renews_40 : decode cX1_renews 40 = .ok (.checkcast 258, 3) := dk_192 1 2 (dk_at dksX1_renews_1 20 rfl rfl)
theorem dX1_renews_43 : decode cX1_renews 43 = .ok (.getfield 294, 3) := dk_180 1 38 (dk_at dksX1_renews_2 0 rfl rfl)
theorem dX1_renews_46 : decode cX1_renews 46 = .ok (.iload_n 2, 1) := dk_28 (dk_at dksX1_renews_2 3 rfl rfl)
theorem dX1_renews_47 : decode cX1_renews 47 = .ok (.if_icmp .eq 51, 3) := dk_159 0 51 (dk_at dksX1_renews_2 4 rfl rfl)
theorem dX1_renews_50 : decode cX1_renews 50 = .ok (.aload_n 0, 1) := dk_42 (dk_at dksX1_renews_2 7 rfl rfl)
theorem dX1_renews_51 : decode cX1_renews 51 = .ok (.aload 4, 2) := dk_25 4 (dk_at dksX1_renews_2 8 rfl rfl)
theorem dX1_renews_53 : decode cX1_renews 53 = .ok (.checkcast 258, 3) := dk_192 1 2 (dk_at dksX1_renews_2 10 rfl rfl)
theorem dX1_renews_56 : decode cX1_renews 56 = .ok (.getfield 294, 3) := dk_180 1 38 (dk_at dksX1_renews_2 13 rfl rfl)
theorem dX1_renews_59 : decode cX1_renews 59 = .ok (.invokevirtual 250, 3) := dk_182 0 250 (dk_at dksX1_renews_2 16 rfl rfl)
theorem dX1_renews_62 : decode cX1_renews 62 = .ok (.ifCond .ne 36, 3) := dk_154 0 36 (dk_at dksX1_renews_2 19 rfl rfl)
theorem dX1_renews_65 : decode cX1_renews 65 = .ok (.aload 4, 2) := dk_25 4 (dk_at dksX1_renews_2 22 rfl rfl)
theorem dX1_renews_67 : decode cX1_renews 67 = .ok (.checkcast 258, 3) := dk_192 1 2 (dk_at dksX1_renews_3 0 rfl rfl)
theorem dX1_renews_70 : decode cX1_renews 70 = .ok (.astore 5, 2) := dk_58 5 (dk_at dksX1_renews_3 3 rfl rfl)
theorem dX1_renews_72 : decode cX1_renews 72 = .ok (.aload_n 1, 1) := dk_43 (dk_at dksX1_renews_3 5 rfl rfl)
theorem dX1_renews_73 : decode cX1_renews 73 = .ok (.getfield 143, 3) := dk_180 0 143 (dk_at dksX1_renews_3 6 rfl rfl)
theorem dX1_renews_76 : decode cX1_renews 76 = .ok (.iconst 2, 1) := dk_5 (dk_at dksX1_renews_3 9 rfl rfl)
theorem dX1_renews_77 : decode cX1_renews 77 = .ok (.aload 5, 2) := dk_25 5 (dk_at dksX1_renews_3 10 rfl rfl)
theorem dX1_renews_79 : decode cX1_renews 79 = .ok (.getfield 294, 3) := dk_180 1 38 (dk_at dksX1_renews_3 12 rfl rfl)
theorem dX1_renews_82 : decode cX1_renews 82 = .ok (.imul, 1) := dk_104 (dk_at dksX1_renews_3 15 rfl rfl)
theorem dX1_renews_83 : decode cX1_renews 83 = .ok (.aload 5, 2) := dk_25 5 (dk_at dksX1_renews_3 16 rfl rfl)
theorem dX1_renews_85 : decode cX1_renews 85 = .ok (.getfield 295, 3) := dk_180 1 39 (dk_at dksX1_renews_3 18 rfl rfl)
theorem dX1_renews_88 : decode cX1_renews 88 = .ok (.iastore, 1) := dk_79 (dk_at dksX1_renews_3 21 rfl rfl)
theorem dX1_renews_89 : decode cX1_renews 89 = .ok (.aload_n 1, 1) := dk_43 (dk_at dksX1_renews_3 22 rfl rfl)
theorem dX1_renews_90 : decode cX1_renews 90 = .ok (.aload 5, 2) := dk_25 5 (dk_at dksX1_renews_4 0 rfl rfl)
theorem dX1_renews_92 : decode cX1_renews 92 = .ok (.getfield 294, 3) := dk_180 1 38 (dk_at dksX1_renews_4 2 rfl rfl)
theorem dX1_renews_95 : decode cX1_renews 95 = .ok (.invokevirtual 296, 3) := dk_182 1 40 (dk_at dksX1_renews_4 5 rfl rfl)
theorem dX1_renews_98 : decode cX1_renews 98 = .ok (.goto (-88), 3) := dk_167 255 168 (dk_at dksX1_renews_4 8 rfl rfl)
theorem dX1_renews_101 : decode cX1_renews 101 = .ok (.return_, 1) := dk_177 (dk_at dksX1_renews_4 11 rfl rfl)
abbrev cX1_removes : ByteArray := prog_1_method_37_code
def yX1_removes : MethodName := ⟨RX1, "removes", "(LKeygrove$Tree;)V"⟩
def dkwX1_removes_2 : List UInt8 := [54, 4, 42, 43, 180, 0, 147, 21, 4, 46, 182, 1, 43, 43, 21, 4, 182, 1, 46, 167, 255, 204, 177]
abbrev dktX1_removes_2 : List UInt8 := dkwX1_removes_2 ++ []
def dkwX1_removes_1 : List UInt8 := [185, 0, 213, 1, 0, 192, 0, 217, 78, 45, 193, 0, 228, 153, 0, 29, 45, 192, 0, 228, 180, 0, 230]
abbrev dktX1_removes_1 : List UInt8 := dkwX1_removes_1 ++ dktX1_removes_2
def dkwX1_removes_0 : List UInt8 := [42, 180, 0, 44, 185, 0, 204, 1, 0, 77, 44, 185, 0, 208, 1, 0, 153, 0, 49, 44]
abbrev dktX1_removes_0 : List UInt8 := dkwX1_removes_0 ++ dktX1_removes_1
theorem dksX1_removes_0 : cX1_removes.data.toList.drop 0 = dktX1_removes_0 := by decide +kernel
theorem dksX1_removes_1 : cX1_removes.data.toList.drop 20 = dktX1_removes_1 := dk_seg dksX1_removes_0 20 rfl rfl
theorem dksX1_removes_2 : cX1_removes.data.toList.drop 43 = dktX1_removes_2 := dk_seg dksX1_removes_1 23 rfl rfl
theorem dX1_removes_0 : decode cX1_removes 0 = .ok (.aload_n 0, 1) := dk_42 (dk_at dksX1_removes_0 0 rfl rfl)
theorem dX1_removes_1 : decode cX1_removes 1 = .ok (.getfield 44, 3) := dk_180 0 44 (dk_at dksX1_removes_0 1 rfl rfl)
theorem dX1_removes_4 : decode cX1_removes 4 = .ok (.invokeinterface 204 1, 5) := by decide +kernel
theorem dX1_removes_9 : decode cX1_removes 9 = .ok (.astore_n 2, 1) := dk_77 (dk_at dksX1_removes_0 9 rfl rfl)
theorem dX1_removes_10 : decode cX1_removes 10 = .ok (.aload_n 2, 1) := dk_44 (dk_at dksX1_removes_0 10 rfl rfl)
theorem dX1_removes_11 : decode cX1_removes 11 = .ok (.invokeinterface 208 1, 5) := by decide +kernel
theorem dX1_removes_16 : decode cX1_removes 16 = .ok (.ifCond .eq 49, 3) := dk_153 0 49 (dk_at dksX1_removes_0 16 rfl rfl)
theorem dX1_removes_19 : decode cX1_removes 19 = .ok (.aload_n 2, 1) := dk_44 (dk_at dksX1_removes_0 19 rfl rfl)
theorem dX1_removes_20 : decode cX1_removes 20 = .ok (.invokeinterface 213 1, 5) := by decide +kernel
theorem dX1_removes_25 : decode cX1_removes 25 = .ok (.checkcast 217, 3) := dk_192 0 217 (dk_at dksX1_removes_1 5 rfl rfl)
theorem dX1_removes_28 : decode cX1_removes 28 = .ok (.astore_n 3, 1) := dk_78 (dk_at dksX1_removes_1 8 rfl rfl)
theorem dX1_removes_29 : decode cX1_removes 29 = .ok (.aload_n 3, 1) := dk_45 (dk_at dksX1_removes_1 9 rfl rfl)
theorem dX1_removes_30 : decode cX1_removes 30 = .ok (.instanceof 228, 3) := dk_193 0 228 (dk_at dksX1_removes_1 10 rfl rfl)
theorem dX1_removes_33 : decode cX1_removes 33 = .ok (.ifCond .eq 29, 3) := dk_153 0 29 (dk_at dksX1_removes_1 13 rfl rfl)
theorem dX1_removes_36 : decode cX1_removes 36 = .ok (.aload_n 3, 1) := dk_45 (dk_at dksX1_removes_1 16 rfl rfl)
theorem dX1_removes_37 : decode cX1_removes 37 = .ok (.checkcast 228, 3) := dk_192 0 228 (dk_at dksX1_removes_1 17 rfl rfl)
theorem dX1_removes_40 : decode cX1_removes 40 = .ok (.getfield 230, 3) := dk_180 0 230 (dk_at dksX1_removes_1 20 rfl rfl)
theorem dX1_removes_43 : decode cX1_removes 43 = .ok (.istore 4, 2) := dk_54 4 (dk_at dksX1_removes_2 0 rfl rfl)
theorem dX1_removes_45 : decode cX1_removes 45 = .ok (.aload_n 0, 1) := dk_42 (dk_at dksX1_removes_2 2 rfl rfl)
theorem dX1_removes_46 : decode cX1_removes 46 = .ok (.aload_n 1, 1) := dk_43 (dk_at dksX1_removes_2 3 rfl rfl)
theorem dX1_removes_47 : decode cX1_removes 47 = .ok (.getfield 147, 3) := dk_180 0 147 (dk_at dksX1_removes_2 4 rfl rfl)
theorem dX1_removes_50 : decode cX1_removes 50 = .ok (.iload 4, 2) := dk_21 4 (dk_at dksX1_removes_2 7 rfl rfl)
theorem dX1_removes_52 : decode cX1_removes 52 = .ok (.iaload, 1) := dk_46 (dk_at dksX1_removes_2 9 rfl rfl)
theorem dX1_removes_53 : decode cX1_removes 53 = .ok (.invokevirtual 299, 3) := dk_182 1 43 (dk_at dksX1_removes_2 10 rfl rfl)
theorem dX1_removes_56 : decode cX1_removes 56 = .ok (.aload_n 1, 1) := dk_43 (dk_at dksX1_removes_2 13 rfl rfl)
theorem dX1_removes_57 : decode cX1_removes 57 = .ok (.iload 4, 2) := dk_21 4 (dk_at dksX1_removes_2 14 rfl rfl)
theorem dX1_removes_59 : decode cX1_removes 59 = .ok (.invokevirtual 302, 3) := dk_182 1 46 (dk_at dksX1_removes_2 16 rfl rfl)
theorem dX1_removes_62 : decode cX1_removes 62 = .ok (.goto (-52), 3) := dk_167 255 204 (dk_at dksX1_removes_2 19 rfl rfl)
theorem dX1_removes_65 : decode cX1_removes 65 = .ok (.return_, 1) := dk_177 (dk_at dksX1_removes_2 22 rfl rfl)
abbrev cX1_closes : ByteArray := prog_1_method_38_code
def yX1_closes : MethodName := ⟨RX1, "closes", "(I)V"⟩
def dkwX1_closes_2 : List UInt8 := [180, 1, 48, 153, 0, 15, 25, 4, 3, 181, 1, 48, 45, 185, 1, 51, 1, 0, 167, 255, 216, 177]
abbrev dktX1_closes_2 : List UInt8 := dkwX1_closes_2 ++ []
def dkwX1_closes_1 : List UInt8 := [45, 185, 0, 208, 1, 0, 153, 0, 37, 45, 185, 0, 213, 1, 0, 192, 0, 133, 58, 4, 25, 4]
abbrev dktX1_closes_1 : List UInt8 := dkwX1_closes_1 ++ dktX1_closes_2
def dkwX1_closes_0 : List UInt8 := [42, 180, 0, 37, 27, 185, 0, 77, 2, 0, 192, 0, 81, 77, 44, 180, 0, 138, 185, 0, 204, 1, 0, 78]
abbrev dktX1_closes_0 : List UInt8 := dkwX1_closes_0 ++ dktX1_closes_1
theorem dksX1_closes_0 : cX1_closes.data.toList.drop 0 = dktX1_closes_0 := by decide +kernel
theorem dksX1_closes_1 : cX1_closes.data.toList.drop 24 = dktX1_closes_1 := dk_seg dksX1_closes_0 24 rfl rfl
theorem dksX1_closes_2 : cX1_closes.data.toList.drop 46 = dktX1_closes_2 := dk_seg dksX1_closes_1 22 rfl rfl
theorem dX1_closes_0 : decode cX1_closes 0 = .ok (.aload_n 0, 1) := dk_42 (dk_at dksX1_closes_0 0 rfl rfl)
theorem dX1_closes_1 : decode cX1_closes 1 = .ok (.getfield 37, 3) := dk_180 0 37 (dk_at dksX1_closes_0 1 rfl rfl)
theorem dX1_closes_4 : decode cX1_closes 4 = .ok (.iload_n 1, 1) := dk_27 (dk_at dksX1_closes_0 4 rfl rfl)
theorem dX1_closes_5 : decode cX1_closes 5 = .ok (.invokeinterface 77 2, 5) := by decide +kernel
theorem dX1_closes_10 : decode cX1_closes 10 = .ok (.checkcast 81, 3) := dk_192 0 81 (dk_at dksX1_closes_0 10 rfl rfl)
theorem dX1_closes_13 : decode cX1_closes 13 = .ok (.astore_n 2, 1) := dk_77 (dk_at dksX1_closes_0 13 rfl rfl)
theorem dX1_closes_14 : decode cX1_closes 14 = .ok (.aload_n 2, 1) := dk_44 (dk_at dksX1_closes_0 14 rfl rfl)
theorem dX1_closes_15 : decode cX1_closes 15 = .ok (.getfield 138, 3) := dk_180 0 138 (dk_at dksX1_closes_0 15 rfl rfl)
theorem dX1_closes_18 : decode cX1_closes 18 = .ok (.invokeinterface 204 1, 5) := by decide +kernel
theorem dX1_closes_23 : decode cX1_closes 23 = .ok (.astore_n 3, 1) := dk_78 (dk_at dksX1_closes_0 23 rfl rfl)
theorem dX1_closes_24 : decode cX1_closes 24 = .ok (.aload_n 3, 1) := dk_45 (dk_at dksX1_closes_1 0 rfl rfl)
theorem dX1_closes_25 : decode cX1_closes 25 = .ok (.invokeinterface 208 1, 5) := by decide +kernel
theorem dX1_closes_30 : decode cX1_closes 30 = .ok (.ifCond .eq 37, 3) := dk_153 0 37 (dk_at dksX1_closes_1 6 rfl rfl)
theorem dX1_closes_33 : decode cX1_closes 33 = .ok (.aload_n 3, 1) := dk_45 (dk_at dksX1_closes_1 9 rfl rfl)
theorem dX1_closes_34 : decode cX1_closes 34 = .ok (.invokeinterface 213 1, 5) := by decide +kernel
theorem dX1_closes_39 : decode cX1_closes 39 = .ok (.checkcast 133, 3) := dk_192 0 133 (dk_at dksX1_closes_1 15 rfl rfl)
theorem dX1_closes_42 : decode cX1_closes 42 = .ok (.astore 4, 2) := dk_58 4 (dk_at dksX1_closes_1 18 rfl rfl)
theorem dX1_closes_44 : decode cX1_closes 44 = .ok (.aload 4, 2) := dk_25 4 (dk_at dksX1_closes_1 20 rfl rfl)
theorem dX1_closes_46 : decode cX1_closes 46 = .ok (.getfield 304, 3) := dk_180 1 48 (dk_at dksX1_closes_2 0 rfl rfl)
theorem dX1_closes_49 : decode cX1_closes 49 = .ok (.ifCond .eq 15, 3) := dk_153 0 15 (dk_at dksX1_closes_2 3 rfl rfl)
theorem dX1_closes_52 : decode cX1_closes 52 = .ok (.aload 4, 2) := dk_25 4 (dk_at dksX1_closes_2 6 rfl rfl)
theorem dX1_closes_54 : decode cX1_closes 54 = .ok (.iconst 0, 1) := dk_3 (dk_at dksX1_closes_2 8 rfl rfl)
theorem dX1_closes_55 : decode cX1_closes 55 = .ok (.putfield 304, 3) := dk_181 1 48 (dk_at dksX1_closes_2 9 rfl rfl)
theorem dX1_closes_58 : decode cX1_closes 58 = .ok (.aload_n 3, 1) := dk_45 (dk_at dksX1_closes_2 12 rfl rfl)
theorem dX1_closes_59 : decode cX1_closes 59 = .ok (.invokeinterface 307 1, 5) := by decide +kernel
theorem dX1_closes_64 : decode cX1_closes 64 = .ok (.goto (-40), 3) := dk_167 255 216 (dk_at dksX1_closes_2 18 rfl rfl)
theorem dX1_closes_67 : decode cX1_closes 67 = .ok (.return_, 1) := dk_177 (dk_at dksX1_closes_2 21 rfl rfl)
abbrev cX1_adds : ByteArray := prog_1_method_39_code
def yX1_adds : MethodName := ⟨RX1, "adds", "(LKeygrove$Tree;Ljava/util/List;)I"⟩
def dkwX1_adds_4 : List UInt8 := [181, 1, 59, 44, 25, 6, 185, 0, 116, 2, 0, 87, 167, 255, 165, 29, 172]
abbrev dktX1_adds_4 : List UInt8 := dkwX1_adds_4 ++ []
def dkwX1_adds_3 : List UInt8 := [120, 128, 62, 25, 6, 4, 181, 0, 235, 25, 6, 4, 181, 1, 48, 25, 6, 42, 182, 0, 83, 4, 96]
abbrev dktX1_adds_3 : List UInt8 := dkwX1_adds_3 ++ dktX1_adds_4
def dkwX1_adds_2 : List UInt8 := [192, 0, 219, 180, 0, 221, 58, 6, 29, 4, 43, 25, 6, 180, 0, 225, 25, 6, 180, 1, 54, 182, 1, 57]
abbrev dktX1_adds_2 : List UInt8 := dkwX1_adds_2 ++ dktX1_adds_3
def dkwX1_adds_1 : List UInt8 := [25, 4, 185, 0, 213, 1, 0, 192, 0, 217, 58, 5, 25, 5, 193, 0, 219, 153, 0, 64, 25, 5]
abbrev dktX1_adds_1 : List UInt8 := dkwX1_adds_1 ++ dktX1_adds_2
def dkwX1_adds_0 : List UInt8 := [3, 62, 42, 180, 0, 44, 185, 0, 204, 1, 0, 58, 4, 25, 4, 185, 0, 208, 1, 0, 153, 0, 87]
abbrev dktX1_adds_0 : List UInt8 := dkwX1_adds_0 ++ dktX1_adds_1
theorem dksX1_adds_0 : cX1_adds.data.toList.drop 0 = dktX1_adds_0 := by decide +kernel
theorem dksX1_adds_1 : cX1_adds.data.toList.drop 23 = dktX1_adds_1 := dk_seg dksX1_adds_0 23 rfl rfl
theorem dksX1_adds_2 : cX1_adds.data.toList.drop 45 = dktX1_adds_2 := dk_seg dksX1_adds_1 22 rfl rfl
theorem dksX1_adds_3 : cX1_adds.data.toList.drop 69 = dktX1_adds_3 := dk_seg dksX1_adds_2 24 rfl rfl
theorem dksX1_adds_4 : cX1_adds.data.toList.drop 92 = dktX1_adds_4 := dk_seg dksX1_adds_3 23 rfl rfl
theorem dX1_adds_0 : decode cX1_adds 0 = .ok (.iconst 0, 1) := dk_3 (dk_at dksX1_adds_0 0 rfl rfl)
theorem dX1_adds_1 : decode cX1_adds 1 = .ok (.istore_n 3, 1) := dk_62 (dk_at dksX1_adds_0 1 rfl rfl)
theorem dX1_adds_2 : decode cX1_adds 2 = .ok (.aload_n 0, 1) := dk_42 (dk_at dksX1_adds_0 2 rfl rfl)
theorem dX1_adds_3 : decode cX1_adds 3 = .ok (.getfield 44, 3) := dk_180 0 44 (dk_at dksX1_adds_0 3 rfl rfl)
theorem dX1_adds_6 : decode cX1_adds 6 = .ok (.invokeinterface 204 1, 5) := by decide +kernel
theorem dX1_adds_11 : decode cX1_adds 11 = .ok (.astore 4, 2) := dk_58 4 (dk_at dksX1_adds_0 11 rfl rfl)
theorem dX1_adds_13 : decode cX1_adds 13 = .ok (.aload 4, 2) := dk_25 4 (dk_at dksX1_adds_0 13 rfl rfl)
theorem dX1_adds_15 : decode cX1_adds 15 = .ok (.invokeinterface 208 1, 5) := by decide +kernel
theorem dX1_adds_20 : decode cX1_adds 20 = .ok (.ifCond .eq 87, 3) := dk_153 0 87 (dk_at dksX1_adds_0 20 rfl rfl)
theorem dX1_adds_23 : decode cX1_adds 23 = .ok (.aload 4, 2) := dk_25 4 (dk_at dksX1_adds_1 0 rfl rfl)
theorem dX1_adds_25 : decode cX1_adds 25 = .ok (.invokeinterface 213 1, 5) := by decide +kernel
theorem dX1_adds_30 : decode cX1_adds 30 = .ok (.checkcast 217, 3) := dk_192 0 217 (dk_at dksX1_adds_1 7 rfl rfl)
theorem dX1_adds_33 : decode cX1_adds 33 = .ok (.astore 5, 2) := dk_58 5 (dk_at dksX1_adds_1 10 rfl rfl)
theorem dX1_adds_35 : decode cX1_adds 35 = .ok (.aload 5, 2) := dk_25 5 (dk_at dksX1_adds_1 12 rfl rfl)
theorem dX1_adds_37 : decode cX1_adds 37 = .ok (.instanceof 219, 3) := dk_193 0 219 (dk_at dksX1_adds_1 14 rfl rfl)
theorem dX1_adds_40 : decode cX1_adds 40 = .ok (.ifCond .eq 64, 3) := dk_153 0 64 (dk_at dksX1_adds_1 17 rfl rfl)
theorem dX1_adds_43 : decode cX1_adds 43 = .ok (.aload 5, 2) := dk_25 5 (dk_at dksX1_adds_1 20 rfl rfl)
theorem dX1_adds_45 : decode cX1_adds 45 = .ok (.checkcast 219, 3) := dk_192 0 219 (dk_at dksX1_adds_2 0 rfl rfl)
theorem dX1_adds_48 : decode cX1_adds 48 = .ok (.getfield 221, 3) := dk_180 0 221 (dk_at dksX1_adds_2 3 rfl rfl)
theorem dX1_adds_51 : decode cX1_adds 51 = .ok (.astore 6, 2) := dk_58 6 (dk_at dksX1_adds_2 6 rfl rfl)
theorem dX1_adds_53 : decode cX1_adds 53 = .ok (.iload_n 3, 1) := dk_29 (dk_at dksX1_adds_2 8 rfl rfl)
theorem dX1_adds_54 : decode cX1_adds 54 = .ok (.iconst 1, 1) := dk_4 (dk_at dksX1_adds_2 9 rfl rfl)
theorem dX1_adds_55 : decode cX1_adds 55 = .ok (.aload_n 1, 1) := dk_43 (dk_at dksX1_adds_2 10 rfl rfl)
theorem dX1_adds_56 : decode cX1_adds 56 = .ok (.aload 6, 2) := dk_25 6 (dk_at dksX1_adds_2 11 rfl rfl)
theorem dX1_adds_58 : decode cX1_adds 58 = .ok (.getfield 225, 3) := dk_180 0 225 (dk_at dksX1_adds_2 13 rfl rfl)
theorem dX1_adds_61 : decode cX1_adds 61 = .ok (.aload 6, 2) := dk_25 6 (dk_at dksX1_adds_2 16 rfl rfl)
theorem dX1_adds_63 : decode cX1_adds 63 = .ok (.getfield 310, 3) := dk_180 1 54 (dk_at dksX1_adds_2 18 rfl rfl)
theorem dX1_adds_66 : decode cX1_adds 66 = .ok (.invokevirtual 313, 3) := dk_182 1 57 (dk_at dksX1_adds_2 21 rfl rfl)
theorem dX1_adds_69 : decode cX1_adds 69 = .ok (.ishl, 1) := dk_120 (dk_at dksX1_adds_3 0 rfl rfl)
theorem dX1_adds_70 : decode cX1_adds 70 = .ok (.ior, 1) := dk_128 (dk_at dksX1_adds_3 1 rfl rfl)
theorem dX1_adds_71 : decode cX1_adds 71 = .ok (.istore_n 3, 1) := dk_62 (dk_at dksX1_adds_3 2 rfl rfl)
theorem dX1_adds_72 : decode cX1_adds 72 = .ok (.aload 6, 2) := dk_25 6 (dk_at dksX1_adds_3 3 rfl rfl)
theorem dX1_adds_74 : decode cX1_adds 74 = .ok (.iconst 1, 1) := dk_4 (dk_at dksX1_adds_3 5 rfl rfl)
theorem dX1_adds_75 : decode cX1_adds 75 = .ok (.putfield 235, 3) := dk_181 0 235 (dk_at dksX1_adds_3 6 rfl rfl)
theorem dX1_adds_78 : decode cX1_adds 78 = .ok (.aload 6, 2) := dk_25 6 (dk_at dksX1_adds_3 9 rfl rfl)
theorem dX1_adds_80 : decode cX1_adds 80 = .ok (.iconst 1, 1) := dk_4 (dk_at dksX1_adds_3 11 rfl rfl)
theorem dX1_adds_81 : decode cX1_adds 81 = .ok (.putfield 304, 3) := dk_181 1 48 (dk_at dksX1_adds_3 12 rfl rfl)
theorem dX1_adds_84 : decode cX1_adds 84 = .ok (.aload 6, 2) := dk_25 6 (dk_at dksX1_adds_3 15 rfl rfl)
theorem dX1_adds_86 : decode cX1_adds 86 = .ok (.aload_n 0, 1) := dk_42 (dk_at dksX1_adds_3 17 rfl rfl)
theorem dX1_adds_87 : decode cX1_adds 87 = .ok (.invokevirtual 83, 3) := dk_182 0 83 (dk_at dksX1_adds_3 18 rfl rfl)
theorem dX1_adds_90 : decode cX1_adds 90 = .ok (.iconst 1, 1) := dk_4 (dk_at dksX1_adds_3 21 rfl rfl)
theorem dX1_adds_91 : decode cX1_adds 91 = .ok (.iadd, 1) := dk_96 (dk_at dksX1_adds_3 22 rfl rfl)
theorem dX1_adds_92 : decode cX1_adds 92 = .ok (.putfield 315, 3) := dk_181 1 59 (dk_at dksX1_adds_4 0 rfl rfl)
theorem dX1_adds_95 : decode cX1_adds 95 = .ok (.aload_n 2, 1) := dk_44 (dk_at dksX1_adds_4 3 rfl rfl)
theorem dX1_adds_96 : decode cX1_adds 96 = .ok (.aload 6, 2) := dk_25 6 (dk_at dksX1_adds_4 4 rfl rfl)
theorem dX1_adds_98 : decode cX1_adds 98 = .ok (.invokeinterface 116 2, 5) := by decide +kernel
theorem dX1_adds_103 : decode cX1_adds 103 = .ok (.pop, 1) := dk_87 (dk_at dksX1_adds_4 11 rfl rfl)
theorem dX1_adds_104 : decode cX1_adds 104 = .ok (.goto (-91), 3) := dk_167 255 165 (dk_at dksX1_adds_4 12 rfl rfl)
theorem dX1_adds_107 : decode cX1_adds 107 = .ok (.iload_n 3, 1) := dk_29 (dk_at dksX1_adds_4 15 rfl rfl)
theorem dX1_adds_108 : decode cX1_adds 108 = .ok (.ireturn, 1) := dk_172 (dk_at dksX1_adds_4 16 rfl rfl)
abbrev cX1_lays : ByteArray := prog_1_method_40_code
def yX1_lays : MethodName := ⟨RX1, "lays", "(LKeygrove$Person;LKeygrove$Tree;I)LKeygrove$Step;"⟩
def dkwX1_lays_18 : List UInt8 := [182, 1, 104, 25, 10, 176]
abbrev dktX1_lays_18 : List UInt8 := dkwX1_lays_18 ++ []
def dkwX1_lays_17 : List UInt8 := [183, 0, 151, 58, 10, 25, 10, 180, 1, 101, 25, 6, 182, 1, 104, 25, 10, 180, 1, 108, 25, 7]
abbrev dktX1_lays_17 : List UInt8 := dkwX1_lays_17 ++ dktX1_lays_18
def dkwX1_lays_16 : List UInt8 := [182, 1, 98, 54, 9, 187, 0, 149, 89, 21, 4, 21, 9, 42, 180, 0, 28, 21, 9, 7, 182, 0, 172]
abbrev dktX1_lays_16 : List UInt8 := dkwX1_lays_16 ++ dktX1_lays_17
def dkwX1_lays_15 : List UInt8 := [167, 254, 252, 42, 180, 0, 28, 43, 180, 1, 95, 42, 180, 0, 28, 21, 5, 5, 182, 0, 172, 6]
abbrev dktX1_lays_15 : List UInt8 := dkwX1_lays_15 ++ dktX1_lays_16
def dkwX1_lays_14 : List UInt8 := [180, 0, 28, 180, 1, 82, 185, 0, 63, 1, 0, 184, 0, 110, 182, 0, 155, 87, 21, 10, 54, 8]
abbrev dktX1_lays_14 : List UInt8 := dkwX1_lays_14 ++ dktX1_lays_15
def dkwX1_lays_13 : List UInt8 := [180, 0, 143, 21, 14, 46, 21, 5, 182, 1, 92, 167, 255, 187, 25, 7, 21, 10, 184, 0, 110, 42]
abbrev dktX1_lays_13 : List UInt8 := dkwX1_lays_13 ++ dktX1_lays_14
def dkwX1_lays_12 : List UInt8 := [21, 14, 5, 108, 184, 1, 88, 153, 0, 7, 4, 167, 0, 4, 3, 54, 15, 21, 15, 154, 0, 16, 42, 44]
abbrev dktX1_lays_12 : List UInt8 := dkwX1_lays_12 ++ dktX1_lays_13
def dkwX1_lays_11 : List UInt8 := [25, 13, 185, 0, 213, 1, 0, 192, 0, 111, 182, 1, 67, 54, 14, 21, 14, 184, 1, 85, 154, 0, 18, 29]
abbrev dktX1_lays_11 : List UInt8 := dkwX1_lays_11 ++ dktX1_lays_12
def dkwX1_lays_10 : List UInt8 := [182, 0, 155, 87, 25, 12, 185, 0, 204, 1, 0, 58, 13, 25, 13, 185, 0, 208, 1, 0, 153, 0, 65]
abbrev dktX1_lays_10 : List UInt8 := dkwX1_lays_10 ++ dktX1_lays_11
def dkwX1_lays_9 : List UInt8 := [25, 6, 21, 10, 184, 0, 110, 42, 180, 0, 28, 180, 1, 82, 185, 0, 63, 1, 0, 184, 0, 110]
abbrev dktX1_lays_9 : List UInt8 := dkwX1_lays_9 ++ dktX1_lays_10
def dkwX1_lays_8 : List UInt8 := [21, 10, 21, 5, 79, 43, 180, 0, 152, 21, 10, 184, 0, 110, 21, 5, 184, 0, 110, 182, 0, 155, 87]
abbrev dktX1_lays_8 : List UInt8 := dkwX1_lays_8 ++ dktX1_lays_9
def dkwX1_lays_7 : List UInt8 := [185, 0, 96, 1, 0, 154, 0, 175, 42, 180, 0, 28, 21, 5, 5, 182, 0, 172, 54, 5, 44, 180, 0, 143]
abbrev dktX1_lays_7 : List UInt8 := dkwX1_lays_7 ++ dktX1_lays_8
def dkwX1_lays_6 : List UInt8 := [58, 12, 44, 180, 1, 79, 21, 10, 3, 79, 44, 180, 0, 143, 21, 10, 2, 79, 25, 12]
abbrev dktX1_lays_6 : List UInt8 := dkwX1_lays_6 ++ dktX1_lays_7
def dkwX1_lays_5 : List UInt8 := [160, 0, 11, 21, 10, 184, 1, 73, 167, 0, 8, 21, 10, 184, 1, 70, 54, 11, 44, 21, 11, 182, 1, 76]
abbrev dktX1_lays_5 : List UInt8 := dkwX1_lays_5 ++ dktX1_lays_6
def dkwX1_lays_4 : List UInt8 := [25, 9, 185, 0, 213, 1, 0, 192, 0, 111, 182, 1, 67, 54, 10, 21, 10, 184, 1, 70, 21, 8]
abbrev dktX1_lays_4 : List UInt8 := dkwX1_lays_4 ++ dktX1_lays_5
def dkwX1_lays_3 : List UInt8 := [44, 21, 4, 182, 1, 63, 185, 0, 204, 1, 0, 58, 9, 25, 9, 185, 0, 208, 1, 0, 153, 1, 0]
abbrev dktX1_lays_3 : List UInt8 := dkwX1_lays_3 ++ dktX1_lays_4
def dkwX1_lays_2 : List UInt8 := [187, 0, 156, 89, 183, 1, 62, 58, 6, 187, 0, 156, 89, 183, 1, 62, 58, 7, 5, 21, 4, 104, 54, 8]
abbrev dktX1_lays_2 : List UInt8 := dkwX1_lays_2 ++ dktX1_lays_3
def dkwX1_lays_1 : List UInt8 := [21, 5, 79, 43, 180, 0, 152, 5, 21, 4, 104, 184, 0, 110, 21, 5, 184, 0, 110, 182, 0, 155, 87]
abbrev dktX1_lays_1 : List UInt8 := dkwX1_lays_1 ++ dktX1_lays_2
def dkwX1_lays_0 : List UInt8 := [43, 180, 0, 191, 54, 4, 42, 180, 0, 28, 182, 0, 130, 54, 5, 44, 180, 0, 143, 5, 21, 4, 104]
abbrev dktX1_lays_0 : List UInt8 := dkwX1_lays_0 ++ dktX1_lays_1
theorem dksX1_lays_0 : cX1_lays.data.toList.drop 0 = dktX1_lays_0 := by decide +kernel
theorem dksX1_lays_1 : cX1_lays.data.toList.drop 23 = dktX1_lays_1 := dk_seg dksX1_lays_0 23 rfl rfl
theorem dksX1_lays_2 : cX1_lays.data.toList.drop 46 = dktX1_lays_2 := dk_seg dksX1_lays_1 23 rfl rfl
theorem dksX1_lays_3 : cX1_lays.data.toList.drop 70 = dktX1_lays_3 := dk_seg dksX1_lays_2 24 rfl rfl
theorem dksX1_lays_4 : cX1_lays.data.toList.drop 93 = dktX1_lays_4 := dk_seg dksX1_lays_3 23 rfl rfl
theorem dksX1_lays_5 : cX1_lays.data.toList.drop 115 = dktX1_lays_5 := dk_seg dksX1_lays_4 22 rfl rfl
theorem dksX1_lays_6 : cX1_lays.data.toList.drop 139 = dktX1_lays_6 := dk_seg dksX1_lays_5 24 rfl rfl
theorem dksX1_lays_7 : cX1_lays.data.toList.drop 159 = dktX1_lays_7 := dk_seg dksX1_lays_6 20 rfl rfl
theorem dksX1_lays_8 : cX1_lays.data.toList.drop 183 = dktX1_lays_8 := dk_seg dksX1_lays_7 24 rfl rfl
theorem dksX1_lays_9 : cX1_lays.data.toList.drop 206 = dktX1_lays_9 := dk_seg dksX1_lays_8 23 rfl rfl
theorem dksX1_lays_10 : cX1_lays.data.toList.drop 228 = dktX1_lays_10 := dk_seg dksX1_lays_9 22 rfl rfl
theorem dksX1_lays_11 : cX1_lays.data.toList.drop 251 = dktX1_lays_11 := dk_seg dksX1_lays_10 23 rfl rfl
theorem dksX1_lays_12 : cX1_lays.data.toList.drop 275 = dktX1_lays_12 := dk_seg dksX1_lays_11 24 rfl rfl
theorem dksX1_lays_13 : cX1_lays.data.toList.drop 299 = dktX1_lays_13 := dk_seg dksX1_lays_12 24 rfl rfl
theorem dksX1_lays_14 : cX1_lays.data.toList.drop 321 = dktX1_lays_14 := dk_seg dksX1_lays_13 22 rfl rfl
theorem dksX1_lays_15 : cX1_lays.data.toList.drop 343 = dktX1_lays_15 := dk_seg dksX1_lays_14 22 rfl rfl
theorem dksX1_lays_16 : cX1_lays.data.toList.drop 365 = dktX1_lays_16 := dk_seg dksX1_lays_15 22 rfl rfl
theorem dksX1_lays_17 : cX1_lays.data.toList.drop 388 = dktX1_lays_17 := dk_seg dksX1_lays_16 23 rfl rfl
theorem dksX1_lays_18 : cX1_lays.data.toList.drop 410 = dktX1_lays_18 := dk_seg dksX1_lays_17 22 rfl rfl
theorem dX1_lays_0 : decode cX1_lays 0 = .ok (.aload_n 1, 1) := dk_43 (dk_at dksX1_lays_0 0 rfl rfl)
theorem dX1_lays_1 : decode cX1_lays 1 = .ok (.getfield 191, 3) := dk_180 0 191 (dk_at dksX1_lays_0 1 rfl rfl)
theorem dX1_lays_4 : decode cX1_lays 4 = .ok (.istore 4, 2) := dk_54 4 (dk_at dksX1_lays_0 4 rfl rfl)
theorem dX1_lays_6 : decode cX1_lays 6 = .ok (.aload_n 0, 1) := dk_42 (dk_at dksX1_lays_0 6 rfl rfl)
theorem dX1_lays_7 : decode cX1_lays 7 = .ok (.getfield 28, 3) := dk_180 0 28 (dk_at dksX1_lays_0 7 rfl rfl)
theorem dX1_lays_10 : decode cX1_lays 10 = .ok (.invokevirtual 130, 3) := dk_182 0 130 (dk_at dksX1_lays_0 10 rfl rfl)
theorem dX1_lays_13 : decode cX1_lays 13 = .ok (.istore 5, 2) := dk_54 5 (dk_at dksX1_lays_0 13 rfl rfl)
theorem dX1_lays_15 : decode cX1_lays 15 = .ok (.aload_n 2, 1) := dk_44 (dk_at dksX1_lays_0 15 rfl rfl)
theorem dX1_lays_16 : decode cX1_lays 16 = .ok (.getfield 143, 3) := dk_180 0 143 (dk_at dksX1_lays_0 16 rfl rfl)
theorem dX1_lays_19 : decode cX1_lays 19 = .ok (.iconst 2, 1) := dk_5 (dk_at dksX1_lays_0 19 rfl rfl)
theorem dX1_lays_20 : decode cX1_lays 20 = .ok (.iload 4, 2) := dk_21 4 (dk_at dksX1_lays_0 20 rfl rfl)
theorem dX1_lays_22 : decode cX1_lays 22 = .ok (.imul, 1) := dk_104 (dk_at dksX1_lays_0 22 rfl rfl)
theorem dX1_lays_23 : decode cX1_lays 23 = .ok (.iload 5, 2) := dk_21 5 (dk_at dksX1_lays_1 0 rfl rfl)
theorem dX1_lays_25 : decode cX1_lays 25 = .ok (.iastore, 1) := dk_79 (dk_at dksX1_lays_1 2 rfl rfl)
theorem dX1_lays_26 : decode cX1_lays 26 = .ok (.aload_n 1, 1) := dk_43 (dk_at dksX1_lays_1 3 rfl rfl)
theorem dX1_lays_27 : decode cX1_lays 27 = .ok (.getfield 152, 3) := dk_180 0 152 (dk_at dksX1_lays_1 4 rfl rfl)
theorem dX1_lays_30 : decode cX1_lays 30 = .ok (.iconst 2, 1) := dk_5 (dk_at dksX1_lays_1 7 rfl rfl)
theorem dX1_lays_31 : decode cX1_lays 31 = .ok (.iload 4, 2) := dk_21 4 (dk_at dksX1_lays_1 8 rfl rfl)
theorem dX1_lays_33 : decode cX1_lays 33 = .ok (.imul, 1) := dk_104 (dk_at dksX1_lays_1 10 rfl rfl)
theorem dX1_lays_34 : decode cX1_lays 34 = .ok (.invokestatic 110, 3) := dk_184 0 110 (dk_at dksX1_lays_1 11 rfl rfl)
theorem dX1_lays_37 : decode cX1_lays 37 = .ok (.iload 5, 2) := dk_21 5 (dk_at dksX1_lays_1 14 rfl rfl)
theorem dX1_lays_39 : decode cX1_lays 39 = .ok (.invokestatic 110, 3) := dk_184 0 110 (dk_at dksX1_lays_1 16 rfl rfl)
theorem dX1_lays_42 : decode cX1_lays 42 = .ok (.invokevirtual 155, 3) := dk_182 0 155 (dk_at dksX1_lays_1 19 rfl rfl)
theorem dX1_lays_45 : decode cX1_lays 45 = .ok (.pop, 1) := dk_87 (dk_at dksX1_lays_1 22 rfl rfl)
theorem dX1_lays_46 : decode cX1_lays 46 = .ok (.new 156, 3) := dk_187 0 156 (dk_at dksX1_lays_2 0 rfl rfl)
theorem dX1_lays_49 : decode cX1_lays 49 = .ok (.dup, 1) := dk_89 (dk_at dksX1_lays_2 3 rfl rfl)
theorem dX1_lays_50 : decode cX1_lays 50 = .ok (.invokespecial 318, 3) := dk_183 1 62 (dk_at dksX1_lays_2 4 rfl rfl)
theorem dX1_lays_53 : decode cX1_lays 53 = .ok (.astore 6, 2) := dk_58 6 (dk_at dksX1_lays_2 7 rfl rfl)
theorem dX1_lays_55 : decode cX1_lays 55 = .ok (.new 156, 3) := dk_187 0 156 (dk_at dksX1_lays_2 9 rfl rfl)
theorem dX1_lays_58 : decode cX1_lays 58 = .ok (.dup, 1) := dk_89 (dk_at dksX1_lays_2 12 rfl rfl)
theorem dX1_lays_59 : decode cX1_lays 59 = .ok (.invokespecial 318, 3) := dk_183 1 62 (dk_at dksX1_lays_2 13 rfl rfl)
theorem dX1_lays_62 : decode cX1_lays 62 = .ok (.astore 7, 2) := dk_58 7 (dk_at dksX1_lays_2 16 rfl rfl)
theorem dX1_lays_64 : decode cX1_lays 64 = .ok (.iconst 2, 1) := dk_5 (dk_at dksX1_lays_2 18 rfl rfl)
theorem dX1_lays_65 : decode cX1_lays 65 = .ok (.iload 4, 2) := dk_21 4 (dk_at dksX1_lays_2 19 rfl rfl)
theorem dX1_lays_67 : decode cX1_lays 67 = .ok (.imul, 1) := dk_104 (dk_at dksX1_lays_2 21 rfl rfl)
theorem dX1_lays_68 : decode cX1_lays 68 = .ok (.istore 8, 2) := dk_54 8 (dk_at dksX1_lays_2 22 rfl rfl)
theorem dX1_lays_70 : decode cX1_lays 70 = .ok (.aload_n 2, 1) := dk_44 (dk_at dksX1_lays_3 0 rfl rfl)
theorem dX1_lays_71 : decode cX1_lays 71 = .ok (.iload 4, 2) := dk_21 4 (dk_at dksX1_lays_3 1 rfl rfl)
theorem dX1_lays_73 : decode cX1_lays 73 = .ok (.invokevirtual 319, 3) := dk_182 1 63 (dk_at dksX1_lays_3 3 rfl rfl)
theorem dX1_lays_76 : decode cX1_lays 76 = .ok (.invokeinterface 204 1, 5) := by decide +kernel
theorem dX1_lays_81 : decode cX1_lays 81 = .ok (.astore 9, 2) := dk_58 9 (dk_at dksX1_lays_3 11 rfl rfl)
theorem dX1_lays_83 : decode cX1_lays 83 = .ok (.aload 9, 2) := dk_25 9 (dk_at dksX1_lays_3 13 rfl rfl)
theorem dX1_lays_85 : decode cX1_lays 85 = .ok (.invokeinterface 208 1, 5) := by decide +kernel
theorem dX1_lays_90 : decode cX1_lays 90 = .ok (.ifCond .eq 256, 3) := dk_153 1 0 (dk_at dksX1_lays_3 20 rfl rfl)
theorem dX1_lays_93 : decode cX1_lays 93 = .ok (.aload 9, 2) := dk_25 9 (dk_at dksX1_lays_4 0 rfl rfl)
theorem dX1_lays_95 : decode cX1_lays 95 = .ok (.invokeinterface 213 1, 5) := by decide +kernel
theorem dX1_lays_100 : decode cX1_lays 100 = .ok (.checkcast 111, 3) := dk_192 0 111 (dk_at dksX1_lays_4 7 rfl rfl)
theorem dX1_lays_103 : decode cX1_lays 103 = .ok (.invokevirtual 323, 3) := dk_182 1 67 (dk_at dksX1_lays_4 10 rfl rfl)
theorem dX1_lays_106 : decode cX1_lays 106 = .ok (.istore 10, 2) := dk_54 10 (dk_at dksX1_lays_4 13 rfl rfl)
theorem dX1_lays_108 : decode cX1_lays 108 = .ok (.iload 10, 2) := dk_21 10 (dk_at dksX1_lays_4 15 rfl rfl)
theorem dX1_lays_110 : decode cX1_lays 110 = .ok (.invokestatic 326, 3) := dk_184 1 70 (dk_at dksX1_lays_4 17 rfl rfl)
theorem dX1_lays_113 : decode cX1_lays 113 = .ok (.iload 8, 2) := dk_21 8 (dk_at dksX1_lays_4 20 rfl rfl)
theorem dX1_lays_115 : decode cX1_lays 115 = .ok (.if_icmp .ne 11, 3) := dk_160 0 11 (dk_at dksX1_lays_5 0 rfl rfl)
theorem dX1_lays_118 : decode cX1_lays 118 = .ok (.iload 10, 2) := dk_21 10 (dk_at dksX1_lays_5 3 rfl rfl)
theorem dX1_lays_120 : decode cX1_lays 120 = .ok (.invokestatic 329, 3) := dk_184 1 73 (dk_at dksX1_lays_5 5 rfl rfl)
theorem dX1_lays_123 : decode cX1_lays 123 = .ok (.goto 8, 3) := dk_167 0 8 (dk_at dksX1_lays_5 8 rfl rfl)
theorem dX1_lays_126 : decode cX1_lays 126 = .ok (.iload 10, 2) := dk_21 10 (dk_at dksX1_lays_5 11 rfl rfl)
theorem dX1_lays_128 : decode cX1_lays 128 = .ok (.invokestatic 326, 3) := dk_184 1 70 (dk_at dksX1_lays_5 13 rfl rfl)
theorem dX1_lays_131 : decode cX1_lays 131 = .ok (.istore 11, 2) := dk_54 11 (dk_at dksX1_lays_5 16 rfl rfl)
theorem dX1_lays_133 : decode cX1_lays 133 = .ok (.aload_n 2, 1) := dk_44 (dk_at dksX1_lays_5 18 rfl rfl)
theorem dX1_lays_134 : decode cX1_lays 134 = .ok (.iload 11, 2) := dk_21 11 (dk_at dksX1_lays_5 19 rfl rfl)
theorem dX1_lays_136 : decode cX1_lays 136 = .ok (.invokevirtual 332, 3) := dk_182 1 76 (dk_at dksX1_lays_5 21 rfl rfl)
theorem dX1_lays_139 : decode cX1_lays 139 = .ok (.astore 12, 2) := dk_58 12 (dk_at dksX1_lays_6 0 rfl rfl)
theorem dX1_lays_141 : decode cX1_lays 141 = .ok (.aload_n 2, 1) := dk_44 (dk_at dksX1_lays_6 2 rfl rfl)
theorem dX1_lays_142 : decode cX1_lays 142 = .ok (.getfield 335, 3) := dk_180 1 79 (dk_at dksX1_lays_6 3 rfl rfl)
theorem dX1_lays_145 : decode cX1_lays 145 = .ok (.iload 10, 2) := dk_21 10 (dk_at dksX1_lays_6 6 rfl rfl)
theorem dX1_lays_147 : decode cX1_lays 147 = .ok (.iconst 0, 1) := dk_3 (dk_at dksX1_lays_6 8 rfl rfl)
theorem dX1_lays_148 : decode cX1_lays 148 = .ok (.iastore, 1) := dk_79 (dk_at dksX1_lays_6 9 rfl rfl)
theorem dX1_lays_149 : decode cX1_lays 149 = .ok (.aload_n 2, 1) := dk_44 (dk_at dksX1_lays_6 10 rfl rfl)
theorem dX1_lays_150 : decode cX1_lays 150 = .ok (.getfield 143, 3) := dk_180 0 143 (dk_at dksX1_lays_6 11 rfl rfl)
theorem dX1_lays_153 : decode cX1_lays 153 = .ok (.iload 10, 2) := dk_21 10 (dk_at dksX1_lays_6 14 rfl rfl)
theorem dX1_lays_155 : decode cX1_lays 155 = .ok (.iconst (-1), 1) := dk_2 (dk_at dksX1_lays_6 16 rfl rfl)
theorem dX1_lays_156 : decode cX1_lays 156 = .ok (.iastore, 1) := dk_79 (dk_at dksX1_lays_6 17 rfl rfl)
theorem dX1_lays_157 : decode cX1_lays 157 = .ok (.aload 12, 2) := dk_25 12 (dk_at dksX1_lays_6 18 rfl rfl)
theorem dX1_lays_159 : decode cX1_lays 159 = .ok (.invokeinterface 96 1, 5) := by decide +kernel
theorem dX1_lays_164 : decode cX1_lays 164 = .ok (.ifCond .ne 175, 3) := dk_154 0 175 (dk_at dksX1_lays_7 5 rfl rfl)
theorem dX1_lays_167 : decode cX1_lays 167 = .ok (.aload_n 0, 1) := dk_42 (dk_at dksX1_lays_7 8 rfl rfl)
theorem dX1_lays_168 : decode cX1_lays 168 = .ok (.getfield 28, 3) := dk_180 0 28 (dk_at dksX1_lays_7 9 rfl rfl)
theorem dX1_lays_171 : decode cX1_lays 171 = .ok (.iload 5, 2) := dk_21 5 (dk_at dksX1_lays_7 12 rfl rfl)
theorem dX1_lays_173 : decode cX1_lays 173 = .ok (.iconst 2, 1) := dk_5 (dk_at dksX1_lays_7 14 rfl rfl)
theorem dX1_lays_174 : decode cX1_lays 174 = .ok (.invokevirtual 172, 3) := dk_182 0 172 (dk_at dksX1_lays_7 15 rfl rfl)
theorem dX1_lays_177 : decode cX1_lays 177 = .ok (.istore 5, 2) := dk_54 5 (dk_at dksX1_lays_7 18 rfl rfl)
theorem dX1_lays_179 : decode cX1_lays 179 = .ok (.aload_n 2, 1) := dk_44 (dk_at dksX1_lays_7 20 rfl rfl)
theorem dX1_lays_180 : decode cX1_lays 180 = .ok (.getfield 143, 3) := dk_180 0 143 (dk_at dksX1_lays_7 21 rfl rfl)
theorem dX1_lays_183 : decode cX1_lays 183 = .ok (.iload 10, 2) := dk_21 10 (dk_at dksX1_lays_8 0 rfl rfl)
theorem dX1_lays_185 : decode cX1_lays 185 = .ok (.iload 5, 2) := dk_21 5 (dk_at dksX1_lays_8 2 rfl rfl)
theorem dX1_lays_187 : decode cX1_lays 187 = .ok (.iastore, 1) := dk_79 (dk_at dksX1_lays_8 4 rfl rfl)
theorem dX1_lays_188 : decode cX1_lays 188 = .ok (.aload_n 1, 1) := dk_43 (dk_at dksX1_lays_8 5 rfl rfl)
theorem dX1_lays_189 : decode cX1_lays 189 = .ok (.getfield 152, 3) := dk_180 0 152 (dk_at dksX1_lays_8 6 rfl rfl)
theorem dX1_lays_192 : decode cX1_lays 192 = .ok (.iload 10, 2) := dk_21 10 (dk_at dksX1_lays_8 9 rfl rfl)
theorem dX1_lays_194 : decode cX1_lays 194 = .ok (.invokestatic 110, 3) := dk_184 0 110 (dk_at dksX1_lays_8 11 rfl rfl)
theorem dX1_lays_197 : decode cX1_lays 197 = .ok (.iload 5, 2) := dk_21 5 (dk_at dksX1_lays_8 14 rfl rfl)
theorem dX1_lays_199 : decode cX1_lays 199 = .ok (.invokestatic 110, 3) := dk_184 0 110 (dk_at dksX1_lays_8 16 rfl rfl)
theorem dX1_lays_202 : decode cX1_lays 202 = .ok (.invokevirtual 155, 3) := dk_182 0 155 (dk_at dksX1_lays_8 19 rfl rfl)
theorem dX1_lays_205 : decode cX1_lays 205 = .ok (.pop, 1) := dk_87 (dk_at dksX1_lays_8 22 rfl rfl)
theorem dX1_lays_206 : decode cX1_lays 206 = .ok (.aload 6, 2) := dk_25 6 (dk_at dksX1_lays_9 0 rfl rfl)
theorem dX1_lays_208 : decode cX1_lays 208 = .ok (.iload 10, 2) := dk_21 10 (dk_at dksX1_lays_9 2 rfl rfl)
theorem dX1_lays_210 : decode cX1_lays 210 = .ok (.invokestatic 110, 3) := dk_184 0 110 (dk_at dksX1_lays_9 4 rfl rfl)
theorem dX1_lays_213 : decode cX1_lays 213 = .ok (.aload_n 0, 1) := dk_42 (dk_at dksX1_lays_9 7 rfl rfl)
theorem dX1_lays_214 : decode cX1_lays 214 = .ok (.getfield 28, 3) := dk_180 0 28 (dk_at dksX1_lays_9 8 rfl rfl)
theorem dX1_lays_217 : decode cX1_lays 217 = .ok (.getfield 338, 3) := dk_180 1 82 (dk_at dksX1_lays_9 11 rfl rfl)
theorem dX1_lays_220 : decode cX1_lays 220 = .ok (.invokeinterface 63 1, 5) := by decide +kernel
theorem dX1_lays_225 : decode cX1_lays 225 = .ok (.invokestatic 110, 3) := dk_184 0 110 (dk_at dksX1_lays_9 19 rfl rfl)
theorem dX1_lays_228 : decode cX1_lays 228 = .ok (.invokevirtual 155, 3) := dk_182 0 155 (dk_at dksX1_lays_10 0 rfl rfl)
theorem dX1_lays_231 : decode cX1_lays 231 = .ok (.pop, 1) := dk_87 (dk_at dksX1_lays_10 3 rfl rfl)
theorem dX1_lays_232 : decode cX1_lays 232 = .ok (.aload 12, 2) := dk_25 12 (dk_at dksX1_lays_10 4 rfl rfl)
theorem dX1_lays_234 : decode cX1_lays 234 = .ok (.invokeinterface 204 1, 5) := by decide +kernel
theorem dX1_lays_239 : decode cX1_lays 239 = .ok (.astore 13, 2) := dk_58 13 (dk_at dksX1_lays_10 11 rfl rfl)
theorem dX1_lays_241 : decode cX1_lays 241 = .ok (.aload 13, 2) := dk_25 13 (dk_at dksX1_lays_10 13 rfl rfl)
theorem dX1_lays_243 : decode cX1_lays 243 = .ok (.invokeinterface 208 1, 5) := by decide +kernel
theorem dX1_lays_248 : decode cX1_lays 248 = .ok (.ifCond .eq 65, 3) := dk_153 0 65 (dk_at dksX1_lays_10 20 rfl rfl)
theorem dX1_lays_251 : decode cX1_lays 251 = .ok (.aload 13, 2) := dk_25 13 (dk_at dksX1_lays_11 0 rfl rfl)
theorem dX1_lays_253 : decode cX1_lays 253 = .ok (.invokeinterface 213 1, 5) := by decide +kernel
theorem dX1_lays_258 : decode cX1_lays 258 = .ok (.checkcast 111, 3) := dk_192 0 111 (dk_at dksX1_lays_11 7 rfl rfl)
theorem dX1_lays_261 : decode cX1_lays 261 = .ok (.invokevirtual 323, 3) := dk_182 1 67 (dk_at dksX1_lays_11 10 rfl rfl)
theorem dX1_lays_264 : decode cX1_lays 264 = .ok (.istore 14, 2) := dk_54 14 (dk_at dksX1_lays_11 13 rfl rfl)
theorem dX1_lays_266 : decode cX1_lays 266 = .ok (.iload 14, 2) := dk_21 14 (dk_at dksX1_lays_11 15 rfl rfl)
theorem dX1_lays_268 : decode cX1_lays 268 = .ok (.invokestatic 341, 3) := dk_184 1 85 (dk_at dksX1_lays_11 17 rfl rfl)
theorem dX1_lays_271 : decode cX1_lays 271 = .ok (.ifCond .ne 18, 3) := dk_154 0 18 (dk_at dksX1_lays_11 20 rfl rfl)
theorem dX1_lays_274 : decode cX1_lays 274 = .ok (.iload_n 3, 1) := dk_29 (dk_at dksX1_lays_11 23 rfl rfl)
theorem dX1_lays_275 : decode cX1_lays 275 = .ok (.iload 14, 2) := dk_21 14 (dk_at dksX1_lays_12 0 rfl rfl)
theorem dX1_lays_277 : decode cX1_lays 277 = .ok (.iconst 2, 1) := dk_5 (dk_at dksX1_lays_12 2 rfl rfl)
theorem dX1_lays_278 : decode cX1_lays 278 = .ok (.idiv, 1) := dk_108 (dk_at dksX1_lays_12 3 rfl rfl)
theorem dX1_lays_279 : decode cX1_lays 279 = .ok (.invokestatic 344, 3) := dk_184 1 88 (dk_at dksX1_lays_12 4 rfl rfl)
theorem dX1_lays_282 : decode cX1_lays 282 = .ok (.ifCond .eq 7, 3) := dk_153 0 7 (dk_at dksX1_lays_12 7 rfl rfl)
theorem dX1_lays_285 : decode cX1_lays 285 = .ok (.iconst 1, 1) := dk_4 (dk_at dksX1_lays_12 10 rfl rfl)
theorem dX1_lays_286 : decode cX1_lays 286 = .ok (.goto 4, 3) := dk_167 0 4 (dk_at dksX1_lays_12 11 rfl rfl)
theorem dX1_lays_289 : decode cX1_lays 289 = .ok (.iconst 0, 1) := dk_3 (dk_at dksX1_lays_12 14 rfl rfl)
theorem dX1_lays_290 : decode cX1_lays 290 = .ok (.istore 15, 2) := dk_54 15 (dk_at dksX1_lays_12 15 rfl rfl)
theorem dX1_lays_292 : decode cX1_lays 292 = .ok (.iload 15, 2) := dk_21 15 (dk_at dksX1_lays_12 17 rfl rfl)
theorem dX1_lays_294 : decode cX1_lays 294 = .ok (.ifCond .ne 16, 3) := dk_154 0 16 (dk_at dksX1_lays_12 19 rfl rfl)
theorem dX1_lays_297 : decode cX1_lays 297 = .ok (.aload_n 0, 1) := dk_42 (dk_at dksX1_lays_12 22 rfl rfl)
theorem dX1_lays_298 : decode cX1_lays 298 = .ok (.aload_n 2, 1) := dk_44 (dk_at dksX1_lays_12 23 rfl rfl)
theorem dX1_lays_299 : decode cX1_lays 299 = .ok (.getfield 143, 3) := dk_180 0 143 (dk_at dksX1_lays_13 0 rfl rfl)
theorem dX1_lays_302 : decode cX1_lays 302 = .ok (.iload 14, 2) := dk_21 14 (dk_at dksX1_lays_13 3 rfl rfl)
theorem dX1_lays_304 : decode cX1_lays 304 = .ok (.iaload, 1) := dk_46 (dk_at dksX1_lays_13 5 rfl rfl)
theorem dX1_lays_305 : decode cX1_lays 305 = .ok (.iload 5, 2) := dk_21 5 (dk_at dksX1_lays_13 6 rfl rfl)
theorem dX1_lays_307 : decode cX1_lays 307 = .ok (.invokevirtual 348, 3) := dk_182 1 92 (dk_at dksX1_lays_13 8 rfl rfl)
theorem dX1_lays_310 : decode cX1_lays 310 = .ok (.goto (-69), 3) := dk_167 255 187 (dk_at dksX1_lays_13 11 rfl rfl)
theorem dX1_lays_313 : decode cX1_lays 313 = .ok (.aload 7, 2) := dk_25 7 (dk_at dksX1_lays_13 14 rfl rfl)
theorem dX1_lays_315 : decode cX1_lays 315 = .ok (.iload 10, 2) := dk_21 10 (dk_at dksX1_lays_13 16 rfl rfl)
theorem dX1_lays_317 : decode cX1_lays 317 = .ok (.invokestatic 110, 3) := dk_184 0 110 (dk_at dksX1_lays_13 18 rfl rfl)
theorem dX1_lays_320 : decode cX1_lays 320 = .ok (.aload_n 0, 1) := dk_42 (dk_at dksX1_lays_13 21 rfl rfl)
theorem dX1_lays_321 : decode cX1_lays 321 = .ok (.getfield 28, 3) := dk_180 0 28 (dk_at dksX1_lays_14 0 rfl rfl)
theorem dX1_lays_324 : decode cX1_lays 324 = .ok (.getfield 338, 3) := dk_180 1 82 (dk_at dksX1_lays_14 3 rfl rfl)
theorem dX1_lays_327 : decode cX1_lays 327 = .ok (.invokeinterface 63 1, 5) := by decide +kernel
theorem dX1_lays_332 : decode cX1_lays 332 = .ok (.invokestatic 110, 3) := dk_184 0 110 (dk_at dksX1_lays_14 11 rfl rfl)
theorem dX1_lays_335 : decode cX1_lays 335 = .ok (.invokevirtual 155, 3) := dk_182 0 155 (dk_at dksX1_lays_14 14 rfl rfl)
theorem dX1_lays_338 : decode cX1_lays 338 = .ok (.pop, 1) := dk_87 (dk_at dksX1_lays_14 17 rfl rfl)
theorem dX1_lays_339 : decode cX1_lays 339 = .ok (.iload 10, 2) := dk_21 10 (dk_at dksX1_lays_14 18 rfl rfl)
theorem dX1_lays_341 : decode cX1_lays 341 = .ok (.istore 8, 2) := dk_54 8 (dk_at dksX1_lays_14 20 rfl rfl)
theorem dX1_lays_343 : decode cX1_lays 343 = .ok (.goto (-260), 3) := dk_167 254 252 (dk_at dksX1_lays_15 0 rfl rfl)
theorem dX1_lays_346 : decode cX1_lays 346 = .ok (.aload_n 0, 1) := dk_42 (dk_at dksX1_lays_15 3 rfl rfl)
theorem dX1_lays_347 : decode cX1_lays 347 = .ok (.getfield 28, 3) := dk_180 0 28 (dk_at dksX1_lays_15 4 rfl rfl)
theorem dX1_lays_350 : decode cX1_lays 350 = .ok (.aload_n 1, 1) := dk_43 (dk_at dksX1_lays_15 7 rfl rfl)
theorem dX1_lays_351 : decode cX1_lays 351 = .ok (.getfield 351, 3) := dk_180 1 95 (dk_at dksX1_lays_15 8 rfl rfl)
theorem dX1_lays_354 : decode cX1_lays 354 = .ok (.aload_n 0, 1) := dk_42 (dk_at dksX1_lays_15 11 rfl rfl)
theorem dX1_lays_355 : decode cX1_lays 355 = .ok (.getfield 28, 3) := dk_180 0 28 (dk_at dksX1_lays_15 12 rfl rfl)
theorem dX1_lays_358 : decode cX1_lays 358 = .ok (.iload 5, 2) := dk_21 5 (dk_at dksX1_lays_15 15 rfl rfl)
theorem dX1_lays_360 : decode cX1_lays 360 = .ok (.iconst 2, 1) := dk_5 (dk_at dksX1_lays_15 17 rfl rfl)
theorem dX1_lays_361 : decode cX1_lays 361 = .ok (.invokevirtual 172, 3) := dk_182 0 172 (dk_at dksX1_lays_15 18 rfl rfl)
theorem dX1_lays_364 : decode cX1_lays 364 = .ok (.iconst 3, 1) := dk_6 (dk_at dksX1_lays_15 21 rfl rfl)
theorem dX1_lays_365 : decode cX1_lays 365 = .ok (.invokevirtual 354, 3) := dk_182 1 98 (dk_at dksX1_lays_16 0 rfl rfl)
theorem dX1_lays_368 : decode cX1_lays 368 = .ok (.istore 9, 2) := dk_54 9 (dk_at dksX1_lays_16 3 rfl rfl)
theorem dX1_lays_370 : decode cX1_lays 370 = .ok (.new 149, 3) := dk_187 0 149 (dk_at dksX1_lays_16 5 rfl rfl)
theorem dX1_lays_373 : decode cX1_lays 373 = .ok (.dup, 1) := dk_89 (dk_at dksX1_lays_16 8 rfl rfl)
theorem dX1_lays_374 : decode cX1_lays 374 = .ok (.iload 4, 2) := dk_21 4 (dk_at dksX1_lays_16 9 rfl rfl)
theorem dX1_lays_376 : decode cX1_lays 376 = .ok (.iload 9, 2) := dk_21 9 (dk_at dksX1_lays_16 11 rfl rfl)
theorem dX1_lays_378 : decode cX1_lays 378 = .ok (.aload_n 0, 1) := dk_42 (dk_at dksX1_lays_16 13 rfl rfl)
theorem dX1_lays_379 : decode cX1_lays 379 = .ok (.getfield 28, 3) := dk_180 0 28 (dk_at dksX1_lays_16 14 rfl rfl)
theorem dX1_lays_382 : decode cX1_lays 382 = .ok (.iload 9, 2) := dk_21 9 (dk_at dksX1_lays_16 17 rfl rfl)
theorem dX1_lays_384 : decode cX1_lays 384 = .ok (.iconst 4, 1) := dk_7 (dk_at dksX1_lays_16 19 rfl rfl)
theorem dX1_lays_385 : decode cX1_lays 385 = .ok (.invokevirtual 172, 3) := dk_182 0 172 (dk_at dksX1_lays_16 20 rfl rfl)
theorem dX1_lays_388 : decode cX1_lays 388 = .ok (.invokespecial 151, 3) := dk_183 0 151 (dk_at dksX1_lays_17 0 rfl rfl)
theorem dX1_lays_391 : decode cX1_lays 391 = .ok (.astore 10, 2) := dk_58 10 (dk_at dksX1_lays_17 3 rfl rfl)
theorem dX1_lays_393 : decode cX1_lays 393 = .ok (.aload 10, 2) := dk_25 10 (dk_at dksX1_lays_17 5 rfl rfl)
theorem dX1_lays_395 : decode cX1_lays 395 = .ok (.getfield 357, 3) := dk_180 1 101 (dk_at dksX1_lays_17 7 rfl rfl)
theorem dX1_lays_398 : decode cX1_lays 398 = .ok (.aload 6, 2) := dk_25 6 (dk_at dksX1_lays_17 10 rfl rfl)
theorem dX1_lays_400 : decode cX1_lays 400 = .ok (.invokevirtual 360, 3) := dk_182 1 104 (dk_at dksX1_lays_17 12 rfl rfl)
theorem dX1_lays_403 : decode cX1_lays 403 = .ok (.aload 10, 2) := dk_25 10 (dk_at dksX1_lays_17 15 rfl rfl)
theorem dX1_lays_405 : decode cX1_lays 405 = .ok (.getfield 364, 3) := dk_180 1 108 (dk_at dksX1_lays_17 17 rfl rfl)
theorem dX1_lays_408 : decode cX1_lays 408 = .ok (.aload 7, 2) := dk_25 7 (dk_at dksX1_lays_17 20 rfl rfl)
theorem dX1_lays_410 : decode cX1_lays 410 = .ok (.invokevirtual 360, 3) := dk_182 1 104 (dk_at dksX1_lays_18 0 rfl rfl)
theorem dX1_lays_413 : decode cX1_lays 413 = .ok (.aload 10, 2) := dk_25 10 (dk_at dksX1_lays_18 3 rfl rfl)
theorem dX1_lays_415 : decode cX1_lays 415 = .ok (.areturn, 1) := dk_176 (dk_at dksX1_lays_18 5 rfl rfl)
abbrev cX1_boxes_2 : ByteArray := prog_1_method_41_code
def yX1_boxes_2 : MethodName := ⟨RX1, "boxes", "(II)V"⟩
def dkwX1_boxes_2_1 : List UInt8 := [181, 1, 114, 177]
abbrev dktX1_boxes_2_1 : List UInt8 := dkwX1_boxes_2_1 ++ []
def dkwX1_boxes_2_0 : List UInt8 := [42, 180, 0, 28, 42, 180, 0, 28, 27, 4, 182, 0, 172, 28, 182, 1, 111, 42, 89, 180, 1, 114, 4, 96]
abbrev dktX1_boxes_2_0 : List UInt8 := dkwX1_boxes_2_0 ++ dktX1_boxes_2_1
theorem dksX1_boxes_2_0 : cX1_boxes_2.data.toList.drop 0 = dktX1_boxes_2_0 := by decide +kernel
theorem dksX1_boxes_2_1 : cX1_boxes_2.data.toList.drop 24 = dktX1_boxes_2_1 := dk_seg dksX1_boxes_2_0 24 rfl rfl
theorem dX1_boxes_2_0 : decode cX1_boxes_2 0 = .ok (.aload_n 0, 1) := dk_42 (dk_at dksX1_boxes_2_0 0 rfl rfl)
theorem dX1_boxes_2_1 : decode cX1_boxes_2 1 = .ok (.getfield 28, 3) := dk_180 0 28 (dk_at dksX1_boxes_2_0 1 rfl rfl)
theorem dX1_boxes_2_4 : decode cX1_boxes_2 4 = .ok (.aload_n 0, 1) := dk_42 (dk_at dksX1_boxes_2_0 4 rfl rfl)
theorem dX1_boxes_2_5 : decode cX1_boxes_2 5 = .ok (.getfield 28, 3) := dk_180 0 28 (dk_at dksX1_boxes_2_0 5 rfl rfl)
theorem dX1_boxes_2_8 : decode cX1_boxes_2 8 = .ok (.iload_n 1, 1) := dk_27 (dk_at dksX1_boxes_2_0 8 rfl rfl)
theorem dX1_boxes_2_9 : decode cX1_boxes_2 9 = .ok (.iconst 1, 1) := dk_4 (dk_at dksX1_boxes_2_0 9 rfl rfl)
theorem dX1_boxes_2_10 : decode cX1_boxes_2 10 = .ok (.invokevirtual 172, 3) := dk_182 0 172 (dk_at dksX1_boxes_2_0 10 rfl rfl)
theorem dX1_boxes_2_13 : decode cX1_boxes_2 13 = .ok (.iload_n 2, 1) := dk_28 (dk_at dksX1_boxes_2_0 13 rfl rfl)
theorem dX1_boxes_2_14 : decode cX1_boxes_2 14 = .ok (.invokevirtual 367, 3) := dk_182 1 111 (dk_at dksX1_boxes_2_0 14 rfl rfl)
theorem dX1_boxes_2_17 : decode cX1_boxes_2 17 = .ok (.aload_n 0, 1) := dk_42 (dk_at dksX1_boxes_2_0 17 rfl rfl)
theorem dX1_boxes_2_18 : decode cX1_boxes_2 18 = .ok (.dup, 1) := dk_89 (dk_at dksX1_boxes_2_0 18 rfl rfl)
theorem dX1_boxes_2_19 : decode cX1_boxes_2 19 = .ok (.getfield 370, 3) := dk_180 1 114 (dk_at dksX1_boxes_2_0 19 rfl rfl)
theorem dX1_boxes_2_22 : decode cX1_boxes_2 22 = .ok (.iconst 1, 1) := dk_4 (dk_at dksX1_boxes_2_0 22 rfl rfl)
theorem dX1_boxes_2_23 : decode cX1_boxes_2 23 = .ok (.iadd, 1) := dk_96 (dk_at dksX1_boxes_2_0 23 rfl rfl)
theorem dX1_boxes_2_24 : decode cX1_boxes_2 24 = .ok (.putfield 370, 3) := dk_181 1 114 (dk_at dksX1_boxes_2_1 0 rfl rfl)
theorem dX1_boxes_2_27 : decode cX1_boxes_2 27 = .ok (.return_, 1) := dk_177 (dk_at dksX1_boxes_2_1 3 rfl rfl)
abbrev cX1_welcomes : ByteArray := prog_1_method_42_code
def yX1_welcomes : MethodName := ⟨RX1, "welcomes", "(LKeygrove$Tree;LKeygrove$Step;Ljava/util/List;)V"⟩
def dkwX1_welcomes_4 : List UInt8 := [167, 255, 182, 132, 4, 1, 167, 255, 159, 177]
abbrev dktX1_welcomes_4 : List UInt8 := dkwX1_welcomes_4 ++ []
def dkwX1_welcomes_3 : List UInt8 := [42, 25, 6, 180, 1, 116, 43, 180, 0, 143, 43, 44, 180, 1, 122, 21, 4, 184, 1, 123, 46, 182, 1, 92]
abbrev dktX1_welcomes_3 : List UInt8 := dkwX1_welcomes_3 ++ dktX1_welcomes_4
def dkwX1_welcomes_2 : List UInt8 := [21, 4, 46, 25, 6, 180, 0, 225, 160, 0, 40, 42, 25, 6, 180, 1, 116, 44, 180, 1, 119, 182, 1, 92]
abbrev dktX1_welcomes_2 : List UInt8 := dkwX1_welcomes_2 ++ dktX1_welcomes_3
def dkwX1_welcomes_1 : List UInt8 := [185, 0, 208, 1, 0, 153, 0, 70, 25, 5, 185, 0, 213, 1, 0, 192, 0, 133, 58, 6, 43, 180, 0, 147]
abbrev dktX1_welcomes_1 : List UInt8 := dkwX1_welcomes_1 ++ dktX1_welcomes_2
def dkwX1_welcomes_0 : List UInt8 := [3, 54, 4, 21, 4, 43, 180, 0, 176, 162, 0, 94, 45, 185, 0, 204, 1, 0, 58, 5, 25, 5]
abbrev dktX1_welcomes_0 : List UInt8 := dkwX1_welcomes_0 ++ dktX1_welcomes_1
theorem dksX1_welcomes_0 : cX1_welcomes.data.toList.drop 0 = dktX1_welcomes_0 := by decide +kernel
theorem dksX1_welcomes_1 : cX1_welcomes.data.toList.drop 22 = dktX1_welcomes_1 := dk_seg dksX1_welcomes_0 22 rfl rfl
theorem dksX1_welcomes_2 : cX1_welcomes.data.toList.drop 46 = dktX1_welcomes_2 := dk_seg dksX1_welcomes_1 24 rfl rfl
theorem dksX1_welcomes_3 : cX1_welcomes.data.toList.drop 70 = dktX1_welcomes_3 := dk_seg dksX1_welcomes_2 24 rfl rfl
theorem dksX1_welcomes_4 : cX1_welcomes.data.toList.drop 94 = dktX1_welcomes_4 := dk_seg dksX1_welcomes_3 24 rfl rfl
theorem dX1_welcomes_0 : decode cX1_welcomes 0 = .ok (.iconst 0, 1) := dk_3 (dk_at dksX1_welcomes_0 0 rfl rfl)
theorem dX1_welcomes_1 : decode cX1_welcomes 1 = .ok (.istore 4, 2) := dk_54 4 (dk_at dksX1_welcomes_0 1 rfl rfl)
theorem dX1_welcomes_3 : decode cX1_welcomes 3 = .ok (.iload 4, 2) := dk_21 4 (dk_at dksX1_welcomes_0 3 rfl rfl)
theorem dX1_welcomes_5 : decode cX1_welcomes 5 = .ok (.aload_n 1, 1) := dk_43 (dk_at dksX1_welcomes_0 5 rfl rfl)
theorem dX1_welcomes_6 : decode cX1_welcomes 6 = .ok (.getfield 176, 3) := dk_180 0 176 (dk_at dksX1_welcomes_0 6 rfl rfl)
theorem dX1_welcomes_9 : decode cX1_welcomes 9 = .ok (.if_icmp .ge 94, 3) := dk_162 0 94 (dk_at dksX1_welcomes_0 9 rfl rfl)
theorem dX1_welcomes_12 : decode cX1_welcomes 12 = .ok (.aload_n 3, 1) := dk_45 (dk_at dksX1_welcomes_0 12 rfl rfl)
theorem dX1_welcomes_13 : decode cX1_welcomes 13 = .ok (.invokeinterface 204 1, 5) := by decide +kernel
theorem dX1_welcomes_18 : decode cX1_welcomes 18 = .ok (.astore 5, 2) := dk_58 5 (dk_at dksX1_welcomes_0 18 rfl rfl)
theorem dX1_welcomes_20 : decode cX1_welcomes 20 = .ok (.aload 5, 2) := dk_25 5 (dk_at dksX1_welcomes_0 20 rfl rfl)
theorem dX1_welcomes_22 : decode cX1_welcomes 22 = .ok (.invokeinterface 208 1, 5) := by decide +kernel
theorem dX1_welcomes_27 : decode cX1_welcomes 27 = .ok (.ifCond .eq 70, 3) := dk_153 0 70 (dk_at dksX1_welcomes_1 5 rfl rfl)
theorem dX1_welcomes_30 : decode cX1_welcomes 30 = .ok (.aload 5, 2) := dk_25 5 (dk_at dksX1_welcomes_1 8 rfl rfl)
theorem dX1_welcomes_32 : decode cX1_welcomes 32 = .ok (.invokeinterface 213 1, 5) := by decide +kernel
theorem dX1_welcomes_37 : decode cX1_welcomes 37 = .ok (.checkcast 133, 3) := dk_192 0 133 (dk_at dksX1_welcomes_1 15 rfl rfl)
theorem dX1_welcomes_40 : decode cX1_welcomes 40 = .ok (.astore 6, 2) := dk_58 6 (dk_at dksX1_welcomes_1 18 rfl rfl)
theorem dX1_welcomes_42 : decode cX1_welcomes 42 = .ok (.aload_n 1, 1) := dk_43 (dk_at dksX1_welcomes_1 20 rfl rfl)
theorem dX1_welcomes_43 : decode cX1_welcomes 43 = .ok (.getfield 147, 3) := dk_180 0 147 (dk_at dksX1_welcomes_1 21 rfl rfl)
theorem dX1_welcomes_46 : decode cX1_welcomes 46 = .ok (.iload 4, 2) := dk_21 4 (dk_at dksX1_welcomes_2 0 rfl rfl)
theorem dX1_welcomes_48 : decode cX1_welcomes 48 = .ok (.iaload, 1) := dk_46 (dk_at dksX1_welcomes_2 2 rfl rfl)
theorem dX1_welcomes_49 : decode cX1_welcomes 49 = .ok (.aload 6, 2) := dk_25 6 (dk_at dksX1_welcomes_2 3 rfl rfl)
theorem dX1_welcomes_51 : decode cX1_welcomes 51 = .ok (.getfield 225, 3) := dk_180 0 225 (dk_at dksX1_welcomes_2 5 rfl rfl)
theorem dX1_welcomes_54 : decode cX1_welcomes 54 = .ok (.if_icmp .ne 40, 3) := dk_160 0 40 (dk_at dksX1_welcomes_2 8 rfl rfl)
theorem dX1_welcomes_57 : decode cX1_welcomes 57 = .ok (.aload_n 0, 1) := dk_42 (dk_at dksX1_welcomes_2 11 rfl rfl)
theorem dX1_welcomes_58 : decode cX1_welcomes 58 = .ok (.aload 6, 2) := dk_25 6 (dk_at dksX1_welcomes_2 12 rfl rfl)
theorem dX1_welcomes_60 : decode cX1_welcomes 60 = .ok (.getfield 372, 3) := dk_180 1 116 (dk_at dksX1_welcomes_2 14 rfl rfl)
theorem dX1_welcomes_63 : decode cX1_welcomes 63 = .ok (.aload_n 2, 1) := dk_44 (dk_at dksX1_welcomes_2 17 rfl rfl)
theorem dX1_welcomes_64 : decode cX1_welcomes 64 = .ok (.getfield 375, 3) := dk_180 1 119 (dk_at dksX1_welcomes_2 18 rfl rfl)
theorem dX1_welcomes_67 : decode cX1_welcomes 67 = .ok (.invokevirtual 348, 3) := dk_182 1 92 (dk_at dksX1_welcomes_2 21 rfl rfl)
theorem dX1_welcomes_70 : decode cX1_welcomes 70 = .ok (.aload_n 0, 1) := dk_42 (dk_at dksX1_welcomes_3 0 rfl rfl)
theorem dX1_welcomes_71 : decode cX1_welcomes 71 = .ok (.aload 6, 2) := dk_25 6 (dk_at dksX1_welcomes_3 1 rfl rfl)
theorem dX1_welcomes_73 : decode cX1_welcomes 73 = .ok (.getfield 372, 3) := dk_180 1 116 (dk_at dksX1_welcomes_3 3 rfl rfl)
theorem dX1_welcomes_76 : decode cX1_welcomes 76 = .ok (.aload_n 1, 1) := dk_43 (dk_at dksX1_welcomes_3 6 rfl rfl)
theorem dX1_welcomes_77 : decode cX1_welcomes 77 = .ok (.getfield 143, 3) := dk_180 0 143 (dk_at dksX1_welcomes_3 7 rfl rfl)
theorem dX1_welcomes_80 : decode cX1_welcomes 80 = .ok (.aload_n 1, 1) := dk_43 (dk_at dksX1_welcomes_3 10 rfl rfl)
theorem dX1_welcomes_81 : decode cX1_welcomes 81 = .ok (.aload_n 2, 1) := dk_44 (dk_at dksX1_welcomes_3 11 rfl rfl)
theorem dX1_welcomes_82 : decode cX1_welcomes 82 = .ok (.getfield 378, 3) := dk_180 1 122 (dk_at dksX1_welcomes_3 12 rfl rfl)
theorem dX1_welcomes_85 : decode cX1_welcomes 85 = .ok (.iload 4, 2) := dk_21 4 (dk_at dksX1_welcomes_3 15 rfl rfl)
theorem dX1_welcomes_87 : decode cX1_welcomes 87 = .ok (.invokestatic 379, 3) := dk_184 1 123 (dk_at dksX1_welcomes_3 17 rfl rfl)
theorem dX1_welcomes_90 : decode cX1_welcomes 90 = .ok (.iaload, 1) := dk_46 (dk_at dksX1_welcomes_3 20 rfl rfl)
theorem dX1_welcomes_91 : decode cX1_welcomes 91 = .ok (.invokevirtual 348, 3) := dk_182 1 92 (dk_at dksX1_welcomes_3 21 rfl rfl)
theorem dX1_welcomes_94 : decode cX1_welcomes 94 = .ok (.goto (-74), 3) := dk_167 255 182 (dk_at dksX1_welcomes_4 0 rfl rfl)
theorem dX1_welcomes_97 : decode cX1_welcomes 97 = .ok (.iinc 4 1, 3) := dk_132 4 1 (dk_at dksX1_welcomes_4 3 rfl rfl)
theorem dX1_welcomes_100 : decode cX1_welcomes 100 = .ok (.goto (-97), 3) := dk_167 255 159 (dk_at dksX1_welcomes_4 6 rfl rfl)
theorem dX1_welcomes_103 : decode cX1_welcomes 103 = .ok (.return_, 1) := dk_177 (dk_at dksX1_welcomes_4 9 rfl rfl)
abbrev cX1_meeting : ByteArray := prog_1_method_43_code
def yX1_meeting : MethodName := ⟨RX1, "meeting", "(LKeygrove$Tree;II)I"⟩
def dkwX1_meeting_3 : List UInt8 := [167, 255, 201, 29, 172]
abbrev dktX1_meeting_3 : List UInt8 := dkwX1_meeting_3 ++ []
def dkwX1_meeting_2 : List UInt8 := [182, 1, 127, 154, 0, 17, 21, 5, 28, 184, 1, 130, 153, 0, 8, 21, 5, 167, 0, 4, 29, 62]
abbrev dktX1_meeting_2 : List UInt8 := dkwX1_meeting_2 ++ dktX1_meeting_3
def dkwX1_meeting_1 : List UInt8 := [25, 4, 185, 0, 213, 1, 0, 192, 0, 111, 182, 1, 67, 54, 5, 29, 2, 160, 0, 26, 42, 21, 5]
abbrev dktX1_meeting_1 : List UInt8 := dkwX1_meeting_1 ++ dktX1_meeting_2
def dkwX1_meeting_0 : List UInt8 := [2, 62, 42, 27, 182, 1, 63, 185, 0, 204, 1, 0, 58, 4, 25, 4, 185, 0, 208, 1, 0, 153, 0, 51]
abbrev dktX1_meeting_0 : List UInt8 := dkwX1_meeting_0 ++ dktX1_meeting_1
theorem dksX1_meeting_0 : cX1_meeting.data.toList.drop 0 = dktX1_meeting_0 := by decide +kernel
theorem dksX1_meeting_1 : cX1_meeting.data.toList.drop 24 = dktX1_meeting_1 := dk_seg dksX1_meeting_0 24 rfl rfl
theorem dksX1_meeting_2 : cX1_meeting.data.toList.drop 47 = dktX1_meeting_2 := dk_seg dksX1_meeting_1 23 rfl rfl
theorem dksX1_meeting_3 : cX1_meeting.data.toList.drop 69 = dktX1_meeting_3 := dk_seg dksX1_meeting_2 22 rfl rfl
theorem dX1_meeting_0 : decode cX1_meeting 0 = .ok (.iconst (-1), 1) := dk_2 (dk_at dksX1_meeting_0 0 rfl rfl)
theorem dX1_meeting_1 : decode cX1_meeting 1 = .ok (.istore_n 3, 1) := dk_62 (dk_at dksX1_meeting_0 1 rfl rfl)
theorem dX1_meeting_2 : decode cX1_meeting 2 = .ok (.aload_n 0, 1) := dk_42 (dk_at dksX1_meeting_0 2 rfl rfl)
theorem dX1_meeting_3 : decode cX1_meeting 3 = .ok (.iload_n 1, 1) := dk_27 (dk_at dksX1_meeting_0 3 rfl rfl)
theorem dX1_meeting_4 : decode cX1_meeting 4 = .ok (.invokevirtual 319, 3) := dk_182 1 63 (dk_at dksX1_meeting_0 4 rfl rfl)
theorem dX1_meeting_7 : decode cX1_meeting 7 = .ok (.invokeinterface 204 1, 5) := by decide +kernel
theorem dX1_meeting_12 : decode cX1_meeting 12 = .ok (.astore 4, 2) := dk_58 4 (dk_at dksX1_meeting_0 12 rfl rfl)
theorem dX1_meeting_14 : decode cX1_meeting 14 = .ok (.aload 4, 2) := dk_25 4 (dk_at dksX1_meeting_0 14 rfl rfl)
theorem dX1_meeting_16 : decode cX1_meeting 16 = .ok (.invokeinterface 208 1, 5) := by decide +kernel
theorem dX1_meeting_21 : decode cX1_meeting 21 = .ok (.ifCond .eq 51, 3) := dk_153 0 51 (dk_at dksX1_meeting_0 21 rfl rfl)
theorem dX1_meeting_24 : decode cX1_meeting 24 = .ok (.aload 4, 2) := dk_25 4 (dk_at dksX1_meeting_1 0 rfl rfl)
theorem dX1_meeting_26 : decode cX1_meeting 26 = .ok (.invokeinterface 213 1, 5) := by decide +kernel
theorem dX1_meeting_31 : decode cX1_meeting 31 = .ok (.checkcast 111, 3) := dk_192 0 111 (dk_at dksX1_meeting_1 7 rfl rfl)
theorem dX1_meeting_34 : decode cX1_meeting 34 = .ok (.invokevirtual 323, 3) := dk_182 1 67 (dk_at dksX1_meeting_1 10 rfl rfl)
theorem dX1_meeting_37 : decode cX1_meeting 37 = .ok (.istore 5, 2) := dk_54 5 (dk_at dksX1_meeting_1 13 rfl rfl)
theorem dX1_meeting_39 : decode cX1_meeting 39 = .ok (.iload_n 3, 1) := dk_29 (dk_at dksX1_meeting_1 15 rfl rfl)
theorem dX1_meeting_40 : decode cX1_meeting 40 = .ok (.iconst (-1), 1) := dk_2 (dk_at dksX1_meeting_1 16 rfl rfl)
theorem dX1_meeting_41 : decode cX1_meeting 41 = .ok (.if_icmp .ne 26, 3) := dk_160 0 26 (dk_at dksX1_meeting_1 17 rfl rfl)
theorem dX1_meeting_44 : decode cX1_meeting 44 = .ok (.aload_n 0, 1) := dk_42 (dk_at dksX1_meeting_1 20 rfl rfl)
theorem dX1_meeting_45 : decode cX1_meeting 45 = .ok (.iload 5, 2) := dk_21 5 (dk_at dksX1_meeting_1 21 rfl rfl)
theorem dX1_meeting_47 : decode cX1_meeting 47 = .ok (.invokevirtual 383, 3) := dk_182 1 127 (dk_at dksX1_meeting_2 0 rfl rfl)
theorem dX1_meeting_50 : decode cX1_meeting 50 = .ok (.ifCond .ne 17, 3) := dk_154 0 17 (dk_at dksX1_meeting_2 3 rfl rfl)
theorem dX1_meeting_53 : decode cX1_meeting 53 = .ok (.iload 5, 2) := dk_21 5 (dk_at dksX1_meeting_2 6 rfl rfl)
theorem dX1_meeting_55 : decode cX1_meeting 55 = .ok (.iload_n 2, 1) := dk_28 (dk_at dksX1_meeting_2 8 rfl rfl)
theorem dX1_meeting_56 : decode cX1_meeting 56 = .ok (.invokestatic 386, 3) := dk_184 1 130 (dk_at dksX1_meeting_2 9 rfl rfl)
theorem dX1_meeting_59 : decode cX1_meeting 59 = .ok (.ifCond .eq 8, 3) := dk_153 0 8 (dk_at dksX1_meeting_2 12 rfl rfl)
theorem dX1_meeting_62 : decode cX1_meeting 62 = .ok (.iload 5, 2) := dk_21 5 (dk_at dksX1_meeting_2 15 rfl rfl)
theorem dX1_meeting_64 : decode cX1_meeting 64 = .ok (.goto 4, 3) := dk_167 0 4 (dk_at dksX1_meeting_2 17 rfl rfl)
theorem dX1_meeting_67 : decode cX1_meeting 67 = .ok (.iload_n 3, 1) := dk_29 (dk_at dksX1_meeting_2 20 rfl rfl)
theorem dX1_meeting_68 : decode cX1_meeting 68 = .ok (.istore_n 3, 1) := dk_62 (dk_at dksX1_meeting_2 21 rfl rfl)
theorem dX1_meeting_69 : decode cX1_meeting 69 = .ok (.goto (-55), 3) := dk_167 255 201 (dk_at dksX1_meeting_3 0 rfl rfl)
theorem dX1_meeting_72 : decode cX1_meeting 72 = .ok (.iload_n 3, 1) := dk_29 (dk_at dksX1_meeting_3 3 rfl rfl)
theorem dX1_meeting_73 : decode cX1_meeting 73 = .ok (.ireturn, 1) := dk_172 (dk_at dksX1_meeting_3 4 rfl rfl)
abbrev cX1_goOn : ByteArray := prog_1_method_45_code
def yX1_goOn : MethodName := ⟨RX1, "goOn", "(I)C"⟩
def dkwX1_goOn_13 : List UInt8 := [182, 1, 98, 54, 10, 44, 29, 42, 180, 0, 28, 21, 10, 7, 182, 0, 172, 182, 0, 168, 16, 109, 172]
abbrev dktX1_goOn_13 : List UInt8 := dkwX1_goOn_13 ++ []
def dkwX1_goOn_12 : List UInt8 := [182, 1, 148, 54, 9, 42, 180, 0, 28, 44, 180, 1, 95, 42, 180, 0, 28, 21, 9, 5, 182, 0, 172, 6]
abbrev dktX1_goOn_12 : List UInt8 := dkwX1_goOn_12 ++ dktX1_goOn_13
def dkwX1_goOn_11 : List UInt8 := [167, 0, 5, 21, 11, 54, 8, 167, 255, 167, 42, 44, 25, 4, 25, 5, 180, 1, 122, 21, 7, 21, 8]
abbrev dktX1_goOn_11 : List UInt8 := dkwX1_goOn_11 ++ dktX1_goOn_12
def dkwX1_goOn_10 : List UInt8 := [182, 1, 142, 192, 0, 111, 182, 1, 67, 21, 10, 182, 1, 145, 54, 11, 21, 11, 2, 160, 0, 8, 21, 8]
abbrev dktX1_goOn_10 : List UInt8 := dkwX1_goOn_10 ++ dktX1_goOn_11
def dkwX1_goOn_9 : List UInt8 := [184, 0, 110, 182, 1, 142, 192, 0, 111, 182, 1, 67, 25, 5, 180, 1, 108, 21, 7, 184, 0, 110]
abbrev dktX1_goOn_9 : List UInt8 := dkwX1_goOn_9 ++ dktX1_goOn_10
def dkwX1_goOn_8 : List UInt8 := [185, 0, 213, 1, 0, 192, 0, 111, 182, 1, 67, 54, 10, 42, 180, 0, 28, 25, 5, 180, 1, 101, 21, 7]
abbrev dktX1_goOn_8 : List UInt8 := dkwX1_goOn_8 ++ dktX1_goOn_9
def dkwX1_goOn_7 : List UInt8 := [182, 1, 135, 185, 1, 139, 1, 0, 58, 9, 25, 9, 185, 0, 208, 1, 0, 153, 0, 85, 25, 9]
abbrev dktX1_goOn_7 : List UInt8 := dkwX1_goOn_7 ++ dktX1_goOn_8
def dkwX1_goOn_6 : List UInt8 := [87, 25, 4, 25, 5, 180, 1, 122, 21, 6, 184, 1, 123, 54, 7, 2, 54, 8, 44, 180, 0, 152]
abbrev dktX1_goOn_6 : List UInt8 := dkwX1_goOn_6 ++ dktX1_goOn_7
def dkwX1_goOn_5 : List UInt8 := [160, 0, 25, 44, 180, 0, 152, 5, 21, 6, 104, 184, 0, 110, 44, 180, 0, 255, 184, 0, 110, 182, 0, 155]
abbrev dktX1_goOn_5 : List UInt8 := dkwX1_goOn_5 ++ dktX1_goOn_6
def dkwX1_goOn_4 : List UInt8 := [54, 6, 44, 180, 0, 255, 2, 159, 0, 42, 25, 4, 180, 0, 143, 5, 21, 6, 104, 46, 44, 180, 0, 255]
abbrev dktX1_goOn_4 : List UInt8 := dkwX1_goOn_4 ++ dktX1_goOn_5
def dkwX1_goOn_3 : List UInt8 := [16, 111, 172, 42, 180, 0, 50, 29, 185, 0, 77, 2, 0, 192, 0, 149, 58, 5, 25, 4, 27, 182, 0, 201]
abbrev dktX1_goOn_3 : List UInt8 := dkwX1_goOn_3 ++ dktX1_goOn_4
def dkwX1_goOn_2 : List UInt8 := [185, 0, 77, 2, 0, 192, 0, 86, 58, 4, 25, 4, 27, 182, 0, 201, 2, 160, 0, 10, 44, 182, 1, 133]
abbrev dktX1_goOn_2 : List UInt8 := dkwX1_goOn_2 ++ dktX1_goOn_3
def dkwX1_goOn_1 : List UInt8 := [4, 167, 0, 4, 3, 184, 0, 182, 44, 180, 0, 92, 4, 96, 62, 42, 180, 0, 47, 29]
abbrev dktX1_goOn_1 : List UInt8 := dkwX1_goOn_1 ++ dktX1_goOn_2
def dkwX1_goOn_0 : List UInt8 := [42, 27, 182, 0, 126, 77, 44, 182, 0, 88, 153, 0, 18, 44, 180, 0, 92, 42, 182, 0, 83, 162, 0, 7]
abbrev dktX1_goOn_0 : List UInt8 := dkwX1_goOn_0 ++ dktX1_goOn_1
theorem dksX1_goOn_0 : cX1_goOn.data.toList.drop 0 = dktX1_goOn_0 := by decide +kernel
theorem dksX1_goOn_1 : cX1_goOn.data.toList.drop 24 = dktX1_goOn_1 := dk_seg dksX1_goOn_0 24 rfl rfl
theorem dksX1_goOn_2 : cX1_goOn.data.toList.drop 44 = dktX1_goOn_2 := dk_seg dksX1_goOn_1 20 rfl rfl
theorem dksX1_goOn_3 : cX1_goOn.data.toList.drop 68 = dktX1_goOn_3 := dk_seg dksX1_goOn_2 24 rfl rfl
theorem dksX1_goOn_4 : cX1_goOn.data.toList.drop 92 = dktX1_goOn_4 := dk_seg dksX1_goOn_3 24 rfl rfl
theorem dksX1_goOn_5 : cX1_goOn.data.toList.drop 116 = dktX1_goOn_5 := dk_seg dksX1_goOn_4 24 rfl rfl
theorem dksX1_goOn_6 : cX1_goOn.data.toList.drop 140 = dktX1_goOn_6 := dk_seg dksX1_goOn_5 24 rfl rfl
theorem dksX1_goOn_7 : cX1_goOn.data.toList.drop 162 = dktX1_goOn_7 := dk_seg dksX1_goOn_6 22 rfl rfl
theorem dksX1_goOn_8 : cX1_goOn.data.toList.drop 184 = dktX1_goOn_8 := dk_seg dksX1_goOn_7 22 rfl rfl
theorem dksX1_goOn_9 : cX1_goOn.data.toList.drop 208 = dktX1_goOn_9 := dk_seg dksX1_goOn_8 24 rfl rfl
theorem dksX1_goOn_10 : cX1_goOn.data.toList.drop 230 = dktX1_goOn_10 := dk_seg dksX1_goOn_9 22 rfl rfl
theorem dksX1_goOn_11 : cX1_goOn.data.toList.drop 254 = dktX1_goOn_11 := dk_seg dksX1_goOn_10 24 rfl rfl
theorem dksX1_goOn_12 : cX1_goOn.data.toList.drop 277 = dktX1_goOn_12 := dk_seg dksX1_goOn_11 23 rfl rfl
theorem dksX1_goOn_13 : cX1_goOn.data.toList.drop 301 = dktX1_goOn_13 := dk_seg dksX1_goOn_12 24 rfl rfl
theorem dX1_goOn_0 : decode cX1_goOn 0 = .ok (.aload_n 0, 1) := dk_42 (dk_at dksX1_goOn_0 0 rfl rfl)
theorem dX1_goOn_1 : decode cX1_goOn 1 = .ok (.iload_n 1, 1) := dk_27 (dk_at dksX1_goOn_0 1 rfl rfl)
theorem dX1_goOn_2 : decode cX1_goOn 2 = .ok (.invokevirtual 126, 3) := dk_182 0 126 (dk_at dksX1_goOn_0 2 rfl rfl)
theorem dX1_goOn_5 : decode cX1_goOn 5 = .ok (.astore_n 2, 1) := dk_77 (dk_at dksX1_goOn_0 5 rfl rfl)
theorem dX1_goOn_6 : decode cX1_goOn 6 = .ok (.aload_n 2, 1) := dk_44 (dk_at dksX1_goOn_0 6 rfl rfl)
theorem dX1_goOn_7 : decode cX1_goOn 7 = .ok (.invokevirtual 88, 3) := dk_182 0 88 (dk_at dksX1_goOn_0 7 rfl rfl)
theorem dX1_goOn_10 : decode cX1_goOn 10 = .ok (.ifCond .eq 18, 3) := dk_153 0 18 (dk_at dksX1_goOn_0 10 rfl rfl)
theorem dX1_goOn_13 : decode cX1_goOn 13 = .ok (.aload_n 2, 1) := dk_44 (dk_at dksX1_goOn_0 13 rfl rfl)
theorem dX1_goOn_14 : decode cX1_goOn 14 = .ok (.getfield 92, 3) := dk_180 0 92 (dk_at dksX1_goOn_0 14 rfl rfl)
theorem dX1_goOn_17 : decode cX1_goOn 17 = .ok (.aload_n 0, 1) := dk_42 (dk_at dksX1_goOn_0 17 rfl rfl)
theorem dX1_goOn_18 : decode cX1_goOn 18 = .ok (.invokevirtual 83, 3) := dk_182 0 83 (dk_at dksX1_goOn_0 18 rfl rfl)
theorem dX1_goOn_21 : decode cX1_goOn 21 = .ok (.if_icmp .ge 7, 3) := dk_162 0 7 (dk_at dksX1_goOn_0 21 rfl rfl)
theorem dX1_goOn_24 : decode cX1_goOn 24 = .ok (.iconst 1, 1) := dk_4 (dk_at dksX1_goOn_1 0 rfl rfl)
theorem dX1_goOn_25 : decode cX1_goOn 25 = .ok (.goto 4, 3) := dk_167 0 4 (dk_at dksX1_goOn_1 1 rfl rfl)
theorem dX1_goOn_28 : decode cX1_goOn 28 = .ok (.iconst 0, 1) := dk_3 (dk_at dksX1_goOn_1 4 rfl rfl)
theorem dX1_goOn_29 : decode cX1_goOn 29 = .ok (.invokestatic 182, 3) := dk_184 0 182 (dk_at dksX1_goOn_1 5 rfl rfl)
theorem dX1_goOn_32 : decode cX1_goOn 32 = .ok (.aload_n 2, 1) := dk_44 (dk_at dksX1_goOn_1 8 rfl rfl)
theorem dX1_goOn_33 : decode cX1_goOn 33 = .ok (.getfield 92, 3) := dk_180 0 92 (dk_at dksX1_goOn_1 9 rfl rfl)
theorem dX1_goOn_36 : decode cX1_goOn 36 = .ok (.iconst 1, 1) := dk_4 (dk_at dksX1_goOn_1 12 rfl rfl)
theorem dX1_goOn_37 : decode cX1_goOn 37 = .ok (.iadd, 1) := dk_96 (dk_at dksX1_goOn_1 13 rfl rfl)
theorem dX1_goOn_38 : decode cX1_goOn 38 = .ok (.istore_n 3, 1) := dk_62 (dk_at dksX1_goOn_1 14 rfl rfl)
theorem dX1_goOn_39 : decode cX1_goOn 39 = .ok (.aload_n 0, 1) := dk_42 (dk_at dksX1_goOn_1 15 rfl rfl)
theorem dX1_goOn_40 : decode cX1_goOn 40 = .ok (.getfield 47, 3) := dk_180 0 47 (dk_at dksX1_goOn_1 16 rfl rfl)
theorem dX1_goOn_43 : decode cX1_goOn 43 = .ok (.iload_n 3, 1) := dk_29 (dk_at dksX1_goOn_1 19 rfl rfl)
theorem dX1_goOn_44 : decode cX1_goOn 44 = .ok (.invokeinterface 77 2, 5) := by decide +kernel
theorem dX1_goOn_49 : decode cX1_goOn 49 = .ok (.checkcast 86, 3) := dk_192 0 86 (dk_at dksX1_goOn_2 5 rfl rfl)
theorem dX1_goOn_52 : decode cX1_goOn 52 = .ok (.astore 4, 2) := dk_58 4 (dk_at dksX1_goOn_2 8 rfl rfl)
theorem dX1_goOn_54 : decode cX1_goOn 54 = .ok (.aload 4, 2) := dk_25 4 (dk_at dksX1_goOn_2 10 rfl rfl)
theorem dX1_goOn_56 : decode cX1_goOn 56 = .ok (.iload_n 1, 1) := dk_27 (dk_at dksX1_goOn_2 12 rfl rfl)
theorem dX1_goOn_57 : decode cX1_goOn 57 = .ok (.invokevirtual 201, 3) := dk_182 0 201 (dk_at dksX1_goOn_2 13 rfl rfl)
theorem dX1_goOn_60 : decode cX1_goOn 60 = .ok (.iconst (-1), 1) := dk_2 (dk_at dksX1_goOn_2 16 rfl rfl)
theorem dX1_goOn_61 : decode cX1_goOn 61 = .ok (.if_icmp .ne 10, 3) := dk_160 0 10 (dk_at dksX1_goOn_2 17 rfl rfl)
theorem dX1_goOn_64 : decode cX1_goOn 64 = .ok (.aload_n 2, 1) := dk_44 (dk_at dksX1_goOn_2 20 rfl rfl)
theorem dX1_goOn_65 : decode cX1_goOn 65 = .ok (.invokevirtual 389, 3) := dk_182 1 133 (dk_at dksX1_goOn_2 21 rfl rfl)
theorem dX1_goOn_68 : decode cX1_goOn 68 = .ok (.bipush 111, 2) := dk_16 111 (dk_at dksX1_goOn_3 0 rfl rfl)
theorem dX1_goOn_70 : decode cX1_goOn 70 = .ok (.ireturn, 1) := dk_172 (dk_at dksX1_goOn_3 2 rfl rfl)
theorem dX1_goOn_71 : decode cX1_goOn 71 = .ok (.aload_n 0, 1) := dk_42 (dk_at dksX1_goOn_3 3 rfl rfl)
theorem dX1_goOn_72 : decode cX1_goOn 72 = .ok (.getfield 50, 3) := dk_180 0 50 (dk_at dksX1_goOn_3 4 rfl rfl)
theorem dX1_goOn_75 : decode cX1_goOn 75 = .ok (.iload_n 3, 1) := dk_29 (dk_at dksX1_goOn_3 7 rfl rfl)
theorem dX1_goOn_76 : decode cX1_goOn 76 = .ok (.invokeinterface 77 2, 5) := by decide +kernel
theorem dX1_goOn_81 : decode cX1_goOn 81 = .ok (.checkcast 149, 3) := dk_192 0 149 (dk_at dksX1_goOn_3 13 rfl rfl)
theorem dX1_goOn_84 : decode cX1_goOn 84 = .ok (.astore 5, 2) := dk_58 5 (dk_at dksX1_goOn_3 16 rfl rfl)
theorem dX1_goOn_86 : decode cX1_goOn 86 = .ok (.aload 4, 2) := dk_25 4 (dk_at dksX1_goOn_3 18 rfl rfl)
theorem dX1_goOn_88 : decode cX1_goOn 88 = .ok (.iload_n 1, 1) := dk_27 (dk_at dksX1_goOn_3 20 rfl rfl)
theorem dX1_goOn_89 : decode cX1_goOn 89 = .ok (.invokevirtual 201, 3) := dk_182 0 201 (dk_at dksX1_goOn_3 21 rfl rfl)
theorem dX1_goOn_92 : decode cX1_goOn 92 = .ok (.istore 6, 2) := dk_54 6 (dk_at dksX1_goOn_4 0 rfl rfl)
theorem dX1_goOn_94 : decode cX1_goOn 94 = .ok (.aload_n 2, 1) := dk_44 (dk_at dksX1_goOn_4 2 rfl rfl)
theorem dX1_goOn_95 : decode cX1_goOn 95 = .ok (.getfield 255, 3) := dk_180 0 255 (dk_at dksX1_goOn_4 3 rfl rfl)
theorem dX1_goOn_98 : decode cX1_goOn 98 = .ok (.iconst (-1), 1) := dk_2 (dk_at dksX1_goOn_4 6 rfl rfl)
theorem dX1_goOn_99 : decode cX1_goOn 99 = .ok (.if_icmp .eq 42, 3) := dk_159 0 42 (dk_at dksX1_goOn_4 7 rfl rfl)
theorem dX1_goOn_102 : decode cX1_goOn 102 = .ok (.aload 4, 2) := dk_25 4 (dk_at dksX1_goOn_4 10 rfl rfl)
theorem dX1_goOn_104 : decode cX1_goOn 104 = .ok (.getfield 143, 3) := dk_180 0 143 (dk_at dksX1_goOn_4 12 rfl rfl)
theorem dX1_goOn_107 : decode cX1_goOn 107 = .ok (.iconst 2, 1) := dk_5 (dk_at dksX1_goOn_4 15 rfl rfl)
theorem dX1_goOn_108 : decode cX1_goOn 108 = .ok (.iload 6, 2) := dk_21 6 (dk_at dksX1_goOn_4 16 rfl rfl)
theorem dX1_goOn_110 : decode cX1_goOn 110 = .ok (.imul, 1) := dk_104 (dk_at dksX1_goOn_4 18 rfl rfl)
theorem dX1_goOn_111 : decode cX1_goOn 111 = .ok (.iaload, 1) := dk_46 (dk_at dksX1_goOn_4 19 rfl rfl)
theorem dX1_goOn_112 : decode cX1_goOn 112 = .ok (.aload_n 2, 1) := dk_44 (dk_at dksX1_goOn_4 20 rfl rfl)
theorem dX1_goOn_113 : decode cX1_goOn 113 = .ok (.getfield 255, 3) := dk_180 0 255 (dk_at dksX1_goOn_4 21 rfl rfl)
theorem dX1_goOn_116 : decode cX1_goOn 116 = .ok (.if_icmp .ne 25, 3) := dk_160 0 25 (dk_at dksX1_goOn_5 0 rfl rfl)
theorem dX1_goOn_119 : decode cX1_goOn 119 = .ok (.aload_n 2, 1) := dk_44 (dk_at dksX1_goOn_5 3 rfl rfl)
theorem dX1_goOn_120 : decode cX1_goOn 120 = .ok (.getfield 152, 3) := dk_180 0 152 (dk_at dksX1_goOn_5 4 rfl rfl)
theorem dX1_goOn_123 : decode cX1_goOn 123 = .ok (.iconst 2, 1) := dk_5 (dk_at dksX1_goOn_5 7 rfl rfl)
theorem dX1_goOn_124 : decode cX1_goOn 124 = .ok (.iload 6, 2) := dk_21 6 (dk_at dksX1_goOn_5 8 rfl rfl)
theorem dX1_goOn_126 : decode cX1_goOn 126 = .ok (.imul, 1) := dk_104 (dk_at dksX1_goOn_5 10 rfl rfl)
theorem dX1_goOn_127 : decode cX1_goOn 127 = .ok (.invokestatic 110, 3) := dk_184 0 110 (dk_at dksX1_goOn_5 11 rfl rfl)
theorem dX1_goOn_130 : decode cX1_goOn 130 = .ok (.aload_n 2, 1) := dk_44 (dk_at dksX1_goOn_5 14 rfl rfl)
theorem dX1_goOn_131 : decode cX1_goOn 131 = .ok (.getfield 255, 3) := dk_180 0 255 (dk_at dksX1_goOn_5 15 rfl rfl)
theorem dX1_goOn_134 : decode cX1_goOn 134 = .ok (.invokestatic 110, 3) := dk_184 0 110 (dk_at dksX1_goOn_5 18 rfl rfl)
theorem dX1_goOn_137 : decode cX1_goOn 137 = .ok (.invokevirtual 155, 3) := dk_182 0 155 (dk_at dksX1_goOn_5 21 rfl rfl)
theorem dX1_goOn_140 : decode cX1_goOn 140 = .ok (.pop, 1) := dk_87 (dk_at dksX1_goOn_6 0 rfl rfl)
theorem dX1_goOn_141 : decode cX1_goOn 141 = .ok (.aload 4, 2) := dk_25 4 (dk_at dksX1_goOn_6 1 rfl rfl)
theorem dX1_goOn_143 : decode cX1_goOn 143 = .ok (.aload 5, 2) := dk_25 5 (dk_at dksX1_goOn_6 3 rfl rfl)
theorem dX1_goOn_145 : decode cX1_goOn 145 = .ok (.getfield 378, 3) := dk_180 1 122 (dk_at dksX1_goOn_6 5 rfl rfl)
theorem dX1_goOn_148 : decode cX1_goOn 148 = .ok (.iload 6, 2) := dk_21 6 (dk_at dksX1_goOn_6 8 rfl rfl)
theorem dX1_goOn_150 : decode cX1_goOn 150 = .ok (.invokestatic 379, 3) := dk_184 1 123 (dk_at dksX1_goOn_6 10 rfl rfl)
theorem dX1_goOn_153 : decode cX1_goOn 153 = .ok (.istore 7, 2) := dk_54 7 (dk_at dksX1_goOn_6 13 rfl rfl)
theorem dX1_goOn_155 : decode cX1_goOn 155 = .ok (.iconst (-1), 1) := dk_2 (dk_at dksX1_goOn_6 15 rfl rfl)
theorem dX1_goOn_156 : decode cX1_goOn 156 = .ok (.istore 8, 2) := dk_54 8 (dk_at dksX1_goOn_6 16 rfl rfl)
theorem dX1_goOn_158 : decode cX1_goOn 158 = .ok (.aload_n 2, 1) := dk_44 (dk_at dksX1_goOn_6 18 rfl rfl)
theorem dX1_goOn_159 : decode cX1_goOn 159 = .ok (.getfield 152, 3) := dk_180 0 152 (dk_at dksX1_goOn_6 19 rfl rfl)
theorem dX1_goOn_162 : decode cX1_goOn 162 = .ok (.invokevirtual 391, 3) := dk_182 1 135 (dk_at dksX1_goOn_7 0 rfl rfl)
theorem dX1_goOn_165 : decode cX1_goOn 165 = .ok (.invokeinterface 395 1, 5) := by decide +kernel
theorem dX1_goOn_170 : decode cX1_goOn 170 = .ok (.astore 9, 2) := dk_58 9 (dk_at dksX1_goOn_7 8 rfl rfl)
theorem dX1_goOn_172 : decode cX1_goOn 172 = .ok (.aload 9, 2) := dk_25 9 (dk_at dksX1_goOn_7 10 rfl rfl)
theorem dX1_goOn_174 : decode cX1_goOn 174 = .ok (.invokeinterface 208 1, 5) := by decide +kernel
theorem dX1_goOn_179 : decode cX1_goOn 179 = .ok (.ifCond .eq 85, 3) := dk_153 0 85 (dk_at dksX1_goOn_7 17 rfl rfl)
theorem dX1_goOn_182 : decode cX1_goOn 182 = .ok (.aload 9, 2) := dk_25 9 (dk_at dksX1_goOn_7 20 rfl rfl)
theorem dX1_goOn_184 : decode cX1_goOn 184 = .ok (.invokeinterface 213 1, 5) := by decide +kernel
theorem dX1_goOn_189 : decode cX1_goOn 189 = .ok (.checkcast 111, 3) := dk_192 0 111 (dk_at dksX1_goOn_8 5 rfl rfl)
theorem dX1_goOn_192 : decode cX1_goOn 192 = .ok (.invokevirtual 323, 3) := dk_182 1 67 (dk_at dksX1_goOn_8 8 rfl rfl)
theorem dX1_goOn_195 : decode cX1_goOn 195 = .ok (.istore 10, 2) := dk_54 10 (dk_at dksX1_goOn_8 11 rfl rfl)
theorem dX1_goOn_197 : decode cX1_goOn 197 = .ok (.aload_n 0, 1) := dk_42 (dk_at dksX1_goOn_8 13 rfl rfl)
theorem dX1_goOn_198 : decode cX1_goOn 198 = .ok (.getfield 28, 3) := dk_180 0 28 (dk_at dksX1_goOn_8 14 rfl rfl)
theorem dX1_goOn_201 : decode cX1_goOn 201 = .ok (.aload 5, 2) := dk_25 5 (dk_at dksX1_goOn_8 17 rfl rfl)
theorem dX1_goOn_203 : decode cX1_goOn 203 = .ok (.getfield 357, 3) := dk_180 1 101 (dk_at dksX1_goOn_8 19 rfl rfl)
theorem dX1_goOn_206 : decode cX1_goOn 206 = .ok (.iload 7, 2) := dk_21 7 (dk_at dksX1_goOn_8 22 rfl rfl)
theorem dX1_goOn_208 : decode cX1_goOn 208 = .ok (.invokestatic 110, 3) := dk_184 0 110 (dk_at dksX1_goOn_9 0 rfl rfl)
theorem dX1_goOn_211 : decode cX1_goOn 211 = .ok (.invokevirtual 398, 3) := dk_182 1 142 (dk_at dksX1_goOn_9 3 rfl rfl)
theorem dX1_goOn_214 : decode cX1_goOn 214 = .ok (.checkcast 111, 3) := dk_192 0 111 (dk_at dksX1_goOn_9 6 rfl rfl)
theorem dX1_goOn_217 : decode cX1_goOn 217 = .ok (.invokevirtual 323, 3) := dk_182 1 67 (dk_at dksX1_goOn_9 9 rfl rfl)
theorem dX1_goOn_220 : decode cX1_goOn 220 = .ok (.aload 5, 2) := dk_25 5 (dk_at dksX1_goOn_9 12 rfl rfl)
theorem dX1_goOn_222 : decode cX1_goOn 222 = .ok (.getfield 364, 3) := dk_180 1 108 (dk_at dksX1_goOn_9 14 rfl rfl)
theorem dX1_goOn_225 : decode cX1_goOn 225 = .ok (.iload 7, 2) := dk_21 7 (dk_at dksX1_goOn_9 17 rfl rfl)
theorem dX1_goOn_227 : decode cX1_goOn 227 = .ok (.invokestatic 110, 3) := dk_184 0 110 (dk_at dksX1_goOn_9 19 rfl rfl)
theorem dX1_goOn_230 : decode cX1_goOn 230 = .ok (.invokevirtual 398, 3) := dk_182 1 142 (dk_at dksX1_goOn_10 0 rfl rfl)
theorem dX1_goOn_233 : decode cX1_goOn 233 = .ok (.checkcast 111, 3) := dk_192 0 111 (dk_at dksX1_goOn_10 3 rfl rfl)
theorem dX1_goOn_236 : decode cX1_goOn 236 = .ok (.invokevirtual 323, 3) := dk_182 1 67 (dk_at dksX1_goOn_10 6 rfl rfl)
theorem dX1_goOn_239 : decode cX1_goOn 239 = .ok (.iload 10, 2) := dk_21 10 (dk_at dksX1_goOn_10 9 rfl rfl)
theorem dX1_goOn_241 : decode cX1_goOn 241 = .ok (.invokevirtual 401, 3) := dk_182 1 145 (dk_at dksX1_goOn_10 11 rfl rfl)
theorem dX1_goOn_244 : decode cX1_goOn 244 = .ok (.istore 11, 2) := dk_54 11 (dk_at dksX1_goOn_10 14 rfl rfl)
theorem dX1_goOn_246 : decode cX1_goOn 246 = .ok (.iload 11, 2) := dk_21 11 (dk_at dksX1_goOn_10 16 rfl rfl)
theorem dX1_goOn_248 : decode cX1_goOn 248 = .ok (.iconst (-1), 1) := dk_2 (dk_at dksX1_goOn_10 18 rfl rfl)
theorem dX1_goOn_249 : decode cX1_goOn 249 = .ok (.if_icmp .ne 8, 3) := dk_160 0 8 (dk_at dksX1_goOn_10 19 rfl rfl)
theorem dX1_goOn_252 : decode cX1_goOn 252 = .ok (.iload 8, 2) := dk_21 8 (dk_at dksX1_goOn_10 22 rfl rfl)
theorem dX1_goOn_254 : decode cX1_goOn 254 = .ok (.goto 5, 3) := dk_167 0 5 (dk_at dksX1_goOn_11 0 rfl rfl)
theorem dX1_goOn_257 : decode cX1_goOn 257 = .ok (.iload 11, 2) := dk_21 11 (dk_at dksX1_goOn_11 3 rfl rfl)
theorem dX1_goOn_259 : decode cX1_goOn 259 = .ok (.istore 8, 2) := dk_54 8 (dk_at dksX1_goOn_11 5 rfl rfl)
theorem dX1_goOn_261 : decode cX1_goOn 261 = .ok (.goto (-89), 3) := dk_167 255 167 (dk_at dksX1_goOn_11 7 rfl rfl)
theorem dX1_goOn_264 : decode cX1_goOn 264 = .ok (.aload_n 0, 1) := dk_42 (dk_at dksX1_goOn_11 10 rfl rfl)
theorem dX1_goOn_265 : decode cX1_goOn 265 = .ok (.aload_n 2, 1) := dk_44 (dk_at dksX1_goOn_11 11 rfl rfl)
theorem dX1_goOn_266 : decode cX1_goOn 266 = .ok (.aload 4, 2) := dk_25 4 (dk_at dksX1_goOn_11 12 rfl rfl)
theorem dX1_goOn_268 : decode cX1_goOn 268 = .ok (.aload 5, 2) := dk_25 5 (dk_at dksX1_goOn_11 14 rfl rfl)
theorem dX1_goOn_270 : decode cX1_goOn 270 = .ok (.getfield 378, 3) := dk_180 1 122 (dk_at dksX1_goOn_11 16 rfl rfl)
theorem dX1_goOn_273 : decode cX1_goOn 273 = .ok (.iload 7, 2) := dk_21 7 (dk_at dksX1_goOn_11 19 rfl rfl)
theorem dX1_goOn_275 : decode cX1_goOn 275 = .ok (.iload 8, 2) := dk_21 8 (dk_at dksX1_goOn_11 21 rfl rfl)
theorem dX1_goOn_277 : decode cX1_goOn 277 = .ok (.invokevirtual 404, 3) := dk_182 1 148 (dk_at dksX1_goOn_12 0 rfl rfl)
theorem dX1_goOn_280 : decode cX1_goOn 280 = .ok (.istore 9, 2) := dk_54 9 (dk_at dksX1_goOn_12 3 rfl rfl)
theorem dX1_goOn_282 : decode cX1_goOn 282 = .ok (.aload_n 0, 1) := dk_42 (dk_at dksX1_goOn_12 5 rfl rfl)
theorem dX1_goOn_283 : decode cX1_goOn 283 = .ok (.getfield 28, 3) := dk_180 0 28 (dk_at dksX1_goOn_12 6 rfl rfl)
theorem dX1_goOn_286 : decode cX1_goOn 286 = .ok (.aload_n 2, 1) := dk_44 (dk_at dksX1_goOn_12 9 rfl rfl)
theorem dX1_goOn_287 : decode cX1_goOn 287 = .ok (.getfield 351, 3) := dk_180 1 95 (dk_at dksX1_goOn_12 10 rfl rfl)
theorem dX1_goOn_290 : decode cX1_goOn 290 = .ok (.aload_n 0, 1) := dk_42 (dk_at dksX1_goOn_12 13 rfl rfl)
theorem dX1_goOn_291 : decode cX1_goOn 291 = .ok (.getfield 28, 3) := dk_180 0 28 (dk_at dksX1_goOn_12 14 rfl rfl)
theorem dX1_goOn_294 : decode cX1_goOn 294 = .ok (.iload 9, 2) := dk_21 9 (dk_at dksX1_goOn_12 17 rfl rfl)
theorem dX1_goOn_296 : decode cX1_goOn 296 = .ok (.iconst 2, 1) := dk_5 (dk_at dksX1_goOn_12 19 rfl rfl)
theorem dX1_goOn_297 : decode cX1_goOn 297 = .ok (.invokevirtual 172, 3) := dk_182 0 172 (dk_at dksX1_goOn_12 20 rfl rfl)
theorem dX1_goOn_300 : decode cX1_goOn 300 = .ok (.iconst 3, 1) := dk_6 (dk_at dksX1_goOn_12 23 rfl rfl)
theorem dX1_goOn_301 : decode cX1_goOn 301 = .ok (.invokevirtual 354, 3) := dk_182 1 98 (dk_at dksX1_goOn_13 0 rfl rfl)
theorem dX1_goOn_304 : decode cX1_goOn 304 = .ok (.istore 10, 2) := dk_54 10 (dk_at dksX1_goOn_13 3 rfl rfl)
theorem dX1_goOn_306 : decode cX1_goOn 306 = .ok (.aload_n 2, 1) := dk_44 (dk_at dksX1_goOn_13 5 rfl rfl)
theorem dX1_goOn_307 : decode cX1_goOn 307 = .ok (.iload_n 3, 1) := dk_29 (dk_at dksX1_goOn_13 6 rfl rfl)
theorem dX1_goOn_308 : decode cX1_goOn 308 = .ok (.aload_n 0, 1) := dk_42 (dk_at dksX1_goOn_13 7 rfl rfl)
theorem dX1_goOn_309 : decode cX1_goOn 309 = .ok (.getfield 28, 3) := dk_180 0 28 (dk_at dksX1_goOn_13 8 rfl rfl)
theorem dX1_goOn_312 : decode cX1_goOn 312 = .ok (.iload 10, 2) := dk_21 10 (dk_at dksX1_goOn_13 11 rfl rfl)
theorem dX1_goOn_314 : decode cX1_goOn 314 = .ok (.iconst 4, 1) := dk_7 (dk_at dksX1_goOn_13 13 rfl rfl)
theorem dX1_goOn_315 : decode cX1_goOn 315 = .ok (.invokevirtual 172, 3) := dk_182 0 172 (dk_at dksX1_goOn_13 14 rfl rfl)
theorem dX1_goOn_318 : decode cX1_goOn 318 = .ok (.invokevirtual 168, 3) := dk_182 0 168 (dk_at dksX1_goOn_13 17 rfl rfl)
theorem dX1_goOn_321 : decode cX1_goOn 321 = .ok (.bipush 109, 2) := dk_16 109 (dk_at dksX1_goOn_13 20 rfl rfl)
theorem dX1_goOn_323 : decode cX1_goOn 323 = .ok (.ireturn, 1) := dk_172 (dk_at dksX1_goOn_13 22 rfl rfl)
abbrev cX1_climbs : ByteArray := prog_1_method_44_code
def yX1_climbs : MethodName := ⟨RX1, "climbs", "(LKeygrove$Person;LKeygrove$Tree;III)I"⟩
def dkwX1_climbs_6 : List UInt8 := [21, 6, 172]
abbrev dktX1_climbs_6 : List UInt8 := dkwX1_climbs_6 ++ []
def dkwX1_climbs_5 : List UInt8 := [154, 0, 21, 43, 180, 0, 152, 21, 9, 184, 0, 110, 21, 6, 184, 0, 110, 182, 0, 155, 87, 167, 255, 142]
abbrev dktX1_climbs_5 : List UInt8 := dkwX1_climbs_5 ++ dktX1_climbs_6
def dkwX1_climbs_4 : List UInt8 := [21, 10, 153, 0, 7, 4, 167, 0, 4, 3, 54, 7, 21, 7, 153, 0, 30, 44, 21, 9, 182, 1, 127]
abbrev dktX1_climbs_4 : List UInt8 := dkwX1_climbs_4 ++ dktX1_climbs_5
def dkwX1_climbs_3 : List UInt8 := [182, 1, 127, 154, 0, 15, 42, 180, 0, 28, 21, 6, 5, 182, 0, 172, 54, 6, 21, 7, 154, 0, 8]
abbrev dktX1_climbs_3 : List UInt8 := dkwX1_climbs_3 ++ dktX1_climbs_4
def dkwX1_climbs_2 : List UInt8 := [21, 9, 21, 4, 160, 0, 7, 4, 167, 0, 4, 3, 54, 10, 21, 7, 153, 0, 24, 44, 21, 9]
abbrev dktX1_climbs_2 : List UInt8 := dkwX1_climbs_2 ++ dktX1_climbs_3
def dkwX1_climbs_1 : List UInt8 := [185, 0, 208, 1, 0, 153, 0, 110, 25, 8, 185, 0, 213, 1, 0, 192, 0, 111, 182, 1, 67, 54, 9]
abbrev dktX1_climbs_1 : List UInt8 := dkwX1_climbs_1 ++ dktX1_climbs_2
def dkwX1_climbs_0 : List UInt8 := [21, 5, 54, 6, 3, 54, 7, 44, 29, 182, 1, 63, 185, 0, 204, 1, 0, 58, 8, 25, 8]
abbrev dktX1_climbs_0 : List UInt8 := dkwX1_climbs_0 ++ dktX1_climbs_1
theorem dksX1_climbs_0 : cX1_climbs.data.toList.drop 0 = dktX1_climbs_0 := by decide +kernel
theorem dksX1_climbs_1 : cX1_climbs.data.toList.drop 21 = dktX1_climbs_1 := dk_seg dksX1_climbs_0 21 rfl rfl
theorem dksX1_climbs_2 : cX1_climbs.data.toList.drop 44 = dktX1_climbs_2 := dk_seg dksX1_climbs_1 23 rfl rfl
theorem dksX1_climbs_3 : cX1_climbs.data.toList.drop 66 = dktX1_climbs_3 := dk_seg dksX1_climbs_2 22 rfl rfl
theorem dksX1_climbs_4 : cX1_climbs.data.toList.drop 89 = dktX1_climbs_4 := dk_seg dksX1_climbs_3 23 rfl rfl
theorem dksX1_climbs_5 : cX1_climbs.data.toList.drop 112 = dktX1_climbs_5 := dk_seg dksX1_climbs_4 23 rfl rfl
theorem dksX1_climbs_6 : cX1_climbs.data.toList.drop 136 = dktX1_climbs_6 := dk_seg dksX1_climbs_5 24 rfl rfl
theorem dX1_climbs_0 : decode cX1_climbs 0 = .ok (.iload 5, 2) := dk_21 5 (dk_at dksX1_climbs_0 0 rfl rfl)
theorem dX1_climbs_2 : decode cX1_climbs 2 = .ok (.istore 6, 2) := dk_54 6 (dk_at dksX1_climbs_0 2 rfl rfl)
theorem dX1_climbs_4 : decode cX1_climbs 4 = .ok (.iconst 0, 1) := dk_3 (dk_at dksX1_climbs_0 4 rfl rfl)
theorem dX1_climbs_5 : decode cX1_climbs 5 = .ok (.istore 7, 2) := dk_54 7 (dk_at dksX1_climbs_0 5 rfl rfl)
theorem dX1_climbs_7 : decode cX1_climbs 7 = .ok (.aload_n 2, 1) := dk_44 (dk_at dksX1_climbs_0 7 rfl rfl)
theorem dX1_climbs_8 : decode cX1_climbs 8 = .ok (.iload_n 3, 1) := dk_29 (dk_at dksX1_climbs_0 8 rfl rfl)
theorem dX1_climbs_9 : decode cX1_climbs 9 = .ok (.invokevirtual 319, 3) := dk_182 1 63 (dk_at dksX1_climbs_0 9 rfl rfl)
theorem dX1_climbs_12 : decode cX1_climbs 12 = .ok (.invokeinterface 204 1, 5) := by decide +kernel
theorem dX1_climbs_17 : decode cX1_climbs 17 = .ok (.astore 8, 2) := dk_58 8 (dk_at dksX1_climbs_0 17 rfl rfl)
theorem dX1_climbs_19 : decode cX1_climbs 19 = .ok (.aload 8, 2) := dk_25 8 (dk_at dksX1_climbs_0 19 rfl rfl)
theorem dX1_climbs_21 : decode cX1_climbs 21 = .ok (.invokeinterface 208 1, 5) := by decide +kernel
theorem dX1_climbs_26 : decode cX1_climbs 26 = .ok (.ifCond .eq 110, 3) := dk_153 0 110 (dk_at dksX1_climbs_1 5 rfl rfl)
theorem dX1_climbs_29 : decode cX1_climbs 29 = .ok (.aload 8, 2) := dk_25 8 (dk_at dksX1_climbs_1 8 rfl rfl)
theorem dX1_climbs_31 : decode cX1_climbs 31 = .ok (.invokeinterface 213 1, 5) := by decide +kernel
theorem dX1_climbs_36 : decode cX1_climbs 36 = .ok (.checkcast 111, 3) := dk_192 0 111 (dk_at dksX1_climbs_1 15 rfl rfl)
theorem dX1_climbs_39 : decode cX1_climbs 39 = .ok (.invokevirtual 323, 3) := dk_182 1 67 (dk_at dksX1_climbs_1 18 rfl rfl)
theorem dX1_climbs_42 : decode cX1_climbs 42 = .ok (.istore 9, 2) := dk_54 9 (dk_at dksX1_climbs_1 21 rfl rfl)
theorem dX1_climbs_44 : decode cX1_climbs 44 = .ok (.iload 9, 2) := dk_21 9 (dk_at dksX1_climbs_2 0 rfl rfl)
theorem dX1_climbs_46 : decode cX1_climbs 46 = .ok (.iload 4, 2) := dk_21 4 (dk_at dksX1_climbs_2 2 rfl rfl)
theorem dX1_climbs_48 : decode cX1_climbs 48 = .ok (.if_icmp .ne 7, 3) := dk_160 0 7 (dk_at dksX1_climbs_2 4 rfl rfl)
theorem dX1_climbs_51 : decode cX1_climbs 51 = .ok (.iconst 1, 1) := dk_4 (dk_at dksX1_climbs_2 7 rfl rfl)
theorem dX1_climbs_52 : decode cX1_climbs 52 = .ok (.goto 4, 3) := dk_167 0 4 (dk_at dksX1_climbs_2 8 rfl rfl)
theorem dX1_climbs_55 : decode cX1_climbs 55 = .ok (.iconst 0, 1) := dk_3 (dk_at dksX1_climbs_2 11 rfl rfl)
theorem dX1_climbs_56 : decode cX1_climbs 56 = .ok (.istore 10, 2) := dk_54 10 (dk_at dksX1_climbs_2 12 rfl rfl)
theorem dX1_climbs_58 : decode cX1_climbs 58 = .ok (.iload 7, 2) := dk_21 7 (dk_at dksX1_climbs_2 14 rfl rfl)
theorem dX1_climbs_60 : decode cX1_climbs 60 = .ok (.ifCond .eq 24, 3) := dk_153 0 24 (dk_at dksX1_climbs_2 16 rfl rfl)
theorem dX1_climbs_63 : decode cX1_climbs 63 = .ok (.aload_n 2, 1) := dk_44 (dk_at dksX1_climbs_2 19 rfl rfl)
theorem dX1_climbs_64 : decode cX1_climbs 64 = .ok (.iload 9, 2) := dk_21 9 (dk_at dksX1_climbs_2 20 rfl rfl)
theorem dX1_climbs_66 : decode cX1_climbs 66 = .ok (.invokevirtual 383, 3) := dk_182 1 127 (dk_at dksX1_climbs_3 0 rfl rfl)
theorem dX1_climbs_69 : decode cX1_climbs 69 = .ok (.ifCond .ne 15, 3) := dk_154 0 15 (dk_at dksX1_climbs_3 3 rfl rfl)
theorem dX1_climbs_72 : decode cX1_climbs 72 = .ok (.aload_n 0, 1) := dk_42 (dk_at dksX1_climbs_3 6 rfl rfl)
theorem dX1_climbs_73 : decode cX1_climbs 73 = .ok (.getfield 28, 3) := dk_180 0 28 (dk_at dksX1_climbs_3 7 rfl rfl)
theorem dX1_climbs_76 : decode cX1_climbs 76 = .ok (.iload 6, 2) := dk_21 6 (dk_at dksX1_climbs_3 10 rfl rfl)
theorem dX1_climbs_78 : decode cX1_climbs 78 = .ok (.iconst 2, 1) := dk_5 (dk_at dksX1_climbs_3 12 rfl rfl)
theorem dX1_climbs_79 : decode cX1_climbs 79 = .ok (.invokevirtual 172, 3) := dk_182 0 172 (dk_at dksX1_climbs_3 13 rfl rfl)
theorem dX1_climbs_82 : decode cX1_climbs 82 = .ok (.istore 6, 2) := dk_54 6 (dk_at dksX1_climbs_3 16 rfl rfl)
theorem dX1_climbs_84 : decode cX1_climbs 84 = .ok (.iload 7, 2) := dk_21 7 (dk_at dksX1_climbs_3 18 rfl rfl)
theorem dX1_climbs_86 : decode cX1_climbs 86 = .ok (.ifCond .ne 8, 3) := dk_154 0 8 (dk_at dksX1_climbs_3 20 rfl rfl)
theorem dX1_climbs_89 : decode cX1_climbs 89 = .ok (.iload 10, 2) := dk_21 10 (dk_at dksX1_climbs_4 0 rfl rfl)
theorem dX1_climbs_91 : decode cX1_climbs 91 = .ok (.ifCond .eq 7, 3) := dk_153 0 7 (dk_at dksX1_climbs_4 2 rfl rfl)
theorem dX1_climbs_94 : decode cX1_climbs 94 = .ok (.iconst 1, 1) := dk_4 (dk_at dksX1_climbs_4 5 rfl rfl)
theorem dX1_climbs_95 : decode cX1_climbs 95 = .ok (.goto 4, 3) := dk_167 0 4 (dk_at dksX1_climbs_4 6 rfl rfl)
theorem dX1_climbs_98 : decode cX1_climbs 98 = .ok (.iconst 0, 1) := dk_3 (dk_at dksX1_climbs_4 9 rfl rfl)
theorem dX1_climbs_99 : decode cX1_climbs 99 = .ok (.istore 7, 2) := dk_54 7 (dk_at dksX1_climbs_4 10 rfl rfl)
theorem dX1_climbs_101 : decode cX1_climbs 101 = .ok (.iload 7, 2) := dk_21 7 (dk_at dksX1_climbs_4 12 rfl rfl)
theorem dX1_climbs_103 : decode cX1_climbs 103 = .ok (.ifCond .eq 30, 3) := dk_153 0 30 (dk_at dksX1_climbs_4 14 rfl rfl)
theorem dX1_climbs_106 : decode cX1_climbs 106 = .ok (.aload_n 2, 1) := dk_44 (dk_at dksX1_climbs_4 17 rfl rfl)
theorem dX1_climbs_107 : decode cX1_climbs 107 = .ok (.iload 9, 2) := dk_21 9 (dk_at dksX1_climbs_4 18 rfl rfl)
theorem dX1_climbs_109 : decode cX1_climbs 109 = .ok (.invokevirtual 383, 3) := dk_182 1 127 (dk_at dksX1_climbs_4 20 rfl rfl)
theorem dX1_climbs_112 : decode cX1_climbs 112 = .ok (.ifCond .ne 21, 3) := dk_154 0 21 (dk_at dksX1_climbs_5 0 rfl rfl)
theorem dX1_climbs_115 : decode cX1_climbs 115 = .ok (.aload_n 1, 1) := dk_43 (dk_at dksX1_climbs_5 3 rfl rfl)
theorem dX1_climbs_116 : decode cX1_climbs 116 = .ok (.getfield 152, 3) := dk_180 0 152 (dk_at dksX1_climbs_5 4 rfl rfl)
theorem dX1_climbs_119 : decode cX1_climbs 119 = .ok (.iload 9, 2) := dk_21 9 (dk_at dksX1_climbs_5 7 rfl rfl)
theorem dX1_climbs_121 : decode cX1_climbs 121 = .ok (.invokestatic 110, 3) := dk_184 0 110 (dk_at dksX1_climbs_5 9 rfl rfl)
theorem dX1_climbs_124 : decode cX1_climbs 124 = .ok (.iload 6, 2) := dk_21 6 (dk_at dksX1_climbs_5 12 rfl rfl)
theorem dX1_climbs_126 : decode cX1_climbs 126 = .ok (.invokestatic 110, 3) := dk_184 0 110 (dk_at dksX1_climbs_5 14 rfl rfl)
theorem dX1_climbs_129 : decode cX1_climbs 129 = .ok (.invokevirtual 155, 3) := dk_182 0 155 (dk_at dksX1_climbs_5 17 rfl rfl)
theorem dX1_climbs_132 : decode cX1_climbs 132 = .ok (.pop, 1) := dk_87 (dk_at dksX1_climbs_5 20 rfl rfl)
theorem dX1_climbs_133 : decode cX1_climbs 133 = .ok (.goto (-114), 3) := dk_167 255 142 (dk_at dksX1_climbs_5 21 rfl rfl)
theorem dX1_climbs_136 : decode cX1_climbs 136 = .ok (.iload 6, 2) := dk_21 6 (dk_at dksX1_climbs_6 0 rfl rfl)
theorem dX1_climbs_138 : decode cX1_climbs 138 = .ok (.ireturn, 1) := dk_172 (dk_at dksX1_climbs_6 2 rfl rfl)
abbrev cX1_join : ByteArray := prog_1_method_47_code
def yX1_join : MethodName := ⟨RX1, "join", "(I)I"⟩
def dkwX1_join_7 : List UInt8 := [21, 4, 172]
abbrev dktX1_join_7 : List UInt8 := dkwX1_join_7 ++ []
def dkwX1_join_6 : List UInt8 := [182, 1, 148, 54, 9, 44, 21, 4, 42, 180, 0, 28, 25, 6, 180, 1, 119, 7, 182, 0, 172, 182, 0, 168]
abbrev dktX1_join_6 : List UInt8 := dkwX1_join_6 ++ dktX1_join_7
def dkwX1_join_5 : List UInt8 := [184, 1, 123, 54, 8, 42, 44, 25, 5, 25, 6, 180, 1, 122, 21, 8, 25, 5, 180, 0, 143, 21, 8, 46]
abbrev dktX1_join_5 : List UInt8 := dkwX1_join_5 ++ dktX1_join_6
def dkwX1_join_4 : List UInt8 := [184, 0, 110, 45, 180, 1, 54, 184, 0, 110, 182, 0, 155, 87, 25, 5, 25, 6, 180, 1, 122, 21, 7]
abbrev dktX1_join_4 : List UInt8 := dkwX1_join_4 ++ dktX1_join_5
def dkwX1_join_3 : List UInt8 := [180, 0, 138, 45, 185, 1, 156, 2, 0, 87, 45, 3, 181, 1, 48, 44, 180, 0, 152, 5, 21, 7, 104]
abbrev dktX1_join_3 : List UInt8 := dkwX1_join_3 ++ dktX1_join_4
def dkwX1_join_2 : List UInt8 := [180, 0, 50, 21, 4, 185, 0, 77, 2, 0, 192, 0, 149, 58, 6, 25, 5, 27, 182, 0, 201, 54, 7, 44]
abbrev dktX1_join_2 : List UInt8 := dkwX1_join_2 ++ dktX1_join_3
def dkwX1_join_1 : List UInt8 := [45, 180, 1, 59, 54, 4, 42, 180, 0, 47, 21, 4, 185, 0, 77, 2, 0, 192, 0, 86, 58, 5, 42]
abbrev dktX1_join_1 : List UInt8 := dkwX1_join_1 ++ dktX1_join_2
def dkwX1_join_0 : List UInt8 := [42, 27, 182, 0, 126, 77, 42, 44, 182, 1, 152, 78, 45, 198, 0, 7, 4, 167, 0, 4, 3, 184, 0, 188]
abbrev dktX1_join_0 : List UInt8 := dkwX1_join_0 ++ dktX1_join_1
theorem dksX1_join_0 : cX1_join.data.toList.drop 0 = dktX1_join_0 := by decide +kernel
theorem dksX1_join_1 : cX1_join.data.toList.drop 24 = dktX1_join_1 := dk_seg dksX1_join_0 24 rfl rfl
theorem dksX1_join_2 : cX1_join.data.toList.drop 47 = dktX1_join_2 := dk_seg dksX1_join_1 23 rfl rfl
theorem dksX1_join_3 : cX1_join.data.toList.drop 71 = dktX1_join_3 := dk_seg dksX1_join_2 24 rfl rfl
theorem dksX1_join_4 : cX1_join.data.toList.drop 94 = dktX1_join_4 := dk_seg dksX1_join_3 23 rfl rfl
theorem dksX1_join_5 : cX1_join.data.toList.drop 117 = dktX1_join_5 := dk_seg dksX1_join_4 23 rfl rfl
theorem dksX1_join_6 : cX1_join.data.toList.drop 141 = dktX1_join_6 := dk_seg dksX1_join_5 24 rfl rfl
theorem dksX1_join_7 : cX1_join.data.toList.drop 165 = dktX1_join_7 := dk_seg dksX1_join_6 24 rfl rfl
theorem dX1_join_0 : decode cX1_join 0 = .ok (.aload_n 0, 1) := dk_42 (dk_at dksX1_join_0 0 rfl rfl)
theorem dX1_join_1 : decode cX1_join 1 = .ok (.iload_n 1, 1) := dk_27 (dk_at dksX1_join_0 1 rfl rfl)
theorem dX1_join_2 : decode cX1_join 2 = .ok (.invokevirtual 126, 3) := dk_182 0 126 (dk_at dksX1_join_0 2 rfl rfl)
theorem dX1_join_5 : decode cX1_join 5 = .ok (.astore_n 2, 1) := dk_77 (dk_at dksX1_join_0 5 rfl rfl)
theorem dX1_join_6 : decode cX1_join 6 = .ok (.aload_n 0, 1) := dk_42 (dk_at dksX1_join_0 6 rfl rfl)
theorem dX1_join_7 : decode cX1_join 7 = .ok (.aload_n 2, 1) := dk_44 (dk_at dksX1_join_0 7 rfl rfl)
theorem dX1_join_8 : decode cX1_join 8 = .ok (.invokevirtual 408, 3) := dk_182 1 152 (dk_at dksX1_join_0 8 rfl rfl)
theorem dX1_join_11 : decode cX1_join 11 = .ok (.astore_n 3, 1) := dk_78 (dk_at dksX1_join_0 11 rfl rfl)
theorem dX1_join_12 : decode cX1_join 12 = .ok (.aload_n 3, 1) := dk_45 (dk_at dksX1_join_0 12 rfl rfl)
theorem dX1_join_13 : decode cX1_join 13 = .ok (.ifnull 7, 3) := dk_198 0 7 (dk_at dksX1_join_0 13 rfl rfl)
theorem dX1_join_16 : decode cX1_join 16 = .ok (.iconst 1, 1) := dk_4 (dk_at dksX1_join_0 16 rfl rfl)
theorem dX1_join_17 : decode cX1_join 17 = .ok (.goto 4, 3) := dk_167 0 4 (dk_at dksX1_join_0 17 rfl rfl)
theorem dX1_join_20 : decode cX1_join 20 = .ok (.iconst 0, 1) := dk_3 (dk_at dksX1_join_0 20 rfl rfl)
theorem dX1_join_21 : decode cX1_join 21 = .ok (.invokestatic 188, 3) := dk_184 0 188 (dk_at dksX1_join_0 21 rfl rfl)
theorem dX1_join_24 : decode cX1_join 24 = .ok (.aload_n 3, 1) := dk_45 (dk_at dksX1_join_1 0 rfl rfl)
theorem dX1_join_25 : decode cX1_join 25 = .ok (.getfield 315, 3) := dk_180 1 59 (dk_at dksX1_join_1 1 rfl rfl)
theorem dX1_join_28 : decode cX1_join 28 = .ok (.istore 4, 2) := dk_54 4 (dk_at dksX1_join_1 4 rfl rfl)
theorem dX1_join_30 : decode cX1_join 30 = .ok (.aload_n 0, 1) := dk_42 (dk_at dksX1_join_1 6 rfl rfl)
theorem dX1_join_31 : decode cX1_join 31 = .ok (.getfield 47, 3) := dk_180 0 47 (dk_at dksX1_join_1 7 rfl rfl)
theorem dX1_join_34 : decode cX1_join 34 = .ok (.iload 4, 2) := dk_21 4 (dk_at dksX1_join_1 10 rfl rfl)
theorem dX1_join_36 : decode cX1_join 36 = .ok (.invokeinterface 77 2, 5) := by decide +kernel
theorem dX1_join_41 : decode cX1_join 41 = .ok (.checkcast 86, 3) := dk_192 0 86 (dk_at dksX1_join_1 17 rfl rfl)
theorem dX1_join_44 : decode cX1_join 44 = .ok (.astore 5, 2) := dk_58 5 (dk_at dksX1_join_1 20 rfl rfl)
theorem dX1_join_46 : decode cX1_join 46 = .ok (.aload_n 0, 1) := dk_42 (dk_at dksX1_join_1 22 rfl rfl)
theorem dX1_join_47 : decode cX1_join 47 = .ok (.getfield 50, 3) := dk_180 0 50 (dk_at dksX1_join_2 0 rfl rfl)
theorem dX1_join_50 : decode cX1_join 50 = .ok (.iload 4, 2) := dk_21 4 (dk_at dksX1_join_2 3 rfl rfl)
theorem dX1_join_52 : decode cX1_join 52 = .ok (.invokeinterface 77 2, 5) := by decide +kernel
theorem dX1_join_57 : decode cX1_join 57 = .ok (.checkcast 149, 3) := dk_192 0 149 (dk_at dksX1_join_2 10 rfl rfl)
theorem dX1_join_60 : decode cX1_join 60 = .ok (.astore 6, 2) := dk_58 6 (dk_at dksX1_join_2 13 rfl rfl)
theorem dX1_join_62 : decode cX1_join 62 = .ok (.aload 5, 2) := dk_25 5 (dk_at dksX1_join_2 15 rfl rfl)
theorem dX1_join_64 : decode cX1_join 64 = .ok (.iload_n 1, 1) := dk_27 (dk_at dksX1_join_2 17 rfl rfl)
theorem dX1_join_65 : decode cX1_join 65 = .ok (.invokevirtual 201, 3) := dk_182 0 201 (dk_at dksX1_join_2 18 rfl rfl)
theorem dX1_join_68 : decode cX1_join 68 = .ok (.istore 7, 2) := dk_54 7 (dk_at dksX1_join_2 21 rfl rfl)
theorem dX1_join_70 : decode cX1_join 70 = .ok (.aload_n 2, 1) := dk_44 (dk_at dksX1_join_2 23 rfl rfl)
theorem dX1_join_71 : decode cX1_join 71 = .ok (.getfield 138, 3) := dk_180 0 138 (dk_at dksX1_join_3 0 rfl rfl)
theorem dX1_join_74 : decode cX1_join 74 = .ok (.aload_n 3, 1) := dk_45 (dk_at dksX1_join_3 3 rfl rfl)
theorem dX1_join_75 : decode cX1_join 75 = .ok (.invokeinterface 412 2, 5) := by decide +kernel
theorem dX1_join_80 : decode cX1_join 80 = .ok (.pop, 1) := dk_87 (dk_at dksX1_join_3 9 rfl rfl)
theorem dX1_join_81 : decode cX1_join 81 = .ok (.aload_n 3, 1) := dk_45 (dk_at dksX1_join_3 10 rfl rfl)
theorem dX1_join_82 : decode cX1_join 82 = .ok (.iconst 0, 1) := dk_3 (dk_at dksX1_join_3 11 rfl rfl)
theorem dX1_join_83 : decode cX1_join 83 = .ok (.putfield 304, 3) := dk_181 1 48 (dk_at dksX1_join_3 12 rfl rfl)
theorem dX1_join_86 : decode cX1_join 86 = .ok (.aload_n 2, 1) := dk_44 (dk_at dksX1_join_3 15 rfl rfl)
theorem dX1_join_87 : decode cX1_join 87 = .ok (.getfield 152, 3) := dk_180 0 152 (dk_at dksX1_join_3 16 rfl rfl)
theorem dX1_join_90 : decode cX1_join 90 = .ok (.iconst 2, 1) := dk_5 (dk_at dksX1_join_3 19 rfl rfl)
theorem dX1_join_91 : decode cX1_join 91 = .ok (.iload 7, 2) := dk_21 7 (dk_at dksX1_join_3 20 rfl rfl)
theorem dX1_join_93 : decode cX1_join 93 = .ok (.imul, 1) := dk_104 (dk_at dksX1_join_3 22 rfl rfl)
theorem dX1_join_94 : decode cX1_join 94 = .ok (.invokestatic 110, 3) := dk_184 0 110 (dk_at dksX1_join_4 0 rfl rfl)
theorem dX1_join_97 : decode cX1_join 97 = .ok (.aload_n 3, 1) := dk_45 (dk_at dksX1_join_4 3 rfl rfl)
theorem dX1_join_98 : decode cX1_join 98 = .ok (.getfield 310, 3) := dk_180 1 54 (dk_at dksX1_join_4 4 rfl rfl)
theorem dX1_join_101 : decode cX1_join 101 = .ok (.invokestatic 110, 3) := dk_184 0 110 (dk_at dksX1_join_4 7 rfl rfl)
theorem dX1_join_104 : decode cX1_join 104 = .ok (.invokevirtual 155, 3) := dk_182 0 155 (dk_at dksX1_join_4 10 rfl rfl)
theorem dX1_join_107 : decode cX1_join 107 = .ok (.pop, 1) := dk_87 (dk_at dksX1_join_4 13 rfl rfl)
theorem dX1_join_108 : decode cX1_join 108 = .ok (.aload 5, 2) := dk_25 5 (dk_at dksX1_join_4 14 rfl rfl)
theorem dX1_join_110 : decode cX1_join 110 = .ok (.aload 6, 2) := dk_25 6 (dk_at dksX1_join_4 16 rfl rfl)
theorem dX1_join_112 : decode cX1_join 112 = .ok (.getfield 378, 3) := dk_180 1 122 (dk_at dksX1_join_4 18 rfl rfl)
theorem dX1_join_115 : decode cX1_join 115 = .ok (.iload 7, 2) := dk_21 7 (dk_at dksX1_join_4 21 rfl rfl)
theorem dX1_join_117 : decode cX1_join 117 = .ok (.invokestatic 379, 3) := dk_184 1 123 (dk_at dksX1_join_5 0 rfl rfl)
theorem dX1_join_120 : decode cX1_join 120 = .ok (.istore 8, 2) := dk_54 8 (dk_at dksX1_join_5 3 rfl rfl)
theorem dX1_join_122 : decode cX1_join 122 = .ok (.aload_n 0, 1) := dk_42 (dk_at dksX1_join_5 5 rfl rfl)
theorem dX1_join_123 : decode cX1_join 123 = .ok (.aload_n 2, 1) := dk_44 (dk_at dksX1_join_5 6 rfl rfl)
theorem dX1_join_124 : decode cX1_join 124 = .ok (.aload 5, 2) := dk_25 5 (dk_at dksX1_join_5 7 rfl rfl)
theorem dX1_join_126 : decode cX1_join 126 = .ok (.aload 6, 2) := dk_25 6 (dk_at dksX1_join_5 9 rfl rfl)
theorem dX1_join_128 : decode cX1_join 128 = .ok (.getfield 378, 3) := dk_180 1 122 (dk_at dksX1_join_5 11 rfl rfl)
theorem dX1_join_131 : decode cX1_join 131 = .ok (.iload 8, 2) := dk_21 8 (dk_at dksX1_join_5 14 rfl rfl)
theorem dX1_join_133 : decode cX1_join 133 = .ok (.aload 5, 2) := dk_25 5 (dk_at dksX1_join_5 16 rfl rfl)
theorem dX1_join_135 : decode cX1_join 135 = .ok (.getfield 143, 3) := dk_180 0 143 (dk_at dksX1_join_5 18 rfl rfl)
theorem dX1_join_138 : decode cX1_join 138 = .ok (.iload 8, 2) := dk_21 8 (dk_at dksX1_join_5 21 rfl rfl)
theorem dX1_join_140 : decode cX1_join 140 = .ok (.iaload, 1) := dk_46 (dk_at dksX1_join_5 23 rfl rfl)
theorem dX1_join_141 : decode cX1_join 141 = .ok (.invokevirtual 404, 3) := dk_182 1 148 (dk_at dksX1_join_6 0 rfl rfl)
theorem dX1_join_144 : decode cX1_join 144 = .ok (.istore 9, 2) := dk_54 9 (dk_at dksX1_join_6 3 rfl rfl)
theorem dX1_join_146 : decode cX1_join 146 = .ok (.aload_n 2, 1) := dk_44 (dk_at dksX1_join_6 5 rfl rfl)
theorem dX1_join_147 : decode cX1_join 147 = .ok (.iload 4, 2) := dk_21 4 (dk_at dksX1_join_6 6 rfl rfl)
theorem dX1_join_149 : decode cX1_join 149 = .ok (.aload_n 0, 1) := dk_42 (dk_at dksX1_join_6 8 rfl rfl)
theorem dX1_join_150 : decode cX1_join 150 = .ok (.getfield 28, 3) := dk_180 0 28 (dk_at dksX1_join_6 9 rfl rfl)
theorem dX1_join_153 : decode cX1_join 153 = .ok (.aload 6, 2) := dk_25 6 (dk_at dksX1_join_6 12 rfl rfl)
theorem dX1_join_155 : decode cX1_join 155 = .ok (.getfield 375, 3) := dk_180 1 119 (dk_at dksX1_join_6 14 rfl rfl)
theorem dX1_join_158 : decode cX1_join 158 = .ok (.iconst 4, 1) := dk_7 (dk_at dksX1_join_6 17 rfl rfl)
theorem dX1_join_159 : decode cX1_join 159 = .ok (.invokevirtual 172, 3) := dk_182 0 172 (dk_at dksX1_join_6 18 rfl rfl)
theorem dX1_join_162 : decode cX1_join 162 = .ok (.invokevirtual 168, 3) := dk_182 0 168 (dk_at dksX1_join_6 21 rfl rfl)
theorem dX1_join_165 : decode cX1_join 165 = .ok (.iload 4, 2) := dk_21 4 (dk_at dksX1_join_7 0 rfl rfl)
theorem dX1_join_167 : decode cX1_join 167 = .ok (.ireturn, 1) := dk_172 (dk_at dksX1_join_7 2 rfl rfl)
abbrev cX1_openOf : ByteArray := prog_1_method_46_code
def yX1_openOf : MethodName := ⟨RX1, "openOf", "(LKeygrove$Person;)LKeygrove$Pack;"⟩
def dkwX1_openOf_1 : List UInt8 := [185, 0, 213, 1, 0, 192, 0, 133, 78, 45, 180, 1, 48, 153, 0, 5, 45, 176, 167, 255, 228, 1, 176]
abbrev dktX1_openOf_1 : List UInt8 := dkwX1_openOf_1 ++ []
def dkwX1_openOf_0 : List UInt8 := [43, 180, 0, 138, 185, 0, 204, 1, 0, 77, 44, 185, 0, 208, 1, 0, 153, 0, 25, 44]
abbrev dktX1_openOf_0 : List UInt8 := dkwX1_openOf_0 ++ dktX1_openOf_1
theorem dksX1_openOf_0 : cX1_openOf.data.toList.drop 0 = dktX1_openOf_0 := by decide +kernel
theorem dksX1_openOf_1 : cX1_openOf.data.toList.drop 20 = dktX1_openOf_1 := dk_seg dksX1_openOf_0 20 rfl rfl
theorem dX1_openOf_0 : decode cX1_openOf 0 = .ok (.aload_n 1, 1) := dk_43 (dk_at dksX1_openOf_0 0 rfl rfl)
theorem dX1_openOf_1 : decode cX1_openOf 1 = .ok (.getfield 138, 3) := dk_180 0 138 (dk_at dksX1_openOf_0 1 rfl rfl)
theorem dX1_openOf_4 : decode cX1_openOf 4 = .ok (.invokeinterface 204 1, 5) := by decide +kernel
theorem dX1_openOf_9 : decode cX1_openOf 9 = .ok (.astore_n 2, 1) := dk_77 (dk_at dksX1_openOf_0 9 rfl rfl)
theorem dX1_openOf_10 : decode cX1_openOf 10 = .ok (.aload_n 2, 1) := dk_44 (dk_at dksX1_openOf_0 10 rfl rfl)
theorem dX1_openOf_11 : decode cX1_openOf 11 = .ok (.invokeinterface 208 1, 5) := by decide +kernel
theorem dX1_openOf_16 : decode cX1_openOf 16 = .ok (.ifCond .eq 25, 3) := dk_153 0 25 (dk_at dksX1_openOf_0 16 rfl rfl)
theorem dX1_openOf_19 : decode cX1_openOf 19 = .ok (.aload_n 2, 1) := dk_44 (dk_at dksX1_openOf_0 19 rfl rfl)
theorem dX1_openOf_20 : decode cX1_openOf 20 = .ok (.invokeinterface 213 1, 5) := by decide +kernel
theorem dX1_openOf_25 : decode cX1_openOf 25 = .ok (.checkcast 133, 3) := dk_192 0 133 (dk_at dksX1_openOf_1 5 rfl rfl)
theorem dX1_openOf_28 : decode cX1_openOf 28 = .ok (.astore_n 3, 1) := dk_78 (dk_at dksX1_openOf_1 8 rfl rfl)
theorem dX1_openOf_29 : decode cX1_openOf 29 = .ok (.aload_n 3, 1) := dk_45 (dk_at dksX1_openOf_1 9 rfl rfl)
theorem dX1_openOf_30 : decode cX1_openOf 30 = .ok (.getfield 304, 3) := dk_180 1 48 (dk_at dksX1_openOf_1 10 rfl rfl)
theorem dX1_openOf_33 : decode cX1_openOf 33 = .ok (.ifCond .eq 5, 3) := dk_153 0 5 (dk_at dksX1_openOf_1 13 rfl rfl)
theorem dX1_openOf_36 : decode cX1_openOf 36 = .ok (.aload_n 3, 1) := dk_45 (dk_at dksX1_openOf_1 16 rfl rfl)
theorem dX1_openOf_37 : decode cX1_openOf 37 = .ok (.areturn, 1) := dk_176 (dk_at dksX1_openOf_1 17 rfl rfl)
theorem dX1_openOf_38 : decode cX1_openOf 38 = .ok (.goto (-28), 3) := dk_167 255 228 (dk_at dksX1_openOf_1 18 rfl rfl)
theorem dX1_openOf_41 : decode cX1_openOf 41 = .ok (.aconst_null, 1) := dk_1 (dk_at dksX1_openOf_1 21 rfl rfl)
theorem dX1_openOf_42 : decode cX1_openOf 42 = .ok (.areturn, 1) := dk_176 (dk_at dksX1_openOf_1 22 rfl rfl)
abbrev cX1_leaves : ByteArray := prog_1_method_48_code
def yX1_leaves : MethodName := ⟨RX1, "leaves", "()I"⟩
def dkwX1_leaves_0 : List UInt8 := [42, 182, 0, 185, 42, 182, 0, 99, 180, 0, 176, 172]
abbrev dktX1_leaves_0 : List UInt8 := dkwX1_leaves_0 ++ []
theorem dksX1_leaves_0 : cX1_leaves.data.toList.drop 0 = dktX1_leaves_0 := by decide +kernel
theorem dX1_leaves_0 : decode cX1_leaves 0 = .ok (.aload_n 0, 1) := dk_42 (dk_at dksX1_leaves_0 0 rfl rfl)
theorem dX1_leaves_1 : decode cX1_leaves 1 = .ok (.invokevirtual 185, 3) := dk_182 0 185 (dk_at dksX1_leaves_0 1 rfl rfl)
theorem dX1_leaves_4 : decode cX1_leaves 4 = .ok (.aload_n 0, 1) := dk_42 (dk_at dksX1_leaves_0 4 rfl rfl)
theorem dX1_leaves_5 : decode cX1_leaves 5 = .ok (.invokevirtual 99, 3) := dk_182 0 99 (dk_at dksX1_leaves_0 5 rfl rfl)
theorem dX1_leaves_8 : decode cX1_leaves 8 = .ok (.getfield 176, 3) := dk_180 0 176 (dk_at dksX1_leaves_0 8 rfl rfl)
theorem dX1_leaves_11 : decode cX1_leaves 11 = .ok (.ireturn, 1) := dk_172 (dk_at dksX1_leaves_0 11 rfl rfl)
abbrev cX1_isBlank : ByteArray := prog_1_method_49_code
def yX1_isBlank : MethodName := ⟨RX1, "isBlank", "(I)Z"⟩
def dkwX1_isBlank_0 : List UInt8 := [42, 27, 182, 1, 158, 42, 182, 0, 99, 27, 182, 1, 127, 172]
abbrev dktX1_isBlank_0 : List UInt8 := dkwX1_isBlank_0 ++ []
theorem dksX1_isBlank_0 : cX1_isBlank.data.toList.drop 0 = dktX1_isBlank_0 := by decide +kernel
theorem dX1_isBlank_0 : decode cX1_isBlank 0 = .ok (.aload_n 0, 1) := dk_42 (dk_at dksX1_isBlank_0 0 rfl rfl)
theorem dX1_isBlank_1 : decode cX1_isBlank 1 = .ok (.iload_n 1, 1) := dk_27 (dk_at dksX1_isBlank_0 1 rfl rfl)
theorem dX1_isBlank_2 : decode cX1_isBlank 2 = .ok (.invokevirtual 414, 3) := dk_182 1 158 (dk_at dksX1_isBlank_0 2 rfl rfl)
theorem dX1_isBlank_5 : decode cX1_isBlank 5 = .ok (.aload_n 0, 1) := dk_42 (dk_at dksX1_isBlank_0 5 rfl rfl)
theorem dX1_isBlank_6 : decode cX1_isBlank 6 = .ok (.invokevirtual 99, 3) := dk_182 0 99 (dk_at dksX1_isBlank_0 6 rfl rfl)
theorem dX1_isBlank_9 : decode cX1_isBlank 9 = .ok (.iload_n 1, 1) := dk_27 (dk_at dksX1_isBlank_0 9 rfl rfl)
theorem dX1_isBlank_10 : decode cX1_isBlank 10 = .ok (.invokevirtual 383, 3) := dk_182 1 127 (dk_at dksX1_isBlank_0 10 rfl rfl)
theorem dX1_isBlank_13 : decode cX1_isBlank 13 = .ok (.ireturn, 1) := dk_172 (dk_at dksX1_isBlank_0 13 rfl rfl)
abbrev cX1_hasNode : ByteArray := prog_1_method_15_code
def yX1_hasNode : MethodName := ⟨RX1, "hasNode", "(I)V"⟩
def dkwX1_hasNode_1 : List UInt8 := [184, 0, 69, 153, 0, 7, 4, 167, 0, 4, 3, 184, 0, 73, 177]
abbrev dktX1_hasNode_1 : List UInt8 := dkwX1_hasNode_1 ++ []
def dkwX1_hasNode_0 : List UInt8 := [42, 180, 0, 47, 185, 0, 96, 1, 0, 154, 0, 24, 27, 3, 42, 182, 0, 99, 182, 0, 103, 4, 100]
abbrev dktX1_hasNode_0 : List UInt8 := dkwX1_hasNode_0 ++ dktX1_hasNode_1
theorem dksX1_hasNode_0 : cX1_hasNode.data.toList.drop 0 = dktX1_hasNode_0 := by decide +kernel
theorem dksX1_hasNode_1 : cX1_hasNode.data.toList.drop 23 = dktX1_hasNode_1 := dk_seg dksX1_hasNode_0 23 rfl rfl
theorem dX1_hasNode_0 : decode cX1_hasNode 0 = .ok (.aload_n 0, 1) := dk_42 (dk_at dksX1_hasNode_0 0 rfl rfl)
theorem dX1_hasNode_1 : decode cX1_hasNode 1 = .ok (.getfield 47, 3) := dk_180 0 47 (dk_at dksX1_hasNode_0 1 rfl rfl)
theorem dX1_hasNode_4 : decode cX1_hasNode 4 = .ok (.invokeinterface 96 1, 5) := by decide +kernel
theorem dX1_hasNode_9 : decode cX1_hasNode 9 = .ok (.ifCond .ne 24, 3) := dk_154 0 24 (dk_at dksX1_hasNode_0 9 rfl rfl)
theorem dX1_hasNode_12 : decode cX1_hasNode 12 = .ok (.iload_n 1, 1) := dk_27 (dk_at dksX1_hasNode_0 12 rfl rfl)
theorem dX1_hasNode_13 : decode cX1_hasNode 13 = .ok (.iconst 0, 1) := dk_3 (dk_at dksX1_hasNode_0 13 rfl rfl)
theorem dX1_hasNode_14 : decode cX1_hasNode 14 = .ok (.aload_n 0, 1) := dk_42 (dk_at dksX1_hasNode_0 14 rfl rfl)
theorem dX1_hasNode_15 : decode cX1_hasNode 15 = .ok (.invokevirtual 99, 3) := dk_182 0 99 (dk_at dksX1_hasNode_0 15 rfl rfl)
theorem dX1_hasNode_18 : decode cX1_hasNode 18 = .ok (.invokevirtual 103, 3) := dk_182 0 103 (dk_at dksX1_hasNode_0 18 rfl rfl)
theorem dX1_hasNode_21 : decode cX1_hasNode 21 = .ok (.iconst 1, 1) := dk_4 (dk_at dksX1_hasNode_0 21 rfl rfl)
theorem dX1_hasNode_22 : decode cX1_hasNode 22 = .ok (.isub, 1) := dk_100 (dk_at dksX1_hasNode_0 22 rfl rfl)
theorem dX1_hasNode_23 : decode cX1_hasNode 23 = .ok (.invokestatic 69, 3) := dk_184 0 69 (dk_at dksX1_hasNode_1 0 rfl rfl)
theorem dX1_hasNode_26 : decode cX1_hasNode 26 = .ok (.ifCond .eq 7, 3) := dk_153 0 7 (dk_at dksX1_hasNode_1 3 rfl rfl)
theorem dX1_hasNode_29 : decode cX1_hasNode 29 = .ok (.iconst 1, 1) := dk_4 (dk_at dksX1_hasNode_1 6 rfl rfl)
theorem dX1_hasNode_30 : decode cX1_hasNode 30 = .ok (.goto 4, 3) := dk_167 0 4 (dk_at dksX1_hasNode_1 7 rfl rfl)
theorem dX1_hasNode_33 : decode cX1_hasNode 33 = .ok (.iconst 0, 1) := dk_3 (dk_at dksX1_hasNode_1 10 rfl rfl)
theorem dX1_hasNode_34 : decode cX1_hasNode 34 = .ok (.invokestatic 73, 3) := dk_184 0 73 (dk_at dksX1_hasNode_1 11 rfl rfl)
theorem dX1_hasNode_37 : decode cX1_hasNode 37 = .ok (.return_, 1) := dk_177 (dk_at dksX1_hasNode_1 14 rfl rfl)
abbrev cX1_late : ByteArray := prog_1_method_50_code
def yX1_late : MethodName := ⟨RX1, "late", "(I)I"⟩
def dkwX1_late_0 : List UInt8 := [42, 27, 182, 1, 158, 42, 182, 0, 99, 180, 1, 79, 27, 46, 172]
abbrev dktX1_late_0 : List UInt8 := dkwX1_late_0 ++ []
theorem dksX1_late_0 : cX1_late.data.toList.drop 0 = dktX1_late_0 := by decide +kernel
theorem dX1_late_0 : decode cX1_late 0 = .ok (.aload_n 0, 1) := dk_42 (dk_at dksX1_late_0 0 rfl rfl)
theorem dX1_late_1 : decode cX1_late 1 = .ok (.iload_n 1, 1) := dk_27 (dk_at dksX1_late_0 1 rfl rfl)
theorem dX1_late_2 : decode cX1_late 2 = .ok (.invokevirtual 414, 3) := dk_182 1 158 (dk_at dksX1_late_0 2 rfl rfl)
theorem dX1_late_5 : decode cX1_late 5 = .ok (.aload_n 0, 1) := dk_42 (dk_at dksX1_late_0 5 rfl rfl)
theorem dX1_late_6 : decode cX1_late 6 = .ok (.invokevirtual 99, 3) := dk_182 0 99 (dk_at dksX1_late_0 6 rfl rfl)
theorem dX1_late_9 : decode cX1_late 9 = .ok (.getfield 335, 3) := dk_180 1 79 (dk_at dksX1_late_0 9 rfl rfl)
theorem dX1_late_12 : decode cX1_late 12 = .ok (.iload_n 1, 1) := dk_27 (dk_at dksX1_late_0 12 rfl rfl)
theorem dX1_late_13 : decode cX1_late 13 = .ok (.iaload, 1) := dk_46 (dk_at dksX1_late_0 13 rfl rfl)
theorem dX1_late_14 : decode cX1_late 14 = .ok (.ireturn, 1) := dk_172 (dk_at dksX1_late_0 14 rfl rfl)
abbrev cX1_cover : ByteArray := prog_1_method_51_code
def yX1_cover : MethodName := ⟨RX1, "cover", "(I)I"⟩
def dkwX1_cover_0 : List UInt8 := [42, 27, 182, 1, 158, 42, 182, 0, 99, 27, 182, 1, 76, 185, 0, 63, 1, 0, 172]
abbrev dktX1_cover_0 : List UInt8 := dkwX1_cover_0 ++ []
theorem dksX1_cover_0 : cX1_cover.data.toList.drop 0 = dktX1_cover_0 := by decide +kernel
theorem dX1_cover_0 : decode cX1_cover 0 = .ok (.aload_n 0, 1) := dk_42 (dk_at dksX1_cover_0 0 rfl rfl)
theorem dX1_cover_1 : decode cX1_cover 1 = .ok (.iload_n 1, 1) := dk_27 (dk_at dksX1_cover_0 1 rfl rfl)
theorem dX1_cover_2 : decode cX1_cover 2 = .ok (.invokevirtual 414, 3) := dk_182 1 158 (dk_at dksX1_cover_0 2 rfl rfl)
theorem dX1_cover_5 : decode cX1_cover 5 = .ok (.aload_n 0, 1) := dk_42 (dk_at dksX1_cover_0 5 rfl rfl)
theorem dX1_cover_6 : decode cX1_cover 6 = .ok (.invokevirtual 99, 3) := dk_182 0 99 (dk_at dksX1_cover_0 6 rfl rfl)
theorem dX1_cover_9 : decode cX1_cover 9 = .ok (.iload_n 1, 1) := dk_27 (dk_at dksX1_cover_0 9 rfl rfl)
theorem dX1_cover_10 : decode cX1_cover 10 = .ok (.invokevirtual 332, 3) := dk_182 1 76 (dk_at dksX1_cover_0 10 rfl rfl)
theorem dX1_cover_13 : decode cX1_cover 13 = .ok (.invokeinterface 63 1, 5) := by decide +kernel
theorem dX1_cover_18 : decode cX1_cover 18 = .ok (.ireturn, 1) := dk_172 (dk_at dksX1_cover_0 18 rfl rfl)
abbrev cX1_coverAt : ByteArray := prog_1_method_52_code
def yX1_coverAt : MethodName := ⟨RX1, "coverAt", "(II)I"⟩
def dkwX1_coverAt_1 : List UInt8 := [184, 0, 69, 184, 0, 188, 45, 28, 185, 0, 77, 2, 0, 192, 0, 111, 182, 1, 67, 172]
abbrev dktX1_coverAt_1 : List UInt8 := dkwX1_coverAt_1 ++ []
def dkwX1_coverAt_0 : List UInt8 := [42, 27, 182, 1, 158, 42, 182, 0, 99, 27, 182, 1, 76, 78, 28, 3, 45, 185, 0, 63, 1, 0, 4, 100]
abbrev dktX1_coverAt_0 : List UInt8 := dkwX1_coverAt_0 ++ dktX1_coverAt_1
theorem dksX1_coverAt_0 : cX1_coverAt.data.toList.drop 0 = dktX1_coverAt_0 := by decide +kernel
theorem dksX1_coverAt_1 : cX1_coverAt.data.toList.drop 24 = dktX1_coverAt_1 := dk_seg dksX1_coverAt_0 24 rfl rfl
theorem dX1_coverAt_0 : decode cX1_coverAt 0 = .ok (.aload_n 0, 1) := dk_42 (dk_at dksX1_coverAt_0 0 rfl rfl)
theorem dX1_coverAt_1 : decode cX1_coverAt 1 = .ok (.iload_n 1, 1) := dk_27 (dk_at dksX1_coverAt_0 1 rfl rfl)
theorem dX1_coverAt_2 : decode cX1_coverAt 2 = .ok (.invokevirtual 414, 3) := dk_182 1 158 (dk_at dksX1_coverAt_0 2 rfl rfl)
theorem dX1_coverAt_5 : decode cX1_coverAt 5 = .ok (.aload_n 0, 1) := dk_42 (dk_at dksX1_coverAt_0 5 rfl rfl)
theorem dX1_coverAt_6 : decode cX1_coverAt 6 = .ok (.invokevirtual 99, 3) := dk_182 0 99 (dk_at dksX1_coverAt_0 6 rfl rfl)
theorem dX1_coverAt_9 : decode cX1_coverAt 9 = .ok (.iload_n 1, 1) := dk_27 (dk_at dksX1_coverAt_0 9 rfl rfl)
theorem dX1_coverAt_10 : decode cX1_coverAt 10 = .ok (.invokevirtual 332, 3) := dk_182 1 76 (dk_at dksX1_coverAt_0 10 rfl rfl)
theorem dX1_coverAt_13 : decode cX1_coverAt 13 = .ok (.astore_n 3, 1) := dk_78 (dk_at dksX1_coverAt_0 13 rfl rfl)
theorem dX1_coverAt_14 : decode cX1_coverAt 14 = .ok (.iload_n 2, 1) := dk_28 (dk_at dksX1_coverAt_0 14 rfl rfl)
theorem dX1_coverAt_15 : decode cX1_coverAt 15 = .ok (.iconst 0, 1) := dk_3 (dk_at dksX1_coverAt_0 15 rfl rfl)
theorem dX1_coverAt_16 : decode cX1_coverAt 16 = .ok (.aload_n 3, 1) := dk_45 (dk_at dksX1_coverAt_0 16 rfl rfl)
theorem dX1_coverAt_17 : decode cX1_coverAt 17 = .ok (.invokeinterface 63 1, 5) := by decide +kernel
theorem dX1_coverAt_22 : decode cX1_coverAt 22 = .ok (.iconst 1, 1) := dk_4 (dk_at dksX1_coverAt_0 22 rfl rfl)
theorem dX1_coverAt_23 : decode cX1_coverAt 23 = .ok (.isub, 1) := dk_100 (dk_at dksX1_coverAt_0 23 rfl rfl)
theorem dX1_coverAt_24 : decode cX1_coverAt 24 = .ok (.invokestatic 69, 3) := dk_184 0 69 (dk_at dksX1_coverAt_1 0 rfl rfl)
theorem dX1_coverAt_27 : decode cX1_coverAt 27 = .ok (.invokestatic 188, 3) := dk_184 0 188 (dk_at dksX1_coverAt_1 3 rfl rfl)
theorem dX1_coverAt_30 : decode cX1_coverAt 30 = .ok (.aload_n 3, 1) := dk_45 (dk_at dksX1_coverAt_1 6 rfl rfl)
theorem dX1_coverAt_31 : decode cX1_coverAt 31 = .ok (.iload_n 2, 1) := dk_28 (dk_at dksX1_coverAt_1 7 rfl rfl)
theorem dX1_coverAt_32 : decode cX1_coverAt 32 = .ok (.invokeinterface 77 2, 5) := by decide +kernel
theorem dX1_coverAt_37 : decode cX1_coverAt 37 = .ok (.checkcast 111, 3) := dk_192 0 111 (dk_at dksX1_coverAt_1 13 rfl rfl)
theorem dX1_coverAt_40 : decode cX1_coverAt 40 = .ok (.invokevirtual 323, 3) := dk_182 1 67 (dk_at dksX1_coverAt_1 16 rfl rfl)
theorem dX1_coverAt_43 : decode cX1_coverAt 43 = .ok (.ireturn, 1) := dk_172 (dk_at dksX1_coverAt_1 19 rfl rfl)
abbrev cX1_personAt : ByteArray := prog_1_method_53_code
def yX1_personAt : MethodName := ⟨RX1, "personAt", "(I)I"⟩
def dkwX1_personAt_2 : List UInt8 := [159, 0, 7, 4, 167, 0, 4, 3, 184, 0, 188, 42, 182, 0, 99, 180, 0, 147, 27, 46, 172]
abbrev dktX1_personAt_2 : List UInt8 := dkwX1_personAt_2 ++ []
def dkwX1_personAt_1 : List UInt8 := [184, 0, 69, 153, 0, 7, 4, 167, 0, 4, 3, 184, 0, 73, 42, 182, 0, 99, 180, 0, 147, 27, 46, 2]
abbrev dktX1_personAt_1 : List UInt8 := dkwX1_personAt_1 ++ dktX1_personAt_2
def dkwX1_personAt_0 : List UInt8 := [42, 180, 0, 47, 185, 0, 96, 1, 0, 154, 0, 24, 27, 3, 42, 182, 0, 99, 180, 0, 176, 4, 100]
abbrev dktX1_personAt_0 : List UInt8 := dkwX1_personAt_0 ++ dktX1_personAt_1
theorem dksX1_personAt_0 : cX1_personAt.data.toList.drop 0 = dktX1_personAt_0 := by decide +kernel
theorem dksX1_personAt_1 : cX1_personAt.data.toList.drop 23 = dktX1_personAt_1 := dk_seg dksX1_personAt_0 23 rfl rfl
theorem dksX1_personAt_2 : cX1_personAt.data.toList.drop 47 = dktX1_personAt_2 := dk_seg dksX1_personAt_1 24 rfl rfl
theorem dX1_personAt_0 : decode cX1_personAt 0 = .ok (.aload_n 0, 1) := dk_42 (dk_at dksX1_personAt_0 0 rfl rfl)
theorem dX1_personAt_1 : decode cX1_personAt 1 = .ok (.getfield 47, 3) := dk_180 0 47 (dk_at dksX1_personAt_0 1 rfl rfl)
theorem dX1_personAt_4 : decode cX1_personAt 4 = .ok (.invokeinterface 96 1, 5) := by decide +kernel
theorem dX1_personAt_9 : decode cX1_personAt 9 = .ok (.ifCond .ne 24, 3) := dk_154 0 24 (dk_at dksX1_personAt_0 9 rfl rfl)
theorem dX1_personAt_12 : decode cX1_personAt 12 = .ok (.iload_n 1, 1) := dk_27 (dk_at dksX1_personAt_0 12 rfl rfl)
theorem dX1_personAt_13 : decode cX1_personAt 13 = .ok (.iconst 0, 1) := dk_3 (dk_at dksX1_personAt_0 13 rfl rfl)
theorem dX1_personAt_14 : decode cX1_personAt 14 = .ok (.aload_n 0, 1) := dk_42 (dk_at dksX1_personAt_0 14 rfl rfl)
theorem dX1_personAt_15 : decode cX1_personAt 15 = .ok (.invokevirtual 99, 3) := dk_182 0 99 (dk_at dksX1_personAt_0 15 rfl rfl)
theorem dX1_personAt_18 : decode cX1_personAt 18 = .ok (.getfield 176, 3) := dk_180 0 176 (dk_at dksX1_personAt_0 18 rfl rfl)
theorem dX1_personAt_21 : decode cX1_personAt 21 = .ok (.iconst 1, 1) := dk_4 (dk_at dksX1_personAt_0 21 rfl rfl)
theorem dX1_personAt_22 : decode cX1_personAt 22 = .ok (.isub, 1) := dk_100 (dk_at dksX1_personAt_0 22 rfl rfl)
theorem dX1_personAt_23 : decode cX1_personAt 23 = .ok (.invokestatic 69, 3) := dk_184 0 69 (dk_at dksX1_personAt_1 0 rfl rfl)
theorem dX1_personAt_26 : decode cX1_personAt 26 = .ok (.ifCond .eq 7, 3) := dk_153 0 7 (dk_at dksX1_personAt_1 3 rfl rfl)
theorem dX1_personAt_29 : decode cX1_personAt 29 = .ok (.iconst 1, 1) := dk_4 (dk_at dksX1_personAt_1 6 rfl rfl)
theorem dX1_personAt_30 : decode cX1_personAt 30 = .ok (.goto 4, 3) := dk_167 0 4 (dk_at dksX1_personAt_1 7 rfl rfl)
theorem dX1_personAt_33 : decode cX1_personAt 33 = .ok (.iconst 0, 1) := dk_3 (dk_at dksX1_personAt_1 10 rfl rfl)
theorem dX1_personAt_34 : decode cX1_personAt 34 = .ok (.invokestatic 73, 3) := dk_184 0 73 (dk_at dksX1_personAt_1 11 rfl rfl)
theorem dX1_personAt_37 : decode cX1_personAt 37 = .ok (.aload_n 0, 1) := dk_42 (dk_at dksX1_personAt_1 14 rfl rfl)
theorem dX1_personAt_38 : decode cX1_personAt 38 = .ok (.invokevirtual 99, 3) := dk_182 0 99 (dk_at dksX1_personAt_1 15 rfl rfl)
theorem dX1_personAt_41 : decode cX1_personAt 41 = .ok (.getfield 147, 3) := dk_180 0 147 (dk_at dksX1_personAt_1 18 rfl rfl)
theorem dX1_personAt_44 : decode cX1_personAt 44 = .ok (.iload_n 1, 1) := dk_27 (dk_at dksX1_personAt_1 21 rfl rfl)
theorem dX1_personAt_45 : decode cX1_personAt 45 = .ok (.iaload, 1) := dk_46 (dk_at dksX1_personAt_1 22 rfl rfl)
theorem dX1_personAt_46 : decode cX1_personAt 46 = .ok (.iconst (-1), 1) := dk_2 (dk_at dksX1_personAt_1 23 rfl rfl)
theorem dX1_personAt_47 : decode cX1_personAt 47 = .ok (.if_icmp .eq 7, 3) := dk_159 0 7 (dk_at dksX1_personAt_2 0 rfl rfl)
theorem dX1_personAt_50 : decode cX1_personAt 50 = .ok (.iconst 1, 1) := dk_4 (dk_at dksX1_personAt_2 3 rfl rfl)
theorem dX1_personAt_51 : decode cX1_personAt 51 = .ok (.goto 4, 3) := dk_167 0 4 (dk_at dksX1_personAt_2 4 rfl rfl)
theorem dX1_personAt_54 : decode cX1_personAt 54 = .ok (.iconst 0, 1) := dk_3 (dk_at dksX1_personAt_2 7 rfl rfl)
theorem dX1_personAt_55 : decode cX1_personAt 55 = .ok (.invokestatic 188, 3) := dk_184 0 188 (dk_at dksX1_personAt_2 8 rfl rfl)
theorem dX1_personAt_58 : decode cX1_personAt 58 = .ok (.aload_n 0, 1) := dk_42 (dk_at dksX1_personAt_2 11 rfl rfl)
theorem dX1_personAt_59 : decode cX1_personAt 59 = .ok (.invokevirtual 99, 3) := dk_182 0 99 (dk_at dksX1_personAt_2 12 rfl rfl)
theorem dX1_personAt_62 : decode cX1_personAt 62 = .ok (.getfield 147, 3) := dk_180 0 147 (dk_at dksX1_personAt_2 15 rfl rfl)
theorem dX1_personAt_65 : decode cX1_personAt 65 = .ok (.iload_n 1, 1) := dk_27 (dk_at dksX1_personAt_2 18 rfl rfl)
theorem dX1_personAt_66 : decode cX1_personAt 66 = .ok (.iaload, 1) := dk_46 (dk_at dksX1_personAt_2 19 rfl rfl)
theorem dX1_personAt_67 : decode cX1_personAt 67 = .ok (.ireturn, 1) := dk_172 (dk_at dksX1_personAt_2 20 rfl rfl)
abbrev cX1_holds : ByteArray := prog_1_method_54_code
def yX1_holds : MethodName := ⟨RX1, "holds", "(II)Z"⟩
def dkwX1_holds_1 : List UInt8 := [182, 1, 161, 42, 182, 0, 99, 180, 0, 143, 28, 46, 182, 1, 165, 153, 0, 7, 4, 167, 0, 4, 3, 172]
abbrev dktX1_holds_1 : List UInt8 := dkwX1_holds_1 ++ []
def dkwX1_holds_0 : List UInt8 := [42, 27, 182, 0, 126, 78, 42, 28, 182, 1, 158, 42, 182, 0, 99, 28, 182, 1, 127, 154, 0, 26, 45]
abbrev dktX1_holds_0 : List UInt8 := dkwX1_holds_0 ++ dktX1_holds_1
theorem dksX1_holds_0 : cX1_holds.data.toList.drop 0 = dktX1_holds_0 := by decide +kernel
theorem dksX1_holds_1 : cX1_holds.data.toList.drop 23 = dktX1_holds_1 := dk_seg dksX1_holds_0 23 rfl rfl
theorem dX1_holds_0 : decode cX1_holds 0 = .ok (.aload_n 0, 1) := dk_42 (dk_at dksX1_holds_0 0 rfl rfl)
theorem dX1_holds_1 : decode cX1_holds 1 = .ok (.iload_n 1, 1) := dk_27 (dk_at dksX1_holds_0 1 rfl rfl)
theorem dX1_holds_2 : decode cX1_holds 2 = .ok (.invokevirtual 126, 3) := dk_182 0 126 (dk_at dksX1_holds_0 2 rfl rfl)
theorem dX1_holds_5 : decode cX1_holds 5 = .ok (.astore_n 3, 1) := dk_78 (dk_at dksX1_holds_0 5 rfl rfl)
theorem dX1_holds_6 : decode cX1_holds 6 = .ok (.aload_n 0, 1) := dk_42 (dk_at dksX1_holds_0 6 rfl rfl)
theorem dX1_holds_7 : decode cX1_holds 7 = .ok (.iload_n 2, 1) := dk_28 (dk_at dksX1_holds_0 7 rfl rfl)
theorem dX1_holds_8 : decode cX1_holds 8 = .ok (.invokevirtual 414, 3) := dk_182 1 158 (dk_at dksX1_holds_0 8 rfl rfl)
theorem dX1_holds_11 : decode cX1_holds 11 = .ok (.aload_n 0, 1) := dk_42 (dk_at dksX1_holds_0 11 rfl rfl)
theorem dX1_holds_12 : decode cX1_holds 12 = .ok (.invokevirtual 99, 3) := dk_182 0 99 (dk_at dksX1_holds_0 12 rfl rfl)
theorem dX1_holds_15 : decode cX1_holds 15 = .ok (.iload_n 2, 1) := dk_28 (dk_at dksX1_holds_0 15 rfl rfl)
theorem dX1_holds_16 : decode cX1_holds 16 = .ok (.invokevirtual 383, 3) := dk_182 1 127 (dk_at dksX1_holds_0 16 rfl rfl)
theorem dX1_holds_19 : decode cX1_holds 19 = .ok (.ifCond .ne 26, 3) := dk_154 0 26 (dk_at dksX1_holds_0 19 rfl rfl)
theorem dX1_holds_22 : decode cX1_holds 22 = .ok (.aload_n 3, 1) := dk_45 (dk_at dksX1_holds_0 22 rfl rfl)
theorem dX1_holds_23 : decode cX1_holds 23 = .ok (.invokevirtual 417, 3) := dk_182 1 161 (dk_at dksX1_holds_1 0 rfl rfl)
theorem dX1_holds_26 : decode cX1_holds 26 = .ok (.aload_n 0, 1) := dk_42 (dk_at dksX1_holds_1 3 rfl rfl)
theorem dX1_holds_27 : decode cX1_holds 27 = .ok (.invokevirtual 99, 3) := dk_182 0 99 (dk_at dksX1_holds_1 4 rfl rfl)
theorem dX1_holds_30 : decode cX1_holds 30 = .ok (.getfield 143, 3) := dk_180 0 143 (dk_at dksX1_holds_1 7 rfl rfl)
theorem dX1_holds_33 : decode cX1_holds 33 = .ok (.iload_n 2, 1) := dk_28 (dk_at dksX1_holds_1 10 rfl rfl)
theorem dX1_holds_34 : decode cX1_holds 34 = .ok (.iaload, 1) := dk_46 (dk_at dksX1_holds_1 11 rfl rfl)
theorem dX1_holds_35 : decode cX1_holds 35 = .ok (.invokevirtual 421, 3) := dk_182 1 165 (dk_at dksX1_holds_1 12 rfl rfl)
theorem dX1_holds_38 : decode cX1_holds 38 = .ok (.ifCond .eq 7, 3) := dk_153 0 7 (dk_at dksX1_holds_1 15 rfl rfl)
theorem dX1_holds_41 : decode cX1_holds 41 = .ok (.iconst 1, 1) := dk_4 (dk_at dksX1_holds_1 18 rfl rfl)
theorem dX1_holds_42 : decode cX1_holds 42 = .ok (.goto 4, 3) := dk_167 0 4 (dk_at dksX1_holds_1 19 rfl rfl)
theorem dX1_holds_45 : decode cX1_holds 45 = .ok (.iconst 0, 1) := dk_3 (dk_at dksX1_holds_1 22 rfl rfl)
theorem dX1_holds_46 : decode cX1_holds 46 = .ok (.ireturn, 1) := dk_172 (dk_at dksX1_holds_1 23 rfl rfl)
abbrev cX1_key : ByteArray := prog_1_method_55_code
def yX1_key : MethodName := ⟨RX1, "key", "(I)I"⟩
def dkwX1_key_1 : List UInt8 := [172]
abbrev dktX1_key_1 : List UInt8 := dkwX1_key_1 ++ []
def dkwX1_key_0 : List UInt8 := [42, 27, 182, 0, 126, 77, 44, 182, 0, 88, 184, 0, 188, 42, 180, 0, 28, 44, 180, 1, 167, 182, 1, 170]
abbrev dktX1_key_0 : List UInt8 := dkwX1_key_0 ++ dktX1_key_1
theorem dksX1_key_0 : cX1_key.data.toList.drop 0 = dktX1_key_0 := by decide +kernel
theorem dksX1_key_1 : cX1_key.data.toList.drop 24 = dktX1_key_1 := dk_seg dksX1_key_0 24 rfl rfl
theorem dX1_key_0 : decode cX1_key 0 = .ok (.aload_n 0, 1) := dk_42 (dk_at dksX1_key_0 0 rfl rfl)
theorem dX1_key_1 : decode cX1_key 1 = .ok (.iload_n 1, 1) := dk_27 (dk_at dksX1_key_0 1 rfl rfl)
theorem dX1_key_2 : decode cX1_key 2 = .ok (.invokevirtual 126, 3) := dk_182 0 126 (dk_at dksX1_key_0 2 rfl rfl)
theorem dX1_key_5 : decode cX1_key 5 = .ok (.astore_n 2, 1) := dk_77 (dk_at dksX1_key_0 5 rfl rfl)
theorem dX1_key_6 : decode cX1_key 6 = .ok (.aload_n 2, 1) := dk_44 (dk_at dksX1_key_0 6 rfl rfl)
theorem dX1_key_7 : decode cX1_key 7 = .ok (.invokevirtual 88, 3) := dk_182 0 88 (dk_at dksX1_key_0 7 rfl rfl)
theorem dX1_key_10 : decode cX1_key 10 = .ok (.invokestatic 188, 3) := dk_184 0 188 (dk_at dksX1_key_0 10 rfl rfl)
theorem dX1_key_13 : decode cX1_key 13 = .ok (.aload_n 0, 1) := dk_42 (dk_at dksX1_key_0 13 rfl rfl)
theorem dX1_key_14 : decode cX1_key 14 = .ok (.getfield 28, 3) := dk_180 0 28 (dk_at dksX1_key_0 14 rfl rfl)
theorem dX1_key_17 : decode cX1_key 17 = .ok (.aload_n 2, 1) := dk_44 (dk_at dksX1_key_0 17 rfl rfl)
theorem dX1_key_18 : decode cX1_key 18 = .ok (.getfield 423, 3) := dk_180 1 167 (dk_at dksX1_key_0 18 rfl rfl)
theorem dX1_key_21 : decode cX1_key 21 = .ok (.invokevirtual 426, 3) := dk_182 1 170 (dk_at dksX1_key_0 21 rfl rfl)
theorem dX1_key_24 : decode cX1_key 24 = .ok (.ireturn, 1) := dk_172 (dk_at dksX1_key_1 0 rfl rfl)
abbrev cX1_held : ByteArray := prog_1_method_57_code
def yX1_held : MethodName := ⟨RX1, "held", "(I)I"⟩
def dkwX1_held_0 : List UInt8 := [42, 27, 182, 0, 126, 182, 1, 161, 182, 1, 173, 172]
abbrev dktX1_held_0 : List UInt8 := dkwX1_held_0 ++ []
theorem dksX1_held_0 : cX1_held.data.toList.drop 0 = dktX1_held_0 := by decide +kernel
theorem dX1_held_0 : decode cX1_held 0 = .ok (.aload_n 0, 1) := dk_42 (dk_at dksX1_held_0 0 rfl rfl)
theorem dX1_held_1 : decode cX1_held 1 = .ok (.iload_n 1, 1) := dk_27 (dk_at dksX1_held_0 1 rfl rfl)
theorem dX1_held_2 : decode cX1_held 2 = .ok (.invokevirtual 126, 3) := dk_182 0 126 (dk_at dksX1_held_0 2 rfl rfl)
theorem dX1_held_5 : decode cX1_held 5 = .ok (.invokevirtual 417, 3) := dk_182 1 161 (dk_at dksX1_held_0 5 rfl rfl)
theorem dX1_held_8 : decode cX1_held 8 = .ok (.invokevirtual 429, 3) := dk_182 1 173 (dk_at dksX1_held_0 8 rfl rfl)
theorem dX1_held_11 : decode cX1_held 11 = .ok (.ireturn, 1) := dk_172 (dk_at dksX1_held_0 11 rfl rfl)
abbrev cX1_send : ByteArray := prog_1_method_58_code
def yX1_send : MethodName := ⟨RX1, "send", "(I)I"⟩
def dkwX1_send_6 : List UInt8 := [181, 1, 185, 44, 182, 0, 139, 42, 180, 0, 53, 185, 0, 63, 1, 0, 4, 100, 172]
abbrev dktX1_send_6 : List UInt8 := dkwX1_send_6 ++ []
def dkwX1_send_5 : List UInt8 := [180, 0, 28, 45, 180, 1, 181, 16, 8, 182, 0, 172, 181, 1, 181, 45, 89, 180, 1, 185, 4, 96]
abbrev dktX1_send_5 : List UInt8 := dkwX1_send_5 ++ dktX1_send_6
def dkwX1_send_4 : List UInt8 := [180, 0, 92, 44, 180, 0, 191, 45, 180, 1, 185, 21, 4, 183, 1, 188, 185, 0, 116, 2, 0, 87, 45, 42]
abbrev dktX1_send_4 : List UInt8 := dkwX1_send_4 ++ dktX1_send_5
def dkwX1_send_3 : List UInt8 := [45, 180, 1, 181, 16, 7, 182, 0, 172, 21, 4, 182, 1, 111, 42, 180, 0, 53, 187, 1, 183, 89, 44]
abbrev dktX1_send_3 : List UInt8 := dkwX1_send_3 ++ dktX1_send_4
def dkwX1_send_2 : List UInt8 := [182, 1, 142, 192, 1, 179, 78, 42, 180, 0, 28, 182, 0, 130, 54, 4, 42, 180, 0, 28, 42, 180, 0, 28]
abbrev dktX1_send_2 : List UInt8 := dkwX1_send_2 ++ dktX1_send_3
def dkwX1_send_1 : List UInt8 := [162, 0, 7, 4, 167, 0, 4, 3, 184, 0, 120, 44, 180, 1, 176, 44, 180, 0, 191, 184, 0, 110]
abbrev dktX1_send_1 : List UInt8 := dkwX1_send_1 ++ dktX1_send_2
def dkwX1_send_0 : List UInt8 := [42, 27, 182, 0, 126, 77, 44, 182, 0, 88, 184, 0, 182, 42, 180, 0, 53, 185, 0, 63, 1, 0, 16, 40]
abbrev dktX1_send_0 : List UInt8 := dkwX1_send_0 ++ dktX1_send_1
theorem dksX1_send_0 : cX1_send.data.toList.drop 0 = dktX1_send_0 := by decide +kernel
theorem dksX1_send_1 : cX1_send.data.toList.drop 24 = dktX1_send_1 := dk_seg dksX1_send_0 24 rfl rfl
theorem dksX1_send_2 : cX1_send.data.toList.drop 46 = dktX1_send_2 := dk_seg dksX1_send_1 22 rfl rfl
theorem dksX1_send_3 : cX1_send.data.toList.drop 70 = dktX1_send_3 := dk_seg dksX1_send_2 24 rfl rfl
theorem dksX1_send_4 : cX1_send.data.toList.drop 93 = dktX1_send_4 := dk_seg dksX1_send_3 23 rfl rfl
theorem dksX1_send_5 : cX1_send.data.toList.drop 117 = dktX1_send_5 := dk_seg dksX1_send_4 24 rfl rfl
theorem dksX1_send_6 : cX1_send.data.toList.drop 139 = dktX1_send_6 := dk_seg dksX1_send_5 22 rfl rfl
theorem dX1_send_0 : decode cX1_send 0 = .ok (.aload_n 0, 1) := dk_42 (dk_at dksX1_send_0 0 rfl rfl)
theorem dX1_send_1 : decode cX1_send 1 = .ok (.iload_n 1, 1) := dk_27 (dk_at dksX1_send_0 1 rfl rfl)
theorem dX1_send_2 : decode cX1_send 2 = .ok (.invokevirtual 126, 3) := dk_182 0 126 (dk_at dksX1_send_0 2 rfl rfl)
theorem dX1_send_5 : decode cX1_send 5 = .ok (.astore_n 2, 1) := dk_77 (dk_at dksX1_send_0 5 rfl rfl)
theorem dX1_send_6 : decode cX1_send 6 = .ok (.aload_n 2, 1) := dk_44 (dk_at dksX1_send_0 6 rfl rfl)
theorem dX1_send_7 : decode cX1_send 7 = .ok (.invokevirtual 88, 3) := dk_182 0 88 (dk_at dksX1_send_0 7 rfl rfl)
theorem dX1_send_10 : decode cX1_send 10 = .ok (.invokestatic 182, 3) := dk_184 0 182 (dk_at dksX1_send_0 10 rfl rfl)
theorem dX1_send_13 : decode cX1_send 13 = .ok (.aload_n 0, 1) := dk_42 (dk_at dksX1_send_0 13 rfl rfl)
theorem dX1_send_14 : decode cX1_send 14 = .ok (.getfield 53, 3) := dk_180 0 53 (dk_at dksX1_send_0 14 rfl rfl)
theorem dX1_send_17 : decode cX1_send 17 = .ok (.invokeinterface 63 1, 5) := by decide +kernel
theorem dX1_send_22 : decode cX1_send 22 = .ok (.bipush 40, 2) := dk_16 40 (dk_at dksX1_send_0 22 rfl rfl)
theorem dX1_send_24 : decode cX1_send 24 = .ok (.if_icmp .ge 7, 3) := dk_162 0 7 (dk_at dksX1_send_1 0 rfl rfl)
theorem dX1_send_27 : decode cX1_send 27 = .ok (.iconst 1, 1) := dk_4 (dk_at dksX1_send_1 3 rfl rfl)
theorem dX1_send_28 : decode cX1_send 28 = .ok (.goto 4, 3) := dk_167 0 4 (dk_at dksX1_send_1 4 rfl rfl)
theorem dX1_send_31 : decode cX1_send 31 = .ok (.iconst 0, 1) := dk_3 (dk_at dksX1_send_1 7 rfl rfl)
theorem dX1_send_32 : decode cX1_send 32 = .ok (.invokestatic 120, 3) := dk_184 0 120 (dk_at dksX1_send_1 8 rfl rfl)
theorem dX1_send_35 : decode cX1_send 35 = .ok (.aload_n 2, 1) := dk_44 (dk_at dksX1_send_1 11 rfl rfl)
theorem dX1_send_36 : decode cX1_send 36 = .ok (.getfield 432, 3) := dk_180 1 176 (dk_at dksX1_send_1 12 rfl rfl)
theorem dX1_send_39 : decode cX1_send 39 = .ok (.aload_n 2, 1) := dk_44 (dk_at dksX1_send_1 15 rfl rfl)
theorem dX1_send_40 : decode cX1_send 40 = .ok (.getfield 191, 3) := dk_180 0 191 (dk_at dksX1_send_1 16 rfl rfl)
theorem dX1_send_43 : decode cX1_send 43 = .ok (.invokestatic 110, 3) := dk_184 0 110 (dk_at dksX1_send_1 19 rfl rfl)
theorem dX1_send_46 : decode cX1_send 46 = .ok (.invokevirtual 398, 3) := dk_182 1 142 (dk_at dksX1_send_2 0 rfl rfl)
theorem dX1_send_49 : decode cX1_send 49 = .ok (.checkcast 435, 3) := dk_192 1 179 (dk_at dksX1_send_2 3 rfl rfl)
theorem dX1_send_52 : decode cX1_send 52 = .ok (.astore_n 3, 1) := dk_78 (dk_at dksX1_send_2 6 rfl rfl)
theorem dX1_send_53 : decode cX1_send 53 = .ok (.aload_n 0, 1) := dk_42 (dk_at dksX1_send_2 7 rfl rfl)
theorem dX1_send_54 : decode cX1_send 54 = .ok (.getfield 28, 3) := dk_180 0 28 (dk_at dksX1_send_2 8 rfl rfl)
theorem dX1_send_57 : decode cX1_send 57 = .ok (.invokevirtual 130, 3) := dk_182 0 130 (dk_at dksX1_send_2 11 rfl rfl)
theorem dX1_send_60 : decode cX1_send 60 = .ok (.istore 4, 2) := dk_54 4 (dk_at dksX1_send_2 14 rfl rfl)
theorem dX1_send_62 : decode cX1_send 62 = .ok (.aload_n 0, 1) := dk_42 (dk_at dksX1_send_2 16 rfl rfl)
theorem dX1_send_63 : decode cX1_send 63 = .ok (.getfield 28, 3) := dk_180 0 28 (dk_at dksX1_send_2 17 rfl rfl)
theorem dX1_send_66 : decode cX1_send 66 = .ok (.aload_n 0, 1) := dk_42 (dk_at dksX1_send_2 20 rfl rfl)
theorem dX1_send_67 : decode cX1_send 67 = .ok (.getfield 28, 3) := dk_180 0 28 (dk_at dksX1_send_2 21 rfl rfl)
theorem dX1_send_70 : decode cX1_send 70 = .ok (.aload_n 3, 1) := dk_45 (dk_at dksX1_send_3 0 rfl rfl)
theorem dX1_send_71 : decode cX1_send 71 = .ok (.getfield 437, 3) := dk_180 1 181 (dk_at dksX1_send_3 1 rfl rfl)
theorem dX1_send_74 : decode cX1_send 74 = .ok (.bipush 7, 2) := dk_16 7 (dk_at dksX1_send_3 4 rfl rfl)
theorem dX1_send_76 : decode cX1_send 76 = .ok (.invokevirtual 172, 3) := dk_182 0 172 (dk_at dksX1_send_3 6 rfl rfl)
theorem dX1_send_79 : decode cX1_send 79 = .ok (.iload 4, 2) := dk_21 4 (dk_at dksX1_send_3 9 rfl rfl)
theorem dX1_send_81 : decode cX1_send 81 = .ok (.invokevirtual 367, 3) := dk_182 1 111 (dk_at dksX1_send_3 11 rfl rfl)
theorem dX1_send_84 : decode cX1_send 84 = .ok (.aload_n 0, 1) := dk_42 (dk_at dksX1_send_3 14 rfl rfl)
theorem dX1_send_85 : decode cX1_send 85 = .ok (.getfield 53, 3) := dk_180 0 53 (dk_at dksX1_send_3 15 rfl rfl)
theorem dX1_send_88 : decode cX1_send 88 = .ok (.new 439, 3) := dk_187 1 183 (dk_at dksX1_send_3 18 rfl rfl)
theorem dX1_send_91 : decode cX1_send 91 = .ok (.dup, 1) := dk_89 (dk_at dksX1_send_3 21 rfl rfl)
theorem dX1_send_92 : decode cX1_send 92 = .ok (.aload_n 2, 1) := dk_44 (dk_at dksX1_send_3 22 rfl rfl)
theorem dX1_send_93 : decode cX1_send 93 = .ok (.getfield 92, 3) := dk_180 0 92 (dk_at dksX1_send_4 0 rfl rfl)
theorem dX1_send_96 : decode cX1_send 96 = .ok (.aload_n 2, 1) := dk_44 (dk_at dksX1_send_4 3 rfl rfl)
theorem dX1_send_97 : decode cX1_send 97 = .ok (.getfield 191, 3) := dk_180 0 191 (dk_at dksX1_send_4 4 rfl rfl)
theorem dX1_send_100 : decode cX1_send 100 = .ok (.aload_n 3, 1) := dk_45 (dk_at dksX1_send_4 7 rfl rfl)
theorem dX1_send_101 : decode cX1_send 101 = .ok (.getfield 441, 3) := dk_180 1 185 (dk_at dksX1_send_4 8 rfl rfl)
theorem dX1_send_104 : decode cX1_send 104 = .ok (.iload 4, 2) := dk_21 4 (dk_at dksX1_send_4 11 rfl rfl)
theorem dX1_send_106 : decode cX1_send 106 = .ok (.invokespecial 444, 3) := dk_183 1 188 (dk_at dksX1_send_4 13 rfl rfl)
theorem dX1_send_109 : decode cX1_send 109 = .ok (.invokeinterface 116 2, 5) := by decide +kernel
theorem dX1_send_114 : decode cX1_send 114 = .ok (.pop, 1) := dk_87 (dk_at dksX1_send_4 21 rfl rfl)
theorem dX1_send_115 : decode cX1_send 115 = .ok (.aload_n 3, 1) := dk_45 (dk_at dksX1_send_4 22 rfl rfl)
theorem dX1_send_116 : decode cX1_send 116 = .ok (.aload_n 0, 1) := dk_42 (dk_at dksX1_send_4 23 rfl rfl)
theorem dX1_send_117 : decode cX1_send 117 = .ok (.getfield 28, 3) := dk_180 0 28 (dk_at dksX1_send_5 0 rfl rfl)
theorem dX1_send_120 : decode cX1_send 120 = .ok (.aload_n 3, 1) := dk_45 (dk_at dksX1_send_5 3 rfl rfl)
theorem dX1_send_121 : decode cX1_send 121 = .ok (.getfield 437, 3) := dk_180 1 181 (dk_at dksX1_send_5 4 rfl rfl)
theorem dX1_send_124 : decode cX1_send 124 = .ok (.bipush 8, 2) := dk_16 8 (dk_at dksX1_send_5 7 rfl rfl)
theorem dX1_send_126 : decode cX1_send 126 = .ok (.invokevirtual 172, 3) := dk_182 0 172 (dk_at dksX1_send_5 9 rfl rfl)
theorem dX1_send_129 : decode cX1_send 129 = .ok (.putfield 437, 3) := dk_181 1 181 (dk_at dksX1_send_5 12 rfl rfl)
theorem dX1_send_132 : decode cX1_send 132 = .ok (.aload_n 3, 1) := dk_45 (dk_at dksX1_send_5 15 rfl rfl)
theorem dX1_send_133 : decode cX1_send 133 = .ok (.dup, 1) := dk_89 (dk_at dksX1_send_5 16 rfl rfl)
theorem dX1_send_134 : decode cX1_send 134 = .ok (.getfield 441, 3) := dk_180 1 185 (dk_at dksX1_send_5 17 rfl rfl)
theorem dX1_send_137 : decode cX1_send 137 = .ok (.iconst 1, 1) := dk_4 (dk_at dksX1_send_5 20 rfl rfl)
theorem dX1_send_138 : decode cX1_send 138 = .ok (.iadd, 1) := dk_96 (dk_at dksX1_send_5 21 rfl rfl)
theorem dX1_send_139 : decode cX1_send 139 = .ok (.putfield 441, 3) := dk_181 1 185 (dk_at dksX1_send_6 0 rfl rfl)
theorem dX1_send_142 : decode cX1_send 142 = .ok (.aload_n 2, 1) := dk_44 (dk_at dksX1_send_6 3 rfl rfl)
theorem dX1_send_143 : decode cX1_send 143 = .ok (.invokevirtual 139, 3) := dk_182 0 139 (dk_at dksX1_send_6 4 rfl rfl)
theorem dX1_send_146 : decode cX1_send 146 = .ok (.aload_n 0, 1) := dk_42 (dk_at dksX1_send_6 7 rfl rfl)
theorem dX1_send_147 : decode cX1_send 147 = .ok (.getfield 53, 3) := dk_180 0 53 (dk_at dksX1_send_6 8 rfl rfl)
theorem dX1_send_150 : decode cX1_send 150 = .ok (.invokeinterface 63 1, 5) := by decide +kernel
theorem dX1_send_155 : decode cX1_send 155 = .ok (.iconst 1, 1) := dk_4 (dk_at dksX1_send_6 16 rfl rfl)
theorem dX1_send_156 : decode cX1_send 156 = .ok (.isub, 1) := dk_100 (dk_at dksX1_send_6 17 rfl rfl)
theorem dX1_send_157 : decode cX1_send 157 = .ok (.ireturn, 1) := dk_172 (dk_at dksX1_send_6 18 rfl rfl)
abbrev cX1_read : ByteArray := prog_1_method_60_code
def yX1_read : MethodName := ⟨RX1, "read", "(II)I"⟩
def dkwX1_read_10 : List UInt8 := [182, 1, 205, 45, 182, 0, 139, 42, 180, 0, 28, 25, 4, 180, 1, 209, 182, 1, 170, 172]
abbrev dktX1_read_10 : List UInt8 := dkwX1_read_10 ++ []
def dkwX1_read_9 : List UInt8 := [182, 0, 172, 184, 0, 110, 182, 0, 155, 87, 42, 25, 5, 182, 1, 205, 167, 255, 203, 42, 25, 5]
abbrev dktX1_read_9 : List UInt8 := dkwX1_read_9 ++ dktX1_read_10
def dkwX1_read_8 : List UInt8 := [25, 5, 180, 1, 198, 25, 5, 180, 1, 185, 184, 0, 110, 42, 180, 0, 28, 25, 5, 180, 1, 181, 16, 7]
abbrev dktX1_read_8 : List UInt8 := dkwX1_read_8 ++ dktX1_read_9
def dkwX1_read_7 : List UInt8 := [192, 0, 111, 182, 1, 67, 54, 6, 167, 0, 65, 25, 5, 180, 1, 185, 25, 4, 180, 1, 196, 162, 0, 46]
abbrev dktX1_read_7 : List UInt8 := dkwX1_read_7 ++ dktX1_read_8
def dkwX1_read_6 : List UInt8 := [180, 1, 185, 162, 0, 30, 25, 5, 180, 1, 198, 25, 4, 180, 1, 196, 184, 0, 110, 182, 1, 203]
abbrev dktX1_read_6 : List UInt8 := dkwX1_read_6 ++ dktX1_read_7
def dkwX1_read_5 : List UInt8 := [184, 0, 110, 182, 1, 200, 153, 0, 7, 4, 167, 0, 4, 3, 184, 0, 188, 25, 4, 180, 1, 196, 25, 5]
abbrev dktX1_read_5 : List UInt8 := dkwX1_read_5 ++ dktX1_read_6
def dkwX1_read_4 : List UInt8 := [25, 4, 180, 1, 196, 25, 5, 180, 1, 185, 162, 0, 22, 25, 5, 180, 1, 198, 25, 4, 180, 1, 196]
abbrev dktX1_read_4 : List UInt8 := dkwX1_read_4 ++ dktX1_read_5
def dkwX1_read_3 : List UInt8 := [184, 0, 182, 45, 180, 1, 176, 25, 4, 180, 1, 197, 184, 0, 110, 182, 1, 142, 192, 1, 179, 58, 5]
abbrev dktX1_read_3 : List UInt8 := dkwX1_read_3 ++ dktX1_read_4
def dkwX1_read_2 : List UInt8 := [184, 0, 110, 182, 1, 142, 192, 1, 179, 180, 1, 185, 7, 96, 163, 0, 7, 4, 167, 0, 4, 3]
abbrev dktX1_read_2 : List UInt8 := dkwX1_read_2 ++ dktX1_read_3
def dkwX1_read_1 : List UInt8 := [25, 4, 180, 1, 195, 160, 0, 38, 25, 4, 180, 1, 196, 45, 180, 1, 176, 25, 4, 180, 1, 197]
abbrev dktX1_read_1 : List UInt8 := dkwX1_read_1 ++ dktX1_read_2
def dkwX1_read_0 : List UInt8 := [42, 27, 182, 0, 126, 78, 42, 28, 182, 1, 191, 58, 4, 45, 182, 0, 88, 153, 0, 50, 45, 180, 0, 92]
abbrev dktX1_read_0 : List UInt8 := dkwX1_read_0 ++ dktX1_read_1
theorem dksX1_read_0 : cX1_read.data.toList.drop 0 = dktX1_read_0 := by decide +kernel
theorem dksX1_read_1 : cX1_read.data.toList.drop 24 = dktX1_read_1 := dk_seg dksX1_read_0 24 rfl rfl
theorem dksX1_read_2 : cX1_read.data.toList.drop 46 = dktX1_read_2 := dk_seg dksX1_read_1 22 rfl rfl
theorem dksX1_read_3 : cX1_read.data.toList.drop 68 = dktX1_read_3 := dk_seg dksX1_read_2 22 rfl rfl
theorem dksX1_read_4 : cX1_read.data.toList.drop 91 = dktX1_read_4 := dk_seg dksX1_read_3 23 rfl rfl
theorem dksX1_read_5 : cX1_read.data.toList.drop 114 = dktX1_read_5 := dk_seg dksX1_read_4 23 rfl rfl
theorem dksX1_read_6 : cX1_read.data.toList.drop 138 = dktX1_read_6 := dk_seg dksX1_read_5 24 rfl rfl
theorem dksX1_read_7 : cX1_read.data.toList.drop 160 = dktX1_read_7 := dk_seg dksX1_read_6 22 rfl rfl
theorem dksX1_read_8 : cX1_read.data.toList.drop 184 = dktX1_read_8 := dk_seg dksX1_read_7 24 rfl rfl
theorem dksX1_read_9 : cX1_read.data.toList.drop 208 = dktX1_read_9 := dk_seg dksX1_read_8 24 rfl rfl
theorem dksX1_read_10 : cX1_read.data.toList.drop 230 = dktX1_read_10 := dk_seg dksX1_read_9 22 rfl rfl
theorem dX1_read_0 : decode cX1_read 0 = .ok (.aload_n 0, 1) := dk_42 (dk_at dksX1_read_0 0 rfl rfl)
theorem dX1_read_1 : decode cX1_read 1 = .ok (.iload_n 1, 1) := dk_27 (dk_at dksX1_read_0 1 rfl rfl)
theorem dX1_read_2 : decode cX1_read 2 = .ok (.invokevirtual 126, 3) := dk_182 0 126 (dk_at dksX1_read_0 2 rfl rfl)
theorem dX1_read_5 : decode cX1_read 5 = .ok (.astore_n 3, 1) := dk_78 (dk_at dksX1_read_0 5 rfl rfl)
theorem dX1_read_6 : decode cX1_read 6 = .ok (.aload_n 0, 1) := dk_42 (dk_at dksX1_read_0 6 rfl rfl)
theorem dX1_read_7 : decode cX1_read 7 = .ok (.iload_n 2, 1) := dk_28 (dk_at dksX1_read_0 7 rfl rfl)
theorem dX1_read_8 : decode cX1_read 8 = .ok (.invokevirtual 447, 3) := dk_182 1 191 (dk_at dksX1_read_0 8 rfl rfl)
theorem dX1_read_11 : decode cX1_read 11 = .ok (.astore 4, 2) := dk_58 4 (dk_at dksX1_read_0 11 rfl rfl)
theorem dX1_read_13 : decode cX1_read 13 = .ok (.aload_n 3, 1) := dk_45 (dk_at dksX1_read_0 13 rfl rfl)
theorem dX1_read_14 : decode cX1_read 14 = .ok (.invokevirtual 88, 3) := dk_182 0 88 (dk_at dksX1_read_0 14 rfl rfl)
theorem dX1_read_17 : decode cX1_read 17 = .ok (.ifCond .eq 50, 3) := dk_153 0 50 (dk_at dksX1_read_0 17 rfl rfl)
theorem dX1_read_20 : decode cX1_read 20 = .ok (.aload_n 3, 1) := dk_45 (dk_at dksX1_read_0 20 rfl rfl)
theorem dX1_read_21 : decode cX1_read 21 = .ok (.getfield 92, 3) := dk_180 0 92 (dk_at dksX1_read_0 21 rfl rfl)
theorem dX1_read_24 : decode cX1_read 24 = .ok (.aload 4, 2) := dk_25 4 (dk_at dksX1_read_1 0 rfl rfl)
theorem dX1_read_26 : decode cX1_read 26 = .ok (.getfield 451, 3) := dk_180 1 195 (dk_at dksX1_read_1 2 rfl rfl)
theorem dX1_read_29 : decode cX1_read 29 = .ok (.if_icmp .ne 38, 3) := dk_160 0 38 (dk_at dksX1_read_1 5 rfl rfl)
theorem dX1_read_32 : decode cX1_read 32 = .ok (.aload 4, 2) := dk_25 4 (dk_at dksX1_read_1 8 rfl rfl)
theorem dX1_read_34 : decode cX1_read 34 = .ok (.getfield 452, 3) := dk_180 1 196 (dk_at dksX1_read_1 10 rfl rfl)
theorem dX1_read_37 : decode cX1_read 37 = .ok (.aload_n 3, 1) := dk_45 (dk_at dksX1_read_1 13 rfl rfl)
theorem dX1_read_38 : decode cX1_read 38 = .ok (.getfield 432, 3) := dk_180 1 176 (dk_at dksX1_read_1 14 rfl rfl)
theorem dX1_read_41 : decode cX1_read 41 = .ok (.aload 4, 2) := dk_25 4 (dk_at dksX1_read_1 17 rfl rfl)
theorem dX1_read_43 : decode cX1_read 43 = .ok (.getfield 453, 3) := dk_180 1 197 (dk_at dksX1_read_1 19 rfl rfl)
theorem dX1_read_46 : decode cX1_read 46 = .ok (.invokestatic 110, 3) := dk_184 0 110 (dk_at dksX1_read_2 0 rfl rfl)
theorem dX1_read_49 : decode cX1_read 49 = .ok (.invokevirtual 398, 3) := dk_182 1 142 (dk_at dksX1_read_2 3 rfl rfl)
theorem dX1_read_52 : decode cX1_read 52 = .ok (.checkcast 435, 3) := dk_192 1 179 (dk_at dksX1_read_2 6 rfl rfl)
theorem dX1_read_55 : decode cX1_read 55 = .ok (.getfield 441, 3) := dk_180 1 185 (dk_at dksX1_read_2 9 rfl rfl)
theorem dX1_read_58 : decode cX1_read 58 = .ok (.iconst 4, 1) := dk_7 (dk_at dksX1_read_2 12 rfl rfl)
theorem dX1_read_59 : decode cX1_read 59 = .ok (.iadd, 1) := dk_96 (dk_at dksX1_read_2 13 rfl rfl)
theorem dX1_read_60 : decode cX1_read 60 = .ok (.if_icmp .gt 7, 3) := dk_163 0 7 (dk_at dksX1_read_2 14 rfl rfl)
theorem dX1_read_63 : decode cX1_read 63 = .ok (.iconst 1, 1) := dk_4 (dk_at dksX1_read_2 17 rfl rfl)
theorem dX1_read_64 : decode cX1_read 64 = .ok (.goto 4, 3) := dk_167 0 4 (dk_at dksX1_read_2 18 rfl rfl)
theorem dX1_read_67 : decode cX1_read 67 = .ok (.iconst 0, 1) := dk_3 (dk_at dksX1_read_2 21 rfl rfl)
theorem dX1_read_68 : decode cX1_read 68 = .ok (.invokestatic 182, 3) := dk_184 0 182 (dk_at dksX1_read_3 0 rfl rfl)
theorem dX1_read_71 : decode cX1_read 71 = .ok (.aload_n 3, 1) := dk_45 (dk_at dksX1_read_3 3 rfl rfl)
theorem dX1_read_72 : decode cX1_read 72 = .ok (.getfield 432, 3) := dk_180 1 176 (dk_at dksX1_read_3 4 rfl rfl)
theorem dX1_read_75 : decode cX1_read 75 = .ok (.aload 4, 2) := dk_25 4 (dk_at dksX1_read_3 7 rfl rfl)
theorem dX1_read_77 : decode cX1_read 77 = .ok (.getfield 453, 3) := dk_180 1 197 (dk_at dksX1_read_3 9 rfl rfl)
theorem dX1_read_80 : decode cX1_read 80 = .ok (.invokestatic 110, 3) := dk_184 0 110 (dk_at dksX1_read_3 12 rfl rfl)
theorem dX1_read_83 : decode cX1_read 83 = .ok (.invokevirtual 398, 3) := dk_182 1 142 (dk_at dksX1_read_3 15 rfl rfl)
theorem dX1_read_86 : decode cX1_read 86 = .ok (.checkcast 435, 3) := dk_192 1 179 (dk_at dksX1_read_3 18 rfl rfl)
theorem dX1_read_89 : decode cX1_read 89 = .ok (.astore 5, 2) := dk_58 5 (dk_at dksX1_read_3 21 rfl rfl)
theorem dX1_read_91 : decode cX1_read 91 = .ok (.aload 4, 2) := dk_25 4 (dk_at dksX1_read_4 0 rfl rfl)
theorem dX1_read_93 : decode cX1_read 93 = .ok (.getfield 452, 3) := dk_180 1 196 (dk_at dksX1_read_4 2 rfl rfl)
theorem dX1_read_96 : decode cX1_read 96 = .ok (.aload 5, 2) := dk_25 5 (dk_at dksX1_read_4 5 rfl rfl)
theorem dX1_read_98 : decode cX1_read 98 = .ok (.getfield 441, 3) := dk_180 1 185 (dk_at dksX1_read_4 7 rfl rfl)
theorem dX1_read_101 : decode cX1_read 101 = .ok (.if_icmp .ge 22, 3) := dk_162 0 22 (dk_at dksX1_read_4 10 rfl rfl)
theorem dX1_read_104 : decode cX1_read 104 = .ok (.aload 5, 2) := dk_25 5 (dk_at dksX1_read_4 13 rfl rfl)
theorem dX1_read_106 : decode cX1_read 106 = .ok (.getfield 454, 3) := dk_180 1 198 (dk_at dksX1_read_4 15 rfl rfl)
theorem dX1_read_109 : decode cX1_read 109 = .ok (.aload 4, 2) := dk_25 4 (dk_at dksX1_read_4 18 rfl rfl)
theorem dX1_read_111 : decode cX1_read 111 = .ok (.getfield 452, 3) := dk_180 1 196 (dk_at dksX1_read_4 20 rfl rfl)
theorem dX1_read_114 : decode cX1_read 114 = .ok (.invokestatic 110, 3) := dk_184 0 110 (dk_at dksX1_read_5 0 rfl rfl)
theorem dX1_read_117 : decode cX1_read 117 = .ok (.invokevirtual 456, 3) := dk_182 1 200 (dk_at dksX1_read_5 3 rfl rfl)
theorem dX1_read_120 : decode cX1_read 120 = .ok (.ifCond .eq 7, 3) := dk_153 0 7 (dk_at dksX1_read_5 6 rfl rfl)
theorem dX1_read_123 : decode cX1_read 123 = .ok (.iconst 1, 1) := dk_4 (dk_at dksX1_read_5 9 rfl rfl)
theorem dX1_read_124 : decode cX1_read 124 = .ok (.goto 4, 3) := dk_167 0 4 (dk_at dksX1_read_5 10 rfl rfl)
theorem dX1_read_127 : decode cX1_read 127 = .ok (.iconst 0, 1) := dk_3 (dk_at dksX1_read_5 13 rfl rfl)
theorem dX1_read_128 : decode cX1_read 128 = .ok (.invokestatic 188, 3) := dk_184 0 188 (dk_at dksX1_read_5 14 rfl rfl)
theorem dX1_read_131 : decode cX1_read 131 = .ok (.aload 4, 2) := dk_25 4 (dk_at dksX1_read_5 17 rfl rfl)
theorem dX1_read_133 : decode cX1_read 133 = .ok (.getfield 452, 3) := dk_180 1 196 (dk_at dksX1_read_5 19 rfl rfl)
theorem dX1_read_136 : decode cX1_read 136 = .ok (.aload 5, 2) := dk_25 5 (dk_at dksX1_read_5 22 rfl rfl)
theorem dX1_read_138 : decode cX1_read 138 = .ok (.getfield 441, 3) := dk_180 1 185 (dk_at dksX1_read_6 0 rfl rfl)
theorem dX1_read_141 : decode cX1_read 141 = .ok (.if_icmp .ge 30, 3) := dk_162 0 30 (dk_at dksX1_read_6 3 rfl rfl)
theorem dX1_read_144 : decode cX1_read 144 = .ok (.aload 5, 2) := dk_25 5 (dk_at dksX1_read_6 6 rfl rfl)
theorem dX1_read_146 : decode cX1_read 146 = .ok (.getfield 454, 3) := dk_180 1 198 (dk_at dksX1_read_6 8 rfl rfl)
theorem dX1_read_149 : decode cX1_read 149 = .ok (.aload 4, 2) := dk_25 4 (dk_at dksX1_read_6 11 rfl rfl)
theorem dX1_read_151 : decode cX1_read 151 = .ok (.getfield 452, 3) := dk_180 1 196 (dk_at dksX1_read_6 13 rfl rfl)
theorem dX1_read_154 : decode cX1_read 154 = .ok (.invokestatic 110, 3) := dk_184 0 110 (dk_at dksX1_read_6 16 rfl rfl)
theorem dX1_read_157 : decode cX1_read 157 = .ok (.invokevirtual 459, 3) := dk_182 1 203 (dk_at dksX1_read_6 19 rfl rfl)
theorem dX1_read_160 : decode cX1_read 160 = .ok (.checkcast 111, 3) := dk_192 0 111 (dk_at dksX1_read_7 0 rfl rfl)
theorem dX1_read_163 : decode cX1_read 163 = .ok (.invokevirtual 323, 3) := dk_182 1 67 (dk_at dksX1_read_7 3 rfl rfl)
theorem dX1_read_166 : decode cX1_read 166 = .ok (.istore 6, 2) := dk_54 6 (dk_at dksX1_read_7 6 rfl rfl)
theorem dX1_read_168 : decode cX1_read 168 = .ok (.goto 65, 3) := dk_167 0 65 (dk_at dksX1_read_7 8 rfl rfl)
theorem dX1_read_171 : decode cX1_read 171 = .ok (.aload 5, 2) := dk_25 5 (dk_at dksX1_read_7 11 rfl rfl)
theorem dX1_read_173 : decode cX1_read 173 = .ok (.getfield 441, 3) := dk_180 1 185 (dk_at dksX1_read_7 13 rfl rfl)
theorem dX1_read_176 : decode cX1_read 176 = .ok (.aload 4, 2) := dk_25 4 (dk_at dksX1_read_7 16 rfl rfl)
theorem dX1_read_178 : decode cX1_read 178 = .ok (.getfield 452, 3) := dk_180 1 196 (dk_at dksX1_read_7 18 rfl rfl)
theorem dX1_read_181 : decode cX1_read 181 = .ok (.if_icmp .ge 46, 3) := dk_162 0 46 (dk_at dksX1_read_7 21 rfl rfl)
theorem dX1_read_184 : decode cX1_read 184 = .ok (.aload 5, 2) := dk_25 5 (dk_at dksX1_read_8 0 rfl rfl)
theorem dX1_read_186 : decode cX1_read 186 = .ok (.getfield 454, 3) := dk_180 1 198 (dk_at dksX1_read_8 2 rfl rfl)
theorem dX1_read_189 : decode cX1_read 189 = .ok (.aload 5, 2) := dk_25 5 (dk_at dksX1_read_8 5 rfl rfl)
theorem dX1_read_191 : decode cX1_read 191 = .ok (.getfield 441, 3) := dk_180 1 185 (dk_at dksX1_read_8 7 rfl rfl)
theorem dX1_read_194 : decode cX1_read 194 = .ok (.invokestatic 110, 3) := dk_184 0 110 (dk_at dksX1_read_8 10 rfl rfl)
theorem dX1_read_197 : decode cX1_read 197 = .ok (.aload_n 0, 1) := dk_42 (dk_at dksX1_read_8 13 rfl rfl)
theorem dX1_read_198 : decode cX1_read 198 = .ok (.getfield 28, 3) := dk_180 0 28 (dk_at dksX1_read_8 14 rfl rfl)
theorem dX1_read_201 : decode cX1_read 201 = .ok (.aload 5, 2) := dk_25 5 (dk_at dksX1_read_8 17 rfl rfl)
theorem dX1_read_203 : decode cX1_read 203 = .ok (.getfield 437, 3) := dk_180 1 181 (dk_at dksX1_read_8 19 rfl rfl)
theorem dX1_read_206 : decode cX1_read 206 = .ok (.bipush 7, 2) := dk_16 7 (dk_at dksX1_read_8 22 rfl rfl)
theorem dX1_read_208 : decode cX1_read 208 = .ok (.invokevirtual 172, 3) := dk_182 0 172 (dk_at dksX1_read_9 0 rfl rfl)
theorem dX1_read_211 : decode cX1_read 211 = .ok (.invokestatic 110, 3) := dk_184 0 110 (dk_at dksX1_read_9 3 rfl rfl)
theorem dX1_read_214 : decode cX1_read 214 = .ok (.invokevirtual 155, 3) := dk_182 0 155 (dk_at dksX1_read_9 6 rfl rfl)
theorem dX1_read_217 : decode cX1_read 217 = .ok (.pop, 1) := dk_87 (dk_at dksX1_read_9 9 rfl rfl)
theorem dX1_read_218 : decode cX1_read 218 = .ok (.aload_n 0, 1) := dk_42 (dk_at dksX1_read_9 10 rfl rfl)
theorem dX1_read_219 : decode cX1_read 219 = .ok (.aload 5, 2) := dk_25 5 (dk_at dksX1_read_9 11 rfl rfl)
theorem dX1_read_221 : decode cX1_read 221 = .ok (.invokevirtual 461, 3) := dk_182 1 205 (dk_at dksX1_read_9 13 rfl rfl)
theorem dX1_read_224 : decode cX1_read 224 = .ok (.goto (-53), 3) := dk_167 255 203 (dk_at dksX1_read_9 16 rfl rfl)
theorem dX1_read_227 : decode cX1_read 227 = .ok (.aload_n 0, 1) := dk_42 (dk_at dksX1_read_9 19 rfl rfl)
theorem dX1_read_228 : decode cX1_read 228 = .ok (.aload 5, 2) := dk_25 5 (dk_at dksX1_read_9 20 rfl rfl)
theorem dX1_read_230 : decode cX1_read 230 = .ok (.invokevirtual 461, 3) := dk_182 1 205 (dk_at dksX1_read_10 0 rfl rfl)
theorem dX1_read_233 : decode cX1_read 233 = .ok (.aload_n 3, 1) := dk_45 (dk_at dksX1_read_10 3 rfl rfl)
theorem dX1_read_234 : decode cX1_read 234 = .ok (.invokevirtual 139, 3) := dk_182 0 139 (dk_at dksX1_read_10 4 rfl rfl)
theorem dX1_read_237 : decode cX1_read 237 = .ok (.aload_n 0, 1) := dk_42 (dk_at dksX1_read_10 7 rfl rfl)
theorem dX1_read_238 : decode cX1_read 238 = .ok (.getfield 28, 3) := dk_180 0 28 (dk_at dksX1_read_10 8 rfl rfl)
theorem dX1_read_241 : decode cX1_read 241 = .ok (.aload 4, 2) := dk_25 4 (dk_at dksX1_read_10 11 rfl rfl)
theorem dX1_read_243 : decode cX1_read 243 = .ok (.getfield 465, 3) := dk_180 1 209 (dk_at dksX1_read_10 13 rfl rfl)
theorem dX1_read_246 : decode cX1_read 246 = .ok (.invokevirtual 426, 3) := dk_182 1 170 (dk_at dksX1_read_10 16 rfl rfl)
theorem dX1_read_249 : decode cX1_read 249 = .ok (.ireturn, 1) := dk_172 (dk_at dksX1_read_10 19 rfl rfl)
abbrev cX1_messageWith : ByteArray := prog_1_method_59_code
def yX1_messageWith : MethodName := ⟨RX1, "messageWith", "(I)LKeygrove$Message;"⟩
def dkwX1_messageWith_1 : List UInt8 := [185, 0, 77, 2, 0, 192, 1, 183, 176]
abbrev dktX1_messageWith_1 : List UInt8 := dkwX1_messageWith_1 ++ []
def dkwX1_messageWith_0 : List UInt8 := [27, 3, 42, 180, 0, 53, 185, 0, 63, 1, 0, 4, 100, 184, 0, 69, 184, 0, 73, 42, 180, 0, 53, 27]
abbrev dktX1_messageWith_0 : List UInt8 := dkwX1_messageWith_0 ++ dktX1_messageWith_1
theorem dksX1_messageWith_0 : cX1_messageWith.data.toList.drop 0 = dktX1_messageWith_0 := by decide +kernel
theorem dksX1_messageWith_1 : cX1_messageWith.data.toList.drop 24 = dktX1_messageWith_1 := dk_seg dksX1_messageWith_0 24 rfl rfl
theorem dX1_messageWith_0 : decode cX1_messageWith 0 = .ok (.iload_n 1, 1) := dk_27 (dk_at dksX1_messageWith_0 0 rfl rfl)
theorem dX1_messageWith_1 : decode cX1_messageWith 1 = .ok (.iconst 0, 1) := dk_3 (dk_at dksX1_messageWith_0 1 rfl rfl)
theorem dX1_messageWith_2 : decode cX1_messageWith 2 = .ok (.aload_n 0, 1) := dk_42 (dk_at dksX1_messageWith_0 2 rfl rfl)
theorem dX1_messageWith_3 : decode cX1_messageWith 3 = .ok (.getfield 53, 3) := dk_180 0 53 (dk_at dksX1_messageWith_0 3 rfl rfl)
theorem dX1_messageWith_6 : decode cX1_messageWith 6 = .ok (.invokeinterface 63 1, 5) := by decide +kernel
theorem dX1_messageWith_11 : decode cX1_messageWith 11 = .ok (.iconst 1, 1) := dk_4 (dk_at dksX1_messageWith_0 11 rfl rfl)
theorem dX1_messageWith_12 : decode cX1_messageWith 12 = .ok (.isub, 1) := dk_100 (dk_at dksX1_messageWith_0 12 rfl rfl)
theorem dX1_messageWith_13 : decode cX1_messageWith 13 = .ok (.invokestatic 69, 3) := dk_184 0 69 (dk_at dksX1_messageWith_0 13 rfl rfl)
theorem dX1_messageWith_16 : decode cX1_messageWith 16 = .ok (.invokestatic 73, 3) := dk_184 0 73 (dk_at dksX1_messageWith_0 16 rfl rfl)
theorem dX1_messageWith_19 : decode cX1_messageWith 19 = .ok (.aload_n 0, 1) := dk_42 (dk_at dksX1_messageWith_0 19 rfl rfl)
theorem dX1_messageWith_20 : decode cX1_messageWith 20 = .ok (.getfield 53, 3) := dk_180 0 53 (dk_at dksX1_messageWith_0 20 rfl rfl)
theorem dX1_messageWith_23 : decode cX1_messageWith 23 = .ok (.iload_n 1, 1) := dk_27 (dk_at dksX1_messageWith_0 23 rfl rfl)
theorem dX1_messageWith_24 : decode cX1_messageWith 24 = .ok (.invokeinterface 77 2, 5) := by decide +kernel
theorem dX1_messageWith_29 : decode cX1_messageWith 29 = .ok (.checkcast 439, 3) := dk_192 1 183 (dk_at dksX1_messageWith_1 5 rfl rfl)
theorem dX1_messageWith_32 : decode cX1_messageWith 32 = .ok (.areturn, 1) := dk_176 (dk_at dksX1_messageWith_1 8 rfl rfl)
abbrev cX1_goesAlong : ByteArray := prog_1_method_61_code
def yX1_goesAlong : MethodName := ⟨RX1, "goesAlong", "(LKeygrove$Chain;)V"⟩
def dkwX1_goesAlong_1 : List UInt8 := [181, 1, 185, 177]
abbrev dktX1_goesAlong_1 : List UInt8 := dkwX1_goesAlong_1 ++ []
def dkwX1_goesAlong_0 : List UInt8 := [43, 42, 180, 0, 28, 43, 180, 1, 181, 16, 8, 182, 0, 172, 181, 1, 181, 43, 89, 180, 1, 185, 4, 96]
abbrev dktX1_goesAlong_0 : List UInt8 := dkwX1_goesAlong_0 ++ dktX1_goesAlong_1
theorem dksX1_goesAlong_0 : cX1_goesAlong.data.toList.drop 0 = dktX1_goesAlong_0 := by decide +kernel
theorem dksX1_goesAlong_1 : cX1_goesAlong.data.toList.drop 24 = dktX1_goesAlong_1 := dk_seg dksX1_goesAlong_0 24 rfl rfl
theorem dX1_goesAlong_0 : decode cX1_goesAlong 0 = .ok (.aload_n 1, 1) := dk_43 (dk_at dksX1_goesAlong_0 0 rfl rfl)
theorem dX1_goesAlong_1 : decode cX1_goesAlong 1 = .ok (.aload_n 0, 1) := dk_42 (dk_at dksX1_goesAlong_0 1 rfl rfl)
theorem dX1_goesAlong_2 : decode cX1_goesAlong 2 = .ok (.getfield 28, 3) := dk_180 0 28 (dk_at dksX1_goesAlong_0 2 rfl rfl)
theorem dX1_goesAlong_5 : decode cX1_goesAlong 5 = .ok (.aload_n 1, 1) := dk_43 (dk_at dksX1_goesAlong_0 5 rfl rfl)
theorem dX1_goesAlong_6 : decode cX1_goesAlong 6 = .ok (.getfield 437, 3) := dk_180 1 181 (dk_at dksX1_goesAlong_0 6 rfl rfl)
theorem dX1_goesAlong_9 : decode cX1_goesAlong 9 = .ok (.bipush 8, 2) := dk_16 8 (dk_at dksX1_goesAlong_0 9 rfl rfl)
theorem dX1_goesAlong_11 : decode cX1_goesAlong 11 = .ok (.invokevirtual 172, 3) := dk_182 0 172 (dk_at dksX1_goesAlong_0 11 rfl rfl)
theorem dX1_goesAlong_14 : decode cX1_goesAlong 14 = .ok (.putfield 437, 3) := dk_181 1 181 (dk_at dksX1_goesAlong_0 14 rfl rfl)
theorem dX1_goesAlong_17 : decode cX1_goesAlong 17 = .ok (.aload_n 1, 1) := dk_43 (dk_at dksX1_goesAlong_0 17 rfl rfl)
theorem dX1_goesAlong_18 : decode cX1_goesAlong 18 = .ok (.dup, 1) := dk_89 (dk_at dksX1_goesAlong_0 18 rfl rfl)
theorem dX1_goesAlong_19 : decode cX1_goesAlong 19 = .ok (.getfield 441, 3) := dk_180 1 185 (dk_at dksX1_goesAlong_0 19 rfl rfl)
theorem dX1_goesAlong_22 : decode cX1_goesAlong 22 = .ok (.iconst 1, 1) := dk_4 (dk_at dksX1_goesAlong_0 22 rfl rfl)
theorem dX1_goesAlong_23 : decode cX1_goesAlong 23 = .ok (.iadd, 1) := dk_96 (dk_at dksX1_goesAlong_0 23 rfl rfl)
theorem dX1_goesAlong_24 : decode cX1_goesAlong 24 = .ok (.putfield 441, 3) := dk_181 1 185 (dk_at dksX1_goesAlong_1 0 rfl rfl)
theorem dX1_goesAlong_27 : decode cX1_goesAlong 27 = .ok (.return_, 1) := dk_177 (dk_at dksX1_goesAlong_1 3 rfl rfl)
abbrev cX1_messageOf : ByteArray := prog_1_method_62_code
def yX1_messageOf : MethodName := ⟨RX1, "messageOf", "(IC)I"⟩
def dkwX1_messageOf_2 : List UInt8 := [167, 0, 7, 45, 180, 1, 196, 172]
abbrev dktX1_messageOf_2 : List UInt8 := dkwX1_messageOf_2 ++ []
def dkwX1_messageOf_1 : List UInt8 := [28, 16, 101, 160, 0, 10, 45, 180, 1, 195, 167, 0, 20, 28, 16, 108, 160, 0, 10, 45, 180, 1, 197]
abbrev dktX1_messageOf_1 : List UInt8 := dkwX1_messageOf_1 ++ dktX1_messageOf_2
def dkwX1_messageOf_0 : List UInt8 := [42, 27, 182, 1, 191, 78, 19, 1, 212, 28, 182, 1, 214, 155, 0, 7, 4, 167, 0, 4, 3, 184, 1, 219]
abbrev dktX1_messageOf_0 : List UInt8 := dkwX1_messageOf_0 ++ dktX1_messageOf_1
theorem dksX1_messageOf_0 : cX1_messageOf.data.toList.drop 0 = dktX1_messageOf_0 := by decide +kernel
theorem dksX1_messageOf_1 : cX1_messageOf.data.toList.drop 24 = dktX1_messageOf_1 := dk_seg dksX1_messageOf_0 24 rfl rfl
theorem dksX1_messageOf_2 : cX1_messageOf.data.toList.drop 47 = dktX1_messageOf_2 := dk_seg dksX1_messageOf_1 23 rfl rfl
theorem dX1_messageOf_0 : decode cX1_messageOf 0 = .ok (.aload_n 0, 1) := dk_42 (dk_at dksX1_messageOf_0 0 rfl rfl)
theorem dX1_messageOf_1 : decode cX1_messageOf 1 = .ok (.iload_n 1, 1) := dk_27 (dk_at dksX1_messageOf_0 1 rfl rfl)
theorem dX1_messageOf_2 : decode cX1_messageOf 2 = .ok (.invokevirtual 447, 3) := dk_182 1 191 (dk_at dksX1_messageOf_0 2 rfl rfl)
theorem dX1_messageOf_5 : decode cX1_messageOf 5 = .ok (.astore_n 3, 1) := dk_78 (dk_at dksX1_messageOf_0 5 rfl rfl)
theorem dX1_messageOf_6 : decode cX1_messageOf 6 = .ok (.ldc_w 468, 3) := dk_19 1 212 (dk_at dksX1_messageOf_0 6 rfl rfl)
theorem dX1_messageOf_9 : decode cX1_messageOf 9 = .ok (.iload_n 2, 1) := dk_28 (dk_at dksX1_messageOf_0 9 rfl rfl)
theorem dX1_messageOf_10 : decode cX1_messageOf 10 = .ok (.invokevirtual 470, 3) := dk_182 1 214 (dk_at dksX1_messageOf_0 10 rfl rfl)
theorem dX1_messageOf_13 : decode cX1_messageOf 13 = .ok (.ifCond .lt 7, 3) := dk_155 0 7 (dk_at dksX1_messageOf_0 13 rfl rfl)
theorem dX1_messageOf_16 : decode cX1_messageOf 16 = .ok (.iconst 1, 1) := dk_4 (dk_at dksX1_messageOf_0 16 rfl rfl)
theorem dX1_messageOf_17 : decode cX1_messageOf 17 = .ok (.goto 4, 3) := dk_167 0 4 (dk_at dksX1_messageOf_0 17 rfl rfl)
theorem dX1_messageOf_20 : decode cX1_messageOf 20 = .ok (.iconst 0, 1) := dk_3 (dk_at dksX1_messageOf_0 20 rfl rfl)
theorem dX1_messageOf_21 : decode cX1_messageOf 21 = .ok (.invokestatic 475, 3) := dk_184 1 219 (dk_at dksX1_messageOf_0 21 rfl rfl)
theorem dX1_messageOf_24 : decode cX1_messageOf 24 = .ok (.iload_n 2, 1) := dk_28 (dk_at dksX1_messageOf_1 0 rfl rfl)
theorem dX1_messageOf_25 : decode cX1_messageOf 25 = .ok (.bipush 101, 2) := dk_16 101 (dk_at dksX1_messageOf_1 1 rfl rfl)
theorem dX1_messageOf_27 : decode cX1_messageOf 27 = .ok (.if_icmp .ne 10, 3) := dk_160 0 10 (dk_at dksX1_messageOf_1 3 rfl rfl)
theorem dX1_messageOf_30 : decode cX1_messageOf 30 = .ok (.aload_n 3, 1) := dk_45 (dk_at dksX1_messageOf_1 6 rfl rfl)
theorem dX1_messageOf_31 : decode cX1_messageOf 31 = .ok (.getfield 451, 3) := dk_180 1 195 (dk_at dksX1_messageOf_1 7 rfl rfl)
theorem dX1_messageOf_34 : decode cX1_messageOf 34 = .ok (.goto 20, 3) := dk_167 0 20 (dk_at dksX1_messageOf_1 10 rfl rfl)
theorem dX1_messageOf_37 : decode cX1_messageOf 37 = .ok (.iload_n 2, 1) := dk_28 (dk_at dksX1_messageOf_1 13 rfl rfl)
theorem dX1_messageOf_38 : decode cX1_messageOf 38 = .ok (.bipush 108, 2) := dk_16 108 (dk_at dksX1_messageOf_1 14 rfl rfl)
theorem dX1_messageOf_40 : decode cX1_messageOf 40 = .ok (.if_icmp .ne 10, 3) := dk_160 0 10 (dk_at dksX1_messageOf_1 16 rfl rfl)
theorem dX1_messageOf_43 : decode cX1_messageOf 43 = .ok (.aload_n 3, 1) := dk_45 (dk_at dksX1_messageOf_1 19 rfl rfl)
theorem dX1_messageOf_44 : decode cX1_messageOf 44 = .ok (.getfield 453, 3) := dk_180 1 197 (dk_at dksX1_messageOf_1 20 rfl rfl)
theorem dX1_messageOf_47 : decode cX1_messageOf 47 = .ok (.goto 7, 3) := dk_167 0 7 (dk_at dksX1_messageOf_2 0 rfl rfl)
theorem dX1_messageOf_50 : decode cX1_messageOf 50 = .ok (.aload_n 3, 1) := dk_45 (dk_at dksX1_messageOf_2 3 rfl rfl)
theorem dX1_messageOf_51 : decode cX1_messageOf 51 = .ok (.getfield 452, 3) := dk_180 1 196 (dk_at dksX1_messageOf_2 4 rfl rfl)
theorem dX1_messageOf_54 : decode cX1_messageOf 54 = .ok (.ireturn, 1) := dk_172 (dk_at dksX1_messageOf_2 7 rfl rfl)
abbrev cX1_want : ByteArray := prog_1_method_3_code
def yX1_want : MethodName := ⟨RX1, "want", "(Z)V"⟩
def dkwX1_want_0 : List UInt8 := [26, 154, 0, 11, 187, 0, 7, 89, 183, 0, 9, 191, 177]
abbrev dktX1_want_0 : List UInt8 := dkwX1_want_0 ++ []
theorem dksX1_want_0 : cX1_want.data.toList.drop 0 = dktX1_want_0 := by decide +kernel
theorem dX1_want_0 : decode cX1_want 0 = .ok (.iload_n 0, 1) := dk_26 (dk_at dksX1_want_0 0 rfl rfl)
theorem dX1_want_1 : decode cX1_want 1 = .ok (.ifCond .ne 11, 3) := dk_154 0 11 (dk_at dksX1_want_0 1 rfl rfl)
theorem dX1_want_4 : decode cX1_want 4 = .ok (.new 7, 3) := dk_187 0 7 (dk_at dksX1_want_0 4 rfl rfl)
theorem dX1_want_7 : decode cX1_want 7 = .ok (.dup, 1) := dk_89 (dk_at dksX1_want_0 7 rfl rfl)
theorem dX1_want_8 : decode cX1_want 8 = .ok (.invokespecial 9, 3) := dk_183 0 9 (dk_at dksX1_want_0 8 rfl rfl)
theorem dX1_want_11 : decode cX1_want 11 = .ok (.athrow, 1) := dk_191 (dk_at dksX1_want_0 11 rfl rfl)
theorem dX1_want_12 : decode cX1_want 12 = .ok (.return_, 1) := dk_177 (dk_at dksX1_want_0 12 rfl rfl)
abbrev cX1_steal : ByteArray := prog_1_method_63_code
def yX1_steal : MethodName := ⟨RX1, "steal", "(I)I"⟩
def dkwX1_steal_1 : List UInt8 := [182, 1, 226, 182, 1, 230, 42, 180, 0, 59, 44, 182, 1, 161, 182, 1, 234, 45, 182, 1, 173, 172]
abbrev dktX1_steal_1 : List UInt8 := dkwX1_steal_1 ++ []
def dkwX1_steal_0 : List UInt8 := [42, 27, 182, 0, 126, 77, 44, 182, 1, 161, 78, 45, 42, 180, 0, 28, 42, 180, 0, 59, 184, 1, 222]
abbrev dktX1_steal_0 : List UInt8 := dkwX1_steal_0 ++ dktX1_steal_1
theorem dksX1_steal_0 : cX1_steal.data.toList.drop 0 = dktX1_steal_0 := by decide +kernel
theorem dksX1_steal_1 : cX1_steal.data.toList.drop 23 = dktX1_steal_1 := dk_seg dksX1_steal_0 23 rfl rfl
theorem dX1_steal_0 : decode cX1_steal 0 = .ok (.aload_n 0, 1) := dk_42 (dk_at dksX1_steal_0 0 rfl rfl)
theorem dX1_steal_1 : decode cX1_steal 1 = .ok (.iload_n 1, 1) := dk_27 (dk_at dksX1_steal_0 1 rfl rfl)
theorem dX1_steal_2 : decode cX1_steal 2 = .ok (.invokevirtual 126, 3) := dk_182 0 126 (dk_at dksX1_steal_0 2 rfl rfl)
theorem dX1_steal_5 : decode cX1_steal 5 = .ok (.astore_n 2, 1) := dk_77 (dk_at dksX1_steal_0 5 rfl rfl)
theorem dX1_steal_6 : decode cX1_steal 6 = .ok (.aload_n 2, 1) := dk_44 (dk_at dksX1_steal_0 6 rfl rfl)
theorem dX1_steal_7 : decode cX1_steal 7 = .ok (.invokevirtual 417, 3) := dk_182 1 161 (dk_at dksX1_steal_0 7 rfl rfl)
theorem dX1_steal_10 : decode cX1_steal 10 = .ok (.astore_n 3, 1) := dk_78 (dk_at dksX1_steal_0 10 rfl rfl)
theorem dX1_steal_11 : decode cX1_steal 11 = .ok (.aload_n 3, 1) := dk_45 (dk_at dksX1_steal_0 11 rfl rfl)
theorem dX1_steal_12 : decode cX1_steal 12 = .ok (.aload_n 0, 1) := dk_42 (dk_at dksX1_steal_0 12 rfl rfl)
theorem dX1_steal_13 : decode cX1_steal 13 = .ok (.getfield 28, 3) := dk_180 0 28 (dk_at dksX1_steal_0 13 rfl rfl)
theorem dX1_steal_16 : decode cX1_steal 16 = .ok (.aload_n 0, 1) := dk_42 (dk_at dksX1_steal_0 16 rfl rfl)
theorem dX1_steal_17 : decode cX1_steal 17 = .ok (.getfield 59, 3) := dk_180 0 59 (dk_at dksX1_steal_0 17 rfl rfl)
theorem dX1_steal_20 : decode cX1_steal 20 = .ok (.invokestatic 478, 3) := dk_184 1 222 (dk_at dksX1_steal_0 20 rfl rfl)
theorem dX1_steal_23 : decode cX1_steal 23 = .ok (.invokevirtual 482, 3) := dk_182 1 226 (dk_at dksX1_steal_1 0 rfl rfl)
theorem dX1_steal_26 : decode cX1_steal 26 = .ok (.invokevirtual 486, 3) := dk_182 1 230 (dk_at dksX1_steal_1 3 rfl rfl)
theorem dX1_steal_29 : decode cX1_steal 29 = .ok (.aload_n 0, 1) := dk_42 (dk_at dksX1_steal_1 6 rfl rfl)
theorem dX1_steal_30 : decode cX1_steal 30 = .ok (.getfield 59, 3) := dk_180 0 59 (dk_at dksX1_steal_1 7 rfl rfl)
theorem dX1_steal_33 : decode cX1_steal 33 = .ok (.aload_n 2, 1) := dk_44 (dk_at dksX1_steal_1 10 rfl rfl)
theorem dX1_steal_34 : decode cX1_steal 34 = .ok (.invokevirtual 417, 3) := dk_182 1 161 (dk_at dksX1_steal_1 11 rfl rfl)
theorem dX1_steal_37 : decode cX1_steal 37 = .ok (.invokevirtual 490, 3) := dk_182 1 234 (dk_at dksX1_steal_1 14 rfl rfl)
theorem dX1_steal_40 : decode cX1_steal 40 = .ok (.aload_n 3, 1) := dk_45 (dk_at dksX1_steal_1 17 rfl rfl)
theorem dX1_steal_41 : decode cX1_steal 41 = .ok (.invokevirtual 429, 3) := dk_182 1 173 (dk_at dksX1_steal_1 18 rfl rfl)
theorem dX1_steal_44 : decode cX1_steal 44 = .ok (.ireturn, 1) := dk_172 (dk_at dksX1_steal_1 21 rfl rfl)
abbrev cX1_finds : ByteArray := prog_1_method_65_code
def yX1_finds : MethodName := ⟨RX1, "finds", "(I)Z"⟩
def dkwX1_finds_1 : List UInt8 := [182, 1, 165, 172]
abbrev dktX1_finds_1 : List UInt8 := dkwX1_finds_1 ++ []
def dkwX1_finds_0 : List UInt8 := [42, 27, 182, 0, 194, 42, 180, 0, 28, 42, 180, 0, 59, 184, 1, 222, 182, 1, 226, 42, 27, 182, 1, 237]
abbrev dktX1_finds_0 : List UInt8 := dkwX1_finds_0 ++ dktX1_finds_1
theorem dksX1_finds_0 : cX1_finds.data.toList.drop 0 = dktX1_finds_0 := by decide +kernel
theorem dksX1_finds_1 : cX1_finds.data.toList.drop 24 = dktX1_finds_1 := dk_seg dksX1_finds_0 24 rfl rfl
theorem dX1_finds_0 : decode cX1_finds 0 = .ok (.aload_n 0, 1) := dk_42 (dk_at dksX1_finds_0 0 rfl rfl)
theorem dX1_finds_1 : decode cX1_finds 1 = .ok (.iload_n 1, 1) := dk_27 (dk_at dksX1_finds_0 1 rfl rfl)
theorem dX1_finds_2 : decode cX1_finds 2 = .ok (.invokevirtual 194, 3) := dk_182 0 194 (dk_at dksX1_finds_0 2 rfl rfl)
theorem dX1_finds_5 : decode cX1_finds 5 = .ok (.aload_n 0, 1) := dk_42 (dk_at dksX1_finds_0 5 rfl rfl)
theorem dX1_finds_6 : decode cX1_finds 6 = .ok (.getfield 28, 3) := dk_180 0 28 (dk_at dksX1_finds_0 6 rfl rfl)
theorem dX1_finds_9 : decode cX1_finds 9 = .ok (.aload_n 0, 1) := dk_42 (dk_at dksX1_finds_0 9 rfl rfl)
theorem dX1_finds_10 : decode cX1_finds 10 = .ok (.getfield 59, 3) := dk_180 0 59 (dk_at dksX1_finds_0 10 rfl rfl)
theorem dX1_finds_13 : decode cX1_finds 13 = .ok (.invokestatic 478, 3) := dk_184 1 222 (dk_at dksX1_finds_0 13 rfl rfl)
theorem dX1_finds_16 : decode cX1_finds 16 = .ok (.invokevirtual 482, 3) := dk_182 1 226 (dk_at dksX1_finds_0 16 rfl rfl)
theorem dX1_finds_19 : decode cX1_finds 19 = .ok (.aload_n 0, 1) := dk_42 (dk_at dksX1_finds_0 19 rfl rfl)
theorem dX1_finds_20 : decode cX1_finds 20 = .ok (.iload_n 1, 1) := dk_27 (dk_at dksX1_finds_0 20 rfl rfl)
theorem dX1_finds_21 : decode cX1_finds 21 = .ok (.invokevirtual 493, 3) := dk_182 1 237 (dk_at dksX1_finds_0 21 rfl rfl)
theorem dX1_finds_24 : decode cX1_finds 24 = .ok (.invokevirtual 421, 3) := dk_182 1 165 (dk_at dksX1_finds_1 0 rfl rfl)
theorem dX1_finds_27 : decode cX1_finds 27 = .ok (.ireturn, 1) := dk_172 (dk_at dksX1_finds_1 3 rfl rfl)
abbrev cX1_findsText : ByteArray := prog_1_method_66_code
def yX1_findsText : MethodName := ⟨RX1, "findsText", "(I)Z"⟩
def dkwX1_findsText_1 : List UInt8 := [182, 1, 165, 172]
abbrev dktX1_findsText_1 : List UInt8 := dkwX1_findsText_1 ++ []
def dkwX1_findsText_0 : List UInt8 := [42, 27, 182, 1, 191, 77, 42, 180, 0, 28, 42, 180, 0, 59, 184, 1, 222, 182, 1, 226, 44, 180, 1, 209]
abbrev dktX1_findsText_0 : List UInt8 := dkwX1_findsText_0 ++ dktX1_findsText_1
theorem dksX1_findsText_0 : cX1_findsText.data.toList.drop 0 = dktX1_findsText_0 := by decide +kernel
theorem dksX1_findsText_1 : cX1_findsText.data.toList.drop 24 = dktX1_findsText_1 := dk_seg dksX1_findsText_0 24 rfl rfl
theorem dX1_findsText_0 : decode cX1_findsText 0 = .ok (.aload_n 0, 1) := dk_42 (dk_at dksX1_findsText_0 0 rfl rfl)
theorem dX1_findsText_1 : decode cX1_findsText 1 = .ok (.iload_n 1, 1) := dk_27 (dk_at dksX1_findsText_0 1 rfl rfl)
theorem dX1_findsText_2 : decode cX1_findsText 2 = .ok (.invokevirtual 447, 3) := dk_182 1 191 (dk_at dksX1_findsText_0 2 rfl rfl)
theorem dX1_findsText_5 : decode cX1_findsText 5 = .ok (.astore_n 2, 1) := dk_77 (dk_at dksX1_findsText_0 5 rfl rfl)
theorem dX1_findsText_6 : decode cX1_findsText 6 = .ok (.aload_n 0, 1) := dk_42 (dk_at dksX1_findsText_0 6 rfl rfl)
theorem dX1_findsText_7 : decode cX1_findsText 7 = .ok (.getfield 28, 3) := dk_180 0 28 (dk_at dksX1_findsText_0 7 rfl rfl)
theorem dX1_findsText_10 : decode cX1_findsText 10 = .ok (.aload_n 0, 1) := dk_42 (dk_at dksX1_findsText_0 10 rfl rfl)
theorem dX1_findsText_11 : decode cX1_findsText 11 = .ok (.getfield 59, 3) := dk_180 0 59 (dk_at dksX1_findsText_0 11 rfl rfl)
theorem dX1_findsText_14 : decode cX1_findsText 14 = .ok (.invokestatic 478, 3) := dk_184 1 222 (dk_at dksX1_findsText_0 14 rfl rfl)
theorem dX1_findsText_17 : decode cX1_findsText 17 = .ok (.invokevirtual 482, 3) := dk_182 1 226 (dk_at dksX1_findsText_0 17 rfl rfl)
theorem dX1_findsText_20 : decode cX1_findsText 20 = .ok (.aload_n 2, 1) := dk_44 (dk_at dksX1_findsText_0 20 rfl rfl)
theorem dX1_findsText_21 : decode cX1_findsText 21 = .ok (.getfield 465, 3) := dk_180 1 209 (dk_at dksX1_findsText_0 21 rfl rfl)
theorem dX1_findsText_24 : decode cX1_findsText 24 = .ok (.invokevirtual 421, 3) := dk_182 1 165 (dk_at dksX1_findsText_1 0 rfl rfl)
theorem dX1_findsText_27 : decode cX1_findsText 27 = .ok (.ireturn, 1) := dk_172 (dk_at dksX1_findsText_1 3 rfl rfl)
abbrev cX1_canFind : ByteArray := prog_1_method_68_code
def yX1_canFind : MethodName := ⟨RX1, "canFind", "(IIZ)Z"⟩
def dkwX1_canFind_2 : List UInt8 := [182, 1, 165, 172]
abbrev dktX1_canFind_2 : List UInt8 := dkwX1_canFind_2 ++ []
def dkwX1_canFind_1 : List UInt8 := [180, 1, 240, 167, 0, 8, 25, 4, 182, 1, 161, 184, 1, 222, 182, 1, 226, 42, 28, 182, 1, 237]
abbrev dktX1_canFind_1 : List UInt8 := dkwX1_canFind_1 ++ dktX1_canFind_2
def dkwX1_canFind_0 : List UInt8 := [42, 27, 182, 0, 126, 58, 4, 42, 28, 182, 0, 194, 42, 180, 0, 28, 29, 153, 0, 11, 25, 4]
abbrev dktX1_canFind_0 : List UInt8 := dkwX1_canFind_0 ++ dktX1_canFind_1
theorem dksX1_canFind_0 : cX1_canFind.data.toList.drop 0 = dktX1_canFind_0 := by decide +kernel
theorem dksX1_canFind_1 : cX1_canFind.data.toList.drop 22 = dktX1_canFind_1 := dk_seg dksX1_canFind_0 22 rfl rfl
theorem dksX1_canFind_2 : cX1_canFind.data.toList.drop 44 = dktX1_canFind_2 := dk_seg dksX1_canFind_1 22 rfl rfl
theorem dX1_canFind_0 : decode cX1_canFind 0 = .ok (.aload_n 0, 1) := dk_42 (dk_at dksX1_canFind_0 0 rfl rfl)
theorem dX1_canFind_1 : decode cX1_canFind 1 = .ok (.iload_n 1, 1) := dk_27 (dk_at dksX1_canFind_0 1 rfl rfl)
theorem dX1_canFind_2 : decode cX1_canFind 2 = .ok (.invokevirtual 126, 3) := dk_182 0 126 (dk_at dksX1_canFind_0 2 rfl rfl)
theorem dX1_canFind_5 : decode cX1_canFind 5 = .ok (.astore 4, 2) := dk_58 4 (dk_at dksX1_canFind_0 5 rfl rfl)
theorem dX1_canFind_7 : decode cX1_canFind 7 = .ok (.aload_n 0, 1) := dk_42 (dk_at dksX1_canFind_0 7 rfl rfl)
theorem dX1_canFind_8 : decode cX1_canFind 8 = .ok (.iload_n 2, 1) := dk_28 (dk_at dksX1_canFind_0 8 rfl rfl)
theorem dX1_canFind_9 : decode cX1_canFind 9 = .ok (.invokevirtual 194, 3) := dk_182 0 194 (dk_at dksX1_canFind_0 9 rfl rfl)
theorem dX1_canFind_12 : decode cX1_canFind 12 = .ok (.aload_n 0, 1) := dk_42 (dk_at dksX1_canFind_0 12 rfl rfl)
theorem dX1_canFind_13 : decode cX1_canFind 13 = .ok (.getfield 28, 3) := dk_180 0 28 (dk_at dksX1_canFind_0 13 rfl rfl)
theorem dX1_canFind_16 : decode cX1_canFind 16 = .ok (.iload_n 3, 1) := dk_29 (dk_at dksX1_canFind_0 16 rfl rfl)
theorem dX1_canFind_17 : decode cX1_canFind 17 = .ok (.ifCond .eq 11, 3) := dk_153 0 11 (dk_at dksX1_canFind_0 17 rfl rfl)
theorem dX1_canFind_20 : decode cX1_canFind 20 = .ok (.aload 4, 2) := dk_25 4 (dk_at dksX1_canFind_0 20 rfl rfl)
theorem dX1_canFind_22 : decode cX1_canFind 22 = .ok (.getfield 496, 3) := dk_180 1 240 (dk_at dksX1_canFind_1 0 rfl rfl)
theorem dX1_canFind_25 : decode cX1_canFind 25 = .ok (.goto 8, 3) := dk_167 0 8 (dk_at dksX1_canFind_1 3 rfl rfl)
theorem dX1_canFind_28 : decode cX1_canFind 28 = .ok (.aload 4, 2) := dk_25 4 (dk_at dksX1_canFind_1 6 rfl rfl)
theorem dX1_canFind_30 : decode cX1_canFind 30 = .ok (.invokevirtual 417, 3) := dk_182 1 161 (dk_at dksX1_canFind_1 8 rfl rfl)
theorem dX1_canFind_33 : decode cX1_canFind 33 = .ok (.invokestatic 478, 3) := dk_184 1 222 (dk_at dksX1_canFind_1 11 rfl rfl)
theorem dX1_canFind_36 : decode cX1_canFind 36 = .ok (.invokevirtual 482, 3) := dk_182 1 226 (dk_at dksX1_canFind_1 14 rfl rfl)
theorem dX1_canFind_39 : decode cX1_canFind 39 = .ok (.aload_n 0, 1) := dk_42 (dk_at dksX1_canFind_1 17 rfl rfl)
theorem dX1_canFind_40 : decode cX1_canFind 40 = .ok (.iload_n 2, 1) := dk_28 (dk_at dksX1_canFind_1 18 rfl rfl)
theorem dX1_canFind_41 : decode cX1_canFind 41 = .ok (.invokevirtual 493, 3) := dk_182 1 237 (dk_at dksX1_canFind_1 19 rfl rfl)
theorem dX1_canFind_44 : decode cX1_canFind 44 = .ok (.invokevirtual 421, 3) := dk_182 1 165 (dk_at dksX1_canFind_2 0 rfl rfl)
theorem dX1_canFind_47 : decode cX1_canFind 47 = .ok (.ireturn, 1) := dk_172 (dk_at dksX1_canFind_2 3 rfl rfl)
abbrev cX1_canRead : ByteArray := prog_1_method_69_code
def yX1_canRead : MethodName := ⟨RX1, "canRead", "(II)Z"⟩
def dkwX1_canRead_1 : List UInt8 := [182, 1, 226, 25, 4, 180, 1, 209, 182, 1, 165, 172]
abbrev dktX1_canRead_1 : List UInt8 := dkwX1_canRead_1 ++ []
def dkwX1_canRead_0 : List UInt8 := [42, 27, 182, 0, 126, 78, 42, 28, 182, 1, 191, 58, 4, 42, 180, 0, 28, 45, 182, 1, 161, 184, 1, 222]
abbrev dktX1_canRead_0 : List UInt8 := dkwX1_canRead_0 ++ dktX1_canRead_1
theorem dksX1_canRead_0 : cX1_canRead.data.toList.drop 0 = dktX1_canRead_0 := by decide +kernel
theorem dksX1_canRead_1 : cX1_canRead.data.toList.drop 24 = dktX1_canRead_1 := dk_seg dksX1_canRead_0 24 rfl rfl
theorem dX1_canRead_0 : decode cX1_canRead 0 = .ok (.aload_n 0, 1) := dk_42 (dk_at dksX1_canRead_0 0 rfl rfl)
theorem dX1_canRead_1 : decode cX1_canRead 1 = .ok (.iload_n 1, 1) := dk_27 (dk_at dksX1_canRead_0 1 rfl rfl)
theorem dX1_canRead_2 : decode cX1_canRead 2 = .ok (.invokevirtual 126, 3) := dk_182 0 126 (dk_at dksX1_canRead_0 2 rfl rfl)
theorem dX1_canRead_5 : decode cX1_canRead 5 = .ok (.astore_n 3, 1) := dk_78 (dk_at dksX1_canRead_0 5 rfl rfl)
theorem dX1_canRead_6 : decode cX1_canRead 6 = .ok (.aload_n 0, 1) := dk_42 (dk_at dksX1_canRead_0 6 rfl rfl)
theorem dX1_canRead_7 : decode cX1_canRead 7 = .ok (.iload_n 2, 1) := dk_28 (dk_at dksX1_canRead_0 7 rfl rfl)
theorem dX1_canRead_8 : decode cX1_canRead 8 = .ok (.invokevirtual 447, 3) := dk_182 1 191 (dk_at dksX1_canRead_0 8 rfl rfl)
theorem dX1_canRead_11 : decode cX1_canRead 11 = .ok (.astore 4, 2) := dk_58 4 (dk_at dksX1_canRead_0 11 rfl rfl)
theorem dX1_canRead_13 : decode cX1_canRead 13 = .ok (.aload_n 0, 1) := dk_42 (dk_at dksX1_canRead_0 13 rfl rfl)
theorem dX1_canRead_14 : decode cX1_canRead 14 = .ok (.getfield 28, 3) := dk_180 0 28 (dk_at dksX1_canRead_0 14 rfl rfl)
theorem dX1_canRead_17 : decode cX1_canRead 17 = .ok (.aload_n 3, 1) := dk_45 (dk_at dksX1_canRead_0 17 rfl rfl)
theorem dX1_canRead_18 : decode cX1_canRead 18 = .ok (.invokevirtual 417, 3) := dk_182 1 161 (dk_at dksX1_canRead_0 18 rfl rfl)
theorem dX1_canRead_21 : decode cX1_canRead 21 = .ok (.invokestatic 478, 3) := dk_184 1 222 (dk_at dksX1_canRead_0 21 rfl rfl)
theorem dX1_canRead_24 : decode cX1_canRead 24 = .ok (.invokevirtual 482, 3) := dk_182 1 226 (dk_at dksX1_canRead_1 0 rfl rfl)
theorem dX1_canRead_27 : decode cX1_canRead 27 = .ok (.aload 4, 2) := dk_25 4 (dk_at dksX1_canRead_1 3 rfl rfl)
theorem dX1_canRead_29 : decode cX1_canRead 29 = .ok (.getfield 465, 3) := dk_180 1 209 (dk_at dksX1_canRead_1 5 rfl rfl)
theorem dX1_canRead_32 : decode cX1_canRead 32 = .ok (.invokevirtual 421, 3) := dk_182 1 165 (dk_at dksX1_canRead_1 8 rfl rfl)
theorem dX1_canRead_35 : decode cX1_canRead 35 = .ok (.ireturn, 1) := dk_172 (dk_at dksX1_canRead_1 11 rfl rfl)
abbrev cX1_blankShare : ByteArray := prog_1_method_70_code
def yX1_blankShare : MethodName := ⟨RX1, "blankShare", "()F"⟩
def dkwX1_blankShare_2 : List UInt8 := [167, 0, 4, 3, 96, 60, 132, 2, 1, 167, 255, 223, 27, 134, 42, 182, 0, 99, 182, 0, 103, 134, 110, 174]
abbrev dktX1_blankShare_2 : List UInt8 := dkwX1_blankShare_2 ++ []
def dkwX1_blankShare_1 : List UInt8 := [28, 42, 182, 0, 99, 182, 0, 103, 162, 0, 28, 27, 42, 182, 0, 99, 28, 182, 1, 127, 153, 0, 7, 4]
abbrev dktX1_blankShare_1 : List UInt8 := dkwX1_blankShare_1 ++ dktX1_blankShare_2
def dkwX1_blankShare_0 : List UInt8 := [42, 180, 0, 47, 185, 0, 96, 1, 0, 153, 0, 11, 187, 1, 243, 89, 183, 1, 245, 191, 3, 60, 3, 61]
abbrev dktX1_blankShare_0 : List UInt8 := dkwX1_blankShare_0 ++ dktX1_blankShare_1
theorem dksX1_blankShare_0 : cX1_blankShare.data.toList.drop 0 = dktX1_blankShare_0 := by decide +kernel
theorem dksX1_blankShare_1 : cX1_blankShare.data.toList.drop 24 = dktX1_blankShare_1 := dk_seg dksX1_blankShare_0 24 rfl rfl
theorem dksX1_blankShare_2 : cX1_blankShare.data.toList.drop 48 = dktX1_blankShare_2 := dk_seg dksX1_blankShare_1 24 rfl rfl
theorem dX1_blankShare_0 : decode cX1_blankShare 0 = .ok (.aload_n 0, 1) := dk_42 (dk_at dksX1_blankShare_0 0 rfl rfl)
theorem dX1_blankShare_1 : decode cX1_blankShare 1 = .ok (.getfield 47, 3) := dk_180 0 47 (dk_at dksX1_blankShare_0 1 rfl rfl)
theorem dX1_blankShare_4 : decode cX1_blankShare 4 = .ok (.invokeinterface 96 1, 5) := by decide +kernel
theorem dX1_blankShare_9 : decode cX1_blankShare 9 = .ok (.ifCond .eq 11, 3) := dk_153 0 11 (dk_at dksX1_blankShare_0 9 rfl rfl)
theorem dX1_blankShare_12 : decode cX1_blankShare 12 = .ok (.new 499, 3) := dk_187 1 243 (dk_at dksX1_blankShare_0 12 rfl rfl)
theorem dX1_blankShare_15 : decode cX1_blankShare 15 = .ok (.dup, 1) := dk_89 (dk_at dksX1_blankShare_0 15 rfl rfl)
theorem dX1_blankShare_16 : decode cX1_blankShare 16 = .ok (.invokespecial 501, 3) := dk_183 1 245 (dk_at dksX1_blankShare_0 16 rfl rfl)
theorem dX1_blankShare_19 : decode cX1_blankShare 19 = .ok (.athrow, 1) := dk_191 (dk_at dksX1_blankShare_0 19 rfl rfl)
theorem dX1_blankShare_20 : decode cX1_blankShare 20 = .ok (.iconst 0, 1) := dk_3 (dk_at dksX1_blankShare_0 20 rfl rfl)
theorem dX1_blankShare_21 : decode cX1_blankShare 21 = .ok (.istore_n 1, 1) := dk_60 (dk_at dksX1_blankShare_0 21 rfl rfl)
theorem dX1_blankShare_22 : decode cX1_blankShare 22 = .ok (.iconst 0, 1) := dk_3 (dk_at dksX1_blankShare_0 22 rfl rfl)
theorem dX1_blankShare_23 : decode cX1_blankShare 23 = .ok (.istore_n 2, 1) := dk_61 (dk_at dksX1_blankShare_0 23 rfl rfl)
theorem dX1_blankShare_24 : decode cX1_blankShare 24 = .ok (.iload_n 2, 1) := dk_28 (dk_at dksX1_blankShare_1 0 rfl rfl)
theorem dX1_blankShare_25 : decode cX1_blankShare 25 = .ok (.aload_n 0, 1) := dk_42 (dk_at dksX1_blankShare_1 1 rfl rfl)
theorem dX1_blankShare_26 : decode cX1_blankShare 26 = .ok (.invokevirtual 99, 3) := dk_182 0 99 (dk_at dksX1_blankShare_1 2 rfl rfl)
theorem dX1_blankShare_29 : decode cX1_blankShare 29 = .ok (.invokevirtual 103, 3) := dk_182 0 103 (dk_at dksX1_blankShare_1 5 rfl rfl)
theorem dX1_blankShare_32 : decode cX1_blankShare 32 = .ok (.if_icmp .ge 28, 3) := dk_162 0 28 (dk_at dksX1_blankShare_1 8 rfl rfl)
theorem dX1_blankShare_35 : decode cX1_blankShare 35 = .ok (.iload_n 1, 1) := dk_27 (dk_at dksX1_blankShare_1 11 rfl rfl)
theorem dX1_blankShare_36 : decode cX1_blankShare 36 = .ok (.aload_n 0, 1) := dk_42 (dk_at dksX1_blankShare_1 12 rfl rfl)
theorem dX1_blankShare_37 : decode cX1_blankShare 37 = .ok (.invokevirtual 99, 3) := dk_182 0 99 (dk_at dksX1_blankShare_1 13 rfl rfl)
theorem dX1_blankShare_40 : decode cX1_blankShare 40 = .ok (.iload_n 2, 1) := dk_28 (dk_at dksX1_blankShare_1 16 rfl rfl)
theorem dX1_blankShare_41 : decode cX1_blankShare 41 = .ok (.invokevirtual 383, 3) := dk_182 1 127 (dk_at dksX1_blankShare_1 17 rfl rfl)
theorem dX1_blankShare_44 : decode cX1_blankShare 44 = .ok (.ifCond .eq 7, 3) := dk_153 0 7 (dk_at dksX1_blankShare_1 20 rfl rfl)
theorem dX1_blankShare_47 : decode cX1_blankShare 47 = .ok (.iconst 1, 1) := dk_4 (dk_at dksX1_blankShare_1 23 rfl rfl)
theorem dX1_blankShare_48 : decode cX1_blankShare 48 = .ok (.goto 4, 3) := dk_167 0 4 (dk_at dksX1_blankShare_2 0 rfl rfl)
theorem dX1_blankShare_51 : decode cX1_blankShare 51 = .ok (.iconst 0, 1) := dk_3 (dk_at dksX1_blankShare_2 3 rfl rfl)
theorem dX1_blankShare_52 : decode cX1_blankShare 52 = .ok (.iadd, 1) := dk_96 (dk_at dksX1_blankShare_2 4 rfl rfl)
theorem dX1_blankShare_53 : decode cX1_blankShare 53 = .ok (.istore_n 1, 1) := dk_60 (dk_at dksX1_blankShare_2 5 rfl rfl)
theorem dX1_blankShare_54 : decode cX1_blankShare 54 = .ok (.iinc 2 1, 3) := dk_132 2 1 (dk_at dksX1_blankShare_2 6 rfl rfl)
theorem dX1_blankShare_57 : decode cX1_blankShare 57 = .ok (.goto (-33), 3) := dk_167 255 223 (dk_at dksX1_blankShare_2 9 rfl rfl)
theorem dX1_blankShare_60 : decode cX1_blankShare 60 = .ok (.iload_n 1, 1) := dk_27 (dk_at dksX1_blankShare_2 12 rfl rfl)
theorem dX1_blankShare_61 : decode cX1_blankShare 61 = .ok (.i2f, 1) := dk_134 (dk_at dksX1_blankShare_2 13 rfl rfl)
theorem dX1_blankShare_62 : decode cX1_blankShare 62 = .ok (.aload_n 0, 1) := dk_42 (dk_at dksX1_blankShare_2 14 rfl rfl)
theorem dX1_blankShare_63 : decode cX1_blankShare 63 = .ok (.invokevirtual 99, 3) := dk_182 0 99 (dk_at dksX1_blankShare_2 15 rfl rfl)
theorem dX1_blankShare_66 : decode cX1_blankShare 66 = .ok (.invokevirtual 103, 3) := dk_182 0 103 (dk_at dksX1_blankShare_2 18 rfl rfl)
theorem dX1_blankShare_69 : decode cX1_blankShare 69 = .ok (.i2f, 1) := dk_134 (dk_at dksX1_blankShare_2 21 rfl rfl)
theorem dX1_blankShare_70 : decode cX1_blankShare 70 = .ok (.fdiv, 1) := dk_110 (dk_at dksX1_blankShare_2 22 rfl rfl)
theorem dX1_blankShare_71 : decode cX1_blankShare 71 = .ok (.freturn, 1) := dk_174 (dk_at dksX1_blankShare_2 23 rfl rfl)
abbrev cX1_meanBoxes : ByteArray := prog_1_method_71_code
def yX1_meanBoxes : MethodName := ⟨RX1, "meanBoxes", "()D"⟩
def dkwX1_meanBoxes_1 : List UInt8 := [182, 0, 83, 135, 111, 175]
abbrev dktX1_meanBoxes_1 : List UInt8 := dkwX1_meanBoxes_1 ++ []
def dkwX1_meanBoxes_0 : List UInt8 := [42, 182, 0, 83, 4, 162, 0, 11, 187, 1, 243, 89, 183, 1, 245, 191, 42, 180, 1, 114, 135, 42]
abbrev dktX1_meanBoxes_0 : List UInt8 := dkwX1_meanBoxes_0 ++ dktX1_meanBoxes_1
theorem dksX1_meanBoxes_0 : cX1_meanBoxes.data.toList.drop 0 = dktX1_meanBoxes_0 := by decide +kernel
theorem dksX1_meanBoxes_1 : cX1_meanBoxes.data.toList.drop 22 = dktX1_meanBoxes_1 := dk_seg dksX1_meanBoxes_0 22 rfl rfl
theorem dX1_meanBoxes_0 : decode cX1_meanBoxes 0 = .ok (.aload_n 0, 1) := dk_42 (dk_at dksX1_meanBoxes_0 0 rfl rfl)
theorem dX1_meanBoxes_1 : decode cX1_meanBoxes 1 = .ok (.invokevirtual 83, 3) := dk_182 0 83 (dk_at dksX1_meanBoxes_0 1 rfl rfl)
theorem dX1_meanBoxes_4 : decode cX1_meanBoxes 4 = .ok (.iconst 1, 1) := dk_4 (dk_at dksX1_meanBoxes_0 4 rfl rfl)
theorem dX1_meanBoxes_5 : decode cX1_meanBoxes 5 = .ok (.if_icmp .ge 11, 3) := dk_162 0 11 (dk_at dksX1_meanBoxes_0 5 rfl rfl)
theorem dX1_meanBoxes_8 : decode cX1_meanBoxes 8 = .ok (.new 499, 3) := dk_187 1 243 (dk_at dksX1_meanBoxes_0 8 rfl rfl)
theorem dX1_meanBoxes_11 : decode cX1_meanBoxes 11 = .ok (.dup, 1) := dk_89 (dk_at dksX1_meanBoxes_0 11 rfl rfl)
theorem dX1_meanBoxes_12 : decode cX1_meanBoxes 12 = .ok (.invokespecial 501, 3) := dk_183 1 245 (dk_at dksX1_meanBoxes_0 12 rfl rfl)
theorem dX1_meanBoxes_15 : decode cX1_meanBoxes 15 = .ok (.athrow, 1) := dk_191 (dk_at dksX1_meanBoxes_0 15 rfl rfl)
theorem dX1_meanBoxes_16 : decode cX1_meanBoxes 16 = .ok (.aload_n 0, 1) := dk_42 (dk_at dksX1_meanBoxes_0 16 rfl rfl)
theorem dX1_meanBoxes_17 : decode cX1_meanBoxes 17 = .ok (.getfield 370, 3) := dk_180 1 114 (dk_at dksX1_meanBoxes_0 17 rfl rfl)
theorem dX1_meanBoxes_20 : decode cX1_meanBoxes 20 = .ok (.i2d, 1) := dk_135 (dk_at dksX1_meanBoxes_0 20 rfl rfl)
theorem dX1_meanBoxes_21 : decode cX1_meanBoxes 21 = .ok (.aload_n 0, 1) := dk_42 (dk_at dksX1_meanBoxes_0 21 rfl rfl)
theorem dX1_meanBoxes_22 : decode cX1_meanBoxes 22 = .ok (.invokevirtual 83, 3) := dk_182 0 83 (dk_at dksX1_meanBoxes_1 0 rfl rfl)
theorem dX1_meanBoxes_25 : decode cX1_meanBoxes 25 = .ok (.i2d, 1) := dk_135 (dk_at dksX1_meanBoxes_1 3 rfl rfl)
theorem dX1_meanBoxes_26 : decode cX1_meanBoxes 26 = .ok (.ddiv, 1) := dk_111 (dk_at dksX1_meanBoxes_1 4 rfl rfl)
theorem dX1_meanBoxes_27 : decode cX1_meanBoxes 27 = .ok (.dreturn, 1) := dk_175 (dk_at dksX1_meanBoxes_1 5 rfl rfl)
theorem q77 : (Jvm.Cond.initialized "Keygrove") ∈ lw_all := lw_g (lw_at lw_m1 1 rfl) rfl
theorem q152 : (Jvm.Cond.instantiable "Keygrove" (9 : Nat)) ∈ lw_all := lw_g (lw_at lw_m1 76 rfl) rfl
theorem q154 : (Jvm.Cond.instanceMethod ({ cls := "Keygrove", name := "<init>", desc := "()V" } : Jvm.MethodName)) ∈ lw_all := lw_g (lw_at lw_m1 78 rfl) rfl
theorem q155 : (Jvm.Cond.code ({ cls := "Keygrove", name := "<init>", desc := "()V" } : Jvm.MethodName) prog_1_method_9_code (1 : Nat) (Option.none : Option Jvm.ClassFile.FieldType)) ∈ lw_all := lw_g (lw_at lw_m1 79 rfl) rfl
theorem q156 : (Jvm.Cond.methodLink "Keygrove" (22 : Nat) ({ cls := "java/lang/Object", name := "<init>", desc := "()V" } : Jvm.MethodName)) ∈ lw_all := lw_g (lw_at lw_m1 80 rfl) rfl
theorem q159 : (Jvm.Cond.classLink "Keygrove" (25 : Nat) "Keygrove$Book") ∈ lw_all := lw_g (lw_at lw_m1 83 rfl) rfl
theorem q161 : (Jvm.Cond.methodLinkNest "Keygrove" (27 : Nat) ({ cls := "Keygrove$Book", name := "<init>", desc := "()V" } : Jvm.MethodName) "Keygrove") ∈ lw_tbl := lw_at lw_m1 85 rfl
theorem q235 : (Jvm.Cond.fieldLinkNest "Keygrove" (338 : Nat) "Keygrove$Book" "openers" "Ljava/util/List;" "Keygrove") ∈ lw_tbl := lw_at lw_m1 159 rfl
theorem q238 : (Jvm.Cond.fieldLinkNest "Keygrove" (179 : Nat) "Keygrove$Book" "z" "I" "Keygrove") ∈ lw_tbl := lw_at lw_m1 162 rfl
theorem q250 : (Jvm.Cond.classLink "Keygrove" (34 : Nat) "java/util/ArrayList") ∈ lw_all := lw_g (lw_at lw_m1 174 rfl) rfl
theorem q251 : (Jvm.Cond.methodLink "Keygrove" (36 : Nat) ({ cls := "java/util/ArrayList", name := "<init>", desc := "()V" } : Jvm.MethodName)) ∈ lw_all := lw_g (lw_at lw_m1 175 rfl) rfl
theorem q252 : (Jvm.Cond.classLink "Keygrove" (56 : Nat) "java/util/BitSet") ∈ lw_all := lw_g (lw_at lw_m1 176 rfl) rfl
theorem q254 : (Jvm.Cond.methodLink "Keygrove" (58 : Nat) ({ cls := "java/util/BitSet", name := "<init>", desc := "()V" } : Jvm.MethodName)) ∈ lw_all := lw_g (lw_at lw_m1 178 rfl) rfl
theorem q277 : (Jvm.Cond.fieldLink "Keygrove" (28 : Nat) "Keygrove" "book" "LKeygrove$Book;") ∈ lw_all := lw_g (lw_at lw_m1 201 rfl) rfl
theorem q278 : (Jvm.Cond.fieldLink "Keygrove" (37 : Nat) "Keygrove" "persons" "Ljava/util/List;") ∈ lw_all := lw_g (lw_at lw_m1 202 rfl) rfl
theorem q279 : (Jvm.Cond.fieldLink "Keygrove" (41 : Nat) "Keygrove" "packs" "Ljava/util/List;") ∈ lw_all := lw_g (lw_at lw_m1 203 rfl) rfl
theorem q280 : (Jvm.Cond.fieldLink "Keygrove" (44 : Nat) "Keygrove" "proposals" "Ljava/util/List;") ∈ lw_all := lw_g (lw_at lw_m1 204 rfl) rfl
theorem q282 : (Jvm.Cond.fieldLink "Keygrove" (47 : Nat) "Keygrove" "trees" "Ljava/util/List;") ∈ lw_all := lw_g (lw_at lw_m1 206 rfl) rfl
theorem q283 : (Jvm.Cond.fieldLink "Keygrove" (50 : Nat) "Keygrove" "steps" "Ljava/util/List;") ∈ lw_all := lw_g (lw_at lw_m1 207 rfl) rfl
theorem q284 : (Jvm.Cond.fieldLink "Keygrove" (53 : Nat) "Keygrove" "messages" "Ljava/util/List;") ∈ lw_all := lw_g (lw_at lw_m1 208 rfl) rfl
theorem q285 : (Jvm.Cond.fieldLink "Keygrove" (59 : Nat) "Keygrove" "stolen" "Ljava/util/BitSet;") ∈ lw_all := lw_g (lw_at lw_m1 209 rfl) rfl
theorem q286 : (Jvm.Cond.fieldLink "Keygrove" (370 : Nat) "Keygrove" "boxes" "I") ∈ lw_all := lw_g (lw_at lw_m1 210 rfl) rfl
theorem q287 : (Jvm.Cond.laysFinal "Keygrove" "Keygrove" "book" "LKeygrove$Book;") ∈ lw_all := lw_g (lw_at lw_m1 211 rfl) rfl
theorem q288 : (Jvm.Cond.soleField "Keygrove" "book") ∈ lw_all := lw_g (lw_at lw_m1 212 rfl) rfl
theorem q289 : (Jvm.Cond.laysFinal "Keygrove" "Keygrove" "persons" "Ljava/util/List;") ∈ lw_all := lw_g (lw_at lw_m1 213 rfl) rfl
theorem q290 : (Jvm.Cond.soleField "Keygrove" "persons") ∈ lw_all := lw_g (lw_at lw_m1 214 rfl) rfl
theorem q291 : (Jvm.Cond.laysFinal "Keygrove" "Keygrove" "packs" "Ljava/util/List;") ∈ lw_all := lw_g (lw_at lw_m1 215 rfl) rfl
theorem q292 : (Jvm.Cond.soleField "Keygrove" "packs") ∈ lw_all := lw_g (lw_at lw_m1 216 rfl) rfl
theorem q293 : (Jvm.Cond.laysFinal "Keygrove" "Keygrove" "proposals" "Ljava/util/List;") ∈ lw_all := lw_g (lw_at lw_m1 217 rfl) rfl
theorem q294 : (Jvm.Cond.soleField "Keygrove" "proposals") ∈ lw_all := lw_g (lw_at lw_m1 218 rfl) rfl
theorem q295 : (Jvm.Cond.laysFinal "Keygrove" "Keygrove" "trees" "Ljava/util/List;") ∈ lw_all := lw_g (lw_at lw_m1 219 rfl) rfl
theorem q296 : (Jvm.Cond.soleField "Keygrove" "trees") ∈ lw_all := lw_g (lw_at lw_m1 220 rfl) rfl
theorem q297 : (Jvm.Cond.laysFinal "Keygrove" "Keygrove" "steps" "Ljava/util/List;") ∈ lw_all := lw_g (lw_at lw_m1 221 rfl) rfl
theorem q298 : (Jvm.Cond.soleField "Keygrove" "steps") ∈ lw_all := lw_g (lw_at lw_m1 222 rfl) rfl
theorem q299 : (Jvm.Cond.laysFinal "Keygrove" "Keygrove" "messages" "Ljava/util/List;") ∈ lw_all := lw_g (lw_at lw_m1 223 rfl) rfl
theorem q300 : (Jvm.Cond.soleField "Keygrove" "messages") ∈ lw_all := lw_g (lw_at lw_m1 224 rfl) rfl
theorem q301 : (Jvm.Cond.laysFinal "Keygrove" "Keygrove" "stolen" "Ljava/util/BitSet;") ∈ lw_all := lw_g (lw_at lw_m1 225 rfl) rfl
theorem q302 : (Jvm.Cond.soleField "Keygrove" "stolen") ∈ lw_all := lw_g (lw_at lw_m1 226 rfl) rfl
theorem q303 : (Jvm.Cond.lays "Keygrove" "Keygrove" "boxes" "I") ∈ lw_all := lw_g (lw_at lw_m1 227 rfl) rfl
theorem q304 : (Jvm.Cond.soleField "Keygrove" "boxes") ∈ lw_all := lw_g (lw_at lw_m1 228 rfl) rfl
theorem q305 : (Jvm.Cond.superclass "Keygrove" "java/lang/Object") ∈ lw_all := lw_g (lw_at lw_m1 229 rfl) rfl
theorem q307 : (Jvm.Cond.instanceMethod ({ cls := "Keygrove", name := "seed", desc := "(I)I" } : Jvm.MethodName)) ∈ lw_all := lw_g (lw_at lw_m1 231 rfl) rfl
theorem q308 : (Jvm.Cond.selects "Keygrove" ({ cls := "Keygrove", name := "seed", desc := "(I)I" } : Jvm.MethodName) ({ cls := "Keygrove", name := "seed", desc := "(I)I" } : Jvm.MethodName)) ∈ lw_all := lw_g (lw_at lw_m1 232 rfl) rfl
theorem q309 : (Jvm.Cond.code ({ cls := "Keygrove", name := "seed", desc := "(I)I" } : Jvm.MethodName) prog_1_method_21_code (3 : Nat) (Option.some Jvm.ClassFile.FieldType.int)) ∈ lw_all := lw_g (lw_at lw_m1 233 rfl) rfl
theorem q311 : (Jvm.Cond.instanceMethod ({ cls := "Keygrove", name := "proposals", desc := "()I" } : Jvm.MethodName)) ∈ lw_all := lw_g (lw_at lw_m1 235 rfl) rfl
theorem q312 : (Jvm.Cond.selects "Keygrove" ({ cls := "Keygrove", name := "proposals", desc := "()I" } : Jvm.MethodName) ({ cls := "Keygrove", name := "proposals", desc := "()I" } : Jvm.MethodName)) ∈ lw_all := lw_g (lw_at lw_m1 236 rfl) rfl
theorem q313 : (Jvm.Cond.code ({ cls := "Keygrove", name := "proposals", desc := "()I" } : Jvm.MethodName) prog_1_method_33_code (1 : Nat) (Option.some Jvm.ClassFile.FieldType.int)) ∈ lw_all := lw_g (lw_at lw_m1 237 rfl) rfl
theorem q314 : (Jvm.Cond.interfaceEntry "Keygrove" (63 : Nat)) ∈ lw_tbl := lw_at lw_m1 238 rfl
theorem q315 : (Jvm.Cond.methodLink "Keygrove" (63 : Nat) ({ cls := "java/util/List", name := "size", desc := "()I" } : Jvm.MethodName)) ∈ lw_all := lw_g (lw_at lw_m1 239 rfl) rfl
theorem q325 : (Jvm.Cond.instanceMethod ({ cls := "Keygrove", name := "boxes", desc := "()I" } : Jvm.MethodName)) ∈ lw_all := lw_g (lw_at lw_m2 9 rfl) rfl
theorem q326 : (Jvm.Cond.selects "Keygrove" ({ cls := "Keygrove", name := "boxes", desc := "()I" } : Jvm.MethodName) ({ cls := "Keygrove", name := "boxes", desc := "()I" } : Jvm.MethodName)) ∈ lw_all := lw_g (lw_at lw_m2 10 rfl) rfl
theorem q327 : (Jvm.Cond.code ({ cls := "Keygrove", name := "boxes", desc := "()I" } : Jvm.MethodName) prog_1_method_56_code (1 : Nat) (Option.some Jvm.ClassFile.FieldType.int)) ∈ lw_all := lw_g (lw_at lw_m2 11 rfl) rfl
theorem q329 : (Jvm.Cond.instanceMethod ({ cls := "Keygrove", name := "found", desc := "()I" } : Jvm.MethodName)) ∈ lw_all := lw_g (lw_at lw_m2 13 rfl) rfl
theorem q330 : (Jvm.Cond.selects "Keygrove" ({ cls := "Keygrove", name := "found", desc := "()I" } : Jvm.MethodName) ({ cls := "Keygrove", name := "found", desc := "()I" } : Jvm.MethodName)) ∈ lw_all := lw_g (lw_at lw_m2 14 rfl) rfl
theorem q331 : (Jvm.Cond.code ({ cls := "Keygrove", name := "found", desc := "()I" } : Jvm.MethodName) prog_1_method_67_code (1 : Nat) (Option.some Jvm.ClassFile.FieldType.int)) ∈ lw_all := lw_g (lw_at lw_m2 15 rfl) rfl
theorem q332 : (Jvm.Cond.methodLink "Keygrove" (478 : Nat) ({ cls := "Keygrove", name := "listOf", desc := "(Ljava/util/BitSet;)Ljava/util/List;" } : Jvm.MethodName)) ∈ lw_all := lw_g (lw_at lw_m2 16 rfl) rfl
theorem q333 : (Jvm.Cond.static ({ cls := "Keygrove", name := "listOf", desc := "(Ljava/util/BitSet;)Ljava/util/List;" } : Jvm.MethodName)) ∈ lw_all := lw_g (lw_at lw_m2 17 rfl) rfl
theorem q334 : (Jvm.Cond.code ({ cls := "Keygrove", name := "listOf", desc := "(Ljava/util/BitSet;)Ljava/util/List;" } : Jvm.MethodName) prog_1_method_16_code (3 : Nat) (Option.some (Jvm.ClassFile.FieldType.object "java/util/List"))) ∈ lw_all := lw_g (lw_at lw_m2 18 rfl) rfl
theorem q335 : (Jvm.Cond.methodLink "Keygrove" (106 : Nat) ({ cls := "java/util/BitSet", name := "nextSetBit", desc := "(I)I" } : Jvm.MethodName)) ∈ lw_all := lw_g (lw_at lw_m2 19 rfl) rfl
theorem q685 : (Jvm.Cond.methodLink "Keygrove" (110 : Nat) ({ cls := "java/lang/Integer", name := "valueOf", desc := "(I)Ljava/lang/Integer;" } : Jvm.MethodName)) ∈ lw_all := lw_g (lw_at lw_m3 129 rfl) rfl
theorem q705 : (Jvm.Cond.interfaceEntry "Keygrove" (116 : Nat)) ∈ lw_tbl := lw_at lw_m3 149 rfl
theorem q706 : (Jvm.Cond.methodLink "Keygrove" (116 : Nat) ({ cls := "java/util/List", name := "add", desc := "(Ljava/lang/Object;)Z" } : Jvm.MethodName)) ∈ lw_all := lw_g (lw_at lw_m3 150 rfl) rfl
theorem q733 : (Jvm.Cond.selects "Keygrove" ({ cls := "java/lang/Object", name := "getClass", desc := "()Ljava/lang/Class;" } : Jvm.MethodName) ({ cls := "java/lang/Object", name := "getClass", desc := "()Ljava/lang/Class;" } : Jvm.MethodName)) ∈ lw_all := lw_g (lw_at lw_m3 177 rfl) rfl
theorem q792 : (Jvm.Cond.methodLink "Keygrove" (482 : Nat) ({ cls := "Keygrove$Book", name := "finds", desc := "(Ljava/lang/Iterable;)Ljava/util/BitSet;" } : Jvm.MethodName)) ∈ lw_all := lw_g (lw_at lw_m3 236 rfl) rfl
theorem q1113 : (Jvm.Cond.methodLink "Keygrove" (429 : Nat) ({ cls := "java/util/BitSet", name := "cardinality", desc := "()I" } : Jvm.MethodName)) ∈ lw_all := lw_g (lw_at lw_m5 77 rfl) rfl
theorem q1115 : (Jvm.Cond.instanceMethod ({ cls := "Keygrove", name := "checksum", desc := "()J" } : Jvm.MethodName)) ∈ lw_all := lw_g (lw_at lw_m5 79 rfl) rfl
theorem q1116 : (Jvm.Cond.selects "Keygrove" ({ cls := "Keygrove", name := "checksum", desc := "()J" } : Jvm.MethodName) ({ cls := "Keygrove", name := "checksum", desc := "()J" } : Jvm.MethodName)) ∈ lw_all := lw_g (lw_at lw_m5 80 rfl) rfl
theorem q1117 : (Jvm.Cond.code ({ cls := "Keygrove", name := "checksum", desc := "()J" } : Jvm.MethodName) prog_1_method_72_code (5 : Nat) (Option.some Jvm.ClassFile.FieldType.long)) ∈ lw_all := lw_g (lw_at lw_m5 81 rfl) rfl
theorem q1118 : (Jvm.Cond.constantLong "Keygrove" (502 : Nat) (217 : Int64)) ∈ lw_all := lw_g (lw_at lw_m5 82 rfl) rfl
theorem q1119 : (Jvm.Cond.constantLong "Keygrove" (504 : Nat) (31 : Int64)) ∈ lw_all := lw_g (lw_at lw_m5 83 rfl) rfl
theorem q1120 : (Jvm.Cond.methodLink "Keygrove" (83 : Nat) ({ cls := "Keygrove", name := "newest", desc := "()I" } : Jvm.MethodName)) ∈ lw_all := lw_g (lw_at lw_m5 84 rfl) rfl
theorem q1121 : (Jvm.Cond.privateMethod ({ cls := "Keygrove", name := "newest", desc := "()I" } : Jvm.MethodName)) ∈ lw_tbl := lw_at lw_m5 85 rfl
theorem q1122 : (Jvm.Cond.instanceMethod ({ cls := "Keygrove", name := "newest", desc := "()I" } : Jvm.MethodName)) ∈ lw_all := lw_g (lw_at lw_m5 86 rfl) rfl
theorem q1123 : (Jvm.Cond.code ({ cls := "Keygrove", name := "newest", desc := "()I" } : Jvm.MethodName) prog_1_method_11_code (1 : Nat) (Option.some Jvm.ClassFile.FieldType.int)) ∈ lw_all := lw_g (lw_at lw_m5 87 rfl) rfl
theorem q1124 : (Jvm.Cond.interfaceEntry "Keygrove" (96 : Nat)) ∈ lw_tbl := lw_at lw_m5 88 rfl
theorem q1125 : (Jvm.Cond.methodLink "Keygrove" (96 : Nat) ({ cls := "java/util/List", name := "isEmpty", desc := "()Z" } : Jvm.MethodName)) ∈ lw_all := lw_g (lw_at lw_m5 89 rfl) rfl
theorem q1133 : (Jvm.Cond.methodLink "Keygrove" (99 : Nat) ({ cls := "Keygrove", name := "tree", desc := "()LKeygrove$Tree;" } : Jvm.MethodName)) ∈ lw_all := lw_g (lw_at lw_m5 97 rfl) rfl
theorem q1134 : (Jvm.Cond.privateMethod ({ cls := "Keygrove", name := "tree", desc := "()LKeygrove$Tree;" } : Jvm.MethodName)) ∈ lw_tbl := lw_at lw_m5 98 rfl
theorem q1135 : (Jvm.Cond.instanceMethod ({ cls := "Keygrove", name := "tree", desc := "()LKeygrove$Tree;" } : Jvm.MethodName)) ∈ lw_all := lw_g (lw_at lw_m5 99 rfl) rfl
theorem q1136 : (Jvm.Cond.code ({ cls := "Keygrove", name := "tree", desc := "()LKeygrove$Tree;" } : Jvm.MethodName) prog_1_method_12_code (1 : Nat) (Option.some (Jvm.ClassFile.FieldType.object "Keygrove$Tree"))) ∈ lw_all := lw_g (lw_at lw_m5 100 rfl) rfl
theorem q1137 : (Jvm.Cond.interfaceEntry "Keygrove" (77 : Nat)) ∈ lw_tbl := lw_at lw_m5 101 rfl
theorem q1138 : (Jvm.Cond.methodLink "Keygrove" (77 : Nat) ({ cls := "java/util/List", name := "get", desc := "(I)Ljava/lang/Object;" } : Jvm.MethodName)) ∈ lw_all := lw_g (lw_at lw_m5 102 rfl) rfl
theorem q1139 : (Jvm.Cond.classLink "Keygrove" (86 : Nat) "Keygrove$Tree") ∈ lw_all := lw_g (lw_at lw_m5 103 rfl) rfl
theorem q1140 : (Jvm.Cond.methodLink "Keygrove" (103 : Nat) ({ cls := "Keygrove$Tree", name := "nodes", desc := "()I" } : Jvm.MethodName)) ∈ lw_all := lw_g (lw_at lw_m5 104 rfl) rfl
theorem q1144 : (Jvm.Cond.methodLink "Keygrove" (383 : Nat) ({ cls := "Keygrove$Tree", name := "isBlank", desc := "(I)Z" } : Jvm.MethodName)) ∈ lw_all := lw_g (lw_at lw_m5 108 rfl) rfl
theorem q1148 : (Jvm.Cond.methodLink "Keygrove" (426 : Nat) ({ cls := "Keygrove$Book", name := "value", desc := "(I)I" } : Jvm.MethodName)) ∈ lw_all := lw_g (lw_at lw_m5 112 rfl) rfl
theorem q1152 : (Jvm.Cond.interfaceEntry "Keygrove" (204 : Nat)) ∈ lw_tbl := lw_at lw_m5 116 rfl
theorem q1153 : (Jvm.Cond.methodLink "Keygrove" (204 : Nat) ({ cls := "java/util/List", name := "iterator", desc := "()Ljava/util/Iterator;" } : Jvm.MethodName)) ∈ lw_all := lw_g (lw_at lw_m5 117 rfl) rfl
theorem q1157 : (Jvm.Cond.interfaceEntry "Keygrove" (208 : Nat)) ∈ lw_tbl := lw_at lw_m5 121 rfl
theorem q1158 : (Jvm.Cond.methodLink "Keygrove" (208 : Nat) ({ cls := "java/util/Iterator", name := "hasNext", desc := "()Z" } : Jvm.MethodName)) ∈ lw_all := lw_g (lw_at lw_m5 122 rfl) rfl
theorem q1159 : (Jvm.Cond.interfaceEntry "Keygrove" (213 : Nat)) ∈ lw_tbl := lw_at lw_m5 123 rfl
theorem q1160 : (Jvm.Cond.methodLink "Keygrove" (213 : Nat) ({ cls := "java/util/Iterator", name := "next", desc := "()Ljava/lang/Object;" } : Jvm.MethodName)) ∈ lw_all := lw_g (lw_at lw_m5 124 rfl) rfl
theorem q1161 : (Jvm.Cond.classLink "Keygrove" (81 : Nat) "Keygrove$Person") ∈ lw_all := lw_g (lw_at lw_m5 125 rfl) rfl
theorem q1162 : (Jvm.Cond.methodLink "Keygrove" (417 : Nat) ({ cls := "Keygrove$Person", name := "held", desc := "()Ljava/util/BitSet;" } : Jvm.MethodName)) ∈ lw_all := lw_g (lw_at lw_m5 126 rfl) rfl
theorem q1211 : (Jvm.Cond.methodLink "Keygrove" (88 : Nat) ({ cls := "Keygrove$Person", name := "isIn", desc := "()Z" } : Jvm.MethodName)) ∈ lw_all := lw_g (lw_at lw_m5 175 rfl) rfl
theorem q1213 : (Jvm.Cond.instanceMethod ({ cls := "Keygrove", name := "isSound", desc := "()Z" } : Jvm.MethodName)) ∈ lw_all := lw_g (lw_at lw_m5 177 rfl) rfl
theorem q1214 : (Jvm.Cond.selects "Keygrove" ({ cls := "Keygrove", name := "isSound", desc := "()Z" } : Jvm.MethodName) ({ cls := "Keygrove", name := "isSound", desc := "()Z" } : Jvm.MethodName)) ∈ lw_all := lw_g (lw_at lw_m5 178 rfl) rfl
theorem q1215 : (Jvm.Cond.code ({ cls := "Keygrove", name := "isSound", desc := "()Z" } : Jvm.MethodName) prog_1_method_75_code (4 : Nat) (Option.some Jvm.ClassFile.FieldType.boolean)) ∈ lw_all := lw_g (lw_at lw_m5 179 rfl) rfl
theorem q1216 : (Jvm.Cond.methodLink "Keygrove" (509 : Nat) ({ cls := "Keygrove", name := "isRight", desc := "(LKeygrove$Person;)Z" } : Jvm.MethodName)) ∈ lw_all := lw_g (lw_at lw_m5 180 rfl) rfl
theorem q1217 : (Jvm.Cond.privateMethod ({ cls := "Keygrove", name := "isRight", desc := "(LKeygrove$Person;)Z" } : Jvm.MethodName)) ∈ lw_tbl := lw_at lw_m5 181 rfl
theorem q1218 : (Jvm.Cond.instanceMethod ({ cls := "Keygrove", name := "isRight", desc := "(LKeygrove$Person;)Z" } : Jvm.MethodName)) ∈ lw_all := lw_g (lw_at lw_m5 182 rfl) rfl
theorem q1219 : (Jvm.Cond.code ({ cls := "Keygrove", name := "isRight", desc := "(LKeygrove$Person;)Z" } : Jvm.MethodName) prog_1_method_73_code (7 : Nat) (Option.some Jvm.ClassFile.FieldType.boolean)) ∈ lw_all := lw_g (lw_at lw_m5 183 rfl) rfl
theorem q1220 : (Jvm.Cond.methodLink "Keygrove" (201 : Nat) ({ cls := "Keygrove$Tree", name := "leafOf", desc := "(I)I" } : Jvm.MethodName)) ∈ lw_all := lw_g (lw_at lw_m5 184 rfl) rfl
theorem q1224 : (Jvm.Cond.methodLink "Keygrove" (493 : Nat) ({ cls := "Keygrove", name := "keyOf", desc := "(I)I" } : Jvm.MethodName)) ∈ lw_all := lw_g (lw_at lw_m5 188 rfl) rfl
theorem q1225 : (Jvm.Cond.privateMethod ({ cls := "Keygrove", name := "keyOf", desc := "(I)I" } : Jvm.MethodName)) ∈ lw_tbl := lw_at lw_m5 189 rfl
theorem q1226 : (Jvm.Cond.instanceMethod ({ cls := "Keygrove", name := "keyOf", desc := "(I)I" } : Jvm.MethodName)) ∈ lw_all := lw_g (lw_at lw_m5 190 rfl) rfl
theorem q1227 : (Jvm.Cond.code ({ cls := "Keygrove", name := "keyOf", desc := "(I)I" } : Jvm.MethodName) prog_1_method_64_code (2 : Nat) (Option.some Jvm.ClassFile.FieldType.int)) ∈ lw_all := lw_g (lw_at lw_m5 191 rfl) rfl
theorem q1228 : (Jvm.Cond.classLink "Keygrove" (149 : Nat) "Keygrove$Step") ∈ lw_all := lw_g (lw_at lw_m5 192 rfl) rfl
theorem q1229 : (Jvm.Cond.methodLink "Keygrove" (172 : Nat) ({ cls := "Keygrove$Book", name := "from", desc := "(II)I" } : Jvm.MethodName)) ∈ lw_all := lw_g (lw_at lw_m5 193 rfl) rfl
theorem q1241 : (Jvm.Cond.static ({ cls := "Keygrove", name := "mix", desc := "(II)I" } : Jvm.MethodName)) ∈ lw_all := lw_g (lw_at lw_m5 205 rfl) rfl
theorem q1242 : (Jvm.Cond.code ({ cls := "Keygrove", name := "mix", desc := "(II)I" } : Jvm.MethodName) prog_1_method_7_code (3 : Nat) (Option.some Jvm.ClassFile.FieldType.int)) ∈ lw_all := lw_g (lw_at lw_m5 206 rfl) rfl
theorem q1243 : (Jvm.Cond.constant "Keygrove" (19 : Nat) (-1640531527 : Int32)) ∈ lw_all := lw_g (lw_at lw_m5 207 rfl) rfl
theorem q1244 : (Jvm.Cond.constant "Keygrove" (20 : Nat) (-2048144789 : Int32)) ∈ lw_all := lw_g (lw_at lw_m5 208 rfl) rfl
theorem q1245 : (Jvm.Cond.constant "Keygrove" (21 : Nat) (-1028477387 : Int32)) ∈ lw_all := lw_g (lw_at lw_m5 209 rfl) rfl
theorem q1265 : (Jvm.Cond.selects "Keygrove" ({ cls := "java/lang/Object", name := "hashCode", desc := "()I" } : Jvm.MethodName) ({ cls := "java/lang/Object", name := "hashCode", desc := "()I" } : Jvm.MethodName)) ∈ lw_all := lw_g (lw_at lw_m5 229 rfl) rfl
theorem q1366 : (Jvm.Cond.selects "Keygrove" ({ cls := "java/lang/Object", name := "equals", desc := "(Ljava/lang/Object;)Z" } : Jvm.MethodName) ({ cls := "java/lang/Object", name := "equals", desc := "(Ljava/lang/Object;)Z" } : Jvm.MethodName)) ∈ lw_all := lw_g (lw_at lw_m6 90 rfl) rfl
theorem q1784 : (Jvm.Cond.methodLink "Keygrove" (421 : Nat) ({ cls := "java/util/BitSet", name := "get", desc := "(I)Z" } : Jvm.MethodName)) ∈ lw_all := lw_g (lw_at lw_m8 28 rfl) rfl
theorem q1785 : (Jvm.Cond.methodLink "Keygrove" (231 : Nat) ({ cls := "Keygrove", name := "isFresh", desc := "(LKeygrove$Person;)Z" } : Jvm.MethodName)) ∈ lw_all := lw_g (lw_at lw_m8 29 rfl) rfl
theorem q1786 : (Jvm.Cond.privateMethod ({ cls := "Keygrove", name := "isFresh", desc := "(LKeygrove$Person;)Z" } : Jvm.MethodName)) ∈ lw_tbl := lw_at lw_m8 30 rfl
theorem q1787 : (Jvm.Cond.instanceMethod ({ cls := "Keygrove", name := "isFresh", desc := "(LKeygrove$Person;)Z" } : Jvm.MethodName)) ∈ lw_all := lw_g (lw_at lw_m8 31 rfl) rfl
theorem q1788 : (Jvm.Cond.code ({ cls := "Keygrove", name := "isFresh", desc := "(LKeygrove$Person;)Z" } : Jvm.MethodName) prog_1_method_13_code (2 : Nat) (Option.some Jvm.ClassFile.FieldType.boolean)) ∈ lw_all := lw_g (lw_at lw_m8 32 rfl) rfl
theorem q1789 : (Jvm.Cond.methodLink "Keygrove" (506 : Nat) ({ cls := "Keygrove", name := "holdsJust", desc := "(LKeygrove$Person;)Z" } : Jvm.MethodName)) ∈ lw_all := lw_g (lw_at lw_m8 33 rfl) rfl
theorem q1790 : (Jvm.Cond.privateMethod ({ cls := "Keygrove", name := "holdsJust", desc := "(LKeygrove$Person;)Z" } : Jvm.MethodName)) ∈ lw_tbl := lw_at lw_m8 34 rfl
theorem q1791 : (Jvm.Cond.instanceMethod ({ cls := "Keygrove", name := "holdsJust", desc := "(LKeygrove$Person;)Z" } : Jvm.MethodName)) ∈ lw_all := lw_g (lw_at lw_m8 35 rfl) rfl
theorem q1792 : (Jvm.Cond.code ({ cls := "Keygrove", name := "holdsJust", desc := "(LKeygrove$Person;)Z" } : Jvm.MethodName) prog_1_method_74_code (6 : Nat) (Option.some Jvm.ClassFile.FieldType.boolean)) ∈ lw_all := lw_g (lw_at lw_m8 36 rfl) rfl
theorem q1793 : (Jvm.Cond.methodLink "Keygrove" (386 : Nat) ({ cls := "Keygrove$Tree", name := "covers", desc := "(II)Z" } : Jvm.MethodName)) ∈ lw_all := lw_g (lw_at lw_m8 37 rfl) rfl
theorem q1800 : (Jvm.Cond.methodLink "Keygrove" (344 : Nat) ({ cls := "Keygrove", name := "has", desc := "(II)Z" } : Jvm.MethodName)) ∈ lw_all := lw_g (lw_at lw_m8 44 rfl) rfl
theorem q1801 : (Jvm.Cond.static ({ cls := "Keygrove", name := "has", desc := "(II)Z" } : Jvm.MethodName)) ∈ lw_all := lw_g (lw_at lw_m8 45 rfl) rfl
theorem q1802 : (Jvm.Cond.code ({ cls := "Keygrove", name := "has", desc := "(II)Z" } : Jvm.MethodName) prog_1_method_8_code (2 : Nat) (Option.some Jvm.ClassFile.FieldType.boolean)) ∈ lw_all := lw_g (lw_at lw_m8 46 rfl) rfl
theorem q1803 : (Jvm.Cond.methodLink "Keygrove" (456 : Nat) ({ cls := "java/util/TreeMap", name := "containsKey", desc := "(Ljava/lang/Object;)Z" } : Jvm.MethodName)) ∈ lw_all := lw_g (lw_at lw_m8 47 rfl) rfl
theorem q1825 : (Jvm.Cond.methodLink "Keygrove" (398 : Nat) ({ cls := "java/util/TreeMap", name := "get", desc := "(Ljava/lang/Object;)Ljava/lang/Object;" } : Jvm.MethodName)) ∈ lw_all := lw_g (lw_at lw_m8 69 rfl) rfl
theorem q1829 : (Jvm.Cond.classLink "Keygrove" (111 : Nat) "java/lang/Integer") ∈ lw_all := lw_g (lw_at lw_m8 73 rfl) rfl
theorem q1830 : (Jvm.Cond.methodLink "Keygrove" (323 : Nat) ({ cls := "java/lang/Integer", name := "intValue", desc := "()I" } : Jvm.MethodName)) ∈ lw_all := lw_g (lw_at lw_m8 74 rfl) rfl
theorem q1836 : (Jvm.Cond.instanceMethod ({ cls := "Keygrove", name := "person", desc := "()I" } : Jvm.MethodName)) ∈ lw_all := lw_g (lw_at lw_m8 80 rfl) rfl
theorem q1837 : (Jvm.Cond.selects "Keygrove" ({ cls := "Keygrove", name := "person", desc := "()I" } : Jvm.MethodName) ({ cls := "Keygrove", name := "person", desc := "()I" } : Jvm.MethodName)) ∈ lw_all := lw_g (lw_at lw_m8 81 rfl) rfl
theorem q1838 : (Jvm.Cond.code ({ cls := "Keygrove", name := "person", desc := "()I" } : Jvm.MethodName) prog_1_method_17_code (1 : Nat) (Option.some Jvm.ClassFile.FieldType.int)) ∈ lw_all := lw_g (lw_at lw_m8 82 rfl) rfl
theorem q1839 : (Jvm.Cond.methodLink "Keygrove" (120 : Nat) ({ cls := "Keygrove", name := "ready", desc := "(Z)V" } : Jvm.MethodName)) ∈ lw_all := lw_g (lw_at lw_m8 83 rfl) rfl
theorem q1840 : (Jvm.Cond.static ({ cls := "Keygrove", name := "ready", desc := "(Z)V" } : Jvm.MethodName)) ∈ lw_all := lw_g (lw_at lw_m8 84 rfl) rfl
theorem q1841 : (Jvm.Cond.code ({ cls := "Keygrove", name := "ready", desc := "(Z)V" } : Jvm.MethodName) prog_1_method_5_code (1 : Nat) (Option.none : Option Jvm.ClassFile.FieldType)) ∈ lw_all := lw_g (lw_at lw_m8 85 rfl) rfl
theorem q1842 : (Jvm.Cond.classLink "Keygrove" (13 : Nat) "java/lang/IllegalStateException") ∈ lw_all := lw_g (lw_at lw_m8 86 rfl) rfl
theorem q1851 : (Jvm.Cond.methodLink "Keygrove" (15 : Nat) ({ cls := "java/lang/IllegalStateException", name := "<init>", desc := "()V" } : Jvm.MethodName)) ∈ lw_all := lw_g (lw_at lw_m8 95 rfl) rfl
theorem q1858 : (Jvm.Cond.methodLink "Keygrove" (123 : Nat) ({ cls := "Keygrove$Person", name := "<init>", desc := "(LKeygrove;I)V" } : Jvm.MethodName)) ∈ lw_all := lw_g (lw_at lw_m8 102 rfl) rfl
theorem q1895 : (Jvm.Cond.fieldLinkNest "Keygrove" (198 : Nat) "Keygrove$Person" "number" "I" "Keygrove") ∈ lw_tbl := lw_at lw_m8 139 rfl
theorem q1897 : (Jvm.Cond.fieldLinkNest "Keygrove" (496 : Nat) "Keygrove$Person" "ever" "Ljava/util/BitSet;" "Keygrove") ∈ lw_tbl := lw_at lw_m8 141 rfl
theorem q1899 : (Jvm.Cond.fieldLinkNest "Keygrove" (138 : Nat) "Keygrove$Person" "packs" "Ljava/util/List;" "Keygrove") ∈ lw_tbl := lw_at lw_m8 143 rfl
theorem q1901 : (Jvm.Cond.fieldLinkNest "Keygrove" (92 : Nat) "Keygrove$Person" "epoch" "I" "Keygrove") ∈ lw_tbl := lw_at lw_m8 145 rfl
theorem q1903 : (Jvm.Cond.fieldLinkNest "Keygrove" (191 : Nat) "Keygrove$Person" "leaf" "I" "Keygrove") ∈ lw_tbl := lw_at lw_m8 147 rfl
theorem q1905 : (Jvm.Cond.fieldLinkNest "Keygrove" (152 : Nat) "Keygrove$Person" "nodes" "Ljava/util/TreeMap;" "Keygrove") ∈ lw_tbl := lw_at lw_m8 149 rfl
theorem q1907 : (Jvm.Cond.fieldLinkNest "Keygrove" (351 : Nat) "Keygrove$Person" "onward" "I" "Keygrove") ∈ lw_tbl := lw_at lw_m8 151 rfl
theorem q1909 : (Jvm.Cond.fieldLinkNest "Keygrove" (423 : Nat) "Keygrove$Person" "key" "I" "Keygrove") ∈ lw_tbl := lw_at lw_m8 153 rfl
theorem q1911 : (Jvm.Cond.fieldLinkNest "Keygrove" (432 : Nat) "Keygrove$Person" "chains" "Ljava/util/TreeMap;" "Keygrove") ∈ lw_tbl := lw_at lw_m8 155 rfl
theorem q1913 : (Jvm.Cond.fieldLinkNest "Keygrove" (255 : Nat) "Keygrove$Person" "renewal" "I" "Keygrove") ∈ lw_tbl := lw_at lw_m8 157 rfl
theorem q1958 : (Jvm.Cond.instanceMethod ({ cls := "Keygrove", name := "pack", desc := "(I)I" } : Jvm.MethodName)) ∈ lw_all := lw_g (lw_at lw_m8 202 rfl) rfl
theorem q1959 : (Jvm.Cond.selects "Keygrove" ({ cls := "Keygrove", name := "pack", desc := "(I)I" } : Jvm.MethodName) ({ cls := "Keygrove", name := "pack", desc := "(I)I" } : Jvm.MethodName)) ∈ lw_all := lw_g (lw_at lw_m8 203 rfl) rfl
theorem q1960 : (Jvm.Cond.code ({ cls := "Keygrove", name := "pack", desc := "(I)I" } : Jvm.MethodName) prog_1_method_18_code (5 : Nat) (Option.some Jvm.ClassFile.FieldType.int)) ∈ lw_all := lw_g (lw_at lw_m8 204 rfl) rfl
theorem q1961 : (Jvm.Cond.methodLink "Keygrove" (126 : Nat) ({ cls := "Keygrove", name := "personWith", desc := "(I)LKeygrove$Person;" } : Jvm.MethodName)) ∈ lw_all := lw_g (lw_at lw_m8 205 rfl) rfl
theorem q1962 : (Jvm.Cond.privateMethod ({ cls := "Keygrove", name := "personWith", desc := "(I)LKeygrove$Person;" } : Jvm.MethodName)) ∈ lw_tbl := lw_at lw_m8 206 rfl
theorem q1963 : (Jvm.Cond.instanceMethod ({ cls := "Keygrove", name := "personWith", desc := "(I)LKeygrove$Person;" } : Jvm.MethodName)) ∈ lw_all := lw_g (lw_at lw_m8 207 rfl) rfl
theorem q1964 : (Jvm.Cond.code ({ cls := "Keygrove", name := "personWith", desc := "(I)LKeygrove$Person;" } : Jvm.MethodName) prog_1_method_10_code (2 : Nat) (Option.some (Jvm.ClassFile.FieldType.object "Keygrove$Person"))) ∈ lw_all := lw_g (lw_at lw_m8 208 rfl) rfl
theorem q1965 : (Jvm.Cond.methodLink "Keygrove" (69 : Nat) ({ cls := "Keygrove", name := "in", desc := "(III)Z" } : Jvm.MethodName)) ∈ lw_all := lw_g (lw_at lw_m8 209 rfl) rfl
theorem q1966 : (Jvm.Cond.static ({ cls := "Keygrove", name := "in", desc := "(III)Z" } : Jvm.MethodName)) ∈ lw_all := lw_g (lw_at lw_m8 210 rfl) rfl
theorem q1967 : (Jvm.Cond.code ({ cls := "Keygrove", name := "in", desc := "(III)Z" } : Jvm.MethodName) prog_1_method_1_code (3 : Nat) (Option.some Jvm.ClassFile.FieldType.boolean)) ∈ lw_all := lw_g (lw_at lw_m8 211 rfl) rfl
theorem q1968 : (Jvm.Cond.methodLink "Keygrove" (73 : Nat) ({ cls := "Keygrove", name := "there", desc := "(Z)V" } : Jvm.MethodName)) ∈ lw_all := lw_g (lw_at lw_m8 212 rfl) rfl
theorem q1969 : (Jvm.Cond.static ({ cls := "Keygrove", name := "there", desc := "(Z)V" } : Jvm.MethodName)) ∈ lw_all := lw_g (lw_at lw_m8 213 rfl) rfl
theorem q1970 : (Jvm.Cond.code ({ cls := "Keygrove", name := "there", desc := "(Z)V" } : Jvm.MethodName) prog_1_method_2_code (1 : Nat) (Option.none : Option Jvm.ClassFile.FieldType)) ∈ lw_all := lw_g (lw_at lw_m8 214 rfl) rfl
theorem q1971 : (Jvm.Cond.classLink "Keygrove" (1 : Nat) "java/lang/IndexOutOfBoundsException") ∈ lw_all := lw_g (lw_at lw_m8 215 rfl) rfl
theorem q1972 : (Jvm.Cond.methodLink "Keygrove" (3 : Nat) ({ cls := "java/lang/IndexOutOfBoundsException", name := "<init>", desc := "()V" } : Jvm.MethodName)) ∈ lw_all := lw_g (lw_at lw_m8 216 rfl) rfl
theorem q1976 : (Jvm.Cond.methodLink "Keygrove" (130 : Nat) ({ cls := "Keygrove$Book", name := "draw", desc := "()I" } : Jvm.MethodName)) ∈ lw_all := lw_g (lw_at lw_m8 220 rfl) rfl
theorem q1981 : (Jvm.Cond.classLink "Keygrove" (133 : Nat) "Keygrove$Pack") ∈ lw_all := lw_g (lw_at lw_m8 225 rfl) rfl
theorem q1983 : (Jvm.Cond.methodLink "Keygrove" (135 : Nat) ({ cls := "Keygrove$Pack", name := "<init>", desc := "(III)V" } : Jvm.MethodName)) ∈ lw_all := lw_g (lw_at lw_m8 227 rfl) rfl
theorem q1988 : (Jvm.Cond.fieldLinkNest "Keygrove" (225 : Nat) "Keygrove$Pack" "person" "I" "Keygrove") ∈ lw_tbl := lw_at lw_m8 232 rfl
theorem q1991 : (Jvm.Cond.fieldLinkNest "Keygrove" (310 : Nat) "Keygrove$Pack" "first" "I" "Keygrove") ∈ lw_tbl := lw_at lw_m8 235 rfl
theorem q1994 : (Jvm.Cond.fieldLinkNest "Keygrove" (372 : Nat) "Keygrove$Pack" "second" "I" "Keygrove") ∈ lw_tbl := lw_at lw_m8 238 rfl
theorem q1995 : (Jvm.Cond.fieldLinkNest "Keygrove" (235 : Nat) "Keygrove$Pack" "isUsed" "Z" "Keygrove") ∈ lw_tbl := lw_at lw_m8 239 rfl
theorem q1997 : (Jvm.Cond.fieldLinkNest "Keygrove" (315 : Nat) "Keygrove$Pack" "added" "I" "Keygrove") ∈ lw_tbl := lw_at lw_m9 1 rfl
theorem q1998 : (Jvm.Cond.fieldLinkNest "Keygrove" (304 : Nat) "Keygrove$Pack" "isOpen" "Z" "Keygrove") ∈ lw_tbl := lw_at lw_m9 2 rfl
theorem q2012 : (Jvm.Cond.methodLink "Keygrove" (139 : Nat) ({ cls := "Keygrove$Person", name := "notes", desc := "()V" } : Jvm.MethodName)) ∈ lw_all := lw_g (lw_at lw_m9 16 rfl) rfl
theorem q2027 : (Jvm.Cond.instanceMethod ({ cls := "Keygrove", name := "create", desc := "(I)I" } : Jvm.MethodName)) ∈ lw_all := lw_g (lw_at lw_m9 31 rfl) rfl
theorem q2028 : (Jvm.Cond.selects "Keygrove" ({ cls := "Keygrove", name := "create", desc := "(I)I" } : Jvm.MethodName) ({ cls := "Keygrove", name := "create", desc := "(I)I" } : Jvm.MethodName)) ∈ lw_all := lw_g (lw_at lw_m9 32 rfl) rfl
theorem q2029 : (Jvm.Cond.code ({ cls := "Keygrove", name := "create", desc := "(I)I" } : Jvm.MethodName) prog_1_method_19_code (5 : Nat) (Option.some Jvm.ClassFile.FieldType.int)) ∈ lw_all := lw_g (lw_at lw_m9 33 rfl) rfl
theorem q2031 : (Jvm.Cond.methodLink "Keygrove" (142 : Nat) ({ cls := "Keygrove$Tree", name := "<init>", desc := "()V" } : Jvm.MethodName)) ∈ lw_all := lw_g (lw_at lw_m9 35 rfl) rfl
theorem q2037 : (Jvm.Cond.fieldLinkNest "Keygrove" (176 : Nat) "Keygrove$Tree" "leaves" "I" "Keygrove") ∈ lw_tbl := lw_at lw_m9 41 rfl
theorem q2040 : (Jvm.Cond.fieldLinkNest "Keygrove" (143 : Nat) "Keygrove$Tree" "secrets" "[I" "Keygrove") ∈ lw_tbl := lw_at lw_m9 44 rfl
theorem q2042 : (Jvm.Cond.fieldLinkNest "Keygrove" (335 : Nat) "Keygrove$Tree" "late" "[I" "Keygrove") ∈ lw_tbl := lw_at lw_m9 46 rfl
theorem q2045 : (Jvm.Cond.fieldLinkNest "Keygrove" (147 : Nat) "Keygrove$Tree" "persons" "[I" "Keygrove") ∈ lw_tbl := lw_at lw_m9 49 rfl
theorem q2057 : (Jvm.Cond.methodLink "Keygrove" (151 : Nat) ({ cls := "Keygrove$Step", name := "<init>", desc := "(III)V" } : Jvm.MethodName)) ∈ lw_all := lw_g (lw_at lw_m9 61 rfl) rfl
theorem q2064 : (Jvm.Cond.fieldLinkNest "Keygrove" (378 : Nat) "Keygrove$Step" "leaf" "I" "Keygrove") ∈ lw_tbl := lw_at lw_m9 68 rfl
theorem q2066 : (Jvm.Cond.fieldLinkNest "Keygrove" (375 : Nat) "Keygrove$Step" "before" "I" "Keygrove") ∈ lw_tbl := lw_at lw_m9 70 rfl
theorem q2068 : (Jvm.Cond.fieldLinkNest "Keygrove" (161 : Nat) "Keygrove$Step" "secret" "I" "Keygrove") ∈ lw_tbl := lw_at lw_m9 72 rfl
theorem q2070 : (Jvm.Cond.fieldLinkNest "Keygrove" (357 : Nat) "Keygrove$Step" "begins" "Ljava/util/TreeMap;" "Keygrove") ∈ lw_tbl := lw_at lw_m9 74 rfl
theorem q2072 : (Jvm.Cond.fieldLinkNest "Keygrove" (364 : Nat) "Keygrove$Step" "ends" "Ljava/util/TreeMap;" "Keygrove") ∈ lw_tbl := lw_at lw_m9 76 rfl
theorem q2084 : (Jvm.Cond.methodLink "Keygrove" (155 : Nat) ({ cls := "java/util/TreeMap", name := "put", desc := "(Ljava/lang/Object;Ljava/lang/Object;)Ljava/lang/Object;" } : Jvm.MethodName)) ∈ lw_all := lw_g (lw_at lw_m9 88 rfl) rfl
theorem q2164 : (Jvm.Cond.methodLink "Keygrove" (164 : Nat) ({ cls := "Keygrove", name := "follows", desc := "(LKeygrove$Tree;I)V" } : Jvm.MethodName)) ∈ lw_all := lw_g (lw_at lw_m9 168 rfl) rfl
theorem q2165 : (Jvm.Cond.privateMethod ({ cls := "Keygrove", name := "follows", desc := "(LKeygrove$Tree;I)V" } : Jvm.MethodName)) ∈ lw_tbl := lw_at lw_m9 169 rfl
theorem q2166 : (Jvm.Cond.instanceMethod ({ cls := "Keygrove", name := "follows", desc := "(LKeygrove$Tree;I)V" } : Jvm.MethodName)) ∈ lw_all := lw_g (lw_at lw_m9 170 rfl) rfl
theorem q2167 : (Jvm.Cond.code ({ cls := "Keygrove", name := "follows", desc := "(LKeygrove$Tree;I)V" } : Jvm.MethodName) prog_1_method_20_code (7 : Nat) (Option.none : Option Jvm.ClassFile.FieldType)) ∈ lw_all := lw_g (lw_at lw_m9 171 rfl) rfl
theorem q2168 : (Jvm.Cond.methodLink "Keygrove" (168 : Nat) ({ cls := "Keygrove$Person", name := "enters", desc := "(II)V" } : Jvm.MethodName)) ∈ lw_all := lw_g (lw_at lw_m9 172 rfl) rfl
theorem q2191 : (Jvm.Cond.fieldLinkNest "Keygrove" (437 : Nat) "Keygrove$Chain" "next" "I" "Keygrove") ∈ lw_tbl := lw_at lw_m9 195 rfl
theorem q2192 : (Jvm.Cond.fieldLinkNest "Keygrove" (441 : Nat) "Keygrove$Chain" "place" "I" "Keygrove") ∈ lw_tbl := lw_at lw_m9 196 rfl
theorem q2195 : (Jvm.Cond.fieldLinkNest "Keygrove" (454 : Nat) "Keygrove$Chain" "left" "Ljava/util/TreeMap;" "Keygrove") ∈ lw_tbl := lw_at lw_m9 199 rfl
theorem q2324 : (Jvm.Cond.instanceMethod ({ cls := "Keygrove", name := "epoch", desc := "()I" } : Jvm.MethodName)) ∈ lw_all := lw_g (lw_at lw_m10 88 rfl) rfl
theorem q2325 : (Jvm.Cond.selects "Keygrove" ({ cls := "Keygrove", name := "epoch", desc := "()I" } : Jvm.MethodName) ({ cls := "Keygrove", name := "epoch", desc := "()I" } : Jvm.MethodName)) ∈ lw_all := lw_g (lw_at lw_m10 89 rfl) rfl
theorem q2326 : (Jvm.Cond.code ({ cls := "Keygrove", name := "epoch", desc := "()I" } : Jvm.MethodName) prog_1_method_23_code (1 : Nat) (Option.some Jvm.ClassFile.FieldType.int)) ∈ lw_all := lw_g (lw_at lw_m10 90 rfl) rfl
theorem q2327 : (Jvm.Cond.methodLink "Keygrove" (185 : Nat) ({ cls := "Keygrove", name := "isGroup", desc := "()V" } : Jvm.MethodName)) ∈ lw_all := lw_g (lw_at lw_m10 91 rfl) rfl
theorem q2328 : (Jvm.Cond.privateMethod ({ cls := "Keygrove", name := "isGroup", desc := "()V" } : Jvm.MethodName)) ∈ lw_tbl := lw_at lw_m10 92 rfl
theorem q2329 : (Jvm.Cond.instanceMethod ({ cls := "Keygrove", name := "isGroup", desc := "()V" } : Jvm.MethodName)) ∈ lw_all := lw_g (lw_at lw_m10 93 rfl) rfl
theorem q2330 : (Jvm.Cond.code ({ cls := "Keygrove", name := "isGroup", desc := "()V" } : Jvm.MethodName) prog_1_method_22_code (1 : Nat) (Option.none : Option Jvm.ClassFile.FieldType)) ∈ lw_all := lw_g (lw_at lw_m10 94 rfl) rfl
theorem q2331 : (Jvm.Cond.methodLink "Keygrove" (182 : Nat) ({ cls := "Keygrove", name := "can", desc := "(Z)V" } : Jvm.MethodName)) ∈ lw_all := lw_g (lw_at lw_m10 95 rfl) rfl
theorem q2332 : (Jvm.Cond.static ({ cls := "Keygrove", name := "can", desc := "(Z)V" } : Jvm.MethodName)) ∈ lw_all := lw_g (lw_at lw_m10 96 rfl) rfl
theorem q2333 : (Jvm.Cond.code ({ cls := "Keygrove", name := "can", desc := "(Z)V" } : Jvm.MethodName) prog_1_method_4_code (1 : Nat) (Option.none : Option Jvm.ClassFile.FieldType)) ∈ lw_all := lw_g (lw_at lw_m10 97 rfl) rfl
theorem q2334 : (Jvm.Cond.classLink "Keygrove" (10 : Nat) "java/lang/UnsupportedOperationException") ∈ lw_all := lw_g (lw_at lw_m10 98 rfl) rfl
theorem q2343 : (Jvm.Cond.methodLink "Keygrove" (12 : Nat) ({ cls := "java/lang/UnsupportedOperationException", name := "<init>", desc := "()V" } : Jvm.MethodName)) ∈ lw_all := lw_g (lw_at lw_m10 107 rfl) rfl
theorem q2354 : (Jvm.Cond.instanceMethod ({ cls := "Keygrove", name := "epochOf", desc := "(I)I" } : Jvm.MethodName)) ∈ lw_all := lw_g (lw_at lw_m10 118 rfl) rfl
theorem q2355 : (Jvm.Cond.selects "Keygrove" ({ cls := "Keygrove", name := "epochOf", desc := "(I)I" } : Jvm.MethodName) ({ cls := "Keygrove", name := "epochOf", desc := "(I)I" } : Jvm.MethodName)) ∈ lw_all := lw_g (lw_at lw_m10 119 rfl) rfl
theorem q2356 : (Jvm.Cond.code ({ cls := "Keygrove", name := "epochOf", desc := "(I)I" } : Jvm.MethodName) prog_1_method_24_code (3 : Nat) (Option.some Jvm.ClassFile.FieldType.int)) ∈ lw_all := lw_g (lw_at lw_m10 120 rfl) rfl
theorem q2357 : (Jvm.Cond.methodLink "Keygrove" (188 : Nat) ({ cls := "Keygrove", name := "found", desc := "(Z)V" } : Jvm.MethodName)) ∈ lw_all := lw_g (lw_at lw_m10 121 rfl) rfl
theorem q2358 : (Jvm.Cond.static ({ cls := "Keygrove", name := "found", desc := "(Z)V" } : Jvm.MethodName)) ∈ lw_all := lw_g (lw_at lw_m10 122 rfl) rfl
theorem q2359 : (Jvm.Cond.code ({ cls := "Keygrove", name := "found", desc := "(Z)V" } : Jvm.MethodName) prog_1_method_6_code (1 : Nat) (Option.none : Option Jvm.ClassFile.FieldType)) ∈ lw_all := lw_g (lw_at lw_m10 123 rfl) rfl
theorem q2360 : (Jvm.Cond.classLink "Keygrove" (16 : Nat) "java/util/NoSuchElementException") ∈ lw_all := lw_g (lw_at lw_m10 124 rfl) rfl
theorem q2361 : (Jvm.Cond.methodLink "Keygrove" (18 : Nat) ({ cls := "java/util/NoSuchElementException", name := "<init>", desc := "()V" } : Jvm.MethodName)) ∈ lw_all := lw_g (lw_at lw_m10 125 rfl) rfl
theorem q2366 : (Jvm.Cond.instanceMethod ({ cls := "Keygrove", name := "leafOf", desc := "(I)I" } : Jvm.MethodName)) ∈ lw_all := lw_g (lw_at lw_m10 130 rfl) rfl
theorem q2367 : (Jvm.Cond.selects "Keygrove" ({ cls := "Keygrove", name := "leafOf", desc := "(I)I" } : Jvm.MethodName) ({ cls := "Keygrove", name := "leafOf", desc := "(I)I" } : Jvm.MethodName)) ∈ lw_all := lw_g (lw_at lw_m10 131 rfl) rfl
theorem q2368 : (Jvm.Cond.code ({ cls := "Keygrove", name := "leafOf", desc := "(I)I" } : Jvm.MethodName) prog_1_method_25_code (3 : Nat) (Option.some Jvm.ClassFile.FieldType.int)) ∈ lw_all := lw_g (lw_at lw_m10 132 rfl) rfl
theorem q2373 : (Jvm.Cond.instanceMethod ({ cls := "Keygrove", name := "isMember", desc := "(II)Z" } : Jvm.MethodName)) ∈ lw_all := lw_g (lw_at lw_m10 137 rfl) rfl
theorem q2374 : (Jvm.Cond.selects "Keygrove" ({ cls := "Keygrove", name := "isMember", desc := "(II)Z" } : Jvm.MethodName) ({ cls := "Keygrove", name := "isMember", desc := "(II)Z" } : Jvm.MethodName)) ∈ lw_all := lw_g (lw_at lw_m10 138 rfl) rfl
theorem q2375 : (Jvm.Cond.code ({ cls := "Keygrove", name := "isMember", desc := "(II)Z" } : Jvm.MethodName) prog_1_method_26_code (4 : Nat) (Option.some Jvm.ClassFile.FieldType.boolean)) ∈ lw_all := lw_g (lw_at lw_m10 139 rfl) rfl
theorem q2376 : (Jvm.Cond.methodLink "Keygrove" (194 : Nat) ({ cls := "Keygrove", name := "hasEpoch", desc := "(I)V" } : Jvm.MethodName)) ∈ lw_all := lw_g (lw_at lw_m10 140 rfl) rfl
theorem q2377 : (Jvm.Cond.privateMethod ({ cls := "Keygrove", name := "hasEpoch", desc := "(I)V" } : Jvm.MethodName)) ∈ lw_tbl := lw_at lw_m10 141 rfl
theorem q2378 : (Jvm.Cond.instanceMethod ({ cls := "Keygrove", name := "hasEpoch", desc := "(I)V" } : Jvm.MethodName)) ∈ lw_all := lw_g (lw_at lw_m10 142 rfl) rfl
theorem q2379 : (Jvm.Cond.code ({ cls := "Keygrove", name := "hasEpoch", desc := "(I)V" } : Jvm.MethodName) prog_1_method_14_code (2 : Nat) (Option.none : Option Jvm.ClassFile.FieldType)) ∈ lw_all := lw_g (lw_at lw_m10 143 rfl) rfl
theorem q2384 : (Jvm.Cond.instanceMethod ({ cls := "Keygrove", name := "add", desc := "(II)I" } : Jvm.MethodName)) ∈ lw_all := lw_g (lw_at lw_m10 148 rfl) rfl
theorem q2385 : (Jvm.Cond.selects "Keygrove" ({ cls := "Keygrove", name := "add", desc := "(II)I" } : Jvm.MethodName) ({ cls := "Keygrove", name := "add", desc := "(II)I" } : Jvm.MethodName)) ∈ lw_all := lw_g (lw_at lw_m10 149 rfl) rfl
theorem q2386 : (Jvm.Cond.code ({ cls := "Keygrove", name := "add", desc := "(II)I" } : Jvm.MethodName) prog_1_method_30_code (5 : Nat) (Option.some Jvm.ClassFile.FieldType.int)) ∈ lw_all := lw_g (lw_at lw_m10 150 rfl) rfl
theorem q2387 : (Jvm.Cond.methodLink "Keygrove" (239 : Nat) ({ cls := "Keygrove", name := "isToBeAdded", desc := "(I)Z" } : Jvm.MethodName)) ∈ lw_all := lw_g (lw_at lw_m10 151 rfl) rfl
theorem q2388 : (Jvm.Cond.privateMethod ({ cls := "Keygrove", name := "isToBeAdded", desc := "(I)Z" } : Jvm.MethodName)) ∈ lw_tbl := lw_at lw_m10 152 rfl
theorem q2389 : (Jvm.Cond.instanceMethod ({ cls := "Keygrove", name := "isToBeAdded", desc := "(I)Z" } : Jvm.MethodName)) ∈ lw_all := lw_g (lw_at lw_m10 153 rfl) rfl
theorem q2390 : (Jvm.Cond.code ({ cls := "Keygrove", name := "isToBeAdded", desc := "(I)Z" } : Jvm.MethodName) prog_1_method_27_code (5 : Nat) (Option.some Jvm.ClassFile.FieldType.boolean)) ∈ lw_all := lw_g (lw_at lw_m10 154 rfl) rfl
theorem q2391 : (Jvm.Cond.classLink "Keygrove" (217 : Nat) "Keygrove$Proposal") ∈ lw_all := lw_g (lw_at lw_m10 155 rfl) rfl
theorem q2392 : (Jvm.Cond.classLink "Keygrove" (219 : Nat) "Keygrove$Add") ∈ lw_all := lw_g (lw_at lw_m10 156 rfl) rfl
theorem q2394 : (Jvm.Cond.methodLink "Keygrove" (243 : Nat) ({ cls := "Keygrove$Add", name := "<init>", desc := "(LKeygrove$Pack;)V" } : Jvm.MethodName)) ∈ lw_all := lw_g (lw_at lw_m10 158 rfl) rfl
theorem q2402 : (Jvm.Cond.fieldLinkNest "Keygrove" (221 : Nat) "Keygrove$Add" "pack" "LKeygrove$Pack;" "Keygrove") ∈ lw_tbl := lw_at lw_m10 166 rfl
theorem q2406 : (Jvm.Cond.methodLink "Keygrove" (246 : Nat) ({ cls := "Keygrove", name := "proposes", desc := "(LKeygrove$Proposal;)I" } : Jvm.MethodName)) ∈ lw_all := lw_g (lw_at lw_m10 170 rfl) rfl
theorem q2407 : (Jvm.Cond.privateMethod ({ cls := "Keygrove", name := "proposes", desc := "(LKeygrove$Proposal;)I" } : Jvm.MethodName)) ∈ lw_tbl := lw_at lw_m10 171 rfl
theorem q2408 : (Jvm.Cond.instanceMethod ({ cls := "Keygrove", name := "proposes", desc := "(LKeygrove$Proposal;)I" } : Jvm.MethodName)) ∈ lw_all := lw_g (lw_at lw_m10 172 rfl) rfl
theorem q2409 : (Jvm.Cond.code ({ cls := "Keygrove", name := "proposes", desc := "(LKeygrove$Proposal;)I" } : Jvm.MethodName) prog_1_method_29_code (2 : Nat) (Option.some Jvm.ClassFile.FieldType.int)) ∈ lw_all := lw_g (lw_at lw_m10 173 rfl) rfl
theorem q2414 : (Jvm.Cond.instanceMethod ({ cls := "Keygrove", name := "remove", desc := "(II)I" } : Jvm.MethodName)) ∈ lw_all := lw_g (lw_at lw_m10 178 rfl) rfl
theorem q2415 : (Jvm.Cond.selects "Keygrove" ({ cls := "Keygrove", name := "remove", desc := "(II)I" } : Jvm.MethodName) ({ cls := "Keygrove", name := "remove", desc := "(II)I" } : Jvm.MethodName)) ∈ lw_all := lw_g (lw_at lw_m10 179 rfl) rfl
theorem q2416 : (Jvm.Cond.code ({ cls := "Keygrove", name := "remove", desc := "(II)I" } : Jvm.MethodName) prog_1_method_31_code (4 : Nat) (Option.some Jvm.ClassFile.FieldType.int)) ∈ lw_all := lw_g (lw_at lw_m10 180 rfl) rfl
theorem q2417 : (Jvm.Cond.methodLink "Keygrove" (250 : Nat) ({ cls := "Keygrove", name := "isToBeRemoved", desc := "(I)Z" } : Jvm.MethodName)) ∈ lw_all := lw_g (lw_at lw_m10 181 rfl) rfl
theorem q2418 : (Jvm.Cond.privateMethod ({ cls := "Keygrove", name := "isToBeRemoved", desc := "(I)Z" } : Jvm.MethodName)) ∈ lw_tbl := lw_at lw_m10 182 rfl
theorem q2419 : (Jvm.Cond.instanceMethod ({ cls := "Keygrove", name := "isToBeRemoved", desc := "(I)Z" } : Jvm.MethodName)) ∈ lw_all := lw_g (lw_at lw_m10 183 rfl) rfl
theorem q2420 : (Jvm.Cond.code ({ cls := "Keygrove", name := "isToBeRemoved", desc := "(I)Z" } : Jvm.MethodName) prog_1_method_28_code (5 : Nat) (Option.some Jvm.ClassFile.FieldType.boolean)) ∈ lw_all := lw_g (lw_at lw_m10 184 rfl) rfl
theorem q2421 : (Jvm.Cond.classLink "Keygrove" (228 : Nat) "Keygrove$Remove") ∈ lw_all := lw_g (lw_at lw_m10 185 rfl) rfl
theorem q2423 : (Jvm.Cond.methodLink "Keygrove" (253 : Nat) ({ cls := "Keygrove$Remove", name := "<init>", desc := "(I)V" } : Jvm.MethodName)) ∈ lw_all := lw_g (lw_at lw_m10 187 rfl) rfl
theorem q2428 : (Jvm.Cond.fieldLinkNest "Keygrove" (230 : Nat) "Keygrove$Remove" "leaf" "I" "Keygrove") ∈ lw_tbl := lw_at lw_m10 192 rfl
theorem q2436 : (Jvm.Cond.instanceMethod ({ cls := "Keygrove", name := "renew", desc := "(I)I" } : Jvm.MethodName)) ∈ lw_all := lw_g (lw_at lw_m10 200 rfl) rfl
theorem q2437 : (Jvm.Cond.selects "Keygrove" ({ cls := "Keygrove", name := "renew", desc := "(I)I" } : Jvm.MethodName) ({ cls := "Keygrove", name := "renew", desc := "(I)I" } : Jvm.MethodName)) ∈ lw_all := lw_g (lw_at lw_m10 201 rfl) rfl
theorem q2438 : (Jvm.Cond.code ({ cls := "Keygrove", name := "renew", desc := "(I)I" } : Jvm.MethodName) prog_1_method_32_code (3 : Nat) (Option.some Jvm.ClassFile.FieldType.int)) ∈ lw_all := lw_g (lw_at lw_m10 202 rfl) rfl
theorem q2439 : (Jvm.Cond.classLink "Keygrove" (258 : Nat) "Keygrove$Renew") ∈ lw_all := lw_g (lw_at lw_m10 203 rfl) rfl
theorem q2441 : (Jvm.Cond.methodLink "Keygrove" (260 : Nat) ({ cls := "Keygrove$Renew", name := "<init>", desc := "(II)V" } : Jvm.MethodName)) ∈ lw_all := lw_g (lw_at lw_m10 205 rfl) rfl
theorem q2446 : (Jvm.Cond.fieldLinkNest "Keygrove" (294 : Nat) "Keygrove$Renew" "leaf" "I" "Keygrove") ∈ lw_tbl := lw_at lw_m10 210 rfl
theorem q2448 : (Jvm.Cond.fieldLinkNest "Keygrove" (295 : Nat) "Keygrove$Renew" "secret" "I" "Keygrove") ∈ lw_tbl := lw_at lw_m10 212 rfl
theorem q2458 : (Jvm.Cond.instanceMethod ({ cls := "Keygrove", name := "proposal", desc := "(I)C" } : Jvm.MethodName)) ∈ lw_all := lw_g (lw_at lw_m10 222 rfl) rfl
theorem q2459 : (Jvm.Cond.selects "Keygrove" ({ cls := "Keygrove", name := "proposal", desc := "(I)C" } : Jvm.MethodName) ({ cls := "Keygrove", name := "proposal", desc := "(I)C" } : Jvm.MethodName)) ∈ lw_all := lw_g (lw_at lw_m10 223 rfl) rfl
theorem q2460 : (Jvm.Cond.code ({ cls := "Keygrove", name := "proposal", desc := "(I)C" } : Jvm.MethodName) prog_1_method_34_code (2 : Nat) (Option.some Jvm.ClassFile.FieldType.char)) ∈ lw_all := lw_g (lw_at lw_m10 224 rfl) rfl
theorem q2461 : (Jvm.Cond.methodLink "Keygrove" (262 : Nat) ({ cls := "Keygrove$Proposal", name := "kind", desc := "()C" } : Jvm.MethodName)) ∈ lw_all := lw_g (lw_at lw_m10 225 rfl) rfl
theorem q2477 : (Jvm.Cond.instanceMethod ({ cls := "Keygrove", name := "commit", desc := "(I)I" } : Jvm.MethodName)) ∈ lw_all := lw_g (lw_at lw_m11 1 rfl) rfl
theorem q2478 : (Jvm.Cond.selects "Keygrove" ({ cls := "Keygrove", name := "commit", desc := "(I)I" } : Jvm.MethodName) ({ cls := "Keygrove", name := "commit", desc := "(I)I" } : Jvm.MethodName)) ∈ lw_all := lw_g (lw_at lw_m11 2 rfl) rfl
theorem q2479 : (Jvm.Cond.code ({ cls := "Keygrove", name := "commit", desc := "(I)I" } : Jvm.MethodName) prog_1_method_35_code (7 : Nat) (Option.some Jvm.ClassFile.FieldType.int)) ∈ lw_all := lw_g (lw_at lw_m11 3 rfl) rfl
theorem q2480 : (Jvm.Cond.methodLink "Keygrove" (266 : Nat) ({ cls := "Keygrove$Tree", name := "copy", desc := "()LKeygrove$Tree;" } : Jvm.MethodName)) ∈ lw_all := lw_g (lw_at lw_m11 4 rfl) rfl
theorem q2486 : (Jvm.Cond.methodLink "Keygrove" (269 : Nat) ({ cls := "Keygrove", name := "renews", desc := "(LKeygrove$Tree;I)V" } : Jvm.MethodName)) ∈ lw_all := lw_g (lw_at lw_m11 10 rfl) rfl
theorem q2487 : (Jvm.Cond.privateMethod ({ cls := "Keygrove", name := "renews", desc := "(LKeygrove$Tree;I)V" } : Jvm.MethodName)) ∈ lw_tbl := lw_at lw_m11 11 rfl
theorem q2488 : (Jvm.Cond.instanceMethod ({ cls := "Keygrove", name := "renews", desc := "(LKeygrove$Tree;I)V" } : Jvm.MethodName)) ∈ lw_all := lw_g (lw_at lw_m11 12 rfl) rfl
theorem q2489 : (Jvm.Cond.code ({ cls := "Keygrove", name := "renews", desc := "(LKeygrove$Tree;I)V" } : Jvm.MethodName) prog_1_method_36_code (6 : Nat) (Option.none : Option Jvm.ClassFile.FieldType)) ∈ lw_all := lw_g (lw_at lw_m11 13 rfl) rfl
theorem q2490 : (Jvm.Cond.methodLink "Keygrove" (296 : Nat) ({ cls := "Keygrove$Tree", name := "blanksWay", desc := "(I)V" } : Jvm.MethodName)) ∈ lw_all := lw_g (lw_at lw_m11 14 rfl) rfl
theorem q2525 : (Jvm.Cond.methodLink "Keygrove" (272 : Nat) ({ cls := "Keygrove", name := "removes", desc := "(LKeygrove$Tree;)V" } : Jvm.MethodName)) ∈ lw_all := lw_g (lw_at lw_m11 49 rfl) rfl
theorem q2526 : (Jvm.Cond.privateMethod ({ cls := "Keygrove", name := "removes", desc := "(LKeygrove$Tree;)V" } : Jvm.MethodName)) ∈ lw_tbl := lw_at lw_m11 50 rfl
theorem q2527 : (Jvm.Cond.instanceMethod ({ cls := "Keygrove", name := "removes", desc := "(LKeygrove$Tree;)V" } : Jvm.MethodName)) ∈ lw_all := lw_g (lw_at lw_m11 51 rfl) rfl
theorem q2528 : (Jvm.Cond.code ({ cls := "Keygrove", name := "removes", desc := "(LKeygrove$Tree;)V" } : Jvm.MethodName) prog_1_method_37_code (5 : Nat) (Option.none : Option Jvm.ClassFile.FieldType)) ∈ lw_all := lw_g (lw_at lw_m11 52 rfl) rfl
theorem q2529 : (Jvm.Cond.methodLink "Keygrove" (299 : Nat) ({ cls := "Keygrove", name := "closes", desc := "(I)V" } : Jvm.MethodName)) ∈ lw_all := lw_g (lw_at lw_m11 53 rfl) rfl
theorem q2530 : (Jvm.Cond.privateMethod ({ cls := "Keygrove", name := "closes", desc := "(I)V" } : Jvm.MethodName)) ∈ lw_tbl := lw_at lw_m11 54 rfl
theorem q2531 : (Jvm.Cond.instanceMethod ({ cls := "Keygrove", name := "closes", desc := "(I)V" } : Jvm.MethodName)) ∈ lw_all := lw_g (lw_at lw_m11 55 rfl) rfl
theorem q2532 : (Jvm.Cond.code ({ cls := "Keygrove", name := "closes", desc := "(I)V" } : Jvm.MethodName) prog_1_method_38_code (5 : Nat) (Option.none : Option Jvm.ClassFile.FieldType)) ∈ lw_all := lw_g (lw_at lw_m11 56 rfl) rfl
theorem q2533 : (Jvm.Cond.interfaceEntry "Keygrove" (307 : Nat)) ∈ lw_tbl := lw_at lw_m11 57 rfl
theorem q2534 : (Jvm.Cond.methodLink "Keygrove" (307 : Nat) ({ cls := "java/util/Iterator", name := "remove", desc := "()V" } : Jvm.MethodName)) ∈ lw_all := lw_g (lw_at lw_m11 58 rfl) rfl
theorem q2535 : (Jvm.Cond.methodLink "Keygrove" (302 : Nat) ({ cls := "Keygrove$Tree", name := "removes", desc := "(I)V" } : Jvm.MethodName)) ∈ lw_all := lw_g (lw_at lw_m11 59 rfl) rfl
theorem q2540 : (Jvm.Cond.methodLink "Keygrove" (276 : Nat) ({ cls := "Keygrove$Tree", name := "halves", desc := "()V" } : Jvm.MethodName)) ∈ lw_all := lw_g (lw_at lw_m11 64 rfl) rfl
theorem q2545 : (Jvm.Cond.methodLink "Keygrove" (279 : Nat) ({ cls := "Keygrove", name := "adds", desc := "(LKeygrove$Tree;Ljava/util/List;)I" } : Jvm.MethodName)) ∈ lw_all := lw_g (lw_at lw_m11 69 rfl) rfl
theorem q2546 : (Jvm.Cond.privateMethod ({ cls := "Keygrove", name := "adds", desc := "(LKeygrove$Tree;Ljava/util/List;)I" } : Jvm.MethodName)) ∈ lw_tbl := lw_at lw_m11 70 rfl
theorem q2547 : (Jvm.Cond.instanceMethod ({ cls := "Keygrove", name := "adds", desc := "(LKeygrove$Tree;Ljava/util/List;)I" } : Jvm.MethodName)) ∈ lw_all := lw_g (lw_at lw_m11 71 rfl) rfl
theorem q2548 : (Jvm.Cond.code ({ cls := "Keygrove", name := "adds", desc := "(LKeygrove$Tree;Ljava/util/List;)I" } : Jvm.MethodName) prog_1_method_39_code (7 : Nat) (Option.some Jvm.ClassFile.FieldType.int)) ∈ lw_all := lw_g (lw_at lw_m11 72 rfl) rfl
theorem q2549 : (Jvm.Cond.methodLink "Keygrove" (313 : Nat) ({ cls := "Keygrove$Tree", name := "adds", desc := "(II)I" } : Jvm.MethodName)) ∈ lw_all := lw_g (lw_at lw_m11 73 rfl) rfl
theorem q2554 : (Jvm.Cond.methodLink "Keygrove" (283 : Nat) ({ cls := "Keygrove", name := "lays", desc := "(LKeygrove$Person;LKeygrove$Tree;I)LKeygrove$Step;" } : Jvm.MethodName)) ∈ lw_all := lw_g (lw_at lw_m11 78 rfl) rfl
theorem q2555 : (Jvm.Cond.privateMethod ({ cls := "Keygrove", name := "lays", desc := "(LKeygrove$Person;LKeygrove$Tree;I)LKeygrove$Step;" } : Jvm.MethodName)) ∈ lw_tbl := lw_at lw_m11 79 rfl
theorem q2556 : (Jvm.Cond.instanceMethod ({ cls := "Keygrove", name := "lays", desc := "(LKeygrove$Person;LKeygrove$Tree;I)LKeygrove$Step;" } : Jvm.MethodName)) ∈ lw_all := lw_g (lw_at lw_m11 80 rfl) rfl
theorem q2557 : (Jvm.Cond.code ({ cls := "Keygrove", name := "lays", desc := "(LKeygrove$Person;LKeygrove$Tree;I)LKeygrove$Step;" } : Jvm.MethodName) prog_1_method_40_code (16 : Nat) (Option.some (Jvm.ClassFile.FieldType.object "Keygrove$Step"))) ∈ lw_all := lw_g (lw_at lw_m11 81 rfl) rfl
theorem q2558 : (Jvm.Cond.classLink "Keygrove" (156 : Nat) "java/util/TreeMap") ∈ lw_all := lw_g (lw_at lw_m11 82 rfl) rfl
theorem q2559 : (Jvm.Cond.methodLink "Keygrove" (318 : Nat) ({ cls := "java/util/TreeMap", name := "<init>", desc := "()V" } : Jvm.MethodName)) ∈ lw_all := lw_g (lw_at lw_m11 83 rfl) rfl
theorem q2560 : (Jvm.Cond.methodLink "Keygrove" (319 : Nat) ({ cls := "Keygrove$Tree", name := "way", desc := "(I)Ljava/util/List;" } : Jvm.MethodName)) ∈ lw_all := lw_g (lw_at lw_m11 84 rfl) rfl
theorem q2561 : (Jvm.Cond.methodLink "Keygrove" (326 : Nat) ({ cls := "Keygrove$Tree", name := "left", desc := "(I)I" } : Jvm.MethodName)) ∈ lw_all := lw_g (lw_at lw_m11 85 rfl) rfl
theorem q2564 : (Jvm.Cond.methodLink "Keygrove" (329 : Nat) ({ cls := "Keygrove$Tree", name := "right", desc := "(I)I" } : Jvm.MethodName)) ∈ lw_all := lw_g (lw_at lw_m11 88 rfl) rfl
theorem q2567 : (Jvm.Cond.methodLink "Keygrove" (332 : Nat) ({ cls := "Keygrove$Tree", name := "cover", desc := "(I)Ljava/util/List;" } : Jvm.MethodName)) ∈ lw_all := lw_g (lw_at lw_m11 91 rfl) rfl
theorem q2578 : (Jvm.Cond.methodLink "Keygrove" (341 : Nat) ({ cls := "Keygrove$Tree", name := "level", desc := "(I)I" } : Jvm.MethodName)) ∈ lw_all := lw_g (lw_at lw_m11 102 rfl) rfl
theorem q2579 : (Jvm.Cond.methodLink "Keygrove" (348 : Nat) ({ cls := "Keygrove", name := "boxes", desc := "(II)V" } : Jvm.MethodName)) ∈ lw_all := lw_g (lw_at lw_m11 103 rfl) rfl
theorem q2580 : (Jvm.Cond.privateMethod ({ cls := "Keygrove", name := "boxes", desc := "(II)V" } : Jvm.MethodName)) ∈ lw_tbl := lw_at lw_m11 104 rfl
theorem q2581 : (Jvm.Cond.instanceMethod ({ cls := "Keygrove", name := "boxes", desc := "(II)V" } : Jvm.MethodName)) ∈ lw_all := lw_g (lw_at lw_m11 105 rfl) rfl
theorem q2582 : (Jvm.Cond.code ({ cls := "Keygrove", name := "boxes", desc := "(II)V" } : Jvm.MethodName) prog_1_method_41_code (3 : Nat) (Option.none : Option Jvm.ClassFile.FieldType)) ∈ lw_all := lw_g (lw_at lw_m11 106 rfl) rfl
theorem q2583 : (Jvm.Cond.methodLink "Keygrove" (367 : Nat) ({ cls := "Keygrove$Book", name := "box", desc := "(II)V" } : Jvm.MethodName)) ∈ lw_all := lw_g (lw_at lw_m11 107 rfl) rfl
theorem q2587 : (Jvm.Cond.methodLink "Keygrove" (354 : Nat) ({ cls := "Keygrove$Book", name := "from", desc := "(III)I" } : Jvm.MethodName)) ∈ lw_all := lw_g (lw_at lw_m11 111 rfl) rfl
theorem q2591 : (Jvm.Cond.methodLink "Keygrove" (360 : Nat) ({ cls := "java/util/TreeMap", name := "putAll", desc := "(Ljava/util/Map;)V" } : Jvm.MethodName)) ∈ lw_all := lw_g (lw_at lw_m11 115 rfl) rfl
theorem q2734 : (Jvm.Cond.methodLink "Keygrove" (287 : Nat) ({ cls := "Keygrove", name := "welcomes", desc := "(LKeygrove$Tree;LKeygrove$Step;Ljava/util/List;)V" } : Jvm.MethodName)) ∈ lw_all := lw_g (lw_at lw_m12 18 rfl) rfl
theorem q2735 : (Jvm.Cond.privateMethod ({ cls := "Keygrove", name := "welcomes", desc := "(LKeygrove$Tree;LKeygrove$Step;Ljava/util/List;)V" } : Jvm.MethodName)) ∈ lw_tbl := lw_at lw_m12 19 rfl
theorem q2736 : (Jvm.Cond.instanceMethod ({ cls := "Keygrove", name := "welcomes", desc := "(LKeygrove$Tree;LKeygrove$Step;Ljava/util/List;)V" } : Jvm.MethodName)) ∈ lw_all := lw_g (lw_at lw_m12 20 rfl) rfl
theorem q2737 : (Jvm.Cond.code ({ cls := "Keygrove", name := "welcomes", desc := "(LKeygrove$Tree;LKeygrove$Step;Ljava/util/List;)V" } : Jvm.MethodName) prog_1_method_42_code (7 : Nat) (Option.none : Option Jvm.ClassFile.FieldType)) ∈ lw_all := lw_g (lw_at lw_m12 21 rfl) rfl
theorem q2738 : (Jvm.Cond.methodLink "Keygrove" (379 : Nat) ({ cls := "Keygrove", name := "meeting", desc := "(LKeygrove$Tree;II)I" } : Jvm.MethodName)) ∈ lw_all := lw_g (lw_at lw_m12 22 rfl) rfl
theorem q2739 : (Jvm.Cond.static ({ cls := "Keygrove", name := "meeting", desc := "(LKeygrove$Tree;II)I" } : Jvm.MethodName)) ∈ lw_all := lw_g (lw_at lw_m12 23 rfl) rfl
theorem q2740 : (Jvm.Cond.code ({ cls := "Keygrove", name := "meeting", desc := "(LKeygrove$Tree;II)I" } : Jvm.MethodName) prog_1_method_43_code (6 : Nat) (Option.some Jvm.ClassFile.FieldType.int)) ∈ lw_all := lw_g (lw_at lw_m12 24 rfl) rfl
theorem q2741 : (Jvm.Cond.interfaceEntry "Keygrove" (291 : Nat)) ∈ lw_tbl := lw_at lw_m12 25 rfl
theorem q2742 : (Jvm.Cond.methodLink "Keygrove" (291 : Nat) ({ cls := "java/util/List", name := "clear", desc := "()V" } : Jvm.MethodName)) ∈ lw_all := lw_g (lw_at lw_m12 26 rfl) rfl
theorem q2754 : (Jvm.Cond.instanceMethod ({ cls := "Keygrove", name := "goOn", desc := "(I)C" } : Jvm.MethodName)) ∈ lw_all := lw_g (lw_at lw_m12 38 rfl) rfl
theorem q2755 : (Jvm.Cond.selects "Keygrove" ({ cls := "Keygrove", name := "goOn", desc := "(I)C" } : Jvm.MethodName) ({ cls := "Keygrove", name := "goOn", desc := "(I)C" } : Jvm.MethodName)) ∈ lw_all := lw_g (lw_at lw_m12 39 rfl) rfl
theorem q2756 : (Jvm.Cond.code ({ cls := "Keygrove", name := "goOn", desc := "(I)C" } : Jvm.MethodName) prog_1_method_45_code (12 : Nat) (Option.some Jvm.ClassFile.FieldType.char)) ∈ lw_all := lw_g (lw_at lw_m12 40 rfl) rfl
theorem q2757 : (Jvm.Cond.methodLink "Keygrove" (389 : Nat) ({ cls := "Keygrove$Person", name := "leaves", desc := "()V" } : Jvm.MethodName)) ∈ lw_all := lw_g (lw_at lw_m12 41 rfl) rfl
theorem q2761 : (Jvm.Cond.methodLink "Keygrove" (391 : Nat) ({ cls := "java/util/TreeMap", name := "values", desc := "()Ljava/util/Collection;" } : Jvm.MethodName)) ∈ lw_all := lw_g (lw_at lw_m12 45 rfl) rfl
theorem q2762 : (Jvm.Cond.interfaceEntry "Keygrove" (395 : Nat)) ∈ lw_tbl := lw_at lw_m12 46 rfl
theorem q2763 : (Jvm.Cond.methodLink "Keygrove" (395 : Nat) ({ cls := "java/util/Collection", name := "iterator", desc := "()Ljava/util/Iterator;" } : Jvm.MethodName)) ∈ lw_all := lw_g (lw_at lw_m12 47 rfl) rfl
theorem q2764 : (Jvm.Cond.methodLink "Keygrove" (401 : Nat) ({ cls := "Keygrove$Book", name := "opened", desc := "(III)I" } : Jvm.MethodName)) ∈ lw_all := lw_g (lw_at lw_m12 48 rfl) rfl
theorem q2768 : (Jvm.Cond.methodLink "Keygrove" (404 : Nat) ({ cls := "Keygrove", name := "climbs", desc := "(LKeygrove$Person;LKeygrove$Tree;III)I" } : Jvm.MethodName)) ∈ lw_all := lw_g (lw_at lw_m12 52 rfl) rfl
theorem q2769 : (Jvm.Cond.privateMethod ({ cls := "Keygrove", name := "climbs", desc := "(LKeygrove$Person;LKeygrove$Tree;III)I" } : Jvm.MethodName)) ∈ lw_tbl := lw_at lw_m12 53 rfl
theorem q2770 : (Jvm.Cond.instanceMethod ({ cls := "Keygrove", name := "climbs", desc := "(LKeygrove$Person;LKeygrove$Tree;III)I" } : Jvm.MethodName)) ∈ lw_all := lw_g (lw_at lw_m12 54 rfl) rfl
theorem q2771 : (Jvm.Cond.code ({ cls := "Keygrove", name := "climbs", desc := "(LKeygrove$Person;LKeygrove$Tree;III)I" } : Jvm.MethodName) prog_1_method_44_code (11 : Nat) (Option.some Jvm.ClassFile.FieldType.int)) ∈ lw_all := lw_g (lw_at lw_m12 55 rfl) rfl
theorem q2776 : (Jvm.Cond.instanceMethod ({ cls := "Keygrove", name := "join", desc := "(I)I" } : Jvm.MethodName)) ∈ lw_all := lw_g (lw_at lw_m12 60 rfl) rfl
theorem q2777 : (Jvm.Cond.selects "Keygrove" ({ cls := "Keygrove", name := "join", desc := "(I)I" } : Jvm.MethodName) ({ cls := "Keygrove", name := "join", desc := "(I)I" } : Jvm.MethodName)) ∈ lw_all := lw_g (lw_at lw_m12 61 rfl) rfl
theorem q2778 : (Jvm.Cond.code ({ cls := "Keygrove", name := "join", desc := "(I)I" } : Jvm.MethodName) prog_1_method_47_code (10 : Nat) (Option.some Jvm.ClassFile.FieldType.int)) ∈ lw_all := lw_g (lw_at lw_m12 62 rfl) rfl
theorem q2779 : (Jvm.Cond.methodLink "Keygrove" (408 : Nat) ({ cls := "Keygrove", name := "openOf", desc := "(LKeygrove$Person;)LKeygrove$Pack;" } : Jvm.MethodName)) ∈ lw_all := lw_g (lw_at lw_m12 63 rfl) rfl
theorem q2780 : (Jvm.Cond.privateMethod ({ cls := "Keygrove", name := "openOf", desc := "(LKeygrove$Person;)LKeygrove$Pack;" } : Jvm.MethodName)) ∈ lw_tbl := lw_at lw_m12 64 rfl
theorem q2781 : (Jvm.Cond.instanceMethod ({ cls := "Keygrove", name := "openOf", desc := "(LKeygrove$Person;)LKeygrove$Pack;" } : Jvm.MethodName)) ∈ lw_all := lw_g (lw_at lw_m12 65 rfl) rfl
theorem q2782 : (Jvm.Cond.code ({ cls := "Keygrove", name := "openOf", desc := "(LKeygrove$Person;)LKeygrove$Pack;" } : Jvm.MethodName) prog_1_method_46_code (4 : Nat) (Option.some (Jvm.ClassFile.FieldType.object "Keygrove$Pack"))) ∈ lw_all := lw_g (lw_at lw_m12 66 rfl) rfl
theorem q2783 : (Jvm.Cond.interfaceEntry "Keygrove" (412 : Nat)) ∈ lw_tbl := lw_at lw_m12 67 rfl
theorem q2784 : (Jvm.Cond.methodLink "Keygrove" (412 : Nat) ({ cls := "java/util/List", name := "remove", desc := "(Ljava/lang/Object;)Z" } : Jvm.MethodName)) ∈ lw_all := lw_g (lw_at lw_m12 68 rfl) rfl
theorem q2797 : (Jvm.Cond.instanceMethod ({ cls := "Keygrove", name := "leaves", desc := "()I" } : Jvm.MethodName)) ∈ lw_all := lw_g (lw_at lw_m12 81 rfl) rfl
theorem q2798 : (Jvm.Cond.selects "Keygrove" ({ cls := "Keygrove", name := "leaves", desc := "()I" } : Jvm.MethodName) ({ cls := "Keygrove", name := "leaves", desc := "()I" } : Jvm.MethodName)) ∈ lw_all := lw_g (lw_at lw_m12 82 rfl) rfl
theorem q2799 : (Jvm.Cond.code ({ cls := "Keygrove", name := "leaves", desc := "()I" } : Jvm.MethodName) prog_1_method_48_code (1 : Nat) (Option.some Jvm.ClassFile.FieldType.int)) ∈ lw_all := lw_g (lw_at lw_m12 83 rfl) rfl
theorem q2804 : (Jvm.Cond.instanceMethod ({ cls := "Keygrove", name := "isBlank", desc := "(I)Z" } : Jvm.MethodName)) ∈ lw_all := lw_g (lw_at lw_m12 88 rfl) rfl
theorem q2805 : (Jvm.Cond.selects "Keygrove" ({ cls := "Keygrove", name := "isBlank", desc := "(I)Z" } : Jvm.MethodName) ({ cls := "Keygrove", name := "isBlank", desc := "(I)Z" } : Jvm.MethodName)) ∈ lw_all := lw_g (lw_at lw_m12 89 rfl) rfl
theorem q2806 : (Jvm.Cond.code ({ cls := "Keygrove", name := "isBlank", desc := "(I)Z" } : Jvm.MethodName) prog_1_method_49_code (2 : Nat) (Option.some Jvm.ClassFile.FieldType.boolean)) ∈ lw_all := lw_g (lw_at lw_m12 90 rfl) rfl
theorem q2807 : (Jvm.Cond.methodLink "Keygrove" (414 : Nat) ({ cls := "Keygrove", name := "hasNode", desc := "(I)V" } : Jvm.MethodName)) ∈ lw_all := lw_g (lw_at lw_m12 91 rfl) rfl
theorem q2808 : (Jvm.Cond.privateMethod ({ cls := "Keygrove", name := "hasNode", desc := "(I)V" } : Jvm.MethodName)) ∈ lw_tbl := lw_at lw_m12 92 rfl
theorem q2809 : (Jvm.Cond.instanceMethod ({ cls := "Keygrove", name := "hasNode", desc := "(I)V" } : Jvm.MethodName)) ∈ lw_all := lw_g (lw_at lw_m12 93 rfl) rfl
theorem q2810 : (Jvm.Cond.code ({ cls := "Keygrove", name := "hasNode", desc := "(I)V" } : Jvm.MethodName) prog_1_method_15_code (2 : Nat) (Option.none : Option Jvm.ClassFile.FieldType)) ∈ lw_all := lw_g (lw_at lw_m12 94 rfl) rfl
theorem q2815 : (Jvm.Cond.instanceMethod ({ cls := "Keygrove", name := "late", desc := "(I)I" } : Jvm.MethodName)) ∈ lw_all := lw_g (lw_at lw_m12 99 rfl) rfl
theorem q2816 : (Jvm.Cond.selects "Keygrove" ({ cls := "Keygrove", name := "late", desc := "(I)I" } : Jvm.MethodName) ({ cls := "Keygrove", name := "late", desc := "(I)I" } : Jvm.MethodName)) ∈ lw_all := lw_g (lw_at lw_m12 100 rfl) rfl
theorem q2817 : (Jvm.Cond.code ({ cls := "Keygrove", name := "late", desc := "(I)I" } : Jvm.MethodName) prog_1_method_50_code (2 : Nat) (Option.some Jvm.ClassFile.FieldType.int)) ∈ lw_all := lw_g (lw_at lw_m12 101 rfl) rfl
theorem q2822 : (Jvm.Cond.instanceMethod ({ cls := "Keygrove", name := "cover", desc := "(I)I" } : Jvm.MethodName)) ∈ lw_all := lw_g (lw_at lw_m12 106 rfl) rfl
theorem q2823 : (Jvm.Cond.selects "Keygrove" ({ cls := "Keygrove", name := "cover", desc := "(I)I" } : Jvm.MethodName) ({ cls := "Keygrove", name := "cover", desc := "(I)I" } : Jvm.MethodName)) ∈ lw_all := lw_g (lw_at lw_m12 107 rfl) rfl
theorem q2824 : (Jvm.Cond.code ({ cls := "Keygrove", name := "cover", desc := "(I)I" } : Jvm.MethodName) prog_1_method_51_code (2 : Nat) (Option.some Jvm.ClassFile.FieldType.int)) ∈ lw_all := lw_g (lw_at lw_m12 108 rfl) rfl
theorem q2829 : (Jvm.Cond.instanceMethod ({ cls := "Keygrove", name := "coverAt", desc := "(II)I" } : Jvm.MethodName)) ∈ lw_all := lw_g (lw_at lw_m12 113 rfl) rfl
theorem q2830 : (Jvm.Cond.selects "Keygrove" ({ cls := "Keygrove", name := "coverAt", desc := "(II)I" } : Jvm.MethodName) ({ cls := "Keygrove", name := "coverAt", desc := "(II)I" } : Jvm.MethodName)) ∈ lw_all := lw_g (lw_at lw_m12 114 rfl) rfl
theorem q2831 : (Jvm.Cond.code ({ cls := "Keygrove", name := "coverAt", desc := "(II)I" } : Jvm.MethodName) prog_1_method_52_code (4 : Nat) (Option.some Jvm.ClassFile.FieldType.int)) ∈ lw_all := lw_g (lw_at lw_m12 115 rfl) rfl
theorem q2836 : (Jvm.Cond.instanceMethod ({ cls := "Keygrove", name := "personAt", desc := "(I)I" } : Jvm.MethodName)) ∈ lw_all := lw_g (lw_at lw_m12 120 rfl) rfl
theorem q2837 : (Jvm.Cond.selects "Keygrove" ({ cls := "Keygrove", name := "personAt", desc := "(I)I" } : Jvm.MethodName) ({ cls := "Keygrove", name := "personAt", desc := "(I)I" } : Jvm.MethodName)) ∈ lw_all := lw_g (lw_at lw_m12 121 rfl) rfl
theorem q2838 : (Jvm.Cond.code ({ cls := "Keygrove", name := "personAt", desc := "(I)I" } : Jvm.MethodName) prog_1_method_53_code (2 : Nat) (Option.some Jvm.ClassFile.FieldType.int)) ∈ lw_all := lw_g (lw_at lw_m12 122 rfl) rfl
theorem q2843 : (Jvm.Cond.instanceMethod ({ cls := "Keygrove", name := "holds", desc := "(II)Z" } : Jvm.MethodName)) ∈ lw_all := lw_g (lw_at lw_m12 127 rfl) rfl
theorem q2844 : (Jvm.Cond.selects "Keygrove" ({ cls := "Keygrove", name := "holds", desc := "(II)Z" } : Jvm.MethodName) ({ cls := "Keygrove", name := "holds", desc := "(II)Z" } : Jvm.MethodName)) ∈ lw_all := lw_g (lw_at lw_m12 128 rfl) rfl
theorem q2845 : (Jvm.Cond.code ({ cls := "Keygrove", name := "holds", desc := "(II)Z" } : Jvm.MethodName) prog_1_method_54_code (4 : Nat) (Option.some Jvm.ClassFile.FieldType.boolean)) ∈ lw_all := lw_g (lw_at lw_m12 129 rfl) rfl
theorem q2850 : (Jvm.Cond.instanceMethod ({ cls := "Keygrove", name := "key", desc := "(I)I" } : Jvm.MethodName)) ∈ lw_all := lw_g (lw_at lw_m12 134 rfl) rfl
theorem q2851 : (Jvm.Cond.selects "Keygrove" ({ cls := "Keygrove", name := "key", desc := "(I)I" } : Jvm.MethodName) ({ cls := "Keygrove", name := "key", desc := "(I)I" } : Jvm.MethodName)) ∈ lw_all := lw_g (lw_at lw_m12 135 rfl) rfl
theorem q2852 : (Jvm.Cond.code ({ cls := "Keygrove", name := "key", desc := "(I)I" } : Jvm.MethodName) prog_1_method_55_code (3 : Nat) (Option.some Jvm.ClassFile.FieldType.int)) ∈ lw_all := lw_g (lw_at lw_m12 136 rfl) rfl
theorem q2857 : (Jvm.Cond.instanceMethod ({ cls := "Keygrove", name := "held", desc := "(I)I" } : Jvm.MethodName)) ∈ lw_all := lw_g (lw_at lw_m12 141 rfl) rfl
theorem q2858 : (Jvm.Cond.selects "Keygrove" ({ cls := "Keygrove", name := "held", desc := "(I)I" } : Jvm.MethodName) ({ cls := "Keygrove", name := "held", desc := "(I)I" } : Jvm.MethodName)) ∈ lw_all := lw_g (lw_at lw_m12 142 rfl) rfl
theorem q2859 : (Jvm.Cond.code ({ cls := "Keygrove", name := "held", desc := "(I)I" } : Jvm.MethodName) prog_1_method_57_code (2 : Nat) (Option.some Jvm.ClassFile.FieldType.int)) ∈ lw_all := lw_g (lw_at lw_m12 143 rfl) rfl
theorem q2864 : (Jvm.Cond.instanceMethod ({ cls := "Keygrove", name := "send", desc := "(I)I" } : Jvm.MethodName)) ∈ lw_all := lw_g (lw_at lw_m12 148 rfl) rfl
theorem q2865 : (Jvm.Cond.selects "Keygrove" ({ cls := "Keygrove", name := "send", desc := "(I)I" } : Jvm.MethodName) ({ cls := "Keygrove", name := "send", desc := "(I)I" } : Jvm.MethodName)) ∈ lw_all := lw_g (lw_at lw_m12 149 rfl) rfl
theorem q2866 : (Jvm.Cond.code ({ cls := "Keygrove", name := "send", desc := "(I)I" } : Jvm.MethodName) prog_1_method_58_code (5 : Nat) (Option.some Jvm.ClassFile.FieldType.int)) ∈ lw_all := lw_g (lw_at lw_m12 150 rfl) rfl
theorem q2867 : (Jvm.Cond.classLink "Keygrove" (435 : Nat) "Keygrove$Chain") ∈ lw_all := lw_g (lw_at lw_m12 151 rfl) rfl
theorem q2868 : (Jvm.Cond.classLink "Keygrove" (439 : Nat) "Keygrove$Message") ∈ lw_all := lw_g (lw_at lw_m12 152 rfl) rfl
theorem q2870 : (Jvm.Cond.methodLink "Keygrove" (444 : Nat) ({ cls := "Keygrove$Message", name := "<init>", desc := "(IIII)V" } : Jvm.MethodName)) ∈ lw_all := lw_g (lw_at lw_m12 154 rfl) rfl
theorem q2875 : (Jvm.Cond.fieldLinkNest "Keygrove" (451 : Nat) "Keygrove$Message" "epoch" "I" "Keygrove") ∈ lw_tbl := lw_at lw_m12 159 rfl
theorem q2877 : (Jvm.Cond.fieldLinkNest "Keygrove" (453 : Nat) "Keygrove$Message" "leaf" "I" "Keygrove") ∈ lw_tbl := lw_at lw_m12 161 rfl
theorem q2879 : (Jvm.Cond.fieldLinkNest "Keygrove" (452 : Nat) "Keygrove$Message" "place" "I" "Keygrove") ∈ lw_tbl := lw_at lw_m12 163 rfl
theorem q2881 : (Jvm.Cond.fieldLinkNest "Keygrove" (465 : Nat) "Keygrove$Message" "text" "I" "Keygrove") ∈ lw_tbl := lw_at lw_m12 165 rfl
theorem q2895 : (Jvm.Cond.instanceMethod ({ cls := "Keygrove", name := "read", desc := "(II)I" } : Jvm.MethodName)) ∈ lw_all := lw_g (lw_at lw_m12 179 rfl) rfl
theorem q2896 : (Jvm.Cond.selects "Keygrove" ({ cls := "Keygrove", name := "read", desc := "(II)I" } : Jvm.MethodName) ({ cls := "Keygrove", name := "read", desc := "(II)I" } : Jvm.MethodName)) ∈ lw_all := lw_g (lw_at lw_m12 180 rfl) rfl
theorem q2897 : (Jvm.Cond.code ({ cls := "Keygrove", name := "read", desc := "(II)I" } : Jvm.MethodName) prog_1_method_60_code (7 : Nat) (Option.some Jvm.ClassFile.FieldType.int)) ∈ lw_all := lw_g (lw_at lw_m12 181 rfl) rfl
theorem q2898 : (Jvm.Cond.methodLink "Keygrove" (447 : Nat) ({ cls := "Keygrove", name := "messageWith", desc := "(I)LKeygrove$Message;" } : Jvm.MethodName)) ∈ lw_all := lw_g (lw_at lw_m12 182 rfl) rfl
theorem q2899 : (Jvm.Cond.privateMethod ({ cls := "Keygrove", name := "messageWith", desc := "(I)LKeygrove$Message;" } : Jvm.MethodName)) ∈ lw_tbl := lw_at lw_m12 183 rfl
theorem q2900 : (Jvm.Cond.instanceMethod ({ cls := "Keygrove", name := "messageWith", desc := "(I)LKeygrove$Message;" } : Jvm.MethodName)) ∈ lw_all := lw_g (lw_at lw_m12 184 rfl) rfl
theorem q2901 : (Jvm.Cond.code ({ cls := "Keygrove", name := "messageWith", desc := "(I)LKeygrove$Message;" } : Jvm.MethodName) prog_1_method_59_code (2 : Nat) (Option.some (Jvm.ClassFile.FieldType.object "Keygrove$Message"))) ∈ lw_all := lw_g (lw_at lw_m12 185 rfl) rfl
theorem q2902 : (Jvm.Cond.methodLink "Keygrove" (459 : Nat) ({ cls := "java/util/TreeMap", name := "remove", desc := "(Ljava/lang/Object;)Ljava/lang/Object;" } : Jvm.MethodName)) ∈ lw_all := lw_g (lw_at lw_m12 186 rfl) rfl
theorem q2907 : (Jvm.Cond.methodLink "Keygrove" (461 : Nat) ({ cls := "Keygrove", name := "goesAlong", desc := "(LKeygrove$Chain;)V" } : Jvm.MethodName)) ∈ lw_all := lw_g (lw_at lw_m12 191 rfl) rfl
theorem q2908 : (Jvm.Cond.privateMethod ({ cls := "Keygrove", name := "goesAlong", desc := "(LKeygrove$Chain;)V" } : Jvm.MethodName)) ∈ lw_tbl := lw_at lw_m12 192 rfl
theorem q2909 : (Jvm.Cond.instanceMethod ({ cls := "Keygrove", name := "goesAlong", desc := "(LKeygrove$Chain;)V" } : Jvm.MethodName)) ∈ lw_all := lw_g (lw_at lw_m12 193 rfl) rfl
theorem q2910 : (Jvm.Cond.code ({ cls := "Keygrove", name := "goesAlong", desc := "(LKeygrove$Chain;)V" } : Jvm.MethodName) prog_1_method_61_code (2 : Nat) (Option.none : Option Jvm.ClassFile.FieldType)) ∈ lw_all := lw_g (lw_at lw_m12 194 rfl) rfl
theorem q2916 : (Jvm.Cond.instanceMethod ({ cls := "Keygrove", name := "messageOf", desc := "(IC)I" } : Jvm.MethodName)) ∈ lw_all := lw_g (lw_at lw_m12 200 rfl) rfl
theorem q2917 : (Jvm.Cond.selects "Keygrove" ({ cls := "Keygrove", name := "messageOf", desc := "(IC)I" } : Jvm.MethodName) ({ cls := "Keygrove", name := "messageOf", desc := "(IC)I" } : Jvm.MethodName)) ∈ lw_all := lw_g (lw_at lw_m12 201 rfl) rfl
theorem q2918 : (Jvm.Cond.code ({ cls := "Keygrove", name := "messageOf", desc := "(IC)I" } : Jvm.MethodName) prog_1_method_62_code (4 : Nat) (Option.some Jvm.ClassFile.FieldType.int)) ∈ lw_all := lw_g (lw_at lw_m12 202 rfl) rfl
theorem q2919 : (Jvm.Cond.stringRef "Keygrove" (468 : Nat) "elp") ∈ lw_tbl := lw_at lw_m12 203 rfl
theorem q2920 : (Jvm.Cond.methodLink "Keygrove" (470 : Nat) ({ cls := "java/lang/String", name := "indexOf", desc := "(I)I" } : Jvm.MethodName)) ∈ lw_all := lw_g (lw_at lw_m12 204 rfl) rfl
theorem q2964 : (Jvm.Cond.methodLink "Keygrove" (475 : Nat) ({ cls := "Keygrove", name := "want", desc := "(Z)V" } : Jvm.MethodName)) ∈ lw_all := lw_g (lw_at lw_m13 8 rfl) rfl
theorem q2965 : (Jvm.Cond.static ({ cls := "Keygrove", name := "want", desc := "(Z)V" } : Jvm.MethodName)) ∈ lw_all := lw_g (lw_at lw_m13 9 rfl) rfl
theorem q2966 : (Jvm.Cond.code ({ cls := "Keygrove", name := "want", desc := "(Z)V" } : Jvm.MethodName) prog_1_method_3_code (1 : Nat) (Option.none : Option Jvm.ClassFile.FieldType)) ∈ lw_all := lw_g (lw_at lw_m13 10 rfl) rfl
theorem q2967 : (Jvm.Cond.classLink "Keygrove" (7 : Nat) "java/lang/IllegalArgumentException") ∈ lw_all := lw_g (lw_at lw_m13 11 rfl) rfl
theorem q2968 : (Jvm.Cond.methodLink "Keygrove" (9 : Nat) ({ cls := "java/lang/IllegalArgumentException", name := "<init>", desc := "()V" } : Jvm.MethodName)) ∈ lw_all := lw_g (lw_at lw_m13 12 rfl) rfl
theorem q2976 : (Jvm.Cond.instanceMethod ({ cls := "Keygrove", name := "steal", desc := "(I)I" } : Jvm.MethodName)) ∈ lw_all := lw_g (lw_at lw_m13 20 rfl) rfl
theorem q2977 : (Jvm.Cond.selects "Keygrove" ({ cls := "Keygrove", name := "steal", desc := "(I)I" } : Jvm.MethodName) ({ cls := "Keygrove", name := "steal", desc := "(I)I" } : Jvm.MethodName)) ∈ lw_all := lw_g (lw_at lw_m13 21 rfl) rfl
theorem q2978 : (Jvm.Cond.code ({ cls := "Keygrove", name := "steal", desc := "(I)I" } : Jvm.MethodName) prog_1_method_63_code (4 : Nat) (Option.some Jvm.ClassFile.FieldType.int)) ∈ lw_all := lw_g (lw_at lw_m13 22 rfl) rfl
theorem q2979 : (Jvm.Cond.methodLink "Keygrove" (486 : Nat) ({ cls := "java/util/BitSet", name := "andNot", desc := "(Ljava/util/BitSet;)V" } : Jvm.MethodName)) ∈ lw_all := lw_g (lw_at lw_m13 23 rfl) rfl
theorem q2987 : (Jvm.Cond.methodLink "Keygrove" (490 : Nat) ({ cls := "java/util/BitSet", name := "or", desc := "(Ljava/util/BitSet;)V" } : Jvm.MethodName)) ∈ lw_all := lw_g (lw_at lw_m13 31 rfl) rfl
theorem q2992 : (Jvm.Cond.instanceMethod ({ cls := "Keygrove", name := "finds", desc := "(I)Z" } : Jvm.MethodName)) ∈ lw_all := lw_g (lw_at lw_m13 36 rfl) rfl
theorem q2993 : (Jvm.Cond.selects "Keygrove" ({ cls := "Keygrove", name := "finds", desc := "(I)Z" } : Jvm.MethodName) ({ cls := "Keygrove", name := "finds", desc := "(I)Z" } : Jvm.MethodName)) ∈ lw_all := lw_g (lw_at lw_m13 37 rfl) rfl
theorem q2994 : (Jvm.Cond.code ({ cls := "Keygrove", name := "finds", desc := "(I)Z" } : Jvm.MethodName) prog_1_method_65_code (2 : Nat) (Option.some Jvm.ClassFile.FieldType.boolean)) ∈ lw_all := lw_g (lw_at lw_m13 38 rfl) rfl
theorem q2999 : (Jvm.Cond.instanceMethod ({ cls := "Keygrove", name := "findsText", desc := "(I)Z" } : Jvm.MethodName)) ∈ lw_all := lw_g (lw_at lw_m13 43 rfl) rfl
theorem q3000 : (Jvm.Cond.selects "Keygrove" ({ cls := "Keygrove", name := "findsText", desc := "(I)Z" } : Jvm.MethodName) ({ cls := "Keygrove", name := "findsText", desc := "(I)Z" } : Jvm.MethodName)) ∈ lw_all := lw_g (lw_at lw_m13 44 rfl) rfl
theorem q3001 : (Jvm.Cond.code ({ cls := "Keygrove", name := "findsText", desc := "(I)Z" } : Jvm.MethodName) prog_1_method_66_code (3 : Nat) (Option.some Jvm.ClassFile.FieldType.boolean)) ∈ lw_all := lw_g (lw_at lw_m13 45 rfl) rfl
theorem q3006 : (Jvm.Cond.instanceMethod ({ cls := "Keygrove", name := "canFind", desc := "(IIZ)Z" } : Jvm.MethodName)) ∈ lw_all := lw_g (lw_at lw_m13 50 rfl) rfl
theorem q3007 : (Jvm.Cond.selects "Keygrove" ({ cls := "Keygrove", name := "canFind", desc := "(IIZ)Z" } : Jvm.MethodName) ({ cls := "Keygrove", name := "canFind", desc := "(IIZ)Z" } : Jvm.MethodName)) ∈ lw_all := lw_g (lw_at lw_m13 51 rfl) rfl
theorem q3008 : (Jvm.Cond.code ({ cls := "Keygrove", name := "canFind", desc := "(IIZ)Z" } : Jvm.MethodName) prog_1_method_68_code (5 : Nat) (Option.some Jvm.ClassFile.FieldType.boolean)) ∈ lw_all := lw_g (lw_at lw_m13 52 rfl) rfl
theorem q3013 : (Jvm.Cond.instanceMethod ({ cls := "Keygrove", name := "canRead", desc := "(II)Z" } : Jvm.MethodName)) ∈ lw_all := lw_g (lw_at lw_m13 57 rfl) rfl
theorem q3014 : (Jvm.Cond.selects "Keygrove" ({ cls := "Keygrove", name := "canRead", desc := "(II)Z" } : Jvm.MethodName) ({ cls := "Keygrove", name := "canRead", desc := "(II)Z" } : Jvm.MethodName)) ∈ lw_all := lw_g (lw_at lw_m13 58 rfl) rfl
theorem q3015 : (Jvm.Cond.code ({ cls := "Keygrove", name := "canRead", desc := "(II)Z" } : Jvm.MethodName) prog_1_method_69_code (5 : Nat) (Option.some Jvm.ClassFile.FieldType.boolean)) ∈ lw_all := lw_g (lw_at lw_m13 59 rfl) rfl
theorem q3034 : (Jvm.Cond.instanceMethod ({ cls := "Keygrove", name := "blankShare", desc := "()F" } : Jvm.MethodName)) ∈ lw_all := lw_g (lw_at lw_m13 78 rfl) rfl
theorem q3035 : (Jvm.Cond.selects "Keygrove" ({ cls := "Keygrove", name := "blankShare", desc := "()F" } : Jvm.MethodName) ({ cls := "Keygrove", name := "blankShare", desc := "()F" } : Jvm.MethodName)) ∈ lw_all := lw_g (lw_at lw_m13 79 rfl) rfl
theorem q3036 : (Jvm.Cond.code ({ cls := "Keygrove", name := "blankShare", desc := "()F" } : Jvm.MethodName) prog_1_method_70_code (3 : Nat) (Option.some Jvm.ClassFile.FieldType.float)) ∈ lw_all := lw_g (lw_at lw_m13 80 rfl) rfl
theorem q3037 : (Jvm.Cond.classLink "Keygrove" (499 : Nat) "java/lang/ArithmeticException") ∈ lw_all := lw_g (lw_at lw_m13 81 rfl) rfl
theorem q3038 : (Jvm.Cond.methodLink "Keygrove" (501 : Nat) ({ cls := "java/lang/ArithmeticException", name := "<init>", desc := "()V" } : Jvm.MethodName)) ∈ lw_all := lw_g (lw_at lw_m13 82 rfl) rfl
theorem q3046 : (Jvm.Cond.instanceMethod ({ cls := "Keygrove", name := "meanBoxes", desc := "()D" } : Jvm.MethodName)) ∈ lw_all := lw_g (lw_at lw_m13 90 rfl) rfl
theorem q3047 : (Jvm.Cond.selects "Keygrove" ({ cls := "Keygrove", name := "meanBoxes", desc := "()D" } : Jvm.MethodName) ({ cls := "Keygrove", name := "meanBoxes", desc := "()D" } : Jvm.MethodName)) ∈ lw_all := lw_g (lw_at lw_m13 91 rfl) rfl
theorem q3048 : (Jvm.Cond.code ({ cls := "Keygrove", name := "meanBoxes", desc := "()D" } : Jvm.MethodName) prog_1_method_71_code (1 : Nat) (Option.some Jvm.ClassFile.FieldType.double)) ∈ lw_all := lw_g (lw_at lw_m13 92 rfl) rfl
theorem q3678 : (Jvm.Cond.castable "Keygrove" "java/lang/Object") ∈ lw_tbl := lw_at lw_m16 2 rfl
theorem in_X1 : ∀ w ∈ wsX10, w ∈ lw_all := lw_in wsX10 [287, 289, 291, 293, 295, 297, 299, 301, 303] (by decide +kernel) (by decide +kernel)
/-! Keygrove$Book -/
def RX2 : String := "Keygrove$Book"
def TX2 : u_T := fun k => match k with
  | 0 => ("Keygrove$Book", "all", "Ljava/util/List;", true)
  | 1 => ("Keygrove$Book", "followed", "Ljava/util/HashMap;", true)
  | 2 => ("Keygrove$Book", "openers", "Ljava/util/List;", true)
  | 3 => ("Keygrove$Book", "contents", "Ljava/util/List;", true)
  | _ => ("Keygrove$Book", "z", "I", false)
def tyX2 : Nat → FieldType := fun k => match k with
  | 0 => .object "java/util/List"
  | 1 => .object "java/util/HashMap"
  | 2 => .object "java/util/List"
  | 3 => .object "java/util/List"
  | _ => .int
abbrev wsX20 : List Cond := u_ws RX2 TX2 5
theorem nmX2 : ∀ a, a < 5 → ∀ b, b < 5 → a ≠ b → (TX2 a).2.1 ≠ (TX2 b).2.1 := by decide +kernel
theorem tyX2_ok : ∀ k, k < 5 → parseFieldDescriptor (TX2 k).2.2.1 = some (tyX2 k) := by decide +kernel
abbrev cX2_init : ByteArray := prog_3_method_1_code
def yX2_init : MethodName := ⟨RX2, "<init>", "()V"⟩
def dkwX2_init_2 : List UInt8 := [181, 0, 28, 42, 4, 181, 0, 31, 177]
abbrev dktX2_init_2 : List UInt8 := dkwX2_init_2 ++ []
def dkwX2_init_1 : List UInt8 := [181, 0, 21, 42, 187, 0, 9, 89, 183, 0, 11, 181, 0, 25, 42, 187, 0, 9, 89, 183, 0, 11]
abbrev dktX2_init_1 : List UInt8 := dkwX2_init_1 ++ dktX2_init_2
def dkwX2_init_0 : List UInt8 := [42, 183, 0, 3, 42, 187, 0, 9, 89, 183, 0, 11, 181, 0, 12, 42, 187, 0, 18, 89, 183, 0, 20]
abbrev dktX2_init_0 : List UInt8 := dkwX2_init_0 ++ dktX2_init_1
theorem dksX2_init_0 : cX2_init.data.toList.drop 0 = dktX2_init_0 := by decide +kernel
theorem dksX2_init_1 : cX2_init.data.toList.drop 23 = dktX2_init_1 := dk_seg dksX2_init_0 23 rfl rfl
theorem dksX2_init_2 : cX2_init.data.toList.drop 45 = dktX2_init_2 := dk_seg dksX2_init_1 22 rfl rfl
theorem dX2_init_0 : decode cX2_init 0 = .ok (.aload_n 0, 1) := dk_42 (dk_at dksX2_init_0 0 rfl rfl)
theorem dX2_init_1 : decode cX2_init 1 = .ok (.invokespecial 3, 3) := dk_183 0 3 (dk_at dksX2_init_0 1 rfl rfl)
theorem dX2_init_4 : decode cX2_init 4 = .ok (.aload_n 0, 1) := dk_42 (dk_at dksX2_init_0 4 rfl rfl)
theorem dX2_init_5 : decode cX2_init 5 = .ok (.new 9, 3) := dk_187 0 9 (dk_at dksX2_init_0 5 rfl rfl)
theorem dX2_init_8 : decode cX2_init 8 = .ok (.dup, 1) := dk_89 (dk_at dksX2_init_0 8 rfl rfl)
theorem dX2_init_9 : decode cX2_init 9 = .ok (.invokespecial 11, 3) := dk_183 0 11 (dk_at dksX2_init_0 9 rfl rfl)
theorem dX2_init_12 : decode cX2_init 12 = .ok (.putfield 12, 3) := dk_181 0 12 (dk_at dksX2_init_0 12 rfl rfl)
theorem dX2_init_15 : decode cX2_init 15 = .ok (.aload_n 0, 1) := dk_42 (dk_at dksX2_init_0 15 rfl rfl)
theorem dX2_init_16 : decode cX2_init 16 = .ok (.new 18, 3) := dk_187 0 18 (dk_at dksX2_init_0 16 rfl rfl)
theorem dX2_init_19 : decode cX2_init 19 = .ok (.dup, 1) := dk_89 (dk_at dksX2_init_0 19 rfl rfl)
theorem dX2_init_20 : decode cX2_init 20 = .ok (.invokespecial 20, 3) := dk_183 0 20 (dk_at dksX2_init_0 20 rfl rfl)
theorem dX2_init_23 : decode cX2_init 23 = .ok (.putfield 21, 3) := dk_181 0 21 (dk_at dksX2_init_1 0 rfl rfl)
theorem dX2_init_26 : decode cX2_init 26 = .ok (.aload_n 0, 1) := dk_42 (dk_at dksX2_init_1 3 rfl rfl)
theorem dX2_init_27 : decode cX2_init 27 = .ok (.new 9, 3) := dk_187 0 9 (dk_at dksX2_init_1 4 rfl rfl)
theorem dX2_init_30 : decode cX2_init 30 = .ok (.dup, 1) := dk_89 (dk_at dksX2_init_1 7 rfl rfl)
theorem dX2_init_31 : decode cX2_init 31 = .ok (.invokespecial 11, 3) := dk_183 0 11 (dk_at dksX2_init_1 8 rfl rfl)
theorem dX2_init_34 : decode cX2_init 34 = .ok (.putfield 25, 3) := dk_181 0 25 (dk_at dksX2_init_1 11 rfl rfl)
theorem dX2_init_37 : decode cX2_init 37 = .ok (.aload_n 0, 1) := dk_42 (dk_at dksX2_init_1 14 rfl rfl)
theorem dX2_init_38 : decode cX2_init 38 = .ok (.new 9, 3) := dk_187 0 9 (dk_at dksX2_init_1 15 rfl rfl)
theorem dX2_init_41 : decode cX2_init 41 = .ok (.dup, 1) := dk_89 (dk_at dksX2_init_1 18 rfl rfl)
theorem dX2_init_42 : decode cX2_init 42 = .ok (.invokespecial 11, 3) := dk_183 0 11 (dk_at dksX2_init_1 19 rfl rfl)
theorem dX2_init_45 : decode cX2_init 45 = .ok (.putfield 28, 3) := dk_181 0 28 (dk_at dksX2_init_2 0 rfl rfl)
theorem dX2_init_48 : decode cX2_init 48 = .ok (.aload_n 0, 1) := dk_42 (dk_at dksX2_init_2 3 rfl rfl)
theorem dX2_init_49 : decode cX2_init 49 = .ok (.iconst 1, 1) := dk_4 (dk_at dksX2_init_2 4 rfl rfl)
theorem dX2_init_50 : decode cX2_init 50 = .ok (.putfield 31, 3) := dk_181 0 31 (dk_at dksX2_init_2 5 rfl rfl)
theorem dX2_init_53 : decode cX2_init 53 = .ok (.return_, 1) := dk_177 (dk_at dksX2_init_2 8 rfl rfl)
abbrev cX2_finds : ByteArray := prog_3_method_9_code
def yX2_finds : MethodName := ⟨RX2, "finds", "(Ljava/lang/Iterable;)Ljava/util/BitSet;"⟩
def dkwX2_finds_10 : List UInt8 := [44, 176]
abbrev dktX2_finds_10 : List UInt8 := dkwX2_finds_10 ++ []
def dkwX2_finds_9 : List UInt8 := [132, 5, 1, 167, 255, 194, 44, 182, 0, 124, 21, 4, 164, 0, 7, 4, 167, 0, 4, 3, 62, 167, 255, 76]
abbrev dktX2_finds_9 : List UInt8 := dkwX2_finds_9 ++ dktX2_finds_10
def dkwX2_finds_8 : List UInt8 := [153, 0, 24, 44, 42, 180, 0, 28, 21, 5, 185, 0, 55, 2, 0, 192, 0, 88, 182, 0, 90, 182, 0, 120]
abbrev dktX2_finds_8 : List UInt8 := dkwX2_finds_8 ++ dktX2_finds_9
def dkwX2_finds_7 : List UInt8 := [162, 0, 54, 44, 42, 180, 0, 25, 21, 5, 185, 0, 55, 2, 0, 192, 0, 88, 182, 0, 90, 182, 0, 130]
abbrev dktX2_finds_7 : List UInt8 := dkwX2_finds_7 ++ dktX2_finds_8
def dkwX2_finds_6 : List UInt8 := [182, 0, 120, 132, 5, 1, 167, 255, 175, 3, 54, 5, 21, 5, 42, 180, 0, 25, 185, 0, 51, 1, 0]
abbrev dktX2_finds_6 : List UInt8 := dkwX2_finds_6 ++ dktX2_finds_7
def dkwX2_finds_5 : List UInt8 := [180, 0, 133, 2, 159, 0, 15, 44, 25, 6, 180, 0, 133, 182, 0, 130, 153, 0, 9, 44, 21, 5]
abbrev dktX2_finds_5 : List UInt8 := dkwX2_finds_5 ++ dktX2_finds_6
def dkwX2_finds_4 : List UInt8 := [25, 6, 180, 0, 127, 2, 159, 0, 42, 44, 25, 6, 180, 0, 127, 182, 0, 130, 153, 0, 30, 25, 6]
abbrev dktX2_finds_4 : List UInt8 := dkwX2_finds_4 ++ dktX2_finds_5
def dkwX2_finds_3 : List UInt8 := [185, 0, 51, 1, 0, 162, 0, 73, 42, 180, 0, 12, 21, 5, 185, 0, 55, 2, 0, 192, 0, 36, 58, 6]
abbrev dktX2_finds_3 : List UInt8 := dkwX2_finds_3 ++ dktX2_finds_4
def dkwX2_finds_2 : List UInt8 := [62, 29, 153, 0, 182, 44, 182, 0, 124, 54, 4, 3, 54, 5, 21, 5, 42, 180, 0, 12]
abbrev dktX2_finds_2 : List UInt8 := dkwX2_finds_2 ++ dktX2_finds_3
def dkwX2_finds_1 : List UInt8 := [45, 185, 0, 116, 1, 0, 192, 0, 88, 182, 0, 90, 54, 4, 44, 21, 4, 182, 0, 120, 167, 255, 227, 4]
abbrev dktX2_finds_1 : List UInt8 := dkwX2_finds_1 ++ dktX2_finds_2
def dkwX2_finds_0 : List UInt8 := [187, 0, 101, 89, 183, 0, 103, 77, 43, 185, 0, 104, 1, 0, 78, 45, 185, 0, 110, 1, 0, 153, 0, 26]
abbrev dktX2_finds_0 : List UInt8 := dkwX2_finds_0 ++ dktX2_finds_1
theorem dksX2_finds_0 : cX2_finds.data.toList.drop 0 = dktX2_finds_0 := by decide +kernel
theorem dksX2_finds_1 : cX2_finds.data.toList.drop 24 = dktX2_finds_1 := dk_seg dksX2_finds_0 24 rfl rfl
theorem dksX2_finds_2 : cX2_finds.data.toList.drop 48 = dktX2_finds_2 := dk_seg dksX2_finds_1 24 rfl rfl
theorem dksX2_finds_3 : cX2_finds.data.toList.drop 68 = dktX2_finds_3 := dk_seg dksX2_finds_2 20 rfl rfl
theorem dksX2_finds_4 : cX2_finds.data.toList.drop 92 = dktX2_finds_4 := dk_seg dksX2_finds_3 24 rfl rfl
theorem dksX2_finds_5 : cX2_finds.data.toList.drop 115 = dktX2_finds_5 := dk_seg dksX2_finds_4 23 rfl rfl
theorem dksX2_finds_6 : cX2_finds.data.toList.drop 137 = dktX2_finds_6 := dk_seg dksX2_finds_5 22 rfl rfl
theorem dksX2_finds_7 : cX2_finds.data.toList.drop 160 = dktX2_finds_7 := dk_seg dksX2_finds_6 23 rfl rfl
theorem dksX2_finds_8 : cX2_finds.data.toList.drop 184 = dktX2_finds_8 := dk_seg dksX2_finds_7 24 rfl rfl
theorem dksX2_finds_9 : cX2_finds.data.toList.drop 208 = dktX2_finds_9 := dk_seg dksX2_finds_8 24 rfl rfl
theorem dksX2_finds_10 : cX2_finds.data.toList.drop 232 = dktX2_finds_10 := dk_seg dksX2_finds_9 24 rfl rfl
theorem dX2_finds_0 : decode cX2_finds 0 = .ok (.new 101, 3) := dk_187 0 101 (dk_at dksX2_finds_0 0 rfl rfl)
theorem dX2_finds_3 : decode cX2_finds 3 = .ok (.dup, 1) := dk_89 (dk_at dksX2_finds_0 3 rfl rfl)
theorem dX2_finds_4 : decode cX2_finds 4 = .ok (.invokespecial 103, 3) := dk_183 0 103 (dk_at dksX2_finds_0 4 rfl rfl)
theorem dX2_finds_7 : decode cX2_finds 7 = .ok (.astore_n 2, 1) := dk_77 (dk_at dksX2_finds_0 7 rfl rfl)
theorem dX2_finds_8 : decode cX2_finds 8 = .ok (.aload_n 1, 1) := dk_43 (dk_at dksX2_finds_0 8 rfl rfl)
theorem dX2_finds_9 : decode cX2_finds 9 = .ok (.invokeinterface 104 1, 5) := by decide +kernel
theorem dX2_finds_14 : decode cX2_finds 14 = .ok (.astore_n 3, 1) := dk_78 (dk_at dksX2_finds_0 14 rfl rfl)
theorem dX2_finds_15 : decode cX2_finds 15 = .ok (.aload_n 3, 1) := dk_45 (dk_at dksX2_finds_0 15 rfl rfl)
theorem dX2_finds_16 : decode cX2_finds 16 = .ok (.invokeinterface 110 1, 5) := by decide +kernel
theorem dX2_finds_21 : decode cX2_finds 21 = .ok (.ifCond .eq 26, 3) := dk_153 0 26 (dk_at dksX2_finds_0 21 rfl rfl)
theorem dX2_finds_24 : decode cX2_finds 24 = .ok (.aload_n 3, 1) := dk_45 (dk_at dksX2_finds_1 0 rfl rfl)
theorem dX2_finds_25 : decode cX2_finds 25 = .ok (.invokeinterface 116 1, 5) := by decide +kernel
theorem dX2_finds_30 : decode cX2_finds 30 = .ok (.checkcast 88, 3) := dk_192 0 88 (dk_at dksX2_finds_1 6 rfl rfl)
theorem dX2_finds_33 : decode cX2_finds 33 = .ok (.invokevirtual 90, 3) := dk_182 0 90 (dk_at dksX2_finds_1 9 rfl rfl)
theorem dX2_finds_36 : decode cX2_finds 36 = .ok (.istore 4, 2) := dk_54 4 (dk_at dksX2_finds_1 12 rfl rfl)
theorem dX2_finds_38 : decode cX2_finds 38 = .ok (.aload_n 2, 1) := dk_44 (dk_at dksX2_finds_1 14 rfl rfl)
theorem dX2_finds_39 : decode cX2_finds 39 = .ok (.iload 4, 2) := dk_21 4 (dk_at dksX2_finds_1 15 rfl rfl)
theorem dX2_finds_41 : decode cX2_finds 41 = .ok (.invokevirtual 120, 3) := dk_182 0 120 (dk_at dksX2_finds_1 17 rfl rfl)
theorem dX2_finds_44 : decode cX2_finds 44 = .ok (.goto (-29), 3) := dk_167 255 227 (dk_at dksX2_finds_1 20 rfl rfl)
theorem dX2_finds_47 : decode cX2_finds 47 = .ok (.iconst 1, 1) := dk_4 (dk_at dksX2_finds_1 23 rfl rfl)
theorem dX2_finds_48 : decode cX2_finds 48 = .ok (.istore_n 3, 1) := dk_62 (dk_at dksX2_finds_2 0 rfl rfl)
theorem dX2_finds_49 : decode cX2_finds 49 = .ok (.iload_n 3, 1) := dk_29 (dk_at dksX2_finds_2 1 rfl rfl)
theorem dX2_finds_50 : decode cX2_finds 50 = .ok (.ifCond .eq 182, 3) := dk_153 0 182 (dk_at dksX2_finds_2 2 rfl rfl)
theorem dX2_finds_53 : decode cX2_finds 53 = .ok (.aload_n 2, 1) := dk_44 (dk_at dksX2_finds_2 5 rfl rfl)
theorem dX2_finds_54 : decode cX2_finds 54 = .ok (.invokevirtual 124, 3) := dk_182 0 124 (dk_at dksX2_finds_2 6 rfl rfl)
theorem dX2_finds_57 : decode cX2_finds 57 = .ok (.istore 4, 2) := dk_54 4 (dk_at dksX2_finds_2 9 rfl rfl)
theorem dX2_finds_59 : decode cX2_finds 59 = .ok (.iconst 0, 1) := dk_3 (dk_at dksX2_finds_2 11 rfl rfl)
theorem dX2_finds_60 : decode cX2_finds 60 = .ok (.istore 5, 2) := dk_54 5 (dk_at dksX2_finds_2 12 rfl rfl)
theorem dX2_finds_62 : decode cX2_finds 62 = .ok (.iload 5, 2) := dk_21 5 (dk_at dksX2_finds_2 14 rfl rfl)
theorem dX2_finds_64 : decode cX2_finds 64 = .ok (.aload_n 0, 1) := dk_42 (dk_at dksX2_finds_2 16 rfl rfl)
theorem dX2_finds_65 : decode cX2_finds 65 = .ok (.getfield 12, 3) := dk_180 0 12 (dk_at dksX2_finds_2 17 rfl rfl)
theorem dX2_finds_68 : decode cX2_finds 68 = .ok (.invokeinterface 51 1, 5) := by decide +kernel
theorem dX2_finds_73 : decode cX2_finds 73 = .ok (.if_icmp .ge 73, 3) := dk_162 0 73 (dk_at dksX2_finds_3 5 rfl rfl)
theorem dX2_finds_76 : decode cX2_finds 76 = .ok (.aload_n 0, 1) := dk_42 (dk_at dksX2_finds_3 8 rfl rfl)
theorem dX2_finds_77 : decode cX2_finds 77 = .ok (.getfield 12, 3) := dk_180 0 12 (dk_at dksX2_finds_3 9 rfl rfl)
theorem dX2_finds_80 : decode cX2_finds 80 = .ok (.iload 5, 2) := dk_21 5 (dk_at dksX2_finds_3 12 rfl rfl)
theorem dX2_finds_82 : decode cX2_finds 82 = .ok (.invokeinterface 55 2, 5) := by decide +kernel
theorem dX2_finds_87 : decode cX2_finds 87 = .ok (.checkcast 36, 3) := dk_192 0 36 (dk_at dksX2_finds_3 19 rfl rfl)
theorem dX2_finds_90 : decode cX2_finds 90 = .ok (.astore 6, 2) := dk_58 6 (dk_at dksX2_finds_3 22 rfl rfl)
theorem dX2_finds_92 : decode cX2_finds 92 = .ok (.aload 6, 2) := dk_25 6 (dk_at dksX2_finds_4 0 rfl rfl)
theorem dX2_finds_94 : decode cX2_finds 94 = .ok (.getfield 127, 3) := dk_180 0 127 (dk_at dksX2_finds_4 2 rfl rfl)
theorem dX2_finds_97 : decode cX2_finds 97 = .ok (.iconst (-1), 1) := dk_2 (dk_at dksX2_finds_4 5 rfl rfl)
theorem dX2_finds_98 : decode cX2_finds 98 = .ok (.if_icmp .eq 42, 3) := dk_159 0 42 (dk_at dksX2_finds_4 6 rfl rfl)
theorem dX2_finds_101 : decode cX2_finds 101 = .ok (.aload_n 2, 1) := dk_44 (dk_at dksX2_finds_4 9 rfl rfl)
theorem dX2_finds_102 : decode cX2_finds 102 = .ok (.aload 6, 2) := dk_25 6 (dk_at dksX2_finds_4 10 rfl rfl)
theorem dX2_finds_104 : decode cX2_finds 104 = .ok (.getfield 127, 3) := dk_180 0 127 (dk_at dksX2_finds_4 12 rfl rfl)
theorem dX2_finds_107 : decode cX2_finds 107 = .ok (.invokevirtual 130, 3) := dk_182 0 130 (dk_at dksX2_finds_4 15 rfl rfl)
theorem dX2_finds_110 : decode cX2_finds 110 = .ok (.ifCond .eq 30, 3) := dk_153 0 30 (dk_at dksX2_finds_4 18 rfl rfl)
theorem dX2_finds_113 : decode cX2_finds 113 = .ok (.aload 6, 2) := dk_25 6 (dk_at dksX2_finds_4 21 rfl rfl)
theorem dX2_finds_115 : decode cX2_finds 115 = .ok (.getfield 133, 3) := dk_180 0 133 (dk_at dksX2_finds_5 0 rfl rfl)
theorem dX2_finds_118 : decode cX2_finds 118 = .ok (.iconst (-1), 1) := dk_2 (dk_at dksX2_finds_5 3 rfl rfl)
theorem dX2_finds_119 : decode cX2_finds 119 = .ok (.if_icmp .eq 15, 3) := dk_159 0 15 (dk_at dksX2_finds_5 4 rfl rfl)
theorem dX2_finds_122 : decode cX2_finds 122 = .ok (.aload_n 2, 1) := dk_44 (dk_at dksX2_finds_5 7 rfl rfl)
theorem dX2_finds_123 : decode cX2_finds 123 = .ok (.aload 6, 2) := dk_25 6 (dk_at dksX2_finds_5 8 rfl rfl)
theorem dX2_finds_125 : decode cX2_finds 125 = .ok (.getfield 133, 3) := dk_180 0 133 (dk_at dksX2_finds_5 10 rfl rfl)
theorem dX2_finds_128 : decode cX2_finds 128 = .ok (.invokevirtual 130, 3) := dk_182 0 130 (dk_at dksX2_finds_5 13 rfl rfl)
theorem dX2_finds_131 : decode cX2_finds 131 = .ok (.ifCond .eq 9, 3) := dk_153 0 9 (dk_at dksX2_finds_5 16 rfl rfl)
theorem dX2_finds_134 : decode cX2_finds 134 = .ok (.aload_n 2, 1) := dk_44 (dk_at dksX2_finds_5 19 rfl rfl)
theorem dX2_finds_135 : decode cX2_finds 135 = .ok (.iload 5, 2) := dk_21 5 (dk_at dksX2_finds_5 20 rfl rfl)
theorem dX2_finds_137 : decode cX2_finds 137 = .ok (.invokevirtual 120, 3) := dk_182 0 120 (dk_at dksX2_finds_6 0 rfl rfl)
theorem dX2_finds_140 : decode cX2_finds 140 = .ok (.iinc 5 1, 3) := dk_132 5 1 (dk_at dksX2_finds_6 3 rfl rfl)
theorem dX2_finds_143 : decode cX2_finds 143 = .ok (.goto (-81), 3) := dk_167 255 175 (dk_at dksX2_finds_6 6 rfl rfl)
theorem dX2_finds_146 : decode cX2_finds 146 = .ok (.iconst 0, 1) := dk_3 (dk_at dksX2_finds_6 9 rfl rfl)
theorem dX2_finds_147 : decode cX2_finds 147 = .ok (.istore 5, 2) := dk_54 5 (dk_at dksX2_finds_6 10 rfl rfl)
theorem dX2_finds_149 : decode cX2_finds 149 = .ok (.iload 5, 2) := dk_21 5 (dk_at dksX2_finds_6 12 rfl rfl)
theorem dX2_finds_151 : decode cX2_finds 151 = .ok (.aload_n 0, 1) := dk_42 (dk_at dksX2_finds_6 14 rfl rfl)
theorem dX2_finds_152 : decode cX2_finds 152 = .ok (.getfield 25, 3) := dk_180 0 25 (dk_at dksX2_finds_6 15 rfl rfl)
theorem dX2_finds_155 : decode cX2_finds 155 = .ok (.invokeinterface 51 1, 5) := by decide +kernel
theorem dX2_finds_160 : decode cX2_finds 160 = .ok (.if_icmp .ge 54, 3) := dk_162 0 54 (dk_at dksX2_finds_7 0 rfl rfl)
theorem dX2_finds_163 : decode cX2_finds 163 = .ok (.aload_n 2, 1) := dk_44 (dk_at dksX2_finds_7 3 rfl rfl)
theorem dX2_finds_164 : decode cX2_finds 164 = .ok (.aload_n 0, 1) := dk_42 (dk_at dksX2_finds_7 4 rfl rfl)
theorem dX2_finds_165 : decode cX2_finds 165 = .ok (.getfield 25, 3) := dk_180 0 25 (dk_at dksX2_finds_7 5 rfl rfl)
theorem dX2_finds_168 : decode cX2_finds 168 = .ok (.iload 5, 2) := dk_21 5 (dk_at dksX2_finds_7 8 rfl rfl)
theorem dX2_finds_170 : decode cX2_finds 170 = .ok (.invokeinterface 55 2, 5) := by decide +kernel
theorem dX2_finds_175 : decode cX2_finds 175 = .ok (.checkcast 88, 3) := dk_192 0 88 (dk_at dksX2_finds_7 15 rfl rfl)
theorem dX2_finds_178 : decode cX2_finds 178 = .ok (.invokevirtual 90, 3) := dk_182 0 90 (dk_at dksX2_finds_7 18 rfl rfl)
theorem dX2_finds_181 : decode cX2_finds 181 = .ok (.invokevirtual 130, 3) := dk_182 0 130 (dk_at dksX2_finds_7 21 rfl rfl)
theorem dX2_finds_184 : decode cX2_finds 184 = .ok (.ifCond .eq 24, 3) := dk_153 0 24 (dk_at dksX2_finds_8 0 rfl rfl)
theorem dX2_finds_187 : decode cX2_finds 187 = .ok (.aload_n 2, 1) := dk_44 (dk_at dksX2_finds_8 3 rfl rfl)
theorem dX2_finds_188 : decode cX2_finds 188 = .ok (.aload_n 0, 1) := dk_42 (dk_at dksX2_finds_8 4 rfl rfl)
theorem dX2_finds_189 : decode cX2_finds 189 = .ok (.getfield 28, 3) := dk_180 0 28 (dk_at dksX2_finds_8 5 rfl rfl)
theorem dX2_finds_192 : decode cX2_finds 192 = .ok (.iload 5, 2) := dk_21 5 (dk_at dksX2_finds_8 8 rfl rfl)
theorem dX2_finds_194 : decode cX2_finds 194 = .ok (.invokeinterface 55 2, 5) := by decide +kernel
theorem dX2_finds_199 : decode cX2_finds 199 = .ok (.checkcast 88, 3) := dk_192 0 88 (dk_at dksX2_finds_8 15 rfl rfl)
theorem dX2_finds_202 : decode cX2_finds 202 = .ok (.invokevirtual 90, 3) := dk_182 0 90 (dk_at dksX2_finds_8 18 rfl rfl)
theorem dX2_finds_205 : decode cX2_finds 205 = .ok (.invokevirtual 120, 3) := dk_182 0 120 (dk_at dksX2_finds_8 21 rfl rfl)
theorem dX2_finds_208 : decode cX2_finds 208 = .ok (.iinc 5 1, 3) := dk_132 5 1 (dk_at dksX2_finds_9 0 rfl rfl)
theorem dX2_finds_211 : decode cX2_finds 211 = .ok (.goto (-62), 3) := dk_167 255 194 (dk_at dksX2_finds_9 3 rfl rfl)
theorem dX2_finds_214 : decode cX2_finds 214 = .ok (.aload_n 2, 1) := dk_44 (dk_at dksX2_finds_9 6 rfl rfl)
theorem dX2_finds_215 : decode cX2_finds 215 = .ok (.invokevirtual 124, 3) := dk_182 0 124 (dk_at dksX2_finds_9 7 rfl rfl)
theorem dX2_finds_218 : decode cX2_finds 218 = .ok (.iload 4, 2) := dk_21 4 (dk_at dksX2_finds_9 10 rfl rfl)
theorem dX2_finds_220 : decode cX2_finds 220 = .ok (.if_icmp .le 7, 3) := dk_164 0 7 (dk_at dksX2_finds_9 12 rfl rfl)
theorem dX2_finds_223 : decode cX2_finds 223 = .ok (.iconst 1, 1) := dk_4 (dk_at dksX2_finds_9 15 rfl rfl)
theorem dX2_finds_224 : decode cX2_finds 224 = .ok (.goto 4, 3) := dk_167 0 4 (dk_at dksX2_finds_9 16 rfl rfl)
theorem dX2_finds_227 : decode cX2_finds 227 = .ok (.iconst 0, 1) := dk_3 (dk_at dksX2_finds_9 19 rfl rfl)
theorem dX2_finds_228 : decode cX2_finds 228 = .ok (.istore_n 3, 1) := dk_62 (dk_at dksX2_finds_9 20 rfl rfl)
theorem dX2_finds_229 : decode cX2_finds 229 = .ok (.goto (-180), 3) := dk_167 255 76 (dk_at dksX2_finds_9 21 rfl rfl)
theorem dX2_finds_232 : decode cX2_finds 232 = .ok (.aload_n 2, 1) := dk_44 (dk_at dksX2_finds_10 0 rfl rfl)
theorem dX2_finds_233 : decode cX2_finds 233 = .ok (.areturn, 1) := dk_176 (dk_at dksX2_finds_10 1 rfl rfl)
abbrev cX2_value : ByteArray := prog_3_method_3_code
def yX2_value : MethodName := ⟨RX2, "value", "(I)I"⟩
def dkwX2_value_0 : List UInt8 := [42, 180, 0, 12, 27, 185, 0, 55, 2, 0, 192, 0, 36, 180, 0, 59, 172]
abbrev dktX2_value_0 : List UInt8 := dkwX2_value_0 ++ []
theorem dksX2_value_0 : cX2_value.data.toList.drop 0 = dktX2_value_0 := by decide +kernel
theorem dX2_value_0 : decode cX2_value 0 = .ok (.aload_n 0, 1) := dk_42 (dk_at dksX2_value_0 0 rfl rfl)
theorem dX2_value_1 : decode cX2_value 1 = .ok (.getfield 12, 3) := dk_180 0 12 (dk_at dksX2_value_0 1 rfl rfl)
theorem dX2_value_4 : decode cX2_value 4 = .ok (.iload_n 1, 1) := dk_27 (dk_at dksX2_value_0 4 rfl rfl)
theorem dX2_value_5 : decode cX2_value 5 = .ok (.invokeinterface 55 2, 5) := by decide +kernel
theorem dX2_value_10 : decode cX2_value 10 = .ok (.checkcast 36, 3) := dk_192 0 36 (dk_at dksX2_value_0 10 rfl rfl)
theorem dX2_value_13 : decode cX2_value 13 = .ok (.getfield 59, 3) := dk_180 0 59 (dk_at dksX2_value_0 13 rfl rfl)
theorem dX2_value_16 : decode cX2_value 16 = .ok (.ireturn, 1) := dk_172 (dk_at dksX2_value_0 16 rfl rfl)
abbrev cX2_from : ByteArray := prog_3_method_4_code
def yX2_from : MethodName := ⟨RX2, "from", "(II)I"⟩
def dkwX2_from_1 : List UInt8 := [42, 27, 182, 0, 78, 28, 184, 0, 38, 27, 2, 182, 0, 81, 172]
abbrev dktX2_from_1 : List UInt8 := dkwX2_from_1 ++ []
def dkwX2_from_0 : List UInt8 := [42, 187, 0, 62, 89, 183, 0, 64, 27, 182, 0, 65, 18, 69, 182, 0, 71, 28, 182, 0, 65, 182, 0, 74]
abbrev dktX2_from_0 : List UInt8 := dkwX2_from_0 ++ dktX2_from_1
theorem dksX2_from_0 : cX2_from.data.toList.drop 0 = dktX2_from_0 := by decide +kernel
theorem dksX2_from_1 : cX2_from.data.toList.drop 24 = dktX2_from_1 := dk_seg dksX2_from_0 24 rfl rfl
theorem dX2_from_0 : decode cX2_from 0 = .ok (.aload_n 0, 1) := dk_42 (dk_at dksX2_from_0 0 rfl rfl)
theorem dX2_from_1 : decode cX2_from 1 = .ok (.new 62, 3) := dk_187 0 62 (dk_at dksX2_from_0 1 rfl rfl)
theorem dX2_from_4 : decode cX2_from 4 = .ok (.dup, 1) := dk_89 (dk_at dksX2_from_0 4 rfl rfl)
theorem dX2_from_5 : decode cX2_from 5 = .ok (.invokespecial 64, 3) := dk_183 0 64 (dk_at dksX2_from_0 5 rfl rfl)
theorem dX2_from_8 : decode cX2_from 8 = .ok (.iload_n 1, 1) := dk_27 (dk_at dksX2_from_0 8 rfl rfl)
theorem dX2_from_9 : decode cX2_from 9 = .ok (.invokevirtual 65, 3) := dk_182 0 65 (dk_at dksX2_from_0 9 rfl rfl)
theorem dX2_from_12 : decode cX2_from 12 = .ok (.ldc 69, 2) := dk_18 69 (dk_at dksX2_from_0 12 rfl rfl)
theorem dX2_from_14 : decode cX2_from 14 = .ok (.invokevirtual 71, 3) := dk_182 0 71 (dk_at dksX2_from_0 14 rfl rfl)
theorem dX2_from_17 : decode cX2_from 17 = .ok (.iload_n 2, 1) := dk_28 (dk_at dksX2_from_0 17 rfl rfl)
theorem dX2_from_18 : decode cX2_from 18 = .ok (.invokevirtual 65, 3) := dk_182 0 65 (dk_at dksX2_from_0 18 rfl rfl)
theorem dX2_from_21 : decode cX2_from 21 = .ok (.invokevirtual 74, 3) := dk_182 0 74 (dk_at dksX2_from_0 21 rfl rfl)
theorem dX2_from_24 : decode cX2_from 24 = .ok (.aload_n 0, 1) := dk_42 (dk_at dksX2_from_1 0 rfl rfl)
theorem dX2_from_25 : decode cX2_from 25 = .ok (.iload_n 1, 1) := dk_27 (dk_at dksX2_from_1 1 rfl rfl)
theorem dX2_from_26 : decode cX2_from 26 = .ok (.invokevirtual 78, 3) := dk_182 0 78 (dk_at dksX2_from_1 2 rfl rfl)
theorem dX2_from_29 : decode cX2_from 29 = .ok (.iload_n 2, 1) := dk_28 (dk_at dksX2_from_1 5 rfl rfl)
theorem dX2_from_30 : decode cX2_from 30 = .ok (.invokestatic 38, 3) := dk_184 0 38 (dk_at dksX2_from_1 6 rfl rfl)
theorem dX2_from_33 : decode cX2_from 33 = .ok (.iload_n 1, 1) := dk_27 (dk_at dksX2_from_1 9 rfl rfl)
theorem dX2_from_34 : decode cX2_from 34 = .ok (.iconst (-1), 1) := dk_2 (dk_at dksX2_from_1 10 rfl rfl)
theorem dX2_from_35 : decode cX2_from 35 = .ok (.invokevirtual 81, 3) := dk_182 0 81 (dk_at dksX2_from_1 11 rfl rfl)
theorem dX2_from_38 : decode cX2_from 38 = .ok (.ireturn, 1) := dk_172 (dk_at dksX2_from_1 14 rfl rfl)
abbrev cX2_noted : ByteArray := prog_3_method_6_code
def yX2_noted : MethodName := ⟨RX2, "noted", "(Ljava/lang/String;III)I"⟩
def dkwX2_noted_3 : List UInt8 := [180, 0, 12, 185, 0, 51, 1, 0, 4, 100, 172]
abbrev dktX2_noted_3 : List UInt8 := dkwX2_noted_3 ++ []
def dkwX2_noted_2 : List UInt8 := [180, 0, 21, 43, 42, 180, 0, 12, 185, 0, 51, 1, 0, 4, 100, 184, 0, 93, 182, 0, 97, 87, 42]
abbrev dktX2_noted_2 : List UInt8 := dkwX2_noted_2 ++ dktX2_noted_3
def dkwX2_noted_1 : List UInt8 := [42, 180, 0, 12, 187, 0, 36, 89, 28, 29, 21, 4, 183, 0, 42, 185, 0, 45, 2, 0, 87, 42]
abbrev dktX2_noted_1 : List UInt8 := dkwX2_noted_1 ++ dktX2_noted_2
def dkwX2_noted_0 : List UInt8 := [42, 180, 0, 21, 43, 182, 0, 85, 192, 0, 88, 58, 5, 25, 5, 198, 0, 9, 25, 5, 182, 0, 90, 172]
abbrev dktX2_noted_0 : List UInt8 := dkwX2_noted_0 ++ dktX2_noted_1
theorem dksX2_noted_0 : cX2_noted.data.toList.drop 0 = dktX2_noted_0 := by decide +kernel
theorem dksX2_noted_1 : cX2_noted.data.toList.drop 24 = dktX2_noted_1 := dk_seg dksX2_noted_0 24 rfl rfl
theorem dksX2_noted_2 : cX2_noted.data.toList.drop 46 = dktX2_noted_2 := dk_seg dksX2_noted_1 22 rfl rfl
theorem dksX2_noted_3 : cX2_noted.data.toList.drop 69 = dktX2_noted_3 := dk_seg dksX2_noted_2 23 rfl rfl
theorem dX2_noted_0 : decode cX2_noted 0 = .ok (.aload_n 0, 1) := dk_42 (dk_at dksX2_noted_0 0 rfl rfl)
theorem dX2_noted_1 : decode cX2_noted 1 = .ok (.getfield 21, 3) := dk_180 0 21 (dk_at dksX2_noted_0 1 rfl rfl)
theorem dX2_noted_4 : decode cX2_noted 4 = .ok (.aload_n 1, 1) := dk_43 (dk_at dksX2_noted_0 4 rfl rfl)
theorem dX2_noted_5 : decode cX2_noted 5 = .ok (.invokevirtual 85, 3) := dk_182 0 85 (dk_at dksX2_noted_0 5 rfl rfl)
theorem dX2_noted_8 : decode cX2_noted 8 = .ok (.checkcast 88, 3) := dk_192 0 88 (dk_at dksX2_noted_0 8 rfl rfl)
theorem dX2_noted_11 : decode cX2_noted 11 = .ok (.astore 5, 2) := dk_58 5 (dk_at dksX2_noted_0 11 rfl rfl)
theorem dX2_noted_13 : decode cX2_noted 13 = .ok (.aload 5, 2) := dk_25 5 (dk_at dksX2_noted_0 13 rfl rfl)
theorem dX2_noted_15 : decode cX2_noted 15 = .ok (.ifnull 9, 3) := dk_198 0 9 (dk_at dksX2_noted_0 15 rfl rfl)
theorem dX2_noted_18 : decode cX2_noted 18 = .ok (.aload 5, 2) := dk_25 5 (dk_at dksX2_noted_0 18 rfl rfl)
theorem dX2_noted_20 : decode cX2_noted 20 = .ok (.invokevirtual 90, 3) := dk_182 0 90 (dk_at dksX2_noted_0 20 rfl rfl)
theorem dX2_noted_23 : decode cX2_noted 23 = .ok (.ireturn, 1) := dk_172 (dk_at dksX2_noted_0 23 rfl rfl)
theorem dX2_noted_24 : decode cX2_noted 24 = .ok (.aload_n 0, 1) := dk_42 (dk_at dksX2_noted_1 0 rfl rfl)
theorem dX2_noted_25 : decode cX2_noted 25 = .ok (.getfield 12, 3) := dk_180 0 12 (dk_at dksX2_noted_1 1 rfl rfl)
theorem dX2_noted_28 : decode cX2_noted 28 = .ok (.new 36, 3) := dk_187 0 36 (dk_at dksX2_noted_1 4 rfl rfl)
theorem dX2_noted_31 : decode cX2_noted 31 = .ok (.dup, 1) := dk_89 (dk_at dksX2_noted_1 7 rfl rfl)
theorem dX2_noted_32 : decode cX2_noted 32 = .ok (.iload_n 2, 1) := dk_28 (dk_at dksX2_noted_1 8 rfl rfl)
theorem dX2_noted_33 : decode cX2_noted 33 = .ok (.iload_n 3, 1) := dk_29 (dk_at dksX2_noted_1 9 rfl rfl)
theorem dX2_noted_34 : decode cX2_noted 34 = .ok (.iload 4, 2) := dk_21 4 (dk_at dksX2_noted_1 10 rfl rfl)
theorem dX2_noted_36 : decode cX2_noted 36 = .ok (.invokespecial 42, 3) := dk_183 0 42 (dk_at dksX2_noted_1 12 rfl rfl)
theorem dX2_noted_39 : decode cX2_noted 39 = .ok (.invokeinterface 45 2, 5) := by decide +kernel
theorem dX2_noted_44 : decode cX2_noted 44 = .ok (.pop, 1) := dk_87 (dk_at dksX2_noted_1 20 rfl rfl)
theorem dX2_noted_45 : decode cX2_noted 45 = .ok (.aload_n 0, 1) := dk_42 (dk_at dksX2_noted_1 21 rfl rfl)
theorem dX2_noted_46 : decode cX2_noted 46 = .ok (.getfield 21, 3) := dk_180 0 21 (dk_at dksX2_noted_2 0 rfl rfl)
theorem dX2_noted_49 : decode cX2_noted 49 = .ok (.aload_n 1, 1) := dk_43 (dk_at dksX2_noted_2 3 rfl rfl)
theorem dX2_noted_50 : decode cX2_noted 50 = .ok (.aload_n 0, 1) := dk_42 (dk_at dksX2_noted_2 4 rfl rfl)
theorem dX2_noted_51 : decode cX2_noted 51 = .ok (.getfield 12, 3) := dk_180 0 12 (dk_at dksX2_noted_2 5 rfl rfl)
theorem dX2_noted_54 : decode cX2_noted 54 = .ok (.invokeinterface 51 1, 5) := by decide +kernel
theorem dX2_noted_59 : decode cX2_noted 59 = .ok (.iconst 1, 1) := dk_4 (dk_at dksX2_noted_2 13 rfl rfl)
theorem dX2_noted_60 : decode cX2_noted 60 = .ok (.isub, 1) := dk_100 (dk_at dksX2_noted_2 14 rfl rfl)
theorem dX2_noted_61 : decode cX2_noted 61 = .ok (.invokestatic 93, 3) := dk_184 0 93 (dk_at dksX2_noted_2 15 rfl rfl)
theorem dX2_noted_64 : decode cX2_noted 64 = .ok (.invokevirtual 97, 3) := dk_182 0 97 (dk_at dksX2_noted_2 18 rfl rfl)
theorem dX2_noted_67 : decode cX2_noted 67 = .ok (.pop, 1) := dk_87 (dk_at dksX2_noted_2 21 rfl rfl)
theorem dX2_noted_68 : decode cX2_noted 68 = .ok (.aload_n 0, 1) := dk_42 (dk_at dksX2_noted_2 22 rfl rfl)
theorem dX2_noted_69 : decode cX2_noted 69 = .ok (.getfield 12, 3) := dk_180 0 12 (dk_at dksX2_noted_3 0 rfl rfl)
theorem dX2_noted_72 : decode cX2_noted 72 = .ok (.invokeinterface 51 1, 5) := by decide +kernel
theorem dX2_noted_77 : decode cX2_noted 77 = .ok (.iconst 1, 1) := dk_4 (dk_at dksX2_noted_3 8 rfl rfl)
theorem dX2_noted_78 : decode cX2_noted 78 = .ok (.isub, 1) := dk_100 (dk_at dksX2_noted_3 9 rfl rfl)
theorem dX2_noted_79 : decode cX2_noted 79 = .ok (.ireturn, 1) := dk_172 (dk_at dksX2_noted_3 10 rfl rfl)
abbrev cX2_draw : ByteArray := prog_3_method_2_code
def yX2_draw : MethodName := ⟨RX2, "draw", "()I"⟩
def dkwX2_draw_2 : List UInt8 := [185, 0, 51, 1, 0, 4, 100, 172]
abbrev dktX2_draw_2 : List UInt8 := dkwX2_draw_2 ++ []
def dkwX2_draw_1 : List UInt8 := [180, 0, 31, 4, 184, 0, 38, 2, 2, 183, 0, 42, 185, 0, 45, 2, 0, 87, 42, 180, 0, 12]
abbrev dktX2_draw_1 : List UInt8 := dkwX2_draw_1 ++ dktX2_draw_2
def dkwX2_draw_0 : List UInt8 := [42, 42, 180, 0, 31, 18, 35, 104, 17, 48, 57, 96, 181, 0, 31, 42, 180, 0, 12, 187, 0, 36, 89, 42]
abbrev dktX2_draw_0 : List UInt8 := dkwX2_draw_0 ++ dktX2_draw_1
theorem dksX2_draw_0 : cX2_draw.data.toList.drop 0 = dktX2_draw_0 := by decide +kernel
theorem dksX2_draw_1 : cX2_draw.data.toList.drop 24 = dktX2_draw_1 := dk_seg dksX2_draw_0 24 rfl rfl
theorem dksX2_draw_2 : cX2_draw.data.toList.drop 46 = dktX2_draw_2 := dk_seg dksX2_draw_1 22 rfl rfl
theorem dX2_draw_0 : decode cX2_draw 0 = .ok (.aload_n 0, 1) := dk_42 (dk_at dksX2_draw_0 0 rfl rfl)
theorem dX2_draw_1 : decode cX2_draw 1 = .ok (.aload_n 0, 1) := dk_42 (dk_at dksX2_draw_0 1 rfl rfl)
theorem dX2_draw_2 : decode cX2_draw 2 = .ok (.getfield 31, 3) := dk_180 0 31 (dk_at dksX2_draw_0 2 rfl rfl)
theorem dX2_draw_5 : decode cX2_draw 5 = .ok (.ldc 35, 2) := dk_18 35 (dk_at dksX2_draw_0 5 rfl rfl)
theorem dX2_draw_7 : decode cX2_draw 7 = .ok (.imul, 1) := dk_104 (dk_at dksX2_draw_0 7 rfl rfl)
theorem dX2_draw_8 : decode cX2_draw 8 = .ok (.sipush 12345, 3) := dk_17 48 57 (dk_at dksX2_draw_0 8 rfl rfl)
theorem dX2_draw_11 : decode cX2_draw 11 = .ok (.iadd, 1) := dk_96 (dk_at dksX2_draw_0 11 rfl rfl)
theorem dX2_draw_12 : decode cX2_draw 12 = .ok (.putfield 31, 3) := dk_181 0 31 (dk_at dksX2_draw_0 12 rfl rfl)
theorem dX2_draw_15 : decode cX2_draw 15 = .ok (.aload_n 0, 1) := dk_42 (dk_at dksX2_draw_0 15 rfl rfl)
theorem dX2_draw_16 : decode cX2_draw 16 = .ok (.getfield 12, 3) := dk_180 0 12 (dk_at dksX2_draw_0 16 rfl rfl)
theorem dX2_draw_19 : decode cX2_draw 19 = .ok (.new 36, 3) := dk_187 0 36 (dk_at dksX2_draw_0 19 rfl rfl)
theorem dX2_draw_22 : decode cX2_draw 22 = .ok (.dup, 1) := dk_89 (dk_at dksX2_draw_0 22 rfl rfl)
theorem dX2_draw_23 : decode cX2_draw 23 = .ok (.aload_n 0, 1) := dk_42 (dk_at dksX2_draw_0 23 rfl rfl)
theorem dX2_draw_24 : decode cX2_draw 24 = .ok (.getfield 31, 3) := dk_180 0 31 (dk_at dksX2_draw_1 0 rfl rfl)
theorem dX2_draw_27 : decode cX2_draw 27 = .ok (.iconst 1, 1) := dk_4 (dk_at dksX2_draw_1 3 rfl rfl)
theorem dX2_draw_28 : decode cX2_draw 28 = .ok (.invokestatic 38, 3) := dk_184 0 38 (dk_at dksX2_draw_1 4 rfl rfl)
theorem dX2_draw_31 : decode cX2_draw 31 = .ok (.iconst (-1), 1) := dk_2 (dk_at dksX2_draw_1 7 rfl rfl)
theorem dX2_draw_32 : decode cX2_draw 32 = .ok (.iconst (-1), 1) := dk_2 (dk_at dksX2_draw_1 8 rfl rfl)
theorem dX2_draw_33 : decode cX2_draw 33 = .ok (.invokespecial 42, 3) := dk_183 0 42 (dk_at dksX2_draw_1 9 rfl rfl)
theorem dX2_draw_36 : decode cX2_draw 36 = .ok (.invokeinterface 45 2, 5) := by decide +kernel
theorem dX2_draw_41 : decode cX2_draw 41 = .ok (.pop, 1) := dk_87 (dk_at dksX2_draw_1 17 rfl rfl)
theorem dX2_draw_42 : decode cX2_draw 42 = .ok (.aload_n 0, 1) := dk_42 (dk_at dksX2_draw_1 18 rfl rfl)
theorem dX2_draw_43 : decode cX2_draw 43 = .ok (.getfield 12, 3) := dk_180 0 12 (dk_at dksX2_draw_1 19 rfl rfl)
theorem dX2_draw_46 : decode cX2_draw 46 = .ok (.invokeinterface 51 1, 5) := by decide +kernel
theorem dX2_draw_51 : decode cX2_draw 51 = .ok (.iconst 1, 1) := dk_4 (dk_at dksX2_draw_2 5 rfl rfl)
theorem dX2_draw_52 : decode cX2_draw 52 = .ok (.isub, 1) := dk_100 (dk_at dksX2_draw_2 6 rfl rfl)
theorem dX2_draw_53 : decode cX2_draw 53 = .ok (.ireturn, 1) := dk_172 (dk_at dksX2_draw_2 7 rfl rfl)
abbrev cX2_box : ByteArray := prog_3_method_7_code
def yX2_box : MethodName := ⟨RX2, "box", "(II)V"⟩
def dkwX2_box_1 : List UInt8 := [185, 0, 45, 2, 0, 87, 177]
abbrev dktX2_box_1 : List UInt8 := dkwX2_box_1 ++ []
def dkwX2_box_0 : List UInt8 := [42, 180, 0, 25, 27, 184, 0, 93, 185, 0, 45, 2, 0, 87, 42, 180, 0, 28, 28, 184, 0, 93]
abbrev dktX2_box_0 : List UInt8 := dkwX2_box_0 ++ dktX2_box_1
theorem dksX2_box_0 : cX2_box.data.toList.drop 0 = dktX2_box_0 := by decide +kernel
theorem dksX2_box_1 : cX2_box.data.toList.drop 22 = dktX2_box_1 := dk_seg dksX2_box_0 22 rfl rfl
theorem dX2_box_0 : decode cX2_box 0 = .ok (.aload_n 0, 1) := dk_42 (dk_at dksX2_box_0 0 rfl rfl)
theorem dX2_box_1 : decode cX2_box 1 = .ok (.getfield 25, 3) := dk_180 0 25 (dk_at dksX2_box_0 1 rfl rfl)
theorem dX2_box_4 : decode cX2_box 4 = .ok (.iload_n 1, 1) := dk_27 (dk_at dksX2_box_0 4 rfl rfl)
theorem dX2_box_5 : decode cX2_box 5 = .ok (.invokestatic 93, 3) := dk_184 0 93 (dk_at dksX2_box_0 5 rfl rfl)
theorem dX2_box_8 : decode cX2_box 8 = .ok (.invokeinterface 45 2, 5) := by decide +kernel
theorem dX2_box_13 : decode cX2_box 13 = .ok (.pop, 1) := dk_87 (dk_at dksX2_box_0 13 rfl rfl)
theorem dX2_box_14 : decode cX2_box 14 = .ok (.aload_n 0, 1) := dk_42 (dk_at dksX2_box_0 14 rfl rfl)
theorem dX2_box_15 : decode cX2_box 15 = .ok (.getfield 28, 3) := dk_180 0 28 (dk_at dksX2_box_0 15 rfl rfl)
theorem dX2_box_18 : decode cX2_box 18 = .ok (.iload_n 2, 1) := dk_28 (dk_at dksX2_box_0 18 rfl rfl)
theorem dX2_box_19 : decode cX2_box 19 = .ok (.invokestatic 93, 3) := dk_184 0 93 (dk_at dksX2_box_0 19 rfl rfl)
theorem dX2_box_22 : decode cX2_box 22 = .ok (.invokeinterface 45 2, 5) := by decide +kernel
theorem dX2_box_27 : decode cX2_box 27 = .ok (.pop, 1) := dk_87 (dk_at dksX2_box_1 5 rfl rfl)
theorem dX2_box_28 : decode cX2_box 28 = .ok (.return_, 1) := dk_177 (dk_at dksX2_box_1 6 rfl rfl)
abbrev cX2_from_2 : ByteArray := prog_3_method_5_code
def yX2_from_2 : MethodName := ⟨RX2, "from", "(III)I"⟩
def dkwX2_from_2_2 : List UInt8 := [184, 0, 38, 27, 28, 182, 0, 81, 172]
abbrev dktX2_from_2_2 : List UInt8 := dkwX2_from_2_2 ++ []
def dkwX2_from_2_1 : List UInt8 := [182, 0, 71, 29, 182, 0, 65, 182, 0, 74, 42, 27, 182, 0, 78, 42, 28, 182, 0, 78, 184, 0, 38, 29]
abbrev dktX2_from_2_1 : List UInt8 := dkwX2_from_2_1 ++ dktX2_from_2_2
def dkwX2_from_2_0 : List UInt8 := [42, 187, 0, 62, 89, 183, 0, 64, 27, 182, 0, 65, 18, 69, 182, 0, 71, 28, 182, 0, 65, 18, 69]
abbrev dktX2_from_2_0 : List UInt8 := dkwX2_from_2_0 ++ dktX2_from_2_1
theorem dksX2_from_2_0 : cX2_from_2.data.toList.drop 0 = dktX2_from_2_0 := by decide +kernel
theorem dksX2_from_2_1 : cX2_from_2.data.toList.drop 23 = dktX2_from_2_1 := dk_seg dksX2_from_2_0 23 rfl rfl
theorem dksX2_from_2_2 : cX2_from_2.data.toList.drop 47 = dktX2_from_2_2 := dk_seg dksX2_from_2_1 24 rfl rfl
theorem dX2_from_2_0 : decode cX2_from_2 0 = .ok (.aload_n 0, 1) := dk_42 (dk_at dksX2_from_2_0 0 rfl rfl)
theorem dX2_from_2_1 : decode cX2_from_2 1 = .ok (.new 62, 3) := dk_187 0 62 (dk_at dksX2_from_2_0 1 rfl rfl)
theorem dX2_from_2_4 : decode cX2_from_2 4 = .ok (.dup, 1) := dk_89 (dk_at dksX2_from_2_0 4 rfl rfl)
theorem dX2_from_2_5 : decode cX2_from_2 5 = .ok (.invokespecial 64, 3) := dk_183 0 64 (dk_at dksX2_from_2_0 5 rfl rfl)
theorem dX2_from_2_8 : decode cX2_from_2 8 = .ok (.iload_n 1, 1) := dk_27 (dk_at dksX2_from_2_0 8 rfl rfl)
theorem dX2_from_2_9 : decode cX2_from_2 9 = .ok (.invokevirtual 65, 3) := dk_182 0 65 (dk_at dksX2_from_2_0 9 rfl rfl)
theorem dX2_from_2_12 : decode cX2_from_2 12 = .ok (.ldc 69, 2) := dk_18 69 (dk_at dksX2_from_2_0 12 rfl rfl)
theorem dX2_from_2_14 : decode cX2_from_2 14 = .ok (.invokevirtual 71, 3) := dk_182 0 71 (dk_at dksX2_from_2_0 14 rfl rfl)
theorem dX2_from_2_17 : decode cX2_from_2 17 = .ok (.iload_n 2, 1) := dk_28 (dk_at dksX2_from_2_0 17 rfl rfl)
theorem dX2_from_2_18 : decode cX2_from_2 18 = .ok (.invokevirtual 65, 3) := dk_182 0 65 (dk_at dksX2_from_2_0 18 rfl rfl)
theorem dX2_from_2_21 : decode cX2_from_2 21 = .ok (.ldc 69, 2) := dk_18 69 (dk_at dksX2_from_2_0 21 rfl rfl)
theorem dX2_from_2_23 : decode cX2_from_2 23 = .ok (.invokevirtual 71, 3) := dk_182 0 71 (dk_at dksX2_from_2_1 0 rfl rfl)
theorem dX2_from_2_26 : decode cX2_from_2 26 = .ok (.iload_n 3, 1) := dk_29 (dk_at dksX2_from_2_1 3 rfl rfl)
theorem dX2_from_2_27 : decode cX2_from_2 27 = .ok (.invokevirtual 65, 3) := dk_182 0 65 (dk_at dksX2_from_2_1 4 rfl rfl)
theorem dX2_from_2_30 : decode cX2_from_2 30 = .ok (.invokevirtual 74, 3) := dk_182 0 74 (dk_at dksX2_from_2_1 7 rfl rfl)
theorem dX2_from_2_33 : decode cX2_from_2 33 = .ok (.aload_n 0, 1) := dk_42 (dk_at dksX2_from_2_1 10 rfl rfl)
theorem dX2_from_2_34 : decode cX2_from_2 34 = .ok (.iload_n 1, 1) := dk_27 (dk_at dksX2_from_2_1 11 rfl rfl)
theorem dX2_from_2_35 : decode cX2_from_2 35 = .ok (.invokevirtual 78, 3) := dk_182 0 78 (dk_at dksX2_from_2_1 12 rfl rfl)
theorem dX2_from_2_38 : decode cX2_from_2 38 = .ok (.aload_n 0, 1) := dk_42 (dk_at dksX2_from_2_1 15 rfl rfl)
theorem dX2_from_2_39 : decode cX2_from_2 39 = .ok (.iload_n 2, 1) := dk_28 (dk_at dksX2_from_2_1 16 rfl rfl)
theorem dX2_from_2_40 : decode cX2_from_2 40 = .ok (.invokevirtual 78, 3) := dk_182 0 78 (dk_at dksX2_from_2_1 17 rfl rfl)
theorem dX2_from_2_43 : decode cX2_from_2 43 = .ok (.invokestatic 38, 3) := dk_184 0 38 (dk_at dksX2_from_2_1 20 rfl rfl)
theorem dX2_from_2_46 : decode cX2_from_2 46 = .ok (.iload_n 3, 1) := dk_29 (dk_at dksX2_from_2_1 23 rfl rfl)
theorem dX2_from_2_47 : decode cX2_from_2 47 = .ok (.invokestatic 38, 3) := dk_184 0 38 (dk_at dksX2_from_2_2 0 rfl rfl)
theorem dX2_from_2_50 : decode cX2_from_2 50 = .ok (.iload_n 1, 1) := dk_27 (dk_at dksX2_from_2_2 3 rfl rfl)
theorem dX2_from_2_51 : decode cX2_from_2 51 = .ok (.iload_n 2, 1) := dk_28 (dk_at dksX2_from_2_2 4 rfl rfl)
theorem dX2_from_2_52 : decode cX2_from_2 52 = .ok (.invokevirtual 81, 3) := dk_182 0 81 (dk_at dksX2_from_2_2 5 rfl rfl)
theorem dX2_from_2_55 : decode cX2_from_2 55 = .ok (.ireturn, 1) := dk_172 (dk_at dksX2_from_2_2 8 rfl rfl)
abbrev cX2_opened : ByteArray := prog_3_method_8_code
def yX2_opened : MethodName := ⟨RX2, "opened", "(III)I"⟩
def dkwX2_opened_4 : List UInt8 := [192, 0, 88, 182, 0, 90, 172, 132, 6, 1, 167, 255, 199, 2, 172]
abbrev dktX2_opened_4 : List UInt8 := dkwX2_opened_4 ++ []
def dkwX2_opened_3 : List UInt8 := [182, 0, 90, 25, 5, 182, 0, 90, 160, 0, 21, 42, 180, 0, 28, 21, 6, 185, 0, 55, 2, 0]
abbrev dktX2_opened_3 : List UInt8 := dkwX2_opened_3 ++ dktX2_opened_4
def dkwX2_opened_2 : List UInt8 := [162, 0, 57, 25, 5, 198, 0, 52, 42, 180, 0, 25, 21, 6, 185, 0, 55, 2, 0, 192, 0, 88]
abbrev dktX2_opened_2 : List UInt8 := dkwX2_opened_2 ++ dktX2_opened_3
def dkwX2_opened_1 : List UInt8 := [58, 4, 42, 180, 0, 21, 25, 4, 182, 0, 85, 192, 0, 88, 58, 5, 27, 54, 6, 21, 6, 28]
abbrev dktX2_opened_1 : List UInt8 := dkwX2_opened_1 ++ dktX2_opened_2
def dkwX2_opened_0 : List UInt8 := [187, 0, 62, 89, 183, 0, 64, 29, 182, 0, 65, 18, 69, 182, 0, 71, 4, 182, 0, 65, 182, 0, 74]
abbrev dktX2_opened_0 : List UInt8 := dkwX2_opened_0 ++ dktX2_opened_1
theorem dksX2_opened_0 : cX2_opened.data.toList.drop 0 = dktX2_opened_0 := by decide +kernel
theorem dksX2_opened_1 : cX2_opened.data.toList.drop 23 = dktX2_opened_1 := dk_seg dksX2_opened_0 23 rfl rfl
theorem dksX2_opened_2 : cX2_opened.data.toList.drop 45 = dktX2_opened_2 := dk_seg dksX2_opened_1 22 rfl rfl
theorem dksX2_opened_3 : cX2_opened.data.toList.drop 67 = dktX2_opened_3 := dk_seg dksX2_opened_2 22 rfl rfl
theorem dksX2_opened_4 : cX2_opened.data.toList.drop 89 = dktX2_opened_4 := dk_seg dksX2_opened_3 22 rfl rfl
theorem dX2_opened_0 : decode cX2_opened 0 = .ok (.new 62, 3) := dk_187 0 62 (dk_at dksX2_opened_0 0 rfl rfl)
theorem dX2_opened_3 : decode cX2_opened 3 = .ok (.dup, 1) := dk_89 (dk_at dksX2_opened_0 3 rfl rfl)
theorem dX2_opened_4 : decode cX2_opened 4 = .ok (.invokespecial 64, 3) := dk_183 0 64 (dk_at dksX2_opened_0 4 rfl rfl)
theorem dX2_opened_7 : decode cX2_opened 7 = .ok (.iload_n 3, 1) := dk_29 (dk_at dksX2_opened_0 7 rfl rfl)
theorem dX2_opened_8 : decode cX2_opened 8 = .ok (.invokevirtual 65, 3) := dk_182 0 65 (dk_at dksX2_opened_0 8 rfl rfl)
theorem dX2_opened_11 : decode cX2_opened 11 = .ok (.ldc 69, 2) := dk_18 69 (dk_at dksX2_opened_0 11 rfl rfl)
theorem dX2_opened_13 : decode cX2_opened 13 = .ok (.invokevirtual 71, 3) := dk_182 0 71 (dk_at dksX2_opened_0 13 rfl rfl)
theorem dX2_opened_16 : decode cX2_opened 16 = .ok (.iconst 1, 1) := dk_4 (dk_at dksX2_opened_0 16 rfl rfl)
theorem dX2_opened_17 : decode cX2_opened 17 = .ok (.invokevirtual 65, 3) := dk_182 0 65 (dk_at dksX2_opened_0 17 rfl rfl)
theorem dX2_opened_20 : decode cX2_opened 20 = .ok (.invokevirtual 74, 3) := dk_182 0 74 (dk_at dksX2_opened_0 20 rfl rfl)
theorem dX2_opened_23 : decode cX2_opened 23 = .ok (.astore 4, 2) := dk_58 4 (dk_at dksX2_opened_1 0 rfl rfl)
theorem dX2_opened_25 : decode cX2_opened 25 = .ok (.aload_n 0, 1) := dk_42 (dk_at dksX2_opened_1 2 rfl rfl)
theorem dX2_opened_26 : decode cX2_opened 26 = .ok (.getfield 21, 3) := dk_180 0 21 (dk_at dksX2_opened_1 3 rfl rfl)
theorem dX2_opened_29 : decode cX2_opened 29 = .ok (.aload 4, 2) := dk_25 4 (dk_at dksX2_opened_1 6 rfl rfl)
theorem dX2_opened_31 : decode cX2_opened 31 = .ok (.invokevirtual 85, 3) := dk_182 0 85 (dk_at dksX2_opened_1 8 rfl rfl)
theorem dX2_opened_34 : decode cX2_opened 34 = .ok (.checkcast 88, 3) := dk_192 0 88 (dk_at dksX2_opened_1 11 rfl rfl)
theorem dX2_opened_37 : decode cX2_opened 37 = .ok (.astore 5, 2) := dk_58 5 (dk_at dksX2_opened_1 14 rfl rfl)
theorem dX2_opened_39 : decode cX2_opened 39 = .ok (.iload_n 1, 1) := dk_27 (dk_at dksX2_opened_1 16 rfl rfl)
theorem dX2_opened_40 : decode cX2_opened 40 = .ok (.istore 6, 2) := dk_54 6 (dk_at dksX2_opened_1 17 rfl rfl)
theorem dX2_opened_42 : decode cX2_opened 42 = .ok (.iload 6, 2) := dk_21 6 (dk_at dksX2_opened_1 19 rfl rfl)
theorem dX2_opened_44 : decode cX2_opened 44 = .ok (.iload_n 2, 1) := dk_28 (dk_at dksX2_opened_1 21 rfl rfl)
theorem dX2_opened_45 : decode cX2_opened 45 = .ok (.if_icmp .ge 57, 3) := dk_162 0 57 (dk_at dksX2_opened_2 0 rfl rfl)
theorem dX2_opened_48 : decode cX2_opened 48 = .ok (.aload 5, 2) := dk_25 5 (dk_at dksX2_opened_2 3 rfl rfl)
theorem dX2_opened_50 : decode cX2_opened 50 = .ok (.ifnull 52, 3) := dk_198 0 52 (dk_at dksX2_opened_2 5 rfl rfl)
theorem dX2_opened_53 : decode cX2_opened 53 = .ok (.aload_n 0, 1) := dk_42 (dk_at dksX2_opened_2 8 rfl rfl)
theorem dX2_opened_54 : decode cX2_opened 54 = .ok (.getfield 25, 3) := dk_180 0 25 (dk_at dksX2_opened_2 9 rfl rfl)
theorem dX2_opened_57 : decode cX2_opened 57 = .ok (.iload 6, 2) := dk_21 6 (dk_at dksX2_opened_2 12 rfl rfl)
theorem dX2_opened_59 : decode cX2_opened 59 = .ok (.invokeinterface 55 2, 5) := by decide +kernel
theorem dX2_opened_64 : decode cX2_opened 64 = .ok (.checkcast 88, 3) := dk_192 0 88 (dk_at dksX2_opened_2 19 rfl rfl)
theorem dX2_opened_67 : decode cX2_opened 67 = .ok (.invokevirtual 90, 3) := dk_182 0 90 (dk_at dksX2_opened_3 0 rfl rfl)
theorem dX2_opened_70 : decode cX2_opened 70 = .ok (.aload 5, 2) := dk_25 5 (dk_at dksX2_opened_3 3 rfl rfl)
theorem dX2_opened_72 : decode cX2_opened 72 = .ok (.invokevirtual 90, 3) := dk_182 0 90 (dk_at dksX2_opened_3 5 rfl rfl)
theorem dX2_opened_75 : decode cX2_opened 75 = .ok (.if_icmp .ne 21, 3) := dk_160 0 21 (dk_at dksX2_opened_3 8 rfl rfl)
theorem dX2_opened_78 : decode cX2_opened 78 = .ok (.aload_n 0, 1) := dk_42 (dk_at dksX2_opened_3 11 rfl rfl)
theorem dX2_opened_79 : decode cX2_opened 79 = .ok (.getfield 28, 3) := dk_180 0 28 (dk_at dksX2_opened_3 12 rfl rfl)
theorem dX2_opened_82 : decode cX2_opened 82 = .ok (.iload 6, 2) := dk_21 6 (dk_at dksX2_opened_3 15 rfl rfl)
theorem dX2_opened_84 : decode cX2_opened 84 = .ok (.invokeinterface 55 2, 5) := by decide +kernel
theorem dX2_opened_89 : decode cX2_opened 89 = .ok (.checkcast 88, 3) := dk_192 0 88 (dk_at dksX2_opened_4 0 rfl rfl)
theorem dX2_opened_92 : decode cX2_opened 92 = .ok (.invokevirtual 90, 3) := dk_182 0 90 (dk_at dksX2_opened_4 3 rfl rfl)
theorem dX2_opened_95 : decode cX2_opened 95 = .ok (.ireturn, 1) := dk_172 (dk_at dksX2_opened_4 6 rfl rfl)
theorem dX2_opened_96 : decode cX2_opened 96 = .ok (.iinc 6 1, 3) := dk_132 6 1 (dk_at dksX2_opened_4 7 rfl rfl)
theorem dX2_opened_99 : decode cX2_opened 99 = .ok (.goto (-57), 3) := dk_167 255 199 (dk_at dksX2_opened_4 10 rfl rfl)
theorem dX2_opened_102 : decode cX2_opened 102 = .ok (.iconst (-1), 1) := dk_2 (dk_at dksX2_opened_4 13 rfl rfl)
theorem dX2_opened_103 : decode cX2_opened 103 = .ok (.ireturn, 1) := dk_172 (dk_at dksX2_opened_4 14 rfl rfl)
theorem q78 : (Jvm.Cond.initialized "Keygrove$Book") ∈ lw_all := lw_g (lw_at lw_m1 2 rfl) rfl
theorem q160 : (Jvm.Cond.instantiable "Keygrove$Book" (5 : Nat)) ∈ lw_all := lw_g (lw_at lw_m1 84 rfl) rfl
theorem q162 : (Jvm.Cond.instanceMethod ({ cls := "Keygrove$Book", name := "<init>", desc := "()V" } : Jvm.MethodName)) ∈ lw_all := lw_g (lw_at lw_m1 86 rfl) rfl
theorem q163 : (Jvm.Cond.code ({ cls := "Keygrove$Book", name := "<init>", desc := "()V" } : Jvm.MethodName) prog_3_method_1_code (1 : Nat) (Option.none : Option Jvm.ClassFile.FieldType)) ∈ lw_all := lw_g (lw_at lw_m1 87 rfl) rfl
theorem q164 : (Jvm.Cond.methodLink "Keygrove$Book" (3 : Nat) ({ cls := "java/lang/Object", name := "<init>", desc := "()V" } : Jvm.MethodName)) ∈ lw_all := lw_g (lw_at lw_m1 88 rfl) rfl
theorem q165 : (Jvm.Cond.classLink "Keygrove$Book" (9 : Nat) "java/util/ArrayList") ∈ lw_all := lw_g (lw_at lw_m1 89 rfl) rfl
theorem q167 : (Jvm.Cond.methodLink "Keygrove$Book" (11 : Nat) ({ cls := "java/util/ArrayList", name := "<init>", desc := "()V" } : Jvm.MethodName)) ∈ lw_all := lw_g (lw_at lw_m1 91 rfl) rfl
theorem q194 : (Jvm.Cond.classLink "Keygrove$Book" (18 : Nat) "java/util/HashMap") ∈ lw_all := lw_g (lw_at lw_m1 118 rfl) rfl
theorem q196 : (Jvm.Cond.methodLink "Keygrove$Book" (20 : Nat) ({ cls := "java/util/HashMap", name := "<init>", desc := "()V" } : Jvm.MethodName)) ∈ lw_all := lw_g (lw_at lw_m1 120 rfl) rfl
theorem q232 : (Jvm.Cond.fieldLink "Keygrove$Book" (12 : Nat) "Keygrove$Book" "all" "Ljava/util/List;") ∈ lw_all := lw_g (lw_at lw_m1 156 rfl) rfl
theorem q233 : (Jvm.Cond.fieldLink "Keygrove$Book" (21 : Nat) "Keygrove$Book" "followed" "Ljava/util/HashMap;") ∈ lw_all := lw_g (lw_at lw_m1 157 rfl) rfl
theorem q234 : (Jvm.Cond.fieldLink "Keygrove$Book" (25 : Nat) "Keygrove$Book" "openers" "Ljava/util/List;") ∈ lw_all := lw_g (lw_at lw_m1 158 rfl) rfl
theorem q236 : (Jvm.Cond.fieldLink "Keygrove$Book" (28 : Nat) "Keygrove$Book" "contents" "Ljava/util/List;") ∈ lw_all := lw_g (lw_at lw_m1 160 rfl) rfl
theorem q237 : (Jvm.Cond.fieldLink "Keygrove$Book" (31 : Nat) "Keygrove$Book" "z" "I") ∈ lw_all := lw_g (lw_at lw_m1 161 rfl) rfl
theorem q239 : (Jvm.Cond.laysFinal "Keygrove$Book" "Keygrove$Book" "all" "Ljava/util/List;") ∈ lw_all := lw_g (lw_at lw_m1 163 rfl) rfl
theorem q240 : (Jvm.Cond.soleField "Keygrove$Book" "all") ∈ lw_all := lw_g (lw_at lw_m1 164 rfl) rfl
theorem q241 : (Jvm.Cond.laysFinal "Keygrove$Book" "Keygrove$Book" "followed" "Ljava/util/HashMap;") ∈ lw_all := lw_g (lw_at lw_m1 165 rfl) rfl
theorem q242 : (Jvm.Cond.soleField "Keygrove$Book" "followed") ∈ lw_all := lw_g (lw_at lw_m1 166 rfl) rfl
theorem q243 : (Jvm.Cond.laysFinal "Keygrove$Book" "Keygrove$Book" "openers" "Ljava/util/List;") ∈ lw_all := lw_g (lw_at lw_m1 167 rfl) rfl
theorem q244 : (Jvm.Cond.soleField "Keygrove$Book" "openers") ∈ lw_all := lw_g (lw_at lw_m1 168 rfl) rfl
theorem q245 : (Jvm.Cond.laysFinal "Keygrove$Book" "Keygrove$Book" "contents" "Ljava/util/List;") ∈ lw_all := lw_g (lw_at lw_m1 169 rfl) rfl
theorem q246 : (Jvm.Cond.soleField "Keygrove$Book" "contents") ∈ lw_all := lw_g (lw_at lw_m1 170 rfl) rfl
theorem q247 : (Jvm.Cond.lays "Keygrove$Book" "Keygrove$Book" "z" "I") ∈ lw_all := lw_g (lw_at lw_m1 171 rfl) rfl
theorem q248 : (Jvm.Cond.soleField "Keygrove$Book" "z") ∈ lw_all := lw_g (lw_at lw_m1 172 rfl) rfl
theorem q249 : (Jvm.Cond.superclass "Keygrove$Book" "java/lang/Object") ∈ lw_all := lw_g (lw_at lw_m1 173 rfl) rfl
theorem q735 : (Jvm.Cond.selects "Keygrove$Book" ({ cls := "java/lang/Object", name := "getClass", desc := "()Ljava/lang/Class;" } : Jvm.MethodName) ({ cls := "java/lang/Object", name := "getClass", desc := "()Ljava/lang/Class;" } : Jvm.MethodName)) ∈ lw_all := lw_g (lw_at lw_m3 179 rfl) rfl
theorem q793 : (Jvm.Cond.instanceMethod ({ cls := "Keygrove$Book", name := "finds", desc := "(Ljava/lang/Iterable;)Ljava/util/BitSet;" } : Jvm.MethodName)) ∈ lw_all := lw_g (lw_at lw_m3 237 rfl) rfl
theorem q794 : (Jvm.Cond.selects "Keygrove$Book" ({ cls := "Keygrove$Book", name := "finds", desc := "(Ljava/lang/Iterable;)Ljava/util/BitSet;" } : Jvm.MethodName) ({ cls := "Keygrove$Book", name := "finds", desc := "(Ljava/lang/Iterable;)Ljava/util/BitSet;" } : Jvm.MethodName)) ∈ lw_all := lw_g (lw_at lw_m3 238 rfl) rfl
theorem q795 : (Jvm.Cond.code ({ cls := "Keygrove$Book", name := "finds", desc := "(Ljava/lang/Iterable;)Ljava/util/BitSet;" } : Jvm.MethodName) prog_3_method_9_code (7 : Nat) (Option.some (Jvm.ClassFile.FieldType.object "java/util/BitSet"))) ∈ lw_all := lw_g (lw_at lw_m3 239 rfl) rfl
theorem q796 : (Jvm.Cond.classLink "Keygrove$Book" (101 : Nat) "java/util/BitSet") ∈ lw_all := lw_g (lw_at lw_m4 0 rfl) rfl
theorem q797 : (Jvm.Cond.methodLink "Keygrove$Book" (103 : Nat) ({ cls := "java/util/BitSet", name := "<init>", desc := "()V" } : Jvm.MethodName)) ∈ lw_all := lw_g (lw_at lw_m4 1 rfl) rfl
theorem q798 : (Jvm.Cond.interfaceEntry "Keygrove$Book" (104 : Nat)) ∈ lw_tbl := lw_at lw_m4 2 rfl
theorem q799 : (Jvm.Cond.methodLink "Keygrove$Book" (104 : Nat) ({ cls := "java/lang/Iterable", name := "iterator", desc := "()Ljava/util/Iterator;" } : Jvm.MethodName)) ∈ lw_all := lw_g (lw_at lw_m4 3 rfl) rfl
theorem q935 : (Jvm.Cond.interfaceEntry "Keygrove$Book" (110 : Nat)) ∈ lw_tbl := lw_at lw_m4 139 rfl
theorem q936 : (Jvm.Cond.methodLink "Keygrove$Book" (110 : Nat) ({ cls := "java/util/Iterator", name := "hasNext", desc := "()Z" } : Jvm.MethodName)) ∈ lw_all := lw_g (lw_at lw_m4 140 rfl) rfl
theorem q963 : (Jvm.Cond.interfaceEntry "Keygrove$Book" (116 : Nat)) ∈ lw_tbl := lw_at lw_m4 167 rfl
theorem q964 : (Jvm.Cond.methodLink "Keygrove$Book" (116 : Nat) ({ cls := "java/util/Iterator", name := "next", desc := "()Ljava/lang/Object;" } : Jvm.MethodName)) ∈ lw_all := lw_g (lw_at lw_m4 168 rfl) rfl
theorem q1050 : (Jvm.Cond.classLink "Keygrove$Book" (88 : Nat) "java/lang/Integer") ∈ lw_all := lw_g (lw_at lw_m5 14 rfl) rfl
theorem q1051 : (Jvm.Cond.methodLink "Keygrove$Book" (90 : Nat) ({ cls := "java/lang/Integer", name := "intValue", desc := "()I" } : Jvm.MethodName)) ∈ lw_all := lw_g (lw_at lw_m5 15 rfl) rfl
theorem q1055 : (Jvm.Cond.methodLink "Keygrove$Book" (120 : Nat) ({ cls := "java/util/BitSet", name := "set", desc := "(I)V" } : Jvm.MethodName)) ∈ lw_all := lw_g (lw_at lw_m5 19 rfl) rfl
theorem q1077 : (Jvm.Cond.methodLink "Keygrove$Book" (124 : Nat) ({ cls := "java/util/BitSet", name := "cardinality", desc := "()I" } : Jvm.MethodName)) ∈ lw_all := lw_g (lw_at lw_m5 41 rfl) rfl
theorem q1087 : (Jvm.Cond.interfaceEntry "Keygrove$Book" (51 : Nat)) ∈ lw_tbl := lw_at lw_m5 51 rfl
theorem q1088 : (Jvm.Cond.methodLink "Keygrove$Book" (51 : Nat) ({ cls := "java/util/List", name := "size", desc := "()I" } : Jvm.MethodName)) ∈ lw_all := lw_g (lw_at lw_m5 52 rfl) rfl
theorem q1089 : (Jvm.Cond.interfaceEntry "Keygrove$Book" (55 : Nat)) ∈ lw_tbl := lw_at lw_m5 53 rfl
theorem q1090 : (Jvm.Cond.methodLink "Keygrove$Book" (55 : Nat) ({ cls := "java/util/List", name := "get", desc := "(I)Ljava/lang/Object;" } : Jvm.MethodName)) ∈ lw_all := lw_g (lw_at lw_m5 54 rfl) rfl
theorem q1108 : (Jvm.Cond.classLink "Keygrove$Book" (36 : Nat) "Keygrove$Origin") ∈ lw_all := lw_g (lw_at lw_m5 72 rfl) rfl
theorem q1109 : (Jvm.Cond.methodLink "Keygrove$Book" (130 : Nat) ({ cls := "java/util/BitSet", name := "get", desc := "(I)Z" } : Jvm.MethodName)) ∈ lw_all := lw_g (lw_at lw_m5 73 rfl) rfl
theorem q1149 : (Jvm.Cond.instanceMethod ({ cls := "Keygrove$Book", name := "value", desc := "(I)I" } : Jvm.MethodName)) ∈ lw_all := lw_g (lw_at lw_m5 113 rfl) rfl
theorem q1150 : (Jvm.Cond.selects "Keygrove$Book" ({ cls := "Keygrove$Book", name := "value", desc := "(I)I" } : Jvm.MethodName) ({ cls := "Keygrove$Book", name := "value", desc := "(I)I" } : Jvm.MethodName)) ∈ lw_all := lw_g (lw_at lw_m5 114 rfl) rfl
theorem q1151 : (Jvm.Cond.code ({ cls := "Keygrove$Book", name := "value", desc := "(I)I" } : Jvm.MethodName) prog_3_method_3_code (2 : Nat) (Option.some Jvm.ClassFile.FieldType.int)) ∈ lw_all := lw_g (lw_at lw_m5 115 rfl) rfl
theorem q1230 : (Jvm.Cond.instanceMethod ({ cls := "Keygrove$Book", name := "from", desc := "(II)I" } : Jvm.MethodName)) ∈ lw_all := lw_g (lw_at lw_m5 194 rfl) rfl
theorem q1231 : (Jvm.Cond.selects "Keygrove$Book" ({ cls := "Keygrove$Book", name := "from", desc := "(II)I" } : Jvm.MethodName) ({ cls := "Keygrove$Book", name := "from", desc := "(II)I" } : Jvm.MethodName)) ∈ lw_all := lw_g (lw_at lw_m5 195 rfl) rfl
theorem q1232 : (Jvm.Cond.code ({ cls := "Keygrove$Book", name := "from", desc := "(II)I" } : Jvm.MethodName) prog_3_method_4_code (3 : Nat) (Option.some Jvm.ClassFile.FieldType.int)) ∈ lw_all := lw_g (lw_at lw_m5 196 rfl) rfl
theorem q1233 : (Jvm.Cond.classLink "Keygrove$Book" (62 : Nat) "java/lang/StringBuilder") ∈ lw_all := lw_g (lw_at lw_m5 197 rfl) rfl
theorem q1234 : (Jvm.Cond.methodLink "Keygrove$Book" (64 : Nat) ({ cls := "java/lang/StringBuilder", name := "<init>", desc := "()V" } : Jvm.MethodName)) ∈ lw_all := lw_g (lw_at lw_m5 198 rfl) rfl
theorem q1235 : (Jvm.Cond.methodLink "Keygrove$Book" (65 : Nat) ({ cls := "java/lang/StringBuilder", name := "append", desc := "(I)Ljava/lang/StringBuilder;" } : Jvm.MethodName)) ∈ lw_all := lw_g (lw_at lw_m5 199 rfl) rfl
theorem q1236 : (Jvm.Cond.stringRef "Keygrove$Book" (69 : Nat) ",") ∈ lw_tbl := lw_at lw_m5 200 rfl
theorem q1237 : (Jvm.Cond.methodLink "Keygrove$Book" (71 : Nat) ({ cls := "java/lang/StringBuilder", name := "append", desc := "(Ljava/lang/String;)Ljava/lang/StringBuilder;" } : Jvm.MethodName)) ∈ lw_all := lw_g (lw_at lw_m5 201 rfl) rfl
theorem q1238 : (Jvm.Cond.methodLink "Keygrove$Book" (74 : Nat) ({ cls := "java/lang/StringBuilder", name := "toString", desc := "()Ljava/lang/String;" } : Jvm.MethodName)) ∈ lw_all := lw_g (lw_at lw_m5 202 rfl) rfl
theorem q1239 : (Jvm.Cond.methodLink "Keygrove$Book" (78 : Nat) ({ cls := "Keygrove$Book", name := "value", desc := "(I)I" } : Jvm.MethodName)) ∈ lw_all := lw_g (lw_at lw_m5 203 rfl) rfl
theorem q1240 : (Jvm.Cond.methodLinkNest "Keygrove$Book" (38 : Nat) ({ cls := "Keygrove", name := "mix", desc := "(II)I" } : Jvm.MethodName) "Keygrove") ∈ lw_tbl := lw_at lw_m5 204 rfl
theorem q1246 : (Jvm.Cond.methodLink "Keygrove$Book" (81 : Nat) ({ cls := "Keygrove$Book", name := "noted", desc := "(Ljava/lang/String;III)I" } : Jvm.MethodName)) ∈ lw_all := lw_g (lw_at lw_m5 210 rfl) rfl
theorem q1247 : (Jvm.Cond.privateMethod ({ cls := "Keygrove$Book", name := "noted", desc := "(Ljava/lang/String;III)I" } : Jvm.MethodName)) ∈ lw_tbl := lw_at lw_m5 211 rfl
theorem q1248 : (Jvm.Cond.instanceMethod ({ cls := "Keygrove$Book", name := "noted", desc := "(Ljava/lang/String;III)I" } : Jvm.MethodName)) ∈ lw_all := lw_g (lw_at lw_m5 212 rfl) rfl
theorem q1249 : (Jvm.Cond.code ({ cls := "Keygrove$Book", name := "noted", desc := "(Ljava/lang/String;III)I" } : Jvm.MethodName) prog_3_method_6_code (6 : Nat) (Option.some Jvm.ClassFile.FieldType.int)) ∈ lw_all := lw_g (lw_at lw_m5 213 rfl) rfl
theorem q1250 : (Jvm.Cond.methodLink "Keygrove$Book" (85 : Nat) ({ cls := "java/util/HashMap", name := "get", desc := "(Ljava/lang/Object;)Ljava/lang/Object;" } : Jvm.MethodName)) ∈ lw_all := lw_g (lw_at lw_m5 214 rfl) rfl
theorem q1267 : (Jvm.Cond.selects "Keygrove$Book" ({ cls := "java/lang/Object", name := "hashCode", desc := "()I" } : Jvm.MethodName) ({ cls := "java/lang/Object", name := "hashCode", desc := "()I" } : Jvm.MethodName)) ∈ lw_all := lw_g (lw_at lw_m5 231 rfl) rfl
theorem q1368 : (Jvm.Cond.selects "Keygrove$Book" ({ cls := "java/lang/Object", name := "equals", desc := "(Ljava/lang/Object;)Z" } : Jvm.MethodName) ({ cls := "java/lang/Object", name := "equals", desc := "(Ljava/lang/Object;)Z" } : Jvm.MethodName)) ∈ lw_all := lw_g (lw_at lw_m6 92 rfl) rfl
theorem q1621 : (Jvm.Cond.methodLink "Keygrove$Book" (42 : Nat) ({ cls := "Keygrove$Origin", name := "<init>", desc := "(III)V" } : Jvm.MethodName)) ∈ lw_all := lw_g (lw_at lw_m7 105 rfl) rfl
theorem q1626 : (Jvm.Cond.fieldLinkNest "Keygrove$Book" (59 : Nat) "Keygrove$Origin" "value" "I" "Keygrove") ∈ lw_tbl := lw_at lw_m7 110 rfl
theorem q1628 : (Jvm.Cond.fieldLinkNest "Keygrove$Book" (127 : Nat) "Keygrove$Origin" "one" "I" "Keygrove") ∈ lw_tbl := lw_at lw_m7 112 rfl
theorem q1630 : (Jvm.Cond.fieldLinkNest "Keygrove$Book" (133 : Nat) "Keygrove$Origin" "other" "I" "Keygrove") ∈ lw_tbl := lw_at lw_m7 114 rfl
theorem q1638 : (Jvm.Cond.interfaceEntry "Keygrove$Book" (45 : Nat)) ∈ lw_tbl := lw_at lw_m7 122 rfl
theorem q1639 : (Jvm.Cond.methodLink "Keygrove$Book" (45 : Nat) ({ cls := "java/util/List", name := "add", desc := "(Ljava/lang/Object;)Z" } : Jvm.MethodName)) ∈ lw_all := lw_g (lw_at lw_m7 123 rfl) rfl
theorem q1640 : (Jvm.Cond.methodLink "Keygrove$Book" (93 : Nat) ({ cls := "java/lang/Integer", name := "valueOf", desc := "(I)Ljava/lang/Integer;" } : Jvm.MethodName)) ∈ lw_all := lw_g (lw_at lw_m7 124 rfl) rfl
theorem q1641 : (Jvm.Cond.methodLink "Keygrove$Book" (97 : Nat) ({ cls := "java/util/HashMap", name := "put", desc := "(Ljava/lang/Object;Ljava/lang/Object;)Ljava/lang/Object;" } : Jvm.MethodName)) ∈ lw_all := lw_g (lw_at lw_m7 125 rfl) rfl
theorem q1977 : (Jvm.Cond.instanceMethod ({ cls := "Keygrove$Book", name := "draw", desc := "()I" } : Jvm.MethodName)) ∈ lw_all := lw_g (lw_at lw_m8 221 rfl) rfl
theorem q1978 : (Jvm.Cond.selects "Keygrove$Book" ({ cls := "Keygrove$Book", name := "draw", desc := "()I" } : Jvm.MethodName) ({ cls := "Keygrove$Book", name := "draw", desc := "()I" } : Jvm.MethodName)) ∈ lw_all := lw_g (lw_at lw_m8 222 rfl) rfl
theorem q1979 : (Jvm.Cond.code ({ cls := "Keygrove$Book", name := "draw", desc := "()I" } : Jvm.MethodName) prog_3_method_2_code (1 : Nat) (Option.some Jvm.ClassFile.FieldType.int)) ∈ lw_all := lw_g (lw_at lw_m8 223 rfl) rfl
theorem q1980 : (Jvm.Cond.constant "Keygrove$Book" (35 : Nat) (1103515245 : Int32)) ∈ lw_all := lw_g (lw_at lw_m8 224 rfl) rfl
theorem q2584 : (Jvm.Cond.instanceMethod ({ cls := "Keygrove$Book", name := "box", desc := "(II)V" } : Jvm.MethodName)) ∈ lw_all := lw_g (lw_at lw_m11 108 rfl) rfl
theorem q2585 : (Jvm.Cond.selects "Keygrove$Book" ({ cls := "Keygrove$Book", name := "box", desc := "(II)V" } : Jvm.MethodName) ({ cls := "Keygrove$Book", name := "box", desc := "(II)V" } : Jvm.MethodName)) ∈ lw_all := lw_g (lw_at lw_m11 109 rfl) rfl
theorem q2586 : (Jvm.Cond.code ({ cls := "Keygrove$Book", name := "box", desc := "(II)V" } : Jvm.MethodName) prog_3_method_7_code (3 : Nat) (Option.none : Option Jvm.ClassFile.FieldType)) ∈ lw_all := lw_g (lw_at lw_m11 110 rfl) rfl
theorem q2588 : (Jvm.Cond.instanceMethod ({ cls := "Keygrove$Book", name := "from", desc := "(III)I" } : Jvm.MethodName)) ∈ lw_all := lw_g (lw_at lw_m11 112 rfl) rfl
theorem q2589 : (Jvm.Cond.selects "Keygrove$Book" ({ cls := "Keygrove$Book", name := "from", desc := "(III)I" } : Jvm.MethodName) ({ cls := "Keygrove$Book", name := "from", desc := "(III)I" } : Jvm.MethodName)) ∈ lw_all := lw_g (lw_at lw_m11 113 rfl) rfl
theorem q2590 : (Jvm.Cond.code ({ cls := "Keygrove$Book", name := "from", desc := "(III)I" } : Jvm.MethodName) prog_3_method_5_code (4 : Nat) (Option.some Jvm.ClassFile.FieldType.int)) ∈ lw_all := lw_g (lw_at lw_m11 114 rfl) rfl
theorem q2765 : (Jvm.Cond.instanceMethod ({ cls := "Keygrove$Book", name := "opened", desc := "(III)I" } : Jvm.MethodName)) ∈ lw_all := lw_g (lw_at lw_m12 49 rfl) rfl
theorem q2766 : (Jvm.Cond.selects "Keygrove$Book" ({ cls := "Keygrove$Book", name := "opened", desc := "(III)I" } : Jvm.MethodName) ({ cls := "Keygrove$Book", name := "opened", desc := "(III)I" } : Jvm.MethodName)) ∈ lw_all := lw_g (lw_at lw_m12 50 rfl) rfl
theorem q2767 : (Jvm.Cond.code ({ cls := "Keygrove$Book", name := "opened", desc := "(III)I" } : Jvm.MethodName) prog_3_method_8_code (7 : Nat) (Option.some Jvm.ClassFile.FieldType.int)) ∈ lw_all := lw_g (lw_at lw_m12 51 rfl) rfl
theorem q3679 : (Jvm.Cond.castable "Keygrove$Book" "java/lang/Object") ∈ lw_tbl := lw_at lw_m16 3 rfl
theorem in_X2 : ∀ w ∈ wsX20, w ∈ lw_all := lw_in wsX20 [239, 241, 243, 245, 247] (by decide +kernel) (by decide +kernel)
