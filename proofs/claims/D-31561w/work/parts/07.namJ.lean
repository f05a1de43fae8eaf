/-! java/util/AbstractCollection -/
set_option maxRecDepth 100000
def RJ0 : String := "java/util/AbstractCollection"
abbrev cJ0_init : ByteArray := prog_29_method_1_code
def yJ0_init : MethodName := ⟨RJ0, "<init>", "()V"⟩
theorem dJ0_init_0 : decode cJ0_init 0 = .ok (.aload_n 0, 1) := by decide +kernel
theorem dJ0_init_1 : decode cJ0_init 1 = .ok (.invokespecial 1, 3) := by decide +kernel
theorem dJ0_init_4 : decode cJ0_init 4 = .ok (.return_, 1) := by decide +kernel
theorem q47 : (Jvm.Cond.initialized "java/util/AbstractCollection") ∈ lw_all := lw_g (lw_at lw_m1 2 rfl) rfl
theorem q97 : (Jvm.Cond.instanceMethod ({ cls := "java/util/AbstractCollection", name := "<init>", desc := "()V" } : Jvm.MethodName)) ∈ lw_all := lw_g (lw_at lw_m1 52 rfl) rfl
theorem q98 : (Jvm.Cond.code ({ cls := "java/util/AbstractCollection", name := "<init>", desc := "()V" } : Jvm.MethodName) prog_29_method_1_code (1 : Nat) (Option.none : Option Jvm.ClassFile.FieldType)) ∈ lw_all := lw_g (lw_at lw_m1 53 rfl) rfl
theorem q99 : (Jvm.Cond.methodLink "java/util/AbstractCollection" (1 : Nat) ({ cls := "java/lang/Object", name := "<init>", desc := "()V" } : Jvm.MethodName)) ∈ lw_all := lw_g (lw_at lw_m1 54 rfl) rfl
/-! java/util/AbstractList -/
set_option maxRecDepth 100000
def RJ1 : String := "java/util/AbstractList"
abbrev cJ1_init : ByteArray := prog_30_method_1_code
def yJ1_init : MethodName := ⟨RJ1, "<init>", "()V"⟩
def dkwJ1_init_0 : List UInt8 := [42, 183, 0, 1, 42, 3, 181, 0, 7, 177]
abbrev dktJ1_init_0 : List UInt8 := dkwJ1_init_0 ++ []
theorem dksJ1_init_0 : cJ1_init.data.toList.drop 0 = dktJ1_init_0 := by decide +kernel
theorem dJ1_init_0 : decode cJ1_init 0 = .ok (.aload_n 0, 1) := dk_42 (dk_at dksJ1_init_0 0 rfl rfl)
theorem dJ1_init_1 : decode cJ1_init 1 = .ok (.invokespecial 1, 3) := dk_183 0 1 (dk_at dksJ1_init_0 1 rfl rfl)
theorem dJ1_init_4 : decode cJ1_init 4 = .ok (.aload_n 0, 1) := dk_42 (dk_at dksJ1_init_0 4 rfl rfl)
theorem dJ1_init_5 : decode cJ1_init 5 = .ok (.iconst 0, 1) := dk_3 (dk_at dksJ1_init_0 5 rfl rfl)
theorem dJ1_init_6 : decode cJ1_init 6 = .ok (.putfield 7, 3) := dk_181 0 7 (dk_at dksJ1_init_0 6 rfl rfl)
theorem dJ1_init_9 : decode cJ1_init 9 = .ok (.return_, 1) := dk_177 (dk_at dksJ1_init_0 9 rfl rfl)
theorem q48 : (Jvm.Cond.initialized "java/util/AbstractList") ∈ lw_all := lw_g (lw_at lw_m1 3 rfl) rfl
theorem q94 : (Jvm.Cond.instanceMethod ({ cls := "java/util/AbstractList", name := "<init>", desc := "()V" } : Jvm.MethodName)) ∈ lw_all := lw_g (lw_at lw_m1 49 rfl) rfl
theorem q95 : (Jvm.Cond.code ({ cls := "java/util/AbstractList", name := "<init>", desc := "()V" } : Jvm.MethodName) prog_30_method_1_code (1 : Nat) (Option.none : Option Jvm.ClassFile.FieldType)) ∈ lw_all := lw_g (lw_at lw_m1 50 rfl) rfl
theorem q96 : (Jvm.Cond.methodLink "java/util/AbstractList" (1 : Nat) ({ cls := "java/util/AbstractCollection", name := "<init>", desc := "()V" } : Jvm.MethodName)) ∈ lw_all := lw_g (lw_at lw_m1 51 rfl) rfl
theorem q106 : (Jvm.Cond.fieldLink "java/util/AbstractList" (7 : Nat) "java/util/AbstractList" "modCount" "I") ∈ lw_all := lw_g (lw_at lw_m1 61 rfl) rfl
theorem q115 : (Jvm.Cond.soleField "java/util/AbstractList" "modCount") ∈ lw_all := lw_g (lw_at lw_m1 70 rfl) rfl
/-! java/util/Arrays -/
set_option maxRecDepth 100000
def RJ10 : String := "java/util/Arrays"
abbrev cJ10_copyOf : ByteArray := prog_34_method_119_code
def yJ10_copyOf : MethodName := ⟨RJ10, "copyOf", "([Ljava/lang/Object;I)[Ljava/lang/Object;"⟩
def dkwJ10_copyOf_0 : List UInt8 := [42, 27, 42, 182, 0, 86, 184, 1, 44, 176]
abbrev dktJ10_copyOf_0 : List UInt8 := dkwJ10_copyOf_0 ++ []
theorem dksJ10_copyOf_0 : cJ10_copyOf.data.toList.drop 0 = dktJ10_copyOf_0 := by decide +kernel
theorem dJ10_copyOf_0 : decode cJ10_copyOf 0 = .ok (.aload_n 0, 1) := dk_42 (dk_at dksJ10_copyOf_0 0 rfl rfl)
theorem dJ10_copyOf_1 : decode cJ10_copyOf 1 = .ok (.iload_n 1, 1) := dk_27 (dk_at dksJ10_copyOf_0 1 rfl rfl)
theorem dJ10_copyOf_2 : decode cJ10_copyOf 2 = .ok (.aload_n 0, 1) := dk_42 (dk_at dksJ10_copyOf_0 2 rfl rfl)
theorem dJ10_copyOf_3 : decode cJ10_copyOf 3 = .ok (.invokevirtual 86, 3) := dk_182 0 86 (dk_at dksJ10_copyOf_0 3 rfl rfl)
theorem dJ10_copyOf_6 : decode cJ10_copyOf 6 = .ok (.invokestatic 300, 3) := dk_184 1 44 (dk_at dksJ10_copyOf_0 6 rfl rfl)
theorem dJ10_copyOf_9 : decode cJ10_copyOf 9 = .ok (.areturn, 1) := dk_176 (dk_at dksJ10_copyOf_0 9 rfl rfl)
abbrev cJ10_copyOf_2 : ByteArray := prog_34_method_120_code
def yJ10_copyOf_2 : MethodName := ⟨RJ10, "copyOf", "([Ljava/lang/Object;ILjava/lang/Class;)[Ljava/lang/Object;"⟩
def dkwJ10_copyOf_2_1 : List UInt8 := [78, 42, 3, 45, 3, 42, 190, 27, 184, 1, 48, 184, 0, 150, 45, 176]
abbrev dktJ10_copyOf_2_1 : List UInt8 := dkwJ10_copyOf_2_1 ++ []
def dkwJ10_copyOf_2_0 : List UInt8 := [44, 18, 110, 166, 0, 10, 27, 189, 0, 2, 167, 0, 14, 44, 182, 0, 90, 27, 184, 0, 95, 192, 0, 110]
abbrev dktJ10_copyOf_2_0 : List UInt8 := dkwJ10_copyOf_2_0 ++ dktJ10_copyOf_2_1
theorem dksJ10_copyOf_2_0 : cJ10_copyOf_2.data.toList.drop 0 = dktJ10_copyOf_2_0 := by decide +kernel
theorem dksJ10_copyOf_2_1 : cJ10_copyOf_2.data.toList.drop 24 = dktJ10_copyOf_2_1 := dk_seg dksJ10_copyOf_2_0 24 rfl rfl
theorem dJ10_copyOf_2_0 : decode cJ10_copyOf_2 0 = .ok (.aload_n 2, 1) := dk_44 (dk_at dksJ10_copyOf_2_0 0 rfl rfl)
theorem dJ10_copyOf_2_1 : decode cJ10_copyOf_2 1 = .ok (.ldc 110, 2) := dk_18 110 (dk_at dksJ10_copyOf_2_0 1 rfl rfl)
theorem dJ10_copyOf_2_3 : decode cJ10_copyOf_2 3 = .ok (.if_acmp .ne 10, 3) := dk_166 0 10 (dk_at dksJ10_copyOf_2_0 3 rfl rfl)
theorem dJ10_copyOf_2_6 : decode cJ10_copyOf_2 6 = .ok (.iload_n 1, 1) := dk_27 (dk_at dksJ10_copyOf_2_0 6 rfl rfl)
theorem dJ10_copyOf_2_7 : decode cJ10_copyOf_2 7 = .ok (.anewarray 2, 3) := dk_189 0 2 (dk_at dksJ10_copyOf_2_0 7 rfl rfl)
theorem dJ10_copyOf_2_10 : decode cJ10_copyOf_2 10 = .ok (.goto 14, 3) := dk_167 0 14 (dk_at dksJ10_copyOf_2_0 10 rfl rfl)
theorem dJ10_copyOf_2_13 : decode cJ10_copyOf_2 13 = .ok (.aload_n 2, 1) := dk_44 (dk_at dksJ10_copyOf_2_0 13 rfl rfl)
theorem dJ10_copyOf_2_14 : decode cJ10_copyOf_2 14 = .ok (.invokevirtual 90, 3) := dk_182 0 90 (dk_at dksJ10_copyOf_2_0 14 rfl rfl)
theorem dJ10_copyOf_2_17 : decode cJ10_copyOf_2 17 = .ok (.iload_n 1, 1) := dk_27 (dk_at dksJ10_copyOf_2_0 17 rfl rfl)
theorem dJ10_copyOf_2_18 : decode cJ10_copyOf_2 18 = .ok (.invokestatic 95, 3) := dk_184 0 95 (dk_at dksJ10_copyOf_2_0 18 rfl rfl)
theorem dJ10_copyOf_2_21 : decode cJ10_copyOf_2 21 = .ok (.checkcast 110, 3) := dk_192 0 110 (dk_at dksJ10_copyOf_2_0 21 rfl rfl)
theorem dJ10_copyOf_2_24 : decode cJ10_copyOf_2 24 = .ok (.astore_n 3, 1) := dk_78 (dk_at dksJ10_copyOf_2_1 0 rfl rfl)
theorem dJ10_copyOf_2_25 : decode cJ10_copyOf_2 25 = .ok (.aload_n 0, 1) := dk_42 (dk_at dksJ10_copyOf_2_1 1 rfl rfl)
theorem dJ10_copyOf_2_26 : decode cJ10_copyOf_2 26 = .ok (.iconst 0, 1) := dk_3 (dk_at dksJ10_copyOf_2_1 2 rfl rfl)
theorem dJ10_copyOf_2_27 : decode cJ10_copyOf_2 27 = .ok (.aload_n 3, 1) := dk_45 (dk_at dksJ10_copyOf_2_1 3 rfl rfl)
theorem dJ10_copyOf_2_28 : decode cJ10_copyOf_2 28 = .ok (.iconst 0, 1) := dk_3 (dk_at dksJ10_copyOf_2_1 4 rfl rfl)
theorem dJ10_copyOf_2_29 : decode cJ10_copyOf_2 29 = .ok (.aload_n 0, 1) := dk_42 (dk_at dksJ10_copyOf_2_1 5 rfl rfl)
theorem dJ10_copyOf_2_30 : decode cJ10_copyOf_2 30 = .ok (.arraylength, 1) := dk_190 (dk_at dksJ10_copyOf_2_1 6 rfl rfl)
theorem dJ10_copyOf_2_31 : decode cJ10_copyOf_2 31 = .ok (.iload_n 1, 1) := dk_27 (dk_at dksJ10_copyOf_2_1 7 rfl rfl)
theorem dJ10_copyOf_2_32 : decode cJ10_copyOf_2 32 = .ok (.invokestatic 304, 3) := dk_184 1 48 (dk_at dksJ10_copyOf_2_1 8 rfl rfl)
theorem dJ10_copyOf_2_35 : decode cJ10_copyOf_2 35 = .ok (.invokestatic 150, 3) := dk_184 0 150 (dk_at dksJ10_copyOf_2_1 11 rfl rfl)
theorem dJ10_copyOf_2_38 : decode cJ10_copyOf_2 38 = .ok (.aload_n 3, 1) := dk_45 (dk_at dksJ10_copyOf_2_1 14 rfl rfl)
theorem dJ10_copyOf_2_39 : decode cJ10_copyOf_2 39 = .ok (.areturn, 1) := dk_176 (dk_at dksJ10_copyOf_2_1 15 rfl rfl)
theorem q59 : (Jvm.Cond.initialized "java/util/Arrays") ∈ lw_all := lw_g (lw_at lw_m1 14 rfl) rfl
theorem q561 : (Jvm.Cond.static ({ cls := "java/util/Arrays", name := "copyOf", desc := "([Ljava/lang/Object;I)[Ljava/lang/Object;" } : Jvm.MethodName)) ∈ lw_all := lw_g (lw_at lw_m3 36 rfl) rfl
theorem q562 : (Jvm.Cond.code ({ cls := "java/util/Arrays", name := "copyOf", desc := "([Ljava/lang/Object;I)[Ljava/lang/Object;" } : Jvm.MethodName) prog_34_method_119_code (2 : Nat) (Option.some (Jvm.ClassFile.FieldType.array (Jvm.ClassFile.FieldType.object "java/lang/Object")))) ∈ lw_all := lw_g (lw_at lw_m3 37 rfl) rfl
theorem q563 : (Jvm.Cond.methodLink "java/util/Arrays" (86 : Nat) ({ cls := "java/lang/Object", name := "getClass", desc := "()Ljava/lang/Class;" } : Jvm.MethodName)) ∈ lw_all := lw_g (lw_at lw_m3 38 rfl) rfl
theorem q585 : (Jvm.Cond.methodLink "java/util/Arrays" (300 : Nat) ({ cls := "java/util/Arrays", name := "copyOf", desc := "([Ljava/lang/Object;ILjava/lang/Class;)[Ljava/lang/Object;" } : Jvm.MethodName)) ∈ lw_all := lw_g (lw_at lw_m3 60 rfl) rfl
theorem q586 : (Jvm.Cond.static ({ cls := "java/util/Arrays", name := "copyOf", desc := "([Ljava/lang/Object;ILjava/lang/Class;)[Ljava/lang/Object;" } : Jvm.MethodName)) ∈ lw_all := lw_g (lw_at lw_m3 61 rfl) rfl
theorem q587 : (Jvm.Cond.code ({ cls := "java/util/Arrays", name := "copyOf", desc := "([Ljava/lang/Object;ILjava/lang/Class;)[Ljava/lang/Object;" } : Jvm.MethodName) prog_34_method_120_code (4 : Nat) (Option.some (Jvm.ClassFile.FieldType.array (Jvm.ClassFile.FieldType.object "java/lang/Object")))) ∈ lw_all := lw_g (lw_at lw_m3 62 rfl) rfl
theorem q588 : (Jvm.Cond.classLink "java/util/Arrays" (110 : Nat) "[Ljava/lang/Object;") ∈ lw_all := lw_g (lw_at lw_m3 63 rfl) rfl
theorem q590 : (Jvm.Cond.classLink "java/util/Arrays" (2 : Nat) "java/lang/Object") ∈ lw_all := lw_g (lw_at lw_m3 65 rfl) rfl
theorem q591 : (Jvm.Cond.methodLink "java/util/Arrays" (304 : Nat) ({ cls := "java/lang/Math", name := "min", desc := "(II)I" } : Jvm.MethodName)) ∈ lw_all := lw_g (lw_at lw_m3 66 rfl) rfl
theorem q594 : (Jvm.Cond.methodLink "java/util/Arrays" (150 : Nat) ({ cls := "java/lang/System", name := "arraycopy", desc := "(Ljava/lang/Object;ILjava/lang/Object;II)V" } : Jvm.MethodName)) ∈ lw_all := lw_g (lw_at lw_m3 69 rfl) rfl
/-! java/lang/IndexOutOfBoundsException -/
set_option maxRecDepth 100000
def RJ11 : String := "java/lang/IndexOutOfBoundsException"
def TJ11 : u_T := fun k => match k with
  | 0 => ("java/lang/Throwable", "cause", "Ljava/lang/Throwable;", false)
  | 1 => ("java/lang/Throwable", "stackTrace", "[Ljava/lang/StackTraceElement;", false)
  | 2 => ("java/lang/Throwable", "suppressedExceptions", "Ljava/util/List;", false)
  | 3 => ("java/lang/Throwable", "detailMessage", "Ljava/lang/String;", false)
  | 4 => ("java/lang/Throwable", "backtrace", "Ljava/lang/Object;", false)
  | _ => ("java/lang/Throwable", "depth", "I", false)
def tyJ11 : Nat → FieldType := fun k => match k with
  | 0 => .object "java/lang/Throwable"
  | 1 => .array (.object "java/lang/StackTraceElement")
  | 2 => .object "java/util/List"
  | 3 => .object "java/lang/String"
  | 4 => .object "java/lang/Object"
  | _ => .int
abbrev wsJ110 : List Cond := u_ws RJ11 TJ11 6
theorem nmJ11 : ∀ a, a < 6 → ∀ b, b < 6 → a ≠ b → (TJ11 a).2.1 ≠ (TJ11 b).2.1 := by decide +kernel
theorem tyJ11_ok : ∀ k, k < 6 → parseFieldDescriptor (TJ11 k).2.2.1 = some (tyJ11 k) := by decide +kernel
abbrev cJ11_init : ByteArray := prog_17_method_2_code
def yJ11_init : MethodName := ⟨RJ11, "<init>", "(Ljava/lang/String;)V"⟩
def dkwJ11_init_0 : List UInt8 := [42, 43, 183, 0, 7, 177]
abbrev dktJ11_init_0 : List UInt8 := dkwJ11_init_0 ++ []
theorem dksJ11_init_0 : cJ11_init.data.toList.drop 0 = dktJ11_init_0 := by decide +kernel
theorem dJ11_init_0 : decode cJ11_init 0 = .ok (.aload_n 0, 1) := dk_42 (dk_at dksJ11_init_0 0 rfl rfl)
theorem dJ11_init_1 : decode cJ11_init 1 = .ok (.aload_n 1, 1) := dk_43 (dk_at dksJ11_init_0 1 rfl rfl)
theorem dJ11_init_2 : decode cJ11_init 2 = .ok (.invokespecial 7, 3) := dk_183 0 7 (dk_at dksJ11_init_0 2 rfl rfl)
theorem dJ11_init_5 : decode cJ11_init 5 = .ok (.return_, 1) := dk_177 (dk_at dksJ11_init_0 5 rfl rfl)
abbrev cJ11_init_2 : ByteArray := prog_17_method_1_code
def yJ11_init_2 : MethodName := ⟨RJ11, "<init>", "()V"⟩
theorem dJ11_init_2_0 : decode cJ11_init_2 0 = .ok (.aload_n 0, 1) := by decide +kernel
theorem dJ11_init_2_1 : decode cJ11_init_2 1 = .ok (.invokespecial 1, 3) := by decide +kernel
theorem dJ11_init_2_4 : decode cJ11_init_2 4 = .ok (.return_, 1) := by decide +kernel
theorem q61 : (Jvm.Cond.initialized "java/lang/IndexOutOfBoundsException") ∈ lw_all := lw_g (lw_at lw_m1 16 rfl) rfl
theorem q241 : (Jvm.Cond.selects "java/lang/IndexOutOfBoundsException" ({ cls := "java/lang/Throwable", name := "fillInStackTrace", desc := "()Ljava/lang/Throwable;" } : Jvm.MethodName) ({ cls := "java/lang/Throwable", name := "fillInStackTrace", desc := "()Ljava/lang/Throwable;" } : Jvm.MethodName)) ∈ lw_all := lw_g (lw_at lw_m1 196 rfl) rfl
theorem q575 : (Jvm.Cond.selects "java/lang/IndexOutOfBoundsException" ({ cls := "java/lang/Object", name := "getClass", desc := "()Ljava/lang/Class;" } : Jvm.MethodName) ({ cls := "java/lang/Object", name := "getClass", desc := "()Ljava/lang/Class;" } : Jvm.MethodName)) ∈ lw_all := lw_g (lw_at lw_m3 50 rfl) rfl
theorem q607 : (Jvm.Cond.instanceMethod ({ cls := "java/lang/IndexOutOfBoundsException", name := "<init>", desc := "(Ljava/lang/String;)V" } : Jvm.MethodName)) ∈ lw_all := lw_g (lw_at lw_m3 82 rfl) rfl
theorem q608 : (Jvm.Cond.code ({ cls := "java/lang/IndexOutOfBoundsException", name := "<init>", desc := "(Ljava/lang/String;)V" } : Jvm.MethodName) prog_17_method_2_code (2 : Nat) (Option.none : Option Jvm.ClassFile.FieldType)) ∈ lw_all := lw_g (lw_at lw_m3 83 rfl) rfl
theorem q609 : (Jvm.Cond.methodLink "java/lang/IndexOutOfBoundsException" (7 : Nat) ({ cls := "java/lang/RuntimeException", name := "<init>", desc := "(Ljava/lang/String;)V" } : Jvm.MethodName)) ∈ lw_all := lw_g (lw_at lw_m3 84 rfl) rfl
theorem q626 : (Jvm.Cond.declares ({ cls := "java/lang/IndexOutOfBoundsException", name := "<init>", desc := "()V" } : Jvm.MethodName)) ∈ lw_tbl := lw_at lw_m3 101 rfl
theorem q627 : (Jvm.Cond.declares ({ cls := "java/lang/IndexOutOfBoundsException", name := "<init>", desc := "(Ljava/lang/String;)V" } : Jvm.MethodName)) ∈ lw_tbl := lw_at lw_m3 102 rfl
theorem q647 : (Jvm.Cond.instantiable "java/lang/IndexOutOfBoundsException" (6 : Nat)) ∈ lw_all := lw_g (lw_at lw_m3 122 rfl) rfl
theorem q648 : (Jvm.Cond.castable "java/lang/IndexOutOfBoundsException" "java/lang/IndexOutOfBoundsException") ∈ lw_tbl := lw_at lw_m3 123 rfl
theorem q649 : (Jvm.Cond.selects "java/lang/IndexOutOfBoundsException" ({ cls := "java/lang/Throwable", name := "fillInStackTrace", desc := "(I)Ljava/lang/Throwable;" } : Jvm.MethodName) ({ cls := "java/lang/Throwable", name := "fillInStackTrace", desc := "(I)Ljava/lang/Throwable;" } : Jvm.MethodName)) ∈ lw_all := lw_g (lw_at lw_m3 124 rfl) rfl
theorem q650 : (Jvm.Cond.lays "java/lang/IndexOutOfBoundsException" "java/lang/Throwable" "cause" "Ljava/lang/Throwable;") ∈ lw_all := lw_g (lw_at lw_m3 125 rfl) rfl
theorem q651 : (Jvm.Cond.lays "java/lang/IndexOutOfBoundsException" "java/lang/Throwable" "stackTrace" "[Ljava/lang/StackTraceElement;") ∈ lw_all := lw_g (lw_at lw_m3 126 rfl) rfl
theorem q652 : (Jvm.Cond.lays "java/lang/IndexOutOfBoundsException" "java/lang/Throwable" "suppressedExceptions" "Ljava/util/List;") ∈ lw_all := lw_g (lw_at lw_m3 127 rfl) rfl
theorem q653 : (Jvm.Cond.lays "java/lang/IndexOutOfBoundsException" "java/lang/Throwable" "detailMessage" "Ljava/lang/String;") ∈ lw_all := lw_g (lw_at lw_m3 128 rfl) rfl
theorem q654 : (Jvm.Cond.lays "java/lang/IndexOutOfBoundsException" "java/lang/Throwable" "backtrace" "Ljava/lang/Object;") ∈ lw_all := lw_g (lw_at lw_m3 129 rfl) rfl
theorem q656 : (Jvm.Cond.instanceMethod ({ cls := "java/lang/IndexOutOfBoundsException", name := "<init>", desc := "()V" } : Jvm.MethodName)) ∈ lw_all := lw_g (lw_at lw_m3 131 rfl) rfl
theorem q657 : (Jvm.Cond.code ({ cls := "java/lang/IndexOutOfBoundsException", name := "<init>", desc := "()V" } : Jvm.MethodName) prog_17_method_1_code (1 : Nat) (Option.none : Option Jvm.ClassFile.FieldType)) ∈ lw_all := lw_g (lw_at lw_m3 132 rfl) rfl
theorem q658 : (Jvm.Cond.methodLink "java/lang/IndexOutOfBoundsException" (1 : Nat) ({ cls := "java/lang/RuntimeException", name := "<init>", desc := "()V" } : Jvm.MethodName)) ∈ lw_all := lw_g (lw_at lw_m3 133 rfl) rfl
theorem q659 : (Jvm.Cond.lays "java/lang/IndexOutOfBoundsException" "java/lang/Throwable" "depth" "I") ∈ lw_all := lw_g (lw_at lw_m3 134 rfl) rfl
theorem q660 : (Jvm.Cond.superclass "java/lang/IndexOutOfBoundsException" "java/lang/RuntimeException") ∈ lw_all := lw_g (lw_at lw_m3 135 rfl) rfl
theorem q1436 : (Jvm.Cond.castable "java/lang/IndexOutOfBoundsException" "java/lang/Object") ∈ lw_tbl := lw_at lw_m6 191 rfl
theorem in_J11 : ∀ w ∈ wsJ110, w ∈ lw_all := lw_in wsJ110 [650, 651, 652, 653, 654, 659] (by decide +kernel) (by decide +kernel)
/-! java/lang/ArrayIndexOutOfBoundsException -/
set_option maxRecDepth 100000
def RJ12 : String := "java/lang/ArrayIndexOutOfBoundsException"
def TJ12 : u_T := fun k => match k with
  | 0 => ("java/lang/Throwable", "backtrace", "Ljava/lang/Object;", false)
  | 1 => ("java/lang/Throwable", "detailMessage", "Ljava/lang/String;", false)
  | 2 => ("java/lang/Throwable", "cause", "Ljava/lang/Throwable;", false)
  | 3 => ("java/lang/Throwable", "stackTrace", "[Ljava/lang/StackTraceElement;", false)
  | 4 => ("java/lang/Throwable", "depth", "I", false)
  | _ => ("java/lang/Throwable", "suppressedExceptions", "Ljava/util/List;", false)
def tyJ12 : Nat → FieldType := fun k => match k with
  | 0 => .object "java/lang/Object"
  | 1 => .object "java/lang/String"
  | 2 => .object "java/lang/Throwable"
  | 3 => .array (.object "java/lang/StackTraceElement")
  | 4 => .int
  | _ => .object "java/util/List"
abbrev wsJ120 : List Cond := u_ws RJ12 TJ12 6
theorem nmJ12 : ∀ a, a < 6 → ∀ b, b < 6 → a ≠ b → (TJ12 a).2.1 ≠ (TJ12 b).2.1 := by decide +kernel
theorem tyJ12_ok : ∀ k, k < 6 → parseFieldDescriptor (TJ12 k).2.2.1 = some (tyJ12 k) := by decide +kernel
abbrev cJ12_init : ByteArray := prog_11_method_2_code
def yJ12_init : MethodName := ⟨RJ12, "<init>", "(Ljava/lang/String;)V"⟩
def dkwJ12_init_0 : List UInt8 := [42, 43, 183, 0, 7, 177]
abbrev dktJ12_init_0 : List UInt8 := dkwJ12_init_0 ++ []
theorem dksJ12_init_0 : cJ12_init.data.toList.drop 0 = dktJ12_init_0 := by decide +kernel
theorem dJ12_init_0 : decode cJ12_init 0 = .ok (.aload_n 0, 1) := dk_42 (dk_at dksJ12_init_0 0 rfl rfl)
theorem dJ12_init_1 : decode cJ12_init 1 = .ok (.aload_n 1, 1) := dk_43 (dk_at dksJ12_init_0 1 rfl rfl)
theorem dJ12_init_2 : decode cJ12_init 2 = .ok (.invokespecial 7, 3) := dk_183 0 7 (dk_at dksJ12_init_0 2 rfl rfl)
theorem dJ12_init_5 : decode cJ12_init 5 = .ok (.return_, 1) := dk_177 (dk_at dksJ12_init_0 5 rfl rfl)
theorem q62 : (Jvm.Cond.initialized "java/lang/ArrayIndexOutOfBoundsException") ∈ lw_all := lw_g (lw_at lw_m1 17 rfl) rfl
theorem q238 : (Jvm.Cond.selects "java/lang/ArrayIndexOutOfBoundsException" ({ cls := "java/lang/Throwable", name := "fillInStackTrace", desc := "()Ljava/lang/Throwable;" } : Jvm.MethodName) ({ cls := "java/lang/Throwable", name := "fillInStackTrace", desc := "()Ljava/lang/Throwable;" } : Jvm.MethodName)) ∈ lw_all := lw_g (lw_at lw_m1 193 rfl) rfl
theorem q572 : (Jvm.Cond.selects "java/lang/ArrayIndexOutOfBoundsException" ({ cls := "java/lang/Object", name := "getClass", desc := "()Ljava/lang/Class;" } : Jvm.MethodName) ({ cls := "java/lang/Object", name := "getClass", desc := "()Ljava/lang/Class;" } : Jvm.MethodName)) ∈ lw_all := lw_g (lw_at lw_m3 47 rfl) rfl
theorem q603 : (Jvm.Cond.instantiable "java/lang/ArrayIndexOutOfBoundsException" (6 : Nat)) ∈ lw_all := lw_g (lw_at lw_m3 78 rfl) rfl
theorem q604 : (Jvm.Cond.instanceMethod ({ cls := "java/lang/ArrayIndexOutOfBoundsException", name := "<init>", desc := "(Ljava/lang/String;)V" } : Jvm.MethodName)) ∈ lw_all := lw_g (lw_at lw_m3 79 rfl) rfl
theorem q605 : (Jvm.Cond.code ({ cls := "java/lang/ArrayIndexOutOfBoundsException", name := "<init>", desc := "(Ljava/lang/String;)V" } : Jvm.MethodName) prog_11_method_2_code (2 : Nat) (Option.none : Option Jvm.ClassFile.FieldType)) ∈ lw_all := lw_g (lw_at lw_m3 80 rfl) rfl
theorem q606 : (Jvm.Cond.methodLink "java/lang/ArrayIndexOutOfBoundsException" (7 : Nat) ({ cls := "java/lang/IndexOutOfBoundsException", name := "<init>", desc := "(Ljava/lang/String;)V" } : Jvm.MethodName)) ∈ lw_all := lw_g (lw_at lw_m3 81 rfl) rfl
theorem q618 : (Jvm.Cond.lays "java/lang/ArrayIndexOutOfBoundsException" "java/lang/Throwable" "backtrace" "Ljava/lang/Object;") ∈ lw_all := lw_g (lw_at lw_m3 93 rfl) rfl
theorem q619 : (Jvm.Cond.lays "java/lang/ArrayIndexOutOfBoundsException" "java/lang/Throwable" "detailMessage" "Ljava/lang/String;") ∈ lw_all := lw_g (lw_at lw_m3 94 rfl) rfl
theorem q620 : (Jvm.Cond.lays "java/lang/ArrayIndexOutOfBoundsException" "java/lang/Throwable" "cause" "Ljava/lang/Throwable;") ∈ lw_all := lw_g (lw_at lw_m3 95 rfl) rfl
theorem q621 : (Jvm.Cond.lays "java/lang/ArrayIndexOutOfBoundsException" "java/lang/Throwable" "stackTrace" "[Ljava/lang/StackTraceElement;") ∈ lw_all := lw_g (lw_at lw_m3 96 rfl) rfl
theorem q622 : (Jvm.Cond.lays "java/lang/ArrayIndexOutOfBoundsException" "java/lang/Throwable" "depth" "I") ∈ lw_all := lw_g (lw_at lw_m3 97 rfl) rfl
theorem q623 : (Jvm.Cond.lays "java/lang/ArrayIndexOutOfBoundsException" "java/lang/Throwable" "suppressedExceptions" "Ljava/util/List;") ∈ lw_all := lw_g (lw_at lw_m3 98 rfl) rfl
theorem q624 : (Jvm.Cond.superclass "java/lang/ArrayIndexOutOfBoundsException" "java/lang/IndexOutOfBoundsException") ∈ lw_all := lw_g (lw_at lw_m3 99 rfl) rfl
theorem q625 : (Jvm.Cond.castable "java/lang/ArrayIndexOutOfBoundsException" "java/lang/ArrayIndexOutOfBoundsException") ∈ lw_tbl := lw_at lw_m3 100 rfl
theorem q628 : (Jvm.Cond.selects "java/lang/ArrayIndexOutOfBoundsException" ({ cls := "java/lang/Throwable", name := "fillInStackTrace", desc := "(I)Ljava/lang/Throwable;" } : Jvm.MethodName) ({ cls := "java/lang/Throwable", name := "fillInStackTrace", desc := "(I)Ljava/lang/Throwable;" } : Jvm.MethodName)) ∈ lw_all := lw_g (lw_at lw_m3 103 rfl) rfl
theorem q1427 : (Jvm.Cond.castable "java/lang/ArrayIndexOutOfBoundsException" "java/lang/IndexOutOfBoundsException") ∈ lw_tbl := lw_at lw_m6 182 rfl
theorem q1435 : (Jvm.Cond.castable "java/lang/ArrayIndexOutOfBoundsException" "java/lang/Object") ∈ lw_tbl := lw_at lw_m6 190 rfl
theorem in_J12 : ∀ w ∈ wsJ120, w ∈ lw_all := lw_in wsJ120 [618, 619, 620, 621, 622, 623] (by decide +kernel) (by decide +kernel)
/-! java/lang/String -/
set_option maxRecDepth 100000
def RJ13 : String := "java/lang/String"
def TJ13 : u_T := fun k => match k with
  | 0 => ("java/lang/String", "value", "[B", true)
  | _ => ("java/lang/String", "coder", "B", true)
def tyJ13 : Nat → FieldType := fun k => match k with
  | 0 => .array .byte
  | _ => .byte
abbrev wsJ130 : List Cond := u_ws RJ13 TJ13 2
theorem nmJ13 : ∀ a, a < 2 → ∀ b, b < 2 → a ≠ b → (TJ13 a).2.1 ≠ (TJ13 b).2.1 := by decide +kernel
theorem tyJ13_ok : ∀ k, k < 2 → parseFieldDescriptor (TJ13 k).2.2.1 = some (tyJ13 k) := by decide +kernel
theorem q63 : (Jvm.Cond.initialized "java/lang/String") ∈ lw_all := lw_g (lw_at lw_m1 18 rfl) rfl
theorem q629 : (Jvm.Cond.instantiable "java/lang/String" (4 : Nat)) ∈ lw_all := lw_g (lw_at lw_m3 104 rfl) rfl
theorem q631 : (Jvm.Cond.laysFinal "java/lang/String" "java/lang/String" "value" "[B") ∈ lw_all := lw_g (lw_at lw_m3 106 rfl) rfl
theorem q632 : (Jvm.Cond.soleField "java/lang/String" "value") ∈ lw_all := lw_g (lw_at lw_m3 107 rfl) rfl
theorem q633 : (Jvm.Cond.laysFinal "java/lang/String" "java/lang/String" "coder" "B") ∈ lw_all := lw_g (lw_at lw_m3 108 rfl) rfl
theorem q634 : (Jvm.Cond.soleField "java/lang/String" "coder") ∈ lw_all := lw_g (lw_at lw_m3 109 rfl) rfl
theorem q1428 : (Jvm.Cond.castable "java/lang/String" "java/lang/Comparable") ∈ lw_tbl := lw_at lw_m6 183 rfl
theorem q1448 : (Jvm.Cond.castable "java/lang/String" "java/lang/Object") ∈ lw_tbl := lw_at lw_m6 203 rfl
theorem in_J13 : ∀ w ∈ wsJ130, w ∈ lw_all := lw_in wsJ130 [631, 633] (by decide +kernel) (by decide +kernel)
/-! java/util/Objects -/
set_option maxRecDepth 100000
def RJ14 : String := "java/util/Objects"
abbrev cJ14_checkIndex : ByteArray := prog_43_method_17_code
def yJ14_checkIndex : MethodName := ⟨RJ14, "checkIndex", "(II)I"⟩
def dkwJ14_checkIndex_0 : List UInt8 := [26, 27, 1, 184, 0, 105, 172]
abbrev dktJ14_checkIndex_0 : List UInt8 := dkwJ14_checkIndex_0 ++ []
theorem dksJ14_checkIndex_0 : cJ14_checkIndex.data.toList.drop 0 = dktJ14_checkIndex_0 := by decide +kernel
theorem dJ14_checkIndex_0 : decode cJ14_checkIndex 0 = .ok (.iload_n 0, 1) := dk_26 (dk_at dksJ14_checkIndex_0 0 rfl rfl)
theorem dJ14_checkIndex_1 : decode cJ14_checkIndex 1 = .ok (.iload_n 1, 1) := dk_27 (dk_at dksJ14_checkIndex_0 1 rfl rfl)
theorem dJ14_checkIndex_2 : decode cJ14_checkIndex 2 = .ok (.aconst_null, 1) := dk_1 (dk_at dksJ14_checkIndex_0 2 rfl rfl)
theorem dJ14_checkIndex_3 : decode cJ14_checkIndex 3 = .ok (.invokestatic 105, 3) := dk_184 0 105 (dk_at dksJ14_checkIndex_0 3 rfl rfl)
theorem dJ14_checkIndex_6 : decode cJ14_checkIndex 6 = .ok (.ireturn, 1) := dk_172 (dk_at dksJ14_checkIndex_0 6 rfl rfl)
abbrev cJ14_requireNonNull : ByteArray := prog_43_method_10_code
def yJ14_requireNonNull : MethodName := ⟨RJ14, "requireNonNull", "(Ljava/lang/Object;)Ljava/lang/Object;"⟩
def dkwJ14_requireNonNull_0 : List UInt8 := [42, 199, 0, 11, 187, 0, 84, 89, 183, 0, 86, 191, 42, 176]
abbrev dktJ14_requireNonNull_0 : List UInt8 := dkwJ14_requireNonNull_0 ++ []
theorem dksJ14_requireNonNull_0 : cJ14_requireNonNull.data.toList.drop 0 = dktJ14_requireNonNull_0 := by decide +kernel
theorem dJ14_requireNonNull_0 : decode cJ14_requireNonNull 0 = .ok (.aload_n 0, 1) := dk_42 (dk_at dksJ14_requireNonNull_0 0 rfl rfl)
theorem dJ14_requireNonNull_1 : decode cJ14_requireNonNull 1 = .ok (.ifnonnull 11, 3) := dk_199 0 11 (dk_at dksJ14_requireNonNull_0 1 rfl rfl)
theorem dJ14_requireNonNull_4 : decode cJ14_requireNonNull 4 = .ok (.new 84, 3) := dk_187 0 84 (dk_at dksJ14_requireNonNull_0 4 rfl rfl)
theorem dJ14_requireNonNull_7 : decode cJ14_requireNonNull 7 = .ok (.dup, 1) := dk_89 (dk_at dksJ14_requireNonNull_0 7 rfl rfl)
theorem dJ14_requireNonNull_8 : decode cJ14_requireNonNull 8 = .ok (.invokespecial 86, 3) := dk_183 0 86 (dk_at dksJ14_requireNonNull_0 8 rfl rfl)
theorem dJ14_requireNonNull_11 : decode cJ14_requireNonNull 11 = .ok (.athrow, 1) := dk_191 (dk_at dksJ14_requireNonNull_0 11 rfl rfl)
theorem dJ14_requireNonNull_12 : decode cJ14_requireNonNull 12 = .ok (.aload_n 0, 1) := dk_42 (dk_at dksJ14_requireNonNull_0 12 rfl rfl)
theorem dJ14_requireNonNull_13 : decode cJ14_requireNonNull 13 = .ok (.areturn, 1) := dk_176 (dk_at dksJ14_requireNonNull_0 13 rfl rfl)
theorem q64 : (Jvm.Cond.initialized "java/util/Objects") ∈ lw_all := lw_g (lw_at lw_m1 19 rfl) rfl
theorem q297 : (Jvm.Cond.static ({ cls := "java/util/Objects", name := "checkIndex", desc := "(II)I" } : Jvm.MethodName)) ∈ lw_all := lw_g (lw_at lw_m2 12 rfl) rfl
theorem q298 : (Jvm.Cond.code ({ cls := "java/util/Objects", name := "checkIndex", desc := "(II)I" } : Jvm.MethodName) prog_43_method_17_code (2 : Nat) (Option.some Jvm.ClassFile.FieldType.int)) ∈ lw_all := lw_g (lw_at lw_m2 13 rfl) rfl
theorem q299 : (Jvm.Cond.methodLink "java/util/Objects" (105 : Nat) ({ cls := "jdk/internal/util/Preconditions", name := "checkIndex", desc := "(IILjava/util/function/BiFunction;)I" } : Jvm.MethodName)) ∈ lw_all := lw_g (lw_at lw_m2 14 rfl) rfl
theorem q910 : (Jvm.Cond.static ({ cls := "java/util/Objects", name := "requireNonNull", desc := "(Ljava/lang/Object;)Ljava/lang/Object;" } : Jvm.MethodName)) ∈ lw_all := lw_g (lw_at lw_m4 145 rfl) rfl
theorem q911 : (Jvm.Cond.code ({ cls := "java/util/Objects", name := "requireNonNull", desc := "(Ljava/lang/Object;)Ljava/lang/Object;" } : Jvm.MethodName) prog_43_method_10_code (1 : Nat) (Option.some (Jvm.ClassFile.FieldType.object "java/lang/Object"))) ∈ lw_all := lw_g (lw_at lw_m4 146 rfl) rfl
/-! jdk/internal/util/Preconditions -/
set_option maxRecDepth 100000
def RJ15 : String := "jdk/internal/util/Preconditions"
abbrev cJ15_checkIndex : ByteArray := prog_54_method_11_code
def yJ15_checkIndex : MethodName := ⟨RJ15, "checkIndex", "(IILjava/util/function/BiFunction;)I"⟩
def dkwJ15_checkIndex_0 : List UInt8 := [26, 155, 0, 8, 26, 27, 161, 0, 10, 44, 26, 27, 184, 0, 95, 191, 26, 172]
abbrev dktJ15_checkIndex_0 : List UInt8 := dkwJ15_checkIndex_0 ++ []
theorem dksJ15_checkIndex_0 : cJ15_checkIndex.data.toList.drop 0 = dktJ15_checkIndex_0 := by decide +kernel
theorem dJ15_checkIndex_0 : decode cJ15_checkIndex 0 = .ok (.iload_n 0, 1) := dk_26 (dk_at dksJ15_checkIndex_0 0 rfl rfl)
theorem dJ15_checkIndex_1 : decode cJ15_checkIndex 1 = .ok (.ifCond .lt 8, 3) := dk_155 0 8 (dk_at dksJ15_checkIndex_0 1 rfl rfl)
theorem dJ15_checkIndex_4 : decode cJ15_checkIndex 4 = .ok (.iload_n 0, 1) := dk_26 (dk_at dksJ15_checkIndex_0 4 rfl rfl)
theorem dJ15_checkIndex_5 : decode cJ15_checkIndex 5 = .ok (.iload_n 1, 1) := dk_27 (dk_at dksJ15_checkIndex_0 5 rfl rfl)
theorem dJ15_checkIndex_6 : decode cJ15_checkIndex 6 = .ok (.if_icmp .lt 10, 3) := dk_161 0 10 (dk_at dksJ15_checkIndex_0 6 rfl rfl)
theorem dJ15_checkIndex_9 : decode cJ15_checkIndex 9 = .ok (.aload_n 2, 1) := dk_44 (dk_at dksJ15_checkIndex_0 9 rfl rfl)
theorem dJ15_checkIndex_10 : decode cJ15_checkIndex 10 = .ok (.iload_n 0, 1) := dk_26 (dk_at dksJ15_checkIndex_0 10 rfl rfl)
theorem dJ15_checkIndex_11 : decode cJ15_checkIndex 11 = .ok (.iload_n 1, 1) := dk_27 (dk_at dksJ15_checkIndex_0 11 rfl rfl)
theorem dJ15_checkIndex_12 : decode cJ15_checkIndex 12 = .ok (.invokestatic 95, 3) := dk_184 0 95 (dk_at dksJ15_checkIndex_0 12 rfl rfl)
theorem dJ15_checkIndex_15 : decode cJ15_checkIndex 15 = .ok (.athrow, 1) := dk_191 (dk_at dksJ15_checkIndex_0 15 rfl rfl)
theorem dJ15_checkIndex_16 : decode cJ15_checkIndex 16 = .ok (.iload_n 0, 1) := dk_26 (dk_at dksJ15_checkIndex_0 16 rfl rfl)
theorem dJ15_checkIndex_17 : decode cJ15_checkIndex 17 = .ok (.ireturn, 1) := dk_172 (dk_at dksJ15_checkIndex_0 17 rfl rfl)
theorem q65 : (Jvm.Cond.initialized "jdk/internal/util/Preconditions") ∈ lw_all := lw_g (lw_at lw_m1 20 rfl) rfl
theorem q300 : (Jvm.Cond.static ({ cls := "jdk/internal/util/Preconditions", name := "checkIndex", desc := "(IILjava/util/function/BiFunction;)I" } : Jvm.MethodName)) ∈ lw_all := lw_g (lw_at lw_m2 15 rfl) rfl
theorem q301 : (Jvm.Cond.code ({ cls := "jdk/internal/util/Preconditions", name := "checkIndex", desc := "(IILjava/util/function/BiFunction;)I" } : Jvm.MethodName) prog_54_method_11_code (3 : Nat) (Option.some Jvm.ClassFile.FieldType.int)) ∈ lw_all := lw_g (lw_at lw_m2 16 rfl) rfl
/-! java/util/AbstractMap -/
set_option maxRecDepth 100000
def RJ16 : String := "java/util/AbstractMap"
abbrev cJ16_init : ByteArray := prog_31_method_1_code
def yJ16_init : MethodName := ⟨RJ16, "<init>", "()V"⟩
theorem dJ16_init_0 : decode cJ16_init 0 = .ok (.aload_n 0, 1) := by decide +kernel
theorem dJ16_init_1 : decode cJ16_init 1 = .ok (.invokespecial 1, 3) := by decide +kernel
theorem dJ16_init_4 : decode cJ16_init 4 = .ok (.return_, 1) := by decide +kernel
theorem q67 : (Jvm.Cond.initialized "java/util/AbstractMap") ∈ lw_all := lw_g (lw_at lw_m1 22 rfl) rfl
theorem q672 : (Jvm.Cond.instanceMethod ({ cls := "java/util/AbstractMap", name := "<init>", desc := "()V" } : Jvm.MethodName)) ∈ lw_all := lw_g (lw_at lw_m3 147 rfl) rfl
theorem q673 : (Jvm.Cond.code ({ cls := "java/util/AbstractMap", name := "<init>", desc := "()V" } : Jvm.MethodName) prog_31_method_1_code (1 : Nat) (Option.none : Option Jvm.ClassFile.FieldType)) ∈ lw_all := lw_g (lw_at lw_m3 148 rfl) rfl
theorem q674 : (Jvm.Cond.methodLink "java/util/AbstractMap" (1 : Nat) ({ cls := "java/lang/Object", name := "<init>", desc := "()V" } : Jvm.MethodName)) ∈ lw_all := lw_g (lw_at lw_m3 149 rfl) rfl
theorem q697 : (Jvm.Cond.soleField "java/util/AbstractMap" "keySet") ∈ lw_all := lw_g (lw_at lw_m3 172 rfl) rfl
theorem q699 : (Jvm.Cond.soleField "java/util/AbstractMap" "values") ∈ lw_all := lw_g (lw_at lw_m3 174 rfl) rfl
/-! java/util/TreeMap -/
set_option maxRecDepth 100000
def RJ17 : String := "java/util/TreeMap"
def TJ17 : u_T := fun k => match k with
  | 0 => ("java/util/AbstractMap", "keySet", "Ljava/util/Set;", false)
  | 1 => ("java/util/AbstractMap", "values", "Ljava/util/Collection;", false)
  | 2 => ("java/util/TreeMap", "comparator", "Ljava/util/Comparator;", true)
  | 3 => ("java/util/TreeMap", "root", "Ljava/util/TreeMap$Entry;", false)
  | 4 => ("java/util/TreeMap", "size", "I", false)
  | 5 => ("java/util/TreeMap", "modCount", "I", false)
  | 6 => ("java/util/TreeMap", "entrySet", "Ljava/util/TreeMap$EntrySet;", false)
  | 7 => ("java/util/TreeMap", "navigableKeySet", "Ljava/util/TreeMap$KeySet;", false)
  | _ => ("java/util/TreeMap", "descendingMap", "Ljava/util/NavigableMap;", false)
def tyJ17 : Nat → FieldType := fun k => match k with
  | 0 => .object "java/util/Set"
  | 1 => .object "java/util/Collection"
  | 2 => .object "java/util/Comparator"
  | 3 => .object "java/util/TreeMap$Entry"
  | 4 => .int
  | 5 => .int
  | 6 => .object "java/util/TreeMap$EntrySet"
  | 7 => .object "java/util/TreeMap$KeySet"
  | _ => .object "java/util/NavigableMap"
abbrev wsJ170 : List Cond := u_ws RJ17 TJ17 9
theorem nmJ17 : ∀ a, a < 9 → ∀ b, b < 9 → a ≠ b → (TJ17 a).2.1 ≠ (TJ17 b).2.1 := by decide +kernel
theorem tyJ17_ok : ∀ k, k < 9 → parseFieldDescriptor (TJ17 k).2.2.1 = some (tyJ17 k) := by decide +kernel
abbrev cJ17_successor : ByteArray := prog_48_method_74_code
def yJ17_successor : MethodName := ⟨RJ17, "successor", "(Ljava/util/TreeMap$Entry;)Ljava/util/TreeMap$Entry;"⟩
def dkwJ17_successor_2 : List UInt8 := [44, 43, 180, 0, 114, 166, 0, 13, 43, 77, 43, 180, 0, 124, 76, 167, 255, 237, 43, 176]
abbrev dktJ17_successor_2 : List UInt8 := dkwJ17_successor_2 ++ []
def dkwJ17_successor_1 : List UInt8 := [198, 0, 11, 43, 180, 0, 111, 76, 167, 255, 244, 43, 176, 42, 180, 0, 124, 76, 42, 77, 43, 198, 0, 21]
abbrev dktJ17_successor_1 : List UInt8 := dkwJ17_successor_1 ++ dktJ17_successor_2
def dkwJ17_successor_0 : List UInt8 := [42, 199, 0, 5, 1, 176, 42, 180, 0, 114, 198, 0, 25, 42, 180, 0, 114, 76, 43, 180, 0, 111]
abbrev dktJ17_successor_0 : List UInt8 := dkwJ17_successor_0 ++ dktJ17_successor_1
theorem dksJ17_successor_0 : cJ17_successor.data.toList.drop 0 = dktJ17_successor_0 := by decide +kernel
theorem dksJ17_successor_1 : cJ17_successor.data.toList.drop 22 = dktJ17_successor_1 := dk_seg dksJ17_successor_0 22 rfl rfl
theorem dksJ17_successor_2 : cJ17_successor.data.toList.drop 46 = dktJ17_successor_2 := dk_seg dksJ17_successor_1 24 rfl rfl
theorem dJ17_successor_0 : decode cJ17_successor 0 = .ok (.aload_n 0, 1) := dk_42 (dk_at dksJ17_successor_0 0 rfl rfl)
theorem dJ17_successor_1 : decode cJ17_successor 1 = .ok (.ifnonnull 5, 3) := dk_199 0 5 (dk_at dksJ17_successor_0 1 rfl rfl)
theorem dJ17_successor_4 : decode cJ17_successor 4 = .ok (.aconst_null, 1) := dk_1 (dk_at dksJ17_successor_0 4 rfl rfl)
theorem dJ17_successor_5 : decode cJ17_successor 5 = .ok (.areturn, 1) := dk_176 (dk_at dksJ17_successor_0 5 rfl rfl)
theorem dJ17_successor_6 : decode cJ17_successor 6 = .ok (.aload_n 0, 1) := dk_42 (dk_at dksJ17_successor_0 6 rfl rfl)
theorem dJ17_successor_7 : decode cJ17_successor 7 = .ok (.getfield 114, 3) := dk_180 0 114 (dk_at dksJ17_successor_0 7 rfl rfl)
theorem dJ17_successor_10 : decode cJ17_successor 10 = .ok (.ifnull 25, 3) := dk_198 0 25 (dk_at dksJ17_successor_0 10 rfl rfl)
theorem dJ17_successor_13 : decode cJ17_successor 13 = .ok (.aload_n 0, 1) := dk_42 (dk_at dksJ17_successor_0 13 rfl rfl)
theorem dJ17_successor_14 : decode cJ17_successor 14 = .ok (.getfield 114, 3) := dk_180 0 114 (dk_at dksJ17_successor_0 14 rfl rfl)
theorem dJ17_successor_17 : decode cJ17_successor 17 = .ok (.astore_n 1, 1) := dk_76 (dk_at dksJ17_successor_0 17 rfl rfl)
theorem dJ17_successor_18 : decode cJ17_successor 18 = .ok (.aload_n 1, 1) := dk_43 (dk_at dksJ17_successor_0 18 rfl rfl)
theorem dJ17_successor_19 : decode cJ17_successor 19 = .ok (.getfield 111, 3) := dk_180 0 111 (dk_at dksJ17_successor_0 19 rfl rfl)
theorem dJ17_successor_22 : decode cJ17_successor 22 = .ok (.ifnull 11, 3) := dk_198 0 11 (dk_at dksJ17_successor_1 0 rfl rfl)
theorem dJ17_successor_25 : decode cJ17_successor 25 = .ok (.aload_n 1, 1) := dk_43 (dk_at dksJ17_successor_1 3 rfl rfl)
theorem dJ17_successor_26 : decode cJ17_successor 26 = .ok (.getfield 111, 3) := dk_180 0 111 (dk_at dksJ17_successor_1 4 rfl rfl)
theorem dJ17_successor_29 : decode cJ17_successor 29 = .ok (.astore_n 1, 1) := dk_76 (dk_at dksJ17_successor_1 7 rfl rfl)
theorem dJ17_successor_30 : decode cJ17_successor 30 = .ok (.goto (-12), 3) := dk_167 255 244 (dk_at dksJ17_successor_1 8 rfl rfl)
theorem dJ17_successor_33 : decode cJ17_successor 33 = .ok (.aload_n 1, 1) := dk_43 (dk_at dksJ17_successor_1 11 rfl rfl)
theorem dJ17_successor_34 : decode cJ17_successor 34 = .ok (.areturn, 1) := dk_176 (dk_at dksJ17_successor_1 12 rfl rfl)
theorem dJ17_successor_35 : decode cJ17_successor 35 = .ok (.aload_n 0, 1) := dk_42 (dk_at dksJ17_successor_1 13 rfl rfl)
theorem dJ17_successor_36 : decode cJ17_successor 36 = .ok (.getfield 124, 3) := dk_180 0 124 (dk_at dksJ17_successor_1 14 rfl rfl)
theorem dJ17_successor_39 : decode cJ17_successor 39 = .ok (.astore_n 1, 1) := dk_76 (dk_at dksJ17_successor_1 17 rfl rfl)
theorem dJ17_successor_40 : decode cJ17_successor 40 = .ok (.aload_n 0, 1) := dk_42 (dk_at dksJ17_successor_1 18 rfl rfl)
theorem dJ17_successor_41 : decode cJ17_successor 41 = .ok (.astore_n 2, 1) := dk_77 (dk_at dksJ17_successor_1 19 rfl rfl)
theorem dJ17_successor_42 : decode cJ17_successor 42 = .ok (.aload_n 1, 1) := dk_43 (dk_at dksJ17_successor_1 20 rfl rfl)
theorem dJ17_successor_43 : decode cJ17_successor 43 = .ok (.ifnull 21, 3) := dk_198 0 21 (dk_at dksJ17_successor_1 21 rfl rfl)
theorem dJ17_successor_46 : decode cJ17_successor 46 = .ok (.aload_n 2, 1) := dk_44 (dk_at dksJ17_successor_2 0 rfl rfl)
theorem dJ17_successor_47 : decode cJ17_successor 47 = .ok (.aload_n 1, 1) := dk_43 (dk_at dksJ17_successor_2 1 rfl rfl)
theorem dJ17_successor_48 : decode cJ17_successor 48 = .ok (.getfield 114, 3) := dk_180 0 114 (dk_at dksJ17_successor_2 2 rfl rfl)
theorem dJ17_successor_51 : decode cJ17_successor 51 = .ok (.if_acmp .ne 13, 3) := dk_166 0 13 (dk_at dksJ17_successor_2 5 rfl rfl)
theorem dJ17_successor_54 : decode cJ17_successor 54 = .ok (.aload_n 1, 1) := dk_43 (dk_at dksJ17_successor_2 8 rfl rfl)
theorem dJ17_successor_55 : decode cJ17_successor 55 = .ok (.astore_n 2, 1) := dk_77 (dk_at dksJ17_successor_2 9 rfl rfl)
theorem dJ17_successor_56 : decode cJ17_successor 56 = .ok (.aload_n 1, 1) := dk_43 (dk_at dksJ17_successor_2 10 rfl rfl)
theorem dJ17_successor_57 : decode cJ17_successor 57 = .ok (.getfield 124, 3) := dk_180 0 124 (dk_at dksJ17_successor_2 11 rfl rfl)
theorem dJ17_successor_60 : decode cJ17_successor 60 = .ok (.astore_n 1, 1) := dk_76 (dk_at dksJ17_successor_2 14 rfl rfl)
theorem dJ17_successor_61 : decode cJ17_successor 61 = .ok (.goto (-19), 3) := dk_167 255 237 (dk_at dksJ17_successor_2 15 rfl rfl)
theorem dJ17_successor_64 : decode cJ17_successor 64 = .ok (.aload_n 1, 1) := dk_43 (dk_at dksJ17_successor_2 18 rfl rfl)
theorem dJ17_successor_65 : decode cJ17_successor 65 = .ok (.areturn, 1) := dk_176 (dk_at dksJ17_successor_2 19 rfl rfl)
abbrev cJ17_size : ByteArray := prog_48_method_5_code
def yJ17_size : MethodName := ⟨RJ17, "size", "()I"⟩
theorem dJ17_size_0 : decode cJ17_size 0 = .ok (.aload_n 0, 1) := by decide +kernel
theorem dJ17_size_1 : decode cJ17_size 1 = .ok (.getfield 7, 3) := by decide +kernel
theorem dJ17_size_4 : decode cJ17_size 4 = .ok (.ireturn, 1) := by decide +kernel
abbrev cJ17_values : ByteArray := prog_48_method_52_code
def yJ17_values : MethodName := ⟨RJ17, "values", "()Ljava/util/Collection;"⟩
def dkwJ17_values_1 : List UInt8 := [176]
abbrev dktJ17_values_1 : List UInt8 := dkwJ17_values_1 ++ []
def dkwJ17_values_0 : List UInt8 := [42, 180, 0, 233, 76, 43, 199, 0, 17, 187, 0, 237, 89, 42, 183, 0, 239, 76, 42, 43, 181, 0, 233, 43]
abbrev dktJ17_values_0 : List UInt8 := dkwJ17_values_0 ++ dktJ17_values_1
theorem dksJ17_values_0 : cJ17_values.data.toList.drop 0 = dktJ17_values_0 := by decide +kernel
theorem dksJ17_values_1 : cJ17_values.data.toList.drop 24 = dktJ17_values_1 := dk_seg dksJ17_values_0 24 rfl rfl
theorem dJ17_values_0 : decode cJ17_values 0 = .ok (.aload_n 0, 1) := dk_42 (dk_at dksJ17_values_0 0 rfl rfl)
theorem dJ17_values_1 : decode cJ17_values 1 = .ok (.getfield 233, 3) := dk_180 0 233 (dk_at dksJ17_values_0 1 rfl rfl)
theorem dJ17_values_4 : decode cJ17_values 4 = .ok (.astore_n 1, 1) := dk_76 (dk_at dksJ17_values_0 4 rfl rfl)
theorem dJ17_values_5 : decode cJ17_values 5 = .ok (.aload_n 1, 1) := dk_43 (dk_at dksJ17_values_0 5 rfl rfl)
theorem dJ17_values_6 : decode cJ17_values 6 = .ok (.ifnonnull 17, 3) := dk_199 0 17 (dk_at dksJ17_values_0 6 rfl rfl)
theorem dJ17_values_9 : decode cJ17_values 9 = .ok (.new 237, 3) := dk_187 0 237 (dk_at dksJ17_values_0 9 rfl rfl)
theorem dJ17_values_12 : decode cJ17_values 12 = .ok (.dup, 1) := dk_89 (dk_at dksJ17_values_0 12 rfl rfl)
theorem dJ17_values_13 : decode cJ17_values 13 = .ok (.aload_n 0, 1) := dk_42 (dk_at dksJ17_values_0 13 rfl rfl)
theorem dJ17_values_14 : decode cJ17_values 14 = .ok (.invokespecial 239, 3) := dk_183 0 239 (dk_at dksJ17_values_0 14 rfl rfl)
theorem dJ17_values_17 : decode cJ17_values 17 = .ok (.astore_n 1, 1) := dk_76 (dk_at dksJ17_values_0 17 rfl rfl)
theorem dJ17_values_18 : decode cJ17_values 18 = .ok (.aload_n 0, 1) := dk_42 (dk_at dksJ17_values_0 18 rfl rfl)
theorem dJ17_values_19 : decode cJ17_values 19 = .ok (.aload_n 1, 1) := dk_43 (dk_at dksJ17_values_0 19 rfl rfl)
theorem dJ17_values_20 : decode cJ17_values 20 = .ok (.putfield 233, 3) := dk_181 0 233 (dk_at dksJ17_values_0 20 rfl rfl)
theorem dJ17_values_23 : decode cJ17_values 23 = .ok (.aload_n 1, 1) := dk_43 (dk_at dksJ17_values_0 23 rfl rfl)
theorem dJ17_values_24 : decode cJ17_values 24 = .ok (.areturn, 1) := dk_176 (dk_at dksJ17_values_1 0 rfl rfl)
abbrev cJ17_getFirstEntry : ByteArray := prog_48_method_72_code
def yJ17_getFirstEntry : MethodName := ⟨RJ17, "getFirstEntry", "()Ljava/util/TreeMap$Entry;"⟩
def dkwJ17_getFirstEntry_1 : List UInt8 := [43, 176]
abbrev dktJ17_getFirstEntry_1 : List UInt8 := dkwJ17_getFirstEntry_1 ++ []
def dkwJ17_getFirstEntry_0 : List UInt8 := [42, 180, 0, 101, 76, 43, 198, 0, 18, 43, 180, 0, 111, 198, 0, 11, 43, 180, 0, 111, 76, 167, 255, 244]
abbrev dktJ17_getFirstEntry_0 : List UInt8 := dkwJ17_getFirstEntry_0 ++ dktJ17_getFirstEntry_1
theorem dksJ17_getFirstEntry_0 : cJ17_getFirstEntry.data.toList.drop 0 = dktJ17_getFirstEntry_0 := by decide +kernel
theorem dksJ17_getFirstEntry_1 : cJ17_getFirstEntry.data.toList.drop 24 = dktJ17_getFirstEntry_1 := dk_seg dksJ17_getFirstEntry_0 24 rfl rfl
theorem dJ17_getFirstEntry_0 : decode cJ17_getFirstEntry 0 = .ok (.aload_n 0, 1) := dk_42 (dk_at dksJ17_getFirstEntry_0 0 rfl rfl)
theorem dJ17_getFirstEntry_1 : decode cJ17_getFirstEntry 1 = .ok (.getfield 101, 3) := dk_180 0 101 (dk_at dksJ17_getFirstEntry_0 1 rfl rfl)
theorem dJ17_getFirstEntry_4 : decode cJ17_getFirstEntry 4 = .ok (.astore_n 1, 1) := dk_76 (dk_at dksJ17_getFirstEntry_0 4 rfl rfl)
theorem dJ17_getFirstEntry_5 : decode cJ17_getFirstEntry 5 = .ok (.aload_n 1, 1) := dk_43 (dk_at dksJ17_getFirstEntry_0 5 rfl rfl)
theorem dJ17_getFirstEntry_6 : decode cJ17_getFirstEntry 6 = .ok (.ifnull 18, 3) := dk_198 0 18 (dk_at dksJ17_getFirstEntry_0 6 rfl rfl)
theorem dJ17_getFirstEntry_9 : decode cJ17_getFirstEntry 9 = .ok (.aload_n 1, 1) := dk_43 (dk_at dksJ17_getFirstEntry_0 9 rfl rfl)
theorem dJ17_getFirstEntry_10 : decode cJ17_getFirstEntry 10 = .ok (.getfield 111, 3) := dk_180 0 111 (dk_at dksJ17_getFirstEntry_0 10 rfl rfl)
theorem dJ17_getFirstEntry_13 : decode cJ17_getFirstEntry 13 = .ok (.ifnull 11, 3) := dk_198 0 11 (dk_at dksJ17_getFirstEntry_0 13 rfl rfl)
theorem dJ17_getFirstEntry_16 : decode cJ17_getFirstEntry 16 = .ok (.aload_n 1, 1) := dk_43 (dk_at dksJ17_getFirstEntry_0 16 rfl rfl)
theorem dJ17_getFirstEntry_17 : decode cJ17_getFirstEntry 17 = .ok (.getfield 111, 3) := dk_180 0 111 (dk_at dksJ17_getFirstEntry_0 17 rfl rfl)
theorem dJ17_getFirstEntry_20 : decode cJ17_getFirstEntry 20 = .ok (.astore_n 1, 1) := dk_76 (dk_at dksJ17_getFirstEntry_0 20 rfl rfl)
theorem dJ17_getFirstEntry_21 : decode cJ17_getFirstEntry 21 = .ok (.goto (-12), 3) := dk_167 255 244 (dk_at dksJ17_getFirstEntry_0 21 rfl rfl)
theorem dJ17_getFirstEntry_24 : decode cJ17_getFirstEntry 24 = .ok (.aload_n 1, 1) := dk_43 (dk_at dksJ17_getFirstEntry_1 0 rfl rfl)
theorem dJ17_getFirstEntry_25 : decode cJ17_getFirstEntry 25 = .ok (.areturn, 1) := dk_176 (dk_at dksJ17_getFirstEntry_1 1 rfl rfl)
abbrev cJ17_init : ByteArray := prog_48_method_1_code
def yJ17_init : MethodName := ⟨RJ17, "<init>", "()V"⟩
def dkwJ17_init_0 : List UInt8 := [42, 183, 0, 1, 42, 3, 181, 0, 7, 42, 3, 181, 0, 13, 42, 1, 181, 0, 16, 177]
abbrev dktJ17_init_0 : List UInt8 := dkwJ17_init_0 ++ []
theorem dksJ17_init_0 : cJ17_init.data.toList.drop 0 = dktJ17_init_0 := by decide +kernel
theorem dJ17_init_0 : decode cJ17_init 0 = .ok (.aload_n 0, 1) := dk_42 (dk_at dksJ17_init_0 0 rfl rfl)
theorem dJ17_init_1 : decode cJ17_init 1 = .ok (.invokespecial 1, 3) := dk_183 0 1 (dk_at dksJ17_init_0 1 rfl rfl)
theorem dJ17_init_4 : decode cJ17_init 4 = .ok (.aload_n 0, 1) := dk_42 (dk_at dksJ17_init_0 4 rfl rfl)
theorem dJ17_init_5 : decode cJ17_init 5 = .ok (.iconst 0, 1) := dk_3 (dk_at dksJ17_init_0 5 rfl rfl)
theorem dJ17_init_6 : decode cJ17_init 6 = .ok (.putfield 7, 3) := dk_181 0 7 (dk_at dksJ17_init_0 6 rfl rfl)
theorem dJ17_init_9 : decode cJ17_init 9 = .ok (.aload_n 0, 1) := dk_42 (dk_at dksJ17_init_0 9 rfl rfl)
theorem dJ17_init_10 : decode cJ17_init 10 = .ok (.iconst 0, 1) := dk_3 (dk_at dksJ17_init_0 10 rfl rfl)
theorem dJ17_init_11 : decode cJ17_init 11 = .ok (.putfield 13, 3) := dk_181 0 13 (dk_at dksJ17_init_0 11 rfl rfl)
theorem dJ17_init_14 : decode cJ17_init 14 = .ok (.aload_n 0, 1) := dk_42 (dk_at dksJ17_init_0 14 rfl rfl)
theorem dJ17_init_15 : decode cJ17_init 15 = .ok (.aconst_null, 1) := dk_1 (dk_at dksJ17_init_0 15 rfl rfl)
theorem dJ17_init_16 : decode cJ17_init 16 = .ok (.putfield 16, 3) := dk_181 0 16 (dk_at dksJ17_init_0 16 rfl rfl)
theorem dJ17_init_19 : decode cJ17_init 19 = .ok (.return_, 1) := dk_177 (dk_at dksJ17_init_0 19 rfl rfl)
abbrev cJ17_get : ByteArray := prog_48_method_8_code
def yJ17_get : MethodName := ⟨RJ17, "get", "(Ljava/lang/Object;)Ljava/lang/Object;"⟩
def dkwJ17_get_0 : List UInt8 := [42, 43, 182, 0, 50, 77, 44, 199, 0, 7, 1, 167, 0, 7, 44, 180, 0, 58, 176]
abbrev dktJ17_get_0 : List UInt8 := dkwJ17_get_0 ++ []
theorem dksJ17_get_0 : cJ17_get.data.toList.drop 0 = dktJ17_get_0 := by decide +kernel
theorem dJ17_get_0 : decode cJ17_get 0 = .ok (.aload_n 0, 1) := dk_42 (dk_at dksJ17_get_0 0 rfl rfl)
theorem dJ17_get_1 : decode cJ17_get 1 = .ok (.aload_n 1, 1) := dk_43 (dk_at dksJ17_get_0 1 rfl rfl)
theorem dJ17_get_2 : decode cJ17_get 2 = .ok (.invokevirtual 50, 3) := dk_182 0 50 (dk_at dksJ17_get_0 2 rfl rfl)
theorem dJ17_get_5 : decode cJ17_get 5 = .ok (.astore_n 2, 1) := dk_77 (dk_at dksJ17_get_0 5 rfl rfl)
theorem dJ17_get_6 : decode cJ17_get 6 = .ok (.aload_n 2, 1) := dk_44 (dk_at dksJ17_get_0 6 rfl rfl)
theorem dJ17_get_7 : decode cJ17_get 7 = .ok (.ifnonnull 7, 3) := dk_199 0 7 (dk_at dksJ17_get_0 7 rfl rfl)
theorem dJ17_get_10 : decode cJ17_get 10 = .ok (.aconst_null, 1) := dk_1 (dk_at dksJ17_get_0 10 rfl rfl)
theorem dJ17_get_11 : decode cJ17_get 11 = .ok (.goto 7, 3) := dk_167 0 7 (dk_at dksJ17_get_0 11 rfl rfl)
theorem dJ17_get_14 : decode cJ17_get 14 = .ok (.aload_n 2, 1) := dk_44 (dk_at dksJ17_get_0 14 rfl rfl)
theorem dJ17_get_15 : decode cJ17_get 15 = .ok (.getfield 58, 3) := dk_180 0 58 (dk_at dksJ17_get_0 15 rfl rfl)
theorem dJ17_get_18 : decode cJ17_get 18 = .ok (.areturn, 1) := dk_176 (dk_at dksJ17_get_0 18 rfl rfl)
abbrev cJ17_getEntry : ByteArray := prog_48_method_15_code
def yJ17_getEntry : MethodName := ⟨RJ17, "getEntry", "(Ljava/lang/Object;)Ljava/util/TreeMap$Entry;"⟩
def dkwJ17_getEntry_3 : List UInt8 := [45, 176, 167, 255, 212, 1, 176]
abbrev dktJ17_getEntry_3 : List UInt8 := dkwJ17_getEntry_3 ++ []
def dkwJ17_getEntry_2 : List UInt8 := [156, 0, 11, 45, 180, 0, 111, 78, 167, 0, 18, 21, 4, 158, 0, 11, 45, 180, 0, 114, 78, 167, 0, 5]
abbrev dktJ17_getEntry_2 : List UInt8 := dkwJ17_getEntry_2 ++ dktJ17_getEntry_3
def dkwJ17_getEntry_1 : List UInt8 := [180, 0, 101, 78, 45, 198, 0, 46, 44, 45, 180, 0, 105, 185, 0, 107, 2, 0, 54, 4, 21, 4]
abbrev dktJ17_getEntry_1 : List UInt8 := dkwJ17_getEntry_1 ++ dktJ17_getEntry_2
def dkwJ17_getEntry_0 : List UInt8 := [42, 180, 0, 16, 198, 0, 9, 42, 43, 182, 0, 92, 176, 43, 184, 0, 95, 87, 43, 192, 0, 99, 77, 42]
abbrev dktJ17_getEntry_0 : List UInt8 := dkwJ17_getEntry_0 ++ dktJ17_getEntry_1
theorem dksJ17_getEntry_0 : cJ17_getEntry.data.toList.drop 0 = dktJ17_getEntry_0 := by decide +kernel
theorem dksJ17_getEntry_1 : cJ17_getEntry.data.toList.drop 24 = dktJ17_getEntry_1 := dk_seg dksJ17_getEntry_0 24 rfl rfl
theorem dksJ17_getEntry_2 : cJ17_getEntry.data.toList.drop 46 = dktJ17_getEntry_2 := dk_seg dksJ17_getEntry_1 22 rfl rfl
theorem dksJ17_getEntry_3 : cJ17_getEntry.data.toList.drop 70 = dktJ17_getEntry_3 := dk_seg dksJ17_getEntry_2 24 rfl rfl
theorem dJ17_getEntry_0 : decode cJ17_getEntry 0 = .ok (.aload_n 0, 1) := dk_42 (dk_at dksJ17_getEntry_0 0 rfl rfl)
theorem dJ17_getEntry_1 : decode cJ17_getEntry 1 = .ok (.getfield 16, 3) := dk_180 0 16 (dk_at dksJ17_getEntry_0 1 rfl rfl)
theorem dJ17_getEntry_4 : decode cJ17_getEntry 4 = .ok (.ifnull 9, 3) := dk_198 0 9 (dk_at dksJ17_getEntry_0 4 rfl rfl)
theorem dJ17_getEntry_7 : decode cJ17_getEntry 7 = .ok (.aload_n 0, 1) := dk_42 (dk_at dksJ17_getEntry_0 7 rfl rfl)
theorem dJ17_getEntry_8 : decode cJ17_getEntry 8 = .ok (.aload_n 1, 1) := dk_43 (dk_at dksJ17_getEntry_0 8 rfl rfl)
theorem dJ17_getEntry_9 : decode cJ17_getEntry 9 = .ok (.invokevirtual 92, 3) := dk_182 0 92 (dk_at dksJ17_getEntry_0 9 rfl rfl)
theorem dJ17_getEntry_12 : decode cJ17_getEntry 12 = .ok (.areturn, 1) := dk_176 (dk_at dksJ17_getEntry_0 12 rfl rfl)
theorem dJ17_getEntry_13 : decode cJ17_getEntry 13 = .ok (.aload_n 1, 1) := dk_43 (dk_at dksJ17_getEntry_0 13 rfl rfl)
theorem dJ17_getEntry_14 : decode cJ17_getEntry 14 = .ok (.invokestatic 95, 3) := dk_184 0 95 (dk_at dksJ17_getEntry_0 14 rfl rfl)
theorem dJ17_getEntry_17 : decode cJ17_getEntry 17 = .ok (.pop, 1) := dk_87 (dk_at dksJ17_getEntry_0 17 rfl rfl)
theorem dJ17_getEntry_18 : decode cJ17_getEntry 18 = .ok (.aload_n 1, 1) := dk_43 (dk_at dksJ17_getEntry_0 18 rfl rfl)
theorem dJ17_getEntry_19 : decode cJ17_getEntry 19 = .ok (.checkcast 99, 3) := dk_192 0 99 (dk_at dksJ17_getEntry_0 19 rfl rfl)
theorem dJ17_getEntry_22 : decode cJ17_getEntry 22 = .ok (.astore_n 2, 1) := dk_77 (dk_at dksJ17_getEntry_0 22 rfl rfl)
theorem dJ17_getEntry_23 : decode cJ17_getEntry 23 = .ok (.aload_n 0, 1) := dk_42 (dk_at dksJ17_getEntry_0 23 rfl rfl)
theorem dJ17_getEntry_24 : decode cJ17_getEntry 24 = .ok (.getfield 101, 3) := dk_180 0 101 (dk_at dksJ17_getEntry_1 0 rfl rfl)
theorem dJ17_getEntry_27 : decode cJ17_getEntry 27 = .ok (.astore_n 3, 1) := dk_78 (dk_at dksJ17_getEntry_1 3 rfl rfl)
theorem dJ17_getEntry_28 : decode cJ17_getEntry 28 = .ok (.aload_n 3, 1) := dk_45 (dk_at dksJ17_getEntry_1 4 rfl rfl)
theorem dJ17_getEntry_29 : decode cJ17_getEntry 29 = .ok (.ifnull 46, 3) := dk_198 0 46 (dk_at dksJ17_getEntry_1 5 rfl rfl)
theorem dJ17_getEntry_32 : decode cJ17_getEntry 32 = .ok (.aload_n 2, 1) := dk_44 (dk_at dksJ17_getEntry_1 8 rfl rfl)
theorem dJ17_getEntry_33 : decode cJ17_getEntry 33 = .ok (.aload_n 3, 1) := dk_45 (dk_at dksJ17_getEntry_1 9 rfl rfl)
theorem dJ17_getEntry_34 : decode cJ17_getEntry 34 = .ok (.getfield 105, 3) := dk_180 0 105 (dk_at dksJ17_getEntry_1 10 rfl rfl)
theorem dJ17_getEntry_37 : decode cJ17_getEntry 37 = .ok (.invokeinterface 107 2, 5) := by decide +kernel
theorem dJ17_getEntry_42 : decode cJ17_getEntry 42 = .ok (.istore 4, 2) := dk_54 4 (dk_at dksJ17_getEntry_1 18 rfl rfl)
theorem dJ17_getEntry_44 : decode cJ17_getEntry 44 = .ok (.iload 4, 2) := dk_21 4 (dk_at dksJ17_getEntry_1 20 rfl rfl)
theorem dJ17_getEntry_46 : decode cJ17_getEntry 46 = .ok (.ifCond .ge 11, 3) := dk_156 0 11 (dk_at dksJ17_getEntry_2 0 rfl rfl)
theorem dJ17_getEntry_49 : decode cJ17_getEntry 49 = .ok (.aload_n 3, 1) := dk_45 (dk_at dksJ17_getEntry_2 3 rfl rfl)
theorem dJ17_getEntry_50 : decode cJ17_getEntry 50 = .ok (.getfield 111, 3) := dk_180 0 111 (dk_at dksJ17_getEntry_2 4 rfl rfl)
theorem dJ17_getEntry_53 : decode cJ17_getEntry 53 = .ok (.astore_n 3, 1) := dk_78 (dk_at dksJ17_getEntry_2 7 rfl rfl)
theorem dJ17_getEntry_54 : decode cJ17_getEntry 54 = .ok (.goto 18, 3) := dk_167 0 18 (dk_at dksJ17_getEntry_2 8 rfl rfl)
theorem dJ17_getEntry_57 : decode cJ17_getEntry 57 = .ok (.iload 4, 2) := dk_21 4 (dk_at dksJ17_getEntry_2 11 rfl rfl)
theorem dJ17_getEntry_59 : decode cJ17_getEntry 59 = .ok (.ifCond .le 11, 3) := dk_158 0 11 (dk_at dksJ17_getEntry_2 13 rfl rfl)
theorem dJ17_getEntry_62 : decode cJ17_getEntry 62 = .ok (.aload_n 3, 1) := dk_45 (dk_at dksJ17_getEntry_2 16 rfl rfl)
theorem dJ17_getEntry_63 : decode cJ17_getEntry 63 = .ok (.getfield 114, 3) := dk_180 0 114 (dk_at dksJ17_getEntry_2 17 rfl rfl)
theorem dJ17_getEntry_66 : decode cJ17_getEntry 66 = .ok (.astore_n 3, 1) := dk_78 (dk_at dksJ17_getEntry_2 20 rfl rfl)
theorem dJ17_getEntry_67 : decode cJ17_getEntry 67 = .ok (.goto 5, 3) := dk_167 0 5 (dk_at dksJ17_getEntry_2 21 rfl rfl)
theorem dJ17_getEntry_70 : decode cJ17_getEntry 70 = .ok (.aload_n 3, 1) := dk_45 (dk_at dksJ17_getEntry_3 0 rfl rfl)
theorem dJ17_getEntry_71 : decode cJ17_getEntry 71 = .ok (.areturn, 1) := dk_176 (dk_at dksJ17_getEntry_3 1 rfl rfl)
theorem dJ17_getEntry_72 : decode cJ17_getEntry 72 = .ok (.goto (-44), 3) := dk_167 255 212 (dk_at dksJ17_getEntry_3 2 rfl rfl)
theorem dJ17_getEntry_75 : decode cJ17_getEntry 75 = .ok (.aconst_null, 1) := dk_1 (dk_at dksJ17_getEntry_3 5 rfl rfl)
theorem dJ17_getEntry_76 : decode cJ17_getEntry 76 = .ok (.areturn, 1) := dk_176 (dk_at dksJ17_getEntry_3 6 rfl rfl)
abbrev cJ17_getEntryUsingComparator : ByteArray := prog_48_method_16_code
def yJ17_getEntryUsingComparator : MethodName := ⟨RJ17, "getEntryUsingComparator", "(Ljava/lang/Object;)Ljava/util/TreeMap$Entry;"⟩
def dkwJ17_getEntryUsingComparator_3 : List UInt8 := [1, 176]
abbrev dktJ17_getEntryUsingComparator_3 : List UInt8 := dkwJ17_getEntryUsingComparator_3 ++ []
def dkwJ17_getEntryUsingComparator_2 : List UInt8 := [167, 0, 21, 21, 5, 158, 0, 13, 25, 4, 180, 0, 114, 58, 4, 167, 0, 6, 25, 4, 176, 167, 255, 204]
abbrev dktJ17_getEntryUsingComparator_2 : List UInt8 := dkwJ17_getEntryUsingComparator_2 ++ dktJ17_getEntryUsingComparator_3
def dkwJ17_getEntryUsingComparator_1 : List UInt8 := [25, 4, 180, 0, 105, 185, 0, 117, 3, 0, 54, 5, 21, 5, 156, 0, 13, 25, 4, 180, 0, 111, 58, 4]
abbrev dktJ17_getEntryUsingComparator_1 : List UInt8 := dkwJ17_getEntryUsingComparator_1 ++ dktJ17_getEntryUsingComparator_2
def dkwJ17_getEntryUsingComparator_0 : List UInt8 := [43, 77, 42, 180, 0, 16, 78, 45, 198, 0, 64, 42, 180, 0, 101, 58, 4, 25, 4, 198, 0, 53, 45, 44]
abbrev dktJ17_getEntryUsingComparator_0 : List UInt8 := dkwJ17_getEntryUsingComparator_0 ++ dktJ17_getEntryUsingComparator_1
theorem dksJ17_getEntryUsingComparator_0 : cJ17_getEntryUsingComparator.data.toList.drop 0 = dktJ17_getEntryUsingComparator_0 := by decide +kernel
theorem dksJ17_getEntryUsingComparator_1 : cJ17_getEntryUsingComparator.data.toList.drop 24 = dktJ17_getEntryUsingComparator_1 := dk_seg dksJ17_getEntryUsingComparator_0 24 rfl rfl
theorem dksJ17_getEntryUsingComparator_2 : cJ17_getEntryUsingComparator.data.toList.drop 48 = dktJ17_getEntryUsingComparator_2 := dk_seg dksJ17_getEntryUsingComparator_1 24 rfl rfl
theorem dksJ17_getEntryUsingComparator_3 : cJ17_getEntryUsingComparator.data.toList.drop 72 = dktJ17_getEntryUsingComparator_3 := dk_seg dksJ17_getEntryUsingComparator_2 24 rfl rfl
theorem dJ17_getEntryUsingComparator_0 : decode cJ17_getEntryUsingComparator 0 = .ok (.aload_n 1, 1) := dk_43 (dk_at dksJ17_getEntryUsingComparator_0 0 rfl rfl)
theorem dJ17_getEntryUsingComparator_1 : decode cJ17_getEntryUsingComparator 1 = .ok (.astore_n 2, 1) := dk_77 (dk_at dksJ17_getEntryUsingComparator_0 1 rfl rfl)
theorem dJ17_getEntryUsingComparator_2 : decode cJ17_getEntryUsingComparator 2 = .ok (.aload_n 0, 1) := dk_42 (dk_at dksJ17_getEntryUsingComparator_0 2 rfl rfl)
theorem dJ17_getEntryUsingComparator_3 : decode cJ17_getEntryUsingComparator 3 = .ok (.getfield 16, 3) := dk_180 0 16 (dk_at dksJ17_getEntryUsingComparator_0 3 rfl rfl)
theorem dJ17_getEntryUsingComparator_6 : decode cJ17_getEntryUsingComparator 6 = .ok (.astore_n 3, 1) := dk_78 (dk_at dksJ17_getEntryUsingComparator_0 6 rfl rfl)
theorem dJ17_getEntryUsingComparator_7 : decode cJ17_getEntryUsingComparator 7 = .ok (.aload_n 3, 1) := dk_45 (dk_at dksJ17_getEntryUsingComparator_0 7 rfl rfl)
theorem dJ17_getEntryUsingComparator_8 : decode cJ17_getEntryUsingComparator 8 = .ok (.ifnull 64, 3) := dk_198 0 64 (dk_at dksJ17_getEntryUsingComparator_0 8 rfl rfl)
theorem dJ17_getEntryUsingComparator_11 : decode cJ17_getEntryUsingComparator 11 = .ok (.aload_n 0, 1) := dk_42 (dk_at dksJ17_getEntryUsingComparator_0 11 rfl rfl)
theorem dJ17_getEntryUsingComparator_12 : decode cJ17_getEntryUsingComparator 12 = .ok (.getfield 101, 3) := dk_180 0 101 (dk_at dksJ17_getEntryUsingComparator_0 12 rfl rfl)
theorem dJ17_getEntryUsingComparator_15 : decode cJ17_getEntryUsingComparator 15 = .ok (.astore 4, 2) := dk_58 4 (dk_at dksJ17_getEntryUsingComparator_0 15 rfl rfl)
theorem dJ17_getEntryUsingComparator_17 : decode cJ17_getEntryUsingComparator 17 = .ok (.aload 4, 2) := dk_25 4 (dk_at dksJ17_getEntryUsingComparator_0 17 rfl rfl)
theorem dJ17_getEntryUsingComparator_19 : decode cJ17_getEntryUsingComparator 19 = .ok (.ifnull 53, 3) := dk_198 0 53 (dk_at dksJ17_getEntryUsingComparator_0 19 rfl rfl)
theorem dJ17_getEntryUsingComparator_22 : decode cJ17_getEntryUsingComparator 22 = .ok (.aload_n 3, 1) := dk_45 (dk_at dksJ17_getEntryUsingComparator_0 22 rfl rfl)
theorem dJ17_getEntryUsingComparator_23 : decode cJ17_getEntryUsingComparator 23 = .ok (.aload_n 2, 1) := dk_44 (dk_at dksJ17_getEntryUsingComparator_0 23 rfl rfl)
theorem dJ17_getEntryUsingComparator_24 : decode cJ17_getEntryUsingComparator 24 = .ok (.aload 4, 2) := dk_25 4 (dk_at dksJ17_getEntryUsingComparator_1 0 rfl rfl)
theorem dJ17_getEntryUsingComparator_26 : decode cJ17_getEntryUsingComparator 26 = .ok (.getfield 105, 3) := dk_180 0 105 (dk_at dksJ17_getEntryUsingComparator_1 2 rfl rfl)
theorem dJ17_getEntryUsingComparator_29 : decode cJ17_getEntryUsingComparator 29 = .ok (.invokeinterface 117 3, 5) := by decide +kernel
theorem dJ17_getEntryUsingComparator_34 : decode cJ17_getEntryUsingComparator 34 = .ok (.istore 5, 2) := dk_54 5 (dk_at dksJ17_getEntryUsingComparator_1 10 rfl rfl)
theorem dJ17_getEntryUsingComparator_36 : decode cJ17_getEntryUsingComparator 36 = .ok (.iload 5, 2) := dk_21 5 (dk_at dksJ17_getEntryUsingComparator_1 12 rfl rfl)
theorem dJ17_getEntryUsingComparator_38 : decode cJ17_getEntryUsingComparator 38 = .ok (.ifCond .ge 13, 3) := dk_156 0 13 (dk_at dksJ17_getEntryUsingComparator_1 14 rfl rfl)
theorem dJ17_getEntryUsingComparator_41 : decode cJ17_getEntryUsingComparator 41 = .ok (.aload 4, 2) := dk_25 4 (dk_at dksJ17_getEntryUsingComparator_1 17 rfl rfl)
theorem dJ17_getEntryUsingComparator_43 : decode cJ17_getEntryUsingComparator 43 = .ok (.getfield 111, 3) := dk_180 0 111 (dk_at dksJ17_getEntryUsingComparator_1 19 rfl rfl)
theorem dJ17_getEntryUsingComparator_46 : decode cJ17_getEntryUsingComparator 46 = .ok (.astore 4, 2) := dk_58 4 (dk_at dksJ17_getEntryUsingComparator_1 22 rfl rfl)
theorem dJ17_getEntryUsingComparator_48 : decode cJ17_getEntryUsingComparator 48 = .ok (.goto 21, 3) := dk_167 0 21 (dk_at dksJ17_getEntryUsingComparator_2 0 rfl rfl)
theorem dJ17_getEntryUsingComparator_51 : decode cJ17_getEntryUsingComparator 51 = .ok (.iload 5, 2) := dk_21 5 (dk_at dksJ17_getEntryUsingComparator_2 3 rfl rfl)
theorem dJ17_getEntryUsingComparator_53 : decode cJ17_getEntryUsingComparator 53 = .ok (.ifCond .le 13, 3) := dk_158 0 13 (dk_at dksJ17_getEntryUsingComparator_2 5 rfl rfl)
theorem dJ17_getEntryUsingComparator_56 : decode cJ17_getEntryUsingComparator 56 = .ok (.aload 4, 2) := dk_25 4 (dk_at dksJ17_getEntryUsingComparator_2 8 rfl rfl)
theorem dJ17_getEntryUsingComparator_58 : decode cJ17_getEntryUsingComparator 58 = .ok (.getfield 114, 3) := dk_180 0 114 (dk_at dksJ17_getEntryUsingComparator_2 10 rfl rfl)
theorem dJ17_getEntryUsingComparator_61 : decode cJ17_getEntryUsingComparator 61 = .ok (.astore 4, 2) := dk_58 4 (dk_at dksJ17_getEntryUsingComparator_2 13 rfl rfl)
theorem dJ17_getEntryUsingComparator_63 : decode cJ17_getEntryUsingComparator 63 = .ok (.goto 6, 3) := dk_167 0 6 (dk_at dksJ17_getEntryUsingComparator_2 15 rfl rfl)
theorem dJ17_getEntryUsingComparator_66 : decode cJ17_getEntryUsingComparator 66 = .ok (.aload 4, 2) := dk_25 4 (dk_at dksJ17_getEntryUsingComparator_2 18 rfl rfl)
theorem dJ17_getEntryUsingComparator_68 : decode cJ17_getEntryUsingComparator 68 = .ok (.areturn, 1) := dk_176 (dk_at dksJ17_getEntryUsingComparator_2 20 rfl rfl)
theorem dJ17_getEntryUsingComparator_69 : decode cJ17_getEntryUsingComparator 69 = .ok (.goto (-52), 3) := dk_167 255 204 (dk_at dksJ17_getEntryUsingComparator_2 21 rfl rfl)
theorem dJ17_getEntryUsingComparator_72 : decode cJ17_getEntryUsingComparator 72 = .ok (.aconst_null, 1) := dk_1 (dk_at dksJ17_getEntryUsingComparator_3 0 rfl rfl)
theorem dJ17_getEntryUsingComparator_73 : decode cJ17_getEntryUsingComparator 73 = .ok (.areturn, 1) := dk_176 (dk_at dksJ17_getEntryUsingComparator_3 1 rfl rfl)
abbrev cJ17_containsKey : ByteArray := prog_48_method_6_code
def yJ17_containsKey : MethodName := ⟨RJ17, "containsKey", "(Ljava/lang/Object;)Z"⟩
def dkwJ17_containsKey_0 : List UInt8 := [42, 43, 182, 0, 50, 198, 0, 7, 4, 167, 0, 4, 3, 172]
abbrev dktJ17_containsKey_0 : List UInt8 := dkwJ17_containsKey_0 ++ []
theorem dksJ17_containsKey_0 : cJ17_containsKey.data.toList.drop 0 = dktJ17_containsKey_0 := by decide +kernel
theorem dJ17_containsKey_0 : decode cJ17_containsKey 0 = .ok (.aload_n 0, 1) := dk_42 (dk_at dksJ17_containsKey_0 0 rfl rfl)
theorem dJ17_containsKey_1 : decode cJ17_containsKey 1 = .ok (.aload_n 1, 1) := dk_43 (dk_at dksJ17_containsKey_0 1 rfl rfl)
theorem dJ17_containsKey_2 : decode cJ17_containsKey 2 = .ok (.invokevirtual 50, 3) := dk_182 0 50 (dk_at dksJ17_containsKey_0 2 rfl rfl)
theorem dJ17_containsKey_5 : decode cJ17_containsKey 5 = .ok (.ifnull 7, 3) := dk_198 0 7 (dk_at dksJ17_containsKey_0 5 rfl rfl)
theorem dJ17_containsKey_8 : decode cJ17_containsKey 8 = .ok (.iconst 1, 1) := dk_4 (dk_at dksJ17_containsKey_0 8 rfl rfl)
theorem dJ17_containsKey_9 : decode cJ17_containsKey 9 = .ok (.goto 4, 3) := dk_167 0 4 (dk_at dksJ17_containsKey_0 9 rfl rfl)
theorem dJ17_containsKey_12 : decode cJ17_containsKey 12 = .ok (.iconst 0, 1) := dk_3 (dk_at dksJ17_containsKey_0 12 rfl rfl)
theorem dJ17_containsKey_13 : decode cJ17_containsKey 13 = .ok (.ireturn, 1) := dk_172 (dk_at dksJ17_containsKey_0 13 rfl rfl)
abbrev cJ17_put : ByteArray := prog_48_method_21_code
def yJ17_put : MethodName := ⟨RJ17, "put", "(Ljava/lang/Object;Ljava/lang/Object;)Ljava/lang/Object;"⟩
def dkwJ17_put_0 : List UInt8 := [42, 43, 44, 4, 182, 0, 127, 176]
abbrev dktJ17_put_0 : List UInt8 := dkwJ17_put_0 ++ []
theorem dksJ17_put_0 : cJ17_put.data.toList.drop 0 = dktJ17_put_0 := by decide +kernel
theorem dJ17_put_0 : decode cJ17_put 0 = .ok (.aload_n 0, 1) := dk_42 (dk_at dksJ17_put_0 0 rfl rfl)
theorem dJ17_put_1 : decode cJ17_put 1 = .ok (.aload_n 1, 1) := dk_43 (dk_at dksJ17_put_0 1 rfl rfl)
theorem dJ17_put_2 : decode cJ17_put 2 = .ok (.aload_n 2, 1) := dk_44 (dk_at dksJ17_put_0 2 rfl rfl)
theorem dJ17_put_3 : decode cJ17_put 3 = .ok (.iconst 1, 1) := dk_4 (dk_at dksJ17_put_0 3 rfl rfl)
theorem dJ17_put_4 : decode cJ17_put 4 = .ok (.invokevirtual 127, 3) := dk_182 0 127 (dk_at dksJ17_put_0 4 rfl rfl)
theorem dJ17_put_7 : decode cJ17_put 7 = .ok (.areturn, 1) := dk_176 (dk_at dksJ17_put_0 7 rfl rfl)
abbrev cJ17_put_2 : ByteArray := prog_48_method_31_code
def yJ17_put_2 : MethodName := ⟨RJ17, "put", "(Ljava/lang/Object;Ljava/lang/Object;Z)Ljava/lang/Object;"⟩
def dkwJ17_put_2_9 : List UInt8 := [4, 167, 0, 4, 3, 182, 0, 139, 1, 176]
abbrev dktJ17_put_2_9 : List UInt8 := dkwJ17_put_2_9 ++ []
def dkwJ17_put_2_8 : List UInt8 := [25, 4, 44, 181, 0, 58, 25, 9, 176, 25, 4, 199, 255, 181, 42, 43, 44, 25, 6, 21, 5, 156, 0, 7]
abbrev dktJ17_put_2_8 : List UInt8 := dkwJ17_put_2_8 ++ dktJ17_put_2_9
def dkwJ17_put_2_7 : List UInt8 := [180, 0, 114, 58, 4, 167, 0, 28, 25, 4, 180, 0, 58, 58, 9, 29, 154, 0, 8, 25, 9, 199, 0, 9]
abbrev dktJ17_put_2_7 : List UInt8 := dkwJ17_put_2_7 ++ dktJ17_put_2_8
def dkwJ17_put_2_6 : List UInt8 := [21, 5, 156, 0, 13, 25, 4, 180, 0, 111, 58, 4, 167, 0, 43, 21, 5, 158, 0, 13, 25, 4]
abbrev dktJ17_put_2_6 : List UInt8 := dkwJ17_put_2_6 ++ dktJ17_put_2_7
def dkwJ17_put_2_5 : List UInt8 := [192, 0, 99, 58, 8, 25, 4, 58, 6, 25, 8, 25, 4, 180, 0, 105, 185, 0, 107, 2, 0, 54, 5]
abbrev dktJ17_put_2_5 : List UInt8 := dkwJ17_put_2_5 ++ dktJ17_put_2_6
def dkwJ17_put_2_4 : List UInt8 := [25, 4, 44, 181, 0, 58, 25, 8, 176, 25, 4, 199, 255, 180, 167, 0, 92, 43, 184, 0, 95, 87, 43]
abbrev dktJ17_put_2_4 : List UInt8 := dkwJ17_put_2_4 ++ dktJ17_put_2_5
def dkwJ17_put_2_3 : List UInt8 := [180, 0, 114, 58, 4, 167, 0, 28, 25, 4, 180, 0, 58, 58, 8, 29, 154, 0, 8, 25, 8, 199, 0, 9]
abbrev dktJ17_put_2_3 : List UInt8 := dkwJ17_put_2_3 ++ dktJ17_put_2_4
def dkwJ17_put_2_2 : List UInt8 := [54, 5, 21, 5, 156, 0, 13, 25, 4, 180, 0, 111, 58, 4, 167, 0, 43, 21, 5, 158, 0, 13, 25, 4]
abbrev dktJ17_put_2_2 : List UInt8 := dkwJ17_put_2_2 ++ dktJ17_put_2_3
def dkwJ17_put_2_1 : List UInt8 := [58, 7, 25, 7, 198, 0, 85, 25, 4, 58, 6, 25, 7, 43, 25, 4, 180, 0, 105, 185, 0, 117, 3, 0]
abbrev dktJ17_put_2_1 : List UInt8 := dkwJ17_put_2_1 ++ dktJ17_put_2_2
def dkwJ17_put_2_0 : List UInt8 := [42, 180, 0, 101, 58, 4, 25, 4, 199, 0, 11, 42, 43, 44, 182, 0, 135, 1, 176, 42, 180, 0, 16]
abbrev dktJ17_put_2_0 : List UInt8 := dkwJ17_put_2_0 ++ dktJ17_put_2_1
theorem dksJ17_put_2_0 : cJ17_put_2.data.toList.drop 0 = dktJ17_put_2_0 := by decide +kernel
theorem dksJ17_put_2_1 : cJ17_put_2.data.toList.drop 23 = dktJ17_put_2_1 := dk_seg dksJ17_put_2_0 23 rfl rfl
theorem dksJ17_put_2_2 : cJ17_put_2.data.toList.drop 47 = dktJ17_put_2_2 := dk_seg dksJ17_put_2_1 24 rfl rfl
theorem dksJ17_put_2_3 : cJ17_put_2.data.toList.drop 71 = dktJ17_put_2_3 := dk_seg dksJ17_put_2_2 24 rfl rfl
theorem dksJ17_put_2_4 : cJ17_put_2.data.toList.drop 95 = dktJ17_put_2_4 := dk_seg dksJ17_put_2_3 24 rfl rfl
theorem dksJ17_put_2_5 : cJ17_put_2.data.toList.drop 118 = dktJ17_put_2_5 := dk_seg dksJ17_put_2_4 23 rfl rfl
theorem dksJ17_put_2_6 : cJ17_put_2.data.toList.drop 141 = dktJ17_put_2_6 := dk_seg dksJ17_put_2_5 23 rfl rfl
theorem dksJ17_put_2_7 : cJ17_put_2.data.toList.drop 163 = dktJ17_put_2_7 := dk_seg dksJ17_put_2_6 22 rfl rfl
theorem dksJ17_put_2_8 : cJ17_put_2.data.toList.drop 187 = dktJ17_put_2_8 := dk_seg dksJ17_put_2_7 24 rfl rfl
theorem dksJ17_put_2_9 : cJ17_put_2.data.toList.drop 211 = dktJ17_put_2_9 := dk_seg dksJ17_put_2_8 24 rfl rfl
theorem dJ17_put_2_0 : decode cJ17_put_2 0 = .ok (.aload_n 0, 1) := dk_42 (dk_at dksJ17_put_2_0 0 rfl rfl)
theorem dJ17_put_2_1 : decode cJ17_put_2 1 = .ok (.getfield 101, 3) := dk_180 0 101 (dk_at dksJ17_put_2_0 1 rfl rfl)
theorem dJ17_put_2_4 : decode cJ17_put_2 4 = .ok (.astore 4, 2) := dk_58 4 (dk_at dksJ17_put_2_0 4 rfl rfl)
theorem dJ17_put_2_6 : decode cJ17_put_2 6 = .ok (.aload 4, 2) := dk_25 4 (dk_at dksJ17_put_2_0 6 rfl rfl)
theorem dJ17_put_2_8 : decode cJ17_put_2 8 = .ok (.ifnonnull 11, 3) := dk_199 0 11 (dk_at dksJ17_put_2_0 8 rfl rfl)
theorem dJ17_put_2_11 : decode cJ17_put_2 11 = .ok (.aload_n 0, 1) := dk_42 (dk_at dksJ17_put_2_0 11 rfl rfl)
theorem dJ17_put_2_12 : decode cJ17_put_2 12 = .ok (.aload_n 1, 1) := dk_43 (dk_at dksJ17_put_2_0 12 rfl rfl)
theorem dJ17_put_2_13 : decode cJ17_put_2 13 = .ok (.aload_n 2, 1) := dk_44 (dk_at dksJ17_put_2_0 13 rfl rfl)
theorem dJ17_put_2_14 : decode cJ17_put_2 14 = .ok (.invokevirtual 135, 3) := dk_182 0 135 (dk_at dksJ17_put_2_0 14 rfl rfl)
theorem dJ17_put_2_17 : decode cJ17_put_2 17 = .ok (.aconst_null, 1) := dk_1 (dk_at dksJ17_put_2_0 17 rfl rfl)
theorem dJ17_put_2_18 : decode cJ17_put_2 18 = .ok (.areturn, 1) := dk_176 (dk_at dksJ17_put_2_0 18 rfl rfl)
theorem dJ17_put_2_19 : decode cJ17_put_2 19 = .ok (.aload_n 0, 1) := dk_42 (dk_at dksJ17_put_2_0 19 rfl rfl)
theorem dJ17_put_2_20 : decode cJ17_put_2 20 = .ok (.getfield 16, 3) := dk_180 0 16 (dk_at dksJ17_put_2_0 20 rfl rfl)
theorem dJ17_put_2_23 : decode cJ17_put_2 23 = .ok (.astore 7, 2) := dk_58 7 (dk_at dksJ17_put_2_1 0 rfl rfl)
theorem dJ17_put_2_25 : decode cJ17_put_2 25 = .ok (.aload 7, 2) := dk_25 7 (dk_at dksJ17_put_2_1 2 rfl rfl)
theorem dJ17_put_2_27 : decode cJ17_put_2 27 = .ok (.ifnull 85, 3) := dk_198 0 85 (dk_at dksJ17_put_2_1 4 rfl rfl)
theorem dJ17_put_2_30 : decode cJ17_put_2 30 = .ok (.aload 4, 2) := dk_25 4 (dk_at dksJ17_put_2_1 7 rfl rfl)
theorem dJ17_put_2_32 : decode cJ17_put_2 32 = .ok (.astore 6, 2) := dk_58 6 (dk_at dksJ17_put_2_1 9 rfl rfl)
theorem dJ17_put_2_34 : decode cJ17_put_2 34 = .ok (.aload 7, 2) := dk_25 7 (dk_at dksJ17_put_2_1 11 rfl rfl)
theorem dJ17_put_2_36 : decode cJ17_put_2 36 = .ok (.aload_n 1, 1) := dk_43 (dk_at dksJ17_put_2_1 13 rfl rfl)
theorem dJ17_put_2_37 : decode cJ17_put_2 37 = .ok (.aload 4, 2) := dk_25 4 (dk_at dksJ17_put_2_1 14 rfl rfl)
theorem dJ17_put_2_39 : decode cJ17_put_2 39 = .ok (.getfield 105, 3) := dk_180 0 105 (dk_at dksJ17_put_2_1 16 rfl rfl)
theorem dJ17_put_2_42 : decode cJ17_put_2 42 = .ok (.invokeinterface 117 3, 5) := by decide +kernel
theorem dJ17_put_2_47 : decode cJ17_put_2 47 = .ok (.istore 5, 2) := dk_54 5 (dk_at dksJ17_put_2_2 0 rfl rfl)
theorem dJ17_put_2_49 : decode cJ17_put_2 49 = .ok (.iload 5, 2) := dk_21 5 (dk_at dksJ17_put_2_2 2 rfl rfl)
theorem dJ17_put_2_51 : decode cJ17_put_2 51 = .ok (.ifCond .ge 13, 3) := dk_156 0 13 (dk_at dksJ17_put_2_2 4 rfl rfl)
theorem dJ17_put_2_54 : decode cJ17_put_2 54 = .ok (.aload 4, 2) := dk_25 4 (dk_at dksJ17_put_2_2 7 rfl rfl)
theorem dJ17_put_2_56 : decode cJ17_put_2 56 = .ok (.getfield 111, 3) := dk_180 0 111 (dk_at dksJ17_put_2_2 9 rfl rfl)
theorem dJ17_put_2_59 : decode cJ17_put_2 59 = .ok (.astore 4, 2) := dk_58 4 (dk_at dksJ17_put_2_2 12 rfl rfl)
theorem dJ17_put_2_61 : decode cJ17_put_2 61 = .ok (.goto 43, 3) := dk_167 0 43 (dk_at dksJ17_put_2_2 14 rfl rfl)
theorem dJ17_put_2_64 : decode cJ17_put_2 64 = .ok (.iload 5, 2) := dk_21 5 (dk_at dksJ17_put_2_2 17 rfl rfl)
theorem dJ17_put_2_66 : decode cJ17_put_2 66 = .ok (.ifCond .le 13, 3) := dk_158 0 13 (dk_at dksJ17_put_2_2 19 rfl rfl)
theorem dJ17_put_2_69 : decode cJ17_put_2 69 = .ok (.aload 4, 2) := dk_25 4 (dk_at dksJ17_put_2_2 22 rfl rfl)
theorem dJ17_put_2_71 : decode cJ17_put_2 71 = .ok (.getfield 114, 3) := dk_180 0 114 (dk_at dksJ17_put_2_3 0 rfl rfl)
theorem dJ17_put_2_74 : decode cJ17_put_2 74 = .ok (.astore 4, 2) := dk_58 4 (dk_at dksJ17_put_2_3 3 rfl rfl)
theorem dJ17_put_2_76 : decode cJ17_put_2 76 = .ok (.goto 28, 3) := dk_167 0 28 (dk_at dksJ17_put_2_3 5 rfl rfl)
theorem dJ17_put_2_79 : decode cJ17_put_2 79 = .ok (.aload 4, 2) := dk_25 4 (dk_at dksJ17_put_2_3 8 rfl rfl)
theorem dJ17_put_2_81 : decode cJ17_put_2 81 = .ok (.getfield 58, 3) := dk_180 0 58 (dk_at dksJ17_put_2_3 10 rfl rfl)
theorem dJ17_put_2_84 : decode cJ17_put_2 84 = .ok (.astore 8, 2) := dk_58 8 (dk_at dksJ17_put_2_3 13 rfl rfl)
theorem dJ17_put_2_86 : decode cJ17_put_2 86 = .ok (.iload_n 3, 1) := dk_29 (dk_at dksJ17_put_2_3 15 rfl rfl)
theorem dJ17_put_2_87 : decode cJ17_put_2 87 = .ok (.ifCond .ne 8, 3) := dk_154 0 8 (dk_at dksJ17_put_2_3 16 rfl rfl)
theorem dJ17_put_2_90 : decode cJ17_put_2 90 = .ok (.aload 8, 2) := dk_25 8 (dk_at dksJ17_put_2_3 19 rfl rfl)
theorem dJ17_put_2_92 : decode cJ17_put_2 92 = .ok (.ifnonnull 9, 3) := dk_199 0 9 (dk_at dksJ17_put_2_3 21 rfl rfl)
theorem dJ17_put_2_95 : decode cJ17_put_2 95 = .ok (.aload 4, 2) := dk_25 4 (dk_at dksJ17_put_2_4 0 rfl rfl)
theorem dJ17_put_2_97 : decode cJ17_put_2 97 = .ok (.aload_n 2, 1) := dk_44 (dk_at dksJ17_put_2_4 2 rfl rfl)
theorem dJ17_put_2_98 : decode cJ17_put_2 98 = .ok (.putfield 58, 3) := dk_181 0 58 (dk_at dksJ17_put_2_4 3 rfl rfl)
theorem dJ17_put_2_101 : decode cJ17_put_2 101 = .ok (.aload 8, 2) := dk_25 8 (dk_at dksJ17_put_2_4 6 rfl rfl)
theorem dJ17_put_2_103 : decode cJ17_put_2 103 = .ok (.areturn, 1) := dk_176 (dk_at dksJ17_put_2_4 8 rfl rfl)
theorem dJ17_put_2_104 : decode cJ17_put_2 104 = .ok (.aload 4, 2) := dk_25 4 (dk_at dksJ17_put_2_4 9 rfl rfl)
theorem dJ17_put_2_106 : decode cJ17_put_2 106 = .ok (.ifnonnull (-76), 3) := dk_199 255 180 (dk_at dksJ17_put_2_4 11 rfl rfl)
theorem dJ17_put_2_109 : decode cJ17_put_2 109 = .ok (.goto 92, 3) := dk_167 0 92 (dk_at dksJ17_put_2_4 14 rfl rfl)
theorem dJ17_put_2_112 : decode cJ17_put_2 112 = .ok (.aload_n 1, 1) := dk_43 (dk_at dksJ17_put_2_4 17 rfl rfl)
theorem dJ17_put_2_113 : decode cJ17_put_2 113 = .ok (.invokestatic 95, 3) := dk_184 0 95 (dk_at dksJ17_put_2_4 18 rfl rfl)
theorem dJ17_put_2_116 : decode cJ17_put_2 116 = .ok (.pop, 1) := dk_87 (dk_at dksJ17_put_2_4 21 rfl rfl)
theorem dJ17_put_2_117 : decode cJ17_put_2 117 = .ok (.aload_n 1, 1) := dk_43 (dk_at dksJ17_put_2_4 22 rfl rfl)
theorem dJ17_put_2_118 : decode cJ17_put_2 118 = .ok (.checkcast 99, 3) := dk_192 0 99 (dk_at dksJ17_put_2_5 0 rfl rfl)
theorem dJ17_put_2_121 : decode cJ17_put_2 121 = .ok (.astore 8, 2) := dk_58 8 (dk_at dksJ17_put_2_5 3 rfl rfl)
theorem dJ17_put_2_123 : decode cJ17_put_2 123 = .ok (.aload 4, 2) := dk_25 4 (dk_at dksJ17_put_2_5 5 rfl rfl)
theorem dJ17_put_2_125 : decode cJ17_put_2 125 = .ok (.astore 6, 2) := dk_58 6 (dk_at dksJ17_put_2_5 7 rfl rfl)
theorem dJ17_put_2_127 : decode cJ17_put_2 127 = .ok (.aload 8, 2) := dk_25 8 (dk_at dksJ17_put_2_5 9 rfl rfl)
theorem dJ17_put_2_129 : decode cJ17_put_2 129 = .ok (.aload 4, 2) := dk_25 4 (dk_at dksJ17_put_2_5 11 rfl rfl)
theorem dJ17_put_2_131 : decode cJ17_put_2 131 = .ok (.getfield 105, 3) := dk_180 0 105 (dk_at dksJ17_put_2_5 13 rfl rfl)
theorem dJ17_put_2_134 : decode cJ17_put_2 134 = .ok (.invokeinterface 107 2, 5) := by decide +kernel
theorem dJ17_put_2_139 : decode cJ17_put_2 139 = .ok (.istore 5, 2) := dk_54 5 (dk_at dksJ17_put_2_5 21 rfl rfl)
theorem dJ17_put_2_141 : decode cJ17_put_2 141 = .ok (.iload 5, 2) := dk_21 5 (dk_at dksJ17_put_2_6 0 rfl rfl)
theorem dJ17_put_2_143 : decode cJ17_put_2 143 = .ok (.ifCond .ge 13, 3) := dk_156 0 13 (dk_at dksJ17_put_2_6 2 rfl rfl)
theorem dJ17_put_2_146 : decode cJ17_put_2 146 = .ok (.aload 4, 2) := dk_25 4 (dk_at dksJ17_put_2_6 5 rfl rfl)
theorem dJ17_put_2_148 : decode cJ17_put_2 148 = .ok (.getfield 111, 3) := dk_180 0 111 (dk_at dksJ17_put_2_6 7 rfl rfl)
theorem dJ17_put_2_151 : decode cJ17_put_2 151 = .ok (.astore 4, 2) := dk_58 4 (dk_at dksJ17_put_2_6 10 rfl rfl)
theorem dJ17_put_2_153 : decode cJ17_put_2 153 = .ok (.goto 43, 3) := dk_167 0 43 (dk_at dksJ17_put_2_6 12 rfl rfl)
theorem dJ17_put_2_156 : decode cJ17_put_2 156 = .ok (.iload 5, 2) := dk_21 5 (dk_at dksJ17_put_2_6 15 rfl rfl)
theorem dJ17_put_2_158 : decode cJ17_put_2 158 = .ok (.ifCond .le 13, 3) := dk_158 0 13 (dk_at dksJ17_put_2_6 17 rfl rfl)
theorem dJ17_put_2_161 : decode cJ17_put_2 161 = .ok (.aload 4, 2) := dk_25 4 (dk_at dksJ17_put_2_6 20 rfl rfl)
theorem dJ17_put_2_163 : decode cJ17_put_2 163 = .ok (.getfield 114, 3) := dk_180 0 114 (dk_at dksJ17_put_2_7 0 rfl rfl)
theorem dJ17_put_2_166 : decode cJ17_put_2 166 = .ok (.astore 4, 2) := dk_58 4 (dk_at dksJ17_put_2_7 3 rfl rfl)
theorem dJ17_put_2_168 : decode cJ17_put_2 168 = .ok (.goto 28, 3) := dk_167 0 28 (dk_at dksJ17_put_2_7 5 rfl rfl)
theorem dJ17_put_2_171 : decode cJ17_put_2 171 = .ok (.aload 4, 2) := dk_25 4 (dk_at dksJ17_put_2_7 8 rfl rfl)
theorem dJ17_put_2_173 : decode cJ17_put_2 173 = .ok (.getfield 58, 3) := dk_180 0 58 (dk_at dksJ17_put_2_7 10 rfl rfl)
theorem dJ17_put_2_176 : decode cJ17_put_2 176 = .ok (.astore 9, 2) := dk_58 9 (dk_at dksJ17_put_2_7 13 rfl rfl)
theorem dJ17_put_2_178 : decode cJ17_put_2 178 = .ok (.iload_n 3, 1) := dk_29 (dk_at dksJ17_put_2_7 15 rfl rfl)
theorem dJ17_put_2_179 : decode cJ17_put_2 179 = .ok (.ifCond .ne 8, 3) := dk_154 0 8 (dk_at dksJ17_put_2_7 16 rfl rfl)
theorem dJ17_put_2_182 : decode cJ17_put_2 182 = .ok (.aload 9, 2) := dk_25 9 (dk_at dksJ17_put_2_7 19 rfl rfl)
theorem dJ17_put_2_184 : decode cJ17_put_2 184 = .ok (.ifnonnull 9, 3) := dk_199 0 9 (dk_at dksJ17_put_2_7 21 rfl rfl)
theorem dJ17_put_2_187 : decode cJ17_put_2 187 = .ok (.aload 4, 2) := dk_25 4 (dk_at dksJ17_put_2_8 0 rfl rfl)
theorem dJ17_put_2_189 : decode cJ17_put_2 189 = .ok (.aload_n 2, 1) := dk_44 (dk_at dksJ17_put_2_8 2 rfl rfl)
theorem dJ17_put_2_190 : decode cJ17_put_2 190 = .ok (.putfield 58, 3) := dk_181 0 58 (dk_at dksJ17_put_2_8 3 rfl rfl)
theorem dJ17_put_2_193 : decode cJ17_put_2 193 = .ok (.aload 9, 2) := dk_25 9 (dk_at dksJ17_put_2_8 6 rfl rfl)
theorem dJ17_put_2_195 : decode cJ17_put_2 195 = .ok (.areturn, 1) := dk_176 (dk_at dksJ17_put_2_8 8 rfl rfl)
theorem dJ17_put_2_196 : decode cJ17_put_2 196 = .ok (.aload 4, 2) := dk_25 4 (dk_at dksJ17_put_2_8 9 rfl rfl)
theorem dJ17_put_2_198 : decode cJ17_put_2 198 = .ok (.ifnonnull (-75), 3) := dk_199 255 181 (dk_at dksJ17_put_2_8 11 rfl rfl)
theorem dJ17_put_2_201 : decode cJ17_put_2 201 = .ok (.aload_n 0, 1) := dk_42 (dk_at dksJ17_put_2_8 14 rfl rfl)
theorem dJ17_put_2_202 : decode cJ17_put_2 202 = .ok (.aload_n 1, 1) := dk_43 (dk_at dksJ17_put_2_8 15 rfl rfl)
theorem dJ17_put_2_203 : decode cJ17_put_2 203 = .ok (.aload_n 2, 1) := dk_44 (dk_at dksJ17_put_2_8 16 rfl rfl)
theorem dJ17_put_2_204 : decode cJ17_put_2 204 = .ok (.aload 6, 2) := dk_25 6 (dk_at dksJ17_put_2_8 17 rfl rfl)
theorem dJ17_put_2_206 : decode cJ17_put_2 206 = .ok (.iload 5, 2) := dk_21 5 (dk_at dksJ17_put_2_8 19 rfl rfl)
theorem dJ17_put_2_208 : decode cJ17_put_2 208 = .ok (.ifCond .ge 7, 3) := dk_156 0 7 (dk_at dksJ17_put_2_8 21 rfl rfl)
theorem dJ17_put_2_211 : decode cJ17_put_2 211 = .ok (.iconst 1, 1) := dk_4 (dk_at dksJ17_put_2_9 0 rfl rfl)
theorem dJ17_put_2_212 : decode cJ17_put_2 212 = .ok (.goto 4, 3) := dk_167 0 4 (dk_at dksJ17_put_2_9 1 rfl rfl)
theorem dJ17_put_2_215 : decode cJ17_put_2 215 = .ok (.iconst 0, 1) := dk_3 (dk_at dksJ17_put_2_9 4 rfl rfl)
theorem dJ17_put_2_216 : decode cJ17_put_2 216 = .ok (.invokevirtual 139, 3) := dk_182 0 139 (dk_at dksJ17_put_2_9 5 rfl rfl)
theorem dJ17_put_2_219 : decode cJ17_put_2 219 = .ok (.aconst_null, 1) := dk_1 (dk_at dksJ17_put_2_9 8 rfl rfl)
theorem dJ17_put_2_220 : decode cJ17_put_2 220 = .ok (.areturn, 1) := dk_176 (dk_at dksJ17_put_2_9 9 rfl rfl)
abbrev cJ17_addEntryToEmptyMap : ByteArray := prog_48_method_30_code
def yJ17_addEntryToEmptyMap : MethodName := ⟨RJ17, "addEntryToEmptyMap", "(Ljava/lang/Object;Ljava/lang/Object;)V"⟩
def dkwJ17_addEntryToEmptyMap_1 : List UInt8 := [181, 0, 7, 42, 89, 180, 0, 13, 4, 96, 181, 0, 13, 177]
abbrev dktJ17_addEntryToEmptyMap_1 : List UInt8 := dkwJ17_addEntryToEmptyMap_1 ++ []
def dkwJ17_addEntryToEmptyMap_0 : List UInt8 := [42, 43, 43, 182, 0, 123, 87, 42, 187, 0, 59, 89, 43, 44, 1, 183, 0, 167, 181, 0, 101, 42, 4]
abbrev dktJ17_addEntryToEmptyMap_0 : List UInt8 := dkwJ17_addEntryToEmptyMap_0 ++ dktJ17_addEntryToEmptyMap_1
theorem dksJ17_addEntryToEmptyMap_0 : cJ17_addEntryToEmptyMap.data.toList.drop 0 = dktJ17_addEntryToEmptyMap_0 := by decide +kernel
theorem dksJ17_addEntryToEmptyMap_1 : cJ17_addEntryToEmptyMap.data.toList.drop 23 = dktJ17_addEntryToEmptyMap_1 := dk_seg dksJ17_addEntryToEmptyMap_0 23 rfl rfl
theorem dJ17_addEntryToEmptyMap_0 : decode cJ17_addEntryToEmptyMap 0 = .ok (.aload_n 0, 1) := dk_42 (dk_at dksJ17_addEntryToEmptyMap_0 0 rfl rfl)
theorem dJ17_addEntryToEmptyMap_1 : decode cJ17_addEntryToEmptyMap 1 = .ok (.aload_n 1, 1) := dk_43 (dk_at dksJ17_addEntryToEmptyMap_0 1 rfl rfl)
theorem dJ17_addEntryToEmptyMap_2 : decode cJ17_addEntryToEmptyMap 2 = .ok (.aload_n 1, 1) := dk_43 (dk_at dksJ17_addEntryToEmptyMap_0 2 rfl rfl)
theorem dJ17_addEntryToEmptyMap_3 : decode cJ17_addEntryToEmptyMap 3 = .ok (.invokevirtual 123, 3) := dk_182 0 123 (dk_at dksJ17_addEntryToEmptyMap_0 3 rfl rfl)
theorem dJ17_addEntryToEmptyMap_6 : decode cJ17_addEntryToEmptyMap 6 = .ok (.pop, 1) := dk_87 (dk_at dksJ17_addEntryToEmptyMap_0 6 rfl rfl)
theorem dJ17_addEntryToEmptyMap_7 : decode cJ17_addEntryToEmptyMap 7 = .ok (.aload_n 0, 1) := dk_42 (dk_at dksJ17_addEntryToEmptyMap_0 7 rfl rfl)
theorem dJ17_addEntryToEmptyMap_8 : decode cJ17_addEntryToEmptyMap 8 = .ok (.new 59, 3) := dk_187 0 59 (dk_at dksJ17_addEntryToEmptyMap_0 8 rfl rfl)
theorem dJ17_addEntryToEmptyMap_11 : decode cJ17_addEntryToEmptyMap 11 = .ok (.dup, 1) := dk_89 (dk_at dksJ17_addEntryToEmptyMap_0 11 rfl rfl)
theorem dJ17_addEntryToEmptyMap_12 : decode cJ17_addEntryToEmptyMap 12 = .ok (.aload_n 1, 1) := dk_43 (dk_at dksJ17_addEntryToEmptyMap_0 12 rfl rfl)
theorem dJ17_addEntryToEmptyMap_13 : decode cJ17_addEntryToEmptyMap 13 = .ok (.aload_n 2, 1) := dk_44 (dk_at dksJ17_addEntryToEmptyMap_0 13 rfl rfl)
theorem dJ17_addEntryToEmptyMap_14 : decode cJ17_addEntryToEmptyMap 14 = .ok (.aconst_null, 1) := dk_1 (dk_at dksJ17_addEntryToEmptyMap_0 14 rfl rfl)
theorem dJ17_addEntryToEmptyMap_15 : decode cJ17_addEntryToEmptyMap 15 = .ok (.invokespecial 167, 3) := dk_183 0 167 (dk_at dksJ17_addEntryToEmptyMap_0 15 rfl rfl)
theorem dJ17_addEntryToEmptyMap_18 : decode cJ17_addEntryToEmptyMap 18 = .ok (.putfield 101, 3) := dk_181 0 101 (dk_at dksJ17_addEntryToEmptyMap_0 18 rfl rfl)
theorem dJ17_addEntryToEmptyMap_21 : decode cJ17_addEntryToEmptyMap 21 = .ok (.aload_n 0, 1) := dk_42 (dk_at dksJ17_addEntryToEmptyMap_0 21 rfl rfl)
theorem dJ17_addEntryToEmptyMap_22 : decode cJ17_addEntryToEmptyMap 22 = .ok (.iconst 1, 1) := dk_4 (dk_at dksJ17_addEntryToEmptyMap_0 22 rfl rfl)
theorem dJ17_addEntryToEmptyMap_23 : decode cJ17_addEntryToEmptyMap 23 = .ok (.putfield 7, 3) := dk_181 0 7 (dk_at dksJ17_addEntryToEmptyMap_1 0 rfl rfl)
theorem dJ17_addEntryToEmptyMap_26 : decode cJ17_addEntryToEmptyMap 26 = .ok (.aload_n 0, 1) := dk_42 (dk_at dksJ17_addEntryToEmptyMap_1 3 rfl rfl)
theorem dJ17_addEntryToEmptyMap_27 : decode cJ17_addEntryToEmptyMap 27 = .ok (.dup, 1) := dk_89 (dk_at dksJ17_addEntryToEmptyMap_1 4 rfl rfl)
theorem dJ17_addEntryToEmptyMap_28 : decode cJ17_addEntryToEmptyMap 28 = .ok (.getfield 13, 3) := dk_180 0 13 (dk_at dksJ17_addEntryToEmptyMap_1 5 rfl rfl)
theorem dJ17_addEntryToEmptyMap_31 : decode cJ17_addEntryToEmptyMap 31 = .ok (.iconst 1, 1) := dk_4 (dk_at dksJ17_addEntryToEmptyMap_1 8 rfl rfl)
theorem dJ17_addEntryToEmptyMap_32 : decode cJ17_addEntryToEmptyMap 32 = .ok (.iadd, 1) := dk_96 (dk_at dksJ17_addEntryToEmptyMap_1 9 rfl rfl)
theorem dJ17_addEntryToEmptyMap_33 : decode cJ17_addEntryToEmptyMap 33 = .ok (.putfield 13, 3) := dk_181 0 13 (dk_at dksJ17_addEntryToEmptyMap_1 10 rfl rfl)
theorem dJ17_addEntryToEmptyMap_36 : decode cJ17_addEntryToEmptyMap 36 = .ok (.return_, 1) := dk_177 (dk_at dksJ17_addEntryToEmptyMap_1 13 rfl rfl)
abbrev cJ17_compare : ByteArray := prog_48_method_67_code
def yJ17_compare : MethodName := ⟨RJ17, "compare", "(Ljava/lang/Object;Ljava/lang/Object;)I"⟩
def dkwJ17_compare_1 : List UInt8 := [43, 44, 185, 0, 117, 3, 0, 172]
abbrev dktJ17_compare_1 : List UInt8 := dkwJ17_compare_1 ++ []
def dkwJ17_compare_0 : List UInt8 := [42, 180, 0, 16, 199, 0, 16, 43, 192, 0, 99, 44, 185, 0, 107, 2, 0, 167, 0, 14, 42, 180, 0, 16]
abbrev dktJ17_compare_0 : List UInt8 := dkwJ17_compare_0 ++ dktJ17_compare_1
theorem dksJ17_compare_0 : cJ17_compare.data.toList.drop 0 = dktJ17_compare_0 := by decide +kernel
theorem dksJ17_compare_1 : cJ17_compare.data.toList.drop 24 = dktJ17_compare_1 := dk_seg dksJ17_compare_0 24 rfl rfl
theorem dJ17_compare_0 : decode cJ17_compare 0 = .ok (.aload_n 0, 1) := dk_42 (dk_at dksJ17_compare_0 0 rfl rfl)
theorem dJ17_compare_1 : decode cJ17_compare 1 = .ok (.getfield 16, 3) := dk_180 0 16 (dk_at dksJ17_compare_0 1 rfl rfl)
theorem dJ17_compare_4 : decode cJ17_compare 4 = .ok (.ifnonnull 16, 3) := dk_199 0 16 (dk_at dksJ17_compare_0 4 rfl rfl)
theorem dJ17_compare_7 : decode cJ17_compare 7 = .ok (.aload_n 1, 1) := dk_43 (dk_at dksJ17_compare_0 7 rfl rfl)
theorem dJ17_compare_8 : decode cJ17_compare 8 = .ok (.checkcast 99, 3) := dk_192 0 99 (dk_at dksJ17_compare_0 8 rfl rfl)
theorem dJ17_compare_11 : decode cJ17_compare 11 = .ok (.aload_n 2, 1) := dk_44 (dk_at dksJ17_compare_0 11 rfl rfl)
theorem dJ17_compare_12 : decode cJ17_compare 12 = .ok (.invokeinterface 107 2, 5) := by decide +kernel
theorem dJ17_compare_17 : decode cJ17_compare 17 = .ok (.goto 14, 3) := dk_167 0 14 (dk_at dksJ17_compare_0 17 rfl rfl)
theorem dJ17_compare_20 : decode cJ17_compare 20 = .ok (.aload_n 0, 1) := dk_42 (dk_at dksJ17_compare_0 20 rfl rfl)
theorem dJ17_compare_21 : decode cJ17_compare 21 = .ok (.getfield 16, 3) := dk_180 0 16 (dk_at dksJ17_compare_0 21 rfl rfl)
theorem dJ17_compare_24 : decode cJ17_compare 24 = .ok (.aload_n 1, 1) := dk_43 (dk_at dksJ17_compare_1 0 rfl rfl)
theorem dJ17_compare_25 : decode cJ17_compare 25 = .ok (.aload_n 2, 1) := dk_44 (dk_at dksJ17_compare_1 1 rfl rfl)
theorem dJ17_compare_26 : decode cJ17_compare 26 = .ok (.invokeinterface 117 3, 5) := by decide +kernel
theorem dJ17_compare_31 : decode cJ17_compare 31 = .ok (.ireturn, 1) := dk_172 (dk_at dksJ17_compare_1 7 rfl rfl)
abbrev cJ17_addEntry : ByteArray := prog_48_method_29_code
def yJ17_addEntry : MethodName := ⟨RJ17, "addEntry", "(Ljava/lang/Object;Ljava/lang/Object;Ljava/util/TreeMap$Entry;Z)V"⟩
def dkwJ17_addEntry_2 : List UInt8 := [181, 0, 7, 42, 89, 180, 0, 13, 4, 96, 181, 0, 13, 177]
abbrev dktJ17_addEntry_2 : List UInt8 := dkwJ17_addEntry_2 ++ []
def dkwJ17_addEntry_1 : List UInt8 := [167, 0, 9, 45, 25, 5, 181, 0, 114, 42, 25, 5, 182, 0, 170, 42, 89, 180, 0, 7, 4, 96]
abbrev dktJ17_addEntry_1 : List UInt8 := dkwJ17_addEntry_1 ++ dktJ17_addEntry_2
def dkwJ17_addEntry_0 : List UInt8 := [187, 0, 59, 89, 43, 44, 45, 183, 0, 167, 58, 5, 21, 4, 153, 0, 12, 45, 25, 5, 181, 0, 111]
abbrev dktJ17_addEntry_0 : List UInt8 := dkwJ17_addEntry_0 ++ dktJ17_addEntry_1
theorem dksJ17_addEntry_0 : cJ17_addEntry.data.toList.drop 0 = dktJ17_addEntry_0 := by decide +kernel
theorem dksJ17_addEntry_1 : cJ17_addEntry.data.toList.drop 23 = dktJ17_addEntry_1 := dk_seg dksJ17_addEntry_0 23 rfl rfl
theorem dksJ17_addEntry_2 : cJ17_addEntry.data.toList.drop 45 = dktJ17_addEntry_2 := dk_seg dksJ17_addEntry_1 22 rfl rfl
theorem dJ17_addEntry_0 : decode cJ17_addEntry 0 = .ok (.new 59, 3) := dk_187 0 59 (dk_at dksJ17_addEntry_0 0 rfl rfl)
theorem dJ17_addEntry_3 : decode cJ17_addEntry 3 = .ok (.dup, 1) := dk_89 (dk_at dksJ17_addEntry_0 3 rfl rfl)
theorem dJ17_addEntry_4 : decode cJ17_addEntry 4 = .ok (.aload_n 1, 1) := dk_43 (dk_at dksJ17_addEntry_0 4 rfl rfl)
theorem dJ17_addEntry_5 : decode cJ17_addEntry 5 = .ok (.aload_n 2, 1) := dk_44 (dk_at dksJ17_addEntry_0 5 rfl rfl)
theorem dJ17_addEntry_6 : decode cJ17_addEntry 6 = .ok (.aload_n 3, 1) := dk_45 (dk_at dksJ17_addEntry_0 6 rfl rfl)
theorem dJ17_addEntry_7 : decode cJ17_addEntry 7 = .ok (.invokespecial 167, 3) := dk_183 0 167 (dk_at dksJ17_addEntry_0 7 rfl rfl)
theorem dJ17_addEntry_10 : decode cJ17_addEntry 10 = .ok (.astore 5, 2) := dk_58 5 (dk_at dksJ17_addEntry_0 10 rfl rfl)
theorem dJ17_addEntry_12 : decode cJ17_addEntry 12 = .ok (.iload 4, 2) := dk_21 4 (dk_at dksJ17_addEntry_0 12 rfl rfl)
theorem dJ17_addEntry_14 : decode cJ17_addEntry 14 = .ok (.ifCond .eq 12, 3) := dk_153 0 12 (dk_at dksJ17_addEntry_0 14 rfl rfl)
theorem dJ17_addEntry_17 : decode cJ17_addEntry 17 = .ok (.aload_n 3, 1) := dk_45 (dk_at dksJ17_addEntry_0 17 rfl rfl)
theorem dJ17_addEntry_18 : decode cJ17_addEntry 18 = .ok (.aload 5, 2) := dk_25 5 (dk_at dksJ17_addEntry_0 18 rfl rfl)
theorem dJ17_addEntry_20 : decode cJ17_addEntry 20 = .ok (.putfield 111, 3) := dk_181 0 111 (dk_at dksJ17_addEntry_0 20 rfl rfl)
theorem dJ17_addEntry_23 : decode cJ17_addEntry 23 = .ok (.goto 9, 3) := dk_167 0 9 (dk_at dksJ17_addEntry_1 0 rfl rfl)
theorem dJ17_addEntry_26 : decode cJ17_addEntry 26 = .ok (.aload_n 3, 1) := dk_45 (dk_at dksJ17_addEntry_1 3 rfl rfl)
theorem dJ17_addEntry_27 : decode cJ17_addEntry 27 = .ok (.aload 5, 2) := dk_25 5 (dk_at dksJ17_addEntry_1 4 rfl rfl)
theorem dJ17_addEntry_29 : decode cJ17_addEntry 29 = .ok (.putfield 114, 3) := dk_181 0 114 (dk_at dksJ17_addEntry_1 6 rfl rfl)
theorem dJ17_addEntry_32 : decode cJ17_addEntry 32 = .ok (.aload_n 0, 1) := dk_42 (dk_at dksJ17_addEntry_1 9 rfl rfl)
theorem dJ17_addEntry_33 : decode cJ17_addEntry 33 = .ok (.aload 5, 2) := dk_25 5 (dk_at dksJ17_addEntry_1 10 rfl rfl)
theorem dJ17_addEntry_35 : decode cJ17_addEntry 35 = .ok (.invokevirtual 170, 3) := dk_182 0 170 (dk_at dksJ17_addEntry_1 12 rfl rfl)
theorem dJ17_addEntry_38 : decode cJ17_addEntry 38 = .ok (.aload_n 0, 1) := dk_42 (dk_at dksJ17_addEntry_1 15 rfl rfl)
theorem dJ17_addEntry_39 : decode cJ17_addEntry 39 = .ok (.dup, 1) := dk_89 (dk_at dksJ17_addEntry_1 16 rfl rfl)
theorem dJ17_addEntry_40 : decode cJ17_addEntry 40 = .ok (.getfield 7, 3) := dk_180 0 7 (dk_at dksJ17_addEntry_1 17 rfl rfl)
theorem dJ17_addEntry_43 : decode cJ17_addEntry 43 = .ok (.iconst 1, 1) := dk_4 (dk_at dksJ17_addEntry_1 20 rfl rfl)
theorem dJ17_addEntry_44 : decode cJ17_addEntry 44 = .ok (.iadd, 1) := dk_96 (dk_at dksJ17_addEntry_1 21 rfl rfl)
theorem dJ17_addEntry_45 : decode cJ17_addEntry 45 = .ok (.putfield 7, 3) := dk_181 0 7 (dk_at dksJ17_addEntry_2 0 rfl rfl)
theorem dJ17_addEntry_48 : decode cJ17_addEntry 48 = .ok (.aload_n 0, 1) := dk_42 (dk_at dksJ17_addEntry_2 3 rfl rfl)
theorem dJ17_addEntry_49 : decode cJ17_addEntry 49 = .ok (.dup, 1) := dk_89 (dk_at dksJ17_addEntry_2 4 rfl rfl)
theorem dJ17_addEntry_50 : decode cJ17_addEntry 50 = .ok (.getfield 13, 3) := dk_180 0 13 (dk_at dksJ17_addEntry_2 5 rfl rfl)
theorem dJ17_addEntry_53 : decode cJ17_addEntry 53 = .ok (.iconst 1, 1) := dk_4 (dk_at dksJ17_addEntry_2 8 rfl rfl)
theorem dJ17_addEntry_54 : decode cJ17_addEntry 54 = .ok (.iadd, 1) := dk_96 (dk_at dksJ17_addEntry_2 9 rfl rfl)
theorem dJ17_addEntry_55 : decode cJ17_addEntry 55 = .ok (.putfield 13, 3) := dk_181 0 13 (dk_at dksJ17_addEntry_2 10 rfl rfl)
theorem dJ17_addEntry_58 : decode cJ17_addEntry 58 = .ok (.return_, 1) := dk_177 (dk_at dksJ17_addEntry_2 13 rfl rfl)
abbrev cJ17_fixAfterInsertion : ByteArray := prog_48_method_83_code
def yJ17_fixAfterInsertion : MethodName := ⟨RJ17, "fixAfterInsertion", "(Ljava/util/TreeMap$Entry;)V"⟩
def dkwJ17_fixAfterInsertion_11 : List UInt8 := [42, 180, 0, 101, 4, 181, 1, 34, 177]
abbrev dktJ17_fixAfterInsertion_11 : List UInt8 := dkwJ17_fixAfterInsertion_11 ++ []
def dkwJ17_fixAfterInsertion_10 : List UInt8 := [184, 1, 38, 184, 1, 38, 3, 184, 1, 51, 42, 43, 184, 1, 38, 184, 1, 38, 182, 1, 55, 167, 255, 6]
abbrev dktJ17_fixAfterInsertion_10 : List UInt8 := dkwJ17_fixAfterInsertion_10 ++ dktJ17_fixAfterInsertion_11
def dkwJ17_fixAfterInsertion_9 : List UInt8 := [166, 0, 13, 43, 184, 1, 38, 76, 42, 43, 182, 1, 58, 43, 184, 1, 38, 4, 184, 1, 51, 43]
abbrev dktJ17_fixAfterInsertion_9 : List UInt8 := dkwJ17_fixAfterInsertion_9 ++ dktJ17_fixAfterInsertion_10
def dkwJ17_fixAfterInsertion_8 : List UInt8 := [184, 1, 51, 43, 184, 1, 38, 184, 1, 38, 76, 167, 0, 54, 43, 43, 184, 1, 38, 184, 1, 41]
abbrev dktJ17_fixAfterInsertion_8 : List UInt8 := dkwJ17_fixAfterInsertion_8 ++ dktJ17_fixAfterInsertion_9
def dkwJ17_fixAfterInsertion_7 : List UInt8 := [154, 0, 38, 43, 184, 1, 38, 4, 184, 1, 51, 44, 4, 184, 1, 51, 43, 184, 1, 38, 184, 1, 38, 3]
abbrev dktJ17_fixAfterInsertion_7 : List UInt8 := dkwJ17_fixAfterInsertion_7 ++ dktJ17_fixAfterInsertion_8
def dkwJ17_fixAfterInsertion_6 : List UInt8 := [184, 1, 38, 182, 1, 58, 167, 255, 113, 43, 184, 1, 38, 184, 1, 38, 184, 1, 41, 77, 44, 184, 1, 47]
abbrev dktJ17_fixAfterInsertion_6 : List UInt8 := dkwJ17_fixAfterInsertion_6 ++ dktJ17_fixAfterInsertion_7
def dkwJ17_fixAfterInsertion_5 : List UInt8 := [43, 184, 1, 38, 4, 184, 1, 51, 43, 184, 1, 38, 184, 1, 38, 3, 184, 1, 51, 42, 43, 184, 1, 38]
abbrev dktJ17_fixAfterInsertion_5 : List UInt8 := dkwJ17_fixAfterInsertion_5 ++ dktJ17_fixAfterInsertion_6
def dkwJ17_fixAfterInsertion_4 : List UInt8 := [167, 0, 54, 43, 43, 184, 1, 38, 184, 1, 44, 166, 0, 13, 43, 184, 1, 38, 76, 42, 43, 182, 1, 55]
abbrev dktJ17_fixAfterInsertion_4 : List UInt8 := dkwJ17_fixAfterInsertion_4 ++ dktJ17_fixAfterInsertion_5
def dkwJ17_fixAfterInsertion_3 : List UInt8 := [184, 1, 51, 43, 184, 1, 38, 184, 1, 38, 3, 184, 1, 51, 43, 184, 1, 38, 184, 1, 38, 76]
abbrev dktJ17_fixAfterInsertion_3 : List UInt8 := dkwJ17_fixAfterInsertion_3 ++ dktJ17_fixAfterInsertion_4
def dkwJ17_fixAfterInsertion_2 : List UInt8 := [184, 1, 38, 184, 1, 44, 77, 44, 184, 1, 47, 154, 0, 38, 43, 184, 1, 38, 4, 184, 1, 51, 44, 4]
abbrev dktJ17_fixAfterInsertion_2 : List UInt8 := dkwJ17_fixAfterInsertion_2 ++ dktJ17_fixAfterInsertion_3
def dkwJ17_fixAfterInsertion_1 : List UInt8 := [154, 0, 234, 43, 184, 1, 38, 43, 184, 1, 38, 184, 1, 38, 184, 1, 41, 166, 0, 110, 43, 184, 1, 38]
abbrev dktJ17_fixAfterInsertion_1 : List UInt8 := dkwJ17_fixAfterInsertion_1 ++ dktJ17_fixAfterInsertion_2
def dkwJ17_fixAfterInsertion_0 : List UInt8 := [43, 3, 181, 1, 34, 43, 198, 0, 252, 43, 42, 180, 0, 101, 165, 0, 244, 43, 180, 0, 124, 180, 1, 34]
abbrev dktJ17_fixAfterInsertion_0 : List UInt8 := dkwJ17_fixAfterInsertion_0 ++ dktJ17_fixAfterInsertion_1
theorem dksJ17_fixAfterInsertion_0 : cJ17_fixAfterInsertion.data.toList.drop 0 = dktJ17_fixAfterInsertion_0 := by decide +kernel
theorem dksJ17_fixAfterInsertion_1 : cJ17_fixAfterInsertion.data.toList.drop 24 = dktJ17_fixAfterInsertion_1 := dk_seg dksJ17_fixAfterInsertion_0 24 rfl rfl
theorem dksJ17_fixAfterInsertion_2 : cJ17_fixAfterInsertion.data.toList.drop 48 = dktJ17_fixAfterInsertion_2 := dk_seg dksJ17_fixAfterInsertion_1 24 rfl rfl
theorem dksJ17_fixAfterInsertion_3 : cJ17_fixAfterInsertion.data.toList.drop 72 = dktJ17_fixAfterInsertion_3 := dk_seg dksJ17_fixAfterInsertion_2 24 rfl rfl
theorem dksJ17_fixAfterInsertion_4 : cJ17_fixAfterInsertion.data.toList.drop 94 = dktJ17_fixAfterInsertion_4 := dk_seg dksJ17_fixAfterInsertion_3 22 rfl rfl
theorem dksJ17_fixAfterInsertion_5 : cJ17_fixAfterInsertion.data.toList.drop 118 = dktJ17_fixAfterInsertion_5 := dk_seg dksJ17_fixAfterInsertion_4 24 rfl rfl
theorem dksJ17_fixAfterInsertion_6 : cJ17_fixAfterInsertion.data.toList.drop 142 = dktJ17_fixAfterInsertion_6 := dk_seg dksJ17_fixAfterInsertion_5 24 rfl rfl
theorem dksJ17_fixAfterInsertion_7 : cJ17_fixAfterInsertion.data.toList.drop 166 = dktJ17_fixAfterInsertion_7 := dk_seg dksJ17_fixAfterInsertion_6 24 rfl rfl
theorem dksJ17_fixAfterInsertion_8 : cJ17_fixAfterInsertion.data.toList.drop 190 = dktJ17_fixAfterInsertion_8 := dk_seg dksJ17_fixAfterInsertion_7 24 rfl rfl
theorem dksJ17_fixAfterInsertion_9 : cJ17_fixAfterInsertion.data.toList.drop 212 = dktJ17_fixAfterInsertion_9 := dk_seg dksJ17_fixAfterInsertion_8 22 rfl rfl
theorem dksJ17_fixAfterInsertion_10 : cJ17_fixAfterInsertion.data.toList.drop 234 = dktJ17_fixAfterInsertion_10 := dk_seg dksJ17_fixAfterInsertion_9 22 rfl rfl
theorem dksJ17_fixAfterInsertion_11 : cJ17_fixAfterInsertion.data.toList.drop 258 = dktJ17_fixAfterInsertion_11 := dk_seg dksJ17_fixAfterInsertion_10 24 rfl rfl
theorem dJ17_fixAfterInsertion_0 : decode cJ17_fixAfterInsertion 0 = .ok (.aload_n 1, 1) := dk_43 (dk_at dksJ17_fixAfterInsertion_0 0 rfl rfl)
theorem dJ17_fixAfterInsertion_1 : decode cJ17_fixAfterInsertion 1 = .ok (.iconst 0, 1) := dk_3 (dk_at dksJ17_fixAfterInsertion_0 1 rfl rfl)
theorem dJ17_fixAfterInsertion_2 : decode cJ17_fixAfterInsertion 2 = .ok (.putfield 290, 3) := dk_181 1 34 (dk_at dksJ17_fixAfterInsertion_0 2 rfl rfl)
theorem dJ17_fixAfterInsertion_5 : decode cJ17_fixAfterInsertion 5 = .ok (.aload_n 1, 1) := dk_43 (dk_at dksJ17_fixAfterInsertion_0 5 rfl rfl)
theorem dJ17_fixAfterInsertion_6 : decode cJ17_fixAfterInsertion 6 = .ok (.ifnull 252, 3) := dk_198 0 252 (dk_at dksJ17_fixAfterInsertion_0 6 rfl rfl)
theorem dJ17_fixAfterInsertion_9 : decode cJ17_fixAfterInsertion 9 = .ok (.aload_n 1, 1) := dk_43 (dk_at dksJ17_fixAfterInsertion_0 9 rfl rfl)
theorem dJ17_fixAfterInsertion_10 : decode cJ17_fixAfterInsertion 10 = .ok (.aload_n 0, 1) := dk_42 (dk_at dksJ17_fixAfterInsertion_0 10 rfl rfl)
theorem dJ17_fixAfterInsertion_11 : decode cJ17_fixAfterInsertion 11 = .ok (.getfield 101, 3) := dk_180 0 101 (dk_at dksJ17_fixAfterInsertion_0 11 rfl rfl)
theorem dJ17_fixAfterInsertion_14 : decode cJ17_fixAfterInsertion 14 = .ok (.if_acmp .eq 244, 3) := dk_165 0 244 (dk_at dksJ17_fixAfterInsertion_0 14 rfl rfl)
theorem dJ17_fixAfterInsertion_17 : decode cJ17_fixAfterInsertion 17 = .ok (.aload_n 1, 1) := dk_43 (dk_at dksJ17_fixAfterInsertion_0 17 rfl rfl)
theorem dJ17_fixAfterInsertion_18 : decode cJ17_fixAfterInsertion 18 = .ok (.getfield 124, 3) := dk_180 0 124 (dk_at dksJ17_fixAfterInsertion_0 18 rfl rfl)
theorem dJ17_fixAfterInsertion_21 : decode cJ17_fixAfterInsertion 21 = .ok (.getfield 290, 3) := dk_180 1 34 (dk_at dksJ17_fixAfterInsertion_0 21 rfl rfl)
theorem dJ17_fixAfterInsertion_24 : decode cJ17_fixAfterInsertion 24 = .ok (.ifCond .ne 234, 3) := dk_154 0 234 (dk_at dksJ17_fixAfterInsertion_1 0 rfl rfl)
theorem dJ17_fixAfterInsertion_27 : decode cJ17_fixAfterInsertion 27 = .ok (.aload_n 1, 1) := dk_43 (dk_at dksJ17_fixAfterInsertion_1 3 rfl rfl)
theorem dJ17_fixAfterInsertion_28 : decode cJ17_fixAfterInsertion 28 = .ok (.invokestatic 294, 3) := dk_184 1 38 (dk_at dksJ17_fixAfterInsertion_1 4 rfl rfl)
theorem dJ17_fixAfterInsertion_31 : decode cJ17_fixAfterInsertion 31 = .ok (.aload_n 1, 1) := dk_43 (dk_at dksJ17_fixAfterInsertion_1 7 rfl rfl)
theorem dJ17_fixAfterInsertion_32 : decode cJ17_fixAfterInsertion 32 = .ok (.invokestatic 294, 3) := dk_184 1 38 (dk_at dksJ17_fixAfterInsertion_1 8 rfl rfl)
theorem dJ17_fixAfterInsertion_35 : decode cJ17_fixAfterInsertion 35 = .ok (.invokestatic 294, 3) := dk_184 1 38 (dk_at dksJ17_fixAfterInsertion_1 11 rfl rfl)
theorem dJ17_fixAfterInsertion_38 : decode cJ17_fixAfterInsertion 38 = .ok (.invokestatic 297, 3) := dk_184 1 41 (dk_at dksJ17_fixAfterInsertion_1 14 rfl rfl)
theorem dJ17_fixAfterInsertion_41 : decode cJ17_fixAfterInsertion 41 = .ok (.if_acmp .ne 110, 3) := dk_166 0 110 (dk_at dksJ17_fixAfterInsertion_1 17 rfl rfl)
theorem dJ17_fixAfterInsertion_44 : decode cJ17_fixAfterInsertion 44 = .ok (.aload_n 1, 1) := dk_43 (dk_at dksJ17_fixAfterInsertion_1 20 rfl rfl)
theorem dJ17_fixAfterInsertion_45 : decode cJ17_fixAfterInsertion 45 = .ok (.invokestatic 294, 3) := dk_184 1 38 (dk_at dksJ17_fixAfterInsertion_1 21 rfl rfl)
theorem dJ17_fixAfterInsertion_48 : decode cJ17_fixAfterInsertion 48 = .ok (.invokestatic 294, 3) := dk_184 1 38 (dk_at dksJ17_fixAfterInsertion_2 0 rfl rfl)
theorem dJ17_fixAfterInsertion_51 : decode cJ17_fixAfterInsertion 51 = .ok (.invokestatic 300, 3) := dk_184 1 44 (dk_at dksJ17_fixAfterInsertion_2 3 rfl rfl)
theorem dJ17_fixAfterInsertion_54 : decode cJ17_fixAfterInsertion 54 = .ok (.astore_n 2, 1) := dk_77 (dk_at dksJ17_fixAfterInsertion_2 6 rfl rfl)
theorem dJ17_fixAfterInsertion_55 : decode cJ17_fixAfterInsertion 55 = .ok (.aload_n 2, 1) := dk_44 (dk_at dksJ17_fixAfterInsertion_2 7 rfl rfl)
theorem dJ17_fixAfterInsertion_56 : decode cJ17_fixAfterInsertion 56 = .ok (.invokestatic 303, 3) := dk_184 1 47 (dk_at dksJ17_fixAfterInsertion_2 8 rfl rfl)
theorem dJ17_fixAfterInsertion_59 : decode cJ17_fixAfterInsertion 59 = .ok (.ifCond .ne 38, 3) := dk_154 0 38 (dk_at dksJ17_fixAfterInsertion_2 11 rfl rfl)
theorem dJ17_fixAfterInsertion_62 : decode cJ17_fixAfterInsertion 62 = .ok (.aload_n 1, 1) := dk_43 (dk_at dksJ17_fixAfterInsertion_2 14 rfl rfl)
theorem dJ17_fixAfterInsertion_63 : decode cJ17_fixAfterInsertion 63 = .ok (.invokestatic 294, 3) := dk_184 1 38 (dk_at dksJ17_fixAfterInsertion_2 15 rfl rfl)
theorem dJ17_fixAfterInsertion_66 : decode cJ17_fixAfterInsertion 66 = .ok (.iconst 1, 1) := dk_4 (dk_at dksJ17_fixAfterInsertion_2 18 rfl rfl)
theorem dJ17_fixAfterInsertion_67 : decode cJ17_fixAfterInsertion 67 = .ok (.invokestatic 307, 3) := dk_184 1 51 (dk_at dksJ17_fixAfterInsertion_2 19 rfl rfl)
theorem dJ17_fixAfterInsertion_70 : decode cJ17_fixAfterInsertion 70 = .ok (.aload_n 2, 1) := dk_44 (dk_at dksJ17_fixAfterInsertion_2 22 rfl rfl)
theorem dJ17_fixAfterInsertion_71 : decode cJ17_fixAfterInsertion 71 = .ok (.iconst 1, 1) := dk_4 (dk_at dksJ17_fixAfterInsertion_2 23 rfl rfl)
theorem dJ17_fixAfterInsertion_72 : decode cJ17_fixAfterInsertion 72 = .ok (.invokestatic 307, 3) := dk_184 1 51 (dk_at dksJ17_fixAfterInsertion_3 0 rfl rfl)
theorem dJ17_fixAfterInsertion_75 : decode cJ17_fixAfterInsertion 75 = .ok (.aload_n 1, 1) := dk_43 (dk_at dksJ17_fixAfterInsertion_3 3 rfl rfl)
theorem dJ17_fixAfterInsertion_76 : decode cJ17_fixAfterInsertion 76 = .ok (.invokestatic 294, 3) := dk_184 1 38 (dk_at dksJ17_fixAfterInsertion_3 4 rfl rfl)
theorem dJ17_fixAfterInsertion_79 : decode cJ17_fixAfterInsertion 79 = .ok (.invokestatic 294, 3) := dk_184 1 38 (dk_at dksJ17_fixAfterInsertion_3 7 rfl rfl)
theorem dJ17_fixAfterInsertion_82 : decode cJ17_fixAfterInsertion 82 = .ok (.iconst 0, 1) := dk_3 (dk_at dksJ17_fixAfterInsertion_3 10 rfl rfl)
theorem dJ17_fixAfterInsertion_83 : decode cJ17_fixAfterInsertion 83 = .ok (.invokestatic 307, 3) := dk_184 1 51 (dk_at dksJ17_fixAfterInsertion_3 11 rfl rfl)
theorem dJ17_fixAfterInsertion_86 : decode cJ17_fixAfterInsertion 86 = .ok (.aload_n 1, 1) := dk_43 (dk_at dksJ17_fixAfterInsertion_3 14 rfl rfl)
theorem dJ17_fixAfterInsertion_87 : decode cJ17_fixAfterInsertion 87 = .ok (.invokestatic 294, 3) := dk_184 1 38 (dk_at dksJ17_fixAfterInsertion_3 15 rfl rfl)
theorem dJ17_fixAfterInsertion_90 : decode cJ17_fixAfterInsertion 90 = .ok (.invokestatic 294, 3) := dk_184 1 38 (dk_at dksJ17_fixAfterInsertion_3 18 rfl rfl)
theorem dJ17_fixAfterInsertion_93 : decode cJ17_fixAfterInsertion 93 = .ok (.astore_n 1, 1) := dk_76 (dk_at dksJ17_fixAfterInsertion_3 21 rfl rfl)
theorem dJ17_fixAfterInsertion_94 : decode cJ17_fixAfterInsertion 94 = .ok (.goto 54, 3) := dk_167 0 54 (dk_at dksJ17_fixAfterInsertion_4 0 rfl rfl)
theorem dJ17_fixAfterInsertion_97 : decode cJ17_fixAfterInsertion 97 = .ok (.aload_n 1, 1) := dk_43 (dk_at dksJ17_fixAfterInsertion_4 3 rfl rfl)
theorem dJ17_fixAfterInsertion_98 : decode cJ17_fixAfterInsertion 98 = .ok (.aload_n 1, 1) := dk_43 (dk_at dksJ17_fixAfterInsertion_4 4 rfl rfl)
theorem dJ17_fixAfterInsertion_99 : decode cJ17_fixAfterInsertion 99 = .ok (.invokestatic 294, 3) := dk_184 1 38 (dk_at dksJ17_fixAfterInsertion_4 5 rfl rfl)
theorem dJ17_fixAfterInsertion_102 : decode cJ17_fixAfterInsertion 102 = .ok (.invokestatic 300, 3) := dk_184 1 44 (dk_at dksJ17_fixAfterInsertion_4 8 rfl rfl)
theorem dJ17_fixAfterInsertion_105 : decode cJ17_fixAfterInsertion 105 = .ok (.if_acmp .ne 13, 3) := dk_166 0 13 (dk_at dksJ17_fixAfterInsertion_4 11 rfl rfl)
theorem dJ17_fixAfterInsertion_108 : decode cJ17_fixAfterInsertion 108 = .ok (.aload_n 1, 1) := dk_43 (dk_at dksJ17_fixAfterInsertion_4 14 rfl rfl)
theorem dJ17_fixAfterInsertion_109 : decode cJ17_fixAfterInsertion 109 = .ok (.invokestatic 294, 3) := dk_184 1 38 (dk_at dksJ17_fixAfterInsertion_4 15 rfl rfl)
theorem dJ17_fixAfterInsertion_112 : decode cJ17_fixAfterInsertion 112 = .ok (.astore_n 1, 1) := dk_76 (dk_at dksJ17_fixAfterInsertion_4 18 rfl rfl)
theorem dJ17_fixAfterInsertion_113 : decode cJ17_fixAfterInsertion 113 = .ok (.aload_n 0, 1) := dk_42 (dk_at dksJ17_fixAfterInsertion_4 19 rfl rfl)
theorem dJ17_fixAfterInsertion_114 : decode cJ17_fixAfterInsertion 114 = .ok (.aload_n 1, 1) := dk_43 (dk_at dksJ17_fixAfterInsertion_4 20 rfl rfl)
theorem dJ17_fixAfterInsertion_115 : decode cJ17_fixAfterInsertion 115 = .ok (.invokevirtual 311, 3) := dk_182 1 55 (dk_at dksJ17_fixAfterInsertion_4 21 rfl rfl)
theorem dJ17_fixAfterInsertion_118 : decode cJ17_fixAfterInsertion 118 = .ok (.aload_n 1, 1) := dk_43 (dk_at dksJ17_fixAfterInsertion_5 0 rfl rfl)
theorem dJ17_fixAfterInsertion_119 : decode cJ17_fixAfterInsertion 119 = .ok (.invokestatic 294, 3) := dk_184 1 38 (dk_at dksJ17_fixAfterInsertion_5 1 rfl rfl)
theorem dJ17_fixAfterInsertion_122 : decode cJ17_fixAfterInsertion 122 = .ok (.iconst 1, 1) := dk_4 (dk_at dksJ17_fixAfterInsertion_5 4 rfl rfl)
theorem dJ17_fixAfterInsertion_123 : decode cJ17_fixAfterInsertion 123 = .ok (.invokestatic 307, 3) := dk_184 1 51 (dk_at dksJ17_fixAfterInsertion_5 5 rfl rfl)
theorem dJ17_fixAfterInsertion_126 : decode cJ17_fixAfterInsertion 126 = .ok (.aload_n 1, 1) := dk_43 (dk_at dksJ17_fixAfterInsertion_5 8 rfl rfl)
theorem dJ17_fixAfterInsertion_127 : decode cJ17_fixAfterInsertion 127 = .ok (.invokestatic 294, 3) := dk_184 1 38 (dk_at dksJ17_fixAfterInsertion_5 9 rfl rfl)
theorem dJ17_fixAfterInsertion_130 : decode cJ17_fixAfterInsertion 130 = .ok (.invokestatic 294, 3) := dk_184 1 38 (dk_at dksJ17_fixAfterInsertion_5 12 rfl rfl)
theorem dJ17_fixAfterInsertion_133 : decode cJ17_fixAfterInsertion 133 = .ok (.iconst 0, 1) := dk_3 (dk_at dksJ17_fixAfterInsertion_5 15 rfl rfl)
theorem dJ17_fixAfterInsertion_134 : decode cJ17_fixAfterInsertion 134 = .ok (.invokestatic 307, 3) := dk_184 1 51 (dk_at dksJ17_fixAfterInsertion_5 16 rfl rfl)
theorem dJ17_fixAfterInsertion_137 : decode cJ17_fixAfterInsertion 137 = .ok (.aload_n 0, 1) := dk_42 (dk_at dksJ17_fixAfterInsertion_5 19 rfl rfl)
theorem dJ17_fixAfterInsertion_138 : decode cJ17_fixAfterInsertion 138 = .ok (.aload_n 1, 1) := dk_43 (dk_at dksJ17_fixAfterInsertion_5 20 rfl rfl)
theorem dJ17_fixAfterInsertion_139 : decode cJ17_fixAfterInsertion 139 = .ok (.invokestatic 294, 3) := dk_184 1 38 (dk_at dksJ17_fixAfterInsertion_5 21 rfl rfl)
theorem dJ17_fixAfterInsertion_142 : decode cJ17_fixAfterInsertion 142 = .ok (.invokestatic 294, 3) := dk_184 1 38 (dk_at dksJ17_fixAfterInsertion_6 0 rfl rfl)
theorem dJ17_fixAfterInsertion_145 : decode cJ17_fixAfterInsertion 145 = .ok (.invokevirtual 314, 3) := dk_182 1 58 (dk_at dksJ17_fixAfterInsertion_6 3 rfl rfl)
theorem dJ17_fixAfterInsertion_148 : decode cJ17_fixAfterInsertion 148 = .ok (.goto (-143), 3) := dk_167 255 113 (dk_at dksJ17_fixAfterInsertion_6 6 rfl rfl)
theorem dJ17_fixAfterInsertion_151 : decode cJ17_fixAfterInsertion 151 = .ok (.aload_n 1, 1) := dk_43 (dk_at dksJ17_fixAfterInsertion_6 9 rfl rfl)
theorem dJ17_fixAfterInsertion_152 : decode cJ17_fixAfterInsertion 152 = .ok (.invokestatic 294, 3) := dk_184 1 38 (dk_at dksJ17_fixAfterInsertion_6 10 rfl rfl)
theorem dJ17_fixAfterInsertion_155 : decode cJ17_fixAfterInsertion 155 = .ok (.invokestatic 294, 3) := dk_184 1 38 (dk_at dksJ17_fixAfterInsertion_6 13 rfl rfl)
theorem dJ17_fixAfterInsertion_158 : decode cJ17_fixAfterInsertion 158 = .ok (.invokestatic 297, 3) := dk_184 1 41 (dk_at dksJ17_fixAfterInsertion_6 16 rfl rfl)
theorem dJ17_fixAfterInsertion_161 : decode cJ17_fixAfterInsertion 161 = .ok (.astore_n 2, 1) := dk_77 (dk_at dksJ17_fixAfterInsertion_6 19 rfl rfl)
theorem dJ17_fixAfterInsertion_162 : decode cJ17_fixAfterInsertion 162 = .ok (.aload_n 2, 1) := dk_44 (dk_at dksJ17_fixAfterInsertion_6 20 rfl rfl)
theorem dJ17_fixAfterInsertion_163 : decode cJ17_fixAfterInsertion 163 = .ok (.invokestatic 303, 3) := dk_184 1 47 (dk_at dksJ17_fixAfterInsertion_6 21 rfl rfl)
theorem dJ17_fixAfterInsertion_166 : decode cJ17_fixAfterInsertion 166 = .ok (.ifCond .ne 38, 3) := dk_154 0 38 (dk_at dksJ17_fixAfterInsertion_7 0 rfl rfl)
theorem dJ17_fixAfterInsertion_169 : decode cJ17_fixAfterInsertion 169 = .ok (.aload_n 1, 1) := dk_43 (dk_at dksJ17_fixAfterInsertion_7 3 rfl rfl)
theorem dJ17_fixAfterInsertion_170 : decode cJ17_fixAfterInsertion 170 = .ok (.invokestatic 294, 3) := dk_184 1 38 (dk_at dksJ17_fixAfterInsertion_7 4 rfl rfl)
theorem dJ17_fixAfterInsertion_173 : decode cJ17_fixAfterInsertion 173 = .ok (.iconst 1, 1) := dk_4 (dk_at dksJ17_fixAfterInsertion_7 7 rfl rfl)
theorem dJ17_fixAfterInsertion_174 : decode cJ17_fixAfterInsertion 174 = .ok (.invokestatic 307, 3) := dk_184 1 51 (dk_at dksJ17_fixAfterInsertion_7 8 rfl rfl)
theorem dJ17_fixAfterInsertion_177 : decode cJ17_fixAfterInsertion 177 = .ok (.aload_n 2, 1) := dk_44 (dk_at dksJ17_fixAfterInsertion_7 11 rfl rfl)
theorem dJ17_fixAfterInsertion_178 : decode cJ17_fixAfterInsertion 178 = .ok (.iconst 1, 1) := dk_4 (dk_at dksJ17_fixAfterInsertion_7 12 rfl rfl)
theorem dJ17_fixAfterInsertion_179 : decode cJ17_fixAfterInsertion 179 = .ok (.invokestatic 307, 3) := dk_184 1 51 (dk_at dksJ17_fixAfterInsertion_7 13 rfl rfl)
theorem dJ17_fixAfterInsertion_182 : decode cJ17_fixAfterInsertion 182 = .ok (.aload_n 1, 1) := dk_43 (dk_at dksJ17_fixAfterInsertion_7 16 rfl rfl)
theorem dJ17_fixAfterInsertion_183 : decode cJ17_fixAfterInsertion 183 = .ok (.invokestatic 294, 3) := dk_184 1 38 (dk_at dksJ17_fixAfterInsertion_7 17 rfl rfl)
theorem dJ17_fixAfterInsertion_186 : decode cJ17_fixAfterInsertion 186 = .ok (.invokestatic 294, 3) := dk_184 1 38 (dk_at dksJ17_fixAfterInsertion_7 20 rfl rfl)
theorem dJ17_fixAfterInsertion_189 : decode cJ17_fixAfterInsertion 189 = .ok (.iconst 0, 1) := dk_3 (dk_at dksJ17_fixAfterInsertion_7 23 rfl rfl)
theorem dJ17_fixAfterInsertion_190 : decode cJ17_fixAfterInsertion 190 = .ok (.invokestatic 307, 3) := dk_184 1 51 (dk_at dksJ17_fixAfterInsertion_8 0 rfl rfl)
theorem dJ17_fixAfterInsertion_193 : decode cJ17_fixAfterInsertion 193 = .ok (.aload_n 1, 1) := dk_43 (dk_at dksJ17_fixAfterInsertion_8 3 rfl rfl)
theorem dJ17_fixAfterInsertion_194 : decode cJ17_fixAfterInsertion 194 = .ok (.invokestatic 294, 3) := dk_184 1 38 (dk_at dksJ17_fixAfterInsertion_8 4 rfl rfl)
theorem dJ17_fixAfterInsertion_197 : decode cJ17_fixAfterInsertion 197 = .ok (.invokestatic 294, 3) := dk_184 1 38 (dk_at dksJ17_fixAfterInsertion_8 7 rfl rfl)
theorem dJ17_fixAfterInsertion_200 : decode cJ17_fixAfterInsertion 200 = .ok (.astore_n 1, 1) := dk_76 (dk_at dksJ17_fixAfterInsertion_8 10 rfl rfl)
theorem dJ17_fixAfterInsertion_201 : decode cJ17_fixAfterInsertion 201 = .ok (.goto 54, 3) := dk_167 0 54 (dk_at dksJ17_fixAfterInsertion_8 11 rfl rfl)
theorem dJ17_fixAfterInsertion_204 : decode cJ17_fixAfterInsertion 204 = .ok (.aload_n 1, 1) := dk_43 (dk_at dksJ17_fixAfterInsertion_8 14 rfl rfl)
theorem dJ17_fixAfterInsertion_205 : decode cJ17_fixAfterInsertion 205 = .ok (.aload_n 1, 1) := dk_43 (dk_at dksJ17_fixAfterInsertion_8 15 rfl rfl)
theorem dJ17_fixAfterInsertion_206 : decode cJ17_fixAfterInsertion 206 = .ok (.invokestatic 294, 3) := dk_184 1 38 (dk_at dksJ17_fixAfterInsertion_8 16 rfl rfl)
theorem dJ17_fixAfterInsertion_209 : decode cJ17_fixAfterInsertion 209 = .ok (.invokestatic 297, 3) := dk_184 1 41 (dk_at dksJ17_fixAfterInsertion_8 19 rfl rfl)
theorem dJ17_fixAfterInsertion_212 : decode cJ17_fixAfterInsertion 212 = .ok (.if_acmp .ne 13, 3) := dk_166 0 13 (dk_at dksJ17_fixAfterInsertion_9 0 rfl rfl)
theorem dJ17_fixAfterInsertion_215 : decode cJ17_fixAfterInsertion 215 = .ok (.aload_n 1, 1) := dk_43 (dk_at dksJ17_fixAfterInsertion_9 3 rfl rfl)
theorem dJ17_fixAfterInsertion_216 : decode cJ17_fixAfterInsertion 216 = .ok (.invokestatic 294, 3) := dk_184 1 38 (dk_at dksJ17_fixAfterInsertion_9 4 rfl rfl)
theorem dJ17_fixAfterInsertion_219 : decode cJ17_fixAfterInsertion 219 = .ok (.astore_n 1, 1) := dk_76 (dk_at dksJ17_fixAfterInsertion_9 7 rfl rfl)
theorem dJ17_fixAfterInsertion_220 : decode cJ17_fixAfterInsertion 220 = .ok (.aload_n 0, 1) := dk_42 (dk_at dksJ17_fixAfterInsertion_9 8 rfl rfl)
theorem dJ17_fixAfterInsertion_221 : decode cJ17_fixAfterInsertion 221 = .ok (.aload_n 1, 1) := dk_43 (dk_at dksJ17_fixAfterInsertion_9 9 rfl rfl)
theorem dJ17_fixAfterInsertion_222 : decode cJ17_fixAfterInsertion 222 = .ok (.invokevirtual 314, 3) := dk_182 1 58 (dk_at dksJ17_fixAfterInsertion_9 10 rfl rfl)
theorem dJ17_fixAfterInsertion_225 : decode cJ17_fixAfterInsertion 225 = .ok (.aload_n 1, 1) := dk_43 (dk_at dksJ17_fixAfterInsertion_9 13 rfl rfl)
theorem dJ17_fixAfterInsertion_226 : decode cJ17_fixAfterInsertion 226 = .ok (.invokestatic 294, 3) := dk_184 1 38 (dk_at dksJ17_fixAfterInsertion_9 14 rfl rfl)
theorem dJ17_fixAfterInsertion_229 : decode cJ17_fixAfterInsertion 229 = .ok (.iconst 1, 1) := dk_4 (dk_at dksJ17_fixAfterInsertion_9 17 rfl rfl)
theorem dJ17_fixAfterInsertion_230 : decode cJ17_fixAfterInsertion 230 = .ok (.invokestatic 307, 3) := dk_184 1 51 (dk_at dksJ17_fixAfterInsertion_9 18 rfl rfl)
theorem dJ17_fixAfterInsertion_233 : decode cJ17_fixAfterInsertion 233 = .ok (.aload_n 1, 1) := dk_43 (dk_at dksJ17_fixAfterInsertion_9 21 rfl rfl)
theorem dJ17_fixAfterInsertion_234 : decode cJ17_fixAfterInsertion 234 = .ok (.invokestatic 294, 3) := dk_184 1 38 (dk_at dksJ17_fixAfterInsertion_10 0 rfl rfl)
theorem dJ17_fixAfterInsertion_237 : decode cJ17_fixAfterInsertion 237 = .ok (.invokestatic 294, 3) := dk_184 1 38 (dk_at dksJ17_fixAfterInsertion_10 3 rfl rfl)
theorem dJ17_fixAfterInsertion_240 : decode cJ17_fixAfterInsertion 240 = .ok (.iconst 0, 1) := dk_3 (dk_at dksJ17_fixAfterInsertion_10 6 rfl rfl)
theorem dJ17_fixAfterInsertion_241 : decode cJ17_fixAfterInsertion 241 = .ok (.invokestatic 307, 3) := dk_184 1 51 (dk_at dksJ17_fixAfterInsertion_10 7 rfl rfl)
theorem dJ17_fixAfterInsertion_244 : decode cJ17_fixAfterInsertion 244 = .ok (.aload_n 0, 1) := dk_42 (dk_at dksJ17_fixAfterInsertion_10 10 rfl rfl)
theorem dJ17_fixAfterInsertion_245 : decode cJ17_fixAfterInsertion 245 = .ok (.aload_n 1, 1) := dk_43 (dk_at dksJ17_fixAfterInsertion_10 11 rfl rfl)
theorem dJ17_fixAfterInsertion_246 : decode cJ17_fixAfterInsertion 246 = .ok (.invokestatic 294, 3) := dk_184 1 38 (dk_at dksJ17_fixAfterInsertion_10 12 rfl rfl)
theorem dJ17_fixAfterInsertion_249 : decode cJ17_fixAfterInsertion 249 = .ok (.invokestatic 294, 3) := dk_184 1 38 (dk_at dksJ17_fixAfterInsertion_10 15 rfl rfl)
theorem dJ17_fixAfterInsertion_252 : decode cJ17_fixAfterInsertion 252 = .ok (.invokevirtual 311, 3) := dk_182 1 55 (dk_at dksJ17_fixAfterInsertion_10 18 rfl rfl)
theorem dJ17_fixAfterInsertion_255 : decode cJ17_fixAfterInsertion 255 = .ok (.goto (-250), 3) := dk_167 255 6 (dk_at dksJ17_fixAfterInsertion_10 21 rfl rfl)
theorem dJ17_fixAfterInsertion_258 : decode cJ17_fixAfterInsertion 258 = .ok (.aload_n 0, 1) := dk_42 (dk_at dksJ17_fixAfterInsertion_11 0 rfl rfl)
theorem dJ17_fixAfterInsertion_259 : decode cJ17_fixAfterInsertion 259 = .ok (.getfield 101, 3) := dk_180 0 101 (dk_at dksJ17_fixAfterInsertion_11 1 rfl rfl)
theorem dJ17_fixAfterInsertion_262 : decode cJ17_fixAfterInsertion 262 = .ok (.iconst 1, 1) := dk_4 (dk_at dksJ17_fixAfterInsertion_11 4 rfl rfl)
theorem dJ17_fixAfterInsertion_263 : decode cJ17_fixAfterInsertion 263 = .ok (.putfield 290, 3) := dk_181 1 34 (dk_at dksJ17_fixAfterInsertion_11 5 rfl rfl)
theorem dJ17_fixAfterInsertion_266 : decode cJ17_fixAfterInsertion 266 = .ok (.return_, 1) := dk_177 (dk_at dksJ17_fixAfterInsertion_11 8 rfl rfl)
abbrev cJ17_parentOf : ByteArray := prog_48_method_77_code
def yJ17_parentOf : MethodName := ⟨RJ17, "parentOf", "(Ljava/util/TreeMap$Entry;)Ljava/util/TreeMap$Entry;"⟩
def dkwJ17_parentOf_0 : List UInt8 := [42, 199, 0, 7, 1, 167, 0, 7, 42, 180, 0, 124, 176]
abbrev dktJ17_parentOf_0 : List UInt8 := dkwJ17_parentOf_0 ++ []
theorem dksJ17_parentOf_0 : cJ17_parentOf.data.toList.drop 0 = dktJ17_parentOf_0 := by decide +kernel
theorem dJ17_parentOf_0 : decode cJ17_parentOf 0 = .ok (.aload_n 0, 1) := dk_42 (dk_at dksJ17_parentOf_0 0 rfl rfl)
theorem dJ17_parentOf_1 : decode cJ17_parentOf 1 = .ok (.ifnonnull 7, 3) := dk_199 0 7 (dk_at dksJ17_parentOf_0 1 rfl rfl)
theorem dJ17_parentOf_4 : decode cJ17_parentOf 4 = .ok (.aconst_null, 1) := dk_1 (dk_at dksJ17_parentOf_0 4 rfl rfl)
theorem dJ17_parentOf_5 : decode cJ17_parentOf 5 = .ok (.goto 7, 3) := dk_167 0 7 (dk_at dksJ17_parentOf_0 5 rfl rfl)
theorem dJ17_parentOf_8 : decode cJ17_parentOf 8 = .ok (.aload_n 0, 1) := dk_42 (dk_at dksJ17_parentOf_0 8 rfl rfl)
theorem dJ17_parentOf_9 : decode cJ17_parentOf 9 = .ok (.getfield 124, 3) := dk_180 0 124 (dk_at dksJ17_parentOf_0 9 rfl rfl)
theorem dJ17_parentOf_12 : decode cJ17_parentOf 12 = .ok (.areturn, 1) := dk_176 (dk_at dksJ17_parentOf_0 12 rfl rfl)
abbrev cJ17_leftOf : ByteArray := prog_48_method_79_code
def yJ17_leftOf : MethodName := ⟨RJ17, "leftOf", "(Ljava/util/TreeMap$Entry;)Ljava/util/TreeMap$Entry;"⟩
def dkwJ17_leftOf_0 : List UInt8 := [42, 199, 0, 7, 1, 167, 0, 7, 42, 180, 0, 111, 176]
abbrev dktJ17_leftOf_0 : List UInt8 := dkwJ17_leftOf_0 ++ []
theorem dksJ17_leftOf_0 : cJ17_leftOf.data.toList.drop 0 = dktJ17_leftOf_0 := by decide +kernel
theorem dJ17_leftOf_0 : decode cJ17_leftOf 0 = .ok (.aload_n 0, 1) := dk_42 (dk_at dksJ17_leftOf_0 0 rfl rfl)
theorem dJ17_leftOf_1 : decode cJ17_leftOf 1 = .ok (.ifnonnull 7, 3) := dk_199 0 7 (dk_at dksJ17_leftOf_0 1 rfl rfl)
theorem dJ17_leftOf_4 : decode cJ17_leftOf 4 = .ok (.aconst_null, 1) := dk_1 (dk_at dksJ17_leftOf_0 4 rfl rfl)
theorem dJ17_leftOf_5 : decode cJ17_leftOf 5 = .ok (.goto 7, 3) := dk_167 0 7 (dk_at dksJ17_leftOf_0 5 rfl rfl)
theorem dJ17_leftOf_8 : decode cJ17_leftOf 8 = .ok (.aload_n 0, 1) := dk_42 (dk_at dksJ17_leftOf_0 8 rfl rfl)
theorem dJ17_leftOf_9 : decode cJ17_leftOf 9 = .ok (.getfield 111, 3) := dk_180 0 111 (dk_at dksJ17_leftOf_0 9 rfl rfl)
theorem dJ17_leftOf_12 : decode cJ17_leftOf 12 = .ok (.areturn, 1) := dk_176 (dk_at dksJ17_leftOf_0 12 rfl rfl)
abbrev cJ17_rightOf : ByteArray := prog_48_method_80_code
def yJ17_rightOf : MethodName := ⟨RJ17, "rightOf", "(Ljava/util/TreeMap$Entry;)Ljava/util/TreeMap$Entry;"⟩
def dkwJ17_rightOf_0 : List UInt8 := [42, 199, 0, 7, 1, 167, 0, 7, 42, 180, 0, 114, 176]
abbrev dktJ17_rightOf_0 : List UInt8 := dkwJ17_rightOf_0 ++ []
theorem dksJ17_rightOf_0 : cJ17_rightOf.data.toList.drop 0 = dktJ17_rightOf_0 := by decide +kernel
theorem dJ17_rightOf_0 : decode cJ17_rightOf 0 = .ok (.aload_n 0, 1) := dk_42 (dk_at dksJ17_rightOf_0 0 rfl rfl)
theorem dJ17_rightOf_1 : decode cJ17_rightOf 1 = .ok (.ifnonnull 7, 3) := dk_199 0 7 (dk_at dksJ17_rightOf_0 1 rfl rfl)
theorem dJ17_rightOf_4 : decode cJ17_rightOf 4 = .ok (.aconst_null, 1) := dk_1 (dk_at dksJ17_rightOf_0 4 rfl rfl)
theorem dJ17_rightOf_5 : decode cJ17_rightOf 5 = .ok (.goto 7, 3) := dk_167 0 7 (dk_at dksJ17_rightOf_0 5 rfl rfl)
theorem dJ17_rightOf_8 : decode cJ17_rightOf 8 = .ok (.aload_n 0, 1) := dk_42 (dk_at dksJ17_rightOf_0 8 rfl rfl)
theorem dJ17_rightOf_9 : decode cJ17_rightOf 9 = .ok (.getfield 114, 3) := dk_180 0 114 (dk_at dksJ17_rightOf_0 9 rfl rfl)
theorem dJ17_rightOf_12 : decode cJ17_rightOf 12 = .ok (.areturn, 1) := dk_176 (dk_at dksJ17_rightOf_0 12 rfl rfl)
abbrev cJ17_colorOf : ByteArray := prog_48_method_76_code
def yJ17_colorOf : MethodName := ⟨RJ17, "colorOf", "(Ljava/util/TreeMap$Entry;)Z"⟩
def dkwJ17_colorOf_0 : List UInt8 := [42, 199, 0, 7, 4, 167, 0, 7, 42, 180, 1, 34, 172]
abbrev dktJ17_colorOf_0 : List UInt8 := dkwJ17_colorOf_0 ++ []
theorem dksJ17_colorOf_0 : cJ17_colorOf.data.toList.drop 0 = dktJ17_colorOf_0 := by decide +kernel
theorem dJ17_colorOf_0 : decode cJ17_colorOf 0 = .ok (.aload_n 0, 1) := dk_42 (dk_at dksJ17_colorOf_0 0 rfl rfl)
theorem dJ17_colorOf_1 : decode cJ17_colorOf 1 = .ok (.ifnonnull 7, 3) := dk_199 0 7 (dk_at dksJ17_colorOf_0 1 rfl rfl)
theorem dJ17_colorOf_4 : decode cJ17_colorOf 4 = .ok (.iconst 1, 1) := dk_4 (dk_at dksJ17_colorOf_0 4 rfl rfl)
theorem dJ17_colorOf_5 : decode cJ17_colorOf 5 = .ok (.goto 7, 3) := dk_167 0 7 (dk_at dksJ17_colorOf_0 5 rfl rfl)
theorem dJ17_colorOf_8 : decode cJ17_colorOf 8 = .ok (.aload_n 0, 1) := dk_42 (dk_at dksJ17_colorOf_0 8 rfl rfl)
theorem dJ17_colorOf_9 : decode cJ17_colorOf 9 = .ok (.getfield 290, 3) := dk_180 1 34 (dk_at dksJ17_colorOf_0 9 rfl rfl)
theorem dJ17_colorOf_12 : decode cJ17_colorOf 12 = .ok (.ireturn, 1) := dk_172 (dk_at dksJ17_colorOf_0 12 rfl rfl)
abbrev cJ17_setColor : ByteArray := prog_48_method_78_code
def yJ17_setColor : MethodName := ⟨RJ17, "setColor", "(Ljava/util/TreeMap$Entry;Z)V"⟩
def dkwJ17_setColor_0 : List UInt8 := [42, 198, 0, 8, 42, 27, 181, 1, 34, 177]
abbrev dktJ17_setColor_0 : List UInt8 := dkwJ17_setColor_0 ++ []
theorem dksJ17_setColor_0 : cJ17_setColor.data.toList.drop 0 = dktJ17_setColor_0 := by decide +kernel
theorem dJ17_setColor_0 : decode cJ17_setColor 0 = .ok (.aload_n 0, 1) := dk_42 (dk_at dksJ17_setColor_0 0 rfl rfl)
theorem dJ17_setColor_1 : decode cJ17_setColor 1 = .ok (.ifnull 8, 3) := dk_198 0 8 (dk_at dksJ17_setColor_0 1 rfl rfl)
theorem dJ17_setColor_4 : decode cJ17_setColor 4 = .ok (.aload_n 0, 1) := dk_42 (dk_at dksJ17_setColor_0 4 rfl rfl)
theorem dJ17_setColor_5 : decode cJ17_setColor 5 = .ok (.iload_n 1, 1) := dk_27 (dk_at dksJ17_setColor_0 5 rfl rfl)
theorem dJ17_setColor_6 : decode cJ17_setColor 6 = .ok (.putfield 290, 3) := dk_181 1 34 (dk_at dksJ17_setColor_0 6 rfl rfl)
theorem dJ17_setColor_9 : decode cJ17_setColor 9 = .ok (.return_, 1) := dk_177 (dk_at dksJ17_setColor_0 9 rfl rfl)
abbrev cJ17_rotateLeft : ByteArray := prog_48_method_81_code
def yJ17_rotateLeft : MethodName := ⟨RJ17, "rotateLeft", "(Ljava/util/TreeMap$Entry;)V"⟩
def dkwJ17_rotateLeft_4 : List UInt8 := [177]
abbrev dktJ17_rotateLeft_4 : List UInt8 := dkwJ17_rotateLeft_4 ++ []
def dkwJ17_rotateLeft_3 : List UInt8 := [181, 0, 111, 167, 0, 11, 43, 180, 0, 124, 44, 181, 0, 114, 44, 43, 181, 0, 111, 43, 44, 181, 0, 124]
abbrev dktJ17_rotateLeft_3 : List UInt8 := dkwJ17_rotateLeft_3 ++ dktJ17_rotateLeft_4
def dkwJ17_rotateLeft_2 : List UInt8 := [44, 181, 0, 101, 167, 0, 33, 43, 180, 0, 124, 180, 0, 111, 43, 166, 0, 14, 43, 180, 0, 124, 44]
abbrev dktJ17_rotateLeft_2 : List UInt8 := dkwJ17_rotateLeft_2 ++ dktJ17_rotateLeft_3
def dkwJ17_rotateLeft_1 : List UInt8 := [44, 180, 0, 111, 43, 181, 0, 124, 44, 43, 180, 0, 124, 181, 0, 124, 43, 180, 0, 124, 199, 0, 11, 42]
abbrev dktJ17_rotateLeft_1 : List UInt8 := dkwJ17_rotateLeft_1 ++ dktJ17_rotateLeft_2
def dkwJ17_rotateLeft_0 : List UInt8 := [43, 198, 0, 94, 43, 180, 0, 114, 77, 43, 44, 180, 0, 111, 181, 0, 114, 44, 180, 0, 111, 198, 0, 11]
abbrev dktJ17_rotateLeft_0 : List UInt8 := dkwJ17_rotateLeft_0 ++ dktJ17_rotateLeft_1
theorem dksJ17_rotateLeft_0 : cJ17_rotateLeft.data.toList.drop 0 = dktJ17_rotateLeft_0 := by decide +kernel
theorem dksJ17_rotateLeft_1 : cJ17_rotateLeft.data.toList.drop 24 = dktJ17_rotateLeft_1 := dk_seg dksJ17_rotateLeft_0 24 rfl rfl
theorem dksJ17_rotateLeft_2 : cJ17_rotateLeft.data.toList.drop 48 = dktJ17_rotateLeft_2 := dk_seg dksJ17_rotateLeft_1 24 rfl rfl
theorem dksJ17_rotateLeft_3 : cJ17_rotateLeft.data.toList.drop 71 = dktJ17_rotateLeft_3 := dk_seg dksJ17_rotateLeft_2 23 rfl rfl
theorem dksJ17_rotateLeft_4 : cJ17_rotateLeft.data.toList.drop 95 = dktJ17_rotateLeft_4 := dk_seg dksJ17_rotateLeft_3 24 rfl rfl
theorem dJ17_rotateLeft_0 : decode cJ17_rotateLeft 0 = .ok (.aload_n 1, 1) := dk_43 (dk_at dksJ17_rotateLeft_0 0 rfl rfl)
theorem dJ17_rotateLeft_1 : decode cJ17_rotateLeft 1 = .ok (.ifnull 94, 3) := dk_198 0 94 (dk_at dksJ17_rotateLeft_0 1 rfl rfl)
theorem dJ17_rotateLeft_4 : decode cJ17_rotateLeft 4 = .ok (.aload_n 1, 1) := dk_43 (dk_at dksJ17_rotateLeft_0 4 rfl rfl)
theorem dJ17_rotateLeft_5 : decode cJ17_rotateLeft 5 = .ok (.getfield 114, 3) := dk_180 0 114 (dk_at dksJ17_rotateLeft_0 5 rfl rfl)
theorem dJ17_rotateLeft_8 : decode cJ17_rotateLeft 8 = .ok (.astore_n 2, 1) := dk_77 (dk_at dksJ17_rotateLeft_0 8 rfl rfl)
theorem dJ17_rotateLeft_9 : decode cJ17_rotateLeft 9 = .ok (.aload_n 1, 1) := dk_43 (dk_at dksJ17_rotateLeft_0 9 rfl rfl)
theorem dJ17_rotateLeft_10 : decode cJ17_rotateLeft 10 = .ok (.aload_n 2, 1) := dk_44 (dk_at dksJ17_rotateLeft_0 10 rfl rfl)
theorem dJ17_rotateLeft_11 : decode cJ17_rotateLeft 11 = .ok (.getfield 111, 3) := dk_180 0 111 (dk_at dksJ17_rotateLeft_0 11 rfl rfl)
theorem dJ17_rotateLeft_14 : decode cJ17_rotateLeft 14 = .ok (.putfield 114, 3) := dk_181 0 114 (dk_at dksJ17_rotateLeft_0 14 rfl rfl)
theorem dJ17_rotateLeft_17 : decode cJ17_rotateLeft 17 = .ok (.aload_n 2, 1) := dk_44 (dk_at dksJ17_rotateLeft_0 17 rfl rfl)
theorem dJ17_rotateLeft_18 : decode cJ17_rotateLeft 18 = .ok (.getfield 111, 3) := dk_180 0 111 (dk_at dksJ17_rotateLeft_0 18 rfl rfl)
theorem dJ17_rotateLeft_21 : decode cJ17_rotateLeft 21 = .ok (.ifnull 11, 3) := dk_198 0 11 (dk_at dksJ17_rotateLeft_0 21 rfl rfl)
theorem dJ17_rotateLeft_24 : decode cJ17_rotateLeft 24 = .ok (.aload_n 2, 1) := dk_44 (dk_at dksJ17_rotateLeft_1 0 rfl rfl)
theorem dJ17_rotateLeft_25 : decode cJ17_rotateLeft 25 = .ok (.getfield 111, 3) := dk_180 0 111 (dk_at dksJ17_rotateLeft_1 1 rfl rfl)
theorem dJ17_rotateLeft_28 : decode cJ17_rotateLeft 28 = .ok (.aload_n 1, 1) := dk_43 (dk_at dksJ17_rotateLeft_1 4 rfl rfl)
theorem dJ17_rotateLeft_29 : decode cJ17_rotateLeft 29 = .ok (.putfield 124, 3) := dk_181 0 124 (dk_at dksJ17_rotateLeft_1 5 rfl rfl)
theorem dJ17_rotateLeft_32 : decode cJ17_rotateLeft 32 = .ok (.aload_n 2, 1) := dk_44 (dk_at dksJ17_rotateLeft_1 8 rfl rfl)
theorem dJ17_rotateLeft_33 : decode cJ17_rotateLeft 33 = .ok (.aload_n 1, 1) := dk_43 (dk_at dksJ17_rotateLeft_1 9 rfl rfl)
theorem dJ17_rotateLeft_34 : decode cJ17_rotateLeft 34 = .ok (.getfield 124, 3) := dk_180 0 124 (dk_at dksJ17_rotateLeft_1 10 rfl rfl)
theorem dJ17_rotateLeft_37 : decode cJ17_rotateLeft 37 = .ok (.putfield 124, 3) := dk_181 0 124 (dk_at dksJ17_rotateLeft_1 13 rfl rfl)
theorem dJ17_rotateLeft_40 : decode cJ17_rotateLeft 40 = .ok (.aload_n 1, 1) := dk_43 (dk_at dksJ17_rotateLeft_1 16 rfl rfl)
theorem dJ17_rotateLeft_41 : decode cJ17_rotateLeft 41 = .ok (.getfield 124, 3) := dk_180 0 124 (dk_at dksJ17_rotateLeft_1 17 rfl rfl)
theorem dJ17_rotateLeft_44 : decode cJ17_rotateLeft 44 = .ok (.ifnonnull 11, 3) := dk_199 0 11 (dk_at dksJ17_rotateLeft_1 20 rfl rfl)
theorem dJ17_rotateLeft_47 : decode cJ17_rotateLeft 47 = .ok (.aload_n 0, 1) := dk_42 (dk_at dksJ17_rotateLeft_1 23 rfl rfl)
theorem dJ17_rotateLeft_48 : decode cJ17_rotateLeft 48 = .ok (.aload_n 2, 1) := dk_44 (dk_at dksJ17_rotateLeft_2 0 rfl rfl)
theorem dJ17_rotateLeft_49 : decode cJ17_rotateLeft 49 = .ok (.putfield 101, 3) := dk_181 0 101 (dk_at dksJ17_rotateLeft_2 1 rfl rfl)
theorem dJ17_rotateLeft_52 : decode cJ17_rotateLeft 52 = .ok (.goto 33, 3) := dk_167 0 33 (dk_at dksJ17_rotateLeft_2 4 rfl rfl)
theorem dJ17_rotateLeft_55 : decode cJ17_rotateLeft 55 = .ok (.aload_n 1, 1) := dk_43 (dk_at dksJ17_rotateLeft_2 7 rfl rfl)
theorem dJ17_rotateLeft_56 : decode cJ17_rotateLeft 56 = .ok (.getfield 124, 3) := dk_180 0 124 (dk_at dksJ17_rotateLeft_2 8 rfl rfl)
theorem dJ17_rotateLeft_59 : decode cJ17_rotateLeft 59 = .ok (.getfield 111, 3) := dk_180 0 111 (dk_at dksJ17_rotateLeft_2 11 rfl rfl)
theorem dJ17_rotateLeft_62 : decode cJ17_rotateLeft 62 = .ok (.aload_n 1, 1) := dk_43 (dk_at dksJ17_rotateLeft_2 14 rfl rfl)
theorem dJ17_rotateLeft_63 : decode cJ17_rotateLeft 63 = .ok (.if_acmp .ne 14, 3) := dk_166 0 14 (dk_at dksJ17_rotateLeft_2 15 rfl rfl)
theorem dJ17_rotateLeft_66 : decode cJ17_rotateLeft 66 = .ok (.aload_n 1, 1) := dk_43 (dk_at dksJ17_rotateLeft_2 18 rfl rfl)
theorem dJ17_rotateLeft_67 : decode cJ17_rotateLeft 67 = .ok (.getfield 124, 3) := dk_180 0 124 (dk_at dksJ17_rotateLeft_2 19 rfl rfl)
theorem dJ17_rotateLeft_70 : decode cJ17_rotateLeft 70 = .ok (.aload_n 2, 1) := dk_44 (dk_at dksJ17_rotateLeft_2 22 rfl rfl)
theorem dJ17_rotateLeft_71 : decode cJ17_rotateLeft 71 = .ok (.putfield 111, 3) := dk_181 0 111 (dk_at dksJ17_rotateLeft_3 0 rfl rfl)
theorem dJ17_rotateLeft_74 : decode cJ17_rotateLeft 74 = .ok (.goto 11, 3) := dk_167 0 11 (dk_at dksJ17_rotateLeft_3 3 rfl rfl)
theorem dJ17_rotateLeft_77 : decode cJ17_rotateLeft 77 = .ok (.aload_n 1, 1) := dk_43 (dk_at dksJ17_rotateLeft_3 6 rfl rfl)
theorem dJ17_rotateLeft_78 : decode cJ17_rotateLeft 78 = .ok (.getfield 124, 3) := dk_180 0 124 (dk_at dksJ17_rotateLeft_3 7 rfl rfl)
theorem dJ17_rotateLeft_81 : decode cJ17_rotateLeft 81 = .ok (.aload_n 2, 1) := dk_44 (dk_at dksJ17_rotateLeft_3 10 rfl rfl)
theorem dJ17_rotateLeft_82 : decode cJ17_rotateLeft 82 = .ok (.putfield 114, 3) := dk_181 0 114 (dk_at dksJ17_rotateLeft_3 11 rfl rfl)
theorem dJ17_rotateLeft_85 : decode cJ17_rotateLeft 85 = .ok (.aload_n 2, 1) := dk_44 (dk_at dksJ17_rotateLeft_3 14 rfl rfl)
theorem dJ17_rotateLeft_86 : decode cJ17_rotateLeft 86 = .ok (.aload_n 1, 1) := dk_43 (dk_at dksJ17_rotateLeft_3 15 rfl rfl)
theorem dJ17_rotateLeft_87 : decode cJ17_rotateLeft 87 = .ok (.putfield 111, 3) := dk_181 0 111 (dk_at dksJ17_rotateLeft_3 16 rfl rfl)
theorem dJ17_rotateLeft_90 : decode cJ17_rotateLeft 90 = .ok (.aload_n 1, 1) := dk_43 (dk_at dksJ17_rotateLeft_3 19 rfl rfl)
theorem dJ17_rotateLeft_91 : decode cJ17_rotateLeft 91 = .ok (.aload_n 2, 1) := dk_44 (dk_at dksJ17_rotateLeft_3 20 rfl rfl)
theorem dJ17_rotateLeft_92 : decode cJ17_rotateLeft 92 = .ok (.putfield 124, 3) := dk_181 0 124 (dk_at dksJ17_rotateLeft_3 21 rfl rfl)
theorem dJ17_rotateLeft_95 : decode cJ17_rotateLeft 95 = .ok (.return_, 1) := dk_177 (dk_at dksJ17_rotateLeft_4 0 rfl rfl)
abbrev cJ17_rotateRight : ByteArray := prog_48_method_82_code
def yJ17_rotateRight : MethodName := ⟨RJ17, "rotateRight", "(Ljava/util/TreeMap$Entry;)V"⟩
def dkwJ17_rotateRight_4 : List UInt8 := [177]
abbrev dktJ17_rotateRight_4 : List UInt8 := dkwJ17_rotateRight_4 ++ []
def dkwJ17_rotateRight_3 : List UInt8 := [181, 0, 114, 167, 0, 11, 43, 180, 0, 124, 44, 181, 0, 111, 44, 43, 181, 0, 114, 43, 44, 181, 0, 124]
abbrev dktJ17_rotateRight_3 : List UInt8 := dkwJ17_rotateRight_3 ++ dktJ17_rotateRight_4
def dkwJ17_rotateRight_2 : List UInt8 := [44, 181, 0, 101, 167, 0, 33, 43, 180, 0, 124, 180, 0, 114, 43, 166, 0, 14, 43, 180, 0, 124, 44]
abbrev dktJ17_rotateRight_2 : List UInt8 := dkwJ17_rotateRight_2 ++ dktJ17_rotateRight_3
def dkwJ17_rotateRight_1 : List UInt8 := [44, 180, 0, 114, 43, 181, 0, 124, 44, 43, 180, 0, 124, 181, 0, 124, 43, 180, 0, 124, 199, 0, 11, 42]
abbrev dktJ17_rotateRight_1 : List UInt8 := dkwJ17_rotateRight_1 ++ dktJ17_rotateRight_2
def dkwJ17_rotateRight_0 : List UInt8 := [43, 198, 0, 94, 43, 180, 0, 111, 77, 43, 44, 180, 0, 114, 181, 0, 111, 44, 180, 0, 114, 198, 0, 11]
abbrev dktJ17_rotateRight_0 : List UInt8 := dkwJ17_rotateRight_0 ++ dktJ17_rotateRight_1
theorem dksJ17_rotateRight_0 : cJ17_rotateRight.data.toList.drop 0 = dktJ17_rotateRight_0 := by decide +kernel
theorem dksJ17_rotateRight_1 : cJ17_rotateRight.data.toList.drop 24 = dktJ17_rotateRight_1 := dk_seg dksJ17_rotateRight_0 24 rfl rfl
theorem dksJ17_rotateRight_2 : cJ17_rotateRight.data.toList.drop 48 = dktJ17_rotateRight_2 := dk_seg dksJ17_rotateRight_1 24 rfl rfl
theorem dksJ17_rotateRight_3 : cJ17_rotateRight.data.toList.drop 71 = dktJ17_rotateRight_3 := dk_seg dksJ17_rotateRight_2 23 rfl rfl
theorem dksJ17_rotateRight_4 : cJ17_rotateRight.data.toList.drop 95 = dktJ17_rotateRight_4 := dk_seg dksJ17_rotateRight_3 24 rfl rfl
theorem dJ17_rotateRight_0 : decode cJ17_rotateRight 0 = .ok (.aload_n 1, 1) := dk_43 (dk_at dksJ17_rotateRight_0 0 rfl rfl)
theorem dJ17_rotateRight_1 : decode cJ17_rotateRight 1 = .ok (.ifnull 94, 3) := dk_198 0 94 (dk_at dksJ17_rotateRight_0 1 rfl rfl)
theorem dJ17_rotateRight_4 : decode cJ17_rotateRight 4 = .ok (.aload_n 1, 1) := dk_43 (dk_at dksJ17_rotateRight_0 4 rfl rfl)
theorem dJ17_rotateRight_5 : decode cJ17_rotateRight 5 = .ok (.getfield 111, 3) := dk_180 0 111 (dk_at dksJ17_rotateRight_0 5 rfl rfl)
theorem dJ17_rotateRight_8 : decode cJ17_rotateRight 8 = .ok (.astore_n 2, 1) := dk_77 (dk_at dksJ17_rotateRight_0 8 rfl rfl)
theorem dJ17_rotateRight_9 : decode cJ17_rotateRight 9 = .ok (.aload_n 1, 1) := dk_43 (dk_at dksJ17_rotateRight_0 9 rfl rfl)
theorem dJ17_rotateRight_10 : decode cJ17_rotateRight 10 = .ok (.aload_n 2, 1) := dk_44 (dk_at dksJ17_rotateRight_0 10 rfl rfl)
theorem dJ17_rotateRight_11 : decode cJ17_rotateRight 11 = .ok (.getfield 114, 3) := dk_180 0 114 (dk_at dksJ17_rotateRight_0 11 rfl rfl)
theorem dJ17_rotateRight_14 : decode cJ17_rotateRight 14 = .ok (.putfield 111, 3) := dk_181 0 111 (dk_at dksJ17_rotateRight_0 14 rfl rfl)
theorem dJ17_rotateRight_17 : decode cJ17_rotateRight 17 = .ok (.aload_n 2, 1) := dk_44 (dk_at dksJ17_rotateRight_0 17 rfl rfl)
theorem dJ17_rotateRight_18 : decode cJ17_rotateRight 18 = .ok (.getfield 114, 3) := dk_180 0 114 (dk_at dksJ17_rotateRight_0 18 rfl rfl)
theorem dJ17_rotateRight_21 : decode cJ17_rotateRight 21 = .ok (.ifnull 11, 3) := dk_198 0 11 (dk_at dksJ17_rotateRight_0 21 rfl rfl)
theorem dJ17_rotateRight_24 : decode cJ17_rotateRight 24 = .ok (.aload_n 2, 1) := dk_44 (dk_at dksJ17_rotateRight_1 0 rfl rfl)
theorem dJ17_rotateRight_25 : decode cJ17_rotateRight 25 = .ok (.getfield 114, 3) := dk_180 0 114 (dk_at dksJ17_rotateRight_1 1 rfl rfl)
theorem dJ17_rotateRight_28 : decode cJ17_rotateRight 28 = .ok (.aload_n 1, 1) := dk_43 (dk_at dksJ17_rotateRight_1 4 rfl rfl)
theorem dJ17_rotateRight_29 : decode cJ17_rotateRight 29 = .ok (.putfield 124, 3) := dk_181 0 124 (dk_at dksJ17_rotateRight_1 5 rfl rfl)
theorem dJ17_rotateRight_32 : decode cJ17_rotateRight 32 = .ok (.aload_n 2, 1) := dk_44 (dk_at dksJ17_rotateRight_1 8 rfl rfl)
theorem dJ17_rotateRight_33 : decode cJ17_rotateRight 33 = .ok (.aload_n 1, 1) := dk_43 (dk_at dksJ17_rotateRight_1 9 rfl rfl)
theorem dJ17_rotateRight_34 : decode cJ17_rotateRight 34 = .ok (.getfield 124, 3) := dk_180 0 124 (dk_at dksJ17_rotateRight_1 10 rfl rfl)
theorem dJ17_rotateRight_37 : decode cJ17_rotateRight 37 = .ok (.putfield 124, 3) := dk_181 0 124 (dk_at dksJ17_rotateRight_1 13 rfl rfl)
theorem dJ17_rotateRight_40 : decode cJ17_rotateRight 40 = .ok (.aload_n 1, 1) := dk_43 (dk_at dksJ17_rotateRight_1 16 rfl rfl)
theorem dJ17_rotateRight_41 : decode cJ17_rotateRight 41 = .ok (.getfield 124, 3) := dk_180 0 124 (dk_at dksJ17_rotateRight_1 17 rfl rfl)
theorem dJ17_rotateRight_44 : decode cJ17_rotateRight 44 = .ok (.ifnonnull 11, 3) := dk_199 0 11 (dk_at dksJ17_rotateRight_1 20 rfl rfl)
theorem dJ17_rotateRight_47 : decode cJ17_rotateRight 47 = .ok (.aload_n 0, 1) := dk_42 (dk_at dksJ17_rotateRight_1 23 rfl rfl)
theorem dJ17_rotateRight_48 : decode cJ17_rotateRight 48 = .ok (.aload_n 2, 1) := dk_44 (dk_at dksJ17_rotateRight_2 0 rfl rfl)
theorem dJ17_rotateRight_49 : decode cJ17_rotateRight 49 = .ok (.putfield 101, 3) := dk_181 0 101 (dk_at dksJ17_rotateRight_2 1 rfl rfl)
theorem dJ17_rotateRight_52 : decode cJ17_rotateRight 52 = .ok (.goto 33, 3) := dk_167 0 33 (dk_at dksJ17_rotateRight_2 4 rfl rfl)
theorem dJ17_rotateRight_55 : decode cJ17_rotateRight 55 = .ok (.aload_n 1, 1) := dk_43 (dk_at dksJ17_rotateRight_2 7 rfl rfl)
theorem dJ17_rotateRight_56 : decode cJ17_rotateRight 56 = .ok (.getfield 124, 3) := dk_180 0 124 (dk_at dksJ17_rotateRight_2 8 rfl rfl)
theorem dJ17_rotateRight_59 : decode cJ17_rotateRight 59 = .ok (.getfield 114, 3) := dk_180 0 114 (dk_at dksJ17_rotateRight_2 11 rfl rfl)
theorem dJ17_rotateRight_62 : decode cJ17_rotateRight 62 = .ok (.aload_n 1, 1) := dk_43 (dk_at dksJ17_rotateRight_2 14 rfl rfl)
theorem dJ17_rotateRight_63 : decode cJ17_rotateRight 63 = .ok (.if_acmp .ne 14, 3) := dk_166 0 14 (dk_at dksJ17_rotateRight_2 15 rfl rfl)
theorem dJ17_rotateRight_66 : decode cJ17_rotateRight 66 = .ok (.aload_n 1, 1) := dk_43 (dk_at dksJ17_rotateRight_2 18 rfl rfl)
theorem dJ17_rotateRight_67 : decode cJ17_rotateRight 67 = .ok (.getfield 124, 3) := dk_180 0 124 (dk_at dksJ17_rotateRight_2 19 rfl rfl)
theorem dJ17_rotateRight_70 : decode cJ17_rotateRight 70 = .ok (.aload_n 2, 1) := dk_44 (dk_at dksJ17_rotateRight_2 22 rfl rfl)
theorem dJ17_rotateRight_71 : decode cJ17_rotateRight 71 = .ok (.putfield 114, 3) := dk_181 0 114 (dk_at dksJ17_rotateRight_3 0 rfl rfl)
theorem dJ17_rotateRight_74 : decode cJ17_rotateRight 74 = .ok (.goto 11, 3) := dk_167 0 11 (dk_at dksJ17_rotateRight_3 3 rfl rfl)
theorem dJ17_rotateRight_77 : decode cJ17_rotateRight 77 = .ok (.aload_n 1, 1) := dk_43 (dk_at dksJ17_rotateRight_3 6 rfl rfl)
theorem dJ17_rotateRight_78 : decode cJ17_rotateRight 78 = .ok (.getfield 124, 3) := dk_180 0 124 (dk_at dksJ17_rotateRight_3 7 rfl rfl)
theorem dJ17_rotateRight_81 : decode cJ17_rotateRight 81 = .ok (.aload_n 2, 1) := dk_44 (dk_at dksJ17_rotateRight_3 10 rfl rfl)
theorem dJ17_rotateRight_82 : decode cJ17_rotateRight 82 = .ok (.putfield 111, 3) := dk_181 0 111 (dk_at dksJ17_rotateRight_3 11 rfl rfl)
theorem dJ17_rotateRight_85 : decode cJ17_rotateRight 85 = .ok (.aload_n 2, 1) := dk_44 (dk_at dksJ17_rotateRight_3 14 rfl rfl)
theorem dJ17_rotateRight_86 : decode cJ17_rotateRight 86 = .ok (.aload_n 1, 1) := dk_43 (dk_at dksJ17_rotateRight_3 15 rfl rfl)
theorem dJ17_rotateRight_87 : decode cJ17_rotateRight 87 = .ok (.putfield 114, 3) := dk_181 0 114 (dk_at dksJ17_rotateRight_3 16 rfl rfl)
theorem dJ17_rotateRight_90 : decode cJ17_rotateRight 90 = .ok (.aload_n 1, 1) := dk_43 (dk_at dksJ17_rotateRight_3 19 rfl rfl)
theorem dJ17_rotateRight_91 : decode cJ17_rotateRight 91 = .ok (.aload_n 2, 1) := dk_44 (dk_at dksJ17_rotateRight_3 20 rfl rfl)
theorem dJ17_rotateRight_92 : decode cJ17_rotateRight 92 = .ok (.putfield 124, 3) := dk_181 0 124 (dk_at dksJ17_rotateRight_3 21 rfl rfl)
theorem dJ17_rotateRight_95 : decode cJ17_rotateRight 95 = .ok (.return_, 1) := dk_177 (dk_at dksJ17_rotateRight_4 0 rfl rfl)
theorem q68 : (Jvm.Cond.initialized "java/util/TreeMap") ∈ lw_all := lw_g (lw_at lw_m1 23 rfl) rfl
theorem q285 : (Jvm.Cond.static ({ cls := "java/util/TreeMap", name := "successor", desc := "(Ljava/util/TreeMap$Entry;)Ljava/util/TreeMap$Entry;" } : Jvm.MethodName)) ∈ lw_all := lw_g (lw_at lw_m2 0 rfl) rfl
theorem q286 : (Jvm.Cond.code ({ cls := "java/util/TreeMap", name := "successor", desc := "(Ljava/util/TreeMap$Entry;)Ljava/util/TreeMap$Entry;" } : Jvm.MethodName) prog_48_method_74_code (3 : Nat) (Option.some (Jvm.ClassFile.FieldType.object "java/util/TreeMap$Entry"))) ∈ lw_all := lw_g (lw_at lw_m2 1 rfl) rfl
theorem q339 : (Jvm.Cond.instanceMethod ({ cls := "java/util/TreeMap", name := "size", desc := "()I" } : Jvm.MethodName)) ∈ lw_all := lw_g (lw_at lw_m2 54 rfl) rfl
theorem q340 : (Jvm.Cond.selects "java/util/TreeMap" ({ cls := "java/util/TreeMap", name := "size", desc := "()I" } : Jvm.MethodName) ({ cls := "java/util/TreeMap", name := "size", desc := "()I" } : Jvm.MethodName)) ∈ lw_all := lw_g (lw_at lw_m2 55 rfl) rfl
theorem q341 : (Jvm.Cond.code ({ cls := "java/util/TreeMap", name := "size", desc := "()I" } : Jvm.MethodName) prog_48_method_5_code (1 : Nat) (Option.some Jvm.ClassFile.FieldType.int)) ∈ lw_all := lw_g (lw_at lw_m2 56 rfl) rfl
theorem q355 : (Jvm.Cond.instanceMethod ({ cls := "java/util/TreeMap", name := "values", desc := "()Ljava/util/Collection;" } : Jvm.MethodName)) ∈ lw_all := lw_g (lw_at lw_m2 70 rfl) rfl
theorem q356 : (Jvm.Cond.selects "java/util/TreeMap" ({ cls := "java/util/TreeMap", name := "values", desc := "()Ljava/util/Collection;" } : Jvm.MethodName) ({ cls := "java/util/TreeMap", name := "values", desc := "()Ljava/util/Collection;" } : Jvm.MethodName)) ∈ lw_all := lw_g (lw_at lw_m2 71 rfl) rfl
theorem q357 : (Jvm.Cond.code ({ cls := "java/util/TreeMap", name := "values", desc := "()Ljava/util/Collection;" } : Jvm.MethodName) prog_48_method_52_code (2 : Nat) (Option.some (Jvm.ClassFile.FieldType.object "java/util/Collection"))) ∈ lw_all := lw_g (lw_at lw_m2 72 rfl) rfl
theorem q358 : (Jvm.Cond.classLink "java/util/TreeMap" (237 : Nat) "java/util/TreeMap$Values") ∈ lw_all := lw_g (lw_at lw_m2 73 rfl) rfl
theorem q360 : (Jvm.Cond.methodLink "java/util/TreeMap" (239 : Nat) ({ cls := "java/util/TreeMap$Values", name := "<init>", desc := "(Ljava/util/TreeMap;)V" } : Jvm.MethodName)) ∈ lw_all := lw_g (lw_at lw_m2 75 rfl) rfl
theorem q385 : (Jvm.Cond.instanceMethod ({ cls := "java/util/TreeMap", name := "getFirstEntry", desc := "()Ljava/util/TreeMap$Entry;" } : Jvm.MethodName)) ∈ lw_all := lw_g (lw_at lw_m2 100 rfl) rfl
theorem q386 : (Jvm.Cond.selects "java/util/TreeMap" ({ cls := "java/util/TreeMap", name := "getFirstEntry", desc := "()Ljava/util/TreeMap$Entry;" } : Jvm.MethodName) ({ cls := "java/util/TreeMap", name := "getFirstEntry", desc := "()Ljava/util/TreeMap$Entry;" } : Jvm.MethodName)) ∈ lw_all := lw_g (lw_at lw_m2 101 rfl) rfl
theorem q387 : (Jvm.Cond.code ({ cls := "java/util/TreeMap", name := "getFirstEntry", desc := "()Ljava/util/TreeMap$Entry;" } : Jvm.MethodName) prog_48_method_72_code (2 : Nat) (Option.some (Jvm.ClassFile.FieldType.object "java/util/TreeMap$Entry"))) ∈ lw_all := lw_g (lw_at lw_m2 102 rfl) rfl
theorem q580 : (Jvm.Cond.selects "java/util/TreeMap" ({ cls := "java/lang/Object", name := "getClass", desc := "()Ljava/lang/Class;" } : Jvm.MethodName) ({ cls := "java/lang/Object", name := "getClass", desc := "()Ljava/lang/Class;" } : Jvm.MethodName)) ∈ lw_all := lw_g (lw_at lw_m3 55 rfl) rfl
theorem q667 : (Jvm.Cond.instantiable "java/util/TreeMap" (9 : Nat)) ∈ lw_all := lw_g (lw_at lw_m3 142 rfl) rfl
theorem q669 : (Jvm.Cond.instanceMethod ({ cls := "java/util/TreeMap", name := "<init>", desc := "()V" } : Jvm.MethodName)) ∈ lw_all := lw_g (lw_at lw_m3 144 rfl) rfl
theorem q670 : (Jvm.Cond.code ({ cls := "java/util/TreeMap", name := "<init>", desc := "()V" } : Jvm.MethodName) prog_48_method_1_code (1 : Nat) (Option.none : Option Jvm.ClassFile.FieldType)) ∈ lw_all := lw_g (lw_at lw_m3 145 rfl) rfl
theorem q671 : (Jvm.Cond.methodLink "java/util/TreeMap" (1 : Nat) ({ cls := "java/util/AbstractMap", name := "<init>", desc := "()V" } : Jvm.MethodName)) ∈ lw_all := lw_g (lw_at lw_m3 146 rfl) rfl
theorem q675 : (Jvm.Cond.fieldLink "java/util/TreeMap" (16 : Nat) "java/util/TreeMap" "comparator" "Ljava/util/Comparator;") ∈ lw_all := lw_g (lw_at lw_m3 150 rfl) rfl
theorem q676 : (Jvm.Cond.fieldLink "java/util/TreeMap" (101 : Nat) "java/util/TreeMap" "root" "Ljava/util/TreeMap$Entry;") ∈ lw_all := lw_g (lw_at lw_m3 151 rfl) rfl
theorem q677 : (Jvm.Cond.fieldLink "java/util/TreeMap" (7 : Nat) "java/util/TreeMap" "size" "I") ∈ lw_all := lw_g (lw_at lw_m3 152 rfl) rfl
theorem q678 : (Jvm.Cond.fieldLink "java/util/TreeMap" (13 : Nat) "java/util/TreeMap" "modCount" "I") ∈ lw_all := lw_g (lw_at lw_m3 153 rfl) rfl
theorem q680 : (Jvm.Cond.fieldLink "java/util/TreeMap" (233 : Nat) "java/util/TreeMap" "values" "Ljava/util/Collection;") ∈ lw_all := lw_g (lw_at lw_m3 155 rfl) rfl
theorem q681 : (Jvm.Cond.sameField "java/util/TreeMap" "java/util/AbstractMap" "values" "Ljava/util/Collection;") ∈ lw_all := lw_g (lw_at lw_m3 156 rfl) rfl
theorem q682 : (Jvm.Cond.laysFinal "java/util/TreeMap" "java/util/TreeMap" "comparator" "Ljava/util/Comparator;") ∈ lw_all := lw_g (lw_at lw_m3 157 rfl) rfl
theorem q683 : (Jvm.Cond.soleField "java/util/TreeMap" "comparator") ∈ lw_all := lw_g (lw_at lw_m3 158 rfl) rfl
theorem q684 : (Jvm.Cond.lays "java/util/TreeMap" "java/util/TreeMap" "root" "Ljava/util/TreeMap$Entry;") ∈ lw_all := lw_g (lw_at lw_m3 159 rfl) rfl
theorem q685 : (Jvm.Cond.soleField "java/util/TreeMap" "root") ∈ lw_all := lw_g (lw_at lw_m3 160 rfl) rfl
theorem q686 : (Jvm.Cond.lays "java/util/TreeMap" "java/util/TreeMap" "size" "I") ∈ lw_all := lw_g (lw_at lw_m3 161 rfl) rfl
theorem q687 : (Jvm.Cond.soleField "java/util/TreeMap" "size") ∈ lw_all := lw_g (lw_at lw_m3 162 rfl) rfl
theorem q688 : (Jvm.Cond.lays "java/util/TreeMap" "java/util/TreeMap" "modCount" "I") ∈ lw_all := lw_g (lw_at lw_m3 163 rfl) rfl
theorem q689 : (Jvm.Cond.soleField "java/util/TreeMap" "modCount") ∈ lw_all := lw_g (lw_at lw_m3 164 rfl) rfl
theorem q690 : (Jvm.Cond.lays "java/util/TreeMap" "java/util/TreeMap" "entrySet" "Ljava/util/TreeMap$EntrySet;") ∈ lw_all := lw_g (lw_at lw_m3 165 rfl) rfl
theorem q691 : (Jvm.Cond.soleField "java/util/TreeMap" "entrySet") ∈ lw_all := lw_g (lw_at lw_m3 166 rfl) rfl
theorem q692 : (Jvm.Cond.lays "java/util/TreeMap" "java/util/TreeMap" "navigableKeySet" "Ljava/util/TreeMap$KeySet;") ∈ lw_all := lw_g (lw_at lw_m3 167 rfl) rfl
theorem q693 : (Jvm.Cond.soleField "java/util/TreeMap" "navigableKeySet") ∈ lw_all := lw_g (lw_at lw_m3 168 rfl) rfl
theorem q694 : (Jvm.Cond.lays "java/util/TreeMap" "java/util/TreeMap" "descendingMap" "Ljava/util/NavigableMap;") ∈ lw_all := lw_g (lw_at lw_m3 169 rfl) rfl
theorem q695 : (Jvm.Cond.soleField "java/util/TreeMap" "descendingMap") ∈ lw_all := lw_g (lw_at lw_m3 170 rfl) rfl
theorem q696 : (Jvm.Cond.lays "java/util/TreeMap" "java/util/AbstractMap" "keySet" "Ljava/util/Set;") ∈ lw_all := lw_g (lw_at lw_m3 171 rfl) rfl
theorem q698 : (Jvm.Cond.lays "java/util/TreeMap" "java/util/AbstractMap" "values" "Ljava/util/Collection;") ∈ lw_all := lw_g (lw_at lw_m3 173 rfl) rfl
theorem q700 : (Jvm.Cond.superclass "java/util/TreeMap" "java/util/AbstractMap") ∈ lw_all := lw_g (lw_at lw_m3 175 rfl) rfl
theorem q894 : (Jvm.Cond.instanceMethod ({ cls := "java/util/TreeMap", name := "get", desc := "(Ljava/lang/Object;)Ljava/lang/Object;" } : Jvm.MethodName)) ∈ lw_all := lw_g (lw_at lw_m4 129 rfl) rfl
theorem q895 : (Jvm.Cond.selects "java/util/TreeMap" ({ cls := "java/util/TreeMap", name := "get", desc := "(Ljava/lang/Object;)Ljava/lang/Object;" } : Jvm.MethodName) ({ cls := "java/util/TreeMap", name := "get", desc := "(Ljava/lang/Object;)Ljava/lang/Object;" } : Jvm.MethodName)) ∈ lw_all := lw_g (lw_at lw_m4 130 rfl) rfl
theorem q896 : (Jvm.Cond.code ({ cls := "java/util/TreeMap", name := "get", desc := "(Ljava/lang/Object;)Ljava/lang/Object;" } : Jvm.MethodName) prog_48_method_8_code (3 : Nat) (Option.some (Jvm.ClassFile.FieldType.object "java/lang/Object"))) ∈ lw_all := lw_g (lw_at lw_m4 131 rfl) rfl
theorem q897 : (Jvm.Cond.methodLink "java/util/TreeMap" (50 : Nat) ({ cls := "java/util/TreeMap", name := "getEntry", desc := "(Ljava/lang/Object;)Ljava/util/TreeMap$Entry;" } : Jvm.MethodName)) ∈ lw_all := lw_g (lw_at lw_m4 132 rfl) rfl
theorem q898 : (Jvm.Cond.instanceMethod ({ cls := "java/util/TreeMap", name := "getEntry", desc := "(Ljava/lang/Object;)Ljava/util/TreeMap$Entry;" } : Jvm.MethodName)) ∈ lw_all := lw_g (lw_at lw_m4 133 rfl) rfl
theorem q899 : (Jvm.Cond.selects "java/util/TreeMap" ({ cls := "java/util/TreeMap", name := "getEntry", desc := "(Ljava/lang/Object;)Ljava/util/TreeMap$Entry;" } : Jvm.MethodName) ({ cls := "java/util/TreeMap", name := "getEntry", desc := "(Ljava/lang/Object;)Ljava/util/TreeMap$Entry;" } : Jvm.MethodName)) ∈ lw_all := lw_g (lw_at lw_m4 134 rfl) rfl
theorem q900 : (Jvm.Cond.code ({ cls := "java/util/TreeMap", name := "getEntry", desc := "(Ljava/lang/Object;)Ljava/util/TreeMap$Entry;" } : Jvm.MethodName) prog_48_method_15_code (5 : Nat) (Option.some (Jvm.ClassFile.FieldType.object "java/util/TreeMap$Entry"))) ∈ lw_all := lw_g (lw_at lw_m4 135 rfl) rfl
theorem q901 : (Jvm.Cond.methodLink "java/util/TreeMap" (92 : Nat) ({ cls := "java/util/TreeMap", name := "getEntryUsingComparator", desc := "(Ljava/lang/Object;)Ljava/util/TreeMap$Entry;" } : Jvm.MethodName)) ∈ lw_all := lw_g (lw_at lw_m4 136 rfl) rfl
theorem q902 : (Jvm.Cond.instanceMethod ({ cls := "java/util/TreeMap", name := "getEntryUsingComparator", desc := "(Ljava/lang/Object;)Ljava/util/TreeMap$Entry;" } : Jvm.MethodName)) ∈ lw_all := lw_g (lw_at lw_m4 137 rfl) rfl
theorem q903 : (Jvm.Cond.selects "java/util/TreeMap" ({ cls := "java/util/TreeMap", name := "getEntryUsingComparator", desc := "(Ljava/lang/Object;)Ljava/util/TreeMap$Entry;" } : Jvm.MethodName) ({ cls := "java/util/TreeMap", name := "getEntryUsingComparator", desc := "(Ljava/lang/Object;)Ljava/util/TreeMap$Entry;" } : Jvm.MethodName)) ∈ lw_all := lw_g (lw_at lw_m4 138 rfl) rfl
theorem q904 : (Jvm.Cond.code ({ cls := "java/util/TreeMap", name := "getEntryUsingComparator", desc := "(Ljava/lang/Object;)Ljava/util/TreeMap$Entry;" } : Jvm.MethodName) prog_48_method_16_code (6 : Nat) (Option.some (Jvm.ClassFile.FieldType.object "java/util/TreeMap$Entry"))) ∈ lw_all := lw_g (lw_at lw_m4 139 rfl) rfl
theorem q905 : (Jvm.Cond.interfaceEntry "java/util/TreeMap" (117 : Nat)) ∈ lw_tbl := lw_at lw_m4 140 rfl
theorem q906 : (Jvm.Cond.methodLink "java/util/TreeMap" (117 : Nat) ({ cls := "java/util/Comparator", name := "compare", desc := "(Ljava/lang/Object;Ljava/lang/Object;)I" } : Jvm.MethodName)) ∈ lw_all := lw_g (lw_at lw_m4 141 rfl) rfl
theorem q909 : (Jvm.Cond.methodLink "java/util/TreeMap" (95 : Nat) ({ cls := "java/util/Objects", name := "requireNonNull", desc := "(Ljava/lang/Object;)Ljava/lang/Object;" } : Jvm.MethodName)) ∈ lw_all := lw_g (lw_at lw_m4 144 rfl) rfl
theorem q912 : (Jvm.Cond.classLink "java/util/TreeMap" (99 : Nat) "java/lang/Comparable") ∈ lw_all := lw_g (lw_at lw_m4 147 rfl) rfl
theorem q913 : (Jvm.Cond.interfaceEntry "java/util/TreeMap" (107 : Nat)) ∈ lw_tbl := lw_at lw_m4 148 rfl
theorem q914 : (Jvm.Cond.methodLink "java/util/TreeMap" (107 : Nat) ({ cls := "java/lang/Comparable", name := "compareTo", desc := "(Ljava/lang/Object;)I" } : Jvm.MethodName)) ∈ lw_all := lw_g (lw_at lw_m4 149 rfl) rfl
theorem q951 : (Jvm.Cond.instanceMethod ({ cls := "java/util/TreeMap", name := "containsKey", desc := "(Ljava/lang/Object;)Z" } : Jvm.MethodName)) ∈ lw_all := lw_g (lw_at lw_m4 186 rfl) rfl
theorem q952 : (Jvm.Cond.selects "java/util/TreeMap" ({ cls := "java/util/TreeMap", name := "containsKey", desc := "(Ljava/lang/Object;)Z" } : Jvm.MethodName) ({ cls := "java/util/TreeMap", name := "containsKey", desc := "(Ljava/lang/Object;)Z" } : Jvm.MethodName)) ∈ lw_all := lw_g (lw_at lw_m4 187 rfl) rfl
theorem q953 : (Jvm.Cond.code ({ cls := "java/util/TreeMap", name := "containsKey", desc := "(Ljava/lang/Object;)Z" } : Jvm.MethodName) prog_48_method_6_code (2 : Nat) (Option.some Jvm.ClassFile.FieldType.boolean)) ∈ lw_all := lw_g (lw_at lw_m4 188 rfl) rfl
theorem q979 : (Jvm.Cond.instanceMethod ({ cls := "java/util/TreeMap", name := "put", desc := "(Ljava/lang/Object;Ljava/lang/Object;)Ljava/lang/Object;" } : Jvm.MethodName)) ∈ lw_all := lw_g (lw_at lw_m4 214 rfl) rfl
theorem q980 : (Jvm.Cond.selects "java/util/TreeMap" ({ cls := "java/util/TreeMap", name := "put", desc := "(Ljava/lang/Object;Ljava/lang/Object;)Ljava/lang/Object;" } : Jvm.MethodName) ({ cls := "java/util/TreeMap", name := "put", desc := "(Ljava/lang/Object;Ljava/lang/Object;)Ljava/lang/Object;" } : Jvm.MethodName)) ∈ lw_all := lw_g (lw_at lw_m4 215 rfl) rfl
theorem q981 : (Jvm.Cond.code ({ cls := "java/util/TreeMap", name := "put", desc := "(Ljava/lang/Object;Ljava/lang/Object;)Ljava/lang/Object;" } : Jvm.MethodName) prog_48_method_21_code (3 : Nat) (Option.some (Jvm.ClassFile.FieldType.object "java/lang/Object"))) ∈ lw_all := lw_g (lw_at lw_m4 216 rfl) rfl
theorem q982 : (Jvm.Cond.methodLink "java/util/TreeMap" (127 : Nat) ({ cls := "java/util/TreeMap", name := "put", desc := "(Ljava/lang/Object;Ljava/lang/Object;Z)Ljava/lang/Object;" } : Jvm.MethodName)) ∈ lw_all := lw_g (lw_at lw_m4 217 rfl) rfl
theorem q983 : (Jvm.Cond.privateMethod ({ cls := "java/util/TreeMap", name := "put", desc := "(Ljava/lang/Object;Ljava/lang/Object;Z)Ljava/lang/Object;" } : Jvm.MethodName)) ∈ lw_tbl := lw_at lw_m4 218 rfl
theorem q984 : (Jvm.Cond.instanceMethod ({ cls := "java/util/TreeMap", name := "put", desc := "(Ljava/lang/Object;Ljava/lang/Object;Z)Ljava/lang/Object;" } : Jvm.MethodName)) ∈ lw_all := lw_g (lw_at lw_m4 219 rfl) rfl
theorem q985 : (Jvm.Cond.code ({ cls := "java/util/TreeMap", name := "put", desc := "(Ljava/lang/Object;Ljava/lang/Object;Z)Ljava/lang/Object;" } : Jvm.MethodName) prog_48_method_31_code (10 : Nat) (Option.some (Jvm.ClassFile.FieldType.object "java/lang/Object"))) ∈ lw_all := lw_g (lw_at lw_m4 220 rfl) rfl
theorem q986 : (Jvm.Cond.methodLink "java/util/TreeMap" (135 : Nat) ({ cls := "java/util/TreeMap", name := "addEntryToEmptyMap", desc := "(Ljava/lang/Object;Ljava/lang/Object;)V" } : Jvm.MethodName)) ∈ lw_all := lw_g (lw_at lw_m4 221 rfl) rfl
theorem q987 : (Jvm.Cond.privateMethod ({ cls := "java/util/TreeMap", name := "addEntryToEmptyMap", desc := "(Ljava/lang/Object;Ljava/lang/Object;)V" } : Jvm.MethodName)) ∈ lw_tbl := lw_at lw_m4 222 rfl
theorem q988 : (Jvm.Cond.instanceMethod ({ cls := "java/util/TreeMap", name := "addEntryToEmptyMap", desc := "(Ljava/lang/Object;Ljava/lang/Object;)V" } : Jvm.MethodName)) ∈ lw_all := lw_g (lw_at lw_m4 223 rfl) rfl
theorem q989 : (Jvm.Cond.code ({ cls := "java/util/TreeMap", name := "addEntryToEmptyMap", desc := "(Ljava/lang/Object;Ljava/lang/Object;)V" } : Jvm.MethodName) prog_48_method_30_code (3 : Nat) (Option.none : Option Jvm.ClassFile.FieldType)) ∈ lw_all := lw_g (lw_at lw_m4 224 rfl) rfl
theorem q990 : (Jvm.Cond.methodLink "java/util/TreeMap" (123 : Nat) ({ cls := "java/util/TreeMap", name := "compare", desc := "(Ljava/lang/Object;Ljava/lang/Object;)I" } : Jvm.MethodName)) ∈ lw_all := lw_g (lw_at lw_m4 225 rfl) rfl
theorem q991 : (Jvm.Cond.instanceMethod ({ cls := "java/util/TreeMap", name := "compare", desc := "(Ljava/lang/Object;Ljava/lang/Object;)I" } : Jvm.MethodName)) ∈ lw_all := lw_g (lw_at lw_m4 226 rfl) rfl
theorem q992 : (Jvm.Cond.selects "java/util/TreeMap" ({ cls := "java/util/TreeMap", name := "compare", desc := "(Ljava/lang/Object;Ljava/lang/Object;)I" } : Jvm.MethodName) ({ cls := "java/util/TreeMap", name := "compare", desc := "(Ljava/lang/Object;Ljava/lang/Object;)I" } : Jvm.MethodName)) ∈ lw_all := lw_g (lw_at lw_m4 227 rfl) rfl
theorem q993 : (Jvm.Cond.code ({ cls := "java/util/TreeMap", name := "compare", desc := "(Ljava/lang/Object;Ljava/lang/Object;)I" } : Jvm.MethodName) prog_48_method_67_code (3 : Nat) (Option.some Jvm.ClassFile.FieldType.int)) ∈ lw_all := lw_g (lw_at lw_m4 228 rfl) rfl
theorem q994 : (Jvm.Cond.classLink "java/util/TreeMap" (59 : Nat) "java/util/TreeMap$Entry") ∈ lw_all := lw_g (lw_at lw_m4 229 rfl) rfl
theorem q996 : (Jvm.Cond.methodLink "java/util/TreeMap" (167 : Nat) ({ cls := "java/util/TreeMap$Entry", name := "<init>", desc := "(Ljava/lang/Object;Ljava/lang/Object;Ljava/util/TreeMap$Entry;)V" } : Jvm.MethodName)) ∈ lw_all := lw_g (lw_at lw_m4 231 rfl) rfl
theorem q1001 : (Jvm.Cond.fieldLink "java/util/TreeMap" (105 : Nat) "java/util/TreeMap$Entry" "key" "Ljava/lang/Object;") ∈ lw_all := lw_g (lw_at lw_m4 236 rfl) rfl
theorem q1004 : (Jvm.Cond.fieldLink "java/util/TreeMap" (58 : Nat) "java/util/TreeMap$Entry" "value" "Ljava/lang/Object;") ∈ lw_all := lw_g (lw_at lw_m4 239 rfl) rfl
theorem q1005 : (Jvm.Cond.fieldLink "java/util/TreeMap" (111 : Nat) "java/util/TreeMap$Entry" "left" "Ljava/util/TreeMap$Entry;") ∈ lw_all := lw_g (lw_at lw_m5 0 rfl) rfl
theorem q1006 : (Jvm.Cond.fieldLink "java/util/TreeMap" (114 : Nat) "java/util/TreeMap$Entry" "right" "Ljava/util/TreeMap$Entry;") ∈ lw_all := lw_g (lw_at lw_m5 1 rfl) rfl
theorem q1008 : (Jvm.Cond.fieldLink "java/util/TreeMap" (124 : Nat) "java/util/TreeMap$Entry" "parent" "Ljava/util/TreeMap$Entry;") ∈ lw_all := lw_g (lw_at lw_m5 3 rfl) rfl
theorem q1010 : (Jvm.Cond.fieldLink "java/util/TreeMap" (290 : Nat) "java/util/TreeMap$Entry" "color" "Z") ∈ lw_all := lw_g (lw_at lw_m5 5 rfl) rfl
theorem q1024 : (Jvm.Cond.methodLink "java/util/TreeMap" (139 : Nat) ({ cls := "java/util/TreeMap", name := "addEntry", desc := "(Ljava/lang/Object;Ljava/lang/Object;Ljava/util/TreeMap$Entry;Z)V" } : Jvm.MethodName)) ∈ lw_all := lw_g (lw_at lw_m5 19 rfl) rfl
theorem q1025 : (Jvm.Cond.privateMethod ({ cls := "java/util/TreeMap", name := "addEntry", desc := "(Ljava/lang/Object;Ljava/lang/Object;Ljava/util/TreeMap$Entry;Z)V" } : Jvm.MethodName)) ∈ lw_tbl := lw_at lw_m5 20 rfl
theorem q1026 : (Jvm.Cond.instanceMethod ({ cls := "java/util/TreeMap", name := "addEntry", desc := "(Ljava/lang/Object;Ljava/lang/Object;Ljava/util/TreeMap$Entry;Z)V" } : Jvm.MethodName)) ∈ lw_all := lw_g (lw_at lw_m5 21 rfl) rfl
theorem q1027 : (Jvm.Cond.code ({ cls := "java/util/TreeMap", name := "addEntry", desc := "(Ljava/lang/Object;Ljava/lang/Object;Ljava/util/TreeMap$Entry;Z)V" } : Jvm.MethodName) prog_48_method_29_code (6 : Nat) (Option.none : Option Jvm.ClassFile.FieldType)) ∈ lw_all := lw_g (lw_at lw_m5 22 rfl) rfl
theorem q1028 : (Jvm.Cond.methodLink "java/util/TreeMap" (170 : Nat) ({ cls := "java/util/TreeMap", name := "fixAfterInsertion", desc := "(Ljava/util/TreeMap$Entry;)V" } : Jvm.MethodName)) ∈ lw_all := lw_g (lw_at lw_m5 23 rfl) rfl
theorem q1029 : (Jvm.Cond.privateMethod ({ cls := "java/util/TreeMap", name := "fixAfterInsertion", desc := "(Ljava/util/TreeMap$Entry;)V" } : Jvm.MethodName)) ∈ lw_tbl := lw_at lw_m5 24 rfl
theorem q1030 : (Jvm.Cond.instanceMethod ({ cls := "java/util/TreeMap", name := "fixAfterInsertion", desc := "(Ljava/util/TreeMap$Entry;)V" } : Jvm.MethodName)) ∈ lw_all := lw_g (lw_at lw_m5 25 rfl) rfl
theorem q1031 : (Jvm.Cond.code ({ cls := "java/util/TreeMap", name := "fixAfterInsertion", desc := "(Ljava/util/TreeMap$Entry;)V" } : Jvm.MethodName) prog_48_method_83_code (3 : Nat) (Option.none : Option Jvm.ClassFile.FieldType)) ∈ lw_all := lw_g (lw_at lw_m5 26 rfl) rfl
theorem q1032 : (Jvm.Cond.methodLink "java/util/TreeMap" (294 : Nat) ({ cls := "java/util/TreeMap", name := "parentOf", desc := "(Ljava/util/TreeMap$Entry;)Ljava/util/TreeMap$Entry;" } : Jvm.MethodName)) ∈ lw_all := lw_g (lw_at lw_m5 27 rfl) rfl
theorem q1033 : (Jvm.Cond.static ({ cls := "java/util/TreeMap", name := "parentOf", desc := "(Ljava/util/TreeMap$Entry;)Ljava/util/TreeMap$Entry;" } : Jvm.MethodName)) ∈ lw_all := lw_g (lw_at lw_m5 28 rfl) rfl
theorem q1034 : (Jvm.Cond.code ({ cls := "java/util/TreeMap", name := "parentOf", desc := "(Ljava/util/TreeMap$Entry;)Ljava/util/TreeMap$Entry;" } : Jvm.MethodName) prog_48_method_77_code (1 : Nat) (Option.some (Jvm.ClassFile.FieldType.object "java/util/TreeMap$Entry"))) ∈ lw_all := lw_g (lw_at lw_m5 29 rfl) rfl
theorem q1035 : (Jvm.Cond.methodLink "java/util/TreeMap" (297 : Nat) ({ cls := "java/util/TreeMap", name := "leftOf", desc := "(Ljava/util/TreeMap$Entry;)Ljava/util/TreeMap$Entry;" } : Jvm.MethodName)) ∈ lw_all := lw_g (lw_at lw_m5 30 rfl) rfl
theorem q1036 : (Jvm.Cond.static ({ cls := "java/util/TreeMap", name := "leftOf", desc := "(Ljava/util/TreeMap$Entry;)Ljava/util/TreeMap$Entry;" } : Jvm.MethodName)) ∈ lw_all := lw_g (lw_at lw_m5 31 rfl) rfl
theorem q1037 : (Jvm.Cond.code ({ cls := "java/util/TreeMap", name := "leftOf", desc := "(Ljava/util/TreeMap$Entry;)Ljava/util/TreeMap$Entry;" } : Jvm.MethodName) prog_48_method_79_code (1 : Nat) (Option.some (Jvm.ClassFile.FieldType.object "java/util/TreeMap$Entry"))) ∈ lw_all := lw_g (lw_at lw_m5 32 rfl) rfl
theorem q1038 : (Jvm.Cond.methodLink "java/util/TreeMap" (300 : Nat) ({ cls := "java/util/TreeMap", name := "rightOf", desc := "(Ljava/util/TreeMap$Entry;)Ljava/util/TreeMap$Entry;" } : Jvm.MethodName)) ∈ lw_all := lw_g (lw_at lw_m5 33 rfl) rfl
theorem q1039 : (Jvm.Cond.static ({ cls := "java/util/TreeMap", name := "rightOf", desc := "(Ljava/util/TreeMap$Entry;)Ljava/util/TreeMap$Entry;" } : Jvm.MethodName)) ∈ lw_all := lw_g (lw_at lw_m5 34 rfl) rfl
theorem q1040 : (Jvm.Cond.code ({ cls := "java/util/TreeMap", name := "rightOf", desc := "(Ljava/util/TreeMap$Entry;)Ljava/util/TreeMap$Entry;" } : Jvm.MethodName) prog_48_method_80_code (1 : Nat) (Option.some (Jvm.ClassFile.FieldType.object "java/util/TreeMap$Entry"))) ∈ lw_all := lw_g (lw_at lw_m5 35 rfl) rfl
theorem q1041 : (Jvm.Cond.methodLink "java/util/TreeMap" (303 : Nat) ({ cls := "java/util/TreeMap", name := "colorOf", desc := "(Ljava/util/TreeMap$Entry;)Z" } : Jvm.MethodName)) ∈ lw_all := lw_g (lw_at lw_m5 36 rfl) rfl
theorem q1042 : (Jvm.Cond.static ({ cls := "java/util/TreeMap", name := "colorOf", desc := "(Ljava/util/TreeMap$Entry;)Z" } : Jvm.MethodName)) ∈ lw_all := lw_g (lw_at lw_m5 37 rfl) rfl
theorem q1043 : (Jvm.Cond.code ({ cls := "java/util/TreeMap", name := "colorOf", desc := "(Ljava/util/TreeMap$Entry;)Z" } : Jvm.MethodName) prog_48_method_76_code (1 : Nat) (Option.some Jvm.ClassFile.FieldType.boolean)) ∈ lw_all := lw_g (lw_at lw_m5 38 rfl) rfl
theorem q1044 : (Jvm.Cond.methodLink "java/util/TreeMap" (307 : Nat) ({ cls := "java/util/TreeMap", name := "setColor", desc := "(Ljava/util/TreeMap$Entry;Z)V" } : Jvm.MethodName)) ∈ lw_all := lw_g (lw_at lw_m5 39 rfl) rfl
theorem q1045 : (Jvm.Cond.static ({ cls := "java/util/TreeMap", name := "setColor", desc := "(Ljava/util/TreeMap$Entry;Z)V" } : Jvm.MethodName)) ∈ lw_all := lw_g (lw_at lw_m5 40 rfl) rfl
theorem q1046 : (Jvm.Cond.code ({ cls := "java/util/TreeMap", name := "setColor", desc := "(Ljava/util/TreeMap$Entry;Z)V" } : Jvm.MethodName) prog_48_method_78_code (2 : Nat) (Option.none : Option Jvm.ClassFile.FieldType)) ∈ lw_all := lw_g (lw_at lw_m5 41 rfl) rfl
theorem q1047 : (Jvm.Cond.methodLink "java/util/TreeMap" (311 : Nat) ({ cls := "java/util/TreeMap", name := "rotateLeft", desc := "(Ljava/util/TreeMap$Entry;)V" } : Jvm.MethodName)) ∈ lw_all := lw_g (lw_at lw_m5 42 rfl) rfl
theorem q1048 : (Jvm.Cond.privateMethod ({ cls := "java/util/TreeMap", name := "rotateLeft", desc := "(Ljava/util/TreeMap$Entry;)V" } : Jvm.MethodName)) ∈ lw_tbl := lw_at lw_m5 43 rfl
theorem q1049 : (Jvm.Cond.instanceMethod ({ cls := "java/util/TreeMap", name := "rotateLeft", desc := "(Ljava/util/TreeMap$Entry;)V" } : Jvm.MethodName)) ∈ lw_all := lw_g (lw_at lw_m5 44 rfl) rfl
theorem q1050 : (Jvm.Cond.code ({ cls := "java/util/TreeMap", name := "rotateLeft", desc := "(Ljava/util/TreeMap$Entry;)V" } : Jvm.MethodName) prog_48_method_81_code (3 : Nat) (Option.none : Option Jvm.ClassFile.FieldType)) ∈ lw_all := lw_g (lw_at lw_m5 45 rfl) rfl
theorem q1051 : (Jvm.Cond.methodLink "java/util/TreeMap" (314 : Nat) ({ cls := "java/util/TreeMap", name := "rotateRight", desc := "(Ljava/util/TreeMap$Entry;)V" } : Jvm.MethodName)) ∈ lw_all := lw_g (lw_at lw_m5 46 rfl) rfl
theorem q1052 : (Jvm.Cond.privateMethod ({ cls := "java/util/TreeMap", name := "rotateRight", desc := "(Ljava/util/TreeMap$Entry;)V" } : Jvm.MethodName)) ∈ lw_tbl := lw_at lw_m5 47 rfl
theorem q1053 : (Jvm.Cond.instanceMethod ({ cls := "java/util/TreeMap", name := "rotateRight", desc := "(Ljava/util/TreeMap$Entry;)V" } : Jvm.MethodName)) ∈ lw_all := lw_g (lw_at lw_m5 48 rfl) rfl
theorem q1054 : (Jvm.Cond.code ({ cls := "java/util/TreeMap", name := "rotateRight", desc := "(Ljava/util/TreeMap$Entry;)V" } : Jvm.MethodName) prog_48_method_82_code (3 : Nat) (Option.none : Option Jvm.ClassFile.FieldType)) ∈ lw_all := lw_g (lw_at lw_m5 49 rfl) rfl
theorem q1438 : (Jvm.Cond.castable "java/util/TreeMap" "java/lang/Object") ∈ lw_tbl := lw_at lw_m6 193 rfl
theorem in_J17 : ∀ w ∈ wsJ170, w ∈ lw_all := lw_in wsJ170 [696, 698, 682, 684, 686, 688, 690, 692, 694] (by decide +kernel) (by decide +kernel)
/-! java/util/ArrayList$Itr -/
set_option maxRecDepth 100000
def RJ18 : String := "java/util/ArrayList$Itr"
def TJ18 : u_T := fun k => match k with
  | 0 => ("java/util/ArrayList$Itr", "cursor", "I", false)
  | 1 => ("java/util/ArrayList$Itr", "lastRet", "I", false)
  | 2 => ("java/util/ArrayList$Itr", "expectedModCount", "I", false)
  | _ => ("java/util/ArrayList$Itr", "this$0", "Ljava/util/ArrayList;", true)
def tyJ18 : Nat → FieldType := fun k => match k with
  | 0 => .int
  | 1 => .int
  | 2 => .int
  | _ => .object "java/util/ArrayList"
abbrev wsJ180 : List Cond := u_ws RJ18 TJ18 4
theorem nmJ18 : ∀ a, a < 4 → ∀ b, b < 4 → a ≠ b → (TJ18 a).2.1 ≠ (TJ18 b).2.1 := by decide +kernel
theorem tyJ18_ok : ∀ k, k < 4 → parseFieldDescriptor (TJ18 k).2.2.1 = some (tyJ18 k) := by decide +kernel
abbrev cJ18_init : ByteArray := prog_33_method_1_code
def yJ18_init : MethodName := ⟨RJ18, "<init>", "(Ljava/util/ArrayList;)V"⟩
def dkwJ18_init_1 : List UInt8 := [181, 0, 22, 177]
abbrev dktJ18_init_1 : List UInt8 := dkwJ18_init_1 ++ []
def dkwJ18_init_0 : List UInt8 := [42, 43, 181, 0, 1, 42, 183, 0, 7, 42, 2, 181, 0, 13, 42, 42, 180, 0, 1, 180, 0, 17]
abbrev dktJ18_init_0 : List UInt8 := dkwJ18_init_0 ++ dktJ18_init_1
theorem dksJ18_init_0 : cJ18_init.data.toList.drop 0 = dktJ18_init_0 := by decide +kernel
theorem dksJ18_init_1 : cJ18_init.data.toList.drop 22 = dktJ18_init_1 := dk_seg dksJ18_init_0 22 rfl rfl
theorem dJ18_init_0 : decode cJ18_init 0 = .ok (.aload_n 0, 1) := dk_42 (dk_at dksJ18_init_0 0 rfl rfl)
theorem dJ18_init_1 : decode cJ18_init 1 = .ok (.aload_n 1, 1) := dk_43 (dk_at dksJ18_init_0 1 rfl rfl)
theorem dJ18_init_2 : decode cJ18_init 2 = .ok (.putfield 1, 3) := dk_181 0 1 (dk_at dksJ18_init_0 2 rfl rfl)
theorem dJ18_init_5 : decode cJ18_init 5 = .ok (.aload_n 0, 1) := dk_42 (dk_at dksJ18_init_0 5 rfl rfl)
theorem dJ18_init_6 : decode cJ18_init 6 = .ok (.invokespecial 7, 3) := dk_183 0 7 (dk_at dksJ18_init_0 6 rfl rfl)
theorem dJ18_init_9 : decode cJ18_init 9 = .ok (.aload_n 0, 1) := dk_42 (dk_at dksJ18_init_0 9 rfl rfl)
theorem dJ18_init_10 : decode cJ18_init 10 = .ok (.iconst (-1), 1) := dk_2 (dk_at dksJ18_init_0 10 rfl rfl)
theorem dJ18_init_11 : decode cJ18_init 11 = .ok (.putfield 13, 3) := dk_181 0 13 (dk_at dksJ18_init_0 11 rfl rfl)
theorem dJ18_init_14 : decode cJ18_init 14 = .ok (.aload_n 0, 1) := dk_42 (dk_at dksJ18_init_0 14 rfl rfl)
theorem dJ18_init_15 : decode cJ18_init 15 = .ok (.aload_n 0, 1) := dk_42 (dk_at dksJ18_init_0 15 rfl rfl)
theorem dJ18_init_16 : decode cJ18_init 16 = .ok (.getfield 1, 3) := dk_180 0 1 (dk_at dksJ18_init_0 16 rfl rfl)
theorem dJ18_init_19 : decode cJ18_init 19 = .ok (.getfield 17, 3) := dk_180 0 17 (dk_at dksJ18_init_0 19 rfl rfl)
theorem dJ18_init_22 : decode cJ18_init 22 = .ok (.putfield 22, 3) := dk_181 0 22 (dk_at dksJ18_init_1 0 rfl rfl)
theorem dJ18_init_25 : decode cJ18_init 25 = .ok (.return_, 1) := dk_177 (dk_at dksJ18_init_1 3 rfl rfl)
abbrev cJ18_hasNext : ByteArray := prog_33_method_2_code
def yJ18_hasNext : MethodName := ⟨RJ18, "hasNext", "()Z"⟩
def dkwJ18_hasNext_0 : List UInt8 := [42, 180, 0, 25, 42, 180, 0, 1, 180, 0, 28, 159, 0, 7, 4, 167, 0, 4, 3, 172]
abbrev dktJ18_hasNext_0 : List UInt8 := dkwJ18_hasNext_0 ++ []
theorem dksJ18_hasNext_0 : cJ18_hasNext.data.toList.drop 0 = dktJ18_hasNext_0 := by decide +kernel
theorem dJ18_hasNext_0 : decode cJ18_hasNext 0 = .ok (.aload_n 0, 1) := dk_42 (dk_at dksJ18_hasNext_0 0 rfl rfl)
theorem dJ18_hasNext_1 : decode cJ18_hasNext 1 = .ok (.getfield 25, 3) := dk_180 0 25 (dk_at dksJ18_hasNext_0 1 rfl rfl)
theorem dJ18_hasNext_4 : decode cJ18_hasNext 4 = .ok (.aload_n 0, 1) := dk_42 (dk_at dksJ18_hasNext_0 4 rfl rfl)
theorem dJ18_hasNext_5 : decode cJ18_hasNext 5 = .ok (.getfield 1, 3) := dk_180 0 1 (dk_at dksJ18_hasNext_0 5 rfl rfl)
theorem dJ18_hasNext_8 : decode cJ18_hasNext 8 = .ok (.getfield 28, 3) := dk_180 0 28 (dk_at dksJ18_hasNext_0 8 rfl rfl)
theorem dJ18_hasNext_11 : decode cJ18_hasNext 11 = .ok (.if_icmp .eq 7, 3) := dk_159 0 7 (dk_at dksJ18_hasNext_0 11 rfl rfl)
theorem dJ18_hasNext_14 : decode cJ18_hasNext 14 = .ok (.iconst 1, 1) := dk_4 (dk_at dksJ18_hasNext_0 14 rfl rfl)
theorem dJ18_hasNext_15 : decode cJ18_hasNext 15 = .ok (.goto 4, 3) := dk_167 0 4 (dk_at dksJ18_hasNext_0 15 rfl rfl)
theorem dJ18_hasNext_18 : decode cJ18_hasNext 18 = .ok (.iconst 0, 1) := dk_3 (dk_at dksJ18_hasNext_0 18 rfl rfl)
theorem dJ18_hasNext_19 : decode cJ18_hasNext 19 = .ok (.ireturn, 1) := dk_172 (dk_at dksJ18_hasNext_0 19 rfl rfl)
abbrev cJ18_next : ByteArray := prog_33_method_3_code
def yJ18_next : MethodName := ⟨RJ18, "next", "()Ljava/lang/Object;"⟩
def dkwJ18_next_2 : List UInt8 := [183, 0, 43, 191, 42, 27, 4, 96, 181, 0, 25, 44, 42, 27, 90, 181, 0, 13, 50, 176]
abbrev dktJ18_next_2 : List UInt8 := dkwJ18_next_2 ++ []
def dkwJ18_next_1 : List UInt8 := [183, 0, 36, 191, 42, 180, 0, 1, 180, 0, 37, 77, 27, 44, 190, 161, 0, 11, 187, 0, 41, 89]
abbrev dktJ18_next_1 : List UInt8 := dkwJ18_next_1 ++ dktJ18_next_2
def dkwJ18_next_0 : List UInt8 := [42, 182, 0, 31, 42, 180, 0, 25, 60, 27, 42, 180, 0, 1, 180, 0, 28, 161, 0, 11, 187, 0, 34, 89]
abbrev dktJ18_next_0 : List UInt8 := dkwJ18_next_0 ++ dktJ18_next_1
theorem dksJ18_next_0 : cJ18_next.data.toList.drop 0 = dktJ18_next_0 := by decide +kernel
theorem dksJ18_next_1 : cJ18_next.data.toList.drop 24 = dktJ18_next_1 := dk_seg dksJ18_next_0 24 rfl rfl
theorem dksJ18_next_2 : cJ18_next.data.toList.drop 46 = dktJ18_next_2 := dk_seg dksJ18_next_1 22 rfl rfl
theorem dJ18_next_0 : decode cJ18_next 0 = .ok (.aload_n 0, 1) := dk_42 (dk_at dksJ18_next_0 0 rfl rfl)
theorem dJ18_next_1 : decode cJ18_next 1 = .ok (.invokevirtual 31, 3) := dk_182 0 31 (dk_at dksJ18_next_0 1 rfl rfl)
theorem dJ18_next_4 : decode cJ18_next 4 = .ok (.aload_n 0, 1) := dk_42 (dk_at dksJ18_next_0 4 rfl rfl)
theorem dJ18_next_5 : decode cJ18_next 5 = .ok (.getfield 25, 3) := dk_180 0 25 (dk_at dksJ18_next_0 5 rfl rfl)
theorem dJ18_next_8 : decode cJ18_next 8 = .ok (.istore_n 1, 1) := dk_60 (dk_at dksJ18_next_0 8 rfl rfl)
theorem dJ18_next_9 : decode cJ18_next 9 = .ok (.iload_n 1, 1) := dk_27 (dk_at dksJ18_next_0 9 rfl rfl)
theorem dJ18_next_10 : decode cJ18_next 10 = .ok (.aload_n 0, 1) := dk_42 (dk_at dksJ18_next_0 10 rfl rfl)
theorem dJ18_next_11 : decode cJ18_next 11 = .ok (.getfield 1, 3) := dk_180 0 1 (dk_at dksJ18_next_0 11 rfl rfl)
theorem dJ18_next_14 : decode cJ18_next 14 = .ok (.getfield 28, 3) := dk_180 0 28 (dk_at dksJ18_next_0 14 rfl rfl)
theorem dJ18_next_17 : decode cJ18_next 17 = .ok (.if_icmp .lt 11, 3) := dk_161 0 11 (dk_at dksJ18_next_0 17 rfl rfl)
theorem dJ18_next_20 : decode cJ18_next 20 = .ok (.new 34, 3) := dk_187 0 34 (dk_at dksJ18_next_0 20 rfl rfl)
theorem dJ18_next_23 : decode cJ18_next 23 = .ok (.dup, 1) := dk_89 (dk_at dksJ18_next_0 23 rfl rfl)
theorem dJ18_next_24 : decode cJ18_next 24 = .ok (.invokespecial 36, 3) := dk_183 0 36 (dk_at dksJ18_next_1 0 rfl rfl)
theorem dJ18_next_27 : decode cJ18_next 27 = .ok (.athrow, 1) := dk_191 (dk_at dksJ18_next_1 3 rfl rfl)
theorem dJ18_next_28 : decode cJ18_next 28 = .ok (.aload_n 0, 1) := dk_42 (dk_at dksJ18_next_1 4 rfl rfl)
theorem dJ18_next_29 : decode cJ18_next 29 = .ok (.getfield 1, 3) := dk_180 0 1 (dk_at dksJ18_next_1 5 rfl rfl)
theorem dJ18_next_32 : decode cJ18_next 32 = .ok (.getfield 37, 3) := dk_180 0 37 (dk_at dksJ18_next_1 8 rfl rfl)
theorem dJ18_next_35 : decode cJ18_next 35 = .ok (.astore_n 2, 1) := dk_77 (dk_at dksJ18_next_1 11 rfl rfl)
theorem dJ18_next_36 : decode cJ18_next 36 = .ok (.iload_n 1, 1) := dk_27 (dk_at dksJ18_next_1 12 rfl rfl)
theorem dJ18_next_37 : decode cJ18_next 37 = .ok (.aload_n 2, 1) := dk_44 (dk_at dksJ18_next_1 13 rfl rfl)
theorem dJ18_next_38 : decode cJ18_next 38 = .ok (.arraylength, 1) := dk_190 (dk_at dksJ18_next_1 14 rfl rfl)
theorem dJ18_next_39 : decode cJ18_next 39 = .ok (.if_icmp .lt 11, 3) := dk_161 0 11 (dk_at dksJ18_next_1 15 rfl rfl)
theorem dJ18_next_42 : decode cJ18_next 42 = .ok (.new 41, 3) := dk_187 0 41 (dk_at dksJ18_next_1 18 rfl rfl)
theorem dJ18_next_45 : decode cJ18_next 45 = .ok (.dup, 1) := dk_89 (dk_at dksJ18_next_1 21 rfl rfl)
theorem dJ18_next_46 : decode cJ18_next 46 = .ok (.invokespecial 43, 3) := dk_183 0 43 (dk_at dksJ18_next_2 0 rfl rfl)
theorem dJ18_next_49 : decode cJ18_next 49 = .ok (.athrow, 1) := dk_191 (dk_at dksJ18_next_2 3 rfl rfl)
theorem dJ18_next_50 : decode cJ18_next 50 = .ok (.aload_n 0, 1) := dk_42 (dk_at dksJ18_next_2 4 rfl rfl)
theorem dJ18_next_51 : decode cJ18_next 51 = .ok (.iload_n 1, 1) := dk_27 (dk_at dksJ18_next_2 5 rfl rfl)
theorem dJ18_next_52 : decode cJ18_next 52 = .ok (.iconst 1, 1) := dk_4 (dk_at dksJ18_next_2 6 rfl rfl)
theorem dJ18_next_53 : decode cJ18_next 53 = .ok (.iadd, 1) := dk_96 (dk_at dksJ18_next_2 7 rfl rfl)
theorem dJ18_next_54 : decode cJ18_next 54 = .ok (.putfield 25, 3) := dk_181 0 25 (dk_at dksJ18_next_2 8 rfl rfl)
theorem dJ18_next_57 : decode cJ18_next 57 = .ok (.aload_n 2, 1) := dk_44 (dk_at dksJ18_next_2 11 rfl rfl)
theorem dJ18_next_58 : decode cJ18_next 58 = .ok (.aload_n 0, 1) := dk_42 (dk_at dksJ18_next_2 12 rfl rfl)
theorem dJ18_next_59 : decode cJ18_next 59 = .ok (.iload_n 1, 1) := dk_27 (dk_at dksJ18_next_2 13 rfl rfl)
theorem dJ18_next_60 : decode cJ18_next 60 = .ok (.dup_x1, 1) := dk_90 (dk_at dksJ18_next_2 14 rfl rfl)
theorem dJ18_next_61 : decode cJ18_next 61 = .ok (.putfield 13, 3) := dk_181 0 13 (dk_at dksJ18_next_2 15 rfl rfl)
theorem dJ18_next_64 : decode cJ18_next 64 = .ok (.aaload, 1) := dk_50 (dk_at dksJ18_next_2 18 rfl rfl)
theorem dJ18_next_65 : decode cJ18_next 65 = .ok (.areturn, 1) := dk_176 (dk_at dksJ18_next_2 19 rfl rfl)
abbrev cJ18_checkForComodification : ByteArray := prog_33_method_6_code
def yJ18_checkForComodification : MethodName := ⟨RJ18, "checkForComodification", "()V"⟩
def dkwJ18_checkForComodification_0 : List UInt8 := [42, 180, 0, 1, 180, 0, 17, 42, 180, 0, 22, 159, 0, 11, 187, 0, 41, 89, 183, 0, 43, 191, 177]
abbrev dktJ18_checkForComodification_0 : List UInt8 := dkwJ18_checkForComodification_0 ++ []
theorem dksJ18_checkForComodification_0 : cJ18_checkForComodification.data.toList.drop 0 = dktJ18_checkForComodification_0 := by decide +kernel
theorem dJ18_checkForComodification_0 : decode cJ18_checkForComodification 0 = .ok (.aload_n 0, 1) := dk_42 (dk_at dksJ18_checkForComodification_0 0 rfl rfl)
theorem dJ18_checkForComodification_1 : decode cJ18_checkForComodification 1 = .ok (.getfield 1, 3) := dk_180 0 1 (dk_at dksJ18_checkForComodification_0 1 rfl rfl)
theorem dJ18_checkForComodification_4 : decode cJ18_checkForComodification 4 = .ok (.getfield 17, 3) := dk_180 0 17 (dk_at dksJ18_checkForComodification_0 4 rfl rfl)
theorem dJ18_checkForComodification_7 : decode cJ18_checkForComodification 7 = .ok (.aload_n 0, 1) := dk_42 (dk_at dksJ18_checkForComodification_0 7 rfl rfl)
theorem dJ18_checkForComodification_8 : decode cJ18_checkForComodification 8 = .ok (.getfield 22, 3) := dk_180 0 22 (dk_at dksJ18_checkForComodification_0 8 rfl rfl)
theorem dJ18_checkForComodification_11 : decode cJ18_checkForComodification 11 = .ok (.if_icmp .eq 11, 3) := dk_159 0 11 (dk_at dksJ18_checkForComodification_0 11 rfl rfl)
theorem dJ18_checkForComodification_14 : decode cJ18_checkForComodification 14 = .ok (.new 41, 3) := dk_187 0 41 (dk_at dksJ18_checkForComodification_0 14 rfl rfl)
theorem dJ18_checkForComodification_17 : decode cJ18_checkForComodification 17 = .ok (.dup, 1) := dk_89 (dk_at dksJ18_checkForComodification_0 17 rfl rfl)
theorem dJ18_checkForComodification_18 : decode cJ18_checkForComodification 18 = .ok (.invokespecial 43, 3) := dk_183 0 43 (dk_at dksJ18_checkForComodification_0 18 rfl rfl)
theorem dJ18_checkForComodification_21 : decode cJ18_checkForComodification 21 = .ok (.athrow, 1) := dk_191 (dk_at dksJ18_checkForComodification_0 21 rfl rfl)
theorem dJ18_checkForComodification_22 : decode cJ18_checkForComodification 22 = .ok (.return_, 1) := dk_177 (dk_at dksJ18_checkForComodification_0 22 rfl rfl)
theorem q69 : (Jvm.Cond.initialized "java/util/ArrayList$Itr") ∈ lw_all := lw_g (lw_at lw_m1 24 rfl) rfl
theorem q103 : (Jvm.Cond.fieldLink "java/util/ArrayList$Itr" (37 : Nat) "java/util/ArrayList" "elementData" "[Ljava/lang/Object;") ∈ lw_all := lw_g (lw_at lw_m1 58 rfl) rfl
theorem q104 : (Jvm.Cond.fieldLinkNest "java/util/ArrayList$Itr" (28 : Nat) "java/util/ArrayList" "size" "I" "java/util/ArrayList") ∈ lw_tbl := lw_at lw_m1 59 rfl
theorem q107 : (Jvm.Cond.fieldLink "java/util/ArrayList$Itr" (17 : Nat) "java/util/ArrayList" "modCount" "I") ∈ lw_all := lw_g (lw_at lw_m1 62 rfl) rfl
theorem q158 : (Jvm.Cond.instantiable "java/util/ArrayList$Itr" (4 : Nat)) ∈ lw_all := lw_g (lw_at lw_m1 113 rfl) rfl
theorem q160 : (Jvm.Cond.instanceMethod ({ cls := "java/util/ArrayList$Itr", name := "<init>", desc := "(Ljava/util/ArrayList;)V" } : Jvm.MethodName)) ∈ lw_all := lw_g (lw_at lw_m1 115 rfl) rfl
theorem q161 : (Jvm.Cond.code ({ cls := "java/util/ArrayList$Itr", name := "<init>", desc := "(Ljava/util/ArrayList;)V" } : Jvm.MethodName) prog_33_method_1_code (2 : Nat) (Option.none : Option Jvm.ClassFile.FieldType)) ∈ lw_all := lw_g (lw_at lw_m1 116 rfl) rfl
theorem q162 : (Jvm.Cond.methodLink "java/util/ArrayList$Itr" (7 : Nat) ({ cls := "java/lang/Object", name := "<init>", desc := "()V" } : Jvm.MethodName)) ∈ lw_all := lw_g (lw_at lw_m1 117 rfl) rfl
theorem q163 : (Jvm.Cond.fieldLink "java/util/ArrayList$Itr" (25 : Nat) "java/util/ArrayList$Itr" "cursor" "I") ∈ lw_all := lw_g (lw_at lw_m1 118 rfl) rfl
theorem q164 : (Jvm.Cond.fieldLink "java/util/ArrayList$Itr" (13 : Nat) "java/util/ArrayList$Itr" "lastRet" "I") ∈ lw_all := lw_g (lw_at lw_m1 119 rfl) rfl
theorem q165 : (Jvm.Cond.fieldLink "java/util/ArrayList$Itr" (22 : Nat) "java/util/ArrayList$Itr" "expectedModCount" "I") ∈ lw_all := lw_g (lw_at lw_m1 120 rfl) rfl
theorem q166 : (Jvm.Cond.fieldLink "java/util/ArrayList$Itr" (1 : Nat) "java/util/ArrayList$Itr" "this$0" "Ljava/util/ArrayList;") ∈ lw_all := lw_g (lw_at lw_m1 121 rfl) rfl
theorem q167 : (Jvm.Cond.lays "java/util/ArrayList$Itr" "java/util/ArrayList$Itr" "cursor" "I") ∈ lw_all := lw_g (lw_at lw_m1 122 rfl) rfl
theorem q168 : (Jvm.Cond.soleField "java/util/ArrayList$Itr" "cursor") ∈ lw_all := lw_g (lw_at lw_m1 123 rfl) rfl
theorem q169 : (Jvm.Cond.lays "java/util/ArrayList$Itr" "java/util/ArrayList$Itr" "lastRet" "I") ∈ lw_all := lw_g (lw_at lw_m1 124 rfl) rfl
theorem q170 : (Jvm.Cond.soleField "java/util/ArrayList$Itr" "lastRet") ∈ lw_all := lw_g (lw_at lw_m1 125 rfl) rfl
theorem q171 : (Jvm.Cond.lays "java/util/ArrayList$Itr" "java/util/ArrayList$Itr" "expectedModCount" "I") ∈ lw_all := lw_g (lw_at lw_m1 126 rfl) rfl
theorem q172 : (Jvm.Cond.soleField "java/util/ArrayList$Itr" "expectedModCount") ∈ lw_all := lw_g (lw_at lw_m1 127 rfl) rfl
theorem q173 : (Jvm.Cond.laysFinal "java/util/ArrayList$Itr" "java/util/ArrayList$Itr" "this$0" "Ljava/util/ArrayList;") ∈ lw_all := lw_g (lw_at lw_m1 128 rfl) rfl
theorem q174 : (Jvm.Cond.soleField "java/util/ArrayList$Itr" "this$0") ∈ lw_all := lw_g (lw_at lw_m1 129 rfl) rfl
theorem q175 : (Jvm.Cond.superclass "java/util/ArrayList$Itr" "java/lang/Object") ∈ lw_all := lw_g (lw_at lw_m1 130 rfl) rfl
theorem q180 : (Jvm.Cond.castable "java/util/ArrayList$Itr" "java/util/Iterator") ∈ lw_tbl := lw_at lw_m1 135 rfl
theorem q181 : (Jvm.Cond.selects "java/util/ArrayList$Itr" ({ cls := "java/util/Iterator", name := "hasNext", desc := "()Z" } : Jvm.MethodName) ({ cls := "java/util/ArrayList$Itr", name := "hasNext", desc := "()Z" } : Jvm.MethodName)) ∈ lw_all := lw_g (lw_at lw_m1 136 rfl) rfl
theorem q182 : (Jvm.Cond.unhidden "java/util/ArrayList$Itr" "hasNext" "()Z") ∈ lw_tbl := lw_at lw_m1 137 rfl
theorem q183 : (Jvm.Cond.instanceMethod ({ cls := "java/util/ArrayList$Itr", name := "hasNext", desc := "()Z" } : Jvm.MethodName)) ∈ lw_all := lw_g (lw_at lw_m1 138 rfl) rfl
theorem q184 : (Jvm.Cond.publicMethod ({ cls := "java/util/ArrayList$Itr", name := "hasNext", desc := "()Z" } : Jvm.MethodName)) ∈ lw_tbl := lw_at lw_m1 139 rfl
theorem q185 : (Jvm.Cond.code ({ cls := "java/util/ArrayList$Itr", name := "hasNext", desc := "()Z" } : Jvm.MethodName) prog_33_method_2_code (1 : Nat) (Option.some Jvm.ClassFile.FieldType.boolean)) ∈ lw_all := lw_g (lw_at lw_m1 140 rfl) rfl
theorem q196 : (Jvm.Cond.selects "java/util/ArrayList$Itr" ({ cls := "java/util/Iterator", name := "next", desc := "()Ljava/lang/Object;" } : Jvm.MethodName) ({ cls := "java/util/ArrayList$Itr", name := "next", desc := "()Ljava/lang/Object;" } : Jvm.MethodName)) ∈ lw_all := lw_g (lw_at lw_m1 151 rfl) rfl
theorem q197 : (Jvm.Cond.unhidden "java/util/ArrayList$Itr" "next" "()Ljava/lang/Object;") ∈ lw_tbl := lw_at lw_m1 152 rfl
theorem q198 : (Jvm.Cond.instanceMethod ({ cls := "java/util/ArrayList$Itr", name := "next", desc := "()Ljava/lang/Object;" } : Jvm.MethodName)) ∈ lw_all := lw_g (lw_at lw_m1 153 rfl) rfl
theorem q199 : (Jvm.Cond.publicMethod ({ cls := "java/util/ArrayList$Itr", name := "next", desc := "()Ljava/lang/Object;" } : Jvm.MethodName)) ∈ lw_tbl := lw_at lw_m1 154 rfl
theorem q200 : (Jvm.Cond.code ({ cls := "java/util/ArrayList$Itr", name := "next", desc := "()Ljava/lang/Object;" } : Jvm.MethodName) prog_33_method_3_code (3 : Nat) (Option.some (Jvm.ClassFile.FieldType.object "java/lang/Object"))) ∈ lw_all := lw_g (lw_at lw_m1 155 rfl) rfl
theorem q201 : (Jvm.Cond.methodLink "java/util/ArrayList$Itr" (31 : Nat) ({ cls := "java/util/ArrayList$Itr", name := "checkForComodification", desc := "()V" } : Jvm.MethodName)) ∈ lw_all := lw_g (lw_at lw_m1 156 rfl) rfl
theorem q202 : (Jvm.Cond.instanceMethod ({ cls := "java/util/ArrayList$Itr", name := "checkForComodification", desc := "()V" } : Jvm.MethodName)) ∈ lw_all := lw_g (lw_at lw_m1 157 rfl) rfl
theorem q203 : (Jvm.Cond.selects "java/util/ArrayList$Itr" ({ cls := "java/util/ArrayList$Itr", name := "checkForComodification", desc := "()V" } : Jvm.MethodName) ({ cls := "java/util/ArrayList$Itr", name := "checkForComodification", desc := "()V" } : Jvm.MethodName)) ∈ lw_all := lw_g (lw_at lw_m1 158 rfl) rfl
theorem q204 : (Jvm.Cond.code ({ cls := "java/util/ArrayList$Itr", name := "checkForComodification", desc := "()V" } : Jvm.MethodName) prog_33_method_6_code (1 : Nat) (Option.none : Option Jvm.ClassFile.FieldType)) ∈ lw_all := lw_g (lw_at lw_m1 159 rfl) rfl
theorem q205 : (Jvm.Cond.classLink "java/util/ArrayList$Itr" (34 : Nat) "java/util/NoSuchElementException") ∈ lw_all := lw_g (lw_at lw_m1 160 rfl) rfl
theorem q248 : (Jvm.Cond.methodLink "java/util/ArrayList$Itr" (36 : Nat) ({ cls := "java/util/NoSuchElementException", name := "<init>", desc := "()V" } : Jvm.MethodName)) ∈ lw_all := lw_g (lw_at lw_m1 203 rfl) rfl
theorem q578 : (Jvm.Cond.selects "java/util/ArrayList$Itr" ({ cls := "java/lang/Object", name := "getClass", desc := "()Ljava/lang/Class;" } : Jvm.MethodName) ({ cls := "java/lang/Object", name := "getClass", desc := "()Ljava/lang/Class;" } : Jvm.MethodName)) ∈ lw_all := lw_g (lw_at lw_m3 53 rfl) rfl
theorem q1439 : (Jvm.Cond.castable "java/util/ArrayList$Itr" "java/lang/Object") ∈ lw_tbl := lw_at lw_m6 194 rfl
theorem in_J18 : ∀ w ∈ wsJ180, w ∈ lw_all := lw_in wsJ180 [167, 169, 171, 173] (by decide +kernel) (by decide +kernel)
/-! java/util/NoSuchElementException -/
set_option maxRecDepth 100000
def RJ19 : String := "java/util/NoSuchElementException"
def TJ19 : u_T := fun k => match k with
  | 0 => ("java/lang/Throwable", "cause", "Ljava/lang/Throwable;", false)
  | 1 => ("java/lang/Throwable", "stackTrace", "[Ljava/lang/StackTraceElement;", false)
  | 2 => ("java/lang/Throwable", "suppressedExceptions", "Ljava/util/List;", false)
  | 3 => ("java/lang/Throwable", "detailMessage", "Ljava/lang/String;", false)
  | 4 => ("java/lang/Throwable", "backtrace", "Ljava/lang/Object;", false)
  | _ => ("java/lang/Throwable", "depth", "I", false)
def tyJ19 : Nat → FieldType := fun k => match k with
  | 0 => .object "java/lang/Throwable"
  | 1 => .array (.object "java/lang/StackTraceElement")
  | 2 => .object "java/util/List"
  | 3 => .object "java/lang/String"
  | 4 => .object "java/lang/Object"
  | _ => .int
abbrev wsJ190 : List Cond := u_ws RJ19 TJ19 6
theorem nmJ19 : ∀ a, a < 6 → ∀ b, b < 6 → a ≠ b → (TJ19 a).2.1 ≠ (TJ19 b).2.1 := by decide +kernel
theorem tyJ19_ok : ∀ k, k < 6 → parseFieldDescriptor (TJ19 k).2.2.1 = some (tyJ19 k) := by decide +kernel
abbrev cJ19_init : ByteArray := prog_42_method_1_code
def yJ19_init : MethodName := ⟨RJ19, "<init>", "()V"⟩
theorem dJ19_init_0 : decode cJ19_init 0 = .ok (.aload_n 0, 1) := by decide +kernel
theorem dJ19_init_1 : decode cJ19_init 1 = .ok (.invokespecial 1, 3) := by decide +kernel
theorem dJ19_init_4 : decode cJ19_init 4 = .ok (.return_, 1) := by decide +kernel
theorem q70 : (Jvm.Cond.initialized "java/util/NoSuchElementException") ∈ lw_all := lw_g (lw_at lw_m1 25 rfl) rfl
theorem q206 : (Jvm.Cond.instantiable "java/util/NoSuchElementException" (6 : Nat)) ∈ lw_all := lw_g (lw_at lw_m1 161 rfl) rfl
theorem q207 : (Jvm.Cond.castable "java/util/NoSuchElementException" "java/util/NoSuchElementException") ∈ lw_tbl := lw_at lw_m1 162 rfl
theorem q214 : (Jvm.Cond.selects "java/util/NoSuchElementException" ({ cls := "java/lang/Throwable", name := "fillInStackTrace", desc := "(I)Ljava/lang/Throwable;" } : Jvm.MethodName) ({ cls := "java/lang/Throwable", name := "fillInStackTrace", desc := "(I)Ljava/lang/Throwable;" } : Jvm.MethodName)) ∈ lw_all := lw_g (lw_at lw_m1 169 rfl) rfl
theorem q215 : (Jvm.Cond.selects "java/util/NoSuchElementException" ({ cls := "java/lang/Throwable", name := "fillInStackTrace", desc := "()Ljava/lang/Throwable;" } : Jvm.MethodName) ({ cls := "java/lang/Throwable", name := "fillInStackTrace", desc := "()Ljava/lang/Throwable;" } : Jvm.MethodName)) ∈ lw_all := lw_g (lw_at lw_m1 170 rfl) rfl
theorem q216 : (Jvm.Cond.lays "java/util/NoSuchElementException" "java/lang/Throwable" "cause" "Ljava/lang/Throwable;") ∈ lw_all := lw_g (lw_at lw_m1 171 rfl) rfl
theorem q218 : (Jvm.Cond.lays "java/util/NoSuchElementException" "java/lang/Throwable" "stackTrace" "[Ljava/lang/StackTraceElement;") ∈ lw_all := lw_g (lw_at lw_m1 173 rfl) rfl
theorem q220 : (Jvm.Cond.lays "java/util/NoSuchElementException" "java/lang/Throwable" "suppressedExceptions" "Ljava/util/List;") ∈ lw_all := lw_g (lw_at lw_m1 175 rfl) rfl
theorem q222 : (Jvm.Cond.lays "java/util/NoSuchElementException" "java/lang/Throwable" "detailMessage" "Ljava/lang/String;") ∈ lw_all := lw_g (lw_at lw_m1 177 rfl) rfl
theorem q224 : (Jvm.Cond.lays "java/util/NoSuchElementException" "java/lang/Throwable" "backtrace" "Ljava/lang/Object;") ∈ lw_all := lw_g (lw_at lw_m1 179 rfl) rfl
theorem q249 : (Jvm.Cond.instanceMethod ({ cls := "java/util/NoSuchElementException", name := "<init>", desc := "()V" } : Jvm.MethodName)) ∈ lw_all := lw_g (lw_at lw_m1 204 rfl) rfl
theorem q250 : (Jvm.Cond.code ({ cls := "java/util/NoSuchElementException", name := "<init>", desc := "()V" } : Jvm.MethodName) prog_42_method_1_code (1 : Nat) (Option.none : Option Jvm.ClassFile.FieldType)) ∈ lw_all := lw_g (lw_at lw_m1 205 rfl) rfl
theorem q251 : (Jvm.Cond.methodLink "java/util/NoSuchElementException" (1 : Nat) ({ cls := "java/lang/RuntimeException", name := "<init>", desc := "()V" } : Jvm.MethodName)) ∈ lw_all := lw_g (lw_at lw_m1 206 rfl) rfl
theorem q267 : (Jvm.Cond.lays "java/util/NoSuchElementException" "java/lang/Throwable" "depth" "I") ∈ lw_all := lw_g (lw_at lw_m1 222 rfl) rfl
theorem q270 : (Jvm.Cond.superclass "java/util/NoSuchElementException" "java/lang/RuntimeException") ∈ lw_all := lw_g (lw_at lw_m1 225 rfl) rfl
theorem q579 : (Jvm.Cond.selects "java/util/NoSuchElementException" ({ cls := "java/lang/Object", name := "getClass", desc := "()Ljava/lang/Class;" } : Jvm.MethodName) ({ cls := "java/lang/Object", name := "getClass", desc := "()Ljava/lang/Class;" } : Jvm.MethodName)) ∈ lw_all := lw_g (lw_at lw_m3 54 rfl) rfl
theorem q1440 : (Jvm.Cond.castable "java/util/NoSuchElementException" "java/lang/Object") ∈ lw_tbl := lw_at lw_m6 195 rfl
theorem in_J19 : ∀ w ∈ wsJ190, w ∈ lw_all := lw_in wsJ190 [216, 218, 220, 222, 224, 267] (by decide +kernel) (by decide +kernel)
/-! java/util/ArrayList -/
set_option maxRecDepth 100000
def RJ2 : String := "java/util/ArrayList"
def TJ2 : u_T := fun k => match k with
  | 0 => ("java/util/AbstractList", "modCount", "I", false)
  | 1 => ("java/util/ArrayList", "elementData", "[Ljava/lang/Object;", false)
  | _ => ("java/util/ArrayList", "size", "I", false)
def tyJ2 : Nat → FieldType := fun k => match k with
  | 0 => .int
  | 1 => .array (.object "java/lang/Object")
  | _ => .int
abbrev wsJ20 : List Cond := u_ws RJ2 TJ2 3
theorem nmJ2 : ∀ a, a < 3 → ∀ b, b < 3 → a ≠ b → (TJ2 a).2.1 ≠ (TJ2 b).2.1 := by decide +kernel
theorem tyJ2_ok : ∀ k, k < 3 → parseFieldDescriptor (TJ2 k).2.2.1 = some (tyJ2 k) := by decide +kernel
abbrev cJ2_init : ByteArray := prog_32_method_2_code
def yJ2_init : MethodName := ⟨RJ2, "<init>", "()V"⟩
def dkwJ2_init_0 : List UInt8 := [42, 183, 0, 1, 42, 178, 0, 39, 181, 0, 9, 177]
abbrev dktJ2_init_0 : List UInt8 := dkwJ2_init_0 ++ []
theorem dksJ2_init_0 : cJ2_init.data.toList.drop 0 = dktJ2_init_0 := by decide +kernel
theorem dJ2_init_0 : decode cJ2_init 0 = .ok (.aload_n 0, 1) := dk_42 (dk_at dksJ2_init_0 0 rfl rfl)
theorem dJ2_init_1 : decode cJ2_init 1 = .ok (.invokespecial 1, 3) := dk_183 0 1 (dk_at dksJ2_init_0 1 rfl rfl)
theorem dJ2_init_4 : decode cJ2_init 4 = .ok (.aload_n 0, 1) := dk_42 (dk_at dksJ2_init_0 4 rfl rfl)
theorem dJ2_init_5 : decode cJ2_init 5 = .ok (.getstatic 39, 3) := dk_178 0 39 (dk_at dksJ2_init_0 5 rfl rfl)
theorem dJ2_init_8 : decode cJ2_init 8 = .ok (.putfield 9, 3) := dk_181 0 9 (dk_at dksJ2_init_0 8 rfl rfl)
theorem dJ2_init_11 : decode cJ2_init 11 = .ok (.return_, 1) := dk_177 (dk_at dksJ2_init_0 11 rfl rfl)
abbrev cJ2_size : ByteArray := prog_32_method_8_code
def yJ2_size : MethodName := ⟨RJ2, "size", "()I"⟩
theorem dJ2_size_0 : decode cJ2_size 0 = .ok (.aload_n 0, 1) := by decide +kernel
theorem dJ2_size_1 : decode cJ2_size 1 = .ok (.getfield 48, 3) := by decide +kernel
theorem dJ2_size_4 : decode cJ2_size 4 = .ok (.ireturn, 1) := by decide +kernel
abbrev cJ2_iterator : ByteArray := prog_32_method_55_code
def yJ2_iterator : MethodName := ⟨RJ2, "iterator", "()Ljava/util/Iterator;"⟩
def dkwJ2_iterator_0 : List UInt8 := [187, 1, 11, 89, 42, 183, 1, 13, 176]
abbrev dktJ2_iterator_0 : List UInt8 := dkwJ2_iterator_0 ++ []
theorem dksJ2_iterator_0 : cJ2_iterator.data.toList.drop 0 = dktJ2_iterator_0 := by decide +kernel
theorem dJ2_iterator_0 : decode cJ2_iterator 0 = .ok (.new 267, 3) := dk_187 1 11 (dk_at dksJ2_iterator_0 0 rfl rfl)
theorem dJ2_iterator_3 : decode cJ2_iterator 3 = .ok (.dup, 1) := dk_89 (dk_at dksJ2_iterator_0 3 rfl rfl)
theorem dJ2_iterator_4 : decode cJ2_iterator 4 = .ok (.aload_n 0, 1) := dk_42 (dk_at dksJ2_iterator_0 4 rfl rfl)
theorem dJ2_iterator_5 : decode cJ2_iterator 5 = .ok (.invokespecial 269, 3) := dk_183 1 13 (dk_at dksJ2_iterator_0 5 rfl rfl)
theorem dJ2_iterator_8 : decode cJ2_iterator 8 = .ok (.areturn, 1) := dk_176 (dk_at dksJ2_iterator_0 8 rfl rfl)
abbrev cJ2_get : ByteArray := prog_32_method_20_code
def yJ2_get : MethodName := ⟨RJ2, "get", "(I)Ljava/lang/Object;"⟩
def dkwJ2_get_0 : List UInt8 := [27, 42, 180, 0, 48, 184, 0, 118, 87, 42, 27, 182, 0, 123, 176]
abbrev dktJ2_get_0 : List UInt8 := dkwJ2_get_0 ++ []
theorem dksJ2_get_0 : cJ2_get.data.toList.drop 0 = dktJ2_get_0 := by decide +kernel
theorem dJ2_get_0 : decode cJ2_get 0 = .ok (.iload_n 1, 1) := dk_27 (dk_at dksJ2_get_0 0 rfl rfl)
theorem dJ2_get_1 : decode cJ2_get 1 = .ok (.aload_n 0, 1) := dk_42 (dk_at dksJ2_get_0 1 rfl rfl)
theorem dJ2_get_2 : decode cJ2_get 2 = .ok (.getfield 48, 3) := dk_180 0 48 (dk_at dksJ2_get_0 2 rfl rfl)
theorem dJ2_get_5 : decode cJ2_get 5 = .ok (.invokestatic 118, 3) := dk_184 0 118 (dk_at dksJ2_get_0 5 rfl rfl)
theorem dJ2_get_8 : decode cJ2_get 8 = .ok (.pop, 1) := dk_87 (dk_at dksJ2_get_0 8 rfl rfl)
theorem dJ2_get_9 : decode cJ2_get 9 = .ok (.aload_n 0, 1) := dk_42 (dk_at dksJ2_get_0 9 rfl rfl)
theorem dJ2_get_10 : decode cJ2_get 10 = .ok (.iload_n 1, 1) := dk_27 (dk_at dksJ2_get_0 10 rfl rfl)
theorem dJ2_get_11 : decode cJ2_get 11 = .ok (.invokevirtual 123, 3) := dk_182 0 123 (dk_at dksJ2_get_0 11 rfl rfl)
theorem dJ2_get_14 : decode cJ2_get 14 = .ok (.areturn, 1) := dk_176 (dk_at dksJ2_get_0 14 rfl rfl)
abbrev cJ2_elementData : ByteArray := prog_32_method_18_code
def yJ2_elementData : MethodName := ⟨RJ2, "elementData", "(I)Ljava/lang/Object;"⟩
def dkwJ2_elementData_0 : List UInt8 := [42, 180, 0, 9, 27, 50, 176]
abbrev dktJ2_elementData_0 : List UInt8 := dkwJ2_elementData_0 ++ []
theorem dksJ2_elementData_0 : cJ2_elementData.data.toList.drop 0 = dktJ2_elementData_0 := by decide +kernel
theorem dJ2_elementData_0 : decode cJ2_elementData 0 = .ok (.aload_n 0, 1) := dk_42 (dk_at dksJ2_elementData_0 0 rfl rfl)
theorem dJ2_elementData_1 : decode cJ2_elementData 1 = .ok (.getfield 9, 3) := dk_180 0 9 (dk_at dksJ2_elementData_0 1 rfl rfl)
theorem dJ2_elementData_4 : decode cJ2_elementData 4 = .ok (.iload_n 1, 1) := dk_27 (dk_at dksJ2_elementData_0 4 rfl rfl)
theorem dJ2_elementData_5 : decode cJ2_elementData 5 = .ok (.aaload, 1) := dk_50 (dk_at dksJ2_elementData_0 5 rfl rfl)
theorem dJ2_elementData_6 : decode cJ2_elementData 6 = .ok (.areturn, 1) := dk_176 (dk_at dksJ2_elementData_0 6 rfl rfl)
abbrev cJ2_add : ByteArray := prog_32_method_25_code
def yJ2_add : MethodName := ⟨RJ2, "add", "(Ljava/lang/Object;)Z"⟩
def dkwJ2_add_1 : List UInt8 := [172]
abbrev dktJ2_add_1 : List UInt8 := dkwJ2_add_1 ++ []
def dkwJ2_add_0 : List UInt8 := [42, 89, 180, 0, 63, 4, 96, 181, 0, 63, 42, 43, 42, 180, 0, 9, 42, 180, 0, 48, 182, 0, 131, 4]
abbrev dktJ2_add_0 : List UInt8 := dkwJ2_add_0 ++ dktJ2_add_1
theorem dksJ2_add_0 : cJ2_add.data.toList.drop 0 = dktJ2_add_0 := by decide +kernel
theorem dksJ2_add_1 : cJ2_add.data.toList.drop 24 = dktJ2_add_1 := dk_seg dksJ2_add_0 24 rfl rfl
theorem dJ2_add_0 : decode cJ2_add 0 = .ok (.aload_n 0, 1) := dk_42 (dk_at dksJ2_add_0 0 rfl rfl)
theorem dJ2_add_1 : decode cJ2_add 1 = .ok (.dup, 1) := dk_89 (dk_at dksJ2_add_0 1 rfl rfl)
theorem dJ2_add_2 : decode cJ2_add 2 = .ok (.getfield 63, 3) := dk_180 0 63 (dk_at dksJ2_add_0 2 rfl rfl)
theorem dJ2_add_5 : decode cJ2_add 5 = .ok (.iconst 1, 1) := dk_4 (dk_at dksJ2_add_0 5 rfl rfl)
theorem dJ2_add_6 : decode cJ2_add 6 = .ok (.iadd, 1) := dk_96 (dk_at dksJ2_add_0 6 rfl rfl)
theorem dJ2_add_7 : decode cJ2_add 7 = .ok (.putfield 63, 3) := dk_181 0 63 (dk_at dksJ2_add_0 7 rfl rfl)
theorem dJ2_add_10 : decode cJ2_add 10 = .ok (.aload_n 0, 1) := dk_42 (dk_at dksJ2_add_0 10 rfl rfl)
theorem dJ2_add_11 : decode cJ2_add 11 = .ok (.aload_n 1, 1) := dk_43 (dk_at dksJ2_add_0 11 rfl rfl)
theorem dJ2_add_12 : decode cJ2_add 12 = .ok (.aload_n 0, 1) := dk_42 (dk_at dksJ2_add_0 12 rfl rfl)
theorem dJ2_add_13 : decode cJ2_add 13 = .ok (.getfield 9, 3) := dk_180 0 9 (dk_at dksJ2_add_0 13 rfl rfl)
theorem dJ2_add_16 : decode cJ2_add 16 = .ok (.aload_n 0, 1) := dk_42 (dk_at dksJ2_add_0 16 rfl rfl)
theorem dJ2_add_17 : decode cJ2_add 17 = .ok (.getfield 48, 3) := dk_180 0 48 (dk_at dksJ2_add_0 17 rfl rfl)
theorem dJ2_add_20 : decode cJ2_add 20 = .ok (.invokevirtual 131, 3) := dk_182 0 131 (dk_at dksJ2_add_0 20 rfl rfl)
theorem dJ2_add_23 : decode cJ2_add 23 = .ok (.iconst 1, 1) := dk_4 (dk_at dksJ2_add_0 23 rfl rfl)
theorem dJ2_add_24 : decode cJ2_add 24 = .ok (.ireturn, 1) := dk_172 (dk_at dksJ2_add_1 0 rfl rfl)
abbrev cJ2_add_2 : ByteArray := prog_32_method_24_code
def yJ2_add_2 : MethodName := ⟨RJ2, "add", "(Ljava/lang/Object;[Ljava/lang/Object;I)V"⟩
def dkwJ2_add_2_0 : List UInt8 := [29, 44, 190, 160, 0, 8, 42, 182, 0, 129, 77, 44, 29, 43, 83, 42, 29, 4, 96, 181, 0, 48, 177]
abbrev dktJ2_add_2_0 : List UInt8 := dkwJ2_add_2_0 ++ []
theorem dksJ2_add_2_0 : cJ2_add_2.data.toList.drop 0 = dktJ2_add_2_0 := by decide +kernel
theorem dJ2_add_2_0 : decode cJ2_add_2 0 = .ok (.iload_n 3, 1) := dk_29 (dk_at dksJ2_add_2_0 0 rfl rfl)
theorem dJ2_add_2_1 : decode cJ2_add_2 1 = .ok (.aload_n 2, 1) := dk_44 (dk_at dksJ2_add_2_0 1 rfl rfl)
theorem dJ2_add_2_2 : decode cJ2_add_2 2 = .ok (.arraylength, 1) := dk_190 (dk_at dksJ2_add_2_0 2 rfl rfl)
theorem dJ2_add_2_3 : decode cJ2_add_2 3 = .ok (.if_icmp .ne 8, 3) := dk_160 0 8 (dk_at dksJ2_add_2_0 3 rfl rfl)
theorem dJ2_add_2_6 : decode cJ2_add_2 6 = .ok (.aload_n 0, 1) := dk_42 (dk_at dksJ2_add_2_0 6 rfl rfl)
theorem dJ2_add_2_7 : decode cJ2_add_2 7 = .ok (.invokevirtual 129, 3) := dk_182 0 129 (dk_at dksJ2_add_2_0 7 rfl rfl)
theorem dJ2_add_2_10 : decode cJ2_add_2 10 = .ok (.astore_n 2, 1) := dk_77 (dk_at dksJ2_add_2_0 10 rfl rfl)
theorem dJ2_add_2_11 : decode cJ2_add_2 11 = .ok (.aload_n 2, 1) := dk_44 (dk_at dksJ2_add_2_0 11 rfl rfl)
theorem dJ2_add_2_12 : decode cJ2_add_2 12 = .ok (.iload_n 3, 1) := dk_29 (dk_at dksJ2_add_2_0 12 rfl rfl)
theorem dJ2_add_2_13 : decode cJ2_add_2 13 = .ok (.aload_n 1, 1) := dk_43 (dk_at dksJ2_add_2_0 13 rfl rfl)
theorem dJ2_add_2_14 : decode cJ2_add_2 14 = .ok (.aastore, 1) := dk_83 (dk_at dksJ2_add_2_0 14 rfl rfl)
theorem dJ2_add_2_15 : decode cJ2_add_2 15 = .ok (.aload_n 0, 1) := dk_42 (dk_at dksJ2_add_2_0 15 rfl rfl)
theorem dJ2_add_2_16 : decode cJ2_add_2 16 = .ok (.iload_n 3, 1) := dk_29 (dk_at dksJ2_add_2_0 16 rfl rfl)
theorem dJ2_add_2_17 : decode cJ2_add_2 17 = .ok (.iconst 1, 1) := dk_4 (dk_at dksJ2_add_2_0 17 rfl rfl)
theorem dJ2_add_2_18 : decode cJ2_add_2 18 = .ok (.iadd, 1) := dk_96 (dk_at dksJ2_add_2_0 18 rfl rfl)
theorem dJ2_add_2_19 : decode cJ2_add_2 19 = .ok (.putfield 48, 3) := dk_181 0 48 (dk_at dksJ2_add_2_0 19 rfl rfl)
theorem dJ2_add_2_22 : decode cJ2_add_2 22 = .ok (.return_, 1) := dk_177 (dk_at dksJ2_add_2_0 22 rfl rfl)
abbrev cJ2_grow : ByteArray := prog_32_method_7_code
def yJ2_grow : MethodName := ⟨RJ2, "grow", "()[Ljava/lang/Object;"⟩
def dkwJ2_grow_0 : List UInt8 := [42, 42, 180, 0, 48, 4, 96, 182, 0, 69, 176]
abbrev dktJ2_grow_0 : List UInt8 := dkwJ2_grow_0 ++ []
theorem dksJ2_grow_0 : cJ2_grow.data.toList.drop 0 = dktJ2_grow_0 := by decide +kernel
theorem dJ2_grow_0 : decode cJ2_grow 0 = .ok (.aload_n 0, 1) := dk_42 (dk_at dksJ2_grow_0 0 rfl rfl)
theorem dJ2_grow_1 : decode cJ2_grow 1 = .ok (.aload_n 0, 1) := dk_42 (dk_at dksJ2_grow_0 1 rfl rfl)
theorem dJ2_grow_2 : decode cJ2_grow 2 = .ok (.getfield 48, 3) := dk_180 0 48 (dk_at dksJ2_grow_0 2 rfl rfl)
theorem dJ2_grow_5 : decode cJ2_grow 5 = .ok (.iconst 1, 1) := dk_4 (dk_at dksJ2_grow_0 5 rfl rfl)
theorem dJ2_grow_6 : decode cJ2_grow 6 = .ok (.iadd, 1) := dk_96 (dk_at dksJ2_grow_0 6 rfl rfl)
theorem dJ2_grow_7 : decode cJ2_grow 7 = .ok (.invokevirtual 69, 3) := dk_182 0 69 (dk_at dksJ2_grow_0 7 rfl rfl)
theorem dJ2_grow_10 : decode cJ2_grow 10 = .ok (.areturn, 1) := dk_176 (dk_at dksJ2_grow_0 10 rfl rfl)
abbrev cJ2_grow_2 : ByteArray := prog_32_method_6_code
def yJ2_grow_2 : MethodName := ⟨RJ2, "grow", "(I)[Ljava/lang/Object;"⟩
def dkwJ2_grow_2_2 : List UInt8 := [27, 184, 0, 79, 189, 0, 7, 90, 181, 0, 9, 176]
abbrev dktJ2_grow_2_2 : List UInt8 := dkwJ2_grow_2_2 ++ []
def dkwJ2_grow_2_1 : List UInt8 := [28, 4, 122, 184, 0, 73, 62, 42, 42, 180, 0, 9, 29, 184, 0, 66, 90, 181, 0, 9, 176, 42, 16, 10]
abbrev dktJ2_grow_2_1 : List UInt8 := dkwJ2_grow_2_1 ++ dktJ2_grow_2_2
def dkwJ2_grow_2_0 : List UInt8 := [42, 180, 0, 9, 190, 61, 28, 157, 0, 13, 42, 180, 0, 9, 178, 0, 39, 165, 0, 28, 28, 27, 28, 100]
abbrev dktJ2_grow_2_0 : List UInt8 := dkwJ2_grow_2_0 ++ dktJ2_grow_2_1
theorem dksJ2_grow_2_0 : cJ2_grow_2.data.toList.drop 0 = dktJ2_grow_2_0 := by decide +kernel
theorem dksJ2_grow_2_1 : cJ2_grow_2.data.toList.drop 24 = dktJ2_grow_2_1 := dk_seg dksJ2_grow_2_0 24 rfl rfl
theorem dksJ2_grow_2_2 : cJ2_grow_2.data.toList.drop 48 = dktJ2_grow_2_2 := dk_seg dksJ2_grow_2_1 24 rfl rfl
theorem dJ2_grow_2_0 : decode cJ2_grow_2 0 = .ok (.aload_n 0, 1) := dk_42 (dk_at dksJ2_grow_2_0 0 rfl rfl)
theorem dJ2_grow_2_1 : decode cJ2_grow_2 1 = .ok (.getfield 9, 3) := dk_180 0 9 (dk_at dksJ2_grow_2_0 1 rfl rfl)
theorem dJ2_grow_2_4 : decode cJ2_grow_2 4 = .ok (.arraylength, 1) := dk_190 (dk_at dksJ2_grow_2_0 4 rfl rfl)
theorem dJ2_grow_2_5 : decode cJ2_grow_2 5 = .ok (.istore_n 2, 1) := dk_61 (dk_at dksJ2_grow_2_0 5 rfl rfl)
theorem dJ2_grow_2_6 : decode cJ2_grow_2 6 = .ok (.iload_n 2, 1) := dk_28 (dk_at dksJ2_grow_2_0 6 rfl rfl)
theorem dJ2_grow_2_7 : decode cJ2_grow_2 7 = .ok (.ifCond .gt 13, 3) := dk_157 0 13 (dk_at dksJ2_grow_2_0 7 rfl rfl)
theorem dJ2_grow_2_10 : decode cJ2_grow_2 10 = .ok (.aload_n 0, 1) := dk_42 (dk_at dksJ2_grow_2_0 10 rfl rfl)
theorem dJ2_grow_2_11 : decode cJ2_grow_2 11 = .ok (.getfield 9, 3) := dk_180 0 9 (dk_at dksJ2_grow_2_0 11 rfl rfl)
theorem dJ2_grow_2_14 : decode cJ2_grow_2 14 = .ok (.getstatic 39, 3) := dk_178 0 39 (dk_at dksJ2_grow_2_0 14 rfl rfl)
theorem dJ2_grow_2_17 : decode cJ2_grow_2 17 = .ok (.if_acmp .eq 28, 3) := dk_165 0 28 (dk_at dksJ2_grow_2_0 17 rfl rfl)
theorem dJ2_grow_2_20 : decode cJ2_grow_2 20 = .ok (.iload_n 2, 1) := dk_28 (dk_at dksJ2_grow_2_0 20 rfl rfl)
theorem dJ2_grow_2_21 : decode cJ2_grow_2 21 = .ok (.iload_n 1, 1) := dk_27 (dk_at dksJ2_grow_2_0 21 rfl rfl)
theorem dJ2_grow_2_22 : decode cJ2_grow_2 22 = .ok (.iload_n 2, 1) := dk_28 (dk_at dksJ2_grow_2_0 22 rfl rfl)
theorem dJ2_grow_2_23 : decode cJ2_grow_2 23 = .ok (.isub, 1) := dk_100 (dk_at dksJ2_grow_2_0 23 rfl rfl)
theorem dJ2_grow_2_24 : decode cJ2_grow_2 24 = .ok (.iload_n 2, 1) := dk_28 (dk_at dksJ2_grow_2_1 0 rfl rfl)
theorem dJ2_grow_2_25 : decode cJ2_grow_2 25 = .ok (.iconst 1, 1) := dk_4 (dk_at dksJ2_grow_2_1 1 rfl rfl)
theorem dJ2_grow_2_26 : decode cJ2_grow_2 26 = .ok (.ishr, 1) := dk_122 (dk_at dksJ2_grow_2_1 2 rfl rfl)
theorem dJ2_grow_2_27 : decode cJ2_grow_2 27 = .ok (.invokestatic 73, 3) := dk_184 0 73 (dk_at dksJ2_grow_2_1 3 rfl rfl)
theorem dJ2_grow_2_30 : decode cJ2_grow_2 30 = .ok (.istore_n 3, 1) := dk_62 (dk_at dksJ2_grow_2_1 6 rfl rfl)
theorem dJ2_grow_2_31 : decode cJ2_grow_2 31 = .ok (.aload_n 0, 1) := dk_42 (dk_at dksJ2_grow_2_1 7 rfl rfl)
theorem dJ2_grow_2_32 : decode cJ2_grow_2 32 = .ok (.aload_n 0, 1) := dk_42 (dk_at dksJ2_grow_2_1 8 rfl rfl)
theorem dJ2_grow_2_33 : decode cJ2_grow_2 33 = .ok (.getfield 9, 3) := dk_180 0 9 (dk_at dksJ2_grow_2_1 9 rfl rfl)
theorem dJ2_grow_2_36 : decode cJ2_grow_2 36 = .ok (.iload_n 3, 1) := dk_29 (dk_at dksJ2_grow_2_1 12 rfl rfl)
theorem dJ2_grow_2_37 : decode cJ2_grow_2 37 = .ok (.invokestatic 66, 3) := dk_184 0 66 (dk_at dksJ2_grow_2_1 13 rfl rfl)
theorem dJ2_grow_2_40 : decode cJ2_grow_2 40 = .ok (.dup_x1, 1) := dk_90 (dk_at dksJ2_grow_2_1 16 rfl rfl)
theorem dJ2_grow_2_41 : decode cJ2_grow_2 41 = .ok (.putfield 9, 3) := dk_181 0 9 (dk_at dksJ2_grow_2_1 17 rfl rfl)
theorem dJ2_grow_2_44 : decode cJ2_grow_2 44 = .ok (.areturn, 1) := dk_176 (dk_at dksJ2_grow_2_1 20 rfl rfl)
theorem dJ2_grow_2_45 : decode cJ2_grow_2 45 = .ok (.aload_n 0, 1) := dk_42 (dk_at dksJ2_grow_2_1 21 rfl rfl)
theorem dJ2_grow_2_46 : decode cJ2_grow_2 46 = .ok (.bipush 10, 2) := dk_16 10 (dk_at dksJ2_grow_2_1 22 rfl rfl)
theorem dJ2_grow_2_48 : decode cJ2_grow_2 48 = .ok (.iload_n 1, 1) := dk_27 (dk_at dksJ2_grow_2_2 0 rfl rfl)
theorem dJ2_grow_2_49 : decode cJ2_grow_2 49 = .ok (.invokestatic 79, 3) := dk_184 0 79 (dk_at dksJ2_grow_2_2 1 rfl rfl)
theorem dJ2_grow_2_52 : decode cJ2_grow_2 52 = .ok (.anewarray 7, 3) := dk_189 0 7 (dk_at dksJ2_grow_2_2 4 rfl rfl)
theorem dJ2_grow_2_55 : decode cJ2_grow_2 55 = .ok (.dup_x1, 1) := dk_90 (dk_at dksJ2_grow_2_2 7 rfl rfl)
theorem dJ2_grow_2_56 : decode cJ2_grow_2 56 = .ok (.putfield 9, 3) := dk_181 0 9 (dk_at dksJ2_grow_2_2 8 rfl rfl)
theorem dJ2_grow_2_59 : decode cJ2_grow_2 59 = .ok (.areturn, 1) := dk_176 (dk_at dksJ2_grow_2_2 11 rfl rfl)
theorem q49 : (Jvm.Cond.initialized "java/util/ArrayList") ∈ lw_all := lw_g (lw_at lw_m1 4 rfl) rfl
theorem q89 : (Jvm.Cond.instantiable "java/util/ArrayList" (3 : Nat)) ∈ lw_all := lw_g (lw_at lw_m1 44 rfl) rfl
theorem q91 : (Jvm.Cond.instanceMethod ({ cls := "java/util/ArrayList", name := "<init>", desc := "()V" } : Jvm.MethodName)) ∈ lw_all := lw_g (lw_at lw_m1 46 rfl) rfl
theorem q92 : (Jvm.Cond.code ({ cls := "java/util/ArrayList", name := "<init>", desc := "()V" } : Jvm.MethodName) prog_32_method_2_code (1 : Nat) (Option.none : Option Jvm.ClassFile.FieldType)) ∈ lw_all := lw_g (lw_at lw_m1 47 rfl) rfl
theorem q93 : (Jvm.Cond.methodLink "java/util/ArrayList" (1 : Nat) ({ cls := "java/util/AbstractList", name := "<init>", desc := "()V" } : Jvm.MethodName)) ∈ lw_all := lw_g (lw_at lw_m1 48 rfl) rfl
theorem q100 : (Jvm.Cond.fieldLink "java/util/ArrayList" (39 : Nat) "java/util/ArrayList" "DEFAULTCAPACITY_EMPTY_ELEMENTDATA" "[Ljava/lang/Object;") ∈ lw_all := lw_g (lw_at lw_m1 55 rfl) rfl
theorem q101 : (Jvm.Cond.laysStatic "java/util/ArrayList" "DEFAULTCAPACITY_EMPTY_ELEMENTDATA" "[Ljava/lang/Object;") ∈ lw_tbl := lw_at lw_m1 56 rfl
theorem q102 : (Jvm.Cond.fieldLink "java/util/ArrayList" (9 : Nat) "java/util/ArrayList" "elementData" "[Ljava/lang/Object;") ∈ lw_all := lw_g (lw_at lw_m1 57 rfl) rfl
theorem q105 : (Jvm.Cond.fieldLink "java/util/ArrayList" (48 : Nat) "java/util/ArrayList" "size" "I") ∈ lw_all := lw_g (lw_at lw_m1 60 rfl) rfl
theorem q108 : (Jvm.Cond.sameField "java/util/ArrayList" "java/util/AbstractList" "modCount" "I") ∈ lw_all := lw_g (lw_at lw_m1 63 rfl) rfl
theorem q109 : (Jvm.Cond.fieldLink "java/util/ArrayList" (63 : Nat) "java/util/ArrayList" "modCount" "I") ∈ lw_all := lw_g (lw_at lw_m1 64 rfl) rfl
theorem q110 : (Jvm.Cond.lays "java/util/ArrayList" "java/util/ArrayList" "elementData" "[Ljava/lang/Object;") ∈ lw_all := lw_g (lw_at lw_m1 65 rfl) rfl
theorem q111 : (Jvm.Cond.soleField "java/util/ArrayList" "elementData") ∈ lw_all := lw_g (lw_at lw_m1 66 rfl) rfl
theorem q112 : (Jvm.Cond.lays "java/util/ArrayList" "java/util/ArrayList" "size" "I") ∈ lw_all := lw_g (lw_at lw_m1 67 rfl) rfl
theorem q113 : (Jvm.Cond.soleField "java/util/ArrayList" "size") ∈ lw_all := lw_g (lw_at lw_m1 68 rfl) rfl
theorem q114 : (Jvm.Cond.lays "java/util/ArrayList" "java/util/AbstractList" "modCount" "I") ∈ lw_all := lw_g (lw_at lw_m1 69 rfl) rfl
theorem q116 : (Jvm.Cond.superclass "java/util/ArrayList" "java/util/AbstractList") ∈ lw_all := lw_g (lw_at lw_m1 71 rfl) rfl
theorem q146 : (Jvm.Cond.instanceMethod ({ cls := "java/util/ArrayList", name := "size", desc := "()I" } : Jvm.MethodName)) ∈ lw_all := lw_g (lw_at lw_m1 101 rfl) rfl
theorem q147 : (Jvm.Cond.selects "java/util/ArrayList" ({ cls := "java/util/ArrayList", name := "size", desc := "()I" } : Jvm.MethodName) ({ cls := "java/util/ArrayList", name := "size", desc := "()I" } : Jvm.MethodName)) ∈ lw_all := lw_g (lw_at lw_m1 102 rfl) rfl
theorem q148 : (Jvm.Cond.code ({ cls := "java/util/ArrayList", name := "size", desc := "()I" } : Jvm.MethodName) prog_32_method_8_code (1 : Nat) (Option.some Jvm.ClassFile.FieldType.int)) ∈ lw_all := lw_g (lw_at lw_m1 103 rfl) rfl
theorem q154 : (Jvm.Cond.instanceMethod ({ cls := "java/util/ArrayList", name := "iterator", desc := "()Ljava/util/Iterator;" } : Jvm.MethodName)) ∈ lw_all := lw_g (lw_at lw_m1 109 rfl) rfl
theorem q155 : (Jvm.Cond.selects "java/util/ArrayList" ({ cls := "java/util/ArrayList", name := "iterator", desc := "()Ljava/util/Iterator;" } : Jvm.MethodName) ({ cls := "java/util/ArrayList", name := "iterator", desc := "()Ljava/util/Iterator;" } : Jvm.MethodName)) ∈ lw_all := lw_g (lw_at lw_m1 110 rfl) rfl
theorem q156 : (Jvm.Cond.code ({ cls := "java/util/ArrayList", name := "iterator", desc := "()Ljava/util/Iterator;" } : Jvm.MethodName) prog_32_method_55_code (1 : Nat) (Option.some (Jvm.ClassFile.FieldType.object "java/util/Iterator"))) ∈ lw_all := lw_g (lw_at lw_m1 111 rfl) rfl
theorem q157 : (Jvm.Cond.classLink "java/util/ArrayList" (267 : Nat) "java/util/ArrayList$Itr") ∈ lw_all := lw_g (lw_at lw_m1 112 rfl) rfl
theorem q159 : (Jvm.Cond.methodLink "java/util/ArrayList" (269 : Nat) ({ cls := "java/util/ArrayList$Itr", name := "<init>", desc := "(Ljava/util/ArrayList;)V" } : Jvm.MethodName)) ∈ lw_all := lw_g (lw_at lw_m1 114 rfl) rfl
theorem q293 : (Jvm.Cond.instanceMethod ({ cls := "java/util/ArrayList", name := "get", desc := "(I)Ljava/lang/Object;" } : Jvm.MethodName)) ∈ lw_all := lw_g (lw_at lw_m2 8 rfl) rfl
theorem q294 : (Jvm.Cond.selects "java/util/ArrayList" ({ cls := "java/util/ArrayList", name := "get", desc := "(I)Ljava/lang/Object;" } : Jvm.MethodName) ({ cls := "java/util/ArrayList", name := "get", desc := "(I)Ljava/lang/Object;" } : Jvm.MethodName)) ∈ lw_all := lw_g (lw_at lw_m2 9 rfl) rfl
theorem q295 : (Jvm.Cond.code ({ cls := "java/util/ArrayList", name := "get", desc := "(I)Ljava/lang/Object;" } : Jvm.MethodName) prog_32_method_20_code (2 : Nat) (Option.some (Jvm.ClassFile.FieldType.object "java/lang/Object"))) ∈ lw_all := lw_g (lw_at lw_m2 10 rfl) rfl
theorem q296 : (Jvm.Cond.methodLink "java/util/ArrayList" (118 : Nat) ({ cls := "java/util/Objects", name := "checkIndex", desc := "(II)I" } : Jvm.MethodName)) ∈ lw_all := lw_g (lw_at lw_m2 11 rfl) rfl
theorem q302 : (Jvm.Cond.methodLink "java/util/ArrayList" (123 : Nat) ({ cls := "java/util/ArrayList", name := "elementData", desc := "(I)Ljava/lang/Object;" } : Jvm.MethodName)) ∈ lw_all := lw_g (lw_at lw_m2 17 rfl) rfl
theorem q303 : (Jvm.Cond.instanceMethod ({ cls := "java/util/ArrayList", name := "elementData", desc := "(I)Ljava/lang/Object;" } : Jvm.MethodName)) ∈ lw_all := lw_g (lw_at lw_m2 18 rfl) rfl
theorem q304 : (Jvm.Cond.selects "java/util/ArrayList" ({ cls := "java/util/ArrayList", name := "elementData", desc := "(I)Ljava/lang/Object;" } : Jvm.MethodName) ({ cls := "java/util/ArrayList", name := "elementData", desc := "(I)Ljava/lang/Object;" } : Jvm.MethodName)) ∈ lw_all := lw_g (lw_at lw_m2 19 rfl) rfl
theorem q305 : (Jvm.Cond.code ({ cls := "java/util/ArrayList", name := "elementData", desc := "(I)Ljava/lang/Object;" } : Jvm.MethodName) prog_32_method_18_code (2 : Nat) (Option.some (Jvm.ClassFile.FieldType.object "java/lang/Object"))) ∈ lw_all := lw_g (lw_at lw_m2 20 rfl) rfl
theorem q372 : (Jvm.Cond.castable "java/util/ArrayList" "java/util/Collection") ∈ lw_tbl := lw_at lw_m2 87 rfl
theorem q373 : (Jvm.Cond.selects "java/util/ArrayList" ({ cls := "java/util/Collection", name := "iterator", desc := "()Ljava/util/Iterator;" } : Jvm.MethodName) ({ cls := "java/util/ArrayList", name := "iterator", desc := "()Ljava/util/Iterator;" } : Jvm.MethodName)) ∈ lw_all := lw_g (lw_at lw_m2 88 rfl) rfl
theorem q374 : (Jvm.Cond.unhidden "java/util/ArrayList" "iterator" "()Ljava/util/Iterator;") ∈ lw_tbl := lw_at lw_m2 89 rfl
theorem q375 : (Jvm.Cond.publicMethod ({ cls := "java/util/ArrayList", name := "iterator", desc := "()Ljava/util/Iterator;" } : Jvm.MethodName)) ∈ lw_tbl := lw_at lw_m2 90 rfl
theorem q537 : (Jvm.Cond.instanceMethod ({ cls := "java/util/ArrayList", name := "add", desc := "(Ljava/lang/Object;)Z" } : Jvm.MethodName)) ∈ lw_all := lw_g (lw_at lw_m3 12 rfl) rfl
theorem q538 : (Jvm.Cond.selects "java/util/ArrayList" ({ cls := "java/util/ArrayList", name := "add", desc := "(Ljava/lang/Object;)Z" } : Jvm.MethodName) ({ cls := "java/util/ArrayList", name := "add", desc := "(Ljava/lang/Object;)Z" } : Jvm.MethodName)) ∈ lw_all := lw_g (lw_at lw_m3 13 rfl) rfl
theorem q539 : (Jvm.Cond.code ({ cls := "java/util/ArrayList", name := "add", desc := "(Ljava/lang/Object;)Z" } : Jvm.MethodName) prog_32_method_25_code (2 : Nat) (Option.some Jvm.ClassFile.FieldType.boolean)) ∈ lw_all := lw_g (lw_at lw_m3 14 rfl) rfl
theorem q540 : (Jvm.Cond.methodLink "java/util/ArrayList" (131 : Nat) ({ cls := "java/util/ArrayList", name := "add", desc := "(Ljava/lang/Object;[Ljava/lang/Object;I)V" } : Jvm.MethodName)) ∈ lw_all := lw_g (lw_at lw_m3 15 rfl) rfl
theorem q541 : (Jvm.Cond.privateMethod ({ cls := "java/util/ArrayList", name := "add", desc := "(Ljava/lang/Object;[Ljava/lang/Object;I)V" } : Jvm.MethodName)) ∈ lw_tbl := lw_at lw_m3 16 rfl
theorem q542 : (Jvm.Cond.instanceMethod ({ cls := "java/util/ArrayList", name := "add", desc := "(Ljava/lang/Object;[Ljava/lang/Object;I)V" } : Jvm.MethodName)) ∈ lw_all := lw_g (lw_at lw_m3 17 rfl) rfl
theorem q543 : (Jvm.Cond.code ({ cls := "java/util/ArrayList", name := "add", desc := "(Ljava/lang/Object;[Ljava/lang/Object;I)V" } : Jvm.MethodName) prog_32_method_24_code (4 : Nat) (Option.none : Option Jvm.ClassFile.FieldType)) ∈ lw_all := lw_g (lw_at lw_m3 18 rfl) rfl
theorem q544 : (Jvm.Cond.methodLink "java/util/ArrayList" (129 : Nat) ({ cls := "java/util/ArrayList", name := "grow", desc := "()[Ljava/lang/Object;" } : Jvm.MethodName)) ∈ lw_all := lw_g (lw_at lw_m3 19 rfl) rfl
theorem q545 : (Jvm.Cond.privateMethod ({ cls := "java/util/ArrayList", name := "grow", desc := "()[Ljava/lang/Object;" } : Jvm.MethodName)) ∈ lw_tbl := lw_at lw_m3 20 rfl
theorem q546 : (Jvm.Cond.instanceMethod ({ cls := "java/util/ArrayList", name := "grow", desc := "()[Ljava/lang/Object;" } : Jvm.MethodName)) ∈ lw_all := lw_g (lw_at lw_m3 21 rfl) rfl
theorem q547 : (Jvm.Cond.code ({ cls := "java/util/ArrayList", name := "grow", desc := "()[Ljava/lang/Object;" } : Jvm.MethodName) prog_32_method_7_code (1 : Nat) (Option.some (Jvm.ClassFile.FieldType.array (Jvm.ClassFile.FieldType.object "java/lang/Object")))) ∈ lw_all := lw_g (lw_at lw_m3 22 rfl) rfl
theorem q548 : (Jvm.Cond.methodLink "java/util/ArrayList" (69 : Nat) ({ cls := "java/util/ArrayList", name := "grow", desc := "(I)[Ljava/lang/Object;" } : Jvm.MethodName)) ∈ lw_all := lw_g (lw_at lw_m3 23 rfl) rfl
theorem q549 : (Jvm.Cond.privateMethod ({ cls := "java/util/ArrayList", name := "grow", desc := "(I)[Ljava/lang/Object;" } : Jvm.MethodName)) ∈ lw_tbl := lw_at lw_m3 24 rfl
theorem q550 : (Jvm.Cond.instanceMethod ({ cls := "java/util/ArrayList", name := "grow", desc := "(I)[Ljava/lang/Object;" } : Jvm.MethodName)) ∈ lw_all := lw_g (lw_at lw_m3 25 rfl) rfl
theorem q551 : (Jvm.Cond.code ({ cls := "java/util/ArrayList", name := "grow", desc := "(I)[Ljava/lang/Object;" } : Jvm.MethodName) prog_32_method_6_code (4 : Nat) (Option.some (Jvm.ClassFile.FieldType.array (Jvm.ClassFile.FieldType.object "java/lang/Object")))) ∈ lw_all := lw_g (lw_at lw_m3 26 rfl) rfl
theorem q552 : (Jvm.Cond.methodLink "java/util/ArrayList" (73 : Nat) ({ cls := "jdk/internal/util/ArraysSupport", name := "newLength", desc := "(III)I" } : Jvm.MethodName)) ∈ lw_all := lw_g (lw_at lw_m3 27 rfl) rfl
theorem q560 : (Jvm.Cond.methodLink "java/util/ArrayList" (66 : Nat) ({ cls := "java/util/Arrays", name := "copyOf", desc := "([Ljava/lang/Object;I)[Ljava/lang/Object;" } : Jvm.MethodName)) ∈ lw_all := lw_g (lw_at lw_m3 35 rfl) rfl
theorem q577 : (Jvm.Cond.selects "java/util/ArrayList" ({ cls := "java/lang/Object", name := "getClass", desc := "()Ljava/lang/Class;" } : Jvm.MethodName) ({ cls := "java/lang/Object", name := "getClass", desc := "()Ljava/lang/Class;" } : Jvm.MethodName)) ∈ lw_all := lw_g (lw_at lw_m3 52 rfl) rfl
theorem q597 : (Jvm.Cond.methodLink "java/util/ArrayList" (79 : Nat) ({ cls := "java/lang/Math", name := "max", desc := "(II)I" } : Jvm.MethodName)) ∈ lw_all := lw_g (lw_at lw_m3 72 rfl) rfl
theorem q598 : (Jvm.Cond.classLink "java/util/ArrayList" (7 : Nat) "java/lang/Object") ∈ lw_all := lw_g (lw_at lw_m3 73 rfl) rfl
theorem q1430 : (Jvm.Cond.castable "java/util/ArrayList" "java/lang/Object") ∈ lw_tbl := lw_at lw_m6 185 rfl
theorem in_J2 : ∀ w ∈ wsJ20, w ∈ lw_all := lw_in wsJ20 [114, 110, 112] (by decide +kernel) (by decide +kernel)
/-! java/lang/Number -/
set_option maxRecDepth 100000
def RJ20 : String := "java/lang/Number"
abbrev cJ20_init : ByteArray := prog_22_method_1_code
def yJ20_init : MethodName := ⟨RJ20, "<init>", "()V"⟩
theorem dJ20_init_0 : decode cJ20_init 0 = .ok (.aload_n 0, 1) := by decide +kernel
theorem dJ20_init_1 : decode cJ20_init 1 = .ok (.invokespecial 1, 3) := by decide +kernel
theorem dJ20_init_4 : decode cJ20_init 4 = .ok (.return_, 1) := by decide +kernel
theorem q71 : (Jvm.Cond.initialized "java/lang/Number") ∈ lw_all := lw_g (lw_at lw_m1 26 rfl) rfl
theorem q886 : (Jvm.Cond.instanceMethod ({ cls := "java/lang/Number", name := "<init>", desc := "()V" } : Jvm.MethodName)) ∈ lw_all := lw_g (lw_at lw_m4 121 rfl) rfl
theorem q887 : (Jvm.Cond.code ({ cls := "java/lang/Number", name := "<init>", desc := "()V" } : Jvm.MethodName) prog_22_method_1_code (1 : Nat) (Option.none : Option Jvm.ClassFile.FieldType)) ∈ lw_all := lw_g (lw_at lw_m4 122 rfl) rfl
theorem q888 : (Jvm.Cond.methodLink "java/lang/Number" (1 : Nat) ({ cls := "java/lang/Object", name := "<init>", desc := "()V" } : Jvm.MethodName)) ∈ lw_all := lw_g (lw_at lw_m4 123 rfl) rfl
/-! java/lang/Integer -/
set_option maxRecDepth 100000
def RJ21 : String := "java/lang/Integer"
def TJ21 : u_T := fun k => match k with
  | _ => ("java/lang/Integer", "value", "I", true)
def tyJ21 : Nat → FieldType := fun k => match k with
  | _ => .int
abbrev wsJ210 : List Cond := u_ws RJ21 TJ21 1
theorem nmJ21 : ∀ a, a < 1 → ∀ b, b < 1 → a ≠ b → (TJ21 a).2.1 ≠ (TJ21 b).2.1 := by decide +kernel
theorem tyJ21_ok : ∀ k, k < 1 → parseFieldDescriptor (TJ21 k).2.2.1 = some (tyJ21 k) := by decide +kernel
abbrev cJ21_compare : ByteArray := prog_18_method_40_code
def yJ21_compare : MethodName := ⟨RJ21, "compare", "(II)I"⟩
def dkwJ21_compare_0 : List UInt8 := [26, 27, 162, 0, 7, 2, 167, 0, 13, 26, 27, 160, 0, 7, 3, 167, 0, 4, 4, 172]
abbrev dktJ21_compare_0 : List UInt8 := dkwJ21_compare_0 ++ []
theorem dksJ21_compare_0 : cJ21_compare.data.toList.drop 0 = dktJ21_compare_0 := by decide +kernel
theorem dJ21_compare_0 : decode cJ21_compare 0 = .ok (.iload_n 0, 1) := dk_26 (dk_at dksJ21_compare_0 0 rfl rfl)
theorem dJ21_compare_1 : decode cJ21_compare 1 = .ok (.iload_n 1, 1) := dk_27 (dk_at dksJ21_compare_0 1 rfl rfl)
theorem dJ21_compare_2 : decode cJ21_compare 2 = .ok (.if_icmp .ge 7, 3) := dk_162 0 7 (dk_at dksJ21_compare_0 2 rfl rfl)
theorem dJ21_compare_5 : decode cJ21_compare 5 = .ok (.iconst (-1), 1) := dk_2 (dk_at dksJ21_compare_0 5 rfl rfl)
theorem dJ21_compare_6 : decode cJ21_compare 6 = .ok (.goto 13, 3) := dk_167 0 13 (dk_at dksJ21_compare_0 6 rfl rfl)
theorem dJ21_compare_9 : decode cJ21_compare 9 = .ok (.iload_n 0, 1) := dk_26 (dk_at dksJ21_compare_0 9 rfl rfl)
theorem dJ21_compare_10 : decode cJ21_compare 10 = .ok (.iload_n 1, 1) := dk_27 (dk_at dksJ21_compare_0 10 rfl rfl)
theorem dJ21_compare_11 : decode cJ21_compare 11 = .ok (.if_icmp .ne 7, 3) := dk_160 0 7 (dk_at dksJ21_compare_0 11 rfl rfl)
theorem dJ21_compare_14 : decode cJ21_compare 14 = .ok (.iconst 0, 1) := dk_3 (dk_at dksJ21_compare_0 14 rfl rfl)
theorem dJ21_compare_15 : decode cJ21_compare 15 = .ok (.goto 4, 3) := dk_167 0 4 (dk_at dksJ21_compare_0 15 rfl rfl)
theorem dJ21_compare_18 : decode cJ21_compare 18 = .ok (.iconst 1, 1) := dk_4 (dk_at dksJ21_compare_0 18 rfl rfl)
theorem dJ21_compare_19 : decode cJ21_compare 19 = .ok (.ireturn, 1) := dk_172 (dk_at dksJ21_compare_0 19 rfl rfl)
abbrev cJ21_bitCount : ByteArray := prog_18_method_49_code
def yJ21_bitCount : MethodName := ⟨RJ21, "bitCount", "(I)I"⟩
def dkwJ21_bitCount_2 : List UInt8 := [26, 16, 63, 126, 172]
abbrev dktJ21_bitCount_2 : List UInt8 := dkwJ21_bitCount_2 ++ []
def dkwJ21_bitCount_1 : List UInt8 := [26, 26, 7, 124, 96, 19, 1, 11, 126, 59, 26, 26, 16, 8, 124, 96, 59, 26, 26, 16, 16, 124, 96, 59]
abbrev dktJ21_bitCount_1 : List UInt8 := dkwJ21_bitCount_1 ++ dktJ21_bitCount_2
def dkwJ21_bitCount_0 : List UInt8 := [26, 26, 4, 124, 19, 1, 9, 126, 100, 59, 26, 19, 1, 10, 126, 26, 5, 124, 19, 1, 10, 126, 96, 59]
abbrev dktJ21_bitCount_0 : List UInt8 := dkwJ21_bitCount_0 ++ dktJ21_bitCount_1
theorem dksJ21_bitCount_0 : cJ21_bitCount.data.toList.drop 0 = dktJ21_bitCount_0 := by decide +kernel
theorem dksJ21_bitCount_1 : cJ21_bitCount.data.toList.drop 24 = dktJ21_bitCount_1 := dk_seg dksJ21_bitCount_0 24 rfl rfl
theorem dksJ21_bitCount_2 : cJ21_bitCount.data.toList.drop 48 = dktJ21_bitCount_2 := dk_seg dksJ21_bitCount_1 24 rfl rfl
theorem dJ21_bitCount_0 : decode cJ21_bitCount 0 = .ok (.iload_n 0, 1) := dk_26 (dk_at dksJ21_bitCount_0 0 rfl rfl)
theorem dJ21_bitCount_1 : decode cJ21_bitCount 1 = .ok (.iload_n 0, 1) := dk_26 (dk_at dksJ21_bitCount_0 1 rfl rfl)
theorem dJ21_bitCount_2 : decode cJ21_bitCount 2 = .ok (.iconst 1, 1) := dk_4 (dk_at dksJ21_bitCount_0 2 rfl rfl)
theorem dJ21_bitCount_3 : decode cJ21_bitCount 3 = .ok (.iushr, 1) := dk_124 (dk_at dksJ21_bitCount_0 3 rfl rfl)
theorem dJ21_bitCount_4 : decode cJ21_bitCount 4 = .ok (.ldc_w 265, 3) := dk_19 1 9 (dk_at dksJ21_bitCount_0 4 rfl rfl)
theorem dJ21_bitCount_7 : decode cJ21_bitCount 7 = .ok (.iand, 1) := dk_126 (dk_at dksJ21_bitCount_0 7 rfl rfl)
theorem dJ21_bitCount_8 : decode cJ21_bitCount 8 = .ok (.isub, 1) := dk_100 (dk_at dksJ21_bitCount_0 8 rfl rfl)
theorem dJ21_bitCount_9 : decode cJ21_bitCount 9 = .ok (.istore_n 0, 1) := dk_59 (dk_at dksJ21_bitCount_0 9 rfl rfl)
theorem dJ21_bitCount_10 : decode cJ21_bitCount 10 = .ok (.iload_n 0, 1) := dk_26 (dk_at dksJ21_bitCount_0 10 rfl rfl)
theorem dJ21_bitCount_11 : decode cJ21_bitCount 11 = .ok (.ldc_w 266, 3) := dk_19 1 10 (dk_at dksJ21_bitCount_0 11 rfl rfl)
theorem dJ21_bitCount_14 : decode cJ21_bitCount 14 = .ok (.iand, 1) := dk_126 (dk_at dksJ21_bitCount_0 14 rfl rfl)
theorem dJ21_bitCount_15 : decode cJ21_bitCount 15 = .ok (.iload_n 0, 1) := dk_26 (dk_at dksJ21_bitCount_0 15 rfl rfl)
theorem dJ21_bitCount_16 : decode cJ21_bitCount 16 = .ok (.iconst 2, 1) := dk_5 (dk_at dksJ21_bitCount_0 16 rfl rfl)
theorem dJ21_bitCount_17 : decode cJ21_bitCount 17 = .ok (.iushr, 1) := dk_124 (dk_at dksJ21_bitCount_0 17 rfl rfl)
theorem dJ21_bitCount_18 : decode cJ21_bitCount 18 = .ok (.ldc_w 266, 3) := dk_19 1 10 (dk_at dksJ21_bitCount_0 18 rfl rfl)
theorem dJ21_bitCount_21 : decode cJ21_bitCount 21 = .ok (.iand, 1) := dk_126 (dk_at dksJ21_bitCount_0 21 rfl rfl)
theorem dJ21_bitCount_22 : decode cJ21_bitCount 22 = .ok (.iadd, 1) := dk_96 (dk_at dksJ21_bitCount_0 22 rfl rfl)
theorem dJ21_bitCount_23 : decode cJ21_bitCount 23 = .ok (.istore_n 0, 1) := dk_59 (dk_at dksJ21_bitCount_0 23 rfl rfl)
theorem dJ21_bitCount_24 : decode cJ21_bitCount 24 = .ok (.iload_n 0, 1) := dk_26 (dk_at dksJ21_bitCount_1 0 rfl rfl)
theorem dJ21_bitCount_25 : decode cJ21_bitCount 25 = .ok (.iload_n 0, 1) := dk_26 (dk_at dksJ21_bitCount_1 1 rfl rfl)
theorem dJ21_bitCount_26 : decode cJ21_bitCount 26 = .ok (.iconst 4, 1) := dk_7 (dk_at dksJ21_bitCount_1 2 rfl rfl)
theorem dJ21_bitCount_27 : decode cJ21_bitCount 27 = .ok (.iushr, 1) := dk_124 (dk_at dksJ21_bitCount_1 3 rfl rfl)
theorem dJ21_bitCount_28 : decode cJ21_bitCount 28 = .ok (.iadd, 1) := dk_96 (dk_at dksJ21_bitCount_1 4 rfl rfl)
theorem dJ21_bitCount_29 : decode cJ21_bitCount 29 = .ok (.ldc_w 267, 3) := dk_19 1 11 (dk_at dksJ21_bitCount_1 5 rfl rfl)
theorem dJ21_bitCount_32 : decode cJ21_bitCount 32 = .ok (.iand, 1) := dk_126 (dk_at dksJ21_bitCount_1 8 rfl rfl)
theorem dJ21_bitCount_33 : decode cJ21_bitCount 33 = .ok (.istore_n 0, 1) := dk_59 (dk_at dksJ21_bitCount_1 9 rfl rfl)
theorem dJ21_bitCount_34 : decode cJ21_bitCount 34 = .ok (.iload_n 0, 1) := dk_26 (dk_at dksJ21_bitCount_1 10 rfl rfl)
theorem dJ21_bitCount_35 : decode cJ21_bitCount 35 = .ok (.iload_n 0, 1) := dk_26 (dk_at dksJ21_bitCount_1 11 rfl rfl)
theorem dJ21_bitCount_36 : decode cJ21_bitCount 36 = .ok (.bipush 8, 2) := dk_16 8 (dk_at dksJ21_bitCount_1 12 rfl rfl)
theorem dJ21_bitCount_38 : decode cJ21_bitCount 38 = .ok (.iushr, 1) := dk_124 (dk_at dksJ21_bitCount_1 14 rfl rfl)
theorem dJ21_bitCount_39 : decode cJ21_bitCount 39 = .ok (.iadd, 1) := dk_96 (dk_at dksJ21_bitCount_1 15 rfl rfl)
theorem dJ21_bitCount_40 : decode cJ21_bitCount 40 = .ok (.istore_n 0, 1) := dk_59 (dk_at dksJ21_bitCount_1 16 rfl rfl)
theorem dJ21_bitCount_41 : decode cJ21_bitCount 41 = .ok (.iload_n 0, 1) := dk_26 (dk_at dksJ21_bitCount_1 17 rfl rfl)
theorem dJ21_bitCount_42 : decode cJ21_bitCount 42 = .ok (.iload_n 0, 1) := dk_26 (dk_at dksJ21_bitCount_1 18 rfl rfl)
theorem dJ21_bitCount_43 : decode cJ21_bitCount 43 = .ok (.bipush 16, 2) := dk_16 16 (dk_at dksJ21_bitCount_1 19 rfl rfl)
theorem dJ21_bitCount_45 : decode cJ21_bitCount 45 = .ok (.iushr, 1) := dk_124 (dk_at dksJ21_bitCount_1 21 rfl rfl)
theorem dJ21_bitCount_46 : decode cJ21_bitCount 46 = .ok (.iadd, 1) := dk_96 (dk_at dksJ21_bitCount_1 22 rfl rfl)
theorem dJ21_bitCount_47 : decode cJ21_bitCount 47 = .ok (.istore_n 0, 1) := dk_59 (dk_at dksJ21_bitCount_1 23 rfl rfl)
theorem dJ21_bitCount_48 : decode cJ21_bitCount 48 = .ok (.iload_n 0, 1) := dk_26 (dk_at dksJ21_bitCount_2 0 rfl rfl)
theorem dJ21_bitCount_49 : decode cJ21_bitCount 49 = .ok (.bipush 63, 2) := dk_16 63 (dk_at dksJ21_bitCount_2 1 rfl rfl)
theorem dJ21_bitCount_51 : decode cJ21_bitCount 51 = .ok (.iand, 1) := dk_126 (dk_at dksJ21_bitCount_2 3 rfl rfl)
theorem dJ21_bitCount_52 : decode cJ21_bitCount 52 = .ok (.ireturn, 1) := dk_172 (dk_at dksJ21_bitCount_2 4 rfl rfl)
abbrev cJ21_valueOf : ByteArray := prog_18_method_22_code
def yJ21_valueOf : MethodName := ⟨RJ21, "valueOf", "(I)Ljava/lang/Integer;"⟩
def dkwJ21_valueOf_1 : List UInt8 := [187, 0, 1, 89, 26, 183, 0, 199, 176]
abbrev dktJ21_valueOf_1 : List UInt8 := dkwJ21_valueOf_1 ++ []
def dkwJ21_valueOf_0 : List UInt8 := [26, 16, 128, 161, 0, 20, 26, 178, 0, 191, 163, 0, 13, 178, 0, 195, 26, 17, 0, 128, 96, 50, 176]
abbrev dktJ21_valueOf_0 : List UInt8 := dkwJ21_valueOf_0 ++ dktJ21_valueOf_1
theorem dksJ21_valueOf_0 : cJ21_valueOf.data.toList.drop 0 = dktJ21_valueOf_0 := by decide +kernel
theorem dksJ21_valueOf_1 : cJ21_valueOf.data.toList.drop 23 = dktJ21_valueOf_1 := dk_seg dksJ21_valueOf_0 23 rfl rfl
theorem dJ21_valueOf_0 : decode cJ21_valueOf 0 = .ok (.iload_n 0, 1) := dk_26 (dk_at dksJ21_valueOf_0 0 rfl rfl)
theorem dJ21_valueOf_1 : decode cJ21_valueOf 1 = .ok (.bipush (-128), 2) := dk_16 128 (dk_at dksJ21_valueOf_0 1 rfl rfl)
theorem dJ21_valueOf_3 : decode cJ21_valueOf 3 = .ok (.if_icmp .lt 20, 3) := dk_161 0 20 (dk_at dksJ21_valueOf_0 3 rfl rfl)
theorem dJ21_valueOf_6 : decode cJ21_valueOf 6 = .ok (.iload_n 0, 1) := dk_26 (dk_at dksJ21_valueOf_0 6 rfl rfl)
theorem dJ21_valueOf_7 : decode cJ21_valueOf 7 = .ok (.getstatic 191, 3) := dk_178 0 191 (dk_at dksJ21_valueOf_0 7 rfl rfl)
theorem dJ21_valueOf_10 : decode cJ21_valueOf 10 = .ok (.if_icmp .gt 13, 3) := dk_163 0 13 (dk_at dksJ21_valueOf_0 10 rfl rfl)
theorem dJ21_valueOf_13 : decode cJ21_valueOf 13 = .ok (.getstatic 195, 3) := dk_178 0 195 (dk_at dksJ21_valueOf_0 13 rfl rfl)
theorem dJ21_valueOf_16 : decode cJ21_valueOf 16 = .ok (.iload_n 0, 1) := dk_26 (dk_at dksJ21_valueOf_0 16 rfl rfl)
theorem dJ21_valueOf_17 : decode cJ21_valueOf 17 = .ok (.sipush 128, 3) := dk_17 0 128 (dk_at dksJ21_valueOf_0 17 rfl rfl)
theorem dJ21_valueOf_20 : decode cJ21_valueOf 20 = .ok (.iadd, 1) := dk_96 (dk_at dksJ21_valueOf_0 20 rfl rfl)
theorem dJ21_valueOf_21 : decode cJ21_valueOf 21 = .ok (.aaload, 1) := dk_50 (dk_at dksJ21_valueOf_0 21 rfl rfl)
theorem dJ21_valueOf_22 : decode cJ21_valueOf 22 = .ok (.areturn, 1) := dk_176 (dk_at dksJ21_valueOf_0 22 rfl rfl)
theorem dJ21_valueOf_23 : decode cJ21_valueOf 23 = .ok (.new 1, 3) := dk_187 0 1 (dk_at dksJ21_valueOf_1 0 rfl rfl)
theorem dJ21_valueOf_26 : decode cJ21_valueOf 26 = .ok (.dup, 1) := dk_89 (dk_at dksJ21_valueOf_1 3 rfl rfl)
theorem dJ21_valueOf_27 : decode cJ21_valueOf 27 = .ok (.iload_n 0, 1) := dk_26 (dk_at dksJ21_valueOf_1 4 rfl rfl)
theorem dJ21_valueOf_28 : decode cJ21_valueOf 28 = .ok (.invokespecial 199, 3) := dk_183 0 199 (dk_at dksJ21_valueOf_1 5 rfl rfl)
theorem dJ21_valueOf_31 : decode cJ21_valueOf 31 = .ok (.areturn, 1) := dk_176 (dk_at dksJ21_valueOf_1 8 rfl rfl)
abbrev cJ21_init : ByteArray := prog_18_method_23_code
def yJ21_init : MethodName := ⟨RJ21, "<init>", "(I)V"⟩
def dkwJ21_init_0 : List UInt8 := [42, 183, 0, 202, 42, 27, 181, 0, 205, 177]
abbrev dktJ21_init_0 : List UInt8 := dkwJ21_init_0 ++ []
theorem dksJ21_init_0 : cJ21_init.data.toList.drop 0 = dktJ21_init_0 := by decide +kernel
theorem dJ21_init_0 : decode cJ21_init 0 = .ok (.aload_n 0, 1) := dk_42 (dk_at dksJ21_init_0 0 rfl rfl)
theorem dJ21_init_1 : decode cJ21_init 1 = .ok (.invokespecial 202, 3) := dk_183 0 202 (dk_at dksJ21_init_0 1 rfl rfl)
theorem dJ21_init_4 : decode cJ21_init 4 = .ok (.aload_n 0, 1) := dk_42 (dk_at dksJ21_init_0 4 rfl rfl)
theorem dJ21_init_5 : decode cJ21_init 5 = .ok (.iload_n 1, 1) := dk_27 (dk_at dksJ21_init_0 5 rfl rfl)
theorem dJ21_init_6 : decode cJ21_init 6 = .ok (.putfield 205, 3) := dk_181 0 205 (dk_at dksJ21_init_0 6 rfl rfl)
theorem dJ21_init_9 : decode cJ21_init 9 = .ok (.return_, 1) := dk_177 (dk_at dksJ21_init_0 9 rfl rfl)
abbrev cJ21_compareTo : ByteArray := prog_18_method_63_code
def yJ21_compareTo : MethodName := ⟨RJ21, "compareTo", "(Ljava/lang/Object;)I"⟩
def dkwJ21_compareTo_0 : List UInt8 := [42, 43, 192, 0, 1, 182, 1, 28, 172]
abbrev dktJ21_compareTo_0 : List UInt8 := dkwJ21_compareTo_0 ++ []
theorem dksJ21_compareTo_0 : cJ21_compareTo.data.toList.drop 0 = dktJ21_compareTo_0 := by decide +kernel
theorem dJ21_compareTo_0 : decode cJ21_compareTo 0 = .ok (.aload_n 0, 1) := dk_42 (dk_at dksJ21_compareTo_0 0 rfl rfl)
theorem dJ21_compareTo_1 : decode cJ21_compareTo 1 = .ok (.aload_n 1, 1) := dk_43 (dk_at dksJ21_compareTo_0 1 rfl rfl)
theorem dJ21_compareTo_2 : decode cJ21_compareTo 2 = .ok (.checkcast 1, 3) := dk_192 0 1 (dk_at dksJ21_compareTo_0 2 rfl rfl)
theorem dJ21_compareTo_5 : decode cJ21_compareTo 5 = .ok (.invokevirtual 284, 3) := dk_182 1 28 (dk_at dksJ21_compareTo_0 5 rfl rfl)
theorem dJ21_compareTo_8 : decode cJ21_compareTo 8 = .ok (.ireturn, 1) := dk_172 (dk_at dksJ21_compareTo_0 8 rfl rfl)
abbrev cJ21_compareTo_2 : ByteArray := prog_18_method_39_code
def yJ21_compareTo_2 : MethodName := ⟨RJ21, "compareTo", "(Ljava/lang/Integer;)I"⟩
def dkwJ21_compareTo_2_0 : List UInt8 := [42, 180, 0, 205, 43, 180, 0, 205, 184, 1, 3, 172]
abbrev dktJ21_compareTo_2_0 : List UInt8 := dkwJ21_compareTo_2_0 ++ []
theorem dksJ21_compareTo_2_0 : cJ21_compareTo_2.data.toList.drop 0 = dktJ21_compareTo_2_0 := by decide +kernel
theorem dJ21_compareTo_2_0 : decode cJ21_compareTo_2 0 = .ok (.aload_n 0, 1) := dk_42 (dk_at dksJ21_compareTo_2_0 0 rfl rfl)
theorem dJ21_compareTo_2_1 : decode cJ21_compareTo_2 1 = .ok (.getfield 205, 3) := dk_180 0 205 (dk_at dksJ21_compareTo_2_0 1 rfl rfl)
theorem dJ21_compareTo_2_4 : decode cJ21_compareTo_2 4 = .ok (.aload_n 1, 1) := dk_43 (dk_at dksJ21_compareTo_2_0 4 rfl rfl)
theorem dJ21_compareTo_2_5 : decode cJ21_compareTo_2 5 = .ok (.getfield 205, 3) := dk_180 0 205 (dk_at dksJ21_compareTo_2_0 5 rfl rfl)
theorem dJ21_compareTo_2_8 : decode cJ21_compareTo_2 8 = .ok (.invokestatic 259, 3) := dk_184 1 3 (dk_at dksJ21_compareTo_2_0 8 rfl rfl)
theorem dJ21_compareTo_2_11 : decode cJ21_compareTo_2 11 = .ok (.ireturn, 1) := dk_172 (dk_at dksJ21_compareTo_2_0 11 rfl rfl)
theorem q72 : (Jvm.Cond.initialized "java/lang/Integer") ∈ lw_all := lw_g (lw_at lw_m1 27 rfl) rfl
theorem q422 : (Jvm.Cond.static ({ cls := "java/lang/Integer", name := "compare", desc := "(II)I" } : Jvm.MethodName)) ∈ lw_all := lw_g (lw_at lw_m2 137 rfl) rfl
theorem q423 : (Jvm.Cond.code ({ cls := "java/lang/Integer", name := "compare", desc := "(II)I" } : Jvm.MethodName) prog_18_method_40_code (2 : Nat) (Option.some Jvm.ClassFile.FieldType.int)) ∈ lw_all := lw_g (lw_at lw_m2 138 rfl) rfl
theorem q576 : (Jvm.Cond.selects "java/lang/Integer" ({ cls := "java/lang/Object", name := "getClass", desc := "()Ljava/lang/Class;" } : Jvm.MethodName) ({ cls := "java/lang/Object", name := "getClass", desc := "()Ljava/lang/Class;" } : Jvm.MethodName)) ∈ lw_all := lw_g (lw_at lw_m3 51 rfl) rfl
theorem q750 : (Jvm.Cond.static ({ cls := "java/lang/Integer", name := "bitCount", desc := "(I)I" } : Jvm.MethodName)) ∈ lw_all := lw_g (lw_at lw_m3 225 rfl) rfl
theorem q751 : (Jvm.Cond.code ({ cls := "java/lang/Integer", name := "bitCount", desc := "(I)I" } : Jvm.MethodName) prog_18_method_49_code (1 : Nat) (Option.some Jvm.ClassFile.FieldType.int)) ∈ lw_all := lw_g (lw_at lw_m3 226 rfl) rfl
theorem q752 : (Jvm.Cond.constant "java/lang/Integer" (265 : Nat) (1431655765 : Int32)) ∈ lw_all := lw_g (lw_at lw_m3 227 rfl) rfl
theorem q753 : (Jvm.Cond.constant "java/lang/Integer" (266 : Nat) (858993459 : Int32)) ∈ lw_all := lw_g (lw_at lw_m3 228 rfl) rfl
theorem q754 : (Jvm.Cond.constant "java/lang/Integer" (267 : Nat) (252645135 : Int32)) ∈ lw_all := lw_g (lw_at lw_m3 229 rfl) rfl
theorem q874 : (Jvm.Cond.static ({ cls := "java/lang/Integer", name := "valueOf", desc := "(I)Ljava/lang/Integer;" } : Jvm.MethodName)) ∈ lw_all := lw_g (lw_at lw_m4 109 rfl) rfl
theorem q875 : (Jvm.Cond.code ({ cls := "java/lang/Integer", name := "valueOf", desc := "(I)Ljava/lang/Integer;" } : Jvm.MethodName) prog_18_method_22_code (1 : Nat) (Option.some (Jvm.ClassFile.FieldType.object "java/lang/Integer"))) ∈ lw_all := lw_g (lw_at lw_m4 110 rfl) rfl
theorem q876 : (Jvm.Cond.fieldLink "java/lang/Integer" (191 : Nat) "java/lang/Integer$IntegerCache" "high" "I") ∈ lw_all := lw_g (lw_at lw_m4 111 rfl) rfl
theorem q878 : (Jvm.Cond.fieldLink "java/lang/Integer" (195 : Nat) "java/lang/Integer$IntegerCache" "cache" "[Ljava/lang/Integer;") ∈ lw_all := lw_g (lw_at lw_m4 113 rfl) rfl
theorem q880 : (Jvm.Cond.classLink "java/lang/Integer" (1 : Nat) "java/lang/Integer") ∈ lw_all := lw_g (lw_at lw_m4 115 rfl) rfl
theorem q881 : (Jvm.Cond.instantiable "java/lang/Integer" (1 : Nat)) ∈ lw_all := lw_g (lw_at lw_m4 116 rfl) rfl
theorem q882 : (Jvm.Cond.methodLink "java/lang/Integer" (199 : Nat) ({ cls := "java/lang/Integer", name := "<init>", desc := "(I)V" } : Jvm.MethodName)) ∈ lw_all := lw_g (lw_at lw_m4 117 rfl) rfl
theorem q883 : (Jvm.Cond.instanceMethod ({ cls := "java/lang/Integer", name := "<init>", desc := "(I)V" } : Jvm.MethodName)) ∈ lw_all := lw_g (lw_at lw_m4 118 rfl) rfl
theorem q884 : (Jvm.Cond.code ({ cls := "java/lang/Integer", name := "<init>", desc := "(I)V" } : Jvm.MethodName) prog_18_method_23_code (2 : Nat) (Option.none : Option Jvm.ClassFile.FieldType)) ∈ lw_all := lw_g (lw_at lw_m4 119 rfl) rfl
theorem q885 : (Jvm.Cond.methodLink "java/lang/Integer" (202 : Nat) ({ cls := "java/lang/Number", name := "<init>", desc := "()V" } : Jvm.MethodName)) ∈ lw_all := lw_g (lw_at lw_m4 120 rfl) rfl
theorem q889 : (Jvm.Cond.fieldLink "java/lang/Integer" (205 : Nat) "java/lang/Integer" "value" "I") ∈ lw_all := lw_g (lw_at lw_m4 124 rfl) rfl
theorem q890 : (Jvm.Cond.laysFinal "java/lang/Integer" "java/lang/Integer" "value" "I") ∈ lw_all := lw_g (lw_at lw_m4 125 rfl) rfl
theorem q891 : (Jvm.Cond.soleField "java/lang/Integer" "value") ∈ lw_all := lw_g (lw_at lw_m4 126 rfl) rfl
theorem q892 : (Jvm.Cond.superclass "java/lang/Integer" "java/lang/Number") ∈ lw_all := lw_g (lw_at lw_m4 127 rfl) rfl
theorem q925 : (Jvm.Cond.castable "java/lang/Integer" "java/lang/Comparable") ∈ lw_tbl := lw_at lw_m4 160 rfl
theorem q926 : (Jvm.Cond.selects "java/lang/Integer" ({ cls := "java/lang/Comparable", name := "compareTo", desc := "(Ljava/lang/Object;)I" } : Jvm.MethodName) ({ cls := "java/lang/Integer", name := "compareTo", desc := "(Ljava/lang/Object;)I" } : Jvm.MethodName)) ∈ lw_all := lw_g (lw_at lw_m4 161 rfl) rfl
theorem q927 : (Jvm.Cond.unhidden "java/lang/Integer" "compareTo" "(Ljava/lang/Object;)I") ∈ lw_tbl := lw_at lw_m4 162 rfl
theorem q928 : (Jvm.Cond.instanceMethod ({ cls := "java/lang/Integer", name := "compareTo", desc := "(Ljava/lang/Object;)I" } : Jvm.MethodName)) ∈ lw_all := lw_g (lw_at lw_m4 163 rfl) rfl
theorem q929 : (Jvm.Cond.publicMethod ({ cls := "java/lang/Integer", name := "compareTo", desc := "(Ljava/lang/Object;)I" } : Jvm.MethodName)) ∈ lw_tbl := lw_at lw_m4 164 rfl
theorem q930 : (Jvm.Cond.code ({ cls := "java/lang/Integer", name := "compareTo", desc := "(Ljava/lang/Object;)I" } : Jvm.MethodName) prog_18_method_63_code (2 : Nat) (Option.some Jvm.ClassFile.FieldType.int)) ∈ lw_all := lw_g (lw_at lw_m4 165 rfl) rfl
theorem q931 : (Jvm.Cond.methodLink "java/lang/Integer" (284 : Nat) ({ cls := "java/lang/Integer", name := "compareTo", desc := "(Ljava/lang/Integer;)I" } : Jvm.MethodName)) ∈ lw_all := lw_g (lw_at lw_m4 166 rfl) rfl
theorem q932 : (Jvm.Cond.instanceMethod ({ cls := "java/lang/Integer", name := "compareTo", desc := "(Ljava/lang/Integer;)I" } : Jvm.MethodName)) ∈ lw_all := lw_g (lw_at lw_m4 167 rfl) rfl
theorem q933 : (Jvm.Cond.selects "java/lang/Integer" ({ cls := "java/lang/Integer", name := "compareTo", desc := "(Ljava/lang/Integer;)I" } : Jvm.MethodName) ({ cls := "java/lang/Integer", name := "compareTo", desc := "(Ljava/lang/Integer;)I" } : Jvm.MethodName)) ∈ lw_all := lw_g (lw_at lw_m4 168 rfl) rfl
theorem q934 : (Jvm.Cond.code ({ cls := "java/lang/Integer", name := "compareTo", desc := "(Ljava/lang/Integer;)I" } : Jvm.MethodName) prog_18_method_39_code (2 : Nat) (Option.some Jvm.ClassFile.FieldType.int)) ∈ lw_all := lw_g (lw_at lw_m4 169 rfl) rfl
theorem q935 : (Jvm.Cond.methodLink "java/lang/Integer" (259 : Nat) ({ cls := "java/lang/Integer", name := "compare", desc := "(II)I" } : Jvm.MethodName)) ∈ lw_all := lw_g (lw_at lw_m4 170 rfl) rfl
theorem q1444 : (Jvm.Cond.castable "java/lang/Integer" "java/lang/Object") ∈ lw_tbl := lw_at lw_m6 199 rfl
theorem in_J21 : ∀ w ∈ wsJ210, w ∈ lw_all := lw_in wsJ210 [890] (by decide +kernel) (by decide +kernel)
/-! java/util/TreeMap$Values -/
set_option maxRecDepth 100000
def RJ22 : String := "java/util/TreeMap$Values"
def TJ22 : u_T := fun k => match k with
  | _ => ("java/util/TreeMap$Values", "this$0", "Ljava/util/TreeMap;", true)
def tyJ22 : Nat → FieldType := fun k => match k with
  | _ => .object "java/util/TreeMap"
abbrev wsJ220 : List Cond := u_ws RJ22 TJ22 1
theorem nmJ22 : ∀ a, a < 1 → ∀ b, b < 1 → a ≠ b → (TJ22 a).2.1 ≠ (TJ22 b).2.1 := by decide +kernel
theorem tyJ22_ok : ∀ k, k < 1 → parseFieldDescriptor (TJ22 k).2.2.1 = some (tyJ22 k) := by decide +kernel
abbrev cJ22_init : ByteArray := prog_52_method_1_code
def yJ22_init : MethodName := ⟨RJ22, "<init>", "(Ljava/util/TreeMap;)V"⟩
def dkwJ22_init_0 : List UInt8 := [42, 43, 181, 0, 1, 42, 183, 0, 7, 177]
abbrev dktJ22_init_0 : List UInt8 := dkwJ22_init_0 ++ []
theorem dksJ22_init_0 : cJ22_init.data.toList.drop 0 = dktJ22_init_0 := by decide +kernel
theorem dJ22_init_0 : decode cJ22_init 0 = .ok (.aload_n 0, 1) := dk_42 (dk_at dksJ22_init_0 0 rfl rfl)
theorem dJ22_init_1 : decode cJ22_init 1 = .ok (.aload_n 1, 1) := dk_43 (dk_at dksJ22_init_0 1 rfl rfl)
theorem dJ22_init_2 : decode cJ22_init 2 = .ok (.putfield 1, 3) := dk_181 0 1 (dk_at dksJ22_init_0 2 rfl rfl)
theorem dJ22_init_5 : decode cJ22_init 5 = .ok (.aload_n 0, 1) := dk_42 (dk_at dksJ22_init_0 5 rfl rfl)
theorem dJ22_init_6 : decode cJ22_init 6 = .ok (.invokespecial 7, 3) := dk_183 0 7 (dk_at dksJ22_init_0 6 rfl rfl)
theorem dJ22_init_9 : decode cJ22_init 9 = .ok (.return_, 1) := dk_177 (dk_at dksJ22_init_0 9 rfl rfl)
abbrev cJ22_iterator : ByteArray := prog_52_method_2_code
def yJ22_iterator : MethodName := ⟨RJ22, "iterator", "()Ljava/util/Iterator;"⟩
def dkwJ22_iterator_0 : List UInt8 := [187, 0, 13, 89, 42, 180, 0, 1, 42, 180, 0, 1, 182, 0, 15, 183, 0, 21, 176]
abbrev dktJ22_iterator_0 : List UInt8 := dkwJ22_iterator_0 ++ []
theorem dksJ22_iterator_0 : cJ22_iterator.data.toList.drop 0 = dktJ22_iterator_0 := by decide +kernel
theorem dJ22_iterator_0 : decode cJ22_iterator 0 = .ok (.new 13, 3) := dk_187 0 13 (dk_at dksJ22_iterator_0 0 rfl rfl)
theorem dJ22_iterator_3 : decode cJ22_iterator 3 = .ok (.dup, 1) := dk_89 (dk_at dksJ22_iterator_0 3 rfl rfl)
theorem dJ22_iterator_4 : decode cJ22_iterator 4 = .ok (.aload_n 0, 1) := dk_42 (dk_at dksJ22_iterator_0 4 rfl rfl)
theorem dJ22_iterator_5 : decode cJ22_iterator 5 = .ok (.getfield 1, 3) := dk_180 0 1 (dk_at dksJ22_iterator_0 5 rfl rfl)
theorem dJ22_iterator_8 : decode cJ22_iterator 8 = .ok (.aload_n 0, 1) := dk_42 (dk_at dksJ22_iterator_0 8 rfl rfl)
theorem dJ22_iterator_9 : decode cJ22_iterator 9 = .ok (.getfield 1, 3) := dk_180 0 1 (dk_at dksJ22_iterator_0 9 rfl rfl)
theorem dJ22_iterator_12 : decode cJ22_iterator 12 = .ok (.invokevirtual 15, 3) := dk_182 0 15 (dk_at dksJ22_iterator_0 12 rfl rfl)
theorem dJ22_iterator_15 : decode cJ22_iterator 15 = .ok (.invokespecial 21, 3) := dk_183 0 21 (dk_at dksJ22_iterator_0 15 rfl rfl)
theorem dJ22_iterator_18 : decode cJ22_iterator 18 = .ok (.areturn, 1) := dk_176 (dk_at dksJ22_iterator_0 18 rfl rfl)
theorem q74 : (Jvm.Cond.initialized "java/util/TreeMap$Values") ∈ lw_all := lw_g (lw_at lw_m1 29 rfl) rfl
theorem q359 : (Jvm.Cond.instantiable "java/util/TreeMap$Values" (1 : Nat)) ∈ lw_all := lw_g (lw_at lw_m2 74 rfl) rfl
theorem q361 : (Jvm.Cond.instanceMethod ({ cls := "java/util/TreeMap$Values", name := "<init>", desc := "(Ljava/util/TreeMap;)V" } : Jvm.MethodName)) ∈ lw_all := lw_g (lw_at lw_m2 76 rfl) rfl
theorem q362 : (Jvm.Cond.code ({ cls := "java/util/TreeMap$Values", name := "<init>", desc := "(Ljava/util/TreeMap;)V" } : Jvm.MethodName) prog_52_method_1_code (2 : Nat) (Option.none : Option Jvm.ClassFile.FieldType)) ∈ lw_all := lw_g (lw_at lw_m2 77 rfl) rfl
theorem q363 : (Jvm.Cond.methodLink "java/util/TreeMap$Values" (7 : Nat) ({ cls := "java/util/AbstractCollection", name := "<init>", desc := "()V" } : Jvm.MethodName)) ∈ lw_all := lw_g (lw_at lw_m2 78 rfl) rfl
theorem q364 : (Jvm.Cond.fieldLink "java/util/TreeMap$Values" (1 : Nat) "java/util/TreeMap$Values" "this$0" "Ljava/util/TreeMap;") ∈ lw_all := lw_g (lw_at lw_m2 79 rfl) rfl
theorem q365 : (Jvm.Cond.laysFinal "java/util/TreeMap$Values" "java/util/TreeMap$Values" "this$0" "Ljava/util/TreeMap;") ∈ lw_all := lw_g (lw_at lw_m2 80 rfl) rfl
theorem q366 : (Jvm.Cond.soleField "java/util/TreeMap$Values" "this$0") ∈ lw_all := lw_g (lw_at lw_m2 81 rfl) rfl
theorem q367 : (Jvm.Cond.superclass "java/util/TreeMap$Values" "java/util/AbstractCollection") ∈ lw_all := lw_g (lw_at lw_m2 82 rfl) rfl
theorem q376 : (Jvm.Cond.castable "java/util/TreeMap$Values" "java/util/Collection") ∈ lw_tbl := lw_at lw_m2 91 rfl
theorem q377 : (Jvm.Cond.selects "java/util/TreeMap$Values" ({ cls := "java/util/Collection", name := "iterator", desc := "()Ljava/util/Iterator;" } : Jvm.MethodName) ({ cls := "java/util/TreeMap$Values", name := "iterator", desc := "()Ljava/util/Iterator;" } : Jvm.MethodName)) ∈ lw_all := lw_g (lw_at lw_m2 92 rfl) rfl
theorem q378 : (Jvm.Cond.unhidden "java/util/TreeMap$Values" "iterator" "()Ljava/util/Iterator;") ∈ lw_tbl := lw_at lw_m2 93 rfl
theorem q379 : (Jvm.Cond.instanceMethod ({ cls := "java/util/TreeMap$Values", name := "iterator", desc := "()Ljava/util/Iterator;" } : Jvm.MethodName)) ∈ lw_all := lw_g (lw_at lw_m2 94 rfl) rfl
theorem q380 : (Jvm.Cond.publicMethod ({ cls := "java/util/TreeMap$Values", name := "iterator", desc := "()Ljava/util/Iterator;" } : Jvm.MethodName)) ∈ lw_tbl := lw_at lw_m2 95 rfl
theorem q381 : (Jvm.Cond.code ({ cls := "java/util/TreeMap$Values", name := "iterator", desc := "()Ljava/util/Iterator;" } : Jvm.MethodName) prog_52_method_2_code (1 : Nat) (Option.some (Jvm.ClassFile.FieldType.object "java/util/Iterator"))) ∈ lw_all := lw_g (lw_at lw_m2 96 rfl) rfl
theorem q382 : (Jvm.Cond.classLink "java/util/TreeMap$Values" (13 : Nat) "java/util/TreeMap$ValueIterator") ∈ lw_all := lw_g (lw_at lw_m2 97 rfl) rfl
theorem q384 : (Jvm.Cond.methodLink "java/util/TreeMap$Values" (15 : Nat) ({ cls := "java/util/TreeMap", name := "getFirstEntry", desc := "()Ljava/util/TreeMap$Entry;" } : Jvm.MethodName)) ∈ lw_all := lw_g (lw_at lw_m2 99 rfl) rfl
theorem q388 : (Jvm.Cond.methodLink "java/util/TreeMap$Values" (21 : Nat) ({ cls := "java/util/TreeMap$ValueIterator", name := "<init>", desc := "(Ljava/util/TreeMap;Ljava/util/TreeMap$Entry;)V" } : Jvm.MethodName)) ∈ lw_all := lw_g (lw_at lw_m2 103 rfl) rfl
theorem q583 : (Jvm.Cond.selects "java/util/TreeMap$Values" ({ cls := "java/lang/Object", name := "getClass", desc := "()Ljava/lang/Class;" } : Jvm.MethodName) ({ cls := "java/lang/Object", name := "getClass", desc := "()Ljava/lang/Class;" } : Jvm.MethodName)) ∈ lw_all := lw_g (lw_at lw_m3 58 rfl) rfl
theorem q1442 : (Jvm.Cond.castable "java/util/TreeMap$Values" "java/lang/Object") ∈ lw_tbl := lw_at lw_m6 197 rfl
theorem in_J22 : ∀ w ∈ wsJ220, w ∈ lw_all := lw_in wsJ220 [365] (by decide +kernel) (by decide +kernel)
/-! java/util/TreeMap$PrivateEntryIterator -/
set_option maxRecDepth 100000
def RJ23 : String := "java/util/TreeMap$PrivateEntryIterator"
abbrev cJ23_hasNext : ByteArray := prog_50_method_2_code
def yJ23_hasNext : MethodName := ⟨RJ23, "hasNext", "()Z"⟩
def dkwJ23_hasNext_0 : List UInt8 := [42, 180, 0, 26, 198, 0, 7, 4, 167, 0, 4, 3, 172]
abbrev dktJ23_hasNext_0 : List UInt8 := dkwJ23_hasNext_0 ++ []
theorem dksJ23_hasNext_0 : cJ23_hasNext.data.toList.drop 0 = dktJ23_hasNext_0 := by decide +kernel
theorem dJ23_hasNext_0 : decode cJ23_hasNext 0 = .ok (.aload_n 0, 1) := dk_42 (dk_at dksJ23_hasNext_0 0 rfl rfl)
theorem dJ23_hasNext_1 : decode cJ23_hasNext 1 = .ok (.getfield 26, 3) := dk_180 0 26 (dk_at dksJ23_hasNext_0 1 rfl rfl)
theorem dJ23_hasNext_4 : decode cJ23_hasNext 4 = .ok (.ifnull 7, 3) := dk_198 0 7 (dk_at dksJ23_hasNext_0 4 rfl rfl)
theorem dJ23_hasNext_7 : decode cJ23_hasNext 7 = .ok (.iconst 1, 1) := dk_4 (dk_at dksJ23_hasNext_0 7 rfl rfl)
theorem dJ23_hasNext_8 : decode cJ23_hasNext 8 = .ok (.goto 4, 3) := dk_167 0 4 (dk_at dksJ23_hasNext_0 8 rfl rfl)
theorem dJ23_hasNext_11 : decode cJ23_hasNext 11 = .ok (.iconst 0, 1) := dk_3 (dk_at dksJ23_hasNext_0 11 rfl rfl)
theorem dJ23_hasNext_12 : decode cJ23_hasNext 12 = .ok (.ireturn, 1) := dk_172 (dk_at dksJ23_hasNext_0 12 rfl rfl)
abbrev cJ23_nextEntry : ByteArray := prog_50_method_3_code
def yJ23_nextEntry : MethodName := ⟨RJ23, "nextEntry", "()Ljava/util/TreeMap$Entry;"⟩
def dkwJ23_nextEntry_2 : List UInt8 := [43, 181, 0, 22, 43, 176]
abbrev dktJ23_nextEntry_2 : List UInt8 := dkwJ23_nextEntry_2 ++ []
def dkwJ23_nextEntry_1 : List UInt8 := [42, 180, 0, 19, 159, 0, 11, 187, 0, 32, 89, 183, 0, 34, 191, 42, 43, 184, 0, 35, 181, 0, 26, 42]
abbrev dktJ23_nextEntry_1 : List UInt8 := dkwJ23_nextEntry_1 ++ dktJ23_nextEntry_2
def dkwJ23_nextEntry_0 : List UInt8 := [42, 180, 0, 26, 76, 43, 199, 0, 11, 187, 0, 29, 89, 183, 0, 31, 191, 42, 180, 0, 1, 180, 0, 13]
abbrev dktJ23_nextEntry_0 : List UInt8 := dkwJ23_nextEntry_0 ++ dktJ23_nextEntry_1
theorem dksJ23_nextEntry_0 : cJ23_nextEntry.data.toList.drop 0 = dktJ23_nextEntry_0 := by decide +kernel
theorem dksJ23_nextEntry_1 : cJ23_nextEntry.data.toList.drop 24 = dktJ23_nextEntry_1 := dk_seg dksJ23_nextEntry_0 24 rfl rfl
theorem dksJ23_nextEntry_2 : cJ23_nextEntry.data.toList.drop 48 = dktJ23_nextEntry_2 := dk_seg dksJ23_nextEntry_1 24 rfl rfl
theorem dJ23_nextEntry_0 : decode cJ23_nextEntry 0 = .ok (.aload_n 0, 1) := dk_42 (dk_at dksJ23_nextEntry_0 0 rfl rfl)
theorem dJ23_nextEntry_1 : decode cJ23_nextEntry 1 = .ok (.getfield 26, 3) := dk_180 0 26 (dk_at dksJ23_nextEntry_0 1 rfl rfl)
theorem dJ23_nextEntry_4 : decode cJ23_nextEntry 4 = .ok (.astore_n 1, 1) := dk_76 (dk_at dksJ23_nextEntry_0 4 rfl rfl)
theorem dJ23_nextEntry_5 : decode cJ23_nextEntry 5 = .ok (.aload_n 1, 1) := dk_43 (dk_at dksJ23_nextEntry_0 5 rfl rfl)
theorem dJ23_nextEntry_6 : decode cJ23_nextEntry 6 = .ok (.ifnonnull 11, 3) := dk_199 0 11 (dk_at dksJ23_nextEntry_0 6 rfl rfl)
theorem dJ23_nextEntry_9 : decode cJ23_nextEntry 9 = .ok (.new 29, 3) := dk_187 0 29 (dk_at dksJ23_nextEntry_0 9 rfl rfl)
theorem dJ23_nextEntry_12 : decode cJ23_nextEntry 12 = .ok (.dup, 1) := dk_89 (dk_at dksJ23_nextEntry_0 12 rfl rfl)
theorem dJ23_nextEntry_13 : decode cJ23_nextEntry 13 = .ok (.invokespecial 31, 3) := dk_183 0 31 (dk_at dksJ23_nextEntry_0 13 rfl rfl)
theorem dJ23_nextEntry_16 : decode cJ23_nextEntry 16 = .ok (.athrow, 1) := dk_191 (dk_at dksJ23_nextEntry_0 16 rfl rfl)
theorem dJ23_nextEntry_17 : decode cJ23_nextEntry 17 = .ok (.aload_n 0, 1) := dk_42 (dk_at dksJ23_nextEntry_0 17 rfl rfl)
theorem dJ23_nextEntry_18 : decode cJ23_nextEntry 18 = .ok (.getfield 1, 3) := dk_180 0 1 (dk_at dksJ23_nextEntry_0 18 rfl rfl)
theorem dJ23_nextEntry_21 : decode cJ23_nextEntry 21 = .ok (.getfield 13, 3) := dk_180 0 13 (dk_at dksJ23_nextEntry_0 21 rfl rfl)
theorem dJ23_nextEntry_24 : decode cJ23_nextEntry 24 = .ok (.aload_n 0, 1) := dk_42 (dk_at dksJ23_nextEntry_1 0 rfl rfl)
theorem dJ23_nextEntry_25 : decode cJ23_nextEntry 25 = .ok (.getfield 19, 3) := dk_180 0 19 (dk_at dksJ23_nextEntry_1 1 rfl rfl)
theorem dJ23_nextEntry_28 : decode cJ23_nextEntry 28 = .ok (.if_icmp .eq 11, 3) := dk_159 0 11 (dk_at dksJ23_nextEntry_1 4 rfl rfl)
theorem dJ23_nextEntry_31 : decode cJ23_nextEntry 31 = .ok (.new 32, 3) := dk_187 0 32 (dk_at dksJ23_nextEntry_1 7 rfl rfl)
theorem dJ23_nextEntry_34 : decode cJ23_nextEntry 34 = .ok (.dup, 1) := dk_89 (dk_at dksJ23_nextEntry_1 10 rfl rfl)
theorem dJ23_nextEntry_35 : decode cJ23_nextEntry 35 = .ok (.invokespecial 34, 3) := dk_183 0 34 (dk_at dksJ23_nextEntry_1 11 rfl rfl)
theorem dJ23_nextEntry_38 : decode cJ23_nextEntry 38 = .ok (.athrow, 1) := dk_191 (dk_at dksJ23_nextEntry_1 14 rfl rfl)
theorem dJ23_nextEntry_39 : decode cJ23_nextEntry 39 = .ok (.aload_n 0, 1) := dk_42 (dk_at dksJ23_nextEntry_1 15 rfl rfl)
theorem dJ23_nextEntry_40 : decode cJ23_nextEntry 40 = .ok (.aload_n 1, 1) := dk_43 (dk_at dksJ23_nextEntry_1 16 rfl rfl)
theorem dJ23_nextEntry_41 : decode cJ23_nextEntry 41 = .ok (.invokestatic 35, 3) := dk_184 0 35 (dk_at dksJ23_nextEntry_1 17 rfl rfl)
theorem dJ23_nextEntry_44 : decode cJ23_nextEntry 44 = .ok (.putfield 26, 3) := dk_181 0 26 (dk_at dksJ23_nextEntry_1 20 rfl rfl)
theorem dJ23_nextEntry_47 : decode cJ23_nextEntry 47 = .ok (.aload_n 0, 1) := dk_42 (dk_at dksJ23_nextEntry_1 23 rfl rfl)
theorem dJ23_nextEntry_48 : decode cJ23_nextEntry 48 = .ok (.aload_n 1, 1) := dk_43 (dk_at dksJ23_nextEntry_2 0 rfl rfl)
theorem dJ23_nextEntry_49 : decode cJ23_nextEntry 49 = .ok (.putfield 22, 3) := dk_181 0 22 (dk_at dksJ23_nextEntry_2 1 rfl rfl)
theorem dJ23_nextEntry_52 : decode cJ23_nextEntry 52 = .ok (.aload_n 1, 1) := dk_43 (dk_at dksJ23_nextEntry_2 4 rfl rfl)
theorem dJ23_nextEntry_53 : decode cJ23_nextEntry 53 = .ok (.areturn, 1) := dk_176 (dk_at dksJ23_nextEntry_2 5 rfl rfl)
abbrev cJ23_init : ByteArray := prog_50_method_1_code
def yJ23_init : MethodName := ⟨RJ23, "<init>", "(Ljava/util/TreeMap;Ljava/util/TreeMap$Entry;)V"⟩
def dkwJ23_init_1 : List UInt8 := [181, 0, 26, 177]
abbrev dktJ23_init_1 : List UInt8 := dkwJ23_init_1 ++ []
def dkwJ23_init_0 : List UInt8 := [42, 43, 181, 0, 1, 42, 183, 0, 7, 42, 43, 180, 0, 13, 181, 0, 19, 42, 1, 181, 0, 22, 42, 44]
abbrev dktJ23_init_0 : List UInt8 := dkwJ23_init_0 ++ dktJ23_init_1
theorem dksJ23_init_0 : cJ23_init.data.toList.drop 0 = dktJ23_init_0 := by decide +kernel
theorem dksJ23_init_1 : cJ23_init.data.toList.drop 24 = dktJ23_init_1 := dk_seg dksJ23_init_0 24 rfl rfl
theorem dJ23_init_0 : decode cJ23_init 0 = .ok (.aload_n 0, 1) := dk_42 (dk_at dksJ23_init_0 0 rfl rfl)
theorem dJ23_init_1 : decode cJ23_init 1 = .ok (.aload_n 1, 1) := dk_43 (dk_at dksJ23_init_0 1 rfl rfl)
theorem dJ23_init_2 : decode cJ23_init 2 = .ok (.putfield 1, 3) := dk_181 0 1 (dk_at dksJ23_init_0 2 rfl rfl)
theorem dJ23_init_5 : decode cJ23_init 5 = .ok (.aload_n 0, 1) := dk_42 (dk_at dksJ23_init_0 5 rfl rfl)
theorem dJ23_init_6 : decode cJ23_init 6 = .ok (.invokespecial 7, 3) := dk_183 0 7 (dk_at dksJ23_init_0 6 rfl rfl)
theorem dJ23_init_9 : decode cJ23_init 9 = .ok (.aload_n 0, 1) := dk_42 (dk_at dksJ23_init_0 9 rfl rfl)
theorem dJ23_init_10 : decode cJ23_init 10 = .ok (.aload_n 1, 1) := dk_43 (dk_at dksJ23_init_0 10 rfl rfl)
theorem dJ23_init_11 : decode cJ23_init 11 = .ok (.getfield 13, 3) := dk_180 0 13 (dk_at dksJ23_init_0 11 rfl rfl)
theorem dJ23_init_14 : decode cJ23_init 14 = .ok (.putfield 19, 3) := dk_181 0 19 (dk_at dksJ23_init_0 14 rfl rfl)
theorem dJ23_init_17 : decode cJ23_init 17 = .ok (.aload_n 0, 1) := dk_42 (dk_at dksJ23_init_0 17 rfl rfl)
theorem dJ23_init_18 : decode cJ23_init 18 = .ok (.aconst_null, 1) := dk_1 (dk_at dksJ23_init_0 18 rfl rfl)
theorem dJ23_init_19 : decode cJ23_init 19 = .ok (.putfield 22, 3) := dk_181 0 22 (dk_at dksJ23_init_0 19 rfl rfl)
theorem dJ23_init_22 : decode cJ23_init 22 = .ok (.aload_n 0, 1) := dk_42 (dk_at dksJ23_init_0 22 rfl rfl)
theorem dJ23_init_23 : decode cJ23_init 23 = .ok (.aload_n 2, 1) := dk_44 (dk_at dksJ23_init_0 23 rfl rfl)
theorem dJ23_init_24 : decode cJ23_init 24 = .ok (.putfield 26, 3) := dk_181 0 26 (dk_at dksJ23_init_1 0 rfl rfl)
theorem dJ23_init_27 : decode cJ23_init 27 = .ok (.return_, 1) := dk_177 (dk_at dksJ23_init_1 3 rfl rfl)
theorem q75 : (Jvm.Cond.initialized "java/util/TreeMap$PrivateEntryIterator") ∈ lw_all := lw_g (lw_at lw_m1 30 rfl) rfl
theorem q189 : (Jvm.Cond.instanceMethod ({ cls := "java/util/TreeMap$PrivateEntryIterator", name := "hasNext", desc := "()Z" } : Jvm.MethodName)) ∈ lw_all := lw_g (lw_at lw_m1 144 rfl) rfl
theorem q190 : (Jvm.Cond.publicMethod ({ cls := "java/util/TreeMap$PrivateEntryIterator", name := "hasNext", desc := "()Z" } : Jvm.MethodName)) ∈ lw_tbl := lw_at lw_m1 145 rfl
theorem q191 : (Jvm.Cond.code ({ cls := "java/util/TreeMap$PrivateEntryIterator", name := "hasNext", desc := "()Z" } : Jvm.MethodName) prog_50_method_2_code (1 : Nat) (Option.some Jvm.ClassFile.FieldType.boolean)) ∈ lw_all := lw_g (lw_at lw_m1 146 rfl) rfl
theorem q278 : (Jvm.Cond.declares ({ cls := "java/util/TreeMap$PrivateEntryIterator", name := "nextEntry", desc := "()Ljava/util/TreeMap$Entry;" } : Jvm.MethodName)) ∈ lw_tbl := lw_at lw_m1 233 rfl
theorem q280 : (Jvm.Cond.instanceMethod ({ cls := "java/util/TreeMap$PrivateEntryIterator", name := "nextEntry", desc := "()Ljava/util/TreeMap$Entry;" } : Jvm.MethodName)) ∈ lw_all := lw_g (lw_at lw_m1 235 rfl) rfl
theorem q281 : (Jvm.Cond.code ({ cls := "java/util/TreeMap$PrivateEntryIterator", name := "nextEntry", desc := "()Ljava/util/TreeMap$Entry;" } : Jvm.MethodName) prog_50_method_3_code (2 : Nat) (Option.some (Jvm.ClassFile.FieldType.object "java/util/TreeMap$Entry"))) ∈ lw_all := lw_g (lw_at lw_m1 236 rfl) rfl
theorem q282 : (Jvm.Cond.classLink "java/util/TreeMap$PrivateEntryIterator" (29 : Nat) "java/util/NoSuchElementException") ∈ lw_all := lw_g (lw_at lw_m1 237 rfl) rfl
theorem q283 : (Jvm.Cond.methodLink "java/util/TreeMap$PrivateEntryIterator" (31 : Nat) ({ cls := "java/util/NoSuchElementException", name := "<init>", desc := "()V" } : Jvm.MethodName)) ∈ lw_all := lw_g (lw_at lw_m1 238 rfl) rfl
theorem q284 : (Jvm.Cond.methodLink "java/util/TreeMap$PrivateEntryIterator" (35 : Nat) ({ cls := "java/util/TreeMap", name := "successor", desc := "(Ljava/util/TreeMap$Entry;)Ljava/util/TreeMap$Entry;" } : Jvm.MethodName)) ∈ lw_all := lw_g (lw_at lw_m1 239 rfl) rfl
theorem q392 : (Jvm.Cond.instanceMethod ({ cls := "java/util/TreeMap$PrivateEntryIterator", name := "<init>", desc := "(Ljava/util/TreeMap;Ljava/util/TreeMap$Entry;)V" } : Jvm.MethodName)) ∈ lw_all := lw_g (lw_at lw_m2 107 rfl) rfl
theorem q393 : (Jvm.Cond.code ({ cls := "java/util/TreeMap$PrivateEntryIterator", name := "<init>", desc := "(Ljava/util/TreeMap;Ljava/util/TreeMap$Entry;)V" } : Jvm.MethodName) prog_50_method_1_code (3 : Nat) (Option.none : Option Jvm.ClassFile.FieldType)) ∈ lw_all := lw_g (lw_at lw_m2 108 rfl) rfl
theorem q394 : (Jvm.Cond.methodLink "java/util/TreeMap$PrivateEntryIterator" (7 : Nat) ({ cls := "java/lang/Object", name := "<init>", desc := "()V" } : Jvm.MethodName)) ∈ lw_all := lw_g (lw_at lw_m2 109 rfl) rfl
theorem q395 : (Jvm.Cond.fieldLink "java/util/TreeMap$PrivateEntryIterator" (26 : Nat) "java/util/TreeMap$PrivateEntryIterator" "next" "Ljava/util/TreeMap$Entry;") ∈ lw_all := lw_g (lw_at lw_m2 110 rfl) rfl
theorem q396 : (Jvm.Cond.fieldLink "java/util/TreeMap$PrivateEntryIterator" (22 : Nat) "java/util/TreeMap$PrivateEntryIterator" "lastReturned" "Ljava/util/TreeMap$Entry;") ∈ lw_all := lw_g (lw_at lw_m2 111 rfl) rfl
theorem q397 : (Jvm.Cond.fieldLink "java/util/TreeMap$PrivateEntryIterator" (19 : Nat) "java/util/TreeMap$PrivateEntryIterator" "expectedModCount" "I") ∈ lw_all := lw_g (lw_at lw_m2 112 rfl) rfl
theorem q398 : (Jvm.Cond.fieldLink "java/util/TreeMap$PrivateEntryIterator" (1 : Nat) "java/util/TreeMap$PrivateEntryIterator" "this$0" "Ljava/util/TreeMap;") ∈ lw_all := lw_g (lw_at lw_m2 113 rfl) rfl
theorem q400 : (Jvm.Cond.soleField "java/util/TreeMap$PrivateEntryIterator" "next") ∈ lw_all := lw_g (lw_at lw_m2 115 rfl) rfl
theorem q402 : (Jvm.Cond.soleField "java/util/TreeMap$PrivateEntryIterator" "lastReturned") ∈ lw_all := lw_g (lw_at lw_m2 117 rfl) rfl
theorem q404 : (Jvm.Cond.soleField "java/util/TreeMap$PrivateEntryIterator" "expectedModCount") ∈ lw_all := lw_g (lw_at lw_m2 119 rfl) rfl
theorem q406 : (Jvm.Cond.soleField "java/util/TreeMap$PrivateEntryIterator" "this$0") ∈ lw_all := lw_g (lw_at lw_m2 121 rfl) rfl
theorem q679 : (Jvm.Cond.fieldLinkNest "java/util/TreeMap$PrivateEntryIterator" (13 : Nat) "java/util/TreeMap" "modCount" "I" "java/util/TreeMap") ∈ lw_tbl := lw_at lw_m3 154 rfl
/-! java/util/TreeMap$ValueIterator -/
set_option maxRecDepth 100000
def RJ24 : String := "java/util/TreeMap$ValueIterator"
def TJ24 : u_T := fun k => match k with
  | 0 => ("java/util/TreeMap$PrivateEntryIterator", "next", "Ljava/util/TreeMap$Entry;", false)
  | 1 => ("java/util/TreeMap$PrivateEntryIterator", "lastReturned", "Ljava/util/TreeMap$Entry;", false)
  | 2 => ("java/util/TreeMap$PrivateEntryIterator", "expectedModCount", "I", false)
  | _ => ("java/util/TreeMap$PrivateEntryIterator", "this$0", "Ljava/util/TreeMap;", true)
def tyJ24 : Nat → FieldType := fun k => match k with
  | 0 => .object "java/util/TreeMap$Entry"
  | 1 => .object "java/util/TreeMap$Entry"
  | 2 => .int
  | _ => .object "java/util/TreeMap"
abbrev wsJ240 : List Cond := u_ws RJ24 TJ24 4
theorem nmJ24 : ∀ a, a < 4 → ∀ b, b < 4 → a ≠ b → (TJ24 a).2.1 ≠ (TJ24 b).2.1 := by decide +kernel
theorem tyJ24_ok : ∀ k, k < 4 → parseFieldDescriptor (TJ24 k).2.2.1 = some (tyJ24 k) := by decide +kernel
abbrev cJ24_next : ByteArray := prog_51_method_2_code
def yJ24_next : MethodName := ⟨RJ24, "next", "()Ljava/lang/Object;"⟩
def dkwJ24_next_0 : List UInt8 := [42, 182, 0, 7, 180, 0, 13, 176]
abbrev dktJ24_next_0 : List UInt8 := dkwJ24_next_0 ++ []
theorem dksJ24_next_0 : cJ24_next.data.toList.drop 0 = dktJ24_next_0 := by decide +kernel
theorem dJ24_next_0 : decode cJ24_next 0 = .ok (.aload_n 0, 1) := dk_42 (dk_at dksJ24_next_0 0 rfl rfl)
theorem dJ24_next_1 : decode cJ24_next 1 = .ok (.invokevirtual 7, 3) := dk_182 0 7 (dk_at dksJ24_next_0 1 rfl rfl)
theorem dJ24_next_4 : decode cJ24_next 4 = .ok (.getfield 13, 3) := dk_180 0 13 (dk_at dksJ24_next_0 4 rfl rfl)
theorem dJ24_next_7 : decode cJ24_next 7 = .ok (.areturn, 1) := dk_176 (dk_at dksJ24_next_0 7 rfl rfl)
abbrev cJ24_init : ByteArray := prog_51_method_1_code
def yJ24_init : MethodName := ⟨RJ24, "<init>", "(Ljava/util/TreeMap;Ljava/util/TreeMap$Entry;)V"⟩
def dkwJ24_init_0 : List UInt8 := [42, 43, 44, 183, 0, 1, 177]
abbrev dktJ24_init_0 : List UInt8 := dkwJ24_init_0 ++ []
theorem dksJ24_init_0 : cJ24_init.data.toList.drop 0 = dktJ24_init_0 := by decide +kernel
theorem dJ24_init_0 : decode cJ24_init 0 = .ok (.aload_n 0, 1) := dk_42 (dk_at dksJ24_init_0 0 rfl rfl)
theorem dJ24_init_1 : decode cJ24_init 1 = .ok (.aload_n 1, 1) := dk_43 (dk_at dksJ24_init_0 1 rfl rfl)
theorem dJ24_init_2 : decode cJ24_init 2 = .ok (.aload_n 2, 1) := dk_44 (dk_at dksJ24_init_0 2 rfl rfl)
theorem dJ24_init_3 : decode cJ24_init 3 = .ok (.invokespecial 1, 3) := dk_183 0 1 (dk_at dksJ24_init_0 3 rfl rfl)
theorem dJ24_init_6 : decode cJ24_init 6 = .ok (.return_, 1) := dk_177 (dk_at dksJ24_init_0 6 rfl rfl)
theorem q76 : (Jvm.Cond.initialized "java/util/TreeMap$ValueIterator") ∈ lw_all := lw_g (lw_at lw_m1 31 rfl) rfl
theorem q186 : (Jvm.Cond.castable "java/util/TreeMap$ValueIterator" "java/util/Iterator") ∈ lw_tbl := lw_at lw_m1 141 rfl
theorem q187 : (Jvm.Cond.selects "java/util/TreeMap$ValueIterator" ({ cls := "java/util/Iterator", name := "hasNext", desc := "()Z" } : Jvm.MethodName) ({ cls := "java/util/TreeMap$PrivateEntryIterator", name := "hasNext", desc := "()Z" } : Jvm.MethodName)) ∈ lw_all := lw_g (lw_at lw_m1 142 rfl) rfl
theorem q188 : (Jvm.Cond.unhidden "java/util/TreeMap$ValueIterator" "hasNext" "()Z") ∈ lw_tbl := lw_at lw_m1 143 rfl
theorem q271 : (Jvm.Cond.selects "java/util/TreeMap$ValueIterator" ({ cls := "java/util/Iterator", name := "next", desc := "()Ljava/lang/Object;" } : Jvm.MethodName) ({ cls := "java/util/TreeMap$ValueIterator", name := "next", desc := "()Ljava/lang/Object;" } : Jvm.MethodName)) ∈ lw_all := lw_g (lw_at lw_m1 226 rfl) rfl
theorem q272 : (Jvm.Cond.unhidden "java/util/TreeMap$ValueIterator" "next" "()Ljava/lang/Object;") ∈ lw_tbl := lw_at lw_m1 227 rfl
theorem q273 : (Jvm.Cond.instanceMethod ({ cls := "java/util/TreeMap$ValueIterator", name := "next", desc := "()Ljava/lang/Object;" } : Jvm.MethodName)) ∈ lw_all := lw_g (lw_at lw_m1 228 rfl) rfl
theorem q274 : (Jvm.Cond.publicMethod ({ cls := "java/util/TreeMap$ValueIterator", name := "next", desc := "()Ljava/lang/Object;" } : Jvm.MethodName)) ∈ lw_tbl := lw_at lw_m1 229 rfl
theorem q275 : (Jvm.Cond.code ({ cls := "java/util/TreeMap$ValueIterator", name := "next", desc := "()Ljava/lang/Object;" } : Jvm.MethodName) prog_51_method_2_code (1 : Nat) (Option.some (Jvm.ClassFile.FieldType.object "java/lang/Object"))) ∈ lw_all := lw_g (lw_at lw_m1 230 rfl) rfl
theorem q276 : (Jvm.Cond.methodLink "java/util/TreeMap$ValueIterator" (7 : Nat) ({ cls := "java/util/TreeMap$ValueIterator", name := "nextEntry", desc := "()Ljava/util/TreeMap$Entry;" } : Jvm.MethodName)) ∈ lw_all := lw_g (lw_at lw_m1 231 rfl) rfl
theorem q277 : (Jvm.Cond.sameMethod "java/util/TreeMap$ValueIterator" "java/util/TreeMap$PrivateEntryIterator" "nextEntry" "()Ljava/util/TreeMap$Entry;") ∈ lw_all := lw_g (lw_at lw_m1 232 rfl) rfl
theorem q279 : (Jvm.Cond.selects "java/util/TreeMap$ValueIterator" ({ cls := "java/util/TreeMap$ValueIterator", name := "nextEntry", desc := "()Ljava/util/TreeMap$Entry;" } : Jvm.MethodName) ({ cls := "java/util/TreeMap$PrivateEntryIterator", name := "nextEntry", desc := "()Ljava/util/TreeMap$Entry;" } : Jvm.MethodName)) ∈ lw_all := lw_g (lw_at lw_m1 234 rfl) rfl
theorem q383 : (Jvm.Cond.instantiable "java/util/TreeMap$ValueIterator" (4 : Nat)) ∈ lw_all := lw_g (lw_at lw_m2 98 rfl) rfl
theorem q389 : (Jvm.Cond.instanceMethod ({ cls := "java/util/TreeMap$ValueIterator", name := "<init>", desc := "(Ljava/util/TreeMap;Ljava/util/TreeMap$Entry;)V" } : Jvm.MethodName)) ∈ lw_all := lw_g (lw_at lw_m2 104 rfl) rfl
theorem q390 : (Jvm.Cond.code ({ cls := "java/util/TreeMap$ValueIterator", name := "<init>", desc := "(Ljava/util/TreeMap;Ljava/util/TreeMap$Entry;)V" } : Jvm.MethodName) prog_51_method_1_code (3 : Nat) (Option.none : Option Jvm.ClassFile.FieldType)) ∈ lw_all := lw_g (lw_at lw_m2 105 rfl) rfl
theorem q391 : (Jvm.Cond.methodLink "java/util/TreeMap$ValueIterator" (1 : Nat) ({ cls := "java/util/TreeMap$PrivateEntryIterator", name := "<init>", desc := "(Ljava/util/TreeMap;Ljava/util/TreeMap$Entry;)V" } : Jvm.MethodName)) ∈ lw_all := lw_g (lw_at lw_m2 106 rfl) rfl
theorem q399 : (Jvm.Cond.lays "java/util/TreeMap$ValueIterator" "java/util/TreeMap$PrivateEntryIterator" "next" "Ljava/util/TreeMap$Entry;") ∈ lw_all := lw_g (lw_at lw_m2 114 rfl) rfl
theorem q401 : (Jvm.Cond.lays "java/util/TreeMap$ValueIterator" "java/util/TreeMap$PrivateEntryIterator" "lastReturned" "Ljava/util/TreeMap$Entry;") ∈ lw_all := lw_g (lw_at lw_m2 116 rfl) rfl
theorem q403 : (Jvm.Cond.lays "java/util/TreeMap$ValueIterator" "java/util/TreeMap$PrivateEntryIterator" "expectedModCount" "I") ∈ lw_all := lw_g (lw_at lw_m2 118 rfl) rfl
theorem q405 : (Jvm.Cond.laysFinal "java/util/TreeMap$ValueIterator" "java/util/TreeMap$PrivateEntryIterator" "this$0" "Ljava/util/TreeMap;") ∈ lw_all := lw_g (lw_at lw_m2 120 rfl) rfl
theorem q407 : (Jvm.Cond.superclass "java/util/TreeMap$ValueIterator" "java/util/TreeMap$PrivateEntryIterator") ∈ lw_all := lw_g (lw_at lw_m2 122 rfl) rfl
theorem q582 : (Jvm.Cond.selects "java/util/TreeMap$ValueIterator" ({ cls := "java/lang/Object", name := "getClass", desc := "()Ljava/lang/Class;" } : Jvm.MethodName) ({ cls := "java/lang/Object", name := "getClass", desc := "()Ljava/lang/Class;" } : Jvm.MethodName)) ∈ lw_all := lw_g (lw_at lw_m3 57 rfl) rfl
theorem q1003 : (Jvm.Cond.fieldLink "java/util/TreeMap$ValueIterator" (13 : Nat) "java/util/TreeMap$Entry" "value" "Ljava/lang/Object;") ∈ lw_all := lw_g (lw_at lw_m4 238 rfl) rfl
theorem q1443 : (Jvm.Cond.castable "java/util/TreeMap$ValueIterator" "java/lang/Object") ∈ lw_tbl := lw_at lw_m6 198 rfl
theorem in_J24 : ∀ w ∈ wsJ240, w ∈ lw_all := lw_in wsJ240 [399, 401, 403, 405] (by decide +kernel) (by decide +kernel)
/-! java/util/TreeMap$Entry -/
set_option maxRecDepth 100000
def RJ25 : String := "java/util/TreeMap$Entry"
def TJ25 : u_T := fun k => match k with
  | 0 => ("java/util/TreeMap$Entry", "key", "Ljava/lang/Object;", false)
  | 1 => ("java/util/TreeMap$Entry", "value", "Ljava/lang/Object;", false)
  | 2 => ("java/util/TreeMap$Entry", "left", "Ljava/util/TreeMap$Entry;", false)
  | 3 => ("java/util/TreeMap$Entry", "right", "Ljava/util/TreeMap$Entry;", false)
  | 4 => ("java/util/TreeMap$Entry", "parent", "Ljava/util/TreeMap$Entry;", false)
  | _ => ("java/util/TreeMap$Entry", "color", "Z", false)
def tyJ25 : Nat → FieldType := fun k => match k with
  | 0 => .object "java/lang/Object"
  | 1 => .object "java/lang/Object"
  | 2 => .object "java/util/TreeMap$Entry"
  | 3 => .object "java/util/TreeMap$Entry"
  | 4 => .object "java/util/TreeMap$Entry"
  | _ => .boolean
abbrev wsJ250 : List Cond := u_ws RJ25 TJ25 6
theorem nmJ25 : ∀ a, a < 6 → ∀ b, b < 6 → a ≠ b → (TJ25 a).2.1 ≠ (TJ25 b).2.1 := by decide +kernel
theorem tyJ25_ok : ∀ k, k < 6 → parseFieldDescriptor (TJ25 k).2.2.1 = some (tyJ25 k) := by decide +kernel
abbrev cJ25_init : ByteArray := prog_49_method_1_code
def yJ25_init : MethodName := ⟨RJ25, "<init>", "(Ljava/lang/Object;Ljava/lang/Object;Ljava/util/TreeMap$Entry;)V"⟩
def dkwJ25_init_1 : List UInt8 := [177]
abbrev dktJ25_init_1 : List UInt8 := dkwJ25_init_1 ++ []
def dkwJ25_init_0 : List UInt8 := [42, 183, 0, 3, 42, 4, 181, 0, 9, 42, 43, 181, 0, 15, 42, 44, 181, 0, 19, 42, 45, 181, 0, 22]
abbrev dktJ25_init_0 : List UInt8 := dkwJ25_init_0 ++ dktJ25_init_1
theorem dksJ25_init_0 : cJ25_init.data.toList.drop 0 = dktJ25_init_0 := by decide +kernel
theorem dksJ25_init_1 : cJ25_init.data.toList.drop 24 = dktJ25_init_1 := dk_seg dksJ25_init_0 24 rfl rfl
theorem dJ25_init_0 : decode cJ25_init 0 = .ok (.aload_n 0, 1) := dk_42 (dk_at dksJ25_init_0 0 rfl rfl)
theorem dJ25_init_1 : decode cJ25_init 1 = .ok (.invokespecial 3, 3) := dk_183 0 3 (dk_at dksJ25_init_0 1 rfl rfl)
theorem dJ25_init_4 : decode cJ25_init 4 = .ok (.aload_n 0, 1) := dk_42 (dk_at dksJ25_init_0 4 rfl rfl)
theorem dJ25_init_5 : decode cJ25_init 5 = .ok (.iconst 1, 1) := dk_4 (dk_at dksJ25_init_0 5 rfl rfl)
theorem dJ25_init_6 : decode cJ25_init 6 = .ok (.putfield 9, 3) := dk_181 0 9 (dk_at dksJ25_init_0 6 rfl rfl)
theorem dJ25_init_9 : decode cJ25_init 9 = .ok (.aload_n 0, 1) := dk_42 (dk_at dksJ25_init_0 9 rfl rfl)
theorem dJ25_init_10 : decode cJ25_init 10 = .ok (.aload_n 1, 1) := dk_43 (dk_at dksJ25_init_0 10 rfl rfl)
theorem dJ25_init_11 : decode cJ25_init 11 = .ok (.putfield 15, 3) := dk_181 0 15 (dk_at dksJ25_init_0 11 rfl rfl)
theorem dJ25_init_14 : decode cJ25_init 14 = .ok (.aload_n 0, 1) := dk_42 (dk_at dksJ25_init_0 14 rfl rfl)
theorem dJ25_init_15 : decode cJ25_init 15 = .ok (.aload_n 2, 1) := dk_44 (dk_at dksJ25_init_0 15 rfl rfl)
theorem dJ25_init_16 : decode cJ25_init 16 = .ok (.putfield 19, 3) := dk_181 0 19 (dk_at dksJ25_init_0 16 rfl rfl)
theorem dJ25_init_19 : decode cJ25_init 19 = .ok (.aload_n 0, 1) := dk_42 (dk_at dksJ25_init_0 19 rfl rfl)
theorem dJ25_init_20 : decode cJ25_init 20 = .ok (.aload_n 3, 1) := dk_45 (dk_at dksJ25_init_0 20 rfl rfl)
theorem dJ25_init_21 : decode cJ25_init 21 = .ok (.putfield 22, 3) := dk_181 0 22 (dk_at dksJ25_init_0 21 rfl rfl)
theorem dJ25_init_24 : decode cJ25_init 24 = .ok (.return_, 1) := dk_177 (dk_at dksJ25_init_1 0 rfl rfl)
theorem q79 : (Jvm.Cond.initialized "java/util/TreeMap$Entry") ∈ lw_all := lw_g (lw_at lw_m1 34 rfl) rfl
theorem q581 : (Jvm.Cond.selects "java/util/TreeMap$Entry" ({ cls := "java/lang/Object", name := "getClass", desc := "()Ljava/lang/Class;" } : Jvm.MethodName) ({ cls := "java/lang/Object", name := "getClass", desc := "()Ljava/lang/Class;" } : Jvm.MethodName)) ∈ lw_all := lw_g (lw_at lw_m3 56 rfl) rfl
theorem q995 : (Jvm.Cond.instantiable "java/util/TreeMap$Entry" (6 : Nat)) ∈ lw_all := lw_g (lw_at lw_m4 230 rfl) rfl
theorem q997 : (Jvm.Cond.instanceMethod ({ cls := "java/util/TreeMap$Entry", name := "<init>", desc := "(Ljava/lang/Object;Ljava/lang/Object;Ljava/util/TreeMap$Entry;)V" } : Jvm.MethodName)) ∈ lw_all := lw_g (lw_at lw_m4 232 rfl) rfl
theorem q998 : (Jvm.Cond.code ({ cls := "java/util/TreeMap$Entry", name := "<init>", desc := "(Ljava/lang/Object;Ljava/lang/Object;Ljava/util/TreeMap$Entry;)V" } : Jvm.MethodName) prog_49_method_1_code (4 : Nat) (Option.none : Option Jvm.ClassFile.FieldType)) ∈ lw_all := lw_g (lw_at lw_m4 233 rfl) rfl
theorem q999 : (Jvm.Cond.methodLink "java/util/TreeMap$Entry" (3 : Nat) ({ cls := "java/lang/Object", name := "<init>", desc := "()V" } : Jvm.MethodName)) ∈ lw_all := lw_g (lw_at lw_m4 234 rfl) rfl
theorem q1000 : (Jvm.Cond.fieldLink "java/util/TreeMap$Entry" (15 : Nat) "java/util/TreeMap$Entry" "key" "Ljava/lang/Object;") ∈ lw_all := lw_g (lw_at lw_m4 235 rfl) rfl
theorem q1002 : (Jvm.Cond.fieldLink "java/util/TreeMap$Entry" (19 : Nat) "java/util/TreeMap$Entry" "value" "Ljava/lang/Object;") ∈ lw_all := lw_g (lw_at lw_m4 237 rfl) rfl
theorem q1007 : (Jvm.Cond.fieldLink "java/util/TreeMap$Entry" (22 : Nat) "java/util/TreeMap$Entry" "parent" "Ljava/util/TreeMap$Entry;") ∈ lw_all := lw_g (lw_at lw_m5 2 rfl) rfl
theorem q1009 : (Jvm.Cond.fieldLink "java/util/TreeMap$Entry" (9 : Nat) "java/util/TreeMap$Entry" "color" "Z") ∈ lw_all := lw_g (lw_at lw_m5 4 rfl) rfl
theorem q1011 : (Jvm.Cond.lays "java/util/TreeMap$Entry" "java/util/TreeMap$Entry" "key" "Ljava/lang/Object;") ∈ lw_all := lw_g (lw_at lw_m5 6 rfl) rfl
theorem q1012 : (Jvm.Cond.soleField "java/util/TreeMap$Entry" "key") ∈ lw_all := lw_g (lw_at lw_m5 7 rfl) rfl
theorem q1013 : (Jvm.Cond.lays "java/util/TreeMap$Entry" "java/util/TreeMap$Entry" "value" "Ljava/lang/Object;") ∈ lw_all := lw_g (lw_at lw_m5 8 rfl) rfl
theorem q1014 : (Jvm.Cond.soleField "java/util/TreeMap$Entry" "value") ∈ lw_all := lw_g (lw_at lw_m5 9 rfl) rfl
theorem q1015 : (Jvm.Cond.lays "java/util/TreeMap$Entry" "java/util/TreeMap$Entry" "left" "Ljava/util/TreeMap$Entry;") ∈ lw_all := lw_g (lw_at lw_m5 10 rfl) rfl
theorem q1016 : (Jvm.Cond.soleField "java/util/TreeMap$Entry" "left") ∈ lw_all := lw_g (lw_at lw_m5 11 rfl) rfl
theorem q1017 : (Jvm.Cond.lays "java/util/TreeMap$Entry" "java/util/TreeMap$Entry" "right" "Ljava/util/TreeMap$Entry;") ∈ lw_all := lw_g (lw_at lw_m5 12 rfl) rfl
theorem q1018 : (Jvm.Cond.soleField "java/util/TreeMap$Entry" "right") ∈ lw_all := lw_g (lw_at lw_m5 13 rfl) rfl
theorem q1019 : (Jvm.Cond.lays "java/util/TreeMap$Entry" "java/util/TreeMap$Entry" "parent" "Ljava/util/TreeMap$Entry;") ∈ lw_all := lw_g (lw_at lw_m5 14 rfl) rfl
theorem q1020 : (Jvm.Cond.soleField "java/util/TreeMap$Entry" "parent") ∈ lw_all := lw_g (lw_at lw_m5 15 rfl) rfl
theorem q1021 : (Jvm.Cond.lays "java/util/TreeMap$Entry" "java/util/TreeMap$Entry" "color" "Z") ∈ lw_all := lw_g (lw_at lw_m5 16 rfl) rfl
theorem q1022 : (Jvm.Cond.soleField "java/util/TreeMap$Entry" "color") ∈ lw_all := lw_g (lw_at lw_m5 17 rfl) rfl
theorem q1023 : (Jvm.Cond.superclass "java/util/TreeMap$Entry" "java/lang/Object") ∈ lw_all := lw_g (lw_at lw_m5 18 rfl) rfl
theorem q1446 : (Jvm.Cond.castable "java/util/TreeMap$Entry" "java/lang/Object") ∈ lw_tbl := lw_at lw_m6 201 rfl
theorem in_J25 : ∀ w ∈ wsJ250, w ∈ lw_all := lw_in wsJ250 [1011, 1013, 1015, 1017, 1019, 1021] (by decide +kernel) (by decide +kernel)
/-! java/lang/Object -/
set_option maxRecDepth 100000
def RJ26 : String := "java/lang/Object"
abbrev cJ26_init : ByteArray := object_method_1_code
def yJ26_init : MethodName := ⟨RJ26, "<init>", "()V"⟩
theorem dJ26_init_0 : decode cJ26_init 0 = .ok (.return_, 1) := by decide +kernel
theorem q86 : (Jvm.Cond.instanceMethod ({ cls := "java/lang/Object", name := "<init>", desc := "()V" } : Jvm.MethodName)) ∈ lw_all := lw_g (lw_at lw_m1 41 rfl) rfl
theorem q87 : (Jvm.Cond.code ({ cls := "java/lang/Object", name := "<init>", desc := "()V" } : Jvm.MethodName) object_method_1_code (1 : Nat) (Option.none : Option Jvm.ClassFile.FieldType)) ∈ lw_all := lw_g (lw_at lw_m1 42 rfl) rfl
theorem q564 : (Jvm.Cond.instanceMethod ({ cls := "java/lang/Object", name := "getClass", desc := "()Ljava/lang/Class;" } : Jvm.MethodName)) ∈ lw_all := lw_g (lw_at lw_m3 39 rfl) rfl
theorem q565 : (Jvm.Cond.sameMethod "java/lang/Object" "java/lang/Object" "getClass" "()Ljava/lang/Class;") ∈ lw_all := lw_g (lw_at lw_m3 40 rfl) rfl
theorem q584 : (Jvm.Cond.native ({ cls := "java/lang/Object", name := "getClass", desc := "()Ljava/lang/Class;" } : Jvm.MethodName)) ∈ lw_all := lw_g (lw_at lw_m3 59 rfl) rfl
theorem q1426 : (Jvm.Cond.initialized "java/lang/Object") ∈ lw_all := lw_g (lw_at lw_m6 181 rfl) rfl
theorem q1451 : (Jvm.Cond.declares ({ cls := "java/lang/Object", name := "getClass", desc := "()Ljava/lang/Class;" } : Jvm.MethodName)) ∈ lw_tbl := lw_at lw_m6 206 rfl
theorem q1457 : (Jvm.Cond.instantiable "java/lang/Object" (0 : Nat)) ∈ lw_all := lw_g (lw_at lw_m6 212 rfl) rfl
/-! java/lang/Throwable -/
set_option maxRecDepth 100000
def RJ3 : String := "java/lang/Throwable"
def TJ3 : u_T := fun k => match k with
  | 0 => ("java/lang/Throwable", "cause", "Ljava/lang/Throwable;", false)
  | 1 => ("java/lang/Throwable", "stackTrace", "[Ljava/lang/StackTraceElement;", false)
  | 2 => ("java/lang/Throwable", "suppressedExceptions", "Ljava/util/List;", false)
  | 3 => ("java/lang/Throwable", "detailMessage", "Ljava/lang/String;", false)
  | _ => ("java/lang/Throwable", "backtrace", "Ljava/lang/Object;", false)
def tyJ3 : Nat → FieldType := fun k => match k with
  | 0 => .object "java/lang/Throwable"
  | 1 => .array (.object "java/lang/StackTraceElement")
  | 2 => .object "java/util/List"
  | 3 => .object "java/lang/String"
  | _ => .object "java/lang/Object"
abbrev wsJ30 : List Cond := u_ws RJ3 TJ3 5
theorem nmJ3 : ∀ a, a < 5 → ∀ b, b < 5 → a ≠ b → (TJ3 a).2.1 ≠ (TJ3 b).2.1 := by decide +kernel
theorem tyJ3_ok : ∀ k, k < 5 → parseFieldDescriptor (TJ3 k).2.2.1 = some (tyJ3 k) := by decide +kernel
abbrev cJ3_init : ByteArray := prog_26_method_1_code
def yJ3_init : MethodName := ⟨RJ3, "<init>", "()V"⟩
def dkwJ3_init_1 : List UInt8 := [182, 0, 27, 87, 177]
abbrev dktJ3_init_1 : List UInt8 := dkwJ3_init_1 ++ []
def dkwJ3_init_0 : List UInt8 := [42, 183, 0, 1, 42, 42, 181, 0, 7, 42, 178, 0, 13, 181, 0, 17, 42, 178, 0, 20, 181, 0, 24, 42]
abbrev dktJ3_init_0 : List UInt8 := dkwJ3_init_0 ++ dktJ3_init_1
theorem dksJ3_init_0 : cJ3_init.data.toList.drop 0 = dktJ3_init_0 := by decide +kernel
theorem dksJ3_init_1 : cJ3_init.data.toList.drop 24 = dktJ3_init_1 := dk_seg dksJ3_init_0 24 rfl rfl
theorem dJ3_init_0 : decode cJ3_init 0 = .ok (.aload_n 0, 1) := dk_42 (dk_at dksJ3_init_0 0 rfl rfl)
theorem dJ3_init_1 : decode cJ3_init 1 = .ok (.invokespecial 1, 3) := dk_183 0 1 (dk_at dksJ3_init_0 1 rfl rfl)
theorem dJ3_init_4 : decode cJ3_init 4 = .ok (.aload_n 0, 1) := dk_42 (dk_at dksJ3_init_0 4 rfl rfl)
theorem dJ3_init_5 : decode cJ3_init 5 = .ok (.aload_n 0, 1) := dk_42 (dk_at dksJ3_init_0 5 rfl rfl)
theorem dJ3_init_6 : decode cJ3_init 6 = .ok (.putfield 7, 3) := dk_181 0 7 (dk_at dksJ3_init_0 6 rfl rfl)
theorem dJ3_init_9 : decode cJ3_init 9 = .ok (.aload_n 0, 1) := dk_42 (dk_at dksJ3_init_0 9 rfl rfl)
theorem dJ3_init_10 : decode cJ3_init 10 = .ok (.getstatic 13, 3) := dk_178 0 13 (dk_at dksJ3_init_0 10 rfl rfl)
theorem dJ3_init_13 : decode cJ3_init 13 = .ok (.putfield 17, 3) := dk_181 0 17 (dk_at dksJ3_init_0 13 rfl rfl)
theorem dJ3_init_16 : decode cJ3_init 16 = .ok (.aload_n 0, 1) := dk_42 (dk_at dksJ3_init_0 16 rfl rfl)
theorem dJ3_init_17 : decode cJ3_init 17 = .ok (.getstatic 20, 3) := dk_178 0 20 (dk_at dksJ3_init_0 17 rfl rfl)
theorem dJ3_init_20 : decode cJ3_init 20 = .ok (.putfield 24, 3) := dk_181 0 24 (dk_at dksJ3_init_0 20 rfl rfl)
theorem dJ3_init_23 : decode cJ3_init 23 = .ok (.aload_n 0, 1) := dk_42 (dk_at dksJ3_init_0 23 rfl rfl)
theorem dJ3_init_24 : decode cJ3_init 24 = .ok (.invokevirtual 27, 3) := dk_182 0 27 (dk_at dksJ3_init_1 0 rfl rfl)
theorem dJ3_init_27 : decode cJ3_init 27 = .ok (.pop, 1) := dk_87 (dk_at dksJ3_init_1 3 rfl rfl)
theorem dJ3_init_28 : decode cJ3_init 28 = .ok (.return_, 1) := dk_177 (dk_at dksJ3_init_1 4 rfl rfl)
abbrev cJ3_init_2 : ByteArray := prog_26_method_2_code
def yJ3_init_2 : MethodName := ⟨RJ3, "<init>", "(Ljava/lang/String;)V"⟩
def dkwJ3_init_2_1 : List UInt8 := [182, 0, 27, 87, 42, 43, 181, 0, 31, 177]
abbrev dktJ3_init_2_1 : List UInt8 := dkwJ3_init_2_1 ++ []
def dkwJ3_init_2_0 : List UInt8 := [42, 183, 0, 1, 42, 42, 181, 0, 7, 42, 178, 0, 13, 181, 0, 17, 42, 178, 0, 20, 181, 0, 24, 42]
abbrev dktJ3_init_2_0 : List UInt8 := dkwJ3_init_2_0 ++ dktJ3_init_2_1
theorem dksJ3_init_2_0 : cJ3_init_2.data.toList.drop 0 = dktJ3_init_2_0 := by decide +kernel
theorem dksJ3_init_2_1 : cJ3_init_2.data.toList.drop 24 = dktJ3_init_2_1 := dk_seg dksJ3_init_2_0 24 rfl rfl
theorem dJ3_init_2_0 : decode cJ3_init_2 0 = .ok (.aload_n 0, 1) := dk_42 (dk_at dksJ3_init_2_0 0 rfl rfl)
theorem dJ3_init_2_1 : decode cJ3_init_2 1 = .ok (.invokespecial 1, 3) := dk_183 0 1 (dk_at dksJ3_init_2_0 1 rfl rfl)
theorem dJ3_init_2_4 : decode cJ3_init_2 4 = .ok (.aload_n 0, 1) := dk_42 (dk_at dksJ3_init_2_0 4 rfl rfl)
theorem dJ3_init_2_5 : decode cJ3_init_2 5 = .ok (.aload_n 0, 1) := dk_42 (dk_at dksJ3_init_2_0 5 rfl rfl)
theorem dJ3_init_2_6 : decode cJ3_init_2 6 = .ok (.putfield 7, 3) := dk_181 0 7 (dk_at dksJ3_init_2_0 6 rfl rfl)
theorem dJ3_init_2_9 : decode cJ3_init_2 9 = .ok (.aload_n 0, 1) := dk_42 (dk_at dksJ3_init_2_0 9 rfl rfl)
theorem dJ3_init_2_10 : decode cJ3_init_2 10 = .ok (.getstatic 13, 3) := dk_178 0 13 (dk_at dksJ3_init_2_0 10 rfl rfl)
theorem dJ3_init_2_13 : decode cJ3_init_2 13 = .ok (.putfield 17, 3) := dk_181 0 17 (dk_at dksJ3_init_2_0 13 rfl rfl)
theorem dJ3_init_2_16 : decode cJ3_init_2 16 = .ok (.aload_n 0, 1) := dk_42 (dk_at dksJ3_init_2_0 16 rfl rfl)
theorem dJ3_init_2_17 : decode cJ3_init_2 17 = .ok (.getstatic 20, 3) := dk_178 0 20 (dk_at dksJ3_init_2_0 17 rfl rfl)
theorem dJ3_init_2_20 : decode cJ3_init_2 20 = .ok (.putfield 24, 3) := dk_181 0 24 (dk_at dksJ3_init_2_0 20 rfl rfl)
theorem dJ3_init_2_23 : decode cJ3_init_2 23 = .ok (.aload_n 0, 1) := dk_42 (dk_at dksJ3_init_2_0 23 rfl rfl)
theorem dJ3_init_2_24 : decode cJ3_init_2 24 = .ok (.invokevirtual 27, 3) := dk_182 0 27 (dk_at dksJ3_init_2_1 0 rfl rfl)
theorem dJ3_init_2_27 : decode cJ3_init_2 27 = .ok (.pop, 1) := dk_87 (dk_at dksJ3_init_2_1 3 rfl rfl)
theorem dJ3_init_2_28 : decode cJ3_init_2 28 = .ok (.aload_n 0, 1) := dk_42 (dk_at dksJ3_init_2_1 4 rfl rfl)
theorem dJ3_init_2_29 : decode cJ3_init_2 29 = .ok (.aload_n 1, 1) := dk_43 (dk_at dksJ3_init_2_1 5 rfl rfl)
theorem dJ3_init_2_30 : decode cJ3_init_2 30 = .ok (.putfield 31, 3) := dk_181 0 31 (dk_at dksJ3_init_2_1 6 rfl rfl)
theorem dJ3_init_2_33 : decode cJ3_init_2 33 = .ok (.return_, 1) := dk_177 (dk_at dksJ3_init_2_1 9 rfl rfl)
theorem q51 : (Jvm.Cond.initialized "java/lang/Throwable") ∈ lw_all := lw_g (lw_at lw_m1 6 rfl) rfl
theorem q212 : (Jvm.Cond.declares ({ cls := "java/lang/Throwable", name := "<init>", desc := "()V" } : Jvm.MethodName)) ∈ lw_tbl := lw_at lw_m1 167 rfl
theorem q213 : (Jvm.Cond.declares ({ cls := "java/lang/Throwable", name := "<init>", desc := "(Ljava/lang/String;)V" } : Jvm.MethodName)) ∈ lw_tbl := lw_at lw_m1 168 rfl
theorem q217 : (Jvm.Cond.lays "java/lang/Throwable" "java/lang/Throwable" "cause" "Ljava/lang/Throwable;") ∈ lw_all := lw_g (lw_at lw_m1 172 rfl) rfl
theorem q219 : (Jvm.Cond.lays "java/lang/Throwable" "java/lang/Throwable" "stackTrace" "[Ljava/lang/StackTraceElement;") ∈ lw_all := lw_g (lw_at lw_m1 174 rfl) rfl
theorem q221 : (Jvm.Cond.lays "java/lang/Throwable" "java/lang/Throwable" "suppressedExceptions" "Ljava/util/List;") ∈ lw_all := lw_g (lw_at lw_m1 176 rfl) rfl
theorem q223 : (Jvm.Cond.lays "java/lang/Throwable" "java/lang/Throwable" "detailMessage" "Ljava/lang/String;") ∈ lw_all := lw_g (lw_at lw_m1 178 rfl) rfl
theorem q225 : (Jvm.Cond.lays "java/lang/Throwable" "java/lang/Throwable" "backtrace" "Ljava/lang/Object;") ∈ lw_all := lw_g (lw_at lw_m1 180 rfl) rfl
theorem q226 : (Jvm.Cond.fieldLink "java/lang/Throwable" (198 : Nat) "java/lang/Throwable" "backtrace" "Ljava/lang/Object;") ∈ lw_all := lw_g (lw_at lw_m1 181 rfl) rfl
theorem q227 : (Jvm.Cond.superclass "java/lang/Throwable" "java/lang/Object") ∈ lw_all := lw_g (lw_at lw_m1 182 rfl) rfl
theorem q228 : (Jvm.Cond.instanceMethod ({ cls := "java/lang/Throwable", name := "<init>", desc := "()V" } : Jvm.MethodName)) ∈ lw_all := lw_g (lw_at lw_m1 183 rfl) rfl
theorem q229 : (Jvm.Cond.code ({ cls := "java/lang/Throwable", name := "<init>", desc := "()V" } : Jvm.MethodName) prog_26_method_1_code (1 : Nat) (Option.none : Option Jvm.ClassFile.FieldType)) ∈ lw_all := lw_g (lw_at lw_m1 184 rfl) rfl
theorem q230 : (Jvm.Cond.methodLink "java/lang/Throwable" (1 : Nat) ({ cls := "java/lang/Object", name := "<init>", desc := "()V" } : Jvm.MethodName)) ∈ lw_all := lw_g (lw_at lw_m1 185 rfl) rfl
theorem q231 : (Jvm.Cond.fieldLink "java/lang/Throwable" (13 : Nat) "java/lang/Throwable" "UNASSIGNED_STACK" "[Ljava/lang/StackTraceElement;") ∈ lw_all := lw_g (lw_at lw_m1 186 rfl) rfl
theorem q232 : (Jvm.Cond.laysStatic "java/lang/Throwable" "UNASSIGNED_STACK" "[Ljava/lang/StackTraceElement;") ∈ lw_tbl := lw_at lw_m1 187 rfl
theorem q233 : (Jvm.Cond.fieldLink "java/lang/Throwable" (20 : Nat) "java/lang/Throwable" "SUPPRESSED_SENTINEL" "Ljava/util/List;") ∈ lw_all := lw_g (lw_at lw_m1 188 rfl) rfl
theorem q234 : (Jvm.Cond.laysStatic "java/lang/Throwable" "SUPPRESSED_SENTINEL" "Ljava/util/List;") ∈ lw_tbl := lw_at lw_m1 189 rfl
theorem q235 : (Jvm.Cond.methodLink "java/lang/Throwable" (27 : Nat) ({ cls := "java/lang/Throwable", name := "fillInStackTrace", desc := "()Ljava/lang/Throwable;" } : Jvm.MethodName)) ∈ lw_all := lw_g (lw_at lw_m1 190 rfl) rfl
theorem q236 : (Jvm.Cond.instanceMethod ({ cls := "java/lang/Throwable", name := "fillInStackTrace", desc := "()Ljava/lang/Throwable;" } : Jvm.MethodName)) ∈ lw_all := lw_g (lw_at lw_m1 191 rfl) rfl
theorem q237 : (Jvm.Cond.sameMethod "java/lang/Throwable" "java/lang/Throwable" "fillInStackTrace" "()Ljava/lang/Throwable;") ∈ lw_all := lw_g (lw_at lw_m1 192 rfl) rfl
theorem q242 : (Jvm.Cond.codeSync ({ cls := "java/lang/Throwable", name := "fillInStackTrace", desc := "()Ljava/lang/Throwable;" } : Jvm.MethodName) prog_26_method_18_code (1 : Nat) (Option.some (Jvm.ClassFile.FieldType.object "java/lang/Throwable"))) ∈ lw_all := lw_g (lw_at lw_m1 197 rfl) rfl
theorem q243 : (Jvm.Cond.methodLink "java/lang/Throwable" (202 : Nat) ({ cls := "java/lang/Throwable", name := "fillInStackTrace", desc := "(I)Ljava/lang/Throwable;" } : Jvm.MethodName)) ∈ lw_all := lw_g (lw_at lw_m1 198 rfl) rfl
theorem q244 : (Jvm.Cond.privateMethod ({ cls := "java/lang/Throwable", name := "fillInStackTrace", desc := "(I)Ljava/lang/Throwable;" } : Jvm.MethodName)) ∈ lw_tbl := lw_at lw_m1 199 rfl
theorem q245 : (Jvm.Cond.instanceMethod ({ cls := "java/lang/Throwable", name := "fillInStackTrace", desc := "(I)Ljava/lang/Throwable;" } : Jvm.MethodName)) ∈ lw_all := lw_g (lw_at lw_m1 200 rfl) rfl
theorem q246 : (Jvm.Cond.instantiable "java/lang/Throwable" (6 : Nat)) ∈ lw_all := lw_g (lw_at lw_m1 201 rfl) rfl
theorem q247 : (Jvm.Cond.native ({ cls := "java/lang/Throwable", name := "fillInStackTrace", desc := "(I)Ljava/lang/Throwable;" } : Jvm.MethodName)) ∈ lw_all := lw_g (lw_at lw_m1 202 rfl) rfl
theorem q258 : (Jvm.Cond.fieldLink "java/lang/Throwable" (198 : Nat) "java/lang/Throwable" "backtrace" "Ljava/lang/Object;") ∈ lw_all := lw_g (lw_at lw_m1 213 rfl) rfl
theorem q259 : (Jvm.Cond.fieldLink "java/lang/Throwable" (31 : Nat) "java/lang/Throwable" "detailMessage" "Ljava/lang/String;") ∈ lw_all := lw_g (lw_at lw_m1 214 rfl) rfl
theorem q260 : (Jvm.Cond.fieldLink "java/lang/Throwable" (7 : Nat) "java/lang/Throwable" "cause" "Ljava/lang/Throwable;") ∈ lw_all := lw_g (lw_at lw_m1 215 rfl) rfl
theorem q261 : (Jvm.Cond.fieldLink "java/lang/Throwable" (17 : Nat) "java/lang/Throwable" "stackTrace" "[Ljava/lang/StackTraceElement;") ∈ lw_all := lw_g (lw_at lw_m1 216 rfl) rfl
theorem q262 : (Jvm.Cond.fieldLink "java/lang/Throwable" (24 : Nat) "java/lang/Throwable" "suppressedExceptions" "Ljava/util/List;") ∈ lw_all := lw_g (lw_at lw_m1 217 rfl) rfl
theorem q263 : (Jvm.Cond.soleField "java/lang/Throwable" "backtrace") ∈ lw_all := lw_g (lw_at lw_m1 218 rfl) rfl
theorem q264 : (Jvm.Cond.soleField "java/lang/Throwable" "detailMessage") ∈ lw_all := lw_g (lw_at lw_m1 219 rfl) rfl
theorem q265 : (Jvm.Cond.soleField "java/lang/Throwable" "cause") ∈ lw_all := lw_g (lw_at lw_m1 220 rfl) rfl
theorem q266 : (Jvm.Cond.soleField "java/lang/Throwable" "stackTrace") ∈ lw_all := lw_g (lw_at lw_m1 221 rfl) rfl
theorem q268 : (Jvm.Cond.soleField "java/lang/Throwable" "depth") ∈ lw_all := lw_g (lw_at lw_m1 223 rfl) rfl
theorem q269 : (Jvm.Cond.soleField "java/lang/Throwable" "suppressedExceptions") ∈ lw_all := lw_g (lw_at lw_m1 224 rfl) rfl
theorem q616 : (Jvm.Cond.instanceMethod ({ cls := "java/lang/Throwable", name := "<init>", desc := "(Ljava/lang/String;)V" } : Jvm.MethodName)) ∈ lw_all := lw_g (lw_at lw_m3 91 rfl) rfl
theorem q617 : (Jvm.Cond.code ({ cls := "java/lang/Throwable", name := "<init>", desc := "(Ljava/lang/String;)V" } : Jvm.MethodName) prog_26_method_2_code (2 : Nat) (Option.none : Option Jvm.ClassFile.FieldType)) ∈ lw_all := lw_g (lw_at lw_m3 92 rfl) rfl
theorem q1425 : (Jvm.Cond.sameMethod "java/lang/Throwable" "java/lang/Throwable" "fillInStackTrace" "(I)Ljava/lang/Throwable;") ∈ lw_all := lw_g (lw_at lw_m6 180 rfl) rfl
theorem q1447 : (Jvm.Cond.castable "java/lang/Throwable" "java/lang/Object") ∈ lw_tbl := lw_at lw_m6 202 rfl
theorem in_J3 : ∀ w ∈ wsJ30, w ∈ lw_all := lw_in wsJ30 [217, 219, 221, 223, 225] (by decide +kernel) (by decide +kernel)
/-! java/lang/Exception -/
set_option maxRecDepth 100000
def RJ4 : String := "java/lang/Exception"
abbrev cJ4_init : ByteArray := prog_14_method_1_code
def yJ4_init : MethodName := ⟨RJ4, "<init>", "()V"⟩
theorem dJ4_init_0 : decode cJ4_init 0 = .ok (.aload_n 0, 1) := by decide +kernel
theorem dJ4_init_1 : decode cJ4_init 1 = .ok (.invokespecial 1, 3) := by decide +kernel
theorem dJ4_init_4 : decode cJ4_init 4 = .ok (.return_, 1) := by decide +kernel
abbrev cJ4_init_2 : ByteArray := prog_14_method_2_code
def yJ4_init_2 : MethodName := ⟨RJ4, "<init>", "(Ljava/lang/String;)V"⟩
def dkwJ4_init_2_0 : List UInt8 := [42, 43, 183, 0, 7, 177]
abbrev dktJ4_init_2_0 : List UInt8 := dkwJ4_init_2_0 ++ []
theorem dksJ4_init_2_0 : cJ4_init_2.data.toList.drop 0 = dktJ4_init_2_0 := by decide +kernel
theorem dJ4_init_2_0 : decode cJ4_init_2 0 = .ok (.aload_n 0, 1) := dk_42 (dk_at dksJ4_init_2_0 0 rfl rfl)
theorem dJ4_init_2_1 : decode cJ4_init_2 1 = .ok (.aload_n 1, 1) := dk_43 (dk_at dksJ4_init_2_0 1 rfl rfl)
theorem dJ4_init_2_2 : decode cJ4_init_2 2 = .ok (.invokespecial 7, 3) := dk_183 0 7 (dk_at dksJ4_init_2_0 2 rfl rfl)
theorem dJ4_init_2_5 : decode cJ4_init_2 5 = .ok (.return_, 1) := dk_177 (dk_at dksJ4_init_2_0 5 rfl rfl)
theorem q52 : (Jvm.Cond.initialized "java/lang/Exception") ∈ lw_all := lw_g (lw_at lw_m1 7 rfl) rfl
theorem q210 : (Jvm.Cond.declares ({ cls := "java/lang/Exception", name := "<init>", desc := "()V" } : Jvm.MethodName)) ∈ lw_tbl := lw_at lw_m1 165 rfl
theorem q211 : (Jvm.Cond.declares ({ cls := "java/lang/Exception", name := "<init>", desc := "(Ljava/lang/String;)V" } : Jvm.MethodName)) ∈ lw_tbl := lw_at lw_m1 166 rfl
theorem q255 : (Jvm.Cond.instanceMethod ({ cls := "java/lang/Exception", name := "<init>", desc := "()V" } : Jvm.MethodName)) ∈ lw_all := lw_g (lw_at lw_m1 210 rfl) rfl
theorem q256 : (Jvm.Cond.code ({ cls := "java/lang/Exception", name := "<init>", desc := "()V" } : Jvm.MethodName) prog_14_method_1_code (1 : Nat) (Option.none : Option Jvm.ClassFile.FieldType)) ∈ lw_all := lw_g (lw_at lw_m1 211 rfl) rfl
theorem q257 : (Jvm.Cond.methodLink "java/lang/Exception" (1 : Nat) ({ cls := "java/lang/Throwable", name := "<init>", desc := "()V" } : Jvm.MethodName)) ∈ lw_all := lw_g (lw_at lw_m1 212 rfl) rfl
theorem q613 : (Jvm.Cond.instanceMethod ({ cls := "java/lang/Exception", name := "<init>", desc := "(Ljava/lang/String;)V" } : Jvm.MethodName)) ∈ lw_all := lw_g (lw_at lw_m3 88 rfl) rfl
theorem q614 : (Jvm.Cond.code ({ cls := "java/lang/Exception", name := "<init>", desc := "(Ljava/lang/String;)V" } : Jvm.MethodName) prog_14_method_2_code (2 : Nat) (Option.none : Option Jvm.ClassFile.FieldType)) ∈ lw_all := lw_g (lw_at lw_m3 89 rfl) rfl
theorem q615 : (Jvm.Cond.methodLink "java/lang/Exception" (7 : Nat) ({ cls := "java/lang/Throwable", name := "<init>", desc := "(Ljava/lang/String;)V" } : Jvm.MethodName)) ∈ lw_all := lw_g (lw_at lw_m3 90 rfl) rfl
/-! java/lang/RuntimeException -/
set_option maxRecDepth 100000
def RJ5 : String := "java/lang/RuntimeException"
abbrev cJ5_init : ByteArray := prog_23_method_1_code
def yJ5_init : MethodName := ⟨RJ5, "<init>", "()V"⟩
theorem dJ5_init_0 : decode cJ5_init 0 = .ok (.aload_n 0, 1) := by decide +kernel
theorem dJ5_init_1 : decode cJ5_init 1 = .ok (.invokespecial 1, 3) := by decide +kernel
theorem dJ5_init_4 : decode cJ5_init 4 = .ok (.return_, 1) := by decide +kernel
abbrev cJ5_init_2 : ByteArray := prog_23_method_2_code
def yJ5_init_2 : MethodName := ⟨RJ5, "<init>", "(Ljava/lang/String;)V"⟩
def dkwJ5_init_2_0 : List UInt8 := [42, 43, 183, 0, 7, 177]
abbrev dktJ5_init_2_0 : List UInt8 := dkwJ5_init_2_0 ++ []
theorem dksJ5_init_2_0 : cJ5_init_2.data.toList.drop 0 = dktJ5_init_2_0 := by decide +kernel
theorem dJ5_init_2_0 : decode cJ5_init_2 0 = .ok (.aload_n 0, 1) := dk_42 (dk_at dksJ5_init_2_0 0 rfl rfl)
theorem dJ5_init_2_1 : decode cJ5_init_2 1 = .ok (.aload_n 1, 1) := dk_43 (dk_at dksJ5_init_2_0 1 rfl rfl)
theorem dJ5_init_2_2 : decode cJ5_init_2 2 = .ok (.invokespecial 7, 3) := dk_183 0 7 (dk_at dksJ5_init_2_0 2 rfl rfl)
theorem dJ5_init_2_5 : decode cJ5_init_2 5 = .ok (.return_, 1) := dk_177 (dk_at dksJ5_init_2_0 5 rfl rfl)
theorem q53 : (Jvm.Cond.initialized "java/lang/RuntimeException") ∈ lw_all := lw_g (lw_at lw_m1 8 rfl) rfl
theorem q208 : (Jvm.Cond.declares ({ cls := "java/lang/RuntimeException", name := "<init>", desc := "()V" } : Jvm.MethodName)) ∈ lw_tbl := lw_at lw_m1 163 rfl
theorem q209 : (Jvm.Cond.declares ({ cls := "java/lang/RuntimeException", name := "<init>", desc := "(Ljava/lang/String;)V" } : Jvm.MethodName)) ∈ lw_tbl := lw_at lw_m1 164 rfl
theorem q252 : (Jvm.Cond.instanceMethod ({ cls := "java/lang/RuntimeException", name := "<init>", desc := "()V" } : Jvm.MethodName)) ∈ lw_all := lw_g (lw_at lw_m1 207 rfl) rfl
theorem q253 : (Jvm.Cond.code ({ cls := "java/lang/RuntimeException", name := "<init>", desc := "()V" } : Jvm.MethodName) prog_23_method_1_code (1 : Nat) (Option.none : Option Jvm.ClassFile.FieldType)) ∈ lw_all := lw_g (lw_at lw_m1 208 rfl) rfl
theorem q254 : (Jvm.Cond.methodLink "java/lang/RuntimeException" (1 : Nat) ({ cls := "java/lang/Exception", name := "<init>", desc := "()V" } : Jvm.MethodName)) ∈ lw_all := lw_g (lw_at lw_m1 209 rfl) rfl
theorem q610 : (Jvm.Cond.instanceMethod ({ cls := "java/lang/RuntimeException", name := "<init>", desc := "(Ljava/lang/String;)V" } : Jvm.MethodName)) ∈ lw_all := lw_g (lw_at lw_m3 85 rfl) rfl
theorem q611 : (Jvm.Cond.code ({ cls := "java/lang/RuntimeException", name := "<init>", desc := "(Ljava/lang/String;)V" } : Jvm.MethodName) prog_23_method_2_code (2 : Nat) (Option.none : Option Jvm.ClassFile.FieldType)) ∈ lw_all := lw_g (lw_at lw_m3 86 rfl) rfl
theorem q612 : (Jvm.Cond.methodLink "java/lang/RuntimeException" (7 : Nat) ({ cls := "java/lang/Exception", name := "<init>", desc := "(Ljava/lang/String;)V" } : Jvm.MethodName)) ∈ lw_all := lw_g (lw_at lw_m3 87 rfl) rfl
/-! java/lang/IllegalArgumentException -/
set_option maxRecDepth 100000
def RJ6 : String := "java/lang/IllegalArgumentException"
def TJ6 : u_T := fun k => match k with
  | 0 => ("java/lang/Throwable", "cause", "Ljava/lang/Throwable;", false)
  | 1 => ("java/lang/Throwable", "stackTrace", "[Ljava/lang/StackTraceElement;", false)
  | 2 => ("java/lang/Throwable", "suppressedExceptions", "Ljava/util/List;", false)
  | 3 => ("java/lang/Throwable", "detailMessage", "Ljava/lang/String;", false)
  | 4 => ("java/lang/Throwable", "backtrace", "Ljava/lang/Object;", false)
  | _ => ("java/lang/Throwable", "depth", "I", false)
def tyJ6 : Nat → FieldType := fun k => match k with
  | 0 => .object "java/lang/Throwable"
  | 1 => .array (.object "java/lang/StackTraceElement")
  | 2 => .object "java/util/List"
  | 3 => .object "java/lang/String"
  | 4 => .object "java/lang/Object"
  | _ => .int
abbrev wsJ60 : List Cond := u_ws RJ6 TJ6 6
theorem nmJ6 : ∀ a, a < 6 → ∀ b, b < 6 → a ≠ b → (TJ6 a).2.1 ≠ (TJ6 b).2.1 := by decide +kernel
theorem tyJ6_ok : ∀ k, k < 6 → parseFieldDescriptor (TJ6 k).2.2.1 = some (tyJ6 k) := by decide +kernel
abbrev cJ6_init : ByteArray := prog_15_method_1_code
def yJ6_init : MethodName := ⟨RJ6, "<init>", "()V"⟩
theorem dJ6_init_0 : decode cJ6_init 0 = .ok (.aload_n 0, 1) := by decide +kernel
theorem dJ6_init_1 : decode cJ6_init 1 = .ok (.invokespecial 1, 3) := by decide +kernel
theorem dJ6_init_4 : decode cJ6_init 4 = .ok (.return_, 1) := by decide +kernel
theorem q54 : (Jvm.Cond.initialized "java/lang/IllegalArgumentException") ∈ lw_all := lw_g (lw_at lw_m1 9 rfl) rfl
theorem q239 : (Jvm.Cond.selects "java/lang/IllegalArgumentException" ({ cls := "java/lang/Throwable", name := "fillInStackTrace", desc := "()Ljava/lang/Throwable;" } : Jvm.MethodName) ({ cls := "java/lang/Throwable", name := "fillInStackTrace", desc := "()Ljava/lang/Throwable;" } : Jvm.MethodName)) ∈ lw_all := lw_g (lw_at lw_m1 194 rfl) rfl
theorem q464 : (Jvm.Cond.instantiable "java/lang/IllegalArgumentException" (6 : Nat)) ∈ lw_all := lw_g (lw_at lw_m2 179 rfl) rfl
theorem q465 : (Jvm.Cond.castable "java/lang/IllegalArgumentException" "java/lang/IllegalArgumentException") ∈ lw_tbl := lw_at lw_m2 180 rfl
theorem q466 : (Jvm.Cond.selects "java/lang/IllegalArgumentException" ({ cls := "java/lang/Throwable", name := "fillInStackTrace", desc := "(I)Ljava/lang/Throwable;" } : Jvm.MethodName) ({ cls := "java/lang/Throwable", name := "fillInStackTrace", desc := "(I)Ljava/lang/Throwable;" } : Jvm.MethodName)) ∈ lw_all := lw_g (lw_at lw_m2 181 rfl) rfl
theorem q467 : (Jvm.Cond.lays "java/lang/IllegalArgumentException" "java/lang/Throwable" "cause" "Ljava/lang/Throwable;") ∈ lw_all := lw_g (lw_at lw_m2 182 rfl) rfl
theorem q468 : (Jvm.Cond.lays "java/lang/IllegalArgumentException" "java/lang/Throwable" "stackTrace" "[Ljava/lang/StackTraceElement;") ∈ lw_all := lw_g (lw_at lw_m2 183 rfl) rfl
theorem q469 : (Jvm.Cond.lays "java/lang/IllegalArgumentException" "java/lang/Throwable" "suppressedExceptions" "Ljava/util/List;") ∈ lw_all := lw_g (lw_at lw_m2 184 rfl) rfl
theorem q470 : (Jvm.Cond.lays "java/lang/IllegalArgumentException" "java/lang/Throwable" "detailMessage" "Ljava/lang/String;") ∈ lw_all := lw_g (lw_at lw_m2 185 rfl) rfl
theorem q471 : (Jvm.Cond.lays "java/lang/IllegalArgumentException" "java/lang/Throwable" "backtrace" "Ljava/lang/Object;") ∈ lw_all := lw_g (lw_at lw_m2 186 rfl) rfl
theorem q473 : (Jvm.Cond.instanceMethod ({ cls := "java/lang/IllegalArgumentException", name := "<init>", desc := "()V" } : Jvm.MethodName)) ∈ lw_all := lw_g (lw_at lw_m2 188 rfl) rfl
theorem q474 : (Jvm.Cond.code ({ cls := "java/lang/IllegalArgumentException", name := "<init>", desc := "()V" } : Jvm.MethodName) prog_15_method_1_code (1 : Nat) (Option.none : Option Jvm.ClassFile.FieldType)) ∈ lw_all := lw_g (lw_at lw_m2 189 rfl) rfl
theorem q475 : (Jvm.Cond.methodLink "java/lang/IllegalArgumentException" (1 : Nat) ({ cls := "java/lang/RuntimeException", name := "<init>", desc := "()V" } : Jvm.MethodName)) ∈ lw_all := lw_g (lw_at lw_m2 190 rfl) rfl
theorem q476 : (Jvm.Cond.lays "java/lang/IllegalArgumentException" "java/lang/Throwable" "depth" "I") ∈ lw_all := lw_g (lw_at lw_m2 191 rfl) rfl
theorem q477 : (Jvm.Cond.superclass "java/lang/IllegalArgumentException" "java/lang/RuntimeException") ∈ lw_all := lw_g (lw_at lw_m2 192 rfl) rfl
theorem q573 : (Jvm.Cond.selects "java/lang/IllegalArgumentException" ({ cls := "java/lang/Object", name := "getClass", desc := "()Ljava/lang/Class;" } : Jvm.MethodName) ({ cls := "java/lang/Object", name := "getClass", desc := "()Ljava/lang/Class;" } : Jvm.MethodName)) ∈ lw_all := lw_g (lw_at lw_m3 48 rfl) rfl
theorem q1432 : (Jvm.Cond.castable "java/lang/IllegalArgumentException" "java/lang/Object") ∈ lw_tbl := lw_at lw_m6 187 rfl
theorem in_J6 : ∀ w ∈ wsJ60, w ∈ lw_all := lw_in wsJ60 [467, 468, 469, 470, 471, 476] (by decide +kernel) (by decide +kernel)
/-! java/lang/IllegalStateException -/
set_option maxRecDepth 100000
def RJ7 : String := "java/lang/IllegalStateException"
def TJ7 : u_T := fun k => match k with
  | 0 => ("java/lang/Throwable", "cause", "Ljava/lang/Throwable;", false)
  | 1 => ("java/lang/Throwable", "stackTrace", "[Ljava/lang/StackTraceElement;", false)
  | 2 => ("java/lang/Throwable", "suppressedExceptions", "Ljava/util/List;", false)
  | 3 => ("java/lang/Throwable", "detailMessage", "Ljava/lang/String;", false)
  | 4 => ("java/lang/Throwable", "backtrace", "Ljava/lang/Object;", false)
  | _ => ("java/lang/Throwable", "depth", "I", false)
def tyJ7 : Nat → FieldType := fun k => match k with
  | 0 => .object "java/lang/Throwable"
  | 1 => .array (.object "java/lang/StackTraceElement")
  | 2 => .object "java/util/List"
  | 3 => .object "java/lang/String"
  | 4 => .object "java/lang/Object"
  | _ => .int
abbrev wsJ70 : List Cond := u_ws RJ7 TJ7 6
theorem nmJ7 : ∀ a, a < 6 → ∀ b, b < 6 → a ≠ b → (TJ7 a).2.1 ≠ (TJ7 b).2.1 := by decide +kernel
theorem tyJ7_ok : ∀ k, k < 6 → parseFieldDescriptor (TJ7 k).2.2.1 = some (tyJ7 k) := by decide +kernel
abbrev cJ7_init : ByteArray := prog_16_method_1_code
def yJ7_init : MethodName := ⟨RJ7, "<init>", "()V"⟩
theorem dJ7_init_0 : decode cJ7_init 0 = .ok (.aload_n 0, 1) := by decide +kernel
theorem dJ7_init_1 : decode cJ7_init 1 = .ok (.invokespecial 1, 3) := by decide +kernel
theorem dJ7_init_4 : decode cJ7_init 4 = .ok (.return_, 1) := by decide +kernel
theorem q55 : (Jvm.Cond.initialized "java/lang/IllegalStateException") ∈ lw_all := lw_g (lw_at lw_m1 10 rfl) rfl
theorem q240 : (Jvm.Cond.selects "java/lang/IllegalStateException" ({ cls := "java/lang/Throwable", name := "fillInStackTrace", desc := "()Ljava/lang/Throwable;" } : Jvm.MethodName) ({ cls := "java/lang/Throwable", name := "fillInStackTrace", desc := "()Ljava/lang/Throwable;" } : Jvm.MethodName)) ∈ lw_all := lw_g (lw_at lw_m1 195 rfl) rfl
theorem q482 : (Jvm.Cond.instantiable "java/lang/IllegalStateException" (6 : Nat)) ∈ lw_all := lw_g (lw_at lw_m2 197 rfl) rfl
theorem q483 : (Jvm.Cond.castable "java/lang/IllegalStateException" "java/lang/IllegalStateException") ∈ lw_tbl := lw_at lw_m2 198 rfl
theorem q484 : (Jvm.Cond.selects "java/lang/IllegalStateException" ({ cls := "java/lang/Throwable", name := "fillInStackTrace", desc := "(I)Ljava/lang/Throwable;" } : Jvm.MethodName) ({ cls := "java/lang/Throwable", name := "fillInStackTrace", desc := "(I)Ljava/lang/Throwable;" } : Jvm.MethodName)) ∈ lw_all := lw_g (lw_at lw_m2 199 rfl) rfl
theorem q485 : (Jvm.Cond.lays "java/lang/IllegalStateException" "java/lang/Throwable" "cause" "Ljava/lang/Throwable;") ∈ lw_all := lw_g (lw_at lw_m2 200 rfl) rfl
theorem q486 : (Jvm.Cond.lays "java/lang/IllegalStateException" "java/lang/Throwable" "stackTrace" "[Ljava/lang/StackTraceElement;") ∈ lw_all := lw_g (lw_at lw_m2 201 rfl) rfl
theorem q487 : (Jvm.Cond.lays "java/lang/IllegalStateException" "java/lang/Throwable" "suppressedExceptions" "Ljava/util/List;") ∈ lw_all := lw_g (lw_at lw_m2 202 rfl) rfl
theorem q488 : (Jvm.Cond.lays "java/lang/IllegalStateException" "java/lang/Throwable" "detailMessage" "Ljava/lang/String;") ∈ lw_all := lw_g (lw_at lw_m2 203 rfl) rfl
theorem q489 : (Jvm.Cond.lays "java/lang/IllegalStateException" "java/lang/Throwable" "backtrace" "Ljava/lang/Object;") ∈ lw_all := lw_g (lw_at lw_m2 204 rfl) rfl
theorem q491 : (Jvm.Cond.instanceMethod ({ cls := "java/lang/IllegalStateException", name := "<init>", desc := "()V" } : Jvm.MethodName)) ∈ lw_all := lw_g (lw_at lw_m2 206 rfl) rfl
theorem q492 : (Jvm.Cond.code ({ cls := "java/lang/IllegalStateException", name := "<init>", desc := "()V" } : Jvm.MethodName) prog_16_method_1_code (1 : Nat) (Option.none : Option Jvm.ClassFile.FieldType)) ∈ lw_all := lw_g (lw_at lw_m2 207 rfl) rfl
theorem q493 : (Jvm.Cond.methodLink "java/lang/IllegalStateException" (1 : Nat) ({ cls := "java/lang/RuntimeException", name := "<init>", desc := "()V" } : Jvm.MethodName)) ∈ lw_all := lw_g (lw_at lw_m2 208 rfl) rfl
theorem q494 : (Jvm.Cond.lays "java/lang/IllegalStateException" "java/lang/Throwable" "depth" "I") ∈ lw_all := lw_g (lw_at lw_m2 209 rfl) rfl
theorem q495 : (Jvm.Cond.superclass "java/lang/IllegalStateException" "java/lang/RuntimeException") ∈ lw_all := lw_g (lw_at lw_m2 210 rfl) rfl
theorem q574 : (Jvm.Cond.selects "java/lang/IllegalStateException" ({ cls := "java/lang/Object", name := "getClass", desc := "()Ljava/lang/Class;" } : Jvm.MethodName) ({ cls := "java/lang/Object", name := "getClass", desc := "()Ljava/lang/Class;" } : Jvm.MethodName)) ∈ lw_all := lw_g (lw_at lw_m3 49 rfl) rfl
theorem q1433 : (Jvm.Cond.castable "java/lang/IllegalStateException" "java/lang/Object") ∈ lw_tbl := lw_at lw_m6 188 rfl
theorem in_J7 : ∀ w ∈ wsJ70, w ∈ lw_all := lw_in wsJ70 [485, 486, 487, 488, 489, 494] (by decide +kernel) (by decide +kernel)
/-! jdk/internal/util/ArraysSupport -/
set_option maxRecDepth 100000
def RJ8 : String := "jdk/internal/util/ArraysSupport"
abbrev cJ8_newLength : ByteArray := prog_53_method_27_code
def yJ8_newLength : MethodName := ⟨RJ8, "newLength", "(III)I"⟩
def dkwJ8_newLength_1 : List UInt8 := [184, 0, 201, 172]
abbrev dktJ8_newLength_1 : List UInt8 := dkwJ8_newLength_1 ++ []
def dkwJ8_newLength_0 : List UInt8 := [26, 27, 28, 184, 0, 194, 96, 62, 3, 29, 162, 0, 11, 29, 18, 200, 163, 0, 5, 29, 172, 26, 27]
abbrev dktJ8_newLength_0 : List UInt8 := dkwJ8_newLength_0 ++ dktJ8_newLength_1
theorem dksJ8_newLength_0 : cJ8_newLength.data.toList.drop 0 = dktJ8_newLength_0 := by decide +kernel
theorem dksJ8_newLength_1 : cJ8_newLength.data.toList.drop 23 = dktJ8_newLength_1 := dk_seg dksJ8_newLength_0 23 rfl rfl
theorem dJ8_newLength_0 : decode cJ8_newLength 0 = .ok (.iload_n 0, 1) := dk_26 (dk_at dksJ8_newLength_0 0 rfl rfl)
theorem dJ8_newLength_1 : decode cJ8_newLength 1 = .ok (.iload_n 1, 1) := dk_27 (dk_at dksJ8_newLength_0 1 rfl rfl)
theorem dJ8_newLength_2 : decode cJ8_newLength 2 = .ok (.iload_n 2, 1) := dk_28 (dk_at dksJ8_newLength_0 2 rfl rfl)
theorem dJ8_newLength_3 : decode cJ8_newLength 3 = .ok (.invokestatic 194, 3) := dk_184 0 194 (dk_at dksJ8_newLength_0 3 rfl rfl)
theorem dJ8_newLength_6 : decode cJ8_newLength 6 = .ok (.iadd, 1) := dk_96 (dk_at dksJ8_newLength_0 6 rfl rfl)
theorem dJ8_newLength_7 : decode cJ8_newLength 7 = .ok (.istore_n 3, 1) := dk_62 (dk_at dksJ8_newLength_0 7 rfl rfl)
theorem dJ8_newLength_8 : decode cJ8_newLength 8 = .ok (.iconst 0, 1) := dk_3 (dk_at dksJ8_newLength_0 8 rfl rfl)
theorem dJ8_newLength_9 : decode cJ8_newLength 9 = .ok (.iload_n 3, 1) := dk_29 (dk_at dksJ8_newLength_0 9 rfl rfl)
theorem dJ8_newLength_10 : decode cJ8_newLength 10 = .ok (.if_icmp .ge 11, 3) := dk_162 0 11 (dk_at dksJ8_newLength_0 10 rfl rfl)
theorem dJ8_newLength_13 : decode cJ8_newLength 13 = .ok (.iload_n 3, 1) := dk_29 (dk_at dksJ8_newLength_0 13 rfl rfl)
theorem dJ8_newLength_14 : decode cJ8_newLength 14 = .ok (.ldc 200, 2) := dk_18 200 (dk_at dksJ8_newLength_0 14 rfl rfl)
theorem dJ8_newLength_16 : decode cJ8_newLength 16 = .ok (.if_icmp .gt 5, 3) := dk_163 0 5 (dk_at dksJ8_newLength_0 16 rfl rfl)
theorem dJ8_newLength_19 : decode cJ8_newLength 19 = .ok (.iload_n 3, 1) := dk_29 (dk_at dksJ8_newLength_0 19 rfl rfl)
theorem dJ8_newLength_20 : decode cJ8_newLength 20 = .ok (.ireturn, 1) := dk_172 (dk_at dksJ8_newLength_0 20 rfl rfl)
theorem dJ8_newLength_21 : decode cJ8_newLength 21 = .ok (.iload_n 0, 1) := dk_26 (dk_at dksJ8_newLength_0 21 rfl rfl)
theorem dJ8_newLength_22 : decode cJ8_newLength 22 = .ok (.iload_n 1, 1) := dk_27 (dk_at dksJ8_newLength_0 22 rfl rfl)
theorem dJ8_newLength_23 : decode cJ8_newLength 23 = .ok (.invokestatic 201, 3) := dk_184 0 201 (dk_at dksJ8_newLength_1 0 rfl rfl)
theorem dJ8_newLength_26 : decode cJ8_newLength 26 = .ok (.ireturn, 1) := dk_172 (dk_at dksJ8_newLength_1 3 rfl rfl)
abbrev cJ8_hugeLength : ByteArray := prog_53_method_28_code
def yJ8_hugeLength : MethodName := ⟨RJ8, "hugeLength", "(II)I"⟩
def dkwJ8_hugeLength_2 : List UInt8 := [191, 28, 18, 200, 163, 0, 6, 18, 200, 172, 28, 172]
abbrev dktJ8_hugeLength_2 : List UInt8 := dkwJ8_hugeLength_2 ++ []
def dkwJ8_hugeLength_1 : List UInt8 := [26, 182, 0, 98, 18, 208, 182, 0, 94, 27, 182, 0, 98, 18, 210, 182, 0, 94, 182, 0, 101, 183, 0, 212]
abbrev dktJ8_hugeLength_1 : List UInt8 := dkwJ8_hugeLength_1 ++ dktJ8_hugeLength_2
def dkwJ8_hugeLength_0 : List UInt8 := [26, 27, 96, 61, 28, 156, 0, 44, 187, 0, 204, 89, 187, 0, 89, 89, 183, 0, 91, 18, 206, 182, 0, 94]
abbrev dktJ8_hugeLength_0 : List UInt8 := dkwJ8_hugeLength_0 ++ dktJ8_hugeLength_1
theorem dksJ8_hugeLength_0 : cJ8_hugeLength.data.toList.drop 0 = dktJ8_hugeLength_0 := by decide +kernel
theorem dksJ8_hugeLength_1 : cJ8_hugeLength.data.toList.drop 24 = dktJ8_hugeLength_1 := dk_seg dksJ8_hugeLength_0 24 rfl rfl
theorem dksJ8_hugeLength_2 : cJ8_hugeLength.data.toList.drop 48 = dktJ8_hugeLength_2 := dk_seg dksJ8_hugeLength_1 24 rfl rfl
theorem dJ8_hugeLength_0 : decode cJ8_hugeLength 0 = .ok (.iload_n 0, 1) := dk_26 (dk_at dksJ8_hugeLength_0 0 rfl rfl)
theorem dJ8_hugeLength_1 : decode cJ8_hugeLength 1 = .ok (.iload_n 1, 1) := dk_27 (dk_at dksJ8_hugeLength_0 1 rfl rfl)
theorem dJ8_hugeLength_2 : decode cJ8_hugeLength 2 = .ok (.iadd, 1) := dk_96 (dk_at dksJ8_hugeLength_0 2 rfl rfl)
theorem dJ8_hugeLength_3 : decode cJ8_hugeLength 3 = .ok (.istore_n 2, 1) := dk_61 (dk_at dksJ8_hugeLength_0 3 rfl rfl)
theorem dJ8_hugeLength_4 : decode cJ8_hugeLength 4 = .ok (.iload_n 2, 1) := dk_28 (dk_at dksJ8_hugeLength_0 4 rfl rfl)
theorem dJ8_hugeLength_5 : decode cJ8_hugeLength 5 = .ok (.ifCond .ge 44, 3) := dk_156 0 44 (dk_at dksJ8_hugeLength_0 5 rfl rfl)
theorem dJ8_hugeLength_8 : decode cJ8_hugeLength 8 = .ok (.new 204, 3) := dk_187 0 204 (dk_at dksJ8_hugeLength_0 8 rfl rfl)
theorem dJ8_hugeLength_11 : decode cJ8_hugeLength 11 = .ok (.dup, 1) := dk_89 (dk_at dksJ8_hugeLength_0 11 rfl rfl)
theorem dJ8_hugeLength_12 : decode cJ8_hugeLength 12 = .ok (.new 89, 3) := dk_187 0 89 (dk_at dksJ8_hugeLength_0 12 rfl rfl)
theorem dJ8_hugeLength_15 : decode cJ8_hugeLength 15 = .ok (.dup, 1) := dk_89 (dk_at dksJ8_hugeLength_0 15 rfl rfl)
theorem dJ8_hugeLength_16 : decode cJ8_hugeLength 16 = .ok (.invokespecial 91, 3) := dk_183 0 91 (dk_at dksJ8_hugeLength_0 16 rfl rfl)
theorem dJ8_hugeLength_19 : decode cJ8_hugeLength 19 = .ok (.ldc 206, 2) := dk_18 206 (dk_at dksJ8_hugeLength_0 19 rfl rfl)
theorem dJ8_hugeLength_21 : decode cJ8_hugeLength 21 = .ok (.invokevirtual 94, 3) := dk_182 0 94 (dk_at dksJ8_hugeLength_0 21 rfl rfl)
theorem dJ8_hugeLength_24 : decode cJ8_hugeLength 24 = .ok (.iload_n 0, 1) := dk_26 (dk_at dksJ8_hugeLength_1 0 rfl rfl)
theorem dJ8_hugeLength_25 : decode cJ8_hugeLength 25 = .ok (.invokevirtual 98, 3) := dk_182 0 98 (dk_at dksJ8_hugeLength_1 1 rfl rfl)
theorem dJ8_hugeLength_28 : decode cJ8_hugeLength 28 = .ok (.ldc 208, 2) := dk_18 208 (dk_at dksJ8_hugeLength_1 4 rfl rfl)
theorem dJ8_hugeLength_30 : decode cJ8_hugeLength 30 = .ok (.invokevirtual 94, 3) := dk_182 0 94 (dk_at dksJ8_hugeLength_1 6 rfl rfl)
theorem dJ8_hugeLength_33 : decode cJ8_hugeLength 33 = .ok (.iload_n 1, 1) := dk_27 (dk_at dksJ8_hugeLength_1 9 rfl rfl)
theorem dJ8_hugeLength_34 : decode cJ8_hugeLength 34 = .ok (.invokevirtual 98, 3) := dk_182 0 98 (dk_at dksJ8_hugeLength_1 10 rfl rfl)
theorem dJ8_hugeLength_37 : decode cJ8_hugeLength 37 = .ok (.ldc 210, 2) := dk_18 210 (dk_at dksJ8_hugeLength_1 13 rfl rfl)
theorem dJ8_hugeLength_39 : decode cJ8_hugeLength 39 = .ok (.invokevirtual 94, 3) := dk_182 0 94 (dk_at dksJ8_hugeLength_1 15 rfl rfl)
theorem dJ8_hugeLength_42 : decode cJ8_hugeLength 42 = .ok (.invokevirtual 101, 3) := dk_182 0 101 (dk_at dksJ8_hugeLength_1 18 rfl rfl)
theorem dJ8_hugeLength_45 : decode cJ8_hugeLength 45 = .ok (.invokespecial 212, 3) := dk_183 0 212 (dk_at dksJ8_hugeLength_1 21 rfl rfl)
theorem dJ8_hugeLength_48 : decode cJ8_hugeLength 48 = .ok (.athrow, 1) := dk_191 (dk_at dksJ8_hugeLength_2 0 rfl rfl)
theorem dJ8_hugeLength_49 : decode cJ8_hugeLength 49 = .ok (.iload_n 2, 1) := dk_28 (dk_at dksJ8_hugeLength_2 1 rfl rfl)
theorem dJ8_hugeLength_50 : decode cJ8_hugeLength 50 = .ok (.ldc 200, 2) := dk_18 200 (dk_at dksJ8_hugeLength_2 2 rfl rfl)
theorem dJ8_hugeLength_52 : decode cJ8_hugeLength 52 = .ok (.if_icmp .gt 6, 3) := dk_163 0 6 (dk_at dksJ8_hugeLength_2 4 rfl rfl)
theorem dJ8_hugeLength_55 : decode cJ8_hugeLength 55 = .ok (.ldc 200, 2) := dk_18 200 (dk_at dksJ8_hugeLength_2 7 rfl rfl)
theorem dJ8_hugeLength_57 : decode cJ8_hugeLength 57 = .ok (.ireturn, 1) := dk_172 (dk_at dksJ8_hugeLength_2 9 rfl rfl)
theorem dJ8_hugeLength_58 : decode cJ8_hugeLength 58 = .ok (.iload_n 2, 1) := dk_28 (dk_at dksJ8_hugeLength_2 10 rfl rfl)
theorem dJ8_hugeLength_59 : decode cJ8_hugeLength 59 = .ok (.ireturn, 1) := dk_172 (dk_at dksJ8_hugeLength_2 11 rfl rfl)
theorem q57 : (Jvm.Cond.initialized "jdk/internal/util/ArraysSupport") ∈ lw_all := lw_g (lw_at lw_m1 12 rfl) rfl
theorem q553 : (Jvm.Cond.static ({ cls := "jdk/internal/util/ArraysSupport", name := "newLength", desc := "(III)I" } : Jvm.MethodName)) ∈ lw_all := lw_g (lw_at lw_m3 28 rfl) rfl
theorem q554 : (Jvm.Cond.code ({ cls := "jdk/internal/util/ArraysSupport", name := "newLength", desc := "(III)I" } : Jvm.MethodName) prog_53_method_27_code (4 : Nat) (Option.some Jvm.ClassFile.FieldType.int)) ∈ lw_all := lw_g (lw_at lw_m3 29 rfl) rfl
theorem q555 : (Jvm.Cond.methodLink "jdk/internal/util/ArraysSupport" (194 : Nat) ({ cls := "java/lang/Math", name := "max", desc := "(II)I" } : Jvm.MethodName)) ∈ lw_all := lw_g (lw_at lw_m3 30 rfl) rfl
theorem q556 : (Jvm.Cond.constant "jdk/internal/util/ArraysSupport" (200 : Nat) (2147483639 : Int32)) ∈ lw_all := lw_g (lw_at lw_m3 31 rfl) rfl
theorem q557 : (Jvm.Cond.methodLink "jdk/internal/util/ArraysSupport" (201 : Nat) ({ cls := "jdk/internal/util/ArraysSupport", name := "hugeLength", desc := "(II)I" } : Jvm.MethodName)) ∈ lw_all := lw_g (lw_at lw_m3 32 rfl) rfl
theorem q558 : (Jvm.Cond.static ({ cls := "jdk/internal/util/ArraysSupport", name := "hugeLength", desc := "(II)I" } : Jvm.MethodName)) ∈ lw_all := lw_g (lw_at lw_m3 33 rfl) rfl
theorem q559 : (Jvm.Cond.code ({ cls := "jdk/internal/util/ArraysSupport", name := "hugeLength", desc := "(II)I" } : Jvm.MethodName) prog_53_method_28_code (3 : Nat) (Option.some Jvm.ClassFile.FieldType.int)) ∈ lw_all := lw_g (lw_at lw_m3 34 rfl) rfl
/-! java/lang/Math -/
set_option maxRecDepth 100000
def RJ9 : String := "java/lang/Math"
abbrev cJ9_max : ByteArray := prog_21_method_65_code
def yJ9_max : MethodName := ⟨RJ9, "max", "(II)I"⟩
def dkwJ9_max_0 : List UInt8 := [26, 27, 161, 0, 7, 26, 167, 0, 4, 27, 172]
abbrev dktJ9_max_0 : List UInt8 := dkwJ9_max_0 ++ []
theorem dksJ9_max_0 : cJ9_max.data.toList.drop 0 = dktJ9_max_0 := by decide +kernel
theorem dJ9_max_0 : decode cJ9_max 0 = .ok (.iload_n 0, 1) := dk_26 (dk_at dksJ9_max_0 0 rfl rfl)
theorem dJ9_max_1 : decode cJ9_max 1 = .ok (.iload_n 1, 1) := dk_27 (dk_at dksJ9_max_0 1 rfl rfl)
theorem dJ9_max_2 : decode cJ9_max 2 = .ok (.if_icmp .lt 7, 3) := dk_161 0 7 (dk_at dksJ9_max_0 2 rfl rfl)
theorem dJ9_max_5 : decode cJ9_max 5 = .ok (.iload_n 0, 1) := dk_26 (dk_at dksJ9_max_0 5 rfl rfl)
theorem dJ9_max_6 : decode cJ9_max 6 = .ok (.goto 4, 3) := dk_167 0 4 (dk_at dksJ9_max_0 6 rfl rfl)
theorem dJ9_max_9 : decode cJ9_max 9 = .ok (.iload_n 1, 1) := dk_27 (dk_at dksJ9_max_0 9 rfl rfl)
theorem dJ9_max_10 : decode cJ9_max 10 = .ok (.ireturn, 1) := dk_172 (dk_at dksJ9_max_0 10 rfl rfl)
abbrev cJ9_abs : ByteArray := prog_21_method_59_code
def yJ9_abs : MethodName := ⟨RJ9, "abs", "(I)I"⟩
def dkwJ9_abs_0 : List UInt8 := [26, 156, 0, 8, 26, 116, 167, 0, 4, 26, 172]
abbrev dktJ9_abs_0 : List UInt8 := dkwJ9_abs_0 ++ []
theorem dksJ9_abs_0 : cJ9_abs.data.toList.drop 0 = dktJ9_abs_0 := by decide +kernel
theorem dJ9_abs_0 : decode cJ9_abs 0 = .ok (.iload_n 0, 1) := dk_26 (dk_at dksJ9_abs_0 0 rfl rfl)
theorem dJ9_abs_1 : decode cJ9_abs 1 = .ok (.ifCond .ge 8, 3) := dk_156 0 8 (dk_at dksJ9_abs_0 1 rfl rfl)
theorem dJ9_abs_4 : decode cJ9_abs 4 = .ok (.iload_n 0, 1) := dk_26 (dk_at dksJ9_abs_0 4 rfl rfl)
theorem dJ9_abs_5 : decode cJ9_abs 5 = .ok (.ineg, 1) := dk_116 (dk_at dksJ9_abs_0 5 rfl rfl)
theorem dJ9_abs_6 : decode cJ9_abs 6 = .ok (.goto 4, 3) := dk_167 0 4 (dk_at dksJ9_abs_0 6 rfl rfl)
theorem dJ9_abs_9 : decode cJ9_abs 9 = .ok (.iload_n 0, 1) := dk_26 (dk_at dksJ9_abs_0 9 rfl rfl)
theorem dJ9_abs_10 : decode cJ9_abs 10 = .ok (.ireturn, 1) := dk_172 (dk_at dksJ9_abs_0 10 rfl rfl)
abbrev cJ9_min : ByteArray := prog_21_method_69_code
def yJ9_min : MethodName := ⟨RJ9, "min", "(II)I"⟩
def dkwJ9_min_0 : List UInt8 := [26, 27, 163, 0, 7, 26, 167, 0, 4, 27, 172]
abbrev dktJ9_min_0 : List UInt8 := dkwJ9_min_0 ++ []
theorem dksJ9_min_0 : cJ9_min.data.toList.drop 0 = dktJ9_min_0 := by decide +kernel
theorem dJ9_min_0 : decode cJ9_min 0 = .ok (.iload_n 0, 1) := dk_26 (dk_at dksJ9_min_0 0 rfl rfl)
theorem dJ9_min_1 : decode cJ9_min 1 = .ok (.iload_n 1, 1) := dk_27 (dk_at dksJ9_min_0 1 rfl rfl)
theorem dJ9_min_2 : decode cJ9_min 2 = .ok (.if_icmp .gt 7, 3) := dk_163 0 7 (dk_at dksJ9_min_0 2 rfl rfl)
theorem dJ9_min_5 : decode cJ9_min 5 = .ok (.iload_n 0, 1) := dk_26 (dk_at dksJ9_min_0 5 rfl rfl)
theorem dJ9_min_6 : decode cJ9_min 6 = .ok (.goto 4, 3) := dk_167 0 4 (dk_at dksJ9_min_0 6 rfl rfl)
theorem dJ9_min_9 : decode cJ9_min 9 = .ok (.iload_n 1, 1) := dk_27 (dk_at dksJ9_min_0 9 rfl rfl)
theorem dJ9_min_10 : decode cJ9_min 10 = .ok (.ireturn, 1) := dk_172 (dk_at dksJ9_min_0 10 rfl rfl)
theorem q58 : (Jvm.Cond.initialized "java/lang/Math") ∈ lw_all := lw_g (lw_at lw_m1 13 rfl) rfl
theorem q314 : (Jvm.Cond.static ({ cls := "java/lang/Math", name := "max", desc := "(II)I" } : Jvm.MethodName)) ∈ lw_all := lw_g (lw_at lw_m2 29 rfl) rfl
theorem q315 : (Jvm.Cond.code ({ cls := "java/lang/Math", name := "max", desc := "(II)I" } : Jvm.MethodName) prog_21_method_65_code (2 : Nat) (Option.some Jvm.ClassFile.FieldType.int)) ∈ lw_all := lw_g (lw_at lw_m2 30 rfl) rfl
theorem q436 : (Jvm.Cond.static ({ cls := "java/lang/Math", name := "abs", desc := "(I)I" } : Jvm.MethodName)) ∈ lw_all := lw_g (lw_at lw_m2 151 rfl) rfl
theorem q437 : (Jvm.Cond.code ({ cls := "java/lang/Math", name := "abs", desc := "(I)I" } : Jvm.MethodName) prog_21_method_59_code (1 : Nat) (Option.some Jvm.ClassFile.FieldType.int)) ∈ lw_all := lw_g (lw_at lw_m2 152 rfl) rfl
theorem q592 : (Jvm.Cond.static ({ cls := "java/lang/Math", name := "min", desc := "(II)I" } : Jvm.MethodName)) ∈ lw_all := lw_g (lw_at lw_m3 67 rfl) rfl
theorem q593 : (Jvm.Cond.code ({ cls := "java/lang/Math", name := "min", desc := "(II)I" } : Jvm.MethodName) prog_21_method_69_code (2 : Nat) (Option.some Jvm.ClassFile.FieldType.int)) ∈ lw_all := lw_g (lw_at lw_m3 68 rfl) rfl
