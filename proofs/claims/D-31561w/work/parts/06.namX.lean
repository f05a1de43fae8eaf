/-! Peerpanel$Person -/
set_option maxRecDepth 100000
def RX3 : String := "Peerpanel$Person"
def TX3 : u_T := fun k => match k with
  | 0 => ("Peerpanel$Person", "number", "I", true)
  | 1 => ("Peerpanel$Person", "group", "I", true)
  | 2 => ("Peerpanel$Person", "weight", "I", false)
  | 3 => ("Peerpanel$Person", "load", "I", false)
  | 4 => ("Peerpanel$Person", "errors", "I", false)
  | 5 => ("Peerpanel$Person", "calibrations", "I", false)
  | 6 => ("Peerpanel$Person", "work", "LPeerpanel$Work;", false)
  | _ => ("Peerpanel$Person", "this$0", "LPeerpanel;", true)
def tyX3 : Nat → FieldType := fun k => match k with
  | 0 => .int
  | 1 => .int
  | 2 => .int
  | 3 => .int
  | 4 => .int
  | 5 => .int
  | 6 => .object "Peerpanel$Work"
  | _ => .object "Peerpanel"
abbrev wsX30 : List Cond := u_ws RX3 TX3 8
theorem nmX3 : ∀ a, a < 8 → ∀ b, b < 8 → a ≠ b → (TX3 a).2.1 ≠ (TX3 b).2.1 := by decide +kernel
theorem tyX3_ok : ∀ k, k < 8 → parseFieldDescriptor (TX3 k).2.2.1 = some (tyX3 k) := by decide +kernel
abbrev cX3_plainWeight : ByteArray := prog_4_method_2_code
def yX3_plainWeight : MethodName := ⟨RX3, "plainWeight", "()I"⟩
def dkwX3_plainWeight_0 : List UInt8 := [42, 180, 0, 25, 42, 180, 0, 28, 8, 184, 0, 31, 172]
abbrev dktX3_plainWeight_0 : List UInt8 := dkwX3_plainWeight_0 ++ []
theorem dksX3_plainWeight_0 : cX3_plainWeight.data.toList.drop 0 = dktX3_plainWeight_0 := by decide +kernel
theorem dX3_plainWeight_0 : decode cX3_plainWeight 0 = .ok (.aload_n 0, 1) := dk_42 (dk_at dksX3_plainWeight_0 0 rfl rfl)
theorem dX3_plainWeight_1 : decode cX3_plainWeight 1 = .ok (.getfield 25, 3) := dk_180 0 25 (dk_at dksX3_plainWeight_0 1 rfl rfl)
theorem dX3_plainWeight_4 : decode cX3_plainWeight 4 = .ok (.aload_n 0, 1) := dk_42 (dk_at dksX3_plainWeight_0 4 rfl rfl)
theorem dX3_plainWeight_5 : decode cX3_plainWeight 5 = .ok (.getfield 28, 3) := dk_180 0 28 (dk_at dksX3_plainWeight_0 5 rfl rfl)
theorem dX3_plainWeight_8 : decode cX3_plainWeight 8 = .ok (.iconst 5, 1) := dk_8 (dk_at dksX3_plainWeight_0 8 rfl rfl)
theorem dX3_plainWeight_9 : decode cX3_plainWeight 9 = .ok (.invokestatic 31, 3) := dk_184 0 31 (dk_at dksX3_plainWeight_0 9 rfl rfl)
theorem dX3_plainWeight_12 : decode cX3_plainWeight 12 = .ok (.ireturn, 1) := dk_172 (dk_at dksX3_plainWeight_0 12 rfl rfl)
abbrev cX3_init : ByteArray := prog_4_method_1_code
def yX3_init : MethodName := ⟨RX3, "<init>", "(LPeerpanel;II)V"⟩
def dkwX3_init_1 : List UInt8 := [177]
abbrev dktX3_init_1 : List UInt8 := dkwX3_init_1 ++ []
def dkwX3_init_0 : List UInt8 := [42, 43, 181, 0, 3, 42, 183, 0, 9, 42, 8, 181, 0, 15, 42, 28, 181, 0, 19, 42, 29, 181, 0, 22]
abbrev dktX3_init_0 : List UInt8 := dkwX3_init_0 ++ dktX3_init_1
theorem dksX3_init_0 : cX3_init.data.toList.drop 0 = dktX3_init_0 := by decide +kernel
theorem dksX3_init_1 : cX3_init.data.toList.drop 24 = dktX3_init_1 := dk_seg dksX3_init_0 24 rfl rfl
theorem dX3_init_0 : decode cX3_init 0 = .ok (.aload_n 0, 1) := dk_42 (dk_at dksX3_init_0 0 rfl rfl)
theorem dX3_init_1 : decode cX3_init 1 = .ok (.aload_n 1, 1) := dk_43 (dk_at dksX3_init_0 1 rfl rfl)
theorem dX3_init_2 : decode cX3_init 2 = .ok (.putfield 3, 3) := dk_181 0 3 (dk_at dksX3_init_0 2 rfl rfl)
theorem dX3_init_5 : decode cX3_init 5 = .ok (.aload_n 0, 1) := dk_42 (dk_at dksX3_init_0 5 rfl rfl)
theorem dX3_init_6 : decode cX3_init 6 = .ok (.invokespecial 9, 3) := dk_183 0 9 (dk_at dksX3_init_0 6 rfl rfl)
theorem dX3_init_9 : decode cX3_init 9 = .ok (.aload_n 0, 1) := dk_42 (dk_at dksX3_init_0 9 rfl rfl)
theorem dX3_init_10 : decode cX3_init 10 = .ok (.iconst 5, 1) := dk_8 (dk_at dksX3_init_0 10 rfl rfl)
theorem dX3_init_11 : decode cX3_init 11 = .ok (.putfield 15, 3) := dk_181 0 15 (dk_at dksX3_init_0 11 rfl rfl)
theorem dX3_init_14 : decode cX3_init 14 = .ok (.aload_n 0, 1) := dk_42 (dk_at dksX3_init_0 14 rfl rfl)
theorem dX3_init_15 : decode cX3_init 15 = .ok (.iload_n 2, 1) := dk_28 (dk_at dksX3_init_0 15 rfl rfl)
theorem dX3_init_16 : decode cX3_init 16 = .ok (.putfield 19, 3) := dk_181 0 19 (dk_at dksX3_init_0 16 rfl rfl)
theorem dX3_init_19 : decode cX3_init 19 = .ok (.aload_n 0, 1) := dk_42 (dk_at dksX3_init_0 19 rfl rfl)
theorem dX3_init_20 : decode cX3_init 20 = .ok (.iload_n 3, 1) := dk_29 (dk_at dksX3_init_0 20 rfl rfl)
theorem dX3_init_21 : decode cX3_init 21 = .ok (.putfield 22, 3) := dk_181 0 22 (dk_at dksX3_init_0 21 rfl rfl)
theorem dX3_init_24 : decode cX3_init 24 = .ok (.return_, 1) := dk_177 (dk_at dksX3_init_1 0 rfl rfl)
abbrev cX3_nextWeight : ByteArray := prog_4_method_3_code
def yX3_nextWeight : MethodName := ⟨RX3, "nextWeight", "([I)I"⟩
def dkwX3_nextWeight_5 : List UInt8 := [132, 3, 1, 132, 4, 1, 167, 255, 150, 28, 29, 42, 180, 0, 15, 184, 0, 31, 172]
abbrev dktX3_nextWeight_5 : List UInt8 := dkwX3_nextWeight_5 ++ []
def dkwX3_nextWeight_4 : List UInt8 := [199, 0, 6, 167, 0, 22, 28, 25, 5, 180, 0, 72, 43, 21, 4, 46, 100, 184, 0, 75, 96, 61]
abbrev dktX3_nextWeight_4 : List UInt8 := dkwX3_nextWeight_4 ++ dktX3_nextWeight_5
def dkwX3_nextWeight_3 : List UInt8 := [180, 0, 49, 180, 0, 53, 42, 180, 0, 19, 184, 0, 59, 182, 0, 65, 192, 0, 70, 58, 5, 25, 5]
abbrev dktX3_nextWeight_3 : List UInt8 := dkwX3_nextWeight_3 ++ dktX3_nextWeight_4
def dkwX3_nextWeight_2 : List UInt8 := [199, 0, 7, 1, 167, 0, 37, 42, 180, 0, 3, 180, 0, 35, 21, 4, 182, 0, 45, 192, 0, 4]
abbrev dktX3_nextWeight_2 : List UInt8 := dkwX3_nextWeight_2 ++ dktX3_nextWeight_3
def dkwX3_nextWeight_1 : List UInt8 := [182, 0, 39, 162, 0, 97, 42, 180, 0, 3, 180, 0, 35, 21, 4, 182, 0, 45, 192, 0, 4, 180, 0, 49]
abbrev dktX3_nextWeight_1 : List UInt8 := dkwX3_nextWeight_1 ++ dktX3_nextWeight_2
def dkwX3_nextWeight_0 : List UInt8 := [42, 180, 0, 25, 61, 42, 180, 0, 28, 62, 3, 54, 4, 21, 4, 42, 180, 0, 3, 180, 0, 35]
abbrev dktX3_nextWeight_0 : List UInt8 := dkwX3_nextWeight_0 ++ dktX3_nextWeight_1
theorem dksX3_nextWeight_0 : cX3_nextWeight.data.toList.drop 0 = dktX3_nextWeight_0 := by decide +kernel
theorem dksX3_nextWeight_1 : cX3_nextWeight.data.toList.drop 22 = dktX3_nextWeight_1 := dk_seg dksX3_nextWeight_0 22 rfl rfl
theorem dksX3_nextWeight_2 : cX3_nextWeight.data.toList.drop 46 = dktX3_nextWeight_2 := dk_seg dksX3_nextWeight_1 24 rfl rfl
theorem dksX3_nextWeight_3 : cX3_nextWeight.data.toList.drop 68 = dktX3_nextWeight_3 := dk_seg dksX3_nextWeight_2 22 rfl rfl
theorem dksX3_nextWeight_4 : cX3_nextWeight.data.toList.drop 91 = dktX3_nextWeight_4 := dk_seg dksX3_nextWeight_3 23 rfl rfl
theorem dksX3_nextWeight_5 : cX3_nextWeight.data.toList.drop 113 = dktX3_nextWeight_5 := dk_seg dksX3_nextWeight_4 22 rfl rfl
theorem dX3_nextWeight_0 : decode cX3_nextWeight 0 = .ok (.aload_n 0, 1) := dk_42 (dk_at dksX3_nextWeight_0 0 rfl rfl)
theorem dX3_nextWeight_1 : decode cX3_nextWeight 1 = .ok (.getfield 25, 3) := dk_180 0 25 (dk_at dksX3_nextWeight_0 1 rfl rfl)
theorem dX3_nextWeight_4 : decode cX3_nextWeight 4 = .ok (.istore_n 2, 1) := dk_61 (dk_at dksX3_nextWeight_0 4 rfl rfl)
theorem dX3_nextWeight_5 : decode cX3_nextWeight 5 = .ok (.aload_n 0, 1) := dk_42 (dk_at dksX3_nextWeight_0 5 rfl rfl)
theorem dX3_nextWeight_6 : decode cX3_nextWeight 6 = .ok (.getfield 28, 3) := dk_180 0 28 (dk_at dksX3_nextWeight_0 6 rfl rfl)
theorem dX3_nextWeight_9 : decode cX3_nextWeight 9 = .ok (.istore_n 3, 1) := dk_62 (dk_at dksX3_nextWeight_0 9 rfl rfl)
theorem dX3_nextWeight_10 : decode cX3_nextWeight 10 = .ok (.iconst 0, 1) := dk_3 (dk_at dksX3_nextWeight_0 10 rfl rfl)
theorem dX3_nextWeight_11 : decode cX3_nextWeight 11 = .ok (.istore 4, 2) := dk_54 4 (dk_at dksX3_nextWeight_0 11 rfl rfl)
theorem dX3_nextWeight_13 : decode cX3_nextWeight 13 = .ok (.iload 4, 2) := dk_21 4 (dk_at dksX3_nextWeight_0 13 rfl rfl)
theorem dX3_nextWeight_15 : decode cX3_nextWeight 15 = .ok (.aload_n 0, 1) := dk_42 (dk_at dksX3_nextWeight_0 15 rfl rfl)
theorem dX3_nextWeight_16 : decode cX3_nextWeight 16 = .ok (.getfield 3, 3) := dk_180 0 3 (dk_at dksX3_nextWeight_0 16 rfl rfl)
theorem dX3_nextWeight_19 : decode cX3_nextWeight 19 = .ok (.getfield 35, 3) := dk_180 0 35 (dk_at dksX3_nextWeight_0 19 rfl rfl)
theorem dX3_nextWeight_22 : decode cX3_nextWeight 22 = .ok (.invokevirtual 39, 3) := dk_182 0 39 (dk_at dksX3_nextWeight_1 0 rfl rfl)
theorem dX3_nextWeight_25 : decode cX3_nextWeight 25 = .ok (.if_icmp .ge 97, 3) := dk_162 0 97 (dk_at dksX3_nextWeight_1 3 rfl rfl)
theorem dX3_nextWeight_28 : decode cX3_nextWeight 28 = .ok (.aload_n 0, 1) := dk_42 (dk_at dksX3_nextWeight_1 6 rfl rfl)
theorem dX3_nextWeight_29 : decode cX3_nextWeight 29 = .ok (.getfield 3, 3) := dk_180 0 3 (dk_at dksX3_nextWeight_1 7 rfl rfl)
theorem dX3_nextWeight_32 : decode cX3_nextWeight 32 = .ok (.getfield 35, 3) := dk_180 0 35 (dk_at dksX3_nextWeight_1 10 rfl rfl)
theorem dX3_nextWeight_35 : decode cX3_nextWeight 35 = .ok (.iload 4, 2) := dk_21 4 (dk_at dksX3_nextWeight_1 13 rfl rfl)
theorem dX3_nextWeight_37 : decode cX3_nextWeight 37 = .ok (.invokevirtual 45, 3) := dk_182 0 45 (dk_at dksX3_nextWeight_1 15 rfl rfl)
theorem dX3_nextWeight_40 : decode cX3_nextWeight 40 = .ok (.checkcast 4, 3) := dk_192 0 4 (dk_at dksX3_nextWeight_1 18 rfl rfl)
theorem dX3_nextWeight_43 : decode cX3_nextWeight 43 = .ok (.getfield 49, 3) := dk_180 0 49 (dk_at dksX3_nextWeight_1 21 rfl rfl)
theorem dX3_nextWeight_46 : decode cX3_nextWeight 46 = .ok (.ifnonnull 7, 3) := dk_199 0 7 (dk_at dksX3_nextWeight_2 0 rfl rfl)
theorem dX3_nextWeight_49 : decode cX3_nextWeight 49 = .ok (.aconst_null, 1) := dk_1 (dk_at dksX3_nextWeight_2 3 rfl rfl)
theorem dX3_nextWeight_50 : decode cX3_nextWeight 50 = .ok (.goto 37, 3) := dk_167 0 37 (dk_at dksX3_nextWeight_2 4 rfl rfl)
theorem dX3_nextWeight_53 : decode cX3_nextWeight 53 = .ok (.aload_n 0, 1) := dk_42 (dk_at dksX3_nextWeight_2 7 rfl rfl)
theorem dX3_nextWeight_54 : decode cX3_nextWeight 54 = .ok (.getfield 3, 3) := dk_180 0 3 (dk_at dksX3_nextWeight_2 8 rfl rfl)
theorem dX3_nextWeight_57 : decode cX3_nextWeight 57 = .ok (.getfield 35, 3) := dk_180 0 35 (dk_at dksX3_nextWeight_2 11 rfl rfl)
theorem dX3_nextWeight_60 : decode cX3_nextWeight 60 = .ok (.iload 4, 2) := dk_21 4 (dk_at dksX3_nextWeight_2 14 rfl rfl)
theorem dX3_nextWeight_62 : decode cX3_nextWeight 62 = .ok (.invokevirtual 45, 3) := dk_182 0 45 (dk_at dksX3_nextWeight_2 16 rfl rfl)
theorem dX3_nextWeight_65 : decode cX3_nextWeight 65 = .ok (.checkcast 4, 3) := dk_192 0 4 (dk_at dksX3_nextWeight_2 19 rfl rfl)
theorem dX3_nextWeight_68 : decode cX3_nextWeight 68 = .ok (.getfield 49, 3) := dk_180 0 49 (dk_at dksX3_nextWeight_3 0 rfl rfl)
theorem dX3_nextWeight_71 : decode cX3_nextWeight 71 = .ok (.getfield 53, 3) := dk_180 0 53 (dk_at dksX3_nextWeight_3 3 rfl rfl)
theorem dX3_nextWeight_74 : decode cX3_nextWeight 74 = .ok (.aload_n 0, 1) := dk_42 (dk_at dksX3_nextWeight_3 6 rfl rfl)
theorem dX3_nextWeight_75 : decode cX3_nextWeight 75 = .ok (.getfield 19, 3) := dk_180 0 19 (dk_at dksX3_nextWeight_3 7 rfl rfl)
theorem dX3_nextWeight_78 : decode cX3_nextWeight 78 = .ok (.invokestatic 59, 3) := dk_184 0 59 (dk_at dksX3_nextWeight_3 10 rfl rfl)
theorem dX3_nextWeight_81 : decode cX3_nextWeight 81 = .ok (.invokevirtual 65, 3) := dk_182 0 65 (dk_at dksX3_nextWeight_3 13 rfl rfl)
theorem dX3_nextWeight_84 : decode cX3_nextWeight 84 = .ok (.checkcast 70, 3) := dk_192 0 70 (dk_at dksX3_nextWeight_3 16 rfl rfl)
theorem dX3_nextWeight_87 : decode cX3_nextWeight 87 = .ok (.astore 5, 2) := dk_58 5 (dk_at dksX3_nextWeight_3 19 rfl rfl)
theorem dX3_nextWeight_89 : decode cX3_nextWeight 89 = .ok (.aload 5, 2) := dk_25 5 (dk_at dksX3_nextWeight_3 21 rfl rfl)
theorem dX3_nextWeight_91 : decode cX3_nextWeight 91 = .ok (.ifnonnull 6, 3) := dk_199 0 6 (dk_at dksX3_nextWeight_4 0 rfl rfl)
theorem dX3_nextWeight_94 : decode cX3_nextWeight 94 = .ok (.goto 22, 3) := dk_167 0 22 (dk_at dksX3_nextWeight_4 3 rfl rfl)
theorem dX3_nextWeight_97 : decode cX3_nextWeight 97 = .ok (.iload_n 2, 1) := dk_28 (dk_at dksX3_nextWeight_4 6 rfl rfl)
theorem dX3_nextWeight_98 : decode cX3_nextWeight 98 = .ok (.aload 5, 2) := dk_25 5 (dk_at dksX3_nextWeight_4 7 rfl rfl)
theorem dX3_nextWeight_100 : decode cX3_nextWeight 100 = .ok (.getfield 72, 3) := dk_180 0 72 (dk_at dksX3_nextWeight_4 9 rfl rfl)
theorem dX3_nextWeight_103 : decode cX3_nextWeight 103 = .ok (.aload_n 1, 1) := dk_43 (dk_at dksX3_nextWeight_4 12 rfl rfl)
theorem dX3_nextWeight_104 : decode cX3_nextWeight 104 = .ok (.iload 4, 2) := dk_21 4 (dk_at dksX3_nextWeight_4 13 rfl rfl)
theorem dX3_nextWeight_106 : decode cX3_nextWeight 106 = .ok (.iaload, 1) := dk_46 (dk_at dksX3_nextWeight_4 15 rfl rfl)
theorem dX3_nextWeight_107 : decode cX3_nextWeight 107 = .ok (.isub, 1) := dk_100 (dk_at dksX3_nextWeight_4 16 rfl rfl)
theorem dX3_nextWeight_108 : decode cX3_nextWeight 108 = .ok (.invokestatic 75, 3) := dk_184 0 75 (dk_at dksX3_nextWeight_4 17 rfl rfl)
theorem dX3_nextWeight_111 : decode cX3_nextWeight 111 = .ok (.iadd, 1) := dk_96 (dk_at dksX3_nextWeight_4 20 rfl rfl)
theorem dX3_nextWeight_112 : decode cX3_nextWeight 112 = .ok (.istore_n 2, 1) := dk_61 (dk_at dksX3_nextWeight_4 21 rfl rfl)
theorem dX3_nextWeight_113 : decode cX3_nextWeight 113 = .ok (.iinc 3 1, 3) := dk_132 3 1 (dk_at dksX3_nextWeight_5 0 rfl rfl)
theorem dX3_nextWeight_116 : decode cX3_nextWeight 116 = .ok (.iinc 4 1, 3) := dk_132 4 1 (dk_at dksX3_nextWeight_5 3 rfl rfl)
theorem dX3_nextWeight_119 : decode cX3_nextWeight 119 = .ok (.goto (-106), 3) := dk_167 255 150 (dk_at dksX3_nextWeight_5 6 rfl rfl)
theorem dX3_nextWeight_122 : decode cX3_nextWeight 122 = .ok (.iload_n 2, 1) := dk_28 (dk_at dksX3_nextWeight_5 9 rfl rfl)
theorem dX3_nextWeight_123 : decode cX3_nextWeight 123 = .ok (.iload_n 3, 1) := dk_29 (dk_at dksX3_nextWeight_5 10 rfl rfl)
theorem dX3_nextWeight_124 : decode cX3_nextWeight 124 = .ok (.aload_n 0, 1) := dk_42 (dk_at dksX3_nextWeight_5 11 rfl rfl)
theorem dX3_nextWeight_125 : decode cX3_nextWeight 125 = .ok (.getfield 15, 3) := dk_180 0 15 (dk_at dksX3_nextWeight_5 12 rfl rfl)
theorem dX3_nextWeight_128 : decode cX3_nextWeight 128 = .ok (.invokestatic 31, 3) := dk_184 0 31 (dk_at dksX3_nextWeight_5 15 rfl rfl)
theorem dX3_nextWeight_131 : decode cX3_nextWeight 131 = .ok (.ireturn, 1) := dk_172 (dk_at dksX3_nextWeight_5 18 rfl rfl)
theorem q56 : (Jvm.Cond.initialized "Peerpanel$Person") ∈ lw_all := lw_g (lw_at lw_m1 11 rfl) rfl
theorem q122 : (Jvm.Cond.fieldLinkNest "Peerpanel$Person" (35 : Nat) "Peerpanel" "people" "Ljava/util/ArrayList;" "Peerpanel") ∈ lw_tbl := lw_at lw_m1 77 rfl
theorem q307 : (Jvm.Cond.instanceMethod ({ cls := "Peerpanel$Person", name := "plainWeight", desc := "()I" } : Jvm.MethodName)) ∈ lw_all := lw_g (lw_at lw_m2 22 rfl) rfl
theorem q308 : (Jvm.Cond.selects "Peerpanel$Person" ({ cls := "Peerpanel$Person", name := "plainWeight", desc := "()I" } : Jvm.MethodName) ({ cls := "Peerpanel$Person", name := "plainWeight", desc := "()I" } : Jvm.MethodName)) ∈ lw_all := lw_g (lw_at lw_m2 23 rfl) rfl
theorem q309 : (Jvm.Cond.code ({ cls := "Peerpanel$Person", name := "plainWeight", desc := "()I" } : Jvm.MethodName) prog_4_method_2_code (1 : Nat) (Option.some Jvm.ClassFile.FieldType.int)) ∈ lw_all := lw_g (lw_at lw_m2 24 rfl) rfl
theorem q310 : (Jvm.Cond.methodLinkNest "Peerpanel$Person" (31 : Nat) ({ cls := "Peerpanel", name := "weightBy", desc := "(III)I" } : Jvm.MethodName) "Peerpanel") ∈ lw_tbl := lw_at lw_m2 25 rfl
theorem q496 : (Jvm.Cond.instantiable "Peerpanel$Person" (8 : Nat)) ∈ lw_all := lw_g (lw_at lw_m2 211 rfl) rfl
theorem q498 : (Jvm.Cond.instanceMethod ({ cls := "Peerpanel$Person", name := "<init>", desc := "(LPeerpanel;II)V" } : Jvm.MethodName)) ∈ lw_all := lw_g (lw_at lw_m2 213 rfl) rfl
theorem q499 : (Jvm.Cond.code ({ cls := "Peerpanel$Person", name := "<init>", desc := "(LPeerpanel;II)V" } : Jvm.MethodName) prog_4_method_1_code (4 : Nat) (Option.none : Option Jvm.ClassFile.FieldType)) ∈ lw_all := lw_g (lw_at lw_m2 214 rfl) rfl
theorem q500 : (Jvm.Cond.methodLink "Peerpanel$Person" (9 : Nat) ({ cls := "java/lang/Object", name := "<init>", desc := "()V" } : Jvm.MethodName)) ∈ lw_all := lw_g (lw_at lw_m2 215 rfl) rfl
theorem q501 : (Jvm.Cond.fieldLink "Peerpanel$Person" (19 : Nat) "Peerpanel$Person" "number" "I") ∈ lw_all := lw_g (lw_at lw_m2 216 rfl) rfl
theorem q504 : (Jvm.Cond.fieldLink "Peerpanel$Person" (22 : Nat) "Peerpanel$Person" "group" "I") ∈ lw_all := lw_g (lw_at lw_m2 219 rfl) rfl
theorem q507 : (Jvm.Cond.fieldLink "Peerpanel$Person" (15 : Nat) "Peerpanel$Person" "weight" "I") ∈ lw_all := lw_g (lw_at lw_m2 222 rfl) rfl
theorem q512 : (Jvm.Cond.fieldLink "Peerpanel$Person" (25 : Nat) "Peerpanel$Person" "errors" "I") ∈ lw_all := lw_g (lw_at lw_m2 227 rfl) rfl
theorem q514 : (Jvm.Cond.fieldLink "Peerpanel$Person" (28 : Nat) "Peerpanel$Person" "calibrations" "I") ∈ lw_all := lw_g (lw_at lw_m2 229 rfl) rfl
theorem q516 : (Jvm.Cond.fieldLink "Peerpanel$Person" (49 : Nat) "Peerpanel$Person" "work" "LPeerpanel$Work;") ∈ lw_all := lw_g (lw_at lw_m2 231 rfl) rfl
theorem q518 : (Jvm.Cond.fieldLink "Peerpanel$Person" (3 : Nat) "Peerpanel$Person" "this$0" "LPeerpanel;") ∈ lw_all := lw_g (lw_at lw_m2 233 rfl) rfl
theorem q519 : (Jvm.Cond.laysFinal "Peerpanel$Person" "Peerpanel$Person" "number" "I") ∈ lw_all := lw_g (lw_at lw_m2 234 rfl) rfl
theorem q520 : (Jvm.Cond.soleField "Peerpanel$Person" "number") ∈ lw_all := lw_g (lw_at lw_m2 235 rfl) rfl
theorem q521 : (Jvm.Cond.laysFinal "Peerpanel$Person" "Peerpanel$Person" "group" "I") ∈ lw_all := lw_g (lw_at lw_m2 236 rfl) rfl
theorem q522 : (Jvm.Cond.soleField "Peerpanel$Person" "group") ∈ lw_all := lw_g (lw_at lw_m2 237 rfl) rfl
theorem q523 : (Jvm.Cond.lays "Peerpanel$Person" "Peerpanel$Person" "weight" "I") ∈ lw_all := lw_g (lw_at lw_m2 238 rfl) rfl
theorem q524 : (Jvm.Cond.soleField "Peerpanel$Person" "weight") ∈ lw_all := lw_g (lw_at lw_m2 239 rfl) rfl
theorem q525 : (Jvm.Cond.lays "Peerpanel$Person" "Peerpanel$Person" "load" "I") ∈ lw_all := lw_g (lw_at lw_m3 0 rfl) rfl
theorem q526 : (Jvm.Cond.soleField "Peerpanel$Person" "load") ∈ lw_all := lw_g (lw_at lw_m3 1 rfl) rfl
theorem q527 : (Jvm.Cond.lays "Peerpanel$Person" "Peerpanel$Person" "errors" "I") ∈ lw_all := lw_g (lw_at lw_m3 2 rfl) rfl
theorem q528 : (Jvm.Cond.soleField "Peerpanel$Person" "errors") ∈ lw_all := lw_g (lw_at lw_m3 3 rfl) rfl
theorem q529 : (Jvm.Cond.lays "Peerpanel$Person" "Peerpanel$Person" "calibrations" "I") ∈ lw_all := lw_g (lw_at lw_m3 4 rfl) rfl
theorem q530 : (Jvm.Cond.soleField "Peerpanel$Person" "calibrations") ∈ lw_all := lw_g (lw_at lw_m3 5 rfl) rfl
theorem q531 : (Jvm.Cond.lays "Peerpanel$Person" "Peerpanel$Person" "work" "LPeerpanel$Work;") ∈ lw_all := lw_g (lw_at lw_m3 6 rfl) rfl
theorem q532 : (Jvm.Cond.soleField "Peerpanel$Person" "work") ∈ lw_all := lw_g (lw_at lw_m3 7 rfl) rfl
theorem q533 : (Jvm.Cond.laysFinal "Peerpanel$Person" "Peerpanel$Person" "this$0" "LPeerpanel;") ∈ lw_all := lw_g (lw_at lw_m3 8 rfl) rfl
theorem q534 : (Jvm.Cond.soleField "Peerpanel$Person" "this$0") ∈ lw_all := lw_g (lw_at lw_m3 9 rfl) rfl
theorem q535 : (Jvm.Cond.superclass "Peerpanel$Person" "java/lang/Object") ∈ lw_all := lw_g (lw_at lw_m3 10 rfl) rfl
theorem q568 : (Jvm.Cond.selects "Peerpanel$Person" ({ cls := "java/lang/Object", name := "getClass", desc := "()Ljava/lang/Class;" } : Jvm.MethodName) ({ cls := "java/lang/Object", name := "getClass", desc := "()Ljava/lang/Class;" } : Jvm.MethodName)) ∈ lw_all := lw_g (lw_at lw_m3 43 rfl) rfl
theorem q703 : (Jvm.Cond.fieldLinkNest "Peerpanel$Person" (53 : Nat) "Peerpanel$Work" "reviews" "Ljava/util/TreeMap;" "Peerpanel") ∈ lw_tbl := lw_at lw_m3 178 rfl
theorem q867 : (Jvm.Cond.instanceMethod ({ cls := "Peerpanel$Person", name := "nextWeight", desc := "([I)I" } : Jvm.MethodName)) ∈ lw_all := lw_g (lw_at lw_m4 102 rfl) rfl
theorem q868 : (Jvm.Cond.selects "Peerpanel$Person" ({ cls := "Peerpanel$Person", name := "nextWeight", desc := "([I)I" } : Jvm.MethodName) ({ cls := "Peerpanel$Person", name := "nextWeight", desc := "([I)I" } : Jvm.MethodName)) ∈ lw_all := lw_g (lw_at lw_m4 103 rfl) rfl
theorem q869 : (Jvm.Cond.code ({ cls := "Peerpanel$Person", name := "nextWeight", desc := "([I)I" } : Jvm.MethodName) prog_4_method_3_code (6 : Nat) (Option.some Jvm.ClassFile.FieldType.int)) ∈ lw_all := lw_g (lw_at lw_m4 104 rfl) rfl
theorem q870 : (Jvm.Cond.methodLink "Peerpanel$Person" (39 : Nat) ({ cls := "java/util/ArrayList", name := "size", desc := "()I" } : Jvm.MethodName)) ∈ lw_all := lw_g (lw_at lw_m4 105 rfl) rfl
theorem q871 : (Jvm.Cond.methodLink "Peerpanel$Person" (45 : Nat) ({ cls := "java/util/ArrayList", name := "get", desc := "(I)Ljava/lang/Object;" } : Jvm.MethodName)) ∈ lw_all := lw_g (lw_at lw_m4 106 rfl) rfl
theorem q872 : (Jvm.Cond.classLink "Peerpanel$Person" (4 : Nat) "Peerpanel$Person") ∈ lw_all := lw_g (lw_at lw_m4 107 rfl) rfl
theorem q873 : (Jvm.Cond.methodLink "Peerpanel$Person" (59 : Nat) ({ cls := "java/lang/Integer", name := "valueOf", desc := "(I)Ljava/lang/Integer;" } : Jvm.MethodName)) ∈ lw_all := lw_g (lw_at lw_m4 108 rfl) rfl
theorem q893 : (Jvm.Cond.methodLink "Peerpanel$Person" (65 : Nat) ({ cls := "java/util/TreeMap", name := "get", desc := "(Ljava/lang/Object;)Ljava/lang/Object;" } : Jvm.MethodName)) ∈ lw_all := lw_g (lw_at lw_m4 128 rfl) rfl
theorem q936 : (Jvm.Cond.classLink "Peerpanel$Person" (70 : Nat) "Peerpanel$Review") ∈ lw_all := lw_g (lw_at lw_m4 171 rfl) rfl
theorem q937 : (Jvm.Cond.methodLink "Peerpanel$Person" (75 : Nat) ({ cls := "java/lang/Math", name := "abs", desc := "(I)I" } : Jvm.MethodName)) ∈ lw_all := lw_g (lw_at lw_m4 172 rfl) rfl
theorem q962 : (Jvm.Cond.fieldLinkNest "Peerpanel$Person" (72 : Nat) "Peerpanel$Review" "mark" "I" "Peerpanel") ∈ lw_tbl := lw_at lw_m4 197 rfl
theorem q1434 : (Jvm.Cond.castable "Peerpanel$Person" "java/lang/Object") ∈ lw_tbl := lw_at lw_m6 189 rfl
theorem in_X3 : ∀ w ∈ wsX30, w ∈ lw_all := lw_in wsX30 [519, 521, 523, 525, 527, 529, 531, 533] (by decide +kernel) (by decide +kernel)
/-! Peerpanel$Work -/
set_option maxRecDepth 100000
def RX4 : String := "Peerpanel$Work"
def TX4 : u_T := fun k => match k with
  | 0 => ("Peerpanel$Work", "author", "LPeerpanel$Person;", true)
  | 1 => ("Peerpanel$Work", "reviews", "Ljava/util/TreeMap;", true)
  | 2 => ("Peerpanel$Work", "readers", "I", false)
  | 3 => ("Peerpanel$Work", "replaced", "I", false)
  | 4 => ("Peerpanel$Work", "appealReader", "I", false)
  | 5 => ("Peerpanel$Work", "hadAppeal", "Z", false)
  | _ => ("Peerpanel$Work", "this$0", "LPeerpanel;", true)
def tyX4 : Nat → FieldType := fun k => match k with
  | 0 => .object "Peerpanel$Person"
  | 1 => .object "java/util/TreeMap"
  | 2 => .int
  | 3 => .int
  | 4 => .int
  | 5 => .boolean
  | _ => .object "Peerpanel"
abbrev wsX40 : List Cond := u_ws RX4 TX4 7
theorem nmX4 : ∀ a, a < 7 → ∀ b, b < 7 → a ≠ b → (TX4 a).2.1 ≠ (TX4 b).2.1 := by decide +kernel
theorem tyX4_ok : ∀ k, k < 7 → parseFieldDescriptor (TX4 k).2.2.1 = some (tyX4 k) := by decide +kernel
abbrev cX4_mark : ByteArray := prog_7_method_10_code
def yX4_mark : MethodName := ⟨RX4, "mark", "()I"⟩
def dkwX4_mark_0 : List UInt8 := [42, 42, 182, 0, 104, 182, 0, 97, 172]
abbrev dktX4_mark_0 : List UInt8 := dkwX4_mark_0 ++ []
theorem dksX4_mark_0 : cX4_mark.data.toList.drop 0 = dktX4_mark_0 := by decide +kernel
theorem dX4_mark_0 : decode cX4_mark 0 = .ok (.aload_n 0, 1) := dk_42 (dk_at dksX4_mark_0 0 rfl rfl)
theorem dX4_mark_1 : decode cX4_mark 1 = .ok (.aload_n 0, 1) := dk_42 (dk_at dksX4_mark_0 1 rfl rfl)
theorem dX4_mark_2 : decode cX4_mark 2 = .ok (.invokevirtual 104, 3) := dk_182 0 104 (dk_at dksX4_mark_0 2 rfl rfl)
theorem dX4_mark_5 : decode cX4_mark 5 = .ok (.invokevirtual 97, 3) := dk_182 0 97 (dk_at dksX4_mark_0 5 rfl rfl)
theorem dX4_mark_8 : decode cX4_mark 8 = .ok (.ireturn, 1) := dk_172 (dk_at dksX4_mark_0 8 rfl rfl)
abbrev cX4_within : ByteArray := prog_7_method_8_code
def yX4_within : MethodName := ⟨RX4, "within", "()LPeerpanel$Sieve;"⟩
def dkwX4_within_1 : List UInt8 := [182, 0, 97, 60, 42, 27, 186, 0, 101, 0, 0, 176]
abbrev dktX4_within_1 : List UInt8 := dkwX4_within_1 ++ []
def dkwX4_within_0 : List UInt8 := [42, 180, 0, 18, 182, 0, 90, 6, 162, 0, 9, 186, 0, 93, 0, 0, 176, 42, 186, 0, 96, 0, 0]
abbrev dktX4_within_0 : List UInt8 := dkwX4_within_0 ++ dktX4_within_1
theorem dksX4_within_0 : cX4_within.data.toList.drop 0 = dktX4_within_0 := by decide +kernel
theorem dksX4_within_1 : cX4_within.data.toList.drop 23 = dktX4_within_1 := dk_seg dksX4_within_0 23 rfl rfl
theorem dX4_within_0 : decode cX4_within 0 = .ok (.aload_n 0, 1) := dk_42 (dk_at dksX4_within_0 0 rfl rfl)
theorem dX4_within_1 : decode cX4_within 1 = .ok (.getfield 18, 3) := dk_180 0 18 (dk_at dksX4_within_0 1 rfl rfl)
theorem dX4_within_4 : decode cX4_within 4 = .ok (.invokevirtual 90, 3) := dk_182 0 90 (dk_at dksX4_within_0 4 rfl rfl)
theorem dX4_within_7 : decode cX4_within 7 = .ok (.iconst 3, 1) := dk_6 (dk_at dksX4_within_0 7 rfl rfl)
theorem dX4_within_8 : decode cX4_within 8 = .ok (.if_icmp .ge 9, 3) := dk_162 0 9 (dk_at dksX4_within_0 8 rfl rfl)
theorem dX4_within_11 : decode cX4_within 11 = .ok (.invokedynamic 93, 5) := by decide +kernel
theorem dX4_within_16 : decode cX4_within 16 = .ok (.areturn, 1) := dk_176 (dk_at dksX4_within_0 16 rfl rfl)
theorem dX4_within_17 : decode cX4_within 17 = .ok (.aload_n 0, 1) := dk_42 (dk_at dksX4_within_0 17 rfl rfl)
theorem dX4_within_18 : decode cX4_within 18 = .ok (.invokedynamic 96, 5) := by decide +kernel
theorem dX4_within_23 : decode cX4_within 23 = .ok (.invokevirtual 97, 3) := dk_182 0 97 (dk_at dksX4_within_1 0 rfl rfl)
theorem dX4_within_26 : decode cX4_within 26 = .ok (.istore_n 1, 1) := dk_60 (dk_at dksX4_within_1 3 rfl rfl)
theorem dX4_within_27 : decode cX4_within 27 = .ok (.aload_n 0, 1) := dk_42 (dk_at dksX4_within_1 4 rfl rfl)
theorem dX4_within_28 : decode cX4_within 28 = .ok (.iload_n 1, 1) := dk_27 (dk_at dksX4_within_1 5 rfl rfl)
theorem dX4_within_29 : decode cX4_within 29 = .ok (.invokedynamic 101, 5) := by decide +kernel
theorem dX4_within_34 : decode cX4_within 34 = .ok (.areturn, 1) := dk_176 (dk_at dksX4_within_1 11 rfl rfl)
abbrev cX4_lambda_within_0 : ByteArray := prog_7_method_13_code
def yX4_lambda_within_0 : MethodName := ⟨RX4, "lambda$within$0", "(LPeerpanel$Review;)Z"⟩
theorem dX4_lambda_within_0_0 : decode cX4_lambda_within_0 0 = .ok (.iconst 1, 1) := by decide +kernel
theorem dX4_lambda_within_0_1 : decode cX4_lambda_within_0 1 = .ok (.ireturn, 1) := by decide +kernel
abbrev cX4_lambda_within_1 : ByteArray := prog_7_method_12_code
def yX4_lambda_within_1 : MethodName := ⟨RX4, "lambda$within$1", "(LPeerpanel$Review;)Z"⟩
theorem dX4_lambda_within_1_0 : decode cX4_lambda_within_1 0 = .ok (.iconst 1, 1) := by decide +kernel
theorem dX4_lambda_within_1_1 : decode cX4_lambda_within_1 1 = .ok (.ireturn, 1) := by decide +kernel
abbrev cX4_median : ByteArray := prog_7_method_7_code
def yX4_median : MethodName := ⟨RX4, "median", "(LPeerpanel$Sieve;)I"⟩
def dkwX4_median_4 : List UInt8 := [167, 0, 7, 45, 180, 0, 87, 172]
abbrev dktX4_median_4 : List UInt8 := dkwX4_median_4 ++ []
def dkwX4_median_3 : List UInt8 := [42, 43, 25, 5, 182, 0, 83, 104, 28, 161, 0, 6, 25, 5, 78, 167, 255, 194, 45, 199, 0, 7, 2]
abbrev dktX4_median_3 : List UInt8 := dkwX4_median_3 ++ dktX4_median_4
def dkwX4_median_2 : List UInt8 := [25, 5, 185, 0, 69, 2, 0, 153, 0, 32, 45, 198, 0, 12, 25, 5, 45, 182, 0, 75, 156, 0, 19, 5]
abbrev dktX4_median_2 : List UInt8 := dkwX4_median_2 ++ dktX4_median_3
def dkwX4_median_1 : List UInt8 := [25, 4, 185, 0, 57, 1, 0, 153, 0, 58, 25, 4, 185, 0, 63, 1, 0, 192, 0, 67, 58, 5, 43]
abbrev dktX4_median_1 : List UInt8 := dkwX4_median_1 ++ dktX4_median_2
def dkwX4_median_0 : List UInt8 := [42, 43, 1, 182, 0, 83, 61, 1, 78, 42, 180, 0, 18, 182, 0, 47, 185, 0, 51, 1, 0, 58, 4]
abbrev dktX4_median_0 : List UInt8 := dkwX4_median_0 ++ dktX4_median_1
theorem dksX4_median_0 : cX4_median.data.toList.drop 0 = dktX4_median_0 := by decide +kernel
theorem dksX4_median_1 : cX4_median.data.toList.drop 23 = dktX4_median_1 := dk_seg dksX4_median_0 23 rfl rfl
theorem dksX4_median_2 : cX4_median.data.toList.drop 46 = dktX4_median_2 := dk_seg dksX4_median_1 23 rfl rfl
theorem dksX4_median_3 : cX4_median.data.toList.drop 70 = dktX4_median_3 := dk_seg dksX4_median_2 24 rfl rfl
theorem dksX4_median_4 : cX4_median.data.toList.drop 93 = dktX4_median_4 := dk_seg dksX4_median_3 23 rfl rfl
theorem dX4_median_0 : decode cX4_median 0 = .ok (.aload_n 0, 1) := dk_42 (dk_at dksX4_median_0 0 rfl rfl)
theorem dX4_median_1 : decode cX4_median 1 = .ok (.aload_n 1, 1) := dk_43 (dk_at dksX4_median_0 1 rfl rfl)
theorem dX4_median_2 : decode cX4_median 2 = .ok (.aconst_null, 1) := dk_1 (dk_at dksX4_median_0 2 rfl rfl)
theorem dX4_median_3 : decode cX4_median 3 = .ok (.invokevirtual 83, 3) := dk_182 0 83 (dk_at dksX4_median_0 3 rfl rfl)
theorem dX4_median_6 : decode cX4_median 6 = .ok (.istore_n 2, 1) := dk_61 (dk_at dksX4_median_0 6 rfl rfl)
theorem dX4_median_7 : decode cX4_median 7 = .ok (.aconst_null, 1) := dk_1 (dk_at dksX4_median_0 7 rfl rfl)
theorem dX4_median_8 : decode cX4_median 8 = .ok (.astore_n 3, 1) := dk_78 (dk_at dksX4_median_0 8 rfl rfl)
theorem dX4_median_9 : decode cX4_median 9 = .ok (.aload_n 0, 1) := dk_42 (dk_at dksX4_median_0 9 rfl rfl)
theorem dX4_median_10 : decode cX4_median 10 = .ok (.getfield 18, 3) := dk_180 0 18 (dk_at dksX4_median_0 10 rfl rfl)
theorem dX4_median_13 : decode cX4_median 13 = .ok (.invokevirtual 47, 3) := dk_182 0 47 (dk_at dksX4_median_0 13 rfl rfl)
theorem dX4_median_16 : decode cX4_median 16 = .ok (.invokeinterface 51 1, 5) := by decide +kernel
theorem dX4_median_21 : decode cX4_median 21 = .ok (.astore 4, 2) := dk_58 4 (dk_at dksX4_median_0 21 rfl rfl)
theorem dX4_median_23 : decode cX4_median 23 = .ok (.aload 4, 2) := dk_25 4 (dk_at dksX4_median_1 0 rfl rfl)
theorem dX4_median_25 : decode cX4_median 25 = .ok (.invokeinterface 57 1, 5) := by decide +kernel
theorem dX4_median_30 : decode cX4_median 30 = .ok (.ifCond .eq 58, 3) := dk_153 0 58 (dk_at dksX4_median_1 7 rfl rfl)
theorem dX4_median_33 : decode cX4_median 33 = .ok (.aload 4, 2) := dk_25 4 (dk_at dksX4_median_1 10 rfl rfl)
theorem dX4_median_35 : decode cX4_median 35 = .ok (.invokeinterface 63 1, 5) := by decide +kernel
theorem dX4_median_40 : decode cX4_median 40 = .ok (.checkcast 67, 3) := dk_192 0 67 (dk_at dksX4_median_1 17 rfl rfl)
theorem dX4_median_43 : decode cX4_median 43 = .ok (.astore 5, 2) := dk_58 5 (dk_at dksX4_median_1 20 rfl rfl)
theorem dX4_median_45 : decode cX4_median 45 = .ok (.aload_n 1, 1) := dk_43 (dk_at dksX4_median_1 22 rfl rfl)
theorem dX4_median_46 : decode cX4_median 46 = .ok (.aload 5, 2) := dk_25 5 (dk_at dksX4_median_2 0 rfl rfl)
theorem dX4_median_48 : decode cX4_median 48 = .ok (.invokeinterface 69 2, 5) := by decide +kernel
theorem dX4_median_53 : decode cX4_median 53 = .ok (.ifCond .eq 32, 3) := dk_153 0 32 (dk_at dksX4_median_2 7 rfl rfl)
theorem dX4_median_56 : decode cX4_median 56 = .ok (.aload_n 3, 1) := dk_45 (dk_at dksX4_median_2 10 rfl rfl)
theorem dX4_median_57 : decode cX4_median 57 = .ok (.ifnull 12, 3) := dk_198 0 12 (dk_at dksX4_median_2 11 rfl rfl)
theorem dX4_median_60 : decode cX4_median 60 = .ok (.aload 5, 2) := dk_25 5 (dk_at dksX4_median_2 14 rfl rfl)
theorem dX4_median_62 : decode cX4_median 62 = .ok (.aload_n 3, 1) := dk_45 (dk_at dksX4_median_2 16 rfl rfl)
theorem dX4_median_63 : decode cX4_median 63 = .ok (.invokevirtual 75, 3) := dk_182 0 75 (dk_at dksX4_median_2 17 rfl rfl)
theorem dX4_median_66 : decode cX4_median 66 = .ok (.ifCond .ge 19, 3) := dk_156 0 19 (dk_at dksX4_median_2 20 rfl rfl)
theorem dX4_median_69 : decode cX4_median 69 = .ok (.iconst 2, 1) := dk_5 (dk_at dksX4_median_2 23 rfl rfl)
theorem dX4_median_70 : decode cX4_median 70 = .ok (.aload_n 0, 1) := dk_42 (dk_at dksX4_median_3 0 rfl rfl)
theorem dX4_median_71 : decode cX4_median 71 = .ok (.aload_n 1, 1) := dk_43 (dk_at dksX4_median_3 1 rfl rfl)
theorem dX4_median_72 : decode cX4_median 72 = .ok (.aload 5, 2) := dk_25 5 (dk_at dksX4_median_3 2 rfl rfl)
theorem dX4_median_74 : decode cX4_median 74 = .ok (.invokevirtual 83, 3) := dk_182 0 83 (dk_at dksX4_median_3 4 rfl rfl)
theorem dX4_median_77 : decode cX4_median 77 = .ok (.imul, 1) := dk_104 (dk_at dksX4_median_3 7 rfl rfl)
theorem dX4_median_78 : decode cX4_median 78 = .ok (.iload_n 2, 1) := dk_28 (dk_at dksX4_median_3 8 rfl rfl)
theorem dX4_median_79 : decode cX4_median 79 = .ok (.if_icmp .lt 6, 3) := dk_161 0 6 (dk_at dksX4_median_3 9 rfl rfl)
theorem dX4_median_82 : decode cX4_median 82 = .ok (.aload 5, 2) := dk_25 5 (dk_at dksX4_median_3 12 rfl rfl)
theorem dX4_median_84 : decode cX4_median 84 = .ok (.astore_n 3, 1) := dk_78 (dk_at dksX4_median_3 14 rfl rfl)
theorem dX4_median_85 : decode cX4_median 85 = .ok (.goto (-62), 3) := dk_167 255 194 (dk_at dksX4_median_3 15 rfl rfl)
theorem dX4_median_88 : decode cX4_median 88 = .ok (.aload_n 3, 1) := dk_45 (dk_at dksX4_median_3 18 rfl rfl)
theorem dX4_median_89 : decode cX4_median 89 = .ok (.ifnonnull 7, 3) := dk_199 0 7 (dk_at dksX4_median_3 19 rfl rfl)
theorem dX4_median_92 : decode cX4_median 92 = .ok (.iconst (-1), 1) := dk_2 (dk_at dksX4_median_3 22 rfl rfl)
theorem dX4_median_93 : decode cX4_median 93 = .ok (.goto 7, 3) := dk_167 0 7 (dk_at dksX4_median_4 0 rfl rfl)
theorem dX4_median_96 : decode cX4_median 96 = .ok (.aload_n 3, 1) := dk_45 (dk_at dksX4_median_4 3 rfl rfl)
theorem dX4_median_97 : decode cX4_median 97 = .ok (.getfield 87, 3) := dk_180 0 87 (dk_at dksX4_median_4 4 rfl rfl)
theorem dX4_median_100 : decode cX4_median 100 = .ok (.ireturn, 1) := dk_172 (dk_at dksX4_median_4 7 rfl rfl)
abbrev cX4_sum : ByteArray := prog_7_method_6_code
def yX4_sum : MethodName := ⟨RX4, "sum", "(LPeerpanel$Sieve;LPeerpanel$Review;)I"⟩
def dkwX4_sum_3 : List UInt8 := [167, 255, 202, 29, 172]
abbrev dktX4_sum_3 : List UInt8 := dkwX4_sum_3 ++ []
def dkwX4_sum_2 : List UInt8 := [153, 0, 24, 44, 198, 0, 12, 25, 5, 44, 182, 0, 75, 157, 0, 11, 29, 25, 5, 182, 0, 79, 96, 62]
abbrev dktX4_sum_2 : List UInt8 := dkwX4_sum_2 ++ dktX4_sum_3
def dkwX4_sum_1 : List UInt8 := [153, 0, 50, 25, 4, 185, 0, 63, 1, 0, 192, 0, 67, 58, 5, 43, 25, 5, 185, 0, 69, 2, 0]
abbrev dktX4_sum_1 : List UInt8 := dkwX4_sum_1 ++ dktX4_sum_2
def dkwX4_sum_0 : List UInt8 := [3, 62, 42, 180, 0, 18, 182, 0, 47, 185, 0, 51, 1, 0, 58, 4, 25, 4, 185, 0, 57, 1, 0]
abbrev dktX4_sum_0 : List UInt8 := dkwX4_sum_0 ++ dktX4_sum_1
theorem dksX4_sum_0 : cX4_sum.data.toList.drop 0 = dktX4_sum_0 := by decide +kernel
theorem dksX4_sum_1 : cX4_sum.data.toList.drop 23 = dktX4_sum_1 := dk_seg dksX4_sum_0 23 rfl rfl
theorem dksX4_sum_2 : cX4_sum.data.toList.drop 46 = dktX4_sum_2 := dk_seg dksX4_sum_1 23 rfl rfl
theorem dksX4_sum_3 : cX4_sum.data.toList.drop 70 = dktX4_sum_3 := dk_seg dksX4_sum_2 24 rfl rfl
theorem dX4_sum_0 : decode cX4_sum 0 = .ok (.iconst 0, 1) := dk_3 (dk_at dksX4_sum_0 0 rfl rfl)
theorem dX4_sum_1 : decode cX4_sum 1 = .ok (.istore_n 3, 1) := dk_62 (dk_at dksX4_sum_0 1 rfl rfl)
theorem dX4_sum_2 : decode cX4_sum 2 = .ok (.aload_n 0, 1) := dk_42 (dk_at dksX4_sum_0 2 rfl rfl)
theorem dX4_sum_3 : decode cX4_sum 3 = .ok (.getfield 18, 3) := dk_180 0 18 (dk_at dksX4_sum_0 3 rfl rfl)
theorem dX4_sum_6 : decode cX4_sum 6 = .ok (.invokevirtual 47, 3) := dk_182 0 47 (dk_at dksX4_sum_0 6 rfl rfl)
theorem dX4_sum_9 : decode cX4_sum 9 = .ok (.invokeinterface 51 1, 5) := by decide +kernel
theorem dX4_sum_14 : decode cX4_sum 14 = .ok (.astore 4, 2) := dk_58 4 (dk_at dksX4_sum_0 14 rfl rfl)
theorem dX4_sum_16 : decode cX4_sum 16 = .ok (.aload 4, 2) := dk_25 4 (dk_at dksX4_sum_0 16 rfl rfl)
theorem dX4_sum_18 : decode cX4_sum 18 = .ok (.invokeinterface 57 1, 5) := by decide +kernel
theorem dX4_sum_23 : decode cX4_sum 23 = .ok (.ifCond .eq 50, 3) := dk_153 0 50 (dk_at dksX4_sum_1 0 rfl rfl)
theorem dX4_sum_26 : decode cX4_sum 26 = .ok (.aload 4, 2) := dk_25 4 (dk_at dksX4_sum_1 3 rfl rfl)
theorem dX4_sum_28 : decode cX4_sum 28 = .ok (.invokeinterface 63 1, 5) := by decide +kernel
theorem dX4_sum_33 : decode cX4_sum 33 = .ok (.checkcast 67, 3) := dk_192 0 67 (dk_at dksX4_sum_1 10 rfl rfl)
theorem dX4_sum_36 : decode cX4_sum 36 = .ok (.astore 5, 2) := dk_58 5 (dk_at dksX4_sum_1 13 rfl rfl)
theorem dX4_sum_38 : decode cX4_sum 38 = .ok (.aload_n 1, 1) := dk_43 (dk_at dksX4_sum_1 15 rfl rfl)
theorem dX4_sum_39 : decode cX4_sum 39 = .ok (.aload 5, 2) := dk_25 5 (dk_at dksX4_sum_1 16 rfl rfl)
theorem dX4_sum_41 : decode cX4_sum 41 = .ok (.invokeinterface 69 2, 5) := by decide +kernel
theorem dX4_sum_46 : decode cX4_sum 46 = .ok (.ifCond .eq 24, 3) := dk_153 0 24 (dk_at dksX4_sum_2 0 rfl rfl)
theorem dX4_sum_49 : decode cX4_sum 49 = .ok (.aload_n 2, 1) := dk_44 (dk_at dksX4_sum_2 3 rfl rfl)
theorem dX4_sum_50 : decode cX4_sum 50 = .ok (.ifnull 12, 3) := dk_198 0 12 (dk_at dksX4_sum_2 4 rfl rfl)
theorem dX4_sum_53 : decode cX4_sum 53 = .ok (.aload 5, 2) := dk_25 5 (dk_at dksX4_sum_2 7 rfl rfl)
theorem dX4_sum_55 : decode cX4_sum 55 = .ok (.aload_n 2, 1) := dk_44 (dk_at dksX4_sum_2 9 rfl rfl)
theorem dX4_sum_56 : decode cX4_sum 56 = .ok (.invokevirtual 75, 3) := dk_182 0 75 (dk_at dksX4_sum_2 10 rfl rfl)
theorem dX4_sum_59 : decode cX4_sum 59 = .ok (.ifCond .gt 11, 3) := dk_157 0 11 (dk_at dksX4_sum_2 13 rfl rfl)
theorem dX4_sum_62 : decode cX4_sum 62 = .ok (.iload_n 3, 1) := dk_29 (dk_at dksX4_sum_2 16 rfl rfl)
theorem dX4_sum_63 : decode cX4_sum 63 = .ok (.aload 5, 2) := dk_25 5 (dk_at dksX4_sum_2 17 rfl rfl)
theorem dX4_sum_65 : decode cX4_sum 65 = .ok (.invokevirtual 79, 3) := dk_182 0 79 (dk_at dksX4_sum_2 19 rfl rfl)
theorem dX4_sum_68 : decode cX4_sum 68 = .ok (.iadd, 1) := dk_96 (dk_at dksX4_sum_2 22 rfl rfl)
theorem dX4_sum_69 : decode cX4_sum 69 = .ok (.istore_n 3, 1) := dk_62 (dk_at dksX4_sum_2 23 rfl rfl)
theorem dX4_sum_70 : decode cX4_sum 70 = .ok (.goto (-54), 3) := dk_167 255 202 (dk_at dksX4_sum_3 0 rfl rfl)
theorem dX4_sum_73 : decode cX4_sum 73 = .ok (.iload_n 3, 1) := dk_29 (dk_at dksX4_sum_3 3 rfl rfl)
theorem dX4_sum_74 : decode cX4_sum 74 = .ok (.ireturn, 1) := dk_172 (dk_at dksX4_sum_3 4 rfl rfl)
abbrev cX4_lambda_within_2 : ByteArray := prog_7_method_11_code
def yX4_lambda_within_2 : MethodName := ⟨RX4, "lambda$within$2", "(ILPeerpanel$Review;)Z"⟩
def dkwX4_lambda_within_2_1 : List UInt8 := [172]
abbrev dktX4_lambda_within_2_1 : List UInt8 := dkwX4_lambda_within_2_1 ++ []
def dkwX4_lambda_within_2_0 : List UInt8 := [44, 180, 0, 87, 27, 100, 184, 0, 110, 42, 180, 0, 3, 180, 0, 116, 163, 0, 7, 4, 167, 0, 4, 3]
abbrev dktX4_lambda_within_2_0 : List UInt8 := dkwX4_lambda_within_2_0 ++ dktX4_lambda_within_2_1
theorem dksX4_lambda_within_2_0 : cX4_lambda_within_2.data.toList.drop 0 = dktX4_lambda_within_2_0 := by decide +kernel
theorem dksX4_lambda_within_2_1 : cX4_lambda_within_2.data.toList.drop 24 = dktX4_lambda_within_2_1 := dk_seg dksX4_lambda_within_2_0 24 rfl rfl
theorem dX4_lambda_within_2_0 : decode cX4_lambda_within_2 0 = .ok (.aload_n 2, 1) := dk_44 (dk_at dksX4_lambda_within_2_0 0 rfl rfl)
theorem dX4_lambda_within_2_1 : decode cX4_lambda_within_2 1 = .ok (.getfield 87, 3) := dk_180 0 87 (dk_at dksX4_lambda_within_2_0 1 rfl rfl)
theorem dX4_lambda_within_2_4 : decode cX4_lambda_within_2 4 = .ok (.iload_n 1, 1) := dk_27 (dk_at dksX4_lambda_within_2_0 4 rfl rfl)
theorem dX4_lambda_within_2_5 : decode cX4_lambda_within_2 5 = .ok (.isub, 1) := dk_100 (dk_at dksX4_lambda_within_2_0 5 rfl rfl)
theorem dX4_lambda_within_2_6 : decode cX4_lambda_within_2 6 = .ok (.invokestatic 110, 3) := dk_184 0 110 (dk_at dksX4_lambda_within_2_0 6 rfl rfl)
theorem dX4_lambda_within_2_9 : decode cX4_lambda_within_2 9 = .ok (.aload_n 0, 1) := dk_42 (dk_at dksX4_lambda_within_2_0 9 rfl rfl)
theorem dX4_lambda_within_2_10 : decode cX4_lambda_within_2 10 = .ok (.getfield 3, 3) := dk_180 0 3 (dk_at dksX4_lambda_within_2_0 10 rfl rfl)
theorem dX4_lambda_within_2_13 : decode cX4_lambda_within_2 13 = .ok (.getfield 116, 3) := dk_180 0 116 (dk_at dksX4_lambda_within_2_0 13 rfl rfl)
theorem dX4_lambda_within_2_16 : decode cX4_lambda_within_2 16 = .ok (.if_icmp .gt 7, 3) := dk_163 0 7 (dk_at dksX4_lambda_within_2_0 16 rfl rfl)
theorem dX4_lambda_within_2_19 : decode cX4_lambda_within_2 19 = .ok (.iconst 1, 1) := dk_4 (dk_at dksX4_lambda_within_2_0 19 rfl rfl)
theorem dX4_lambda_within_2_20 : decode cX4_lambda_within_2 20 = .ok (.goto 4, 3) := dk_167 0 4 (dk_at dksX4_lambda_within_2_0 20 rfl rfl)
theorem dX4_lambda_within_2_23 : decode cX4_lambda_within_2 23 = .ok (.iconst 0, 1) := dk_3 (dk_at dksX4_lambda_within_2_0 23 rfl rfl)
theorem dX4_lambda_within_2_24 : decode cX4_lambda_within_2 24 = .ok (.ireturn, 1) := dk_172 (dk_at dksX4_lambda_within_2_1 0 rfl rfl)
abbrev cX4_init : ByteArray := prog_7_method_1_code
def yX4_init : MethodName := ⟨RX4, "<init>", "(LPeerpanel;LPeerpanel$Person;)V"⟩
def dkwX4_init_1 : List UInt8 := [181, 0, 22, 42, 44, 181, 0, 26, 177]
abbrev dktX4_init_1 : List UInt8 := dkwX4_init_1 ++ []
def dkwX4_init_0 : List UInt8 := [42, 43, 181, 0, 3, 42, 183, 0, 9, 42, 187, 0, 15, 89, 183, 0, 17, 181, 0, 18, 42, 2]
abbrev dktX4_init_0 : List UInt8 := dkwX4_init_0 ++ dktX4_init_1
theorem dksX4_init_0 : cX4_init.data.toList.drop 0 = dktX4_init_0 := by decide +kernel
theorem dksX4_init_1 : cX4_init.data.toList.drop 22 = dktX4_init_1 := dk_seg dksX4_init_0 22 rfl rfl
theorem dX4_init_0 : decode cX4_init 0 = .ok (.aload_n 0, 1) := dk_42 (dk_at dksX4_init_0 0 rfl rfl)
theorem dX4_init_1 : decode cX4_init 1 = .ok (.aload_n 1, 1) := dk_43 (dk_at dksX4_init_0 1 rfl rfl)
theorem dX4_init_2 : decode cX4_init 2 = .ok (.putfield 3, 3) := dk_181 0 3 (dk_at dksX4_init_0 2 rfl rfl)
theorem dX4_init_5 : decode cX4_init 5 = .ok (.aload_n 0, 1) := dk_42 (dk_at dksX4_init_0 5 rfl rfl)
theorem dX4_init_6 : decode cX4_init 6 = .ok (.invokespecial 9, 3) := dk_183 0 9 (dk_at dksX4_init_0 6 rfl rfl)
theorem dX4_init_9 : decode cX4_init 9 = .ok (.aload_n 0, 1) := dk_42 (dk_at dksX4_init_0 9 rfl rfl)
theorem dX4_init_10 : decode cX4_init 10 = .ok (.new 15, 3) := dk_187 0 15 (dk_at dksX4_init_0 10 rfl rfl)
theorem dX4_init_13 : decode cX4_init 13 = .ok (.dup, 1) := dk_89 (dk_at dksX4_init_0 13 rfl rfl)
theorem dX4_init_14 : decode cX4_init 14 = .ok (.invokespecial 17, 3) := dk_183 0 17 (dk_at dksX4_init_0 14 rfl rfl)
theorem dX4_init_17 : decode cX4_init 17 = .ok (.putfield 18, 3) := dk_181 0 18 (dk_at dksX4_init_0 17 rfl rfl)
theorem dX4_init_20 : decode cX4_init 20 = .ok (.aload_n 0, 1) := dk_42 (dk_at dksX4_init_0 20 rfl rfl)
theorem dX4_init_21 : decode cX4_init 21 = .ok (.iconst (-1), 1) := dk_2 (dk_at dksX4_init_0 21 rfl rfl)
theorem dX4_init_22 : decode cX4_init 22 = .ok (.putfield 22, 3) := dk_181 0 22 (dk_at dksX4_init_1 0 rfl rfl)
theorem dX4_init_25 : decode cX4_init 25 = .ok (.aload_n 0, 1) := dk_42 (dk_at dksX4_init_1 3 rfl rfl)
theorem dX4_init_26 : decode cX4_init 26 = .ok (.aload_n 2, 1) := dk_44 (dk_at dksX4_init_1 4 rfl rfl)
theorem dX4_init_27 : decode cX4_init 27 = .ok (.putfield 26, 3) := dk_181 0 26 (dk_at dksX4_init_1 5 rfl rfl)
theorem dX4_init_30 : decode cX4_init 30 = .ok (.return_, 1) := dk_177 (dk_at dksX4_init_1 8 rfl rfl)
abbrev cX4_isOpenTo : ByteArray := prog_7_method_3_code
def yX4_isOpenTo : MethodName := ⟨RX4, "isOpenTo", "(LPeerpanel$Person;)Z"⟩
def dkwX4_isOpenTo_1 : List UInt8 := [180, 0, 33, 122, 4, 126, 154, 0, 7, 4, 167, 0, 4, 3, 172]
abbrev dktX4_isOpenTo_1 : List UInt8 := dkwX4_isOpenTo_1 ++ []
def dkwX4_isOpenTo_0 : List UInt8 := [43, 180, 0, 38, 42, 180, 0, 26, 180, 0, 38, 159, 0, 26, 42, 180, 0, 30, 42, 180, 0, 41, 128, 43]
abbrev dktX4_isOpenTo_0 : List UInt8 := dkwX4_isOpenTo_0 ++ dktX4_isOpenTo_1
theorem dksX4_isOpenTo_0 : cX4_isOpenTo.data.toList.drop 0 = dktX4_isOpenTo_0 := by decide +kernel
theorem dksX4_isOpenTo_1 : cX4_isOpenTo.data.toList.drop 24 = dktX4_isOpenTo_1 := dk_seg dksX4_isOpenTo_0 24 rfl rfl
theorem dX4_isOpenTo_0 : decode cX4_isOpenTo 0 = .ok (.aload_n 1, 1) := dk_43 (dk_at dksX4_isOpenTo_0 0 rfl rfl)
theorem dX4_isOpenTo_1 : decode cX4_isOpenTo 1 = .ok (.getfield 38, 3) := dk_180 0 38 (dk_at dksX4_isOpenTo_0 1 rfl rfl)
theorem dX4_isOpenTo_4 : decode cX4_isOpenTo 4 = .ok (.aload_n 0, 1) := dk_42 (dk_at dksX4_isOpenTo_0 4 rfl rfl)
theorem dX4_isOpenTo_5 : decode cX4_isOpenTo 5 = .ok (.getfield 26, 3) := dk_180 0 26 (dk_at dksX4_isOpenTo_0 5 rfl rfl)
theorem dX4_isOpenTo_8 : decode cX4_isOpenTo 8 = .ok (.getfield 38, 3) := dk_180 0 38 (dk_at dksX4_isOpenTo_0 8 rfl rfl)
theorem dX4_isOpenTo_11 : decode cX4_isOpenTo 11 = .ok (.if_icmp .eq 26, 3) := dk_159 0 26 (dk_at dksX4_isOpenTo_0 11 rfl rfl)
theorem dX4_isOpenTo_14 : decode cX4_isOpenTo 14 = .ok (.aload_n 0, 1) := dk_42 (dk_at dksX4_isOpenTo_0 14 rfl rfl)
theorem dX4_isOpenTo_15 : decode cX4_isOpenTo 15 = .ok (.getfield 30, 3) := dk_180 0 30 (dk_at dksX4_isOpenTo_0 15 rfl rfl)
theorem dX4_isOpenTo_18 : decode cX4_isOpenTo 18 = .ok (.aload_n 0, 1) := dk_42 (dk_at dksX4_isOpenTo_0 18 rfl rfl)
theorem dX4_isOpenTo_19 : decode cX4_isOpenTo 19 = .ok (.getfield 41, 3) := dk_180 0 41 (dk_at dksX4_isOpenTo_0 19 rfl rfl)
theorem dX4_isOpenTo_22 : decode cX4_isOpenTo 22 = .ok (.ior, 1) := dk_128 (dk_at dksX4_isOpenTo_0 22 rfl rfl)
theorem dX4_isOpenTo_23 : decode cX4_isOpenTo 23 = .ok (.aload_n 1, 1) := dk_43 (dk_at dksX4_isOpenTo_0 23 rfl rfl)
theorem dX4_isOpenTo_24 : decode cX4_isOpenTo 24 = .ok (.getfield 33, 3) := dk_180 0 33 (dk_at dksX4_isOpenTo_1 0 rfl rfl)
theorem dX4_isOpenTo_27 : decode cX4_isOpenTo 27 = .ok (.ishr, 1) := dk_122 (dk_at dksX4_isOpenTo_1 3 rfl rfl)
theorem dX4_isOpenTo_28 : decode cX4_isOpenTo 28 = .ok (.iconst 1, 1) := dk_4 (dk_at dksX4_isOpenTo_1 4 rfl rfl)
theorem dX4_isOpenTo_29 : decode cX4_isOpenTo 29 = .ok (.iand, 1) := dk_126 (dk_at dksX4_isOpenTo_1 5 rfl rfl)
theorem dX4_isOpenTo_30 : decode cX4_isOpenTo 30 = .ok (.ifCond .ne 7, 3) := dk_154 0 7 (dk_at dksX4_isOpenTo_1 6 rfl rfl)
theorem dX4_isOpenTo_33 : decode cX4_isOpenTo 33 = .ok (.iconst 1, 1) := dk_4 (dk_at dksX4_isOpenTo_1 9 rfl rfl)
theorem dX4_isOpenTo_34 : decode cX4_isOpenTo 34 = .ok (.goto 4, 3) := dk_167 0 4 (dk_at dksX4_isOpenTo_1 10 rfl rfl)
theorem dX4_isOpenTo_37 : decode cX4_isOpenTo 37 = .ok (.iconst 0, 1) := dk_3 (dk_at dksX4_isOpenTo_1 13 rfl rfl)
theorem dX4_isOpenTo_38 : decode cX4_isOpenTo 38 = .ok (.ireturn, 1) := dk_172 (dk_at dksX4_isOpenTo_1 14 rfl rfl)
abbrev cX4_add : ByteArray := prog_7_method_4_code
def yX4_add : MethodName := ⟨RX4, "add", "(LPeerpanel$Person;)V"⟩
def dkwX4_add_1 : List UInt8 := [181, 0, 44, 177]
abbrev dktX4_add_1 : List UInt8 := dkwX4_add_1 ++ []
def dkwX4_add_0 : List UInt8 := [42, 89, 180, 0, 30, 4, 43, 180, 0, 33, 120, 128, 181, 0, 30, 43, 89, 180, 0, 44, 4, 96]
abbrev dktX4_add_0 : List UInt8 := dkwX4_add_0 ++ dktX4_add_1
theorem dksX4_add_0 : cX4_add.data.toList.drop 0 = dktX4_add_0 := by decide +kernel
theorem dksX4_add_1 : cX4_add.data.toList.drop 22 = dktX4_add_1 := dk_seg dksX4_add_0 22 rfl rfl
theorem dX4_add_0 : decode cX4_add 0 = .ok (.aload_n 0, 1) := dk_42 (dk_at dksX4_add_0 0 rfl rfl)
theorem dX4_add_1 : decode cX4_add 1 = .ok (.dup, 1) := dk_89 (dk_at dksX4_add_0 1 rfl rfl)
theorem dX4_add_2 : decode cX4_add 2 = .ok (.getfield 30, 3) := dk_180 0 30 (dk_at dksX4_add_0 2 rfl rfl)
theorem dX4_add_5 : decode cX4_add 5 = .ok (.iconst 1, 1) := dk_4 (dk_at dksX4_add_0 5 rfl rfl)
theorem dX4_add_6 : decode cX4_add 6 = .ok (.aload_n 1, 1) := dk_43 (dk_at dksX4_add_0 6 rfl rfl)
theorem dX4_add_7 : decode cX4_add 7 = .ok (.getfield 33, 3) := dk_180 0 33 (dk_at dksX4_add_0 7 rfl rfl)
theorem dX4_add_10 : decode cX4_add 10 = .ok (.ishl, 1) := dk_120 (dk_at dksX4_add_0 10 rfl rfl)
theorem dX4_add_11 : decode cX4_add 11 = .ok (.ior, 1) := dk_128 (dk_at dksX4_add_0 11 rfl rfl)
theorem dX4_add_12 : decode cX4_add 12 = .ok (.putfield 30, 3) := dk_181 0 30 (dk_at dksX4_add_0 12 rfl rfl)
theorem dX4_add_15 : decode cX4_add 15 = .ok (.aload_n 1, 1) := dk_43 (dk_at dksX4_add_0 15 rfl rfl)
theorem dX4_add_16 : decode cX4_add 16 = .ok (.dup, 1) := dk_89 (dk_at dksX4_add_0 16 rfl rfl)
theorem dX4_add_17 : decode cX4_add 17 = .ok (.getfield 44, 3) := dk_180 0 44 (dk_at dksX4_add_0 17 rfl rfl)
theorem dX4_add_20 : decode cX4_add 20 = .ok (.iconst 1, 1) := dk_4 (dk_at dksX4_add_0 20 rfl rfl)
theorem dX4_add_21 : decode cX4_add 21 = .ok (.iadd, 1) := dk_96 (dk_at dksX4_add_0 21 rfl rfl)
theorem dX4_add_22 : decode cX4_add 22 = .ok (.putfield 44, 3) := dk_181 0 44 (dk_at dksX4_add_1 0 rfl rfl)
theorem dX4_add_25 : decode cX4_add 25 = .ok (.return_, 1) := dk_177 (dk_at dksX4_add_1 3 rfl rfl)
abbrev cX4_hasReader : ByteArray := prog_7_method_2_code
def yX4_hasReader : MethodName := ⟨RX4, "hasReader", "(LPeerpanel$Person;)Z"⟩
def dkwX4_hasReader_0 : List UInt8 := [42, 180, 0, 30, 43, 180, 0, 33, 122, 4, 126, 4, 160, 0, 7, 4, 167, 0, 4, 3, 172]
abbrev dktX4_hasReader_0 : List UInt8 := dkwX4_hasReader_0 ++ []
theorem dksX4_hasReader_0 : cX4_hasReader.data.toList.drop 0 = dktX4_hasReader_0 := by decide +kernel
theorem dX4_hasReader_0 : decode cX4_hasReader 0 = .ok (.aload_n 0, 1) := dk_42 (dk_at dksX4_hasReader_0 0 rfl rfl)
theorem dX4_hasReader_1 : decode cX4_hasReader 1 = .ok (.getfield 30, 3) := dk_180 0 30 (dk_at dksX4_hasReader_0 1 rfl rfl)
theorem dX4_hasReader_4 : decode cX4_hasReader 4 = .ok (.aload_n 1, 1) := dk_43 (dk_at dksX4_hasReader_0 4 rfl rfl)
theorem dX4_hasReader_5 : decode cX4_hasReader 5 = .ok (.getfield 33, 3) := dk_180 0 33 (dk_at dksX4_hasReader_0 5 rfl rfl)
theorem dX4_hasReader_8 : decode cX4_hasReader 8 = .ok (.ishr, 1) := dk_122 (dk_at dksX4_hasReader_0 8 rfl rfl)
theorem dX4_hasReader_9 : decode cX4_hasReader 9 = .ok (.iconst 1, 1) := dk_4 (dk_at dksX4_hasReader_0 9 rfl rfl)
theorem dX4_hasReader_10 : decode cX4_hasReader 10 = .ok (.iand, 1) := dk_126 (dk_at dksX4_hasReader_0 10 rfl rfl)
theorem dX4_hasReader_11 : decode cX4_hasReader 11 = .ok (.iconst 1, 1) := dk_4 (dk_at dksX4_hasReader_0 11 rfl rfl)
theorem dX4_hasReader_12 : decode cX4_hasReader 12 = .ok (.if_icmp .ne 7, 3) := dk_160 0 7 (dk_at dksX4_hasReader_0 12 rfl rfl)
theorem dX4_hasReader_15 : decode cX4_hasReader 15 = .ok (.iconst 1, 1) := dk_4 (dk_at dksX4_hasReader_0 15 rfl rfl)
theorem dX4_hasReader_16 : decode cX4_hasReader 16 = .ok (.goto 4, 3) := dk_167 0 4 (dk_at dksX4_hasReader_0 16 rfl rfl)
theorem dX4_hasReader_19 : decode cX4_hasReader 19 = .ok (.iconst 0, 1) := dk_3 (dk_at dksX4_hasReader_0 19 rfl rfl)
theorem dX4_hasReader_20 : decode cX4_hasReader 20 = .ok (.ireturn, 1) := dk_172 (dk_at dksX4_hasReader_0 20 rfl rfl)
abbrev cX4_outlying : ByteArray := prog_7_method_9_code
def yX4_outlying : MethodName := ⟨RX4, "outlying", "()I"⟩
def dkwX4_outlying_3 : List UInt8 := [28, 172]
abbrev dktX4_outlying_3 : List UInt8 := dkwX4_outlying_3 ++ []
def dkwX4_outlying_2 : List UInt8 := [185, 0, 69, 2, 0, 154, 0, 16, 28, 4, 25, 4, 180, 0, 107, 180, 0, 33, 120, 128, 61, 167, 255, 212]
abbrev dktX4_outlying_2 : List UInt8 := dkwX4_outlying_2 ++ dktX4_outlying_3
def dkwX4_outlying_1 : List UInt8 := [185, 0, 57, 1, 0, 153, 0, 41, 45, 185, 0, 63, 1, 0, 192, 0, 67, 58, 4, 43, 25, 4]
abbrev dktX4_outlying_1 : List UInt8 := dkwX4_outlying_1 ++ dktX4_outlying_2
def dkwX4_outlying_0 : List UInt8 := [42, 182, 0, 104, 76, 3, 61, 42, 180, 0, 18, 182, 0, 47, 185, 0, 51, 1, 0, 78, 45]
abbrev dktX4_outlying_0 : List UInt8 := dkwX4_outlying_0 ++ dktX4_outlying_1
theorem dksX4_outlying_0 : cX4_outlying.data.toList.drop 0 = dktX4_outlying_0 := by decide +kernel
theorem dksX4_outlying_1 : cX4_outlying.data.toList.drop 21 = dktX4_outlying_1 := dk_seg dksX4_outlying_0 21 rfl rfl
theorem dksX4_outlying_2 : cX4_outlying.data.toList.drop 43 = dktX4_outlying_2 := dk_seg dksX4_outlying_1 22 rfl rfl
theorem dksX4_outlying_3 : cX4_outlying.data.toList.drop 67 = dktX4_outlying_3 := dk_seg dksX4_outlying_2 24 rfl rfl
theorem dX4_outlying_0 : decode cX4_outlying 0 = .ok (.aload_n 0, 1) := dk_42 (dk_at dksX4_outlying_0 0 rfl rfl)
theorem dX4_outlying_1 : decode cX4_outlying 1 = .ok (.invokevirtual 104, 3) := dk_182 0 104 (dk_at dksX4_outlying_0 1 rfl rfl)
theorem dX4_outlying_4 : decode cX4_outlying 4 = .ok (.astore_n 1, 1) := dk_76 (dk_at dksX4_outlying_0 4 rfl rfl)
theorem dX4_outlying_5 : decode cX4_outlying 5 = .ok (.iconst 0, 1) := dk_3 (dk_at dksX4_outlying_0 5 rfl rfl)
theorem dX4_outlying_6 : decode cX4_outlying 6 = .ok (.istore_n 2, 1) := dk_61 (dk_at dksX4_outlying_0 6 rfl rfl)
theorem dX4_outlying_7 : decode cX4_outlying 7 = .ok (.aload_n 0, 1) := dk_42 (dk_at dksX4_outlying_0 7 rfl rfl)
theorem dX4_outlying_8 : decode cX4_outlying 8 = .ok (.getfield 18, 3) := dk_180 0 18 (dk_at dksX4_outlying_0 8 rfl rfl)
theorem dX4_outlying_11 : decode cX4_outlying 11 = .ok (.invokevirtual 47, 3) := dk_182 0 47 (dk_at dksX4_outlying_0 11 rfl rfl)
theorem dX4_outlying_14 : decode cX4_outlying 14 = .ok (.invokeinterface 51 1, 5) := by decide +kernel
theorem dX4_outlying_19 : decode cX4_outlying 19 = .ok (.astore_n 3, 1) := dk_78 (dk_at dksX4_outlying_0 19 rfl rfl)
theorem dX4_outlying_20 : decode cX4_outlying 20 = .ok (.aload_n 3, 1) := dk_45 (dk_at dksX4_outlying_0 20 rfl rfl)
theorem dX4_outlying_21 : decode cX4_outlying 21 = .ok (.invokeinterface 57 1, 5) := by decide +kernel
theorem dX4_outlying_26 : decode cX4_outlying 26 = .ok (.ifCond .eq 41, 3) := dk_153 0 41 (dk_at dksX4_outlying_1 5 rfl rfl)
theorem dX4_outlying_29 : decode cX4_outlying 29 = .ok (.aload_n 3, 1) := dk_45 (dk_at dksX4_outlying_1 8 rfl rfl)
theorem dX4_outlying_30 : decode cX4_outlying 30 = .ok (.invokeinterface 63 1, 5) := by decide +kernel
theorem dX4_outlying_35 : decode cX4_outlying 35 = .ok (.checkcast 67, 3) := dk_192 0 67 (dk_at dksX4_outlying_1 14 rfl rfl)
theorem dX4_outlying_38 : decode cX4_outlying 38 = .ok (.astore 4, 2) := dk_58 4 (dk_at dksX4_outlying_1 17 rfl rfl)
theorem dX4_outlying_40 : decode cX4_outlying 40 = .ok (.aload_n 1, 1) := dk_43 (dk_at dksX4_outlying_1 19 rfl rfl)
theorem dX4_outlying_41 : decode cX4_outlying 41 = .ok (.aload 4, 2) := dk_25 4 (dk_at dksX4_outlying_1 20 rfl rfl)
theorem dX4_outlying_43 : decode cX4_outlying 43 = .ok (.invokeinterface 69 2, 5) := by decide +kernel
theorem dX4_outlying_48 : decode cX4_outlying 48 = .ok (.ifCond .ne 16, 3) := dk_154 0 16 (dk_at dksX4_outlying_2 5 rfl rfl)
theorem dX4_outlying_51 : decode cX4_outlying 51 = .ok (.iload_n 2, 1) := dk_28 (dk_at dksX4_outlying_2 8 rfl rfl)
theorem dX4_outlying_52 : decode cX4_outlying 52 = .ok (.iconst 1, 1) := dk_4 (dk_at dksX4_outlying_2 9 rfl rfl)
theorem dX4_outlying_53 : decode cX4_outlying 53 = .ok (.aload 4, 2) := dk_25 4 (dk_at dksX4_outlying_2 10 rfl rfl)
theorem dX4_outlying_55 : decode cX4_outlying 55 = .ok (.getfield 107, 3) := dk_180 0 107 (dk_at dksX4_outlying_2 12 rfl rfl)
theorem dX4_outlying_58 : decode cX4_outlying 58 = .ok (.getfield 33, 3) := dk_180 0 33 (dk_at dksX4_outlying_2 15 rfl rfl)
theorem dX4_outlying_61 : decode cX4_outlying 61 = .ok (.ishl, 1) := dk_120 (dk_at dksX4_outlying_2 18 rfl rfl)
theorem dX4_outlying_62 : decode cX4_outlying 62 = .ok (.ior, 1) := dk_128 (dk_at dksX4_outlying_2 19 rfl rfl)
theorem dX4_outlying_63 : decode cX4_outlying 63 = .ok (.istore_n 2, 1) := dk_61 (dk_at dksX4_outlying_2 20 rfl rfl)
theorem dX4_outlying_64 : decode cX4_outlying 64 = .ok (.goto (-44), 3) := dk_167 255 212 (dk_at dksX4_outlying_2 21 rfl rfl)
theorem dX4_outlying_67 : decode cX4_outlying 67 = .ok (.iload_n 2, 1) := dk_28 (dk_at dksX4_outlying_3 0 rfl rfl)
theorem dX4_outlying_68 : decode cX4_outlying 68 = .ok (.ireturn, 1) := dk_172 (dk_at dksX4_outlying_3 1 rfl rfl)
abbrev cX4_drop : ByteArray := prog_7_method_5_code
def yX4_drop : MethodName := ⟨RX4, "drop", "(LPeerpanel$Person;)V"⟩
def dkwX4_drop_1 : List UInt8 := [180, 0, 33, 120, 128, 181, 0, 41, 43, 89, 180, 0, 44, 4, 100, 181, 0, 44, 177]
abbrev dktX4_drop_1 : List UInt8 := dkwX4_drop_1 ++ []
def dkwX4_drop_0 : List UInt8 := [42, 89, 180, 0, 30, 4, 43, 180, 0, 33, 120, 2, 130, 126, 181, 0, 30, 42, 89, 180, 0, 41, 4, 43]
abbrev dktX4_drop_0 : List UInt8 := dkwX4_drop_0 ++ dktX4_drop_1
theorem dksX4_drop_0 : cX4_drop.data.toList.drop 0 = dktX4_drop_0 := by decide +kernel
theorem dksX4_drop_1 : cX4_drop.data.toList.drop 24 = dktX4_drop_1 := dk_seg dksX4_drop_0 24 rfl rfl
theorem dX4_drop_0 : decode cX4_drop 0 = .ok (.aload_n 0, 1) := dk_42 (dk_at dksX4_drop_0 0 rfl rfl)
theorem dX4_drop_1 : decode cX4_drop 1 = .ok (.dup, 1) := dk_89 (dk_at dksX4_drop_0 1 rfl rfl)
theorem dX4_drop_2 : decode cX4_drop 2 = .ok (.getfield 30, 3) := dk_180 0 30 (dk_at dksX4_drop_0 2 rfl rfl)
theorem dX4_drop_5 : decode cX4_drop 5 = .ok (.iconst 1, 1) := dk_4 (dk_at dksX4_drop_0 5 rfl rfl)
theorem dX4_drop_6 : decode cX4_drop 6 = .ok (.aload_n 1, 1) := dk_43 (dk_at dksX4_drop_0 6 rfl rfl)
theorem dX4_drop_7 : decode cX4_drop 7 = .ok (.getfield 33, 3) := dk_180 0 33 (dk_at dksX4_drop_0 7 rfl rfl)
theorem dX4_drop_10 : decode cX4_drop 10 = .ok (.ishl, 1) := dk_120 (dk_at dksX4_drop_0 10 rfl rfl)
theorem dX4_drop_11 : decode cX4_drop 11 = .ok (.iconst (-1), 1) := dk_2 (dk_at dksX4_drop_0 11 rfl rfl)
theorem dX4_drop_12 : decode cX4_drop 12 = .ok (.ixor, 1) := dk_130 (dk_at dksX4_drop_0 12 rfl rfl)
theorem dX4_drop_13 : decode cX4_drop 13 = .ok (.iand, 1) := dk_126 (dk_at dksX4_drop_0 13 rfl rfl)
theorem dX4_drop_14 : decode cX4_drop 14 = .ok (.putfield 30, 3) := dk_181 0 30 (dk_at dksX4_drop_0 14 rfl rfl)
theorem dX4_drop_17 : decode cX4_drop 17 = .ok (.aload_n 0, 1) := dk_42 (dk_at dksX4_drop_0 17 rfl rfl)
theorem dX4_drop_18 : decode cX4_drop 18 = .ok (.dup, 1) := dk_89 (dk_at dksX4_drop_0 18 rfl rfl)
theorem dX4_drop_19 : decode cX4_drop 19 = .ok (.getfield 41, 3) := dk_180 0 41 (dk_at dksX4_drop_0 19 rfl rfl)
theorem dX4_drop_22 : decode cX4_drop 22 = .ok (.iconst 1, 1) := dk_4 (dk_at dksX4_drop_0 22 rfl rfl)
theorem dX4_drop_23 : decode cX4_drop 23 = .ok (.aload_n 1, 1) := dk_43 (dk_at dksX4_drop_0 23 rfl rfl)
theorem dX4_drop_24 : decode cX4_drop 24 = .ok (.getfield 33, 3) := dk_180 0 33 (dk_at dksX4_drop_1 0 rfl rfl)
theorem dX4_drop_27 : decode cX4_drop 27 = .ok (.ishl, 1) := dk_120 (dk_at dksX4_drop_1 3 rfl rfl)
theorem dX4_drop_28 : decode cX4_drop 28 = .ok (.ior, 1) := dk_128 (dk_at dksX4_drop_1 4 rfl rfl)
theorem dX4_drop_29 : decode cX4_drop 29 = .ok (.putfield 41, 3) := dk_181 0 41 (dk_at dksX4_drop_1 5 rfl rfl)
theorem dX4_drop_32 : decode cX4_drop 32 = .ok (.aload_n 1, 1) := dk_43 (dk_at dksX4_drop_1 8 rfl rfl)
theorem dX4_drop_33 : decode cX4_drop 33 = .ok (.dup, 1) := dk_89 (dk_at dksX4_drop_1 9 rfl rfl)
theorem dX4_drop_34 : decode cX4_drop 34 = .ok (.getfield 44, 3) := dk_180 0 44 (dk_at dksX4_drop_1 10 rfl rfl)
theorem dX4_drop_37 : decode cX4_drop 37 = .ok (.iconst 1, 1) := dk_4 (dk_at dksX4_drop_1 13 rfl rfl)
theorem dX4_drop_38 : decode cX4_drop 38 = .ok (.isub, 1) := dk_100 (dk_at dksX4_drop_1 14 rfl rfl)
theorem dX4_drop_39 : decode cX4_drop 39 = .ok (.putfield 44, 3) := dk_181 0 44 (dk_at dksX4_drop_1 15 rfl rfl)
theorem dX4_drop_42 : decode cX4_drop 42 = .ok (.return_, 1) := dk_177 (dk_at dksX4_drop_1 18 rfl rfl)
theorem q66 : (Jvm.Cond.initialized "Peerpanel$Work") ∈ lw_all := lw_g (lw_at lw_m1 21 rfl) rfl
theorem q127 : (Jvm.Cond.fieldLinkNest "Peerpanel$Work" (116 : Nat) "Peerpanel" "tolerance" "I" "Peerpanel") ∈ lw_tbl := lw_at lw_m1 82 rfl
theorem q330 : (Jvm.Cond.instanceMethod ({ cls := "Peerpanel$Work", name := "mark", desc := "()I" } : Jvm.MethodName)) ∈ lw_all := lw_g (lw_at lw_m2 45 rfl) rfl
theorem q331 : (Jvm.Cond.selects "Peerpanel$Work" ({ cls := "Peerpanel$Work", name := "mark", desc := "()I" } : Jvm.MethodName) ({ cls := "Peerpanel$Work", name := "mark", desc := "()I" } : Jvm.MethodName)) ∈ lw_all := lw_g (lw_at lw_m2 46 rfl) rfl
theorem q332 : (Jvm.Cond.code ({ cls := "Peerpanel$Work", name := "mark", desc := "()I" } : Jvm.MethodName) prog_7_method_10_code (1 : Nat) (Option.some Jvm.ClassFile.FieldType.int)) ∈ lw_all := lw_g (lw_at lw_m2 47 rfl) rfl
theorem q333 : (Jvm.Cond.methodLink "Peerpanel$Work" (104 : Nat) ({ cls := "Peerpanel$Work", name := "within", desc := "()LPeerpanel$Sieve;" } : Jvm.MethodName)) ∈ lw_all := lw_g (lw_at lw_m2 48 rfl) rfl
theorem q334 : (Jvm.Cond.privateMethod ({ cls := "Peerpanel$Work", name := "within", desc := "()LPeerpanel$Sieve;" } : Jvm.MethodName)) ∈ lw_tbl := lw_at lw_m2 49 rfl
theorem q335 : (Jvm.Cond.instanceMethod ({ cls := "Peerpanel$Work", name := "within", desc := "()LPeerpanel$Sieve;" } : Jvm.MethodName)) ∈ lw_all := lw_g (lw_at lw_m2 50 rfl) rfl
theorem q336 : (Jvm.Cond.instantiable "Peerpanel$Work" (7 : Nat)) ∈ lw_all := lw_g (lw_at lw_m2 51 rfl) rfl
theorem q337 : (Jvm.Cond.code ({ cls := "Peerpanel$Work", name := "within", desc := "()LPeerpanel$Sieve;" } : Jvm.MethodName) prog_7_method_8_code (2 : Nat) (Option.some (Jvm.ClassFile.FieldType.object "Peerpanel$Sieve"))) ∈ lw_all := lw_g (lw_at lw_m2 52 rfl) rfl
theorem q338 : (Jvm.Cond.methodLink "Peerpanel$Work" (90 : Nat) ({ cls := "java/util/TreeMap", name := "size", desc := "()I" } : Jvm.MethodName)) ∈ lw_all := lw_g (lw_at lw_m2 53 rfl) rfl
theorem q342 : (Jvm.Cond.static ({ cls := "Peerpanel$Work", name := "lambda$within$0", desc := "(LPeerpanel$Review;)Z" } : Jvm.MethodName)) ∈ lw_all := lw_g (lw_at lw_m2 57 rfl) rfl
theorem q343 : (Jvm.Cond.code ({ cls := "Peerpanel$Work", name := "lambda$within$0", desc := "(LPeerpanel$Review;)Z" } : Jvm.MethodName) prog_7_method_13_code (1 : Nat) (Option.some Jvm.ClassFile.FieldType.boolean)) ∈ lw_all := lw_g (lw_at lw_m2 58 rfl) rfl
theorem q344 : (Jvm.Cond.static ({ cls := "Peerpanel$Work", name := "lambda$within$1", desc := "(LPeerpanel$Review;)Z" } : Jvm.MethodName)) ∈ lw_all := lw_g (lw_at lw_m2 59 rfl) rfl
theorem q345 : (Jvm.Cond.code ({ cls := "Peerpanel$Work", name := "lambda$within$1", desc := "(LPeerpanel$Review;)Z" } : Jvm.MethodName) prog_7_method_12_code (1 : Nat) (Option.some Jvm.ClassFile.FieldType.boolean)) ∈ lw_all := lw_g (lw_at lw_m2 60 rfl) rfl
theorem q346 : (Jvm.Cond.methodLink "Peerpanel$Work" (97 : Nat) ({ cls := "Peerpanel$Work", name := "median", desc := "(LPeerpanel$Sieve;)I" } : Jvm.MethodName)) ∈ lw_all := lw_g (lw_at lw_m2 61 rfl) rfl
theorem q347 : (Jvm.Cond.privateMethod ({ cls := "Peerpanel$Work", name := "median", desc := "(LPeerpanel$Sieve;)I" } : Jvm.MethodName)) ∈ lw_tbl := lw_at lw_m2 62 rfl
theorem q348 : (Jvm.Cond.instanceMethod ({ cls := "Peerpanel$Work", name := "median", desc := "(LPeerpanel$Sieve;)I" } : Jvm.MethodName)) ∈ lw_all := lw_g (lw_at lw_m2 63 rfl) rfl
theorem q349 : (Jvm.Cond.code ({ cls := "Peerpanel$Work", name := "median", desc := "(LPeerpanel$Sieve;)I" } : Jvm.MethodName) prog_7_method_7_code (6 : Nat) (Option.some Jvm.ClassFile.FieldType.int)) ∈ lw_all := lw_g (lw_at lw_m2 64 rfl) rfl
theorem q350 : (Jvm.Cond.methodLink "Peerpanel$Work" (83 : Nat) ({ cls := "Peerpanel$Work", name := "sum", desc := "(LPeerpanel$Sieve;LPeerpanel$Review;)I" } : Jvm.MethodName)) ∈ lw_all := lw_g (lw_at lw_m2 65 rfl) rfl
theorem q351 : (Jvm.Cond.privateMethod ({ cls := "Peerpanel$Work", name := "sum", desc := "(LPeerpanel$Sieve;LPeerpanel$Review;)I" } : Jvm.MethodName)) ∈ lw_tbl := lw_at lw_m2 66 rfl
theorem q352 : (Jvm.Cond.instanceMethod ({ cls := "Peerpanel$Work", name := "sum", desc := "(LPeerpanel$Sieve;LPeerpanel$Review;)I" } : Jvm.MethodName)) ∈ lw_all := lw_g (lw_at lw_m2 67 rfl) rfl
theorem q353 : (Jvm.Cond.code ({ cls := "Peerpanel$Work", name := "sum", desc := "(LPeerpanel$Sieve;LPeerpanel$Review;)I" } : Jvm.MethodName) prog_7_method_6_code (6 : Nat) (Option.some Jvm.ClassFile.FieldType.int)) ∈ lw_all := lw_g (lw_at lw_m2 68 rfl) rfl
theorem q354 : (Jvm.Cond.methodLink "Peerpanel$Work" (47 : Nat) ({ cls := "java/util/TreeMap", name := "values", desc := "()Ljava/util/Collection;" } : Jvm.MethodName)) ∈ lw_all := lw_g (lw_at lw_m2 69 rfl) rfl
theorem q368 : (Jvm.Cond.interfaceEntry "Peerpanel$Work" (51 : Nat)) ∈ lw_tbl := lw_at lw_m2 83 rfl
theorem q369 : (Jvm.Cond.methodLink "Peerpanel$Work" (51 : Nat) ({ cls := "java/util/Collection", name := "iterator", desc := "()Ljava/util/Iterator;" } : Jvm.MethodName)) ∈ lw_all := lw_g (lw_at lw_m2 84 rfl) rfl
theorem q408 : (Jvm.Cond.interfaceEntry "Peerpanel$Work" (57 : Nat)) ∈ lw_tbl := lw_at lw_m2 123 rfl
theorem q409 : (Jvm.Cond.methodLink "Peerpanel$Work" (57 : Nat) ({ cls := "java/util/Iterator", name := "hasNext", desc := "()Z" } : Jvm.MethodName)) ∈ lw_all := lw_g (lw_at lw_m2 124 rfl) rfl
theorem q410 : (Jvm.Cond.interfaceEntry "Peerpanel$Work" (63 : Nat)) ∈ lw_tbl := lw_at lw_m2 125 rfl
theorem q411 : (Jvm.Cond.methodLink "Peerpanel$Work" (63 : Nat) ({ cls := "java/util/Iterator", name := "next", desc := "()Ljava/lang/Object;" } : Jvm.MethodName)) ∈ lw_all := lw_g (lw_at lw_m2 126 rfl) rfl
theorem q412 : (Jvm.Cond.classLink "Peerpanel$Work" (67 : Nat) "Peerpanel$Review") ∈ lw_all := lw_g (lw_at lw_m2 127 rfl) rfl
theorem q413 : (Jvm.Cond.interfaceEntry "Peerpanel$Work" (69 : Nat)) ∈ lw_tbl := lw_at lw_m2 128 rfl
theorem q414 : (Jvm.Cond.methodLink "Peerpanel$Work" (69 : Nat) ({ cls := "Peerpanel$Sieve", name := "lets", desc := "(LPeerpanel$Review;)Z" } : Jvm.MethodName)) ∈ lw_all := lw_g (lw_at lw_m2 129 rfl) rfl
theorem q417 : (Jvm.Cond.methodLink "Peerpanel$Work" (75 : Nat) ({ cls := "Peerpanel$Review", name := "compareTo", desc := "(LPeerpanel$Review;)I" } : Jvm.MethodName)) ∈ lw_all := lw_g (lw_at lw_m2 132 rfl) rfl
theorem q424 : (Jvm.Cond.methodLink "Peerpanel$Work" (79 : Nat) ({ cls := "Peerpanel$Review", name := "counts", desc := "()I" } : Jvm.MethodName)) ∈ lw_all := lw_g (lw_at lw_m2 139 rfl) rfl
theorem q432 : (Jvm.Cond.privateMethod ({ cls := "Peerpanel$Work", name := "lambda$within$2", desc := "(ILPeerpanel$Review;)Z" } : Jvm.MethodName)) ∈ lw_tbl := lw_at lw_m2 147 rfl
theorem q433 : (Jvm.Cond.instanceMethod ({ cls := "Peerpanel$Work", name := "lambda$within$2", desc := "(ILPeerpanel$Review;)Z" } : Jvm.MethodName)) ∈ lw_all := lw_g (lw_at lw_m2 148 rfl) rfl
theorem q434 : (Jvm.Cond.code ({ cls := "Peerpanel$Work", name := "lambda$within$2", desc := "(ILPeerpanel$Review;)Z" } : Jvm.MethodName) prog_7_method_11_code (3 : Nat) (Option.some Jvm.ClassFile.FieldType.boolean)) ∈ lw_all := lw_g (lw_at lw_m2 149 rfl) rfl
theorem q435 : (Jvm.Cond.methodLink "Peerpanel$Work" (110 : Nat) ({ cls := "java/lang/Math", name := "abs", desc := "(I)I" } : Jvm.MethodName)) ∈ lw_all := lw_g (lw_at lw_m2 150 rfl) rfl
theorem q502 : (Jvm.Cond.fieldLinkNest "Peerpanel$Work" (33 : Nat) "Peerpanel$Person" "number" "I" "Peerpanel") ∈ lw_tbl := lw_at lw_m2 217 rfl
theorem q505 : (Jvm.Cond.fieldLinkNest "Peerpanel$Work" (38 : Nat) "Peerpanel$Person" "group" "I" "Peerpanel") ∈ lw_tbl := lw_at lw_m2 220 rfl
theorem q510 : (Jvm.Cond.fieldLinkNest "Peerpanel$Work" (44 : Nat) "Peerpanel$Person" "load" "I" "Peerpanel") ∈ lw_tbl := lw_at lw_m2 225 rfl
theorem q570 : (Jvm.Cond.selects "Peerpanel$Work" ({ cls := "java/lang/Object", name := "getClass", desc := "()Ljava/lang/Class;" } : Jvm.MethodName) ({ cls := "java/lang/Object", name := "getClass", desc := "()Ljava/lang/Class;" } : Jvm.MethodName)) ∈ lw_all := lw_g (lw_at lw_m3 45 rfl) rfl
theorem q663 : (Jvm.Cond.instanceMethod ({ cls := "Peerpanel$Work", name := "<init>", desc := "(LPeerpanel;LPeerpanel$Person;)V" } : Jvm.MethodName)) ∈ lw_all := lw_g (lw_at lw_m3 138 rfl) rfl
theorem q664 : (Jvm.Cond.code ({ cls := "Peerpanel$Work", name := "<init>", desc := "(LPeerpanel;LPeerpanel$Person;)V" } : Jvm.MethodName) prog_7_method_1_code (3 : Nat) (Option.none : Option Jvm.ClassFile.FieldType)) ∈ lw_all := lw_g (lw_at lw_m3 139 rfl) rfl
theorem q665 : (Jvm.Cond.methodLink "Peerpanel$Work" (9 : Nat) ({ cls := "java/lang/Object", name := "<init>", desc := "()V" } : Jvm.MethodName)) ∈ lw_all := lw_g (lw_at lw_m3 140 rfl) rfl
theorem q666 : (Jvm.Cond.classLink "Peerpanel$Work" (15 : Nat) "java/util/TreeMap") ∈ lw_all := lw_g (lw_at lw_m3 141 rfl) rfl
theorem q668 : (Jvm.Cond.methodLink "Peerpanel$Work" (17 : Nat) ({ cls := "java/util/TreeMap", name := "<init>", desc := "()V" } : Jvm.MethodName)) ∈ lw_all := lw_g (lw_at lw_m3 143 rfl) rfl
theorem q701 : (Jvm.Cond.fieldLink "Peerpanel$Work" (26 : Nat) "Peerpanel$Work" "author" "LPeerpanel$Person;") ∈ lw_all := lw_g (lw_at lw_m3 176 rfl) rfl
theorem q702 : (Jvm.Cond.fieldLink "Peerpanel$Work" (18 : Nat) "Peerpanel$Work" "reviews" "Ljava/util/TreeMap;") ∈ lw_all := lw_g (lw_at lw_m3 177 rfl) rfl
theorem q705 : (Jvm.Cond.fieldLink "Peerpanel$Work" (30 : Nat) "Peerpanel$Work" "readers" "I") ∈ lw_all := lw_g (lw_at lw_m3 180 rfl) rfl
theorem q707 : (Jvm.Cond.fieldLink "Peerpanel$Work" (41 : Nat) "Peerpanel$Work" "replaced" "I") ∈ lw_all := lw_g (lw_at lw_m3 182 rfl) rfl
theorem q708 : (Jvm.Cond.fieldLink "Peerpanel$Work" (22 : Nat) "Peerpanel$Work" "appealReader" "I") ∈ lw_all := lw_g (lw_at lw_m3 183 rfl) rfl
theorem q711 : (Jvm.Cond.fieldLink "Peerpanel$Work" (3 : Nat) "Peerpanel$Work" "this$0" "LPeerpanel;") ∈ lw_all := lw_g (lw_at lw_m3 186 rfl) rfl
theorem q712 : (Jvm.Cond.laysFinal "Peerpanel$Work" "Peerpanel$Work" "author" "LPeerpanel$Person;") ∈ lw_all := lw_g (lw_at lw_m3 187 rfl) rfl
theorem q713 : (Jvm.Cond.soleField "Peerpanel$Work" "author") ∈ lw_all := lw_g (lw_at lw_m3 188 rfl) rfl
theorem q714 : (Jvm.Cond.laysFinal "Peerpanel$Work" "Peerpanel$Work" "reviews" "Ljava/util/TreeMap;") ∈ lw_all := lw_g (lw_at lw_m3 189 rfl) rfl
theorem q715 : (Jvm.Cond.soleField "Peerpanel$Work" "reviews") ∈ lw_all := lw_g (lw_at lw_m3 190 rfl) rfl
theorem q716 : (Jvm.Cond.lays "Peerpanel$Work" "Peerpanel$Work" "readers" "I") ∈ lw_all := lw_g (lw_at lw_m3 191 rfl) rfl
theorem q717 : (Jvm.Cond.soleField "Peerpanel$Work" "readers") ∈ lw_all := lw_g (lw_at lw_m3 192 rfl) rfl
theorem q718 : (Jvm.Cond.lays "Peerpanel$Work" "Peerpanel$Work" "replaced" "I") ∈ lw_all := lw_g (lw_at lw_m3 193 rfl) rfl
theorem q719 : (Jvm.Cond.soleField "Peerpanel$Work" "replaced") ∈ lw_all := lw_g (lw_at lw_m3 194 rfl) rfl
theorem q720 : (Jvm.Cond.lays "Peerpanel$Work" "Peerpanel$Work" "appealReader" "I") ∈ lw_all := lw_g (lw_at lw_m3 195 rfl) rfl
theorem q721 : (Jvm.Cond.soleField "Peerpanel$Work" "appealReader") ∈ lw_all := lw_g (lw_at lw_m3 196 rfl) rfl
theorem q722 : (Jvm.Cond.lays "Peerpanel$Work" "Peerpanel$Work" "hadAppeal" "Z") ∈ lw_all := lw_g (lw_at lw_m3 197 rfl) rfl
theorem q723 : (Jvm.Cond.soleField "Peerpanel$Work" "hadAppeal") ∈ lw_all := lw_g (lw_at lw_m3 198 rfl) rfl
theorem q724 : (Jvm.Cond.laysFinal "Peerpanel$Work" "Peerpanel$Work" "this$0" "LPeerpanel;") ∈ lw_all := lw_g (lw_at lw_m3 199 rfl) rfl
theorem q725 : (Jvm.Cond.soleField "Peerpanel$Work" "this$0") ∈ lw_all := lw_g (lw_at lw_m3 200 rfl) rfl
theorem q726 : (Jvm.Cond.superclass "Peerpanel$Work" "java/lang/Object") ∈ lw_all := lw_g (lw_at lw_m3 201 rfl) rfl
theorem q760 : (Jvm.Cond.instanceMethod ({ cls := "Peerpanel$Work", name := "isOpenTo", desc := "(LPeerpanel$Person;)Z" } : Jvm.MethodName)) ∈ lw_all := lw_g (lw_at lw_m3 235 rfl) rfl
theorem q761 : (Jvm.Cond.selects "Peerpanel$Work" ({ cls := "Peerpanel$Work", name := "isOpenTo", desc := "(LPeerpanel$Person;)Z" } : Jvm.MethodName) ({ cls := "Peerpanel$Work", name := "isOpenTo", desc := "(LPeerpanel$Person;)Z" } : Jvm.MethodName)) ∈ lw_all := lw_g (lw_at lw_m3 236 rfl) rfl
theorem q762 : (Jvm.Cond.code ({ cls := "Peerpanel$Work", name := "isOpenTo", desc := "(LPeerpanel$Person;)Z" } : Jvm.MethodName) prog_7_method_3_code (2 : Nat) (Option.some Jvm.ClassFile.FieldType.boolean)) ∈ lw_all := lw_g (lw_at lw_m3 237 rfl) rfl
theorem q768 : (Jvm.Cond.instanceMethod ({ cls := "Peerpanel$Work", name := "add", desc := "(LPeerpanel$Person;)V" } : Jvm.MethodName)) ∈ lw_all := lw_g (lw_at lw_m4 3 rfl) rfl
theorem q769 : (Jvm.Cond.selects "Peerpanel$Work" ({ cls := "Peerpanel$Work", name := "add", desc := "(LPeerpanel$Person;)V" } : Jvm.MethodName) ({ cls := "Peerpanel$Work", name := "add", desc := "(LPeerpanel$Person;)V" } : Jvm.MethodName)) ∈ lw_all := lw_g (lw_at lw_m4 4 rfl) rfl
theorem q770 : (Jvm.Cond.code ({ cls := "Peerpanel$Work", name := "add", desc := "(LPeerpanel$Person;)V" } : Jvm.MethodName) prog_7_method_4_code (2 : Nat) (Option.none : Option Jvm.ClassFile.FieldType)) ∈ lw_all := lw_g (lw_at lw_m4 5 rfl) rfl
theorem q946 : (Jvm.Cond.instanceMethod ({ cls := "Peerpanel$Work", name := "hasReader", desc := "(LPeerpanel$Person;)Z" } : Jvm.MethodName)) ∈ lw_all := lw_g (lw_at lw_m4 181 rfl) rfl
theorem q947 : (Jvm.Cond.selects "Peerpanel$Work" ({ cls := "Peerpanel$Work", name := "hasReader", desc := "(LPeerpanel$Person;)Z" } : Jvm.MethodName) ({ cls := "Peerpanel$Work", name := "hasReader", desc := "(LPeerpanel$Person;)Z" } : Jvm.MethodName)) ∈ lw_all := lw_g (lw_at lw_m4 182 rfl) rfl
theorem q948 : (Jvm.Cond.code ({ cls := "Peerpanel$Work", name := "hasReader", desc := "(LPeerpanel$Person;)Z" } : Jvm.MethodName) prog_7_method_2_code (2 : Nat) (Option.some Jvm.ClassFile.FieldType.boolean)) ∈ lw_all := lw_g (lw_at lw_m4 183 rfl) rfl
theorem q960 : (Jvm.Cond.fieldLinkNest "Peerpanel$Work" (107 : Nat) "Peerpanel$Review" "reader" "LPeerpanel$Person;" "Peerpanel") ∈ lw_tbl := lw_at lw_m4 195 rfl
theorem q963 : (Jvm.Cond.fieldLinkNest "Peerpanel$Work" (87 : Nat) "Peerpanel$Review" "mark" "I" "Peerpanel") ∈ lw_tbl := lw_at lw_m4 198 rfl
theorem q1079 : (Jvm.Cond.instanceMethod ({ cls := "Peerpanel$Work", name := "outlying", desc := "()I" } : Jvm.MethodName)) ∈ lw_all := lw_g (lw_at lw_m5 74 rfl) rfl
theorem q1080 : (Jvm.Cond.selects "Peerpanel$Work" ({ cls := "Peerpanel$Work", name := "outlying", desc := "()I" } : Jvm.MethodName) ({ cls := "Peerpanel$Work", name := "outlying", desc := "()I" } : Jvm.MethodName)) ∈ lw_all := lw_g (lw_at lw_m5 75 rfl) rfl
theorem q1081 : (Jvm.Cond.code ({ cls := "Peerpanel$Work", name := "outlying", desc := "()I" } : Jvm.MethodName) prog_7_method_9_code (5 : Nat) (Option.some Jvm.ClassFile.FieldType.int)) ∈ lw_all := lw_g (lw_at lw_m5 76 rfl) rfl
theorem q1125 : (Jvm.Cond.instanceMethod ({ cls := "Peerpanel$Work", name := "drop", desc := "(LPeerpanel$Person;)V" } : Jvm.MethodName)) ∈ lw_all := lw_g (lw_at lw_m5 120 rfl) rfl
theorem q1126 : (Jvm.Cond.selects "Peerpanel$Work" ({ cls := "Peerpanel$Work", name := "drop", desc := "(LPeerpanel$Person;)V" } : Jvm.MethodName) ({ cls := "Peerpanel$Work", name := "drop", desc := "(LPeerpanel$Person;)V" } : Jvm.MethodName)) ∈ lw_all := lw_g (lw_at lw_m5 121 rfl) rfl
theorem q1127 : (Jvm.Cond.code ({ cls := "Peerpanel$Work", name := "drop", desc := "(LPeerpanel$Person;)V" } : Jvm.MethodName) prog_7_method_5_code (2 : Nat) (Option.none : Option Jvm.ClassFile.FieldType)) ∈ lw_all := lw_g (lw_at lw_m5 122 rfl) rfl
theorem q1437 : (Jvm.Cond.castable "Peerpanel$Work" "java/lang/Object") ∈ lw_tbl := lw_at lw_m6 192 rfl
theorem in_X4 : ∀ w ∈ wsX40, w ∈ lw_all := lw_in wsX40 [712, 714, 716, 718, 720, 722, 724] (by decide +kernel) (by decide +kernel)
/-! Peerpanel$Flow -/
set_option maxRecDepth 100000
def RX5 : String := "Peerpanel$Flow"
def TX5 : u_T := fun k => match k with
  | 0 => ("Peerpanel$Flow", "limit", "I", true)
  | 1 => ("Peerpanel$Flow", "pairs", "[I", true)
  | 2 => ("Peerpanel$Flow", "loads", "[I", true)
  | 3 => ("Peerpanel$Flow", "seen", "I", false)
  | _ => ("Peerpanel$Flow", "this$0", "LPeerpanel;", true)
def tyX5 : Nat → FieldType := fun k => match k with
  | 0 => .int
  | 1 => .array .int
  | 2 => .array .int
  | 3 => .int
  | _ => .object "Peerpanel"
abbrev wsX50 : List Cond := u_ws RX5 TX5 5
theorem nmX5 : ∀ a, a < 5 → ∀ b, b < 5 → a ≠ b → (TX5 a).2.1 ≠ (TX5 b).2.1 := by decide +kernel
theorem tyX5_ok : ∀ k, k < 5 → parseFieldDescriptor (TX5 k).2.2.1 = some (tyX5 k) := by decide +kernel
abbrev cX5_init : ByteArray := prog_3_method_1_code
def yX5_init : MethodName := ⟨RX5, "<init>", "(LPeerpanel;I)V"⟩
def dkwX5_init_1 : List UInt8 := [181, 0, 19, 42, 28, 181, 0, 22, 177]
abbrev dktX5_init_1 : List UInt8 := dkwX5_init_1 ++ []
def dkwX5_init_0 : List UInt8 := [42, 43, 181, 0, 3, 42, 183, 0, 9, 42, 16, 16, 188, 10, 181, 0, 15, 42, 16, 16, 188, 10]
abbrev dktX5_init_0 : List UInt8 := dkwX5_init_0 ++ dktX5_init_1
theorem dksX5_init_0 : cX5_init.data.toList.drop 0 = dktX5_init_0 := by decide +kernel
theorem dksX5_init_1 : cX5_init.data.toList.drop 22 = dktX5_init_1 := dk_seg dksX5_init_0 22 rfl rfl
theorem dX5_init_0 : decode cX5_init 0 = .ok (.aload_n 0, 1) := dk_42 (dk_at dksX5_init_0 0 rfl rfl)
theorem dX5_init_1 : decode cX5_init 1 = .ok (.aload_n 1, 1) := dk_43 (dk_at dksX5_init_0 1 rfl rfl)
theorem dX5_init_2 : decode cX5_init 2 = .ok (.putfield 3, 3) := dk_181 0 3 (dk_at dksX5_init_0 2 rfl rfl)
theorem dX5_init_5 : decode cX5_init 5 = .ok (.aload_n 0, 1) := dk_42 (dk_at dksX5_init_0 5 rfl rfl)
theorem dX5_init_6 : decode cX5_init 6 = .ok (.invokespecial 9, 3) := dk_183 0 9 (dk_at dksX5_init_0 6 rfl rfl)
theorem dX5_init_9 : decode cX5_init 9 = .ok (.aload_n 0, 1) := dk_42 (dk_at dksX5_init_0 9 rfl rfl)
theorem dX5_init_10 : decode cX5_init 10 = .ok (.bipush 16, 2) := dk_16 16 (dk_at dksX5_init_0 10 rfl rfl)
theorem dX5_init_12 : decode cX5_init 12 = .ok (.newarray .int, 2) := dk_188_10 (dk_at dksX5_init_0 12 rfl rfl)
theorem dX5_init_14 : decode cX5_init 14 = .ok (.putfield 15, 3) := dk_181 0 15 (dk_at dksX5_init_0 14 rfl rfl)
theorem dX5_init_17 : decode cX5_init 17 = .ok (.aload_n 0, 1) := dk_42 (dk_at dksX5_init_0 17 rfl rfl)
theorem dX5_init_18 : decode cX5_init 18 = .ok (.bipush 16, 2) := dk_16 16 (dk_at dksX5_init_0 18 rfl rfl)
theorem dX5_init_20 : decode cX5_init 20 = .ok (.newarray .int, 2) := dk_188_10 (dk_at dksX5_init_0 20 rfl rfl)
theorem dX5_init_22 : decode cX5_init 22 = .ok (.putfield 19, 3) := dk_181 0 19 (dk_at dksX5_init_1 0 rfl rfl)
theorem dX5_init_25 : decode cX5_init 25 = .ok (.aload_n 0, 1) := dk_42 (dk_at dksX5_init_1 3 rfl rfl)
theorem dX5_init_26 : decode cX5_init 26 = .ok (.iload_n 2, 1) := dk_28 (dk_at dksX5_init_1 4 rfl rfl)
theorem dX5_init_27 : decode cX5_init 27 = .ok (.putfield 22, 3) := dk_181 0 22 (dk_at dksX5_init_1 5 rfl rfl)
theorem dX5_init_30 : decode cX5_init 30 = .ok (.return_, 1) := dk_177 (dk_at dksX5_init_1 8 rfl rfl)
abbrev cX5_give : ByteArray := prog_3_method_2_code
def yX5_give : MethodName := ⟨RX5, "give", "(I)Z"⟩
def dkwX5_give_0 : List UInt8 := [42, 3, 181, 0, 26, 42, 27, 182, 0, 29, 172]
abbrev dktX5_give_0 : List UInt8 := dkwX5_give_0 ++ []
theorem dksX5_give_0 : cX5_give.data.toList.drop 0 = dktX5_give_0 := by decide +kernel
theorem dX5_give_0 : decode cX5_give 0 = .ok (.aload_n 0, 1) := dk_42 (dk_at dksX5_give_0 0 rfl rfl)
theorem dX5_give_1 : decode cX5_give 1 = .ok (.iconst 0, 1) := dk_3 (dk_at dksX5_give_0 1 rfl rfl)
theorem dX5_give_2 : decode cX5_give 2 = .ok (.putfield 26, 3) := dk_181 0 26 (dk_at dksX5_give_0 2 rfl rfl)
theorem dX5_give_5 : decode cX5_give 5 = .ok (.aload_n 0, 1) := dk_42 (dk_at dksX5_give_0 5 rfl rfl)
theorem dX5_give_6 : decode cX5_give 6 = .ok (.iload_n 1, 1) := dk_27 (dk_at dksX5_give_0 6 rfl rfl)
theorem dX5_give_7 : decode cX5_give 7 = .ok (.invokevirtual 29, 3) := dk_182 0 29 (dk_at dksX5_give_0 7 rfl rfl)
theorem dX5_give_10 : decode cX5_give 10 = .ok (.ireturn, 1) := dk_172 (dk_at dksX5_give_0 10 rfl rfl)
abbrev cX5_goes : ByteArray := prog_3_method_4_code
def yX5_goes : MethodName := ⟨RX5, "goes", "(I)Z"⟩
def dkwX5_goes_4 : List UInt8 := [132, 2, 1, 167, 255, 163, 3, 172]
abbrev dktX5_goes_4 : List UInt8 := dkwX5_goes_4 ++ []
def dkwX5_goes_3 : List UInt8 := [182, 0, 56, 154, 0, 6, 167, 0, 17, 42, 180, 0, 15, 27, 92, 46, 4, 28, 120, 128, 79, 4, 172]
abbrev dktX5_goes_3 : List UInt8 := dkwX5_goes_3 ++ dktX5_goes_4
def dkwX5_goes_2 : List UInt8 := [42, 180, 0, 22, 162, 0, 16, 42, 180, 0, 19, 28, 92, 46, 4, 96, 79, 167, 0, 15, 42, 28, 27]
abbrev dktX5_goes_2 : List UInt8 := dkwX5_goes_2 ++ dktX5_goes_3
def dkwX5_goes_1 : List UInt8 := [154, 0, 6, 167, 0, 67, 42, 89, 180, 0, 26, 4, 28, 120, 128, 181, 0, 26, 42, 180, 0, 19, 28, 46]
abbrev dktX5_goes_1 : List UInt8 := dkwX5_goes_1 ++ dktX5_goes_2
def dkwX5_goes_0 : List UInt8 := [3, 61, 28, 42, 180, 0, 3, 180, 0, 33, 182, 0, 48, 162, 0, 85, 42, 28, 27, 182, 0, 52]
abbrev dktX5_goes_0 : List UInt8 := dkwX5_goes_0 ++ dktX5_goes_1
theorem dksX5_goes_0 : cX5_goes.data.toList.drop 0 = dktX5_goes_0 := by decide +kernel
theorem dksX5_goes_1 : cX5_goes.data.toList.drop 22 = dktX5_goes_1 := dk_seg dksX5_goes_0 22 rfl rfl
theorem dksX5_goes_2 : cX5_goes.data.toList.drop 46 = dktX5_goes_2 := dk_seg dksX5_goes_1 24 rfl rfl
theorem dksX5_goes_3 : cX5_goes.data.toList.drop 69 = dktX5_goes_3 := dk_seg dksX5_goes_2 23 rfl rfl
theorem dksX5_goes_4 : cX5_goes.data.toList.drop 92 = dktX5_goes_4 := dk_seg dksX5_goes_3 23 rfl rfl
theorem dX5_goes_0 : decode cX5_goes 0 = .ok (.iconst 0, 1) := dk_3 (dk_at dksX5_goes_0 0 rfl rfl)
theorem dX5_goes_1 : decode cX5_goes 1 = .ok (.istore_n 2, 1) := dk_61 (dk_at dksX5_goes_0 1 rfl rfl)
theorem dX5_goes_2 : decode cX5_goes 2 = .ok (.iload_n 2, 1) := dk_28 (dk_at dksX5_goes_0 2 rfl rfl)
theorem dX5_goes_3 : decode cX5_goes 3 = .ok (.aload_n 0, 1) := dk_42 (dk_at dksX5_goes_0 3 rfl rfl)
theorem dX5_goes_4 : decode cX5_goes 4 = .ok (.getfield 3, 3) := dk_180 0 3 (dk_at dksX5_goes_0 4 rfl rfl)
theorem dX5_goes_7 : decode cX5_goes 7 = .ok (.getfield 33, 3) := dk_180 0 33 (dk_at dksX5_goes_0 7 rfl rfl)
theorem dX5_goes_10 : decode cX5_goes 10 = .ok (.invokevirtual 48, 3) := dk_182 0 48 (dk_at dksX5_goes_0 10 rfl rfl)
theorem dX5_goes_13 : decode cX5_goes 13 = .ok (.if_icmp .ge 85, 3) := dk_162 0 85 (dk_at dksX5_goes_0 13 rfl rfl)
theorem dX5_goes_16 : decode cX5_goes 16 = .ok (.aload_n 0, 1) := dk_42 (dk_at dksX5_goes_0 16 rfl rfl)
theorem dX5_goes_17 : decode cX5_goes 17 = .ok (.iload_n 2, 1) := dk_28 (dk_at dksX5_goes_0 17 rfl rfl)
theorem dX5_goes_18 : decode cX5_goes 18 = .ok (.iload_n 1, 1) := dk_27 (dk_at dksX5_goes_0 18 rfl rfl)
theorem dX5_goes_19 : decode cX5_goes 19 = .ok (.invokevirtual 52, 3) := dk_182 0 52 (dk_at dksX5_goes_0 19 rfl rfl)
theorem dX5_goes_22 : decode cX5_goes 22 = .ok (.ifCond .ne 6, 3) := dk_154 0 6 (dk_at dksX5_goes_1 0 rfl rfl)
theorem dX5_goes_25 : decode cX5_goes 25 = .ok (.goto 67, 3) := dk_167 0 67 (dk_at dksX5_goes_1 3 rfl rfl)
theorem dX5_goes_28 : decode cX5_goes 28 = .ok (.aload_n 0, 1) := dk_42 (dk_at dksX5_goes_1 6 rfl rfl)
theorem dX5_goes_29 : decode cX5_goes 29 = .ok (.dup, 1) := dk_89 (dk_at dksX5_goes_1 7 rfl rfl)
theorem dX5_goes_30 : decode cX5_goes 30 = .ok (.getfield 26, 3) := dk_180 0 26 (dk_at dksX5_goes_1 8 rfl rfl)
theorem dX5_goes_33 : decode cX5_goes 33 = .ok (.iconst 1, 1) := dk_4 (dk_at dksX5_goes_1 11 rfl rfl)
theorem dX5_goes_34 : decode cX5_goes 34 = .ok (.iload_n 2, 1) := dk_28 (dk_at dksX5_goes_1 12 rfl rfl)
theorem dX5_goes_35 : decode cX5_goes 35 = .ok (.ishl, 1) := dk_120 (dk_at dksX5_goes_1 13 rfl rfl)
theorem dX5_goes_36 : decode cX5_goes 36 = .ok (.ior, 1) := dk_128 (dk_at dksX5_goes_1 14 rfl rfl)
theorem dX5_goes_37 : decode cX5_goes 37 = .ok (.putfield 26, 3) := dk_181 0 26 (dk_at dksX5_goes_1 15 rfl rfl)
theorem dX5_goes_40 : decode cX5_goes 40 = .ok (.aload_n 0, 1) := dk_42 (dk_at dksX5_goes_1 18 rfl rfl)
theorem dX5_goes_41 : decode cX5_goes 41 = .ok (.getfield 19, 3) := dk_180 0 19 (dk_at dksX5_goes_1 19 rfl rfl)
theorem dX5_goes_44 : decode cX5_goes 44 = .ok (.iload_n 2, 1) := dk_28 (dk_at dksX5_goes_1 22 rfl rfl)
theorem dX5_goes_45 : decode cX5_goes 45 = .ok (.iaload, 1) := dk_46 (dk_at dksX5_goes_1 23 rfl rfl)
theorem dX5_goes_46 : decode cX5_goes 46 = .ok (.aload_n 0, 1) := dk_42 (dk_at dksX5_goes_2 0 rfl rfl)
theorem dX5_goes_47 : decode cX5_goes 47 = .ok (.getfield 22, 3) := dk_180 0 22 (dk_at dksX5_goes_2 1 rfl rfl)
theorem dX5_goes_50 : decode cX5_goes 50 = .ok (.if_icmp .ge 16, 3) := dk_162 0 16 (dk_at dksX5_goes_2 4 rfl rfl)
theorem dX5_goes_53 : decode cX5_goes 53 = .ok (.aload_n 0, 1) := dk_42 (dk_at dksX5_goes_2 7 rfl rfl)
theorem dX5_goes_54 : decode cX5_goes 54 = .ok (.getfield 19, 3) := dk_180 0 19 (dk_at dksX5_goes_2 8 rfl rfl)
theorem dX5_goes_57 : decode cX5_goes 57 = .ok (.iload_n 2, 1) := dk_28 (dk_at dksX5_goes_2 11 rfl rfl)
theorem dX5_goes_58 : decode cX5_goes 58 = .ok (.dup2, 1) := dk_92 (dk_at dksX5_goes_2 12 rfl rfl)
theorem dX5_goes_59 : decode cX5_goes 59 = .ok (.iaload, 1) := dk_46 (dk_at dksX5_goes_2 13 rfl rfl)
theorem dX5_goes_60 : decode cX5_goes 60 = .ok (.iconst 1, 1) := dk_4 (dk_at dksX5_goes_2 14 rfl rfl)
theorem dX5_goes_61 : decode cX5_goes 61 = .ok (.iadd, 1) := dk_96 (dk_at dksX5_goes_2 15 rfl rfl)
theorem dX5_goes_62 : decode cX5_goes 62 = .ok (.iastore, 1) := dk_79 (dk_at dksX5_goes_2 16 rfl rfl)
theorem dX5_goes_63 : decode cX5_goes 63 = .ok (.goto 15, 3) := dk_167 0 15 (dk_at dksX5_goes_2 17 rfl rfl)
theorem dX5_goes_66 : decode cX5_goes 66 = .ok (.aload_n 0, 1) := dk_42 (dk_at dksX5_goes_2 20 rfl rfl)
theorem dX5_goes_67 : decode cX5_goes 67 = .ok (.iload_n 2, 1) := dk_28 (dk_at dksX5_goes_2 21 rfl rfl)
theorem dX5_goes_68 : decode cX5_goes 68 = .ok (.iload_n 1, 1) := dk_27 (dk_at dksX5_goes_2 22 rfl rfl)
theorem dX5_goes_69 : decode cX5_goes 69 = .ok (.invokevirtual 56, 3) := dk_182 0 56 (dk_at dksX5_goes_3 0 rfl rfl)
theorem dX5_goes_72 : decode cX5_goes 72 = .ok (.ifCond .ne 6, 3) := dk_154 0 6 (dk_at dksX5_goes_3 3 rfl rfl)
theorem dX5_goes_75 : decode cX5_goes 75 = .ok (.goto 17, 3) := dk_167 0 17 (dk_at dksX5_goes_3 6 rfl rfl)
theorem dX5_goes_78 : decode cX5_goes 78 = .ok (.aload_n 0, 1) := dk_42 (dk_at dksX5_goes_3 9 rfl rfl)
theorem dX5_goes_79 : decode cX5_goes 79 = .ok (.getfield 15, 3) := dk_180 0 15 (dk_at dksX5_goes_3 10 rfl rfl)
theorem dX5_goes_82 : decode cX5_goes 82 = .ok (.iload_n 1, 1) := dk_27 (dk_at dksX5_goes_3 13 rfl rfl)
theorem dX5_goes_83 : decode cX5_goes 83 = .ok (.dup2, 1) := dk_92 (dk_at dksX5_goes_3 14 rfl rfl)
theorem dX5_goes_84 : decode cX5_goes 84 = .ok (.iaload, 1) := dk_46 (dk_at dksX5_goes_3 15 rfl rfl)
theorem dX5_goes_85 : decode cX5_goes 85 = .ok (.iconst 1, 1) := dk_4 (dk_at dksX5_goes_3 16 rfl rfl)
theorem dX5_goes_86 : decode cX5_goes 86 = .ok (.iload_n 2, 1) := dk_28 (dk_at dksX5_goes_3 17 rfl rfl)
theorem dX5_goes_87 : decode cX5_goes 87 = .ok (.ishl, 1) := dk_120 (dk_at dksX5_goes_3 18 rfl rfl)
theorem dX5_goes_88 : decode cX5_goes 88 = .ok (.ior, 1) := dk_128 (dk_at dksX5_goes_3 19 rfl rfl)
theorem dX5_goes_89 : decode cX5_goes 89 = .ok (.iastore, 1) := dk_79 (dk_at dksX5_goes_3 20 rfl rfl)
theorem dX5_goes_90 : decode cX5_goes 90 = .ok (.iconst 1, 1) := dk_4 (dk_at dksX5_goes_3 21 rfl rfl)
theorem dX5_goes_91 : decode cX5_goes 91 = .ok (.ireturn, 1) := dk_172 (dk_at dksX5_goes_3 22 rfl rfl)
theorem dX5_goes_92 : decode cX5_goes 92 = .ok (.iinc 2 1, 3) := dk_132 2 1 (dk_at dksX5_goes_4 0 rfl rfl)
theorem dX5_goes_95 : decode cX5_goes 95 = .ok (.goto (-93), 3) := dk_167 255 163 (dk_at dksX5_goes_4 3 rfl rfl)
theorem dX5_goes_98 : decode cX5_goes 98 = .ok (.iconst 0, 1) := dk_3 (dk_at dksX5_goes_4 6 rfl rfl)
theorem dX5_goes_99 : decode cX5_goes 99 = .ok (.ireturn, 1) := dk_172 (dk_at dksX5_goes_4 7 rfl rfl)
abbrev cX5_can : ByteArray := prog_3_method_3_code
def yX5_can : MethodName := ⟨RX5, "can", "(II)Z"⟩
def dkwX5_can_2 : List UInt8 := [42, 180, 0, 15, 28, 46, 27, 122, 4, 126, 154, 0, 7, 4, 167, 0, 4, 3, 172]
abbrev dktX5_can_2 : List UInt8 := dkwX5_can_2 ++ []
def dkwX5_can_1 : List UInt8 := [28, 182, 0, 37, 192, 0, 43, 180, 0, 45, 159, 0, 31, 42, 180, 0, 26, 27, 122, 4, 126, 154, 0, 20]
abbrev dktX5_can_1 : List UInt8 := dkwX5_can_1 ++ dktX5_can_2
def dkwX5_can_0 : List UInt8 := [42, 180, 0, 3, 180, 0, 33, 27, 182, 0, 37, 192, 0, 43, 180, 0, 45, 42, 180, 0, 3, 180, 0, 33]
abbrev dktX5_can_0 : List UInt8 := dkwX5_can_0 ++ dktX5_can_1
theorem dksX5_can_0 : cX5_can.data.toList.drop 0 = dktX5_can_0 := by decide +kernel
theorem dksX5_can_1 : cX5_can.data.toList.drop 24 = dktX5_can_1 := dk_seg dksX5_can_0 24 rfl rfl
theorem dksX5_can_2 : cX5_can.data.toList.drop 48 = dktX5_can_2 := dk_seg dksX5_can_1 24 rfl rfl
theorem dX5_can_0 : decode cX5_can 0 = .ok (.aload_n 0, 1) := dk_42 (dk_at dksX5_can_0 0 rfl rfl)
theorem dX5_can_1 : decode cX5_can 1 = .ok (.getfield 3, 3) := dk_180 0 3 (dk_at dksX5_can_0 1 rfl rfl)
theorem dX5_can_4 : decode cX5_can 4 = .ok (.getfield 33, 3) := dk_180 0 33 (dk_at dksX5_can_0 4 rfl rfl)
theorem dX5_can_7 : decode cX5_can 7 = .ok (.iload_n 1, 1) := dk_27 (dk_at dksX5_can_0 7 rfl rfl)
theorem dX5_can_8 : decode cX5_can 8 = .ok (.invokevirtual 37, 3) := dk_182 0 37 (dk_at dksX5_can_0 8 rfl rfl)
theorem dX5_can_11 : decode cX5_can 11 = .ok (.checkcast 43, 3) := dk_192 0 43 (dk_at dksX5_can_0 11 rfl rfl)
theorem dX5_can_14 : decode cX5_can 14 = .ok (.getfield 45, 3) := dk_180 0 45 (dk_at dksX5_can_0 14 rfl rfl)
theorem dX5_can_17 : decode cX5_can 17 = .ok (.aload_n 0, 1) := dk_42 (dk_at dksX5_can_0 17 rfl rfl)
theorem dX5_can_18 : decode cX5_can 18 = .ok (.getfield 3, 3) := dk_180 0 3 (dk_at dksX5_can_0 18 rfl rfl)
theorem dX5_can_21 : decode cX5_can 21 = .ok (.getfield 33, 3) := dk_180 0 33 (dk_at dksX5_can_0 21 rfl rfl)
theorem dX5_can_24 : decode cX5_can 24 = .ok (.iload_n 2, 1) := dk_28 (dk_at dksX5_can_1 0 rfl rfl)
theorem dX5_can_25 : decode cX5_can 25 = .ok (.invokevirtual 37, 3) := dk_182 0 37 (dk_at dksX5_can_1 1 rfl rfl)
theorem dX5_can_28 : decode cX5_can 28 = .ok (.checkcast 43, 3) := dk_192 0 43 (dk_at dksX5_can_1 4 rfl rfl)
theorem dX5_can_31 : decode cX5_can 31 = .ok (.getfield 45, 3) := dk_180 0 45 (dk_at dksX5_can_1 7 rfl rfl)
theorem dX5_can_34 : decode cX5_can 34 = .ok (.if_icmp .eq 31, 3) := dk_159 0 31 (dk_at dksX5_can_1 10 rfl rfl)
theorem dX5_can_37 : decode cX5_can 37 = .ok (.aload_n 0, 1) := dk_42 (dk_at dksX5_can_1 13 rfl rfl)
theorem dX5_can_38 : decode cX5_can 38 = .ok (.getfield 26, 3) := dk_180 0 26 (dk_at dksX5_can_1 14 rfl rfl)
theorem dX5_can_41 : decode cX5_can 41 = .ok (.iload_n 1, 1) := dk_27 (dk_at dksX5_can_1 17 rfl rfl)
theorem dX5_can_42 : decode cX5_can 42 = .ok (.ishr, 1) := dk_122 (dk_at dksX5_can_1 18 rfl rfl)
theorem dX5_can_43 : decode cX5_can 43 = .ok (.iconst 1, 1) := dk_4 (dk_at dksX5_can_1 19 rfl rfl)
theorem dX5_can_44 : decode cX5_can 44 = .ok (.iand, 1) := dk_126 (dk_at dksX5_can_1 20 rfl rfl)
theorem dX5_can_45 : decode cX5_can 45 = .ok (.ifCond .ne 20, 3) := dk_154 0 20 (dk_at dksX5_can_1 21 rfl rfl)
theorem dX5_can_48 : decode cX5_can 48 = .ok (.aload_n 0, 1) := dk_42 (dk_at dksX5_can_2 0 rfl rfl)
theorem dX5_can_49 : decode cX5_can 49 = .ok (.getfield 15, 3) := dk_180 0 15 (dk_at dksX5_can_2 1 rfl rfl)
theorem dX5_can_52 : decode cX5_can 52 = .ok (.iload_n 2, 1) := dk_28 (dk_at dksX5_can_2 4 rfl rfl)
theorem dX5_can_53 : decode cX5_can 53 = .ok (.iaload, 1) := dk_46 (dk_at dksX5_can_2 5 rfl rfl)
theorem dX5_can_54 : decode cX5_can 54 = .ok (.iload_n 1, 1) := dk_27 (dk_at dksX5_can_2 6 rfl rfl)
theorem dX5_can_55 : decode cX5_can 55 = .ok (.ishr, 1) := dk_122 (dk_at dksX5_can_2 7 rfl rfl)
theorem dX5_can_56 : decode cX5_can 56 = .ok (.iconst 1, 1) := dk_4 (dk_at dksX5_can_2 8 rfl rfl)
theorem dX5_can_57 : decode cX5_can 57 = .ok (.iand, 1) := dk_126 (dk_at dksX5_can_2 9 rfl rfl)
theorem dX5_can_58 : decode cX5_can 58 = .ok (.ifCond .ne 7, 3) := dk_154 0 7 (dk_at dksX5_can_2 10 rfl rfl)
theorem dX5_can_61 : decode cX5_can 61 = .ok (.iconst 1, 1) := dk_4 (dk_at dksX5_can_2 13 rfl rfl)
theorem dX5_can_62 : decode cX5_can 62 = .ok (.goto 4, 3) := dk_167 0 4 (dk_at dksX5_can_2 14 rfl rfl)
theorem dX5_can_65 : decode cX5_can 65 = .ok (.iconst 0, 1) := dk_3 (dk_at dksX5_can_2 17 rfl rfl)
theorem dX5_can_66 : decode cX5_can 66 = .ok (.ireturn, 1) := dk_172 (dk_at dksX5_can_2 18 rfl rfl)
abbrev cX5_passes : ByteArray := prog_3_method_5_code
def yX5_passes : MethodName := ⟨RX5, "passes", "(II)Z"⟩
def dkwX5_passes_2 : List UInt8 := [180, 0, 15, 29, 92, 46, 4, 27, 120, 2, 130, 126, 79, 4, 172, 132, 3, 1, 167, 255, 194, 3, 172]
abbrev dktX5_passes_2 : List UInt8 := dkwX5_passes_2 ++ []
def dkwX5_passes_1 : List UInt8 := [180, 0, 15, 29, 46, 27, 122, 4, 126, 153, 0, 30, 42, 29, 182, 0, 29, 154, 0, 6, 167, 0, 19, 42]
abbrev dktX5_passes_1 : List UInt8 := dkwX5_passes_1 ++ dktX5_passes_2
def dkwX5_passes_0 : List UInt8 := [3, 62, 29, 42, 180, 0, 3, 180, 0, 33, 182, 0, 48, 162, 0, 54, 29, 28, 159, 0, 43, 42]
abbrev dktX5_passes_0 : List UInt8 := dkwX5_passes_0 ++ dktX5_passes_1
theorem dksX5_passes_0 : cX5_passes.data.toList.drop 0 = dktX5_passes_0 := by decide +kernel
theorem dksX5_passes_1 : cX5_passes.data.toList.drop 22 = dktX5_passes_1 := dk_seg dksX5_passes_0 22 rfl rfl
theorem dksX5_passes_2 : cX5_passes.data.toList.drop 46 = dktX5_passes_2 := dk_seg dksX5_passes_1 24 rfl rfl
theorem dX5_passes_0 : decode cX5_passes 0 = .ok (.iconst 0, 1) := dk_3 (dk_at dksX5_passes_0 0 rfl rfl)
theorem dX5_passes_1 : decode cX5_passes 1 = .ok (.istore_n 3, 1) := dk_62 (dk_at dksX5_passes_0 1 rfl rfl)
theorem dX5_passes_2 : decode cX5_passes 2 = .ok (.iload_n 3, 1) := dk_29 (dk_at dksX5_passes_0 2 rfl rfl)
theorem dX5_passes_3 : decode cX5_passes 3 = .ok (.aload_n 0, 1) := dk_42 (dk_at dksX5_passes_0 3 rfl rfl)
theorem dX5_passes_4 : decode cX5_passes 4 = .ok (.getfield 3, 3) := dk_180 0 3 (dk_at dksX5_passes_0 4 rfl rfl)
theorem dX5_passes_7 : decode cX5_passes 7 = .ok (.getfield 33, 3) := dk_180 0 33 (dk_at dksX5_passes_0 7 rfl rfl)
theorem dX5_passes_10 : decode cX5_passes 10 = .ok (.invokevirtual 48, 3) := dk_182 0 48 (dk_at dksX5_passes_0 10 rfl rfl)
theorem dX5_passes_13 : decode cX5_passes 13 = .ok (.if_icmp .ge 54, 3) := dk_162 0 54 (dk_at dksX5_passes_0 13 rfl rfl)
theorem dX5_passes_16 : decode cX5_passes 16 = .ok (.iload_n 3, 1) := dk_29 (dk_at dksX5_passes_0 16 rfl rfl)
theorem dX5_passes_17 : decode cX5_passes 17 = .ok (.iload_n 2, 1) := dk_28 (dk_at dksX5_passes_0 17 rfl rfl)
theorem dX5_passes_18 : decode cX5_passes 18 = .ok (.if_icmp .eq 43, 3) := dk_159 0 43 (dk_at dksX5_passes_0 18 rfl rfl)
theorem dX5_passes_21 : decode cX5_passes 21 = .ok (.aload_n 0, 1) := dk_42 (dk_at dksX5_passes_0 21 rfl rfl)
theorem dX5_passes_22 : decode cX5_passes 22 = .ok (.getfield 15, 3) := dk_180 0 15 (dk_at dksX5_passes_1 0 rfl rfl)
theorem dX5_passes_25 : decode cX5_passes 25 = .ok (.iload_n 3, 1) := dk_29 (dk_at dksX5_passes_1 3 rfl rfl)
theorem dX5_passes_26 : decode cX5_passes 26 = .ok (.iaload, 1) := dk_46 (dk_at dksX5_passes_1 4 rfl rfl)
theorem dX5_passes_27 : decode cX5_passes 27 = .ok (.iload_n 1, 1) := dk_27 (dk_at dksX5_passes_1 5 rfl rfl)
theorem dX5_passes_28 : decode cX5_passes 28 = .ok (.ishr, 1) := dk_122 (dk_at dksX5_passes_1 6 rfl rfl)
theorem dX5_passes_29 : decode cX5_passes 29 = .ok (.iconst 1, 1) := dk_4 (dk_at dksX5_passes_1 7 rfl rfl)
theorem dX5_passes_30 : decode cX5_passes 30 = .ok (.iand, 1) := dk_126 (dk_at dksX5_passes_1 8 rfl rfl)
theorem dX5_passes_31 : decode cX5_passes 31 = .ok (.ifCond .eq 30, 3) := dk_153 0 30 (dk_at dksX5_passes_1 9 rfl rfl)
theorem dX5_passes_34 : decode cX5_passes 34 = .ok (.aload_n 0, 1) := dk_42 (dk_at dksX5_passes_1 12 rfl rfl)
theorem dX5_passes_35 : decode cX5_passes 35 = .ok (.iload_n 3, 1) := dk_29 (dk_at dksX5_passes_1 13 rfl rfl)
theorem dX5_passes_36 : decode cX5_passes 36 = .ok (.invokevirtual 29, 3) := dk_182 0 29 (dk_at dksX5_passes_1 14 rfl rfl)
theorem dX5_passes_39 : decode cX5_passes 39 = .ok (.ifCond .ne 6, 3) := dk_154 0 6 (dk_at dksX5_passes_1 17 rfl rfl)
theorem dX5_passes_42 : decode cX5_passes 42 = .ok (.goto 19, 3) := dk_167 0 19 (dk_at dksX5_passes_1 20 rfl rfl)
theorem dX5_passes_45 : decode cX5_passes 45 = .ok (.aload_n 0, 1) := dk_42 (dk_at dksX5_passes_1 23 rfl rfl)
theorem dX5_passes_46 : decode cX5_passes 46 = .ok (.getfield 15, 3) := dk_180 0 15 (dk_at dksX5_passes_2 0 rfl rfl)
theorem dX5_passes_49 : decode cX5_passes 49 = .ok (.iload_n 3, 1) := dk_29 (dk_at dksX5_passes_2 3 rfl rfl)
theorem dX5_passes_50 : decode cX5_passes 50 = .ok (.dup2, 1) := dk_92 (dk_at dksX5_passes_2 4 rfl rfl)
theorem dX5_passes_51 : decode cX5_passes 51 = .ok (.iaload, 1) := dk_46 (dk_at dksX5_passes_2 5 rfl rfl)
theorem dX5_passes_52 : decode cX5_passes 52 = .ok (.iconst 1, 1) := dk_4 (dk_at dksX5_passes_2 6 rfl rfl)
theorem dX5_passes_53 : decode cX5_passes 53 = .ok (.iload_n 1, 1) := dk_27 (dk_at dksX5_passes_2 7 rfl rfl)
theorem dX5_passes_54 : decode cX5_passes 54 = .ok (.ishl, 1) := dk_120 (dk_at dksX5_passes_2 8 rfl rfl)
theorem dX5_passes_55 : decode cX5_passes 55 = .ok (.iconst (-1), 1) := dk_2 (dk_at dksX5_passes_2 9 rfl rfl)
theorem dX5_passes_56 : decode cX5_passes 56 = .ok (.ixor, 1) := dk_130 (dk_at dksX5_passes_2 10 rfl rfl)
theorem dX5_passes_57 : decode cX5_passes 57 = .ok (.iand, 1) := dk_126 (dk_at dksX5_passes_2 11 rfl rfl)
theorem dX5_passes_58 : decode cX5_passes 58 = .ok (.iastore, 1) := dk_79 (dk_at dksX5_passes_2 12 rfl rfl)
theorem dX5_passes_59 : decode cX5_passes 59 = .ok (.iconst 1, 1) := dk_4 (dk_at dksX5_passes_2 13 rfl rfl)
theorem dX5_passes_60 : decode cX5_passes 60 = .ok (.ireturn, 1) := dk_172 (dk_at dksX5_passes_2 14 rfl rfl)
theorem dX5_passes_61 : decode cX5_passes 61 = .ok (.iinc 3 1, 3) := dk_132 3 1 (dk_at dksX5_passes_2 15 rfl rfl)
theorem dX5_passes_64 : decode cX5_passes 64 = .ok (.goto (-62), 3) := dk_167 255 194 (dk_at dksX5_passes_2 18 rfl rfl)
theorem dX5_passes_67 : decode cX5_passes 67 = .ok (.iconst 0, 1) := dk_3 (dk_at dksX5_passes_2 21 rfl rfl)
theorem dX5_passes_68 : decode cX5_passes 68 = .ok (.ireturn, 1) := dk_172 (dk_at dksX5_passes_2 22 rfl rfl)
theorem q73 : (Jvm.Cond.initialized "Peerpanel$Flow") ∈ lw_all := lw_g (lw_at lw_m1 28 rfl) rfl
theorem q121 : (Jvm.Cond.fieldLinkNest "Peerpanel$Flow" (33 : Nat) "Peerpanel" "people" "Ljava/util/ArrayList;" "Peerpanel") ∈ lw_tbl := lw_at lw_m1 76 rfl
theorem q506 : (Jvm.Cond.fieldLinkNest "Peerpanel$Flow" (45 : Nat) "Peerpanel$Person" "group" "I" "Peerpanel") ∈ lw_tbl := lw_at lw_m2 221 rfl
theorem q567 : (Jvm.Cond.selects "Peerpanel$Flow" ({ cls := "java/lang/Object", name := "getClass", desc := "()Ljava/lang/Class;" } : Jvm.MethodName) ({ cls := "java/lang/Object", name := "getClass", desc := "()Ljava/lang/Class;" } : Jvm.MethodName)) ∈ lw_all := lw_g (lw_at lw_m3 42 rfl) rfl
theorem q804 : (Jvm.Cond.instantiable "Peerpanel$Flow" (5 : Nat)) ∈ lw_all := lw_g (lw_at lw_m4 39 rfl) rfl
theorem q806 : (Jvm.Cond.instanceMethod ({ cls := "Peerpanel$Flow", name := "<init>", desc := "(LPeerpanel;I)V" } : Jvm.MethodName)) ∈ lw_all := lw_g (lw_at lw_m4 41 rfl) rfl
theorem q807 : (Jvm.Cond.code ({ cls := "Peerpanel$Flow", name := "<init>", desc := "(LPeerpanel;I)V" } : Jvm.MethodName) prog_3_method_1_code (3 : Nat) (Option.none : Option Jvm.ClassFile.FieldType)) ∈ lw_all := lw_g (lw_at lw_m4 42 rfl) rfl
theorem q808 : (Jvm.Cond.methodLink "Peerpanel$Flow" (9 : Nat) ({ cls := "java/lang/Object", name := "<init>", desc := "()V" } : Jvm.MethodName)) ∈ lw_all := lw_g (lw_at lw_m4 43 rfl) rfl
theorem q809 : (Jvm.Cond.fieldLink "Peerpanel$Flow" (22 : Nat) "Peerpanel$Flow" "limit" "I") ∈ lw_all := lw_g (lw_at lw_m4 44 rfl) rfl
theorem q810 : (Jvm.Cond.fieldLink "Peerpanel$Flow" (15 : Nat) "Peerpanel$Flow" "pairs" "[I") ∈ lw_all := lw_g (lw_at lw_m4 45 rfl) rfl
theorem q811 : (Jvm.Cond.fieldLink "Peerpanel$Flow" (19 : Nat) "Peerpanel$Flow" "loads" "[I") ∈ lw_all := lw_g (lw_at lw_m4 46 rfl) rfl
theorem q812 : (Jvm.Cond.fieldLink "Peerpanel$Flow" (26 : Nat) "Peerpanel$Flow" "seen" "I") ∈ lw_all := lw_g (lw_at lw_m4 47 rfl) rfl
theorem q813 : (Jvm.Cond.fieldLink "Peerpanel$Flow" (3 : Nat) "Peerpanel$Flow" "this$0" "LPeerpanel;") ∈ lw_all := lw_g (lw_at lw_m4 48 rfl) rfl
theorem q814 : (Jvm.Cond.laysFinal "Peerpanel$Flow" "Peerpanel$Flow" "limit" "I") ∈ lw_all := lw_g (lw_at lw_m4 49 rfl) rfl
theorem q815 : (Jvm.Cond.soleField "Peerpanel$Flow" "limit") ∈ lw_all := lw_g (lw_at lw_m4 50 rfl) rfl
theorem q816 : (Jvm.Cond.laysFinal "Peerpanel$Flow" "Peerpanel$Flow" "pairs" "[I") ∈ lw_all := lw_g (lw_at lw_m4 51 rfl) rfl
theorem q817 : (Jvm.Cond.soleField "Peerpanel$Flow" "pairs") ∈ lw_all := lw_g (lw_at lw_m4 52 rfl) rfl
theorem q818 : (Jvm.Cond.laysFinal "Peerpanel$Flow" "Peerpanel$Flow" "loads" "[I") ∈ lw_all := lw_g (lw_at lw_m4 53 rfl) rfl
theorem q819 : (Jvm.Cond.soleField "Peerpanel$Flow" "loads") ∈ lw_all := lw_g (lw_at lw_m4 54 rfl) rfl
theorem q820 : (Jvm.Cond.lays "Peerpanel$Flow" "Peerpanel$Flow" "seen" "I") ∈ lw_all := lw_g (lw_at lw_m4 55 rfl) rfl
theorem q821 : (Jvm.Cond.soleField "Peerpanel$Flow" "seen") ∈ lw_all := lw_g (lw_at lw_m4 56 rfl) rfl
theorem q822 : (Jvm.Cond.laysFinal "Peerpanel$Flow" "Peerpanel$Flow" "this$0" "LPeerpanel;") ∈ lw_all := lw_g (lw_at lw_m4 57 rfl) rfl
theorem q823 : (Jvm.Cond.soleField "Peerpanel$Flow" "this$0") ∈ lw_all := lw_g (lw_at lw_m4 58 rfl) rfl
theorem q824 : (Jvm.Cond.superclass "Peerpanel$Flow" "java/lang/Object") ∈ lw_all := lw_g (lw_at lw_m4 59 rfl) rfl
theorem q826 : (Jvm.Cond.instanceMethod ({ cls := "Peerpanel$Flow", name := "give", desc := "(I)Z" } : Jvm.MethodName)) ∈ lw_all := lw_g (lw_at lw_m4 61 rfl) rfl
theorem q827 : (Jvm.Cond.selects "Peerpanel$Flow" ({ cls := "Peerpanel$Flow", name := "give", desc := "(I)Z" } : Jvm.MethodName) ({ cls := "Peerpanel$Flow", name := "give", desc := "(I)Z" } : Jvm.MethodName)) ∈ lw_all := lw_g (lw_at lw_m4 62 rfl) rfl
theorem q828 : (Jvm.Cond.code ({ cls := "Peerpanel$Flow", name := "give", desc := "(I)Z" } : Jvm.MethodName) prog_3_method_2_code (2 : Nat) (Option.some Jvm.ClassFile.FieldType.boolean)) ∈ lw_all := lw_g (lw_at lw_m4 63 rfl) rfl
theorem q829 : (Jvm.Cond.methodLink "Peerpanel$Flow" (29 : Nat) ({ cls := "Peerpanel$Flow", name := "goes", desc := "(I)Z" } : Jvm.MethodName)) ∈ lw_all := lw_g (lw_at lw_m4 64 rfl) rfl
theorem q830 : (Jvm.Cond.privateMethod ({ cls := "Peerpanel$Flow", name := "goes", desc := "(I)Z" } : Jvm.MethodName)) ∈ lw_tbl := lw_at lw_m4 65 rfl
theorem q831 : (Jvm.Cond.instanceMethod ({ cls := "Peerpanel$Flow", name := "goes", desc := "(I)Z" } : Jvm.MethodName)) ∈ lw_all := lw_g (lw_at lw_m4 66 rfl) rfl
theorem q832 : (Jvm.Cond.code ({ cls := "Peerpanel$Flow", name := "goes", desc := "(I)Z" } : Jvm.MethodName) prog_3_method_4_code (3 : Nat) (Option.some Jvm.ClassFile.FieldType.boolean)) ∈ lw_all := lw_g (lw_at lw_m4 67 rfl) rfl
theorem q833 : (Jvm.Cond.methodLink "Peerpanel$Flow" (48 : Nat) ({ cls := "java/util/ArrayList", name := "size", desc := "()I" } : Jvm.MethodName)) ∈ lw_all := lw_g (lw_at lw_m4 68 rfl) rfl
theorem q834 : (Jvm.Cond.methodLink "Peerpanel$Flow" (52 : Nat) ({ cls := "Peerpanel$Flow", name := "can", desc := "(II)Z" } : Jvm.MethodName)) ∈ lw_all := lw_g (lw_at lw_m4 69 rfl) rfl
theorem q835 : (Jvm.Cond.privateMethod ({ cls := "Peerpanel$Flow", name := "can", desc := "(II)Z" } : Jvm.MethodName)) ∈ lw_tbl := lw_at lw_m4 70 rfl
theorem q836 : (Jvm.Cond.instanceMethod ({ cls := "Peerpanel$Flow", name := "can", desc := "(II)Z" } : Jvm.MethodName)) ∈ lw_all := lw_g (lw_at lw_m4 71 rfl) rfl
theorem q837 : (Jvm.Cond.code ({ cls := "Peerpanel$Flow", name := "can", desc := "(II)Z" } : Jvm.MethodName) prog_3_method_3_code (3 : Nat) (Option.some Jvm.ClassFile.FieldType.boolean)) ∈ lw_all := lw_g (lw_at lw_m4 72 rfl) rfl
theorem q838 : (Jvm.Cond.methodLink "Peerpanel$Flow" (37 : Nat) ({ cls := "java/util/ArrayList", name := "get", desc := "(I)Ljava/lang/Object;" } : Jvm.MethodName)) ∈ lw_all := lw_g (lw_at lw_m4 73 rfl) rfl
theorem q839 : (Jvm.Cond.classLink "Peerpanel$Flow" (43 : Nat) "Peerpanel$Person") ∈ lw_all := lw_g (lw_at lw_m4 74 rfl) rfl
theorem q840 : (Jvm.Cond.methodLink "Peerpanel$Flow" (56 : Nat) ({ cls := "Peerpanel$Flow", name := "passes", desc := "(II)Z" } : Jvm.MethodName)) ∈ lw_all := lw_g (lw_at lw_m4 75 rfl) rfl
theorem q841 : (Jvm.Cond.privateMethod ({ cls := "Peerpanel$Flow", name := "passes", desc := "(II)Z" } : Jvm.MethodName)) ∈ lw_tbl := lw_at lw_m4 76 rfl
theorem q842 : (Jvm.Cond.instanceMethod ({ cls := "Peerpanel$Flow", name := "passes", desc := "(II)Z" } : Jvm.MethodName)) ∈ lw_all := lw_g (lw_at lw_m4 77 rfl) rfl
theorem q843 : (Jvm.Cond.code ({ cls := "Peerpanel$Flow", name := "passes", desc := "(II)Z" } : Jvm.MethodName) prog_3_method_5_code (4 : Nat) (Option.some Jvm.ClassFile.FieldType.boolean)) ∈ lw_all := lw_g (lw_at lw_m4 78 rfl) rfl
theorem q1441 : (Jvm.Cond.castable "Peerpanel$Flow" "java/lang/Object") ∈ lw_tbl := lw_at lw_m6 196 rfl
theorem in_X5 : ∀ w ∈ wsX50, w ∈ lw_all := lw_in wsX50 [814, 816, 818, 820, 822] (by decide +kernel) (by decide +kernel)
/-! Peerpanel$Review -/
set_option maxRecDepth 100000
def RX6 : String := "Peerpanel$Review"
def TX6 : u_T := fun k => match k with
  | 0 => ("Peerpanel$Review", "reader", "LPeerpanel$Person;", true)
  | 1 => ("Peerpanel$Review", "mark", "I", true)
  | 2 => ("Peerpanel$Review", "day", "I", true)
  | 3 => ("Peerpanel$Review", "isAppeal", "Z", true)
  | _ => ("Peerpanel$Review", "this$0", "LPeerpanel;", true)
def tyX6 : Nat → FieldType := fun k => match k with
  | 0 => .object "Peerpanel$Person"
  | 1 => .int
  | 2 => .int
  | 3 => .boolean
  | _ => .object "Peerpanel"
abbrev wsX60 : List Cond := u_ws RX6 TX6 5
theorem nmX6 : ∀ a, a < 5 → ∀ b, b < 5 → a ≠ b → (TX6 a).2.1 ≠ (TX6 b).2.1 := by decide +kernel
theorem tyX6_ok : ∀ k, k < 5 → parseFieldDescriptor (TX6 k).2.2.1 = some (tyX6 k) := by decide +kernel
abbrev cX6_compareTo : ByteArray := prog_5_method_4_code
def yX6_compareTo : MethodName := ⟨RX6, "compareTo", "(LPeerpanel$Review;)I"⟩
def dkwX6_compareTo_0 : List UInt8 := [42, 180, 0, 17, 43, 180, 0, 17, 184, 0, 42, 172]
abbrev dktX6_compareTo_0 : List UInt8 := dkwX6_compareTo_0 ++ []
theorem dksX6_compareTo_0 : cX6_compareTo.data.toList.drop 0 = dktX6_compareTo_0 := by decide +kernel
theorem dX6_compareTo_0 : decode cX6_compareTo 0 = .ok (.aload_n 0, 1) := dk_42 (dk_at dksX6_compareTo_0 0 rfl rfl)
theorem dX6_compareTo_1 : decode cX6_compareTo 1 = .ok (.getfield 17, 3) := dk_180 0 17 (dk_at dksX6_compareTo_0 1 rfl rfl)
theorem dX6_compareTo_4 : decode cX6_compareTo 4 = .ok (.aload_n 1, 1) := dk_43 (dk_at dksX6_compareTo_0 4 rfl rfl)
theorem dX6_compareTo_5 : decode cX6_compareTo 5 = .ok (.getfield 17, 3) := dk_180 0 17 (dk_at dksX6_compareTo_0 5 rfl rfl)
theorem dX6_compareTo_8 : decode cX6_compareTo 8 = .ok (.invokestatic 42, 3) := dk_184 0 42 (dk_at dksX6_compareTo_0 8 rfl rfl)
theorem dX6_compareTo_11 : decode cX6_compareTo 11 = .ok (.ireturn, 1) := dk_172 (dk_at dksX6_compareTo_0 11 rfl rfl)
abbrev cX6_counts : ByteArray := prog_5_method_3_code
def yX6_counts : MethodName := ⟨RX6, "counts", "()I"⟩
def dkwX6_counts_1 : List UInt8 := [153, 0, 7, 5, 167, 0, 4, 4, 104, 172]
abbrev dktX6_counts_1 : List UInt8 := dkwX6_counts_1 ++ []
def dkwX6_counts_0 : List UInt8 := [42, 180, 0, 13, 180, 0, 33, 42, 182, 0, 38, 153, 0, 7, 4, 167, 0, 4, 5, 104, 42, 180, 0, 24]
abbrev dktX6_counts_0 : List UInt8 := dkwX6_counts_0 ++ dktX6_counts_1
theorem dksX6_counts_0 : cX6_counts.data.toList.drop 0 = dktX6_counts_0 := by decide +kernel
theorem dksX6_counts_1 : cX6_counts.data.toList.drop 24 = dktX6_counts_1 := dk_seg dksX6_counts_0 24 rfl rfl
theorem dX6_counts_0 : decode cX6_counts 0 = .ok (.aload_n 0, 1) := dk_42 (dk_at dksX6_counts_0 0 rfl rfl)
theorem dX6_counts_1 : decode cX6_counts 1 = .ok (.getfield 13, 3) := dk_180 0 13 (dk_at dksX6_counts_0 1 rfl rfl)
theorem dX6_counts_4 : decode cX6_counts 4 = .ok (.getfield 33, 3) := dk_180 0 33 (dk_at dksX6_counts_0 4 rfl rfl)
theorem dX6_counts_7 : decode cX6_counts 7 = .ok (.aload_n 0, 1) := dk_42 (dk_at dksX6_counts_0 7 rfl rfl)
theorem dX6_counts_8 : decode cX6_counts 8 = .ok (.invokevirtual 38, 3) := dk_182 0 38 (dk_at dksX6_counts_0 8 rfl rfl)
theorem dX6_counts_11 : decode cX6_counts 11 = .ok (.ifCond .eq 7, 3) := dk_153 0 7 (dk_at dksX6_counts_0 11 rfl rfl)
theorem dX6_counts_14 : decode cX6_counts 14 = .ok (.iconst 1, 1) := dk_4 (dk_at dksX6_counts_0 14 rfl rfl)
theorem dX6_counts_15 : decode cX6_counts 15 = .ok (.goto 4, 3) := dk_167 0 4 (dk_at dksX6_counts_0 15 rfl rfl)
theorem dX6_counts_18 : decode cX6_counts 18 = .ok (.iconst 2, 1) := dk_5 (dk_at dksX6_counts_0 18 rfl rfl)
theorem dX6_counts_19 : decode cX6_counts 19 = .ok (.imul, 1) := dk_104 (dk_at dksX6_counts_0 19 rfl rfl)
theorem dX6_counts_20 : decode cX6_counts 20 = .ok (.aload_n 0, 1) := dk_42 (dk_at dksX6_counts_0 20 rfl rfl)
theorem dX6_counts_21 : decode cX6_counts 21 = .ok (.getfield 24, 3) := dk_180 0 24 (dk_at dksX6_counts_0 21 rfl rfl)
theorem dX6_counts_24 : decode cX6_counts 24 = .ok (.ifCond .eq 7, 3) := dk_153 0 7 (dk_at dksX6_counts_1 0 rfl rfl)
theorem dX6_counts_27 : decode cX6_counts 27 = .ok (.iconst 2, 1) := dk_5 (dk_at dksX6_counts_1 3 rfl rfl)
theorem dX6_counts_28 : decode cX6_counts 28 = .ok (.goto 4, 3) := dk_167 0 4 (dk_at dksX6_counts_1 4 rfl rfl)
theorem dX6_counts_31 : decode cX6_counts 31 = .ok (.iconst 1, 1) := dk_4 (dk_at dksX6_counts_1 7 rfl rfl)
theorem dX6_counts_32 : decode cX6_counts 32 = .ok (.imul, 1) := dk_104 (dk_at dksX6_counts_1 8 rfl rfl)
theorem dX6_counts_33 : decode cX6_counts 33 = .ok (.ireturn, 1) := dk_172 (dk_at dksX6_counts_1 9 rfl rfl)
abbrev cX6_isLate : ByteArray := prog_5_method_2_code
def yX6_isLate : MethodName := ⟨RX6, "isLate", "()Z"⟩
def dkwX6_isLate_0 : List UInt8 := [42, 180, 0, 21, 42, 180, 0, 1, 180, 0, 28, 164, 0, 7, 4, 167, 0, 4, 3, 172]
abbrev dktX6_isLate_0 : List UInt8 := dkwX6_isLate_0 ++ []
theorem dksX6_isLate_0 : cX6_isLate.data.toList.drop 0 = dktX6_isLate_0 := by decide +kernel
theorem dX6_isLate_0 : decode cX6_isLate 0 = .ok (.aload_n 0, 1) := dk_42 (dk_at dksX6_isLate_0 0 rfl rfl)
theorem dX6_isLate_1 : decode cX6_isLate 1 = .ok (.getfield 21, 3) := dk_180 0 21 (dk_at dksX6_isLate_0 1 rfl rfl)
theorem dX6_isLate_4 : decode cX6_isLate 4 = .ok (.aload_n 0, 1) := dk_42 (dk_at dksX6_isLate_0 4 rfl rfl)
theorem dX6_isLate_5 : decode cX6_isLate 5 = .ok (.getfield 1, 3) := dk_180 0 1 (dk_at dksX6_isLate_0 5 rfl rfl)
theorem dX6_isLate_8 : decode cX6_isLate 8 = .ok (.getfield 28, 3) := dk_180 0 28 (dk_at dksX6_isLate_0 8 rfl rfl)
theorem dX6_isLate_11 : decode cX6_isLate 11 = .ok (.if_icmp .le 7, 3) := dk_164 0 7 (dk_at dksX6_isLate_0 11 rfl rfl)
theorem dX6_isLate_14 : decode cX6_isLate 14 = .ok (.iconst 1, 1) := dk_4 (dk_at dksX6_isLate_0 14 rfl rfl)
theorem dX6_isLate_15 : decode cX6_isLate 15 = .ok (.goto 4, 3) := dk_167 0 4 (dk_at dksX6_isLate_0 15 rfl rfl)
theorem dX6_isLate_18 : decode cX6_isLate 18 = .ok (.iconst 0, 1) := dk_3 (dk_at dksX6_isLate_0 18 rfl rfl)
theorem dX6_isLate_19 : decode cX6_isLate 19 = .ok (.ireturn, 1) := dk_172 (dk_at dksX6_isLate_0 19 rfl rfl)
abbrev cX6_compareTo_2 : ByteArray := prog_5_method_5_code
def yX6_compareTo_2 : MethodName := ⟨RX6, "compareTo", "(Ljava/lang/Object;)I"⟩
def dkwX6_compareTo_2_0 : List UInt8 := [42, 43, 192, 0, 2, 182, 0, 48, 172]
abbrev dktX6_compareTo_2_0 : List UInt8 := dkwX6_compareTo_2_0 ++ []
theorem dksX6_compareTo_2_0 : cX6_compareTo_2.data.toList.drop 0 = dktX6_compareTo_2_0 := by decide +kernel
theorem dX6_compareTo_2_0 : decode cX6_compareTo_2 0 = .ok (.aload_n 0, 1) := dk_42 (dk_at dksX6_compareTo_2_0 0 rfl rfl)
theorem dX6_compareTo_2_1 : decode cX6_compareTo_2 1 = .ok (.aload_n 1, 1) := dk_43 (dk_at dksX6_compareTo_2_0 1 rfl rfl)
theorem dX6_compareTo_2_2 : decode cX6_compareTo_2 2 = .ok (.checkcast 2, 3) := dk_192 0 2 (dk_at dksX6_compareTo_2_0 2 rfl rfl)
theorem dX6_compareTo_2_5 : decode cX6_compareTo_2 5 = .ok (.invokevirtual 48, 3) := dk_182 0 48 (dk_at dksX6_compareTo_2_0 5 rfl rfl)
theorem dX6_compareTo_2_8 : decode cX6_compareTo_2 8 = .ok (.ireturn, 1) := dk_172 (dk_at dksX6_compareTo_2_0 8 rfl rfl)
abbrev cX6_init : ByteArray := prog_5_method_1_code
def yX6_init : MethodName := ⟨RX6, "<init>", "(LPeerpanel;LPeerpanel$Person;IIZ)V"⟩
def dkwX6_init_1 : List UInt8 := [181, 0, 21, 42, 21, 5, 181, 0, 24, 177]
abbrev dktX6_init_1 : List UInt8 := dkwX6_init_1 ++ []
def dkwX6_init_0 : List UInt8 := [42, 43, 181, 0, 1, 42, 183, 0, 7, 42, 44, 181, 0, 13, 42, 29, 181, 0, 17, 42, 21, 4]
abbrev dktX6_init_0 : List UInt8 := dkwX6_init_0 ++ dktX6_init_1
theorem dksX6_init_0 : cX6_init.data.toList.drop 0 = dktX6_init_0 := by decide +kernel
theorem dksX6_init_1 : cX6_init.data.toList.drop 22 = dktX6_init_1 := dk_seg dksX6_init_0 22 rfl rfl
theorem dX6_init_0 : decode cX6_init 0 = .ok (.aload_n 0, 1) := dk_42 (dk_at dksX6_init_0 0 rfl rfl)
theorem dX6_init_1 : decode cX6_init 1 = .ok (.aload_n 1, 1) := dk_43 (dk_at dksX6_init_0 1 rfl rfl)
theorem dX6_init_2 : decode cX6_init 2 = .ok (.putfield 1, 3) := dk_181 0 1 (dk_at dksX6_init_0 2 rfl rfl)
theorem dX6_init_5 : decode cX6_init 5 = .ok (.aload_n 0, 1) := dk_42 (dk_at dksX6_init_0 5 rfl rfl)
theorem dX6_init_6 : decode cX6_init 6 = .ok (.invokespecial 7, 3) := dk_183 0 7 (dk_at dksX6_init_0 6 rfl rfl)
theorem dX6_init_9 : decode cX6_init 9 = .ok (.aload_n 0, 1) := dk_42 (dk_at dksX6_init_0 9 rfl rfl)
theorem dX6_init_10 : decode cX6_init 10 = .ok (.aload_n 2, 1) := dk_44 (dk_at dksX6_init_0 10 rfl rfl)
theorem dX6_init_11 : decode cX6_init 11 = .ok (.putfield 13, 3) := dk_181 0 13 (dk_at dksX6_init_0 11 rfl rfl)
theorem dX6_init_14 : decode cX6_init 14 = .ok (.aload_n 0, 1) := dk_42 (dk_at dksX6_init_0 14 rfl rfl)
theorem dX6_init_15 : decode cX6_init 15 = .ok (.iload_n 3, 1) := dk_29 (dk_at dksX6_init_0 15 rfl rfl)
theorem dX6_init_16 : decode cX6_init 16 = .ok (.putfield 17, 3) := dk_181 0 17 (dk_at dksX6_init_0 16 rfl rfl)
theorem dX6_init_19 : decode cX6_init 19 = .ok (.aload_n 0, 1) := dk_42 (dk_at dksX6_init_0 19 rfl rfl)
theorem dX6_init_20 : decode cX6_init 20 = .ok (.iload 4, 2) := dk_21 4 (dk_at dksX6_init_0 20 rfl rfl)
theorem dX6_init_22 : decode cX6_init 22 = .ok (.putfield 21, 3) := dk_181 0 21 (dk_at dksX6_init_1 0 rfl rfl)
theorem dX6_init_25 : decode cX6_init 25 = .ok (.aload_n 0, 1) := dk_42 (dk_at dksX6_init_1 3 rfl rfl)
theorem dX6_init_26 : decode cX6_init 26 = .ok (.iload 5, 2) := dk_21 5 (dk_at dksX6_init_1 4 rfl rfl)
theorem dX6_init_28 : decode cX6_init 28 = .ok (.putfield 24, 3) := dk_181 0 24 (dk_at dksX6_init_1 6 rfl rfl)
theorem dX6_init_31 : decode cX6_init 31 = .ok (.return_, 1) := dk_177 (dk_at dksX6_init_1 9 rfl rfl)
theorem q78 : (Jvm.Cond.initialized "Peerpanel$Review") ∈ lw_all := lw_g (lw_at lw_m1 33 rfl) rfl
theorem q124 : (Jvm.Cond.fieldLinkNest "Peerpanel$Review" (28 : Nat) "Peerpanel" "due" "I" "Peerpanel") ∈ lw_tbl := lw_at lw_m1 79 rfl
theorem q418 : (Jvm.Cond.instanceMethod ({ cls := "Peerpanel$Review", name := "compareTo", desc := "(LPeerpanel$Review;)I" } : Jvm.MethodName)) ∈ lw_all := lw_g (lw_at lw_m2 133 rfl) rfl
theorem q419 : (Jvm.Cond.selects "Peerpanel$Review" ({ cls := "Peerpanel$Review", name := "compareTo", desc := "(LPeerpanel$Review;)I" } : Jvm.MethodName) ({ cls := "Peerpanel$Review", name := "compareTo", desc := "(LPeerpanel$Review;)I" } : Jvm.MethodName)) ∈ lw_all := lw_g (lw_at lw_m2 134 rfl) rfl
theorem q420 : (Jvm.Cond.code ({ cls := "Peerpanel$Review", name := "compareTo", desc := "(LPeerpanel$Review;)I" } : Jvm.MethodName) prog_5_method_4_code (2 : Nat) (Option.some Jvm.ClassFile.FieldType.int)) ∈ lw_all := lw_g (lw_at lw_m2 135 rfl) rfl
theorem q421 : (Jvm.Cond.methodLink "Peerpanel$Review" (42 : Nat) ({ cls := "java/lang/Integer", name := "compare", desc := "(II)I" } : Jvm.MethodName)) ∈ lw_all := lw_g (lw_at lw_m2 136 rfl) rfl
theorem q425 : (Jvm.Cond.instanceMethod ({ cls := "Peerpanel$Review", name := "counts", desc := "()I" } : Jvm.MethodName)) ∈ lw_all := lw_g (lw_at lw_m2 140 rfl) rfl
theorem q426 : (Jvm.Cond.selects "Peerpanel$Review" ({ cls := "Peerpanel$Review", name := "counts", desc := "()I" } : Jvm.MethodName) ({ cls := "Peerpanel$Review", name := "counts", desc := "()I" } : Jvm.MethodName)) ∈ lw_all := lw_g (lw_at lw_m2 141 rfl) rfl
theorem q427 : (Jvm.Cond.code ({ cls := "Peerpanel$Review", name := "counts", desc := "()I" } : Jvm.MethodName) prog_5_method_3_code (1 : Nat) (Option.some Jvm.ClassFile.FieldType.int)) ∈ lw_all := lw_g (lw_at lw_m2 142 rfl) rfl
theorem q428 : (Jvm.Cond.methodLink "Peerpanel$Review" (38 : Nat) ({ cls := "Peerpanel$Review", name := "isLate", desc := "()Z" } : Jvm.MethodName)) ∈ lw_all := lw_g (lw_at lw_m2 143 rfl) rfl
theorem q429 : (Jvm.Cond.instanceMethod ({ cls := "Peerpanel$Review", name := "isLate", desc := "()Z" } : Jvm.MethodName)) ∈ lw_all := lw_g (lw_at lw_m2 144 rfl) rfl
theorem q430 : (Jvm.Cond.selects "Peerpanel$Review" ({ cls := "Peerpanel$Review", name := "isLate", desc := "()Z" } : Jvm.MethodName) ({ cls := "Peerpanel$Review", name := "isLate", desc := "()Z" } : Jvm.MethodName)) ∈ lw_all := lw_g (lw_at lw_m2 145 rfl) rfl
theorem q431 : (Jvm.Cond.code ({ cls := "Peerpanel$Review", name := "isLate", desc := "()Z" } : Jvm.MethodName) prog_5_method_2_code (1 : Nat) (Option.some Jvm.ClassFile.FieldType.boolean)) ∈ lw_all := lw_g (lw_at lw_m2 146 rfl) rfl
theorem q508 : (Jvm.Cond.fieldLinkNest "Peerpanel$Review" (33 : Nat) "Peerpanel$Person" "weight" "I" "Peerpanel") ∈ lw_tbl := lw_at lw_m2 223 rfl
theorem q569 : (Jvm.Cond.selects "Peerpanel$Review" ({ cls := "java/lang/Object", name := "getClass", desc := "()Ljava/lang/Class;" } : Jvm.MethodName) ({ cls := "java/lang/Object", name := "getClass", desc := "()Ljava/lang/Class;" } : Jvm.MethodName)) ∈ lw_all := lw_g (lw_at lw_m3 44 rfl) rfl
theorem q917 : (Jvm.Cond.castable "Peerpanel$Review" "java/lang/Comparable") ∈ lw_tbl := lw_at lw_m4 152 rfl
theorem q918 : (Jvm.Cond.selects "Peerpanel$Review" ({ cls := "java/lang/Comparable", name := "compareTo", desc := "(Ljava/lang/Object;)I" } : Jvm.MethodName) ({ cls := "Peerpanel$Review", name := "compareTo", desc := "(Ljava/lang/Object;)I" } : Jvm.MethodName)) ∈ lw_all := lw_g (lw_at lw_m4 153 rfl) rfl
theorem q919 : (Jvm.Cond.unhidden "Peerpanel$Review" "compareTo" "(Ljava/lang/Object;)I") ∈ lw_tbl := lw_at lw_m4 154 rfl
theorem q920 : (Jvm.Cond.instanceMethod ({ cls := "Peerpanel$Review", name := "compareTo", desc := "(Ljava/lang/Object;)I" } : Jvm.MethodName)) ∈ lw_all := lw_g (lw_at lw_m4 155 rfl) rfl
theorem q921 : (Jvm.Cond.publicMethod ({ cls := "Peerpanel$Review", name := "compareTo", desc := "(Ljava/lang/Object;)I" } : Jvm.MethodName)) ∈ lw_tbl := lw_at lw_m4 156 rfl
theorem q922 : (Jvm.Cond.code ({ cls := "Peerpanel$Review", name := "compareTo", desc := "(Ljava/lang/Object;)I" } : Jvm.MethodName) prog_5_method_5_code (2 : Nat) (Option.some Jvm.ClassFile.FieldType.int)) ∈ lw_all := lw_g (lw_at lw_m4 157 rfl) rfl
theorem q923 : (Jvm.Cond.classLink "Peerpanel$Review" (2 : Nat) "Peerpanel$Review") ∈ lw_all := lw_g (lw_at lw_m4 158 rfl) rfl
theorem q924 : (Jvm.Cond.methodLink "Peerpanel$Review" (48 : Nat) ({ cls := "Peerpanel$Review", name := "compareTo", desc := "(LPeerpanel$Review;)I" } : Jvm.MethodName)) ∈ lw_all := lw_g (lw_at lw_m4 159 rfl) rfl
theorem q954 : (Jvm.Cond.instantiable "Peerpanel$Review" (5 : Nat)) ∈ lw_all := lw_g (lw_at lw_m4 189 rfl) rfl
theorem q956 : (Jvm.Cond.instanceMethod ({ cls := "Peerpanel$Review", name := "<init>", desc := "(LPeerpanel;LPeerpanel$Person;IIZ)V" } : Jvm.MethodName)) ∈ lw_all := lw_g (lw_at lw_m4 191 rfl) rfl
theorem q957 : (Jvm.Cond.code ({ cls := "Peerpanel$Review", name := "<init>", desc := "(LPeerpanel;LPeerpanel$Person;IIZ)V" } : Jvm.MethodName) prog_5_method_1_code (6 : Nat) (Option.none : Option Jvm.ClassFile.FieldType)) ∈ lw_all := lw_g (lw_at lw_m4 192 rfl) rfl
theorem q958 : (Jvm.Cond.methodLink "Peerpanel$Review" (7 : Nat) ({ cls := "java/lang/Object", name := "<init>", desc := "()V" } : Jvm.MethodName)) ∈ lw_all := lw_g (lw_at lw_m4 193 rfl) rfl
theorem q959 : (Jvm.Cond.fieldLink "Peerpanel$Review" (13 : Nat) "Peerpanel$Review" "reader" "LPeerpanel$Person;") ∈ lw_all := lw_g (lw_at lw_m4 194 rfl) rfl
theorem q961 : (Jvm.Cond.fieldLink "Peerpanel$Review" (17 : Nat) "Peerpanel$Review" "mark" "I") ∈ lw_all := lw_g (lw_at lw_m4 196 rfl) rfl
theorem q964 : (Jvm.Cond.fieldLink "Peerpanel$Review" (21 : Nat) "Peerpanel$Review" "day" "I") ∈ lw_all := lw_g (lw_at lw_m4 199 rfl) rfl
theorem q965 : (Jvm.Cond.fieldLink "Peerpanel$Review" (24 : Nat) "Peerpanel$Review" "isAppeal" "Z") ∈ lw_all := lw_g (lw_at lw_m4 200 rfl) rfl
theorem q966 : (Jvm.Cond.fieldLink "Peerpanel$Review" (1 : Nat) "Peerpanel$Review" "this$0" "LPeerpanel;") ∈ lw_all := lw_g (lw_at lw_m4 201 rfl) rfl
theorem q967 : (Jvm.Cond.laysFinal "Peerpanel$Review" "Peerpanel$Review" "reader" "LPeerpanel$Person;") ∈ lw_all := lw_g (lw_at lw_m4 202 rfl) rfl
theorem q968 : (Jvm.Cond.soleField "Peerpanel$Review" "reader") ∈ lw_all := lw_g (lw_at lw_m4 203 rfl) rfl
theorem q969 : (Jvm.Cond.laysFinal "Peerpanel$Review" "Peerpanel$Review" "mark" "I") ∈ lw_all := lw_g (lw_at lw_m4 204 rfl) rfl
theorem q970 : (Jvm.Cond.soleField "Peerpanel$Review" "mark") ∈ lw_all := lw_g (lw_at lw_m4 205 rfl) rfl
theorem q971 : (Jvm.Cond.laysFinal "Peerpanel$Review" "Peerpanel$Review" "day" "I") ∈ lw_all := lw_g (lw_at lw_m4 206 rfl) rfl
theorem q972 : (Jvm.Cond.soleField "Peerpanel$Review" "day") ∈ lw_all := lw_g (lw_at lw_m4 207 rfl) rfl
theorem q973 : (Jvm.Cond.laysFinal "Peerpanel$Review" "Peerpanel$Review" "isAppeal" "Z") ∈ lw_all := lw_g (lw_at lw_m4 208 rfl) rfl
theorem q974 : (Jvm.Cond.soleField "Peerpanel$Review" "isAppeal") ∈ lw_all := lw_g (lw_at lw_m4 209 rfl) rfl
theorem q975 : (Jvm.Cond.laysFinal "Peerpanel$Review" "Peerpanel$Review" "this$0" "LPeerpanel;") ∈ lw_all := lw_g (lw_at lw_m4 210 rfl) rfl
theorem q976 : (Jvm.Cond.soleField "Peerpanel$Review" "this$0") ∈ lw_all := lw_g (lw_at lw_m4 211 rfl) rfl
theorem q977 : (Jvm.Cond.superclass "Peerpanel$Review" "java/lang/Object") ∈ lw_all := lw_g (lw_at lw_m4 212 rfl) rfl
theorem q1445 : (Jvm.Cond.castable "Peerpanel$Review" "java/lang/Object") ∈ lw_tbl := lw_at lw_m6 200 rfl
theorem in_X6 : ∀ w ∈ wsX60, w ∈ lw_all := lw_in wsX60 [967, 969, 971, 973, 975] (by decide +kernel) (by decide +kernel)
theorem q765 : (Jvm.Cond.interfaceMethod "Peerpanel$Ahead" "Peerpanel$Ahead" "is" "(LPeerpanel$Person;LPeerpanel$Person;)Z") ∈ lw_tbl := lw_at lw_m4 0 rfl
set_option maxRecDepth 100000
theorem q766 : (Jvm.Cond.declares ({ cls := "Peerpanel$Ahead", name := "is", desc := "(LPeerpanel$Person;LPeerpanel$Person;)Z" } : Jvm.MethodName)) ∈ lw_tbl := lw_at lw_m4 1 rfl
theorem q415 : (Jvm.Cond.interfaceMethod "Peerpanel$Sieve" "Peerpanel$Sieve" "lets" "(LPeerpanel$Review;)Z") ∈ lw_tbl := lw_at lw_m2 130 rfl
set_option maxRecDepth 100000
theorem q416 : (Jvm.Cond.declares ({ cls := "Peerpanel$Sieve", name := "lets", desc := "(LPeerpanel$Review;)Z" } : Jvm.MethodName)) ∈ lw_tbl := lw_at lw_m2 131 rfl
theorem q1454 : (Jvm.Cond.castable "[B" "java/lang/Object") ∈ lw_tbl := lw_at lw_m6 209 rfl
set_option maxRecDepth 100000
theorem q1452 : (Jvm.Cond.castable "[I" "java/lang/Object") ∈ lw_tbl := lw_at lw_m6 207 rfl
set_option maxRecDepth 100000
theorem q1456 : (Jvm.Cond.castable "[J" "java/lang/Object") ∈ lw_tbl := lw_at lw_m6 211 rfl
set_option maxRecDepth 100000
theorem q1449 : (Jvm.Cond.sameMethod "[Ljava/lang/Object;" "java/lang/Object" "getClass" "()Ljava/lang/Class;") ∈ lw_all := lw_g (lw_at lw_m6 204 rfl) rfl
set_option maxRecDepth 100000
theorem q1450 : (Jvm.Cond.selects "[Ljava/lang/Object;" ({ cls := "java/lang/Object", name := "getClass", desc := "()Ljava/lang/Class;" } : Jvm.MethodName) ({ cls := "java/lang/Object", name := "getClass", desc := "()Ljava/lang/Class;" } : Jvm.MethodName)) ∈ lw_all := lw_g (lw_at lw_m6 205 rfl) rfl
theorem q1453 : (Jvm.Cond.castable "[Ljava/lang/Object;" "java/lang/Object") ∈ lw_tbl := lw_at lw_m6 208 rfl
theorem q1455 : (Jvm.Cond.castable "[Z" "java/lang/Object") ∈ lw_tbl := lw_at lw_m6 210 rfl
set_option maxRecDepth 100000
theorem q915 : (Jvm.Cond.interfaceMethod "java/lang/Comparable" "java/lang/Comparable" "compareTo" "(Ljava/lang/Object;)I") ∈ lw_tbl := lw_at lw_m4 150 rfl
set_option maxRecDepth 100000
theorem q916 : (Jvm.Cond.declares ({ cls := "java/lang/Comparable", name := "compareTo", desc := "(Ljava/lang/Object;)I" } : Jvm.MethodName)) ∈ lw_tbl := lw_at lw_m4 151 rfl
theorem q77 : (Jvm.Cond.initialized "java/lang/Integer$IntegerCache") ∈ lw_all := lw_g (lw_at lw_m1 32 rfl) rfl
set_option maxRecDepth 100000
theorem q877 : (Jvm.Cond.laysStatic "java/lang/Integer$IntegerCache" "high" "I") ∈ lw_tbl := lw_at lw_m4 112 rfl
theorem q879 : (Jvm.Cond.laysStatic "java/lang/Integer$IntegerCache" "cache" "[Ljava/lang/Integer;") ∈ lw_tbl := lw_at lw_m4 114 rfl
theorem q60 : (Jvm.Cond.initialized "java/lang/System") ∈ lw_all := lw_g (lw_at lw_m1 15 rfl) rfl
set_option maxRecDepth 100000
theorem q595 : (Jvm.Cond.static ({ cls := "java/lang/System", name := "arraycopy", desc := "(Ljava/lang/Object;ILjava/lang/Object;II)V" } : Jvm.MethodName)) ∈ lw_all := lw_g (lw_at lw_m3 70 rfl) rfl
theorem q596 : (Jvm.Cond.native ({ cls := "java/lang/System", name := "arraycopy", desc := "(Ljava/lang/Object;ILjava/lang/Object;II)V" } : Jvm.MethodName)) ∈ lw_all := lw_g (lw_at lw_m3 71 rfl) rfl
theorem q370 : (Jvm.Cond.interfaceMethod "java/util/Collection" "java/util/Collection" "iterator" "()Ljava/util/Iterator;") ∈ lw_tbl := lw_at lw_m2 85 rfl
set_option maxRecDepth 100000
theorem q371 : (Jvm.Cond.declares ({ cls := "java/util/Collection", name := "iterator", desc := "()Ljava/util/Iterator;" } : Jvm.MethodName)) ∈ lw_tbl := lw_at lw_m2 86 rfl
theorem q907 : (Jvm.Cond.interfaceMethod "java/util/Comparator" "java/util/Comparator" "compare" "(Ljava/lang/Object;Ljava/lang/Object;)I") ∈ lw_tbl := lw_at lw_m4 142 rfl
set_option maxRecDepth 100000
theorem q908 : (Jvm.Cond.declares ({ cls := "java/util/Comparator", name := "compare", desc := "(Ljava/lang/Object;Ljava/lang/Object;)I" } : Jvm.MethodName)) ∈ lw_tbl := lw_at lw_m4 143 rfl
theorem q178 : (Jvm.Cond.interfaceMethod "java/util/Iterator" "java/util/Iterator" "hasNext" "()Z") ∈ lw_tbl := lw_at lw_m1 133 rfl
set_option maxRecDepth 100000
theorem q179 : (Jvm.Cond.declares ({ cls := "java/util/Iterator", name := "hasNext", desc := "()Z" } : Jvm.MethodName)) ∈ lw_tbl := lw_at lw_m1 134 rfl
theorem q194 : (Jvm.Cond.interfaceMethod "java/util/Iterator" "java/util/Iterator" "next" "()Ljava/lang/Object;") ∈ lw_tbl := lw_at lw_m1 149 rfl
theorem q195 : (Jvm.Cond.declares ({ cls := "java/util/Iterator", name := "next", desc := "()Ljava/lang/Object;" } : Jvm.MethodName)) ∈ lw_tbl := lw_at lw_m1 150 rfl
theorem q320 : (Jvm.Cond.arrayClass Jvm.ClassFile.FieldType.int) ∈ lw_all := lw_g (lw_at lw_m2 35 rfl) rfl
set_option maxRecDepth 100000
theorem q589 : (Jvm.Cond.arrayOver (Jvm.ClassFile.FieldType.object "java/lang/Object")) ∈ lw_tbl := lw_at lw_m3 64 rfl
theorem q630 : (Jvm.Cond.arrayClass Jvm.ClassFile.FieldType.byte) ∈ lw_all := lw_g (lw_at lw_m3 105 rfl) rfl
theorem q1202 : (Jvm.Cond.arrayClass Jvm.ClassFile.FieldType.boolean) ∈ lw_all := lw_g (lw_at lw_m5 197 rfl) rfl
theorem q1424 : (Jvm.Cond.arrayClass Jvm.ClassFile.FieldType.long) ∈ lw_all := lw_g (lw_at lw_m6 179 rfl) rfl
