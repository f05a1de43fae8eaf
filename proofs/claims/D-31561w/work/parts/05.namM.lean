/-! PeerpanelModel -/
set_option maxRecDepth 100000
def RX2 : String := "PeerpanelModel"
def TX2 : u_T := fun k => match k with
  | 0 => ("PeerpanelModel", "peopleCount", "I", false)
  | 1 => ("PeerpanelModel", "groups", "[I", true)
  | 2 => ("PeerpanelModel", "areThere", "[Z", true)
  | 3 => ("PeerpanelModel", "weights", "[I", true)
  | 4 => ("PeerpanelModel", "calibrationCounts", "[I", true)
  | 5 => ("PeerpanelModel", "errorSums", "[I", true)
  | 6 => ("PeerpanelModel", "hadAppeals", "[Z", true)
  | 7 => ("PeerpanelModel", "areReaders", "[Z", true)
  | 8 => ("PeerpanelModel", "wereReplaced", "[Z", true)
  | 9 => ("PeerpanelModel", "areByAppeal", "[Z", true)
  | 10 => ("PeerpanelModel", "marks", "[I", true)
  | 11 => ("PeerpanelModel", "days", "[I", true)
  | 12 => ("PeerpanelModel", "due", "I", false)
  | 13 => ("PeerpanelModel", "tolerance", "I", false)
  | 14 => ("PeerpanelModel", "thrown", "I", false)
  | 15 => ("PeerpanelModel", "pairs", "[Z", true)
  | 16 => ("PeerpanelModel", "pairCounts", "[I", true)
  | 17 => ("PeerpanelModel", "wereTried", "[Z", true)
  | 18 => ("PeerpanelModel", "found", "[I", true)
  | _ => ("PeerpanelModel", "fresh", "[I", true)
def tyX2 : Nat → FieldType := fun k => match k with
  | 0 => .int
  | 1 => .array .int
  | 2 => .array .boolean
  | 3 => .array .int
  | 4 => .array .int
  | 5 => .array .int
  | 6 => .array .boolean
  | 7 => .array .boolean
  | 8 => .array .boolean
  | 9 => .array .boolean
  | 10 => .array .int
  | 11 => .array .int
  | 12 => .int
  | 13 => .int
  | 14 => .int
  | 15 => .array .boolean
  | 16 => .array .int
  | 17 => .array .boolean
  | 18 => .array .int
  | _ => .array .int
abbrev wsX20 : List Cond := u_ws RX2 TX2 20
set_option maxRecDepth 100000 in
theorem nmX2 : ∀ a, a < 20 → ∀ b, b < 20 → a ≠ b → (TX2 a).2.1 ≠ (TX2 b).2.1 := by decide +kernel
set_option maxRecDepth 100000 in
theorem tyX2_ok : ∀ k, k < 20 → parseFieldDescriptor (TX2 k).2.2.1 = some (tyX2 k) := by decide +kernel
abbrev cX2_init : ByteArray := prog_9_method_1_code
def yX2_init : MethodName := ⟨RX2, "<init>", "()V"⟩
def dkwX2_init_7 : List UInt8 := [132, 1, 1, 167, 255, 239, 177]
abbrev dktX2_init_7 : List UInt8 := dkwX2_init_7 ++ []
def dkwX2_init_6 : List UInt8 := [42, 16, 16, 188, 10, 181, 0, 63, 3, 60, 27, 17, 1, 0, 162, 0, 16, 42, 180, 0, 38, 27, 2, 79]
abbrev dktX2_init_6 : List UInt8 := dkwX2_init_6 ++ dktX2_init_7
def dkwX2_init_5 : List UInt8 := [42, 16, 16, 188, 10, 181, 0, 54, 42, 16, 16, 188, 4, 181, 0, 57, 42, 16, 16, 188, 10, 181, 0, 60]
abbrev dktX2_init_5 : List UInt8 := dkwX2_init_5 ++ dktX2_init_6
def dkwX2_init_4 : List UInt8 := [181, 0, 41, 42, 16, 50, 181, 0, 44, 42, 16, 20, 181, 0, 48, 42, 17, 1, 0, 188, 4, 181, 0, 51]
abbrev dktX2_init_4 : List UInt8 := dkwX2_init_4 ++ dktX2_init_5
def dkwX2_init_3 : List UInt8 := [17, 1, 0, 188, 4, 181, 0, 35, 42, 17, 1, 0, 188, 10, 181, 0, 38, 42, 17, 1, 0, 188, 10]
abbrev dktX2_init_3 : List UInt8 := dkwX2_init_3 ++ dktX2_init_4
def dkwX2_init_2 : List UInt8 := [188, 4, 181, 0, 26, 42, 17, 1, 0, 188, 4, 181, 0, 29, 42, 17, 1, 0, 188, 4, 181, 0, 32, 42]
abbrev dktX2_init_2 : List UInt8 := dkwX2_init_2 ++ dktX2_init_3
def dkwX2_init_1 : List UInt8 := [188, 10, 181, 0, 17, 42, 16, 16, 188, 10, 181, 0, 20, 42, 16, 16, 188, 10, 181, 0, 23, 42, 16, 16]
abbrev dktX2_init_1 : List UInt8 := dkwX2_init_1 ++ dktX2_init_2
def dkwX2_init_0 : List UInt8 := [42, 183, 0, 1, 42, 16, 16, 188, 10, 181, 0, 7, 42, 16, 16, 188, 4, 181, 0, 13, 42, 16, 16]
abbrev dktX2_init_0 : List UInt8 := dkwX2_init_0 ++ dktX2_init_1
theorem dksX2_init_0 : cX2_init.data.toList.drop 0 = dktX2_init_0 := by decide +kernel
theorem dksX2_init_1 : cX2_init.data.toList.drop 23 = dktX2_init_1 := dk_seg dksX2_init_0 23 rfl rfl
theorem dksX2_init_2 : cX2_init.data.toList.drop 47 = dktX2_init_2 := dk_seg dksX2_init_1 24 rfl rfl
theorem dksX2_init_3 : cX2_init.data.toList.drop 71 = dktX2_init_3 := dk_seg dksX2_init_2 24 rfl rfl
theorem dksX2_init_4 : cX2_init.data.toList.drop 94 = dktX2_init_4 := dk_seg dksX2_init_3 23 rfl rfl
theorem dksX2_init_5 : cX2_init.data.toList.drop 118 = dktX2_init_5 := dk_seg dksX2_init_4 24 rfl rfl
theorem dksX2_init_6 : cX2_init.data.toList.drop 142 = dktX2_init_6 := dk_seg dksX2_init_5 24 rfl rfl
theorem dksX2_init_7 : cX2_init.data.toList.drop 166 = dktX2_init_7 := dk_seg dksX2_init_6 24 rfl rfl
theorem dX2_init_0 : decode cX2_init 0 = .ok (.aload_n 0, 1) := dk_42 (dk_at dksX2_init_0 0 rfl rfl)
theorem dX2_init_1 : decode cX2_init 1 = .ok (.invokespecial 1, 3) := dk_183 0 1 (dk_at dksX2_init_0 1 rfl rfl)
theorem dX2_init_4 : decode cX2_init 4 = .ok (.aload_n 0, 1) := dk_42 (dk_at dksX2_init_0 4 rfl rfl)
theorem dX2_init_5 : decode cX2_init 5 = .ok (.bipush 16, 2) := dk_16 16 (dk_at dksX2_init_0 5 rfl rfl)
theorem dX2_init_7 : decode cX2_init 7 = .ok (.newarray .int, 2) := dk_188_10 (dk_at dksX2_init_0 7 rfl rfl)
theorem dX2_init_9 : decode cX2_init 9 = .ok (.putfield 7, 3) := dk_181 0 7 (dk_at dksX2_init_0 9 rfl rfl)
theorem dX2_init_12 : decode cX2_init 12 = .ok (.aload_n 0, 1) := dk_42 (dk_at dksX2_init_0 12 rfl rfl)
theorem dX2_init_13 : decode cX2_init 13 = .ok (.bipush 16, 2) := dk_16 16 (dk_at dksX2_init_0 13 rfl rfl)
theorem dX2_init_15 : decode cX2_init 15 = .ok (.newarray .boolean, 2) := dk_188_4 (dk_at dksX2_init_0 15 rfl rfl)
theorem dX2_init_17 : decode cX2_init 17 = .ok (.putfield 13, 3) := dk_181 0 13 (dk_at dksX2_init_0 17 rfl rfl)
theorem dX2_init_20 : decode cX2_init 20 = .ok (.aload_n 0, 1) := dk_42 (dk_at dksX2_init_0 20 rfl rfl)
theorem dX2_init_21 : decode cX2_init 21 = .ok (.bipush 16, 2) := dk_16 16 (dk_at dksX2_init_0 21 rfl rfl)
theorem dX2_init_23 : decode cX2_init 23 = .ok (.newarray .int, 2) := dk_188_10 (dk_at dksX2_init_1 0 rfl rfl)
theorem dX2_init_25 : decode cX2_init 25 = .ok (.putfield 17, 3) := dk_181 0 17 (dk_at dksX2_init_1 2 rfl rfl)
theorem dX2_init_28 : decode cX2_init 28 = .ok (.aload_n 0, 1) := dk_42 (dk_at dksX2_init_1 5 rfl rfl)
theorem dX2_init_29 : decode cX2_init 29 = .ok (.bipush 16, 2) := dk_16 16 (dk_at dksX2_init_1 6 rfl rfl)
theorem dX2_init_31 : decode cX2_init 31 = .ok (.newarray .int, 2) := dk_188_10 (dk_at dksX2_init_1 8 rfl rfl)
theorem dX2_init_33 : decode cX2_init 33 = .ok (.putfield 20, 3) := dk_181 0 20 (dk_at dksX2_init_1 10 rfl rfl)
theorem dX2_init_36 : decode cX2_init 36 = .ok (.aload_n 0, 1) := dk_42 (dk_at dksX2_init_1 13 rfl rfl)
theorem dX2_init_37 : decode cX2_init 37 = .ok (.bipush 16, 2) := dk_16 16 (dk_at dksX2_init_1 14 rfl rfl)
theorem dX2_init_39 : decode cX2_init 39 = .ok (.newarray .int, 2) := dk_188_10 (dk_at dksX2_init_1 16 rfl rfl)
theorem dX2_init_41 : decode cX2_init 41 = .ok (.putfield 23, 3) := dk_181 0 23 (dk_at dksX2_init_1 18 rfl rfl)
theorem dX2_init_44 : decode cX2_init 44 = .ok (.aload_n 0, 1) := dk_42 (dk_at dksX2_init_1 21 rfl rfl)
theorem dX2_init_45 : decode cX2_init 45 = .ok (.bipush 16, 2) := dk_16 16 (dk_at dksX2_init_1 22 rfl rfl)
theorem dX2_init_47 : decode cX2_init 47 = .ok (.newarray .boolean, 2) := dk_188_4 (dk_at dksX2_init_2 0 rfl rfl)
theorem dX2_init_49 : decode cX2_init 49 = .ok (.putfield 26, 3) := dk_181 0 26 (dk_at dksX2_init_2 2 rfl rfl)
theorem dX2_init_52 : decode cX2_init 52 = .ok (.aload_n 0, 1) := dk_42 (dk_at dksX2_init_2 5 rfl rfl)
theorem dX2_init_53 : decode cX2_init 53 = .ok (.sipush 256, 3) := dk_17 1 0 (dk_at dksX2_init_2 6 rfl rfl)
theorem dX2_init_56 : decode cX2_init 56 = .ok (.newarray .boolean, 2) := dk_188_4 (dk_at dksX2_init_2 9 rfl rfl)
theorem dX2_init_58 : decode cX2_init 58 = .ok (.putfield 29, 3) := dk_181 0 29 (dk_at dksX2_init_2 11 rfl rfl)
theorem dX2_init_61 : decode cX2_init 61 = .ok (.aload_n 0, 1) := dk_42 (dk_at dksX2_init_2 14 rfl rfl)
theorem dX2_init_62 : decode cX2_init 62 = .ok (.sipush 256, 3) := dk_17 1 0 (dk_at dksX2_init_2 15 rfl rfl)
theorem dX2_init_65 : decode cX2_init 65 = .ok (.newarray .boolean, 2) := dk_188_4 (dk_at dksX2_init_2 18 rfl rfl)
theorem dX2_init_67 : decode cX2_init 67 = .ok (.putfield 32, 3) := dk_181 0 32 (dk_at dksX2_init_2 20 rfl rfl)
theorem dX2_init_70 : decode cX2_init 70 = .ok (.aload_n 0, 1) := dk_42 (dk_at dksX2_init_2 23 rfl rfl)
theorem dX2_init_71 : decode cX2_init 71 = .ok (.sipush 256, 3) := dk_17 1 0 (dk_at dksX2_init_3 0 rfl rfl)
theorem dX2_init_74 : decode cX2_init 74 = .ok (.newarray .boolean, 2) := dk_188_4 (dk_at dksX2_init_3 3 rfl rfl)
theorem dX2_init_76 : decode cX2_init 76 = .ok (.putfield 35, 3) := dk_181 0 35 (dk_at dksX2_init_3 5 rfl rfl)
theorem dX2_init_79 : decode cX2_init 79 = .ok (.aload_n 0, 1) := dk_42 (dk_at dksX2_init_3 8 rfl rfl)
theorem dX2_init_80 : decode cX2_init 80 = .ok (.sipush 256, 3) := dk_17 1 0 (dk_at dksX2_init_3 9 rfl rfl)
theorem dX2_init_83 : decode cX2_init 83 = .ok (.newarray .int, 2) := dk_188_10 (dk_at dksX2_init_3 12 rfl rfl)
theorem dX2_init_85 : decode cX2_init 85 = .ok (.putfield 38, 3) := dk_181 0 38 (dk_at dksX2_init_3 14 rfl rfl)
theorem dX2_init_88 : decode cX2_init 88 = .ok (.aload_n 0, 1) := dk_42 (dk_at dksX2_init_3 17 rfl rfl)
theorem dX2_init_89 : decode cX2_init 89 = .ok (.sipush 256, 3) := dk_17 1 0 (dk_at dksX2_init_3 18 rfl rfl)
theorem dX2_init_92 : decode cX2_init 92 = .ok (.newarray .int, 2) := dk_188_10 (dk_at dksX2_init_3 21 rfl rfl)
theorem dX2_init_94 : decode cX2_init 94 = .ok (.putfield 41, 3) := dk_181 0 41 (dk_at dksX2_init_4 0 rfl rfl)
theorem dX2_init_97 : decode cX2_init 97 = .ok (.aload_n 0, 1) := dk_42 (dk_at dksX2_init_4 3 rfl rfl)
theorem dX2_init_98 : decode cX2_init 98 = .ok (.bipush 50, 2) := dk_16 50 (dk_at dksX2_init_4 4 rfl rfl)
theorem dX2_init_100 : decode cX2_init 100 = .ok (.putfield 44, 3) := dk_181 0 44 (dk_at dksX2_init_4 6 rfl rfl)
theorem dX2_init_103 : decode cX2_init 103 = .ok (.aload_n 0, 1) := dk_42 (dk_at dksX2_init_4 9 rfl rfl)
theorem dX2_init_104 : decode cX2_init 104 = .ok (.bipush 20, 2) := dk_16 20 (dk_at dksX2_init_4 10 rfl rfl)
theorem dX2_init_106 : decode cX2_init 106 = .ok (.putfield 48, 3) := dk_181 0 48 (dk_at dksX2_init_4 12 rfl rfl)
theorem dX2_init_109 : decode cX2_init 109 = .ok (.aload_n 0, 1) := dk_42 (dk_at dksX2_init_4 15 rfl rfl)
theorem dX2_init_110 : decode cX2_init 110 = .ok (.sipush 256, 3) := dk_17 1 0 (dk_at dksX2_init_4 16 rfl rfl)
theorem dX2_init_113 : decode cX2_init 113 = .ok (.newarray .boolean, 2) := dk_188_4 (dk_at dksX2_init_4 19 rfl rfl)
theorem dX2_init_115 : decode cX2_init 115 = .ok (.putfield 51, 3) := dk_181 0 51 (dk_at dksX2_init_4 21 rfl rfl)
theorem dX2_init_118 : decode cX2_init 118 = .ok (.aload_n 0, 1) := dk_42 (dk_at dksX2_init_5 0 rfl rfl)
theorem dX2_init_119 : decode cX2_init 119 = .ok (.bipush 16, 2) := dk_16 16 (dk_at dksX2_init_5 1 rfl rfl)
theorem dX2_init_121 : decode cX2_init 121 = .ok (.newarray .int, 2) := dk_188_10 (dk_at dksX2_init_5 3 rfl rfl)
theorem dX2_init_123 : decode cX2_init 123 = .ok (.putfield 54, 3) := dk_181 0 54 (dk_at dksX2_init_5 5 rfl rfl)
theorem dX2_init_126 : decode cX2_init 126 = .ok (.aload_n 0, 1) := dk_42 (dk_at dksX2_init_5 8 rfl rfl)
theorem dX2_init_127 : decode cX2_init 127 = .ok (.bipush 16, 2) := dk_16 16 (dk_at dksX2_init_5 9 rfl rfl)
theorem dX2_init_129 : decode cX2_init 129 = .ok (.newarray .boolean, 2) := dk_188_4 (dk_at dksX2_init_5 11 rfl rfl)
theorem dX2_init_131 : decode cX2_init 131 = .ok (.putfield 57, 3) := dk_181 0 57 (dk_at dksX2_init_5 13 rfl rfl)
theorem dX2_init_134 : decode cX2_init 134 = .ok (.aload_n 0, 1) := dk_42 (dk_at dksX2_init_5 16 rfl rfl)
theorem dX2_init_135 : decode cX2_init 135 = .ok (.bipush 16, 2) := dk_16 16 (dk_at dksX2_init_5 17 rfl rfl)
theorem dX2_init_137 : decode cX2_init 137 = .ok (.newarray .int, 2) := dk_188_10 (dk_at dksX2_init_5 19 rfl rfl)
theorem dX2_init_139 : decode cX2_init 139 = .ok (.putfield 60, 3) := dk_181 0 60 (dk_at dksX2_init_5 21 rfl rfl)
theorem dX2_init_142 : decode cX2_init 142 = .ok (.aload_n 0, 1) := dk_42 (dk_at dksX2_init_6 0 rfl rfl)
theorem dX2_init_143 : decode cX2_init 143 = .ok (.bipush 16, 2) := dk_16 16 (dk_at dksX2_init_6 1 rfl rfl)
theorem dX2_init_145 : decode cX2_init 145 = .ok (.newarray .int, 2) := dk_188_10 (dk_at dksX2_init_6 3 rfl rfl)
theorem dX2_init_147 : decode cX2_init 147 = .ok (.putfield 63, 3) := dk_181 0 63 (dk_at dksX2_init_6 5 rfl rfl)
theorem dX2_init_150 : decode cX2_init 150 = .ok (.iconst 0, 1) := dk_3 (dk_at dksX2_init_6 8 rfl rfl)
theorem dX2_init_151 : decode cX2_init 151 = .ok (.istore_n 1, 1) := dk_60 (dk_at dksX2_init_6 9 rfl rfl)
theorem dX2_init_152 : decode cX2_init 152 = .ok (.iload_n 1, 1) := dk_27 (dk_at dksX2_init_6 10 rfl rfl)
theorem dX2_init_153 : decode cX2_init 153 = .ok (.sipush 256, 3) := dk_17 1 0 (dk_at dksX2_init_6 11 rfl rfl)
theorem dX2_init_156 : decode cX2_init 156 = .ok (.if_icmp .ge 16, 3) := dk_162 0 16 (dk_at dksX2_init_6 14 rfl rfl)
theorem dX2_init_159 : decode cX2_init 159 = .ok (.aload_n 0, 1) := dk_42 (dk_at dksX2_init_6 17 rfl rfl)
theorem dX2_init_160 : decode cX2_init 160 = .ok (.getfield 38, 3) := dk_180 0 38 (dk_at dksX2_init_6 18 rfl rfl)
theorem dX2_init_163 : decode cX2_init 163 = .ok (.iload_n 1, 1) := dk_27 (dk_at dksX2_init_6 21 rfl rfl)
theorem dX2_init_164 : decode cX2_init 164 = .ok (.iconst (-1), 1) := dk_2 (dk_at dksX2_init_6 22 rfl rfl)
theorem dX2_init_165 : decode cX2_init 165 = .ok (.iastore, 1) := dk_79 (dk_at dksX2_init_6 23 rfl rfl)
theorem dX2_init_166 : decode cX2_init 166 = .ok (.iinc 1 1, 3) := dk_132 1 1 (dk_at dksX2_init_7 0 rfl rfl)
theorem dX2_init_169 : decode cX2_init 169 = .ok (.goto (-17), 3) := dk_167 255 239 (dk_at dksX2_init_7 3 rfl rfl)
theorem dX2_init_172 : decode cX2_init 172 = .ok (.return_, 1) := dk_177 (dk_at dksX2_init_7 6 rfl rfl)
abbrev cX2_thrown : ByteArray := prog_9_method_2_code
def yX2_thrown : MethodName := ⟨RX2, "thrown", "()I"⟩
theorem dX2_thrown_0 : decode cX2_thrown 0 = .ok (.aload_n 0, 1) := by decide +kernel
theorem dX2_thrown_1 : decode cX2_thrown 1 = .ok (.getfield 66, 3) := by decide +kernel
theorem dX2_thrown_4 : decode cX2_thrown 4 = .ok (.ireturn, 1) := by decide +kernel
abbrev cX2_addPerson : ByteArray := prog_9_method_11_code
def yX2_addPerson : MethodName := ⟨RX2, "addPerson", "(I)I"⟩
def dkwX2_addPerson_3 : List UInt8 := [180, 0, 69, 4, 100, 172]
abbrev dktX2_addPerson_3 : List UInt8 := dkwX2_addPerson_3 ++ []
def dkwX2_addPerson_2 : List UInt8 := [27, 79, 42, 180, 0, 17, 42, 180, 0, 69, 8, 79, 42, 89, 180, 0, 69, 4, 96, 181, 0, 69, 42]
abbrev dktX2_addPerson_2 : List UInt8 := dkwX2_addPerson_2 ++ dktX2_addPerson_3
def dkwX2_addPerson_1 : List UInt8 := [167, 0, 4, 3, 181, 0, 66, 42, 180, 0, 66, 158, 0, 5, 3, 172, 42, 180, 0, 7, 42, 180, 0, 69]
abbrev dktX2_addPerson_1 : List UInt8 := dkwX2_addPerson_1 ++ dktX2_addPerson_2
def dkwX2_addPerson_0 : List UInt8 := [42, 27, 3, 8, 184, 0, 72, 154, 0, 7, 4, 167, 0, 17, 42, 180, 0, 69, 16, 16, 160, 0, 7, 5]
abbrev dktX2_addPerson_0 : List UInt8 := dkwX2_addPerson_0 ++ dktX2_addPerson_1
theorem dksX2_addPerson_0 : cX2_addPerson.data.toList.drop 0 = dktX2_addPerson_0 := by decide +kernel
theorem dksX2_addPerson_1 : cX2_addPerson.data.toList.drop 24 = dktX2_addPerson_1 := dk_seg dksX2_addPerson_0 24 rfl rfl
theorem dksX2_addPerson_2 : cX2_addPerson.data.toList.drop 48 = dktX2_addPerson_2 := dk_seg dksX2_addPerson_1 24 rfl rfl
theorem dksX2_addPerson_3 : cX2_addPerson.data.toList.drop 71 = dktX2_addPerson_3 := dk_seg dksX2_addPerson_2 23 rfl rfl
theorem dX2_addPerson_0 : decode cX2_addPerson 0 = .ok (.aload_n 0, 1) := dk_42 (dk_at dksX2_addPerson_0 0 rfl rfl)
theorem dX2_addPerson_1 : decode cX2_addPerson 1 = .ok (.iload_n 1, 1) := dk_27 (dk_at dksX2_addPerson_0 1 rfl rfl)
theorem dX2_addPerson_2 : decode cX2_addPerson 2 = .ok (.iconst 0, 1) := dk_3 (dk_at dksX2_addPerson_0 2 rfl rfl)
theorem dX2_addPerson_3 : decode cX2_addPerson 3 = .ok (.iconst 5, 1) := dk_8 (dk_at dksX2_addPerson_0 3 rfl rfl)
theorem dX2_addPerson_4 : decode cX2_addPerson 4 = .ok (.invokestatic 72, 3) := dk_184 0 72 (dk_at dksX2_addPerson_0 4 rfl rfl)
theorem dX2_addPerson_7 : decode cX2_addPerson 7 = .ok (.ifCond .ne 7, 3) := dk_154 0 7 (dk_at dksX2_addPerson_0 7 rfl rfl)
theorem dX2_addPerson_10 : decode cX2_addPerson 10 = .ok (.iconst 1, 1) := dk_4 (dk_at dksX2_addPerson_0 10 rfl rfl)
theorem dX2_addPerson_11 : decode cX2_addPerson 11 = .ok (.goto 17, 3) := dk_167 0 17 (dk_at dksX2_addPerson_0 11 rfl rfl)
theorem dX2_addPerson_14 : decode cX2_addPerson 14 = .ok (.aload_n 0, 1) := dk_42 (dk_at dksX2_addPerson_0 14 rfl rfl)
theorem dX2_addPerson_15 : decode cX2_addPerson 15 = .ok (.getfield 69, 3) := dk_180 0 69 (dk_at dksX2_addPerson_0 15 rfl rfl)
theorem dX2_addPerson_18 : decode cX2_addPerson 18 = .ok (.bipush 16, 2) := dk_16 16 (dk_at dksX2_addPerson_0 18 rfl rfl)
theorem dX2_addPerson_20 : decode cX2_addPerson 20 = .ok (.if_icmp .ne 7, 3) := dk_160 0 7 (dk_at dksX2_addPerson_0 20 rfl rfl)
theorem dX2_addPerson_23 : decode cX2_addPerson 23 = .ok (.iconst 2, 1) := dk_5 (dk_at dksX2_addPerson_0 23 rfl rfl)
theorem dX2_addPerson_24 : decode cX2_addPerson 24 = .ok (.goto 4, 3) := dk_167 0 4 (dk_at dksX2_addPerson_1 0 rfl rfl)
theorem dX2_addPerson_27 : decode cX2_addPerson 27 = .ok (.iconst 0, 1) := dk_3 (dk_at dksX2_addPerson_1 3 rfl rfl)
theorem dX2_addPerson_28 : decode cX2_addPerson 28 = .ok (.putfield 66, 3) := dk_181 0 66 (dk_at dksX2_addPerson_1 4 rfl rfl)
theorem dX2_addPerson_31 : decode cX2_addPerson 31 = .ok (.aload_n 0, 1) := dk_42 (dk_at dksX2_addPerson_1 7 rfl rfl)
theorem dX2_addPerson_32 : decode cX2_addPerson 32 = .ok (.getfield 66, 3) := dk_180 0 66 (dk_at dksX2_addPerson_1 8 rfl rfl)
theorem dX2_addPerson_35 : decode cX2_addPerson 35 = .ok (.ifCond .le 5, 3) := dk_158 0 5 (dk_at dksX2_addPerson_1 11 rfl rfl)
theorem dX2_addPerson_38 : decode cX2_addPerson 38 = .ok (.iconst 0, 1) := dk_3 (dk_at dksX2_addPerson_1 14 rfl rfl)
theorem dX2_addPerson_39 : decode cX2_addPerson 39 = .ok (.ireturn, 1) := dk_172 (dk_at dksX2_addPerson_1 15 rfl rfl)
theorem dX2_addPerson_40 : decode cX2_addPerson 40 = .ok (.aload_n 0, 1) := dk_42 (dk_at dksX2_addPerson_1 16 rfl rfl)
theorem dX2_addPerson_41 : decode cX2_addPerson 41 = .ok (.getfield 7, 3) := dk_180 0 7 (dk_at dksX2_addPerson_1 17 rfl rfl)
theorem dX2_addPerson_44 : decode cX2_addPerson 44 = .ok (.aload_n 0, 1) := dk_42 (dk_at dksX2_addPerson_1 20 rfl rfl)
theorem dX2_addPerson_45 : decode cX2_addPerson 45 = .ok (.getfield 69, 3) := dk_180 0 69 (dk_at dksX2_addPerson_1 21 rfl rfl)
theorem dX2_addPerson_48 : decode cX2_addPerson 48 = .ok (.iload_n 1, 1) := dk_27 (dk_at dksX2_addPerson_2 0 rfl rfl)
theorem dX2_addPerson_49 : decode cX2_addPerson 49 = .ok (.iastore, 1) := dk_79 (dk_at dksX2_addPerson_2 1 rfl rfl)
theorem dX2_addPerson_50 : decode cX2_addPerson 50 = .ok (.aload_n 0, 1) := dk_42 (dk_at dksX2_addPerson_2 2 rfl rfl)
theorem dX2_addPerson_51 : decode cX2_addPerson 51 = .ok (.getfield 17, 3) := dk_180 0 17 (dk_at dksX2_addPerson_2 3 rfl rfl)
theorem dX2_addPerson_54 : decode cX2_addPerson 54 = .ok (.aload_n 0, 1) := dk_42 (dk_at dksX2_addPerson_2 6 rfl rfl)
theorem dX2_addPerson_55 : decode cX2_addPerson 55 = .ok (.getfield 69, 3) := dk_180 0 69 (dk_at dksX2_addPerson_2 7 rfl rfl)
theorem dX2_addPerson_58 : decode cX2_addPerson 58 = .ok (.iconst 5, 1) := dk_8 (dk_at dksX2_addPerson_2 10 rfl rfl)
theorem dX2_addPerson_59 : decode cX2_addPerson 59 = .ok (.iastore, 1) := dk_79 (dk_at dksX2_addPerson_2 11 rfl rfl)
theorem dX2_addPerson_60 : decode cX2_addPerson 60 = .ok (.aload_n 0, 1) := dk_42 (dk_at dksX2_addPerson_2 12 rfl rfl)
theorem dX2_addPerson_61 : decode cX2_addPerson 61 = .ok (.dup, 1) := dk_89 (dk_at dksX2_addPerson_2 13 rfl rfl)
theorem dX2_addPerson_62 : decode cX2_addPerson 62 = .ok (.getfield 69, 3) := dk_180 0 69 (dk_at dksX2_addPerson_2 14 rfl rfl)
theorem dX2_addPerson_65 : decode cX2_addPerson 65 = .ok (.iconst 1, 1) := dk_4 (dk_at dksX2_addPerson_2 17 rfl rfl)
theorem dX2_addPerson_66 : decode cX2_addPerson 66 = .ok (.iadd, 1) := dk_96 (dk_at dksX2_addPerson_2 18 rfl rfl)
theorem dX2_addPerson_67 : decode cX2_addPerson 67 = .ok (.putfield 69, 3) := dk_181 0 69 (dk_at dksX2_addPerson_2 19 rfl rfl)
theorem dX2_addPerson_70 : decode cX2_addPerson 70 = .ok (.aload_n 0, 1) := dk_42 (dk_at dksX2_addPerson_2 22 rfl rfl)
theorem dX2_addPerson_71 : decode cX2_addPerson 71 = .ok (.getfield 69, 3) := dk_180 0 69 (dk_at dksX2_addPerson_3 0 rfl rfl)
theorem dX2_addPerson_74 : decode cX2_addPerson 74 = .ok (.iconst 1, 1) := dk_4 (dk_at dksX2_addPerson_3 3 rfl rfl)
theorem dX2_addPerson_75 : decode cX2_addPerson 75 = .ok (.isub, 1) := dk_100 (dk_at dksX2_addPerson_3 4 rfl rfl)
theorem dX2_addPerson_76 : decode cX2_addPerson 76 = .ok (.ireturn, 1) := dk_172 (dk_at dksX2_addPerson_3 5 rfl rfl)
abbrev cX2_isBetween : ByteArray := prog_9_method_5_code
def yX2_isBetween : MethodName := ⟨RX2, "isBetween", "(III)Z"⟩
def dkwX2_isBetween_0 : List UInt8 := [26, 27, 161, 0, 12, 26, 28, 163, 0, 7, 4, 167, 0, 4, 3, 172]
abbrev dktX2_isBetween_0 : List UInt8 := dkwX2_isBetween_0 ++ []
theorem dksX2_isBetween_0 : cX2_isBetween.data.toList.drop 0 = dktX2_isBetween_0 := by decide +kernel
theorem dX2_isBetween_0 : decode cX2_isBetween 0 = .ok (.iload_n 0, 1) := dk_26 (dk_at dksX2_isBetween_0 0 rfl rfl)
theorem dX2_isBetween_1 : decode cX2_isBetween 1 = .ok (.iload_n 1, 1) := dk_27 (dk_at dksX2_isBetween_0 1 rfl rfl)
theorem dX2_isBetween_2 : decode cX2_isBetween 2 = .ok (.if_icmp .lt 12, 3) := dk_161 0 12 (dk_at dksX2_isBetween_0 2 rfl rfl)
theorem dX2_isBetween_5 : decode cX2_isBetween 5 = .ok (.iload_n 0, 1) := dk_26 (dk_at dksX2_isBetween_0 5 rfl rfl)
theorem dX2_isBetween_6 : decode cX2_isBetween 6 = .ok (.iload_n 2, 1) := dk_28 (dk_at dksX2_isBetween_0 6 rfl rfl)
theorem dX2_isBetween_7 : decode cX2_isBetween 7 = .ok (.if_icmp .gt 7, 3) := dk_163 0 7 (dk_at dksX2_isBetween_0 7 rfl rfl)
theorem dX2_isBetween_10 : decode cX2_isBetween 10 = .ok (.iconst 1, 1) := dk_4 (dk_at dksX2_isBetween_0 10 rfl rfl)
theorem dX2_isBetween_11 : decode cX2_isBetween 11 = .ok (.goto 4, 3) := dk_167 0 4 (dk_at dksX2_isBetween_0 11 rfl rfl)
theorem dX2_isBetween_14 : decode cX2_isBetween 14 = .ok (.iconst 0, 1) := dk_3 (dk_at dksX2_isBetween_0 14 rfl rfl)
theorem dX2_isBetween_15 : decode cX2_isBetween 15 = .ok (.ireturn, 1) := dk_172 (dk_at dksX2_isBetween_0 15 rfl rfl)
abbrev cX2_handIn : ByteArray := prog_9_method_13_code
def yX2_handIn : MethodName := ⟨RX2, "handIn", "(I)I"⟩
def dkwX2_handIn_2 : List UInt8 := [182, 0, 80, 172]
abbrev dktX2_handIn_2 : List UInt8 := dkwX2_handIn_2 ++ []
def dkwX2_handIn_1 : List UInt8 := [167, 0, 4, 3, 181, 0, 66, 42, 180, 0, 66, 158, 0, 5, 3, 172, 42, 180, 0, 13, 27, 4, 84, 42]
abbrev dktX2_handIn_1 : List UInt8 := dkwX2_handIn_1 ++ dktX2_handIn_2
def dkwX2_handIn_0 : List UInt8 := [42, 42, 27, 182, 0, 76, 154, 0, 7, 4, 167, 0, 17, 42, 180, 0, 13, 27, 51, 153, 0, 7, 5]
abbrev dktX2_handIn_0 : List UInt8 := dkwX2_handIn_0 ++ dktX2_handIn_1
theorem dksX2_handIn_0 : cX2_handIn.data.toList.drop 0 = dktX2_handIn_0 := by decide +kernel
theorem dksX2_handIn_1 : cX2_handIn.data.toList.drop 23 = dktX2_handIn_1 := dk_seg dksX2_handIn_0 23 rfl rfl
theorem dksX2_handIn_2 : cX2_handIn.data.toList.drop 47 = dktX2_handIn_2 := dk_seg dksX2_handIn_1 24 rfl rfl
theorem dX2_handIn_0 : decode cX2_handIn 0 = .ok (.aload_n 0, 1) := dk_42 (dk_at dksX2_handIn_0 0 rfl rfl)
theorem dX2_handIn_1 : decode cX2_handIn 1 = .ok (.aload_n 0, 1) := dk_42 (dk_at dksX2_handIn_0 1 rfl rfl)
theorem dX2_handIn_2 : decode cX2_handIn 2 = .ok (.iload_n 1, 1) := dk_27 (dk_at dksX2_handIn_0 2 rfl rfl)
theorem dX2_handIn_3 : decode cX2_handIn 3 = .ok (.invokevirtual 76, 3) := dk_182 0 76 (dk_at dksX2_handIn_0 3 rfl rfl)
theorem dX2_handIn_6 : decode cX2_handIn 6 = .ok (.ifCond .ne 7, 3) := dk_154 0 7 (dk_at dksX2_handIn_0 6 rfl rfl)
theorem dX2_handIn_9 : decode cX2_handIn 9 = .ok (.iconst 1, 1) := dk_4 (dk_at dksX2_handIn_0 9 rfl rfl)
theorem dX2_handIn_10 : decode cX2_handIn 10 = .ok (.goto 17, 3) := dk_167 0 17 (dk_at dksX2_handIn_0 10 rfl rfl)
theorem dX2_handIn_13 : decode cX2_handIn 13 = .ok (.aload_n 0, 1) := dk_42 (dk_at dksX2_handIn_0 13 rfl rfl)
theorem dX2_handIn_14 : decode cX2_handIn 14 = .ok (.getfield 13, 3) := dk_180 0 13 (dk_at dksX2_handIn_0 14 rfl rfl)
theorem dX2_handIn_17 : decode cX2_handIn 17 = .ok (.iload_n 1, 1) := dk_27 (dk_at dksX2_handIn_0 17 rfl rfl)
theorem dX2_handIn_18 : decode cX2_handIn 18 = .ok (.baload, 1) := dk_51 (dk_at dksX2_handIn_0 18 rfl rfl)
theorem dX2_handIn_19 : decode cX2_handIn 19 = .ok (.ifCond .eq 7, 3) := dk_153 0 7 (dk_at dksX2_handIn_0 19 rfl rfl)
theorem dX2_handIn_22 : decode cX2_handIn 22 = .ok (.iconst 2, 1) := dk_5 (dk_at dksX2_handIn_0 22 rfl rfl)
theorem dX2_handIn_23 : decode cX2_handIn 23 = .ok (.goto 4, 3) := dk_167 0 4 (dk_at dksX2_handIn_1 0 rfl rfl)
theorem dX2_handIn_26 : decode cX2_handIn 26 = .ok (.iconst 0, 1) := dk_3 (dk_at dksX2_handIn_1 3 rfl rfl)
theorem dX2_handIn_27 : decode cX2_handIn 27 = .ok (.putfield 66, 3) := dk_181 0 66 (dk_at dksX2_handIn_1 4 rfl rfl)
theorem dX2_handIn_30 : decode cX2_handIn 30 = .ok (.aload_n 0, 1) := dk_42 (dk_at dksX2_handIn_1 7 rfl rfl)
theorem dX2_handIn_31 : decode cX2_handIn 31 = .ok (.getfield 66, 3) := dk_180 0 66 (dk_at dksX2_handIn_1 8 rfl rfl)
theorem dX2_handIn_34 : decode cX2_handIn 34 = .ok (.ifCond .le 5, 3) := dk_158 0 5 (dk_at dksX2_handIn_1 11 rfl rfl)
theorem dX2_handIn_37 : decode cX2_handIn 37 = .ok (.iconst 0, 1) := dk_3 (dk_at dksX2_handIn_1 14 rfl rfl)
theorem dX2_handIn_38 : decode cX2_handIn 38 = .ok (.ireturn, 1) := dk_172 (dk_at dksX2_handIn_1 15 rfl rfl)
theorem dX2_handIn_39 : decode cX2_handIn 39 = .ok (.aload_n 0, 1) := dk_42 (dk_at dksX2_handIn_1 16 rfl rfl)
theorem dX2_handIn_40 : decode cX2_handIn 40 = .ok (.getfield 13, 3) := dk_180 0 13 (dk_at dksX2_handIn_1 17 rfl rfl)
theorem dX2_handIn_43 : decode cX2_handIn 43 = .ok (.iload_n 1, 1) := dk_27 (dk_at dksX2_handIn_1 20 rfl rfl)
theorem dX2_handIn_44 : decode cX2_handIn 44 = .ok (.iconst 1, 1) := dk_4 (dk_at dksX2_handIn_1 21 rfl rfl)
theorem dX2_handIn_45 : decode cX2_handIn 45 = .ok (.bastore, 1) := dk_84 (dk_at dksX2_handIn_1 22 rfl rfl)
theorem dX2_handIn_46 : decode cX2_handIn 46 = .ok (.aload_n 0, 1) := dk_42 (dk_at dksX2_handIn_1 23 rfl rfl)
theorem dX2_handIn_47 : decode cX2_handIn 47 = .ok (.invokevirtual 80, 3) := dk_182 0 80 (dk_at dksX2_handIn_2 0 rfl rfl)
theorem dX2_handIn_50 : decode cX2_handIn 50 = .ok (.ireturn, 1) := dk_172 (dk_at dksX2_handIn_2 3 rfl rfl)
abbrev cX2_isPerson : ByteArray := prog_9_method_6_code
def yX2_isPerson : MethodName := ⟨RX2, "isPerson", "(I)Z"⟩
def dkwX2_isPerson_0 : List UInt8 := [27, 3, 42, 180, 0, 69, 4, 100, 184, 0, 72, 172]
abbrev dktX2_isPerson_0 : List UInt8 := dkwX2_isPerson_0 ++ []
theorem dksX2_isPerson_0 : cX2_isPerson.data.toList.drop 0 = dktX2_isPerson_0 := by decide +kernel
theorem dX2_isPerson_0 : decode cX2_isPerson 0 = .ok (.iload_n 1, 1) := dk_27 (dk_at dksX2_isPerson_0 0 rfl rfl)
theorem dX2_isPerson_1 : decode cX2_isPerson 1 = .ok (.iconst 0, 1) := dk_3 (dk_at dksX2_isPerson_0 1 rfl rfl)
theorem dX2_isPerson_2 : decode cX2_isPerson 2 = .ok (.aload_n 0, 1) := dk_42 (dk_at dksX2_isPerson_0 2 rfl rfl)
theorem dX2_isPerson_3 : decode cX2_isPerson 3 = .ok (.getfield 69, 3) := dk_180 0 69 (dk_at dksX2_isPerson_0 3 rfl rfl)
theorem dX2_isPerson_6 : decode cX2_isPerson 6 = .ok (.iconst 1, 1) := dk_4 (dk_at dksX2_isPerson_0 6 rfl rfl)
theorem dX2_isPerson_7 : decode cX2_isPerson 7 = .ok (.isub, 1) := dk_100 (dk_at dksX2_isPerson_0 7 rfl rfl)
theorem dX2_isPerson_8 : decode cX2_isPerson 8 = .ok (.invokestatic 72, 3) := dk_184 0 72 (dk_at dksX2_isPerson_0 8 rfl rfl)
theorem dX2_isPerson_11 : decode cX2_isPerson 11 = .ok (.ireturn, 1) := dk_172 (dk_at dksX2_isPerson_0 11 rfl rfl)
abbrev cX2_countWorks : ByteArray := prog_9_method_12_code
def yX2_countWorks : MethodName := ⟨RX2, "countWorks", "()I"⟩
def dkwX2_countWorks_1 : List UInt8 := [167, 0, 4, 3, 96, 60, 132, 2, 1, 167, 255, 228, 27, 172]
abbrev dktX2_countWorks_1 : List UInt8 := dkwX2_countWorks_1 ++ []
def dkwX2_countWorks_0 : List UInt8 := [3, 60, 3, 61, 28, 42, 180, 0, 69, 162, 0, 26, 27, 42, 180, 0, 13, 28, 51, 153, 0, 7, 4]
abbrev dktX2_countWorks_0 : List UInt8 := dkwX2_countWorks_0 ++ dktX2_countWorks_1
theorem dksX2_countWorks_0 : cX2_countWorks.data.toList.drop 0 = dktX2_countWorks_0 := by decide +kernel
theorem dksX2_countWorks_1 : cX2_countWorks.data.toList.drop 23 = dktX2_countWorks_1 := dk_seg dksX2_countWorks_0 23 rfl rfl
theorem dX2_countWorks_0 : decode cX2_countWorks 0 = .ok (.iconst 0, 1) := dk_3 (dk_at dksX2_countWorks_0 0 rfl rfl)
theorem dX2_countWorks_1 : decode cX2_countWorks 1 = .ok (.istore_n 1, 1) := dk_60 (dk_at dksX2_countWorks_0 1 rfl rfl)
theorem dX2_countWorks_2 : decode cX2_countWorks 2 = .ok (.iconst 0, 1) := dk_3 (dk_at dksX2_countWorks_0 2 rfl rfl)
theorem dX2_countWorks_3 : decode cX2_countWorks 3 = .ok (.istore_n 2, 1) := dk_61 (dk_at dksX2_countWorks_0 3 rfl rfl)
theorem dX2_countWorks_4 : decode cX2_countWorks 4 = .ok (.iload_n 2, 1) := dk_28 (dk_at dksX2_countWorks_0 4 rfl rfl)
theorem dX2_countWorks_5 : decode cX2_countWorks 5 = .ok (.aload_n 0, 1) := dk_42 (dk_at dksX2_countWorks_0 5 rfl rfl)
theorem dX2_countWorks_6 : decode cX2_countWorks 6 = .ok (.getfield 69, 3) := dk_180 0 69 (dk_at dksX2_countWorks_0 6 rfl rfl)
theorem dX2_countWorks_9 : decode cX2_countWorks 9 = .ok (.if_icmp .ge 26, 3) := dk_162 0 26 (dk_at dksX2_countWorks_0 9 rfl rfl)
theorem dX2_countWorks_12 : decode cX2_countWorks 12 = .ok (.iload_n 1, 1) := dk_27 (dk_at dksX2_countWorks_0 12 rfl rfl)
theorem dX2_countWorks_13 : decode cX2_countWorks 13 = .ok (.aload_n 0, 1) := dk_42 (dk_at dksX2_countWorks_0 13 rfl rfl)
theorem dX2_countWorks_14 : decode cX2_countWorks 14 = .ok (.getfield 13, 3) := dk_180 0 13 (dk_at dksX2_countWorks_0 14 rfl rfl)
theorem dX2_countWorks_17 : decode cX2_countWorks 17 = .ok (.iload_n 2, 1) := dk_28 (dk_at dksX2_countWorks_0 17 rfl rfl)
theorem dX2_countWorks_18 : decode cX2_countWorks 18 = .ok (.baload, 1) := dk_51 (dk_at dksX2_countWorks_0 18 rfl rfl)
theorem dX2_countWorks_19 : decode cX2_countWorks 19 = .ok (.ifCond .eq 7, 3) := dk_153 0 7 (dk_at dksX2_countWorks_0 19 rfl rfl)
theorem dX2_countWorks_22 : decode cX2_countWorks 22 = .ok (.iconst 1, 1) := dk_4 (dk_at dksX2_countWorks_0 22 rfl rfl)
theorem dX2_countWorks_23 : decode cX2_countWorks 23 = .ok (.goto 4, 3) := dk_167 0 4 (dk_at dksX2_countWorks_1 0 rfl rfl)
theorem dX2_countWorks_26 : decode cX2_countWorks 26 = .ok (.iconst 0, 1) := dk_3 (dk_at dksX2_countWorks_1 3 rfl rfl)
theorem dX2_countWorks_27 : decode cX2_countWorks 27 = .ok (.iadd, 1) := dk_96 (dk_at dksX2_countWorks_1 4 rfl rfl)
theorem dX2_countWorks_28 : decode cX2_countWorks 28 = .ok (.istore_n 1, 1) := dk_60 (dk_at dksX2_countWorks_1 5 rfl rfl)
theorem dX2_countWorks_29 : decode cX2_countWorks 29 = .ok (.iinc 2 1, 3) := dk_132 2 1 (dk_at dksX2_countWorks_1 6 rfl rfl)
theorem dX2_countWorks_32 : decode cX2_countWorks 32 = .ok (.goto (-28), 3) := dk_167 255 228 (dk_at dksX2_countWorks_1 9 rfl rfl)
theorem dX2_countWorks_35 : decode cX2_countWorks 35 = .ok (.iload_n 1, 1) := dk_27 (dk_at dksX2_countWorks_1 12 rfl rfl)
theorem dX2_countWorks_36 : decode cX2_countWorks 36 = .ok (.ireturn, 1) := dk_172 (dk_at dksX2_countWorks_1 13 rfl rfl)
abbrev cX2_setDue : ByteArray := prog_9_method_14_code
def yX2_setDue : MethodName := ⟨RX2, "setDue", "(I)I"⟩
def dkwX2_setDue_1 : List UInt8 := [27, 181, 0, 44, 28, 172]
abbrev dktX2_setDue_1 : List UInt8 := dkwX2_setDue_1 ++ []
def dkwX2_setDue_0 : List UInt8 := [42, 3, 181, 0, 66, 27, 184, 0, 84, 154, 0, 9, 42, 4, 182, 0, 87, 172, 42, 180, 0, 44, 61, 42]
abbrev dktX2_setDue_0 : List UInt8 := dkwX2_setDue_0 ++ dktX2_setDue_1
theorem dksX2_setDue_0 : cX2_setDue.data.toList.drop 0 = dktX2_setDue_0 := by decide +kernel
theorem dksX2_setDue_1 : cX2_setDue.data.toList.drop 24 = dktX2_setDue_1 := dk_seg dksX2_setDue_0 24 rfl rfl
theorem dX2_setDue_0 : decode cX2_setDue 0 = .ok (.aload_n 0, 1) := dk_42 (dk_at dksX2_setDue_0 0 rfl rfl)
theorem dX2_setDue_1 : decode cX2_setDue 1 = .ok (.iconst 0, 1) := dk_3 (dk_at dksX2_setDue_0 1 rfl rfl)
theorem dX2_setDue_2 : decode cX2_setDue 2 = .ok (.putfield 66, 3) := dk_181 0 66 (dk_at dksX2_setDue_0 2 rfl rfl)
theorem dX2_setDue_5 : decode cX2_setDue 5 = .ok (.iload_n 1, 1) := dk_27 (dk_at dksX2_setDue_0 5 rfl rfl)
theorem dX2_setDue_6 : decode cX2_setDue 6 = .ok (.invokestatic 84, 3) := dk_184 0 84 (dk_at dksX2_setDue_0 6 rfl rfl)
theorem dX2_setDue_9 : decode cX2_setDue 9 = .ok (.ifCond .ne 9, 3) := dk_154 0 9 (dk_at dksX2_setDue_0 9 rfl rfl)
theorem dX2_setDue_12 : decode cX2_setDue 12 = .ok (.aload_n 0, 1) := dk_42 (dk_at dksX2_setDue_0 12 rfl rfl)
theorem dX2_setDue_13 : decode cX2_setDue 13 = .ok (.iconst 1, 1) := dk_4 (dk_at dksX2_setDue_0 13 rfl rfl)
theorem dX2_setDue_14 : decode cX2_setDue 14 = .ok (.invokevirtual 87, 3) := dk_182 0 87 (dk_at dksX2_setDue_0 14 rfl rfl)
theorem dX2_setDue_17 : decode cX2_setDue 17 = .ok (.ireturn, 1) := dk_172 (dk_at dksX2_setDue_0 17 rfl rfl)
theorem dX2_setDue_18 : decode cX2_setDue 18 = .ok (.aload_n 0, 1) := dk_42 (dk_at dksX2_setDue_0 18 rfl rfl)
theorem dX2_setDue_19 : decode cX2_setDue 19 = .ok (.getfield 44, 3) := dk_180 0 44 (dk_at dksX2_setDue_0 19 rfl rfl)
theorem dX2_setDue_22 : decode cX2_setDue 22 = .ok (.istore_n 2, 1) := dk_61 (dk_at dksX2_setDue_0 22 rfl rfl)
theorem dX2_setDue_23 : decode cX2_setDue 23 = .ok (.aload_n 0, 1) := dk_42 (dk_at dksX2_setDue_0 23 rfl rfl)
theorem dX2_setDue_24 : decode cX2_setDue 24 = .ok (.iload_n 1, 1) := dk_27 (dk_at dksX2_setDue_1 0 rfl rfl)
theorem dX2_setDue_25 : decode cX2_setDue 25 = .ok (.putfield 44, 3) := dk_181 0 44 (dk_at dksX2_setDue_1 1 rfl rfl)
theorem dX2_setDue_28 : decode cX2_setDue 28 = .ok (.iload_n 2, 1) := dk_28 (dk_at dksX2_setDue_1 4 rfl rfl)
theorem dX2_setDue_29 : decode cX2_setDue 29 = .ok (.ireturn, 1) := dk_172 (dk_at dksX2_setDue_1 5 rfl rfl)
abbrev cX2_isDay : ByteArray := prog_9_method_9_code
def yX2_isDay : MethodName := ⟨RX2, "isDay", "(I)Z"⟩
def dkwX2_isDay_0 : List UInt8 := [26, 3, 16, 99, 184, 0, 72, 172]
abbrev dktX2_isDay_0 : List UInt8 := dkwX2_isDay_0 ++ []
theorem dksX2_isDay_0 : cX2_isDay.data.toList.drop 0 = dktX2_isDay_0 := by decide +kernel
theorem dX2_isDay_0 : decode cX2_isDay 0 = .ok (.iload_n 0, 1) := dk_26 (dk_at dksX2_isDay_0 0 rfl rfl)
theorem dX2_isDay_1 : decode cX2_isDay 1 = .ok (.iconst 0, 1) := dk_3 (dk_at dksX2_isDay_0 1 rfl rfl)
theorem dX2_isDay_2 : decode cX2_isDay 2 = .ok (.bipush 99, 2) := dk_16 99 (dk_at dksX2_isDay_0 2 rfl rfl)
theorem dX2_isDay_4 : decode cX2_isDay 4 = .ok (.invokestatic 72, 3) := dk_184 0 72 (dk_at dksX2_isDay_0 4 rfl rfl)
theorem dX2_isDay_7 : decode cX2_isDay 7 = .ok (.ireturn, 1) := dk_172 (dk_at dksX2_isDay_0 7 rfl rfl)
abbrev cX2_fail : ByteArray := prog_9_method_3_code
def yX2_fail : MethodName := ⟨RX2, "fail", "(I)I"⟩
def dkwX2_fail_0 : List UInt8 := [42, 27, 181, 0, 66, 3, 172]
abbrev dktX2_fail_0 : List UInt8 := dkwX2_fail_0 ++ []
theorem dksX2_fail_0 : cX2_fail.data.toList.drop 0 = dktX2_fail_0 := by decide +kernel
theorem dX2_fail_0 : decode cX2_fail 0 = .ok (.aload_n 0, 1) := dk_42 (dk_at dksX2_fail_0 0 rfl rfl)
theorem dX2_fail_1 : decode cX2_fail 1 = .ok (.iload_n 1, 1) := dk_27 (dk_at dksX2_fail_0 1 rfl rfl)
theorem dX2_fail_2 : decode cX2_fail 2 = .ok (.putfield 66, 3) := dk_181 0 66 (dk_at dksX2_fail_0 2 rfl rfl)
theorem dX2_fail_5 : decode cX2_fail 5 = .ok (.iconst 0, 1) := dk_3 (dk_at dksX2_fail_0 5 rfl rfl)
theorem dX2_fail_6 : decode cX2_fail 6 = .ok (.ireturn, 1) := dk_172 (dk_at dksX2_fail_0 6 rfl rfl)
abbrev cX2_setTolerance : ByteArray := prog_9_method_15_code
def yX2_setTolerance : MethodName := ⟨RX2, "setTolerance", "(I)I"⟩
def dkwX2_setTolerance_1 : List UInt8 := [27, 181, 0, 48, 28, 172]
abbrev dktX2_setTolerance_1 : List UInt8 := dkwX2_setTolerance_1 ++ []
def dkwX2_setTolerance_0 : List UInt8 := [42, 3, 181, 0, 66, 27, 184, 0, 91, 154, 0, 9, 42, 4, 182, 0, 87, 172, 42, 180, 0, 48, 61, 42]
abbrev dktX2_setTolerance_0 : List UInt8 := dkwX2_setTolerance_0 ++ dktX2_setTolerance_1
theorem dksX2_setTolerance_0 : cX2_setTolerance.data.toList.drop 0 = dktX2_setTolerance_0 := by decide +kernel
theorem dksX2_setTolerance_1 : cX2_setTolerance.data.toList.drop 24 = dktX2_setTolerance_1 := dk_seg dksX2_setTolerance_0 24 rfl rfl
theorem dX2_setTolerance_0 : decode cX2_setTolerance 0 = .ok (.aload_n 0, 1) := dk_42 (dk_at dksX2_setTolerance_0 0 rfl rfl)
theorem dX2_setTolerance_1 : decode cX2_setTolerance 1 = .ok (.iconst 0, 1) := dk_3 (dk_at dksX2_setTolerance_0 1 rfl rfl)
theorem dX2_setTolerance_2 : decode cX2_setTolerance 2 = .ok (.putfield 66, 3) := dk_181 0 66 (dk_at dksX2_setTolerance_0 2 rfl rfl)
theorem dX2_setTolerance_5 : decode cX2_setTolerance 5 = .ok (.iload_n 1, 1) := dk_27 (dk_at dksX2_setTolerance_0 5 rfl rfl)
theorem dX2_setTolerance_6 : decode cX2_setTolerance 6 = .ok (.invokestatic 91, 3) := dk_184 0 91 (dk_at dksX2_setTolerance_0 6 rfl rfl)
theorem dX2_setTolerance_9 : decode cX2_setTolerance 9 = .ok (.ifCond .ne 9, 3) := dk_154 0 9 (dk_at dksX2_setTolerance_0 9 rfl rfl)
theorem dX2_setTolerance_12 : decode cX2_setTolerance 12 = .ok (.aload_n 0, 1) := dk_42 (dk_at dksX2_setTolerance_0 12 rfl rfl)
theorem dX2_setTolerance_13 : decode cX2_setTolerance 13 = .ok (.iconst 1, 1) := dk_4 (dk_at dksX2_setTolerance_0 13 rfl rfl)
theorem dX2_setTolerance_14 : decode cX2_setTolerance 14 = .ok (.invokevirtual 87, 3) := dk_182 0 87 (dk_at dksX2_setTolerance_0 14 rfl rfl)
theorem dX2_setTolerance_17 : decode cX2_setTolerance 17 = .ok (.ireturn, 1) := dk_172 (dk_at dksX2_setTolerance_0 17 rfl rfl)
theorem dX2_setTolerance_18 : decode cX2_setTolerance 18 = .ok (.aload_n 0, 1) := dk_42 (dk_at dksX2_setTolerance_0 18 rfl rfl)
theorem dX2_setTolerance_19 : decode cX2_setTolerance 19 = .ok (.getfield 48, 3) := dk_180 0 48 (dk_at dksX2_setTolerance_0 19 rfl rfl)
theorem dX2_setTolerance_22 : decode cX2_setTolerance 22 = .ok (.istore_n 2, 1) := dk_61 (dk_at dksX2_setTolerance_0 22 rfl rfl)
theorem dX2_setTolerance_23 : decode cX2_setTolerance 23 = .ok (.aload_n 0, 1) := dk_42 (dk_at dksX2_setTolerance_0 23 rfl rfl)
theorem dX2_setTolerance_24 : decode cX2_setTolerance 24 = .ok (.iload_n 1, 1) := dk_27 (dk_at dksX2_setTolerance_1 0 rfl rfl)
theorem dX2_setTolerance_25 : decode cX2_setTolerance 25 = .ok (.putfield 48, 3) := dk_181 0 48 (dk_at dksX2_setTolerance_1 1 rfl rfl)
theorem dX2_setTolerance_28 : decode cX2_setTolerance 28 = .ok (.iload_n 2, 1) := dk_28 (dk_at dksX2_setTolerance_1 4 rfl rfl)
theorem dX2_setTolerance_29 : decode cX2_setTolerance 29 = .ok (.ireturn, 1) := dk_172 (dk_at dksX2_setTolerance_1 5 rfl rfl)
abbrev cX2_isMark : ByteArray := prog_9_method_8_code
def yX2_isMark : MethodName := ⟨RX2, "isMark", "(I)Z"⟩
def dkwX2_isMark_0 : List UInt8 := [26, 3, 16, 100, 184, 0, 72, 172]
abbrev dktX2_isMark_0 : List UInt8 := dkwX2_isMark_0 ++ []
theorem dksX2_isMark_0 : cX2_isMark.data.toList.drop 0 = dktX2_isMark_0 := by decide +kernel
theorem dX2_isMark_0 : decode cX2_isMark 0 = .ok (.iload_n 0, 1) := dk_26 (dk_at dksX2_isMark_0 0 rfl rfl)
theorem dX2_isMark_1 : decode cX2_isMark 1 = .ok (.iconst 0, 1) := dk_3 (dk_at dksX2_isMark_0 1 rfl rfl)
theorem dX2_isMark_2 : decode cX2_isMark 2 = .ok (.bipush 100, 2) := dk_16 100 (dk_at dksX2_isMark_0 2 rfl rfl)
theorem dX2_isMark_4 : decode cX2_isMark 4 = .ok (.invokestatic 72, 3) := dk_184 0 72 (dk_at dksX2_isMark_0 4 rfl rfl)
theorem dX2_isMark_7 : decode cX2_isMark 7 = .ok (.ireturn, 1) := dk_172 (dk_at dksX2_isMark_0 7 rfl rfl)
abbrev cX2_people : ByteArray := prog_9_method_16_code
def yX2_people : MethodName := ⟨RX2, "people", "()I"⟩
def dkwX2_people_0 : List UInt8 := [42, 42, 180, 0, 69, 182, 0, 94, 172]
abbrev dktX2_people_0 : List UInt8 := dkwX2_people_0 ++ []
theorem dksX2_people_0 : cX2_people.data.toList.drop 0 = dktX2_people_0 := by decide +kernel
theorem dX2_people_0 : decode cX2_people 0 = .ok (.aload_n 0, 1) := dk_42 (dk_at dksX2_people_0 0 rfl rfl)
theorem dX2_people_1 : decode cX2_people 1 = .ok (.aload_n 0, 1) := dk_42 (dk_at dksX2_people_0 1 rfl rfl)
theorem dX2_people_2 : decode cX2_people 2 = .ok (.getfield 69, 3) := dk_180 0 69 (dk_at dksX2_people_0 2 rfl rfl)
theorem dX2_people_5 : decode cX2_people 5 = .ok (.invokevirtual 94, 3) := dk_182 0 94 (dk_at dksX2_people_0 5 rfl rfl)
theorem dX2_people_8 : decode cX2_people 8 = .ok (.ireturn, 1) := dk_172 (dk_at dksX2_people_0 8 rfl rfl)
abbrev cX2_tell : ByteArray := prog_9_method_4_code
def yX2_tell : MethodName := ⟨RX2, "tell", "(I)I"⟩
def dkwX2_tell_0 : List UInt8 := [42, 3, 181, 0, 66, 27, 172]
abbrev dktX2_tell_0 : List UInt8 := dkwX2_tell_0 ++ []
theorem dksX2_tell_0 : cX2_tell.data.toList.drop 0 = dktX2_tell_0 := by decide +kernel
theorem dX2_tell_0 : decode cX2_tell 0 = .ok (.aload_n 0, 1) := dk_42 (dk_at dksX2_tell_0 0 rfl rfl)
theorem dX2_tell_1 : decode cX2_tell 1 = .ok (.iconst 0, 1) := dk_3 (dk_at dksX2_tell_0 1 rfl rfl)
theorem dX2_tell_2 : decode cX2_tell 2 = .ok (.putfield 66, 3) := dk_181 0 66 (dk_at dksX2_tell_0 2 rfl rfl)
theorem dX2_tell_5 : decode cX2_tell 5 = .ok (.iload_n 1, 1) := dk_27 (dk_at dksX2_tell_0 5 rfl rfl)
theorem dX2_tell_6 : decode cX2_tell 6 = .ok (.ireturn, 1) := dk_172 (dk_at dksX2_tell_0 6 rfl rfl)
abbrev cX2_works : ByteArray := prog_9_method_17_code
def yX2_works : MethodName := ⟨RX2, "works", "()I"⟩
def dkwX2_works_0 : List UInt8 := [42, 42, 182, 0, 80, 182, 0, 94, 172]
abbrev dktX2_works_0 : List UInt8 := dkwX2_works_0 ++ []
theorem dksX2_works_0 : cX2_works.data.toList.drop 0 = dktX2_works_0 := by decide +kernel
theorem dX2_works_0 : decode cX2_works 0 = .ok (.aload_n 0, 1) := dk_42 (dk_at dksX2_works_0 0 rfl rfl)
theorem dX2_works_1 : decode cX2_works 1 = .ok (.aload_n 0, 1) := dk_42 (dk_at dksX2_works_0 1 rfl rfl)
theorem dX2_works_2 : decode cX2_works 2 = .ok (.invokevirtual 80, 3) := dk_182 0 80 (dk_at dksX2_works_0 2 rfl rfl)
theorem dX2_works_5 : decode cX2_works 5 = .ok (.invokevirtual 94, 3) := dk_182 0 94 (dk_at dksX2_works_0 5 rfl rfl)
theorem dX2_works_8 : decode cX2_works 8 = .ok (.ireturn, 1) := dk_172 (dk_at dksX2_works_0 8 rfl rfl)
abbrev cX2_share : ByteArray := prog_9_method_23_code
def yX2_share : MethodName := ⟨RX2, "share", "(I)I"⟩
def dkwX2_share_4 : List UInt8 := [132, 2, 1, 132, 3, 1, 167, 255, 180, 28, 172]
abbrev dktX2_share_4 : List UInt8 := dkwX2_share_4 ++ []
def dkwX2_share_3 : List UInt8 := [2, 54, 5, 21, 5, 2, 159, 0, 19, 42, 180, 0, 29, 21, 5, 21, 4, 184, 0, 101, 4, 84]
abbrev dktX2_share_3 : List UInt8 := dkwX2_share_3 ++ dktX2_share_4
def dkwX2_share_2 : List UInt8 := [51, 153, 0, 23, 42, 21, 4, 182, 0, 111, 27, 162, 0, 13, 42, 21, 4, 3, 182, 0, 114, 167, 0, 4]
abbrev dktX2_share_2 : List UInt8 := dkwX2_share_2 ++ dktX2_share_3
def dkwX2_share_1 : List UInt8 := [29, 27, 42, 180, 0, 69, 104, 162, 0, 72, 29, 42, 180, 0, 69, 112, 54, 4, 42, 180, 0, 13, 21, 4]
abbrev dktX2_share_1 : List UInt8 := dkwX2_share_1 ++ dktX2_share_2
def dkwX2_share_0 : List UInt8 := [42, 3, 181, 0, 66, 27, 4, 8, 184, 0, 72, 154, 0, 9, 42, 4, 182, 0, 87, 172, 3, 61, 3, 62]
abbrev dktX2_share_0 : List UInt8 := dkwX2_share_0 ++ dktX2_share_1
theorem dksX2_share_0 : cX2_share.data.toList.drop 0 = dktX2_share_0 := by decide +kernel
theorem dksX2_share_1 : cX2_share.data.toList.drop 24 = dktX2_share_1 := dk_seg dksX2_share_0 24 rfl rfl
theorem dksX2_share_2 : cX2_share.data.toList.drop 48 = dktX2_share_2 := dk_seg dksX2_share_1 24 rfl rfl
theorem dksX2_share_3 : cX2_share.data.toList.drop 72 = dktX2_share_3 := dk_seg dksX2_share_2 24 rfl rfl
theorem dksX2_share_4 : cX2_share.data.toList.drop 94 = dktX2_share_4 := dk_seg dksX2_share_3 22 rfl rfl
theorem dX2_share_0 : decode cX2_share 0 = .ok (.aload_n 0, 1) := dk_42 (dk_at dksX2_share_0 0 rfl rfl)
theorem dX2_share_1 : decode cX2_share 1 = .ok (.iconst 0, 1) := dk_3 (dk_at dksX2_share_0 1 rfl rfl)
theorem dX2_share_2 : decode cX2_share 2 = .ok (.putfield 66, 3) := dk_181 0 66 (dk_at dksX2_share_0 2 rfl rfl)
theorem dX2_share_5 : decode cX2_share 5 = .ok (.iload_n 1, 1) := dk_27 (dk_at dksX2_share_0 5 rfl rfl)
theorem dX2_share_6 : decode cX2_share 6 = .ok (.iconst 1, 1) := dk_4 (dk_at dksX2_share_0 6 rfl rfl)
theorem dX2_share_7 : decode cX2_share 7 = .ok (.iconst 5, 1) := dk_8 (dk_at dksX2_share_0 7 rfl rfl)
theorem dX2_share_8 : decode cX2_share 8 = .ok (.invokestatic 72, 3) := dk_184 0 72 (dk_at dksX2_share_0 8 rfl rfl)
theorem dX2_share_11 : decode cX2_share 11 = .ok (.ifCond .ne 9, 3) := dk_154 0 9 (dk_at dksX2_share_0 11 rfl rfl)
theorem dX2_share_14 : decode cX2_share 14 = .ok (.aload_n 0, 1) := dk_42 (dk_at dksX2_share_0 14 rfl rfl)
theorem dX2_share_15 : decode cX2_share 15 = .ok (.iconst 1, 1) := dk_4 (dk_at dksX2_share_0 15 rfl rfl)
theorem dX2_share_16 : decode cX2_share 16 = .ok (.invokevirtual 87, 3) := dk_182 0 87 (dk_at dksX2_share_0 16 rfl rfl)
theorem dX2_share_19 : decode cX2_share 19 = .ok (.ireturn, 1) := dk_172 (dk_at dksX2_share_0 19 rfl rfl)
theorem dX2_share_20 : decode cX2_share 20 = .ok (.iconst 0, 1) := dk_3 (dk_at dksX2_share_0 20 rfl rfl)
theorem dX2_share_21 : decode cX2_share 21 = .ok (.istore_n 2, 1) := dk_61 (dk_at dksX2_share_0 21 rfl rfl)
theorem dX2_share_22 : decode cX2_share 22 = .ok (.iconst 0, 1) := dk_3 (dk_at dksX2_share_0 22 rfl rfl)
theorem dX2_share_23 : decode cX2_share 23 = .ok (.istore_n 3, 1) := dk_62 (dk_at dksX2_share_0 23 rfl rfl)
theorem dX2_share_24 : decode cX2_share 24 = .ok (.iload_n 3, 1) := dk_29 (dk_at dksX2_share_1 0 rfl rfl)
theorem dX2_share_25 : decode cX2_share 25 = .ok (.iload_n 1, 1) := dk_27 (dk_at dksX2_share_1 1 rfl rfl)
theorem dX2_share_26 : decode cX2_share 26 = .ok (.aload_n 0, 1) := dk_42 (dk_at dksX2_share_1 2 rfl rfl)
theorem dX2_share_27 : decode cX2_share 27 = .ok (.getfield 69, 3) := dk_180 0 69 (dk_at dksX2_share_1 3 rfl rfl)
theorem dX2_share_30 : decode cX2_share 30 = .ok (.imul, 1) := dk_104 (dk_at dksX2_share_1 6 rfl rfl)
theorem dX2_share_31 : decode cX2_share 31 = .ok (.if_icmp .ge 72, 3) := dk_162 0 72 (dk_at dksX2_share_1 7 rfl rfl)
theorem dX2_share_34 : decode cX2_share 34 = .ok (.iload_n 3, 1) := dk_29 (dk_at dksX2_share_1 10 rfl rfl)
theorem dX2_share_35 : decode cX2_share 35 = .ok (.aload_n 0, 1) := dk_42 (dk_at dksX2_share_1 11 rfl rfl)
theorem dX2_share_36 : decode cX2_share 36 = .ok (.getfield 69, 3) := dk_180 0 69 (dk_at dksX2_share_1 12 rfl rfl)
theorem dX2_share_39 : decode cX2_share 39 = .ok (.irem, 1) := dk_112 (dk_at dksX2_share_1 15 rfl rfl)
theorem dX2_share_40 : decode cX2_share 40 = .ok (.istore 4, 2) := dk_54 4 (dk_at dksX2_share_1 16 rfl rfl)
theorem dX2_share_42 : decode cX2_share 42 = .ok (.aload_n 0, 1) := dk_42 (dk_at dksX2_share_1 18 rfl rfl)
theorem dX2_share_43 : decode cX2_share 43 = .ok (.getfield 13, 3) := dk_180 0 13 (dk_at dksX2_share_1 19 rfl rfl)
theorem dX2_share_46 : decode cX2_share 46 = .ok (.iload 4, 2) := dk_21 4 (dk_at dksX2_share_1 22 rfl rfl)
theorem dX2_share_48 : decode cX2_share 48 = .ok (.baload, 1) := dk_51 (dk_at dksX2_share_2 0 rfl rfl)
theorem dX2_share_49 : decode cX2_share 49 = .ok (.ifCond .eq 23, 3) := dk_153 0 23 (dk_at dksX2_share_2 1 rfl rfl)
theorem dX2_share_52 : decode cX2_share 52 = .ok (.aload_n 0, 1) := dk_42 (dk_at dksX2_share_2 4 rfl rfl)
theorem dX2_share_53 : decode cX2_share 53 = .ok (.iload 4, 2) := dk_21 4 (dk_at dksX2_share_2 5 rfl rfl)
theorem dX2_share_55 : decode cX2_share 55 = .ok (.invokevirtual 111, 3) := dk_182 0 111 (dk_at dksX2_share_2 7 rfl rfl)
theorem dX2_share_58 : decode cX2_share 58 = .ok (.iload_n 1, 1) := dk_27 (dk_at dksX2_share_2 10 rfl rfl)
theorem dX2_share_59 : decode cX2_share 59 = .ok (.if_icmp .ge 13, 3) := dk_162 0 13 (dk_at dksX2_share_2 11 rfl rfl)
theorem dX2_share_62 : decode cX2_share 62 = .ok (.aload_n 0, 1) := dk_42 (dk_at dksX2_share_2 14 rfl rfl)
theorem dX2_share_63 : decode cX2_share 63 = .ok (.iload 4, 2) := dk_21 4 (dk_at dksX2_share_2 15 rfl rfl)
theorem dX2_share_65 : decode cX2_share 65 = .ok (.iconst 0, 1) := dk_3 (dk_at dksX2_share_2 17 rfl rfl)
theorem dX2_share_66 : decode cX2_share 66 = .ok (.invokevirtual 114, 3) := dk_182 0 114 (dk_at dksX2_share_2 18 rfl rfl)
theorem dX2_share_69 : decode cX2_share 69 = .ok (.goto 4, 3) := dk_167 0 4 (dk_at dksX2_share_2 21 rfl rfl)
theorem dX2_share_72 : decode cX2_share 72 = .ok (.iconst (-1), 1) := dk_2 (dk_at dksX2_share_3 0 rfl rfl)
theorem dX2_share_73 : decode cX2_share 73 = .ok (.istore 5, 2) := dk_54 5 (dk_at dksX2_share_3 1 rfl rfl)
theorem dX2_share_75 : decode cX2_share 75 = .ok (.iload 5, 2) := dk_21 5 (dk_at dksX2_share_3 3 rfl rfl)
theorem dX2_share_77 : decode cX2_share 77 = .ok (.iconst (-1), 1) := dk_2 (dk_at dksX2_share_3 5 rfl rfl)
theorem dX2_share_78 : decode cX2_share 78 = .ok (.if_icmp .eq 19, 3) := dk_159 0 19 (dk_at dksX2_share_3 6 rfl rfl)
theorem dX2_share_81 : decode cX2_share 81 = .ok (.aload_n 0, 1) := dk_42 (dk_at dksX2_share_3 9 rfl rfl)
theorem dX2_share_82 : decode cX2_share 82 = .ok (.getfield 29, 3) := dk_180 0 29 (dk_at dksX2_share_3 10 rfl rfl)
theorem dX2_share_85 : decode cX2_share 85 = .ok (.iload 5, 2) := dk_21 5 (dk_at dksX2_share_3 13 rfl rfl)
theorem dX2_share_87 : decode cX2_share 87 = .ok (.iload 4, 2) := dk_21 4 (dk_at dksX2_share_3 15 rfl rfl)
theorem dX2_share_89 : decode cX2_share 89 = .ok (.invokestatic 101, 3) := dk_184 0 101 (dk_at dksX2_share_3 17 rfl rfl)
theorem dX2_share_92 : decode cX2_share 92 = .ok (.iconst 1, 1) := dk_4 (dk_at dksX2_share_3 20 rfl rfl)
theorem dX2_share_93 : decode cX2_share 93 = .ok (.bastore, 1) := dk_84 (dk_at dksX2_share_3 21 rfl rfl)
theorem dX2_share_94 : decode cX2_share 94 = .ok (.iinc 2 1, 3) := dk_132 2 1 (dk_at dksX2_share_4 0 rfl rfl)
theorem dX2_share_97 : decode cX2_share 97 = .ok (.iinc 3 1, 3) := dk_132 3 1 (dk_at dksX2_share_4 3 rfl rfl)
theorem dX2_share_100 : decode cX2_share 100 = .ok (.goto (-76), 3) := dk_167 255 180 (dk_at dksX2_share_4 6 rfl rfl)
theorem dX2_share_103 : decode cX2_share 103 = .ok (.iload_n 2, 1) := dk_28 (dk_at dksX2_share_4 9 rfl rfl)
theorem dX2_share_104 : decode cX2_share 104 = .ok (.ireturn, 1) := dk_172 (dk_at dksX2_share_4 10 rfl rfl)
abbrev cX2_countReaders : ByteArray := prog_9_method_21_code
def yX2_countReaders : MethodName := ⟨RX2, "countReaders", "(I)I"⟩
def dkwX2_countReaders_1 : List UInt8 := [153, 0, 7, 4, 167, 0, 4, 3, 96, 61, 132, 3, 1, 167, 255, 224, 28, 172]
abbrev dktX2_countReaders_1 : List UInt8 := dkwX2_countReaders_1 ++ []
def dkwX2_countReaders_0 : List UInt8 := [3, 61, 3, 62, 29, 42, 180, 0, 69, 162, 0, 30, 28, 42, 180, 0, 29, 29, 27, 184, 0, 101, 51]
abbrev dktX2_countReaders_0 : List UInt8 := dkwX2_countReaders_0 ++ dktX2_countReaders_1
theorem dksX2_countReaders_0 : cX2_countReaders.data.toList.drop 0 = dktX2_countReaders_0 := by decide +kernel
theorem dksX2_countReaders_1 : cX2_countReaders.data.toList.drop 23 = dktX2_countReaders_1 := dk_seg dksX2_countReaders_0 23 rfl rfl
theorem dX2_countReaders_0 : decode cX2_countReaders 0 = .ok (.iconst 0, 1) := dk_3 (dk_at dksX2_countReaders_0 0 rfl rfl)
theorem dX2_countReaders_1 : decode cX2_countReaders 1 = .ok (.istore_n 2, 1) := dk_61 (dk_at dksX2_countReaders_0 1 rfl rfl)
theorem dX2_countReaders_2 : decode cX2_countReaders 2 = .ok (.iconst 0, 1) := dk_3 (dk_at dksX2_countReaders_0 2 rfl rfl)
theorem dX2_countReaders_3 : decode cX2_countReaders 3 = .ok (.istore_n 3, 1) := dk_62 (dk_at dksX2_countReaders_0 3 rfl rfl)
theorem dX2_countReaders_4 : decode cX2_countReaders 4 = .ok (.iload_n 3, 1) := dk_29 (dk_at dksX2_countReaders_0 4 rfl rfl)
theorem dX2_countReaders_5 : decode cX2_countReaders 5 = .ok (.aload_n 0, 1) := dk_42 (dk_at dksX2_countReaders_0 5 rfl rfl)
theorem dX2_countReaders_6 : decode cX2_countReaders 6 = .ok (.getfield 69, 3) := dk_180 0 69 (dk_at dksX2_countReaders_0 6 rfl rfl)
theorem dX2_countReaders_9 : decode cX2_countReaders 9 = .ok (.if_icmp .ge 30, 3) := dk_162 0 30 (dk_at dksX2_countReaders_0 9 rfl rfl)
theorem dX2_countReaders_12 : decode cX2_countReaders 12 = .ok (.iload_n 2, 1) := dk_28 (dk_at dksX2_countReaders_0 12 rfl rfl)
theorem dX2_countReaders_13 : decode cX2_countReaders 13 = .ok (.aload_n 0, 1) := dk_42 (dk_at dksX2_countReaders_0 13 rfl rfl)
theorem dX2_countReaders_14 : decode cX2_countReaders 14 = .ok (.getfield 29, 3) := dk_180 0 29 (dk_at dksX2_countReaders_0 14 rfl rfl)
theorem dX2_countReaders_17 : decode cX2_countReaders 17 = .ok (.iload_n 3, 1) := dk_29 (dk_at dksX2_countReaders_0 17 rfl rfl)
theorem dX2_countReaders_18 : decode cX2_countReaders 18 = .ok (.iload_n 1, 1) := dk_27 (dk_at dksX2_countReaders_0 18 rfl rfl)
theorem dX2_countReaders_19 : decode cX2_countReaders 19 = .ok (.invokestatic 101, 3) := dk_184 0 101 (dk_at dksX2_countReaders_0 19 rfl rfl)
theorem dX2_countReaders_22 : decode cX2_countReaders 22 = .ok (.baload, 1) := dk_51 (dk_at dksX2_countReaders_0 22 rfl rfl)
theorem dX2_countReaders_23 : decode cX2_countReaders 23 = .ok (.ifCond .eq 7, 3) := dk_153 0 7 (dk_at dksX2_countReaders_1 0 rfl rfl)
theorem dX2_countReaders_26 : decode cX2_countReaders 26 = .ok (.iconst 1, 1) := dk_4 (dk_at dksX2_countReaders_1 3 rfl rfl)
theorem dX2_countReaders_27 : decode cX2_countReaders 27 = .ok (.goto 4, 3) := dk_167 0 4 (dk_at dksX2_countReaders_1 4 rfl rfl)
theorem dX2_countReaders_30 : decode cX2_countReaders 30 = .ok (.iconst 0, 1) := dk_3 (dk_at dksX2_countReaders_1 7 rfl rfl)
theorem dX2_countReaders_31 : decode cX2_countReaders 31 = .ok (.iadd, 1) := dk_96 (dk_at dksX2_countReaders_1 8 rfl rfl)
theorem dX2_countReaders_32 : decode cX2_countReaders 32 = .ok (.istore_n 2, 1) := dk_61 (dk_at dksX2_countReaders_1 9 rfl rfl)
theorem dX2_countReaders_33 : decode cX2_countReaders 33 = .ok (.iinc 3 1, 3) := dk_132 3 1 (dk_at dksX2_countReaders_1 10 rfl rfl)
theorem dX2_countReaders_36 : decode cX2_countReaders 36 = .ok (.goto (-32), 3) := dk_167 255 224 (dk_at dksX2_countReaders_1 13 rfl rfl)
theorem dX2_countReaders_39 : decode cX2_countReaders 39 = .ok (.iload_n 2, 1) := dk_28 (dk_at dksX2_countReaders_1 16 rfl rfl)
theorem dX2_countReaders_40 : decode cX2_countReaders 40 = .ok (.ireturn, 1) := dk_172 (dk_at dksX2_countReaders_1 17 rfl rfl)
abbrev cX2_at : ByteArray := prog_9_method_10_code
def yX2_at : MethodName := ⟨RX2, "at", "(II)I"⟩
def dkwX2_at_0 : List UInt8 := [16, 16, 27, 104, 26, 96, 172]
abbrev dktX2_at_0 : List UInt8 := dkwX2_at_0 ++ []
theorem dksX2_at_0 : cX2_at.data.toList.drop 0 = dktX2_at_0 := by decide +kernel
theorem dX2_at_0 : decode cX2_at 0 = .ok (.bipush 16, 2) := dk_16 16 (dk_at dksX2_at_0 0 rfl rfl)
theorem dX2_at_2 : decode cX2_at 2 = .ok (.iload_n 1, 1) := dk_27 (dk_at dksX2_at_0 2 rfl rfl)
theorem dX2_at_3 : decode cX2_at 3 = .ok (.imul, 1) := dk_104 (dk_at dksX2_at_0 3 rfl rfl)
theorem dX2_at_4 : decode cX2_at 4 = .ok (.iload_n 0, 1) := dk_26 (dk_at dksX2_at_0 4 rfl rfl)
theorem dX2_at_5 : decode cX2_at 5 = .ok (.iadd, 1) := dk_96 (dk_at dksX2_at_0 5 rfl rfl)
theorem dX2_at_6 : decode cX2_at 6 = .ok (.ireturn, 1) := dk_172 (dk_at dksX2_at_0 6 rfl rfl)
abbrev cX2_choose : ByteArray := prog_9_method_22_code
def yX2_choose : MethodName := ⟨RX2, "choose", "(IZ)I"⟩
def dkwX2_choose_4 : List UInt8 := [21, 4, 167, 0, 4, 29, 62, 132, 4, 1, 167, 255, 157, 29, 172]
abbrev dktX2_choose_4 : List UInt8 := dkwX2_choose_4 ++ []
def dkwX2_choose_3 : List UInt8 := [182, 0, 108, 42, 29, 182, 0, 108, 162, 0, 7, 4, 167, 0, 4, 3, 54, 6, 21, 6, 153, 0, 8]
abbrev dktX2_choose_3 : List UInt8 := dkwX2_choose_3 ++ dktX2_choose_4
def dkwX2_choose_2 : List UInt8 := [29, 46, 100, 54, 5, 29, 2, 159, 0, 27, 21, 5, 157, 0, 22, 21, 5, 154, 0, 21, 42, 21, 4]
abbrev dktX2_choose_2 : List UInt8 := dkwX2_choose_2 ++ dktX2_choose_3
def dkwX2_choose_1 : List UInt8 := [29, 2, 159, 0, 7, 28, 154, 0, 7, 3, 167, 0, 17, 42, 180, 0, 17, 21, 4, 46, 42, 180, 0, 17]
abbrev dktX2_choose_1 : List UInt8 := dkwX2_choose_1 ++ dktX2_choose_2
def dkwX2_choose_0 : List UInt8 := [2, 62, 3, 54, 4, 21, 4, 42, 180, 0, 69, 162, 0, 96, 42, 21, 4, 27, 182, 0, 105, 153, 0, 80]
abbrev dktX2_choose_0 : List UInt8 := dkwX2_choose_0 ++ dktX2_choose_1
theorem dksX2_choose_0 : cX2_choose.data.toList.drop 0 = dktX2_choose_0 := by decide +kernel
theorem dksX2_choose_1 : cX2_choose.data.toList.drop 24 = dktX2_choose_1 := dk_seg dksX2_choose_0 24 rfl rfl
theorem dksX2_choose_2 : cX2_choose.data.toList.drop 48 = dktX2_choose_2 := dk_seg dksX2_choose_1 24 rfl rfl
theorem dksX2_choose_3 : cX2_choose.data.toList.drop 71 = dktX2_choose_3 := dk_seg dksX2_choose_2 23 rfl rfl
theorem dksX2_choose_4 : cX2_choose.data.toList.drop 94 = dktX2_choose_4 := dk_seg dksX2_choose_3 23 rfl rfl
theorem dX2_choose_0 : decode cX2_choose 0 = .ok (.iconst (-1), 1) := dk_2 (dk_at dksX2_choose_0 0 rfl rfl)
theorem dX2_choose_1 : decode cX2_choose 1 = .ok (.istore_n 3, 1) := dk_62 (dk_at dksX2_choose_0 1 rfl rfl)
theorem dX2_choose_2 : decode cX2_choose 2 = .ok (.iconst 0, 1) := dk_3 (dk_at dksX2_choose_0 2 rfl rfl)
theorem dX2_choose_3 : decode cX2_choose 3 = .ok (.istore 4, 2) := dk_54 4 (dk_at dksX2_choose_0 3 rfl rfl)
theorem dX2_choose_5 : decode cX2_choose 5 = .ok (.iload 4, 2) := dk_21 4 (dk_at dksX2_choose_0 5 rfl rfl)
theorem dX2_choose_7 : decode cX2_choose 7 = .ok (.aload_n 0, 1) := dk_42 (dk_at dksX2_choose_0 7 rfl rfl)
theorem dX2_choose_8 : decode cX2_choose 8 = .ok (.getfield 69, 3) := dk_180 0 69 (dk_at dksX2_choose_0 8 rfl rfl)
theorem dX2_choose_11 : decode cX2_choose 11 = .ok (.if_icmp .ge 96, 3) := dk_162 0 96 (dk_at dksX2_choose_0 11 rfl rfl)
theorem dX2_choose_14 : decode cX2_choose 14 = .ok (.aload_n 0, 1) := dk_42 (dk_at dksX2_choose_0 14 rfl rfl)
theorem dX2_choose_15 : decode cX2_choose 15 = .ok (.iload 4, 2) := dk_21 4 (dk_at dksX2_choose_0 15 rfl rfl)
theorem dX2_choose_17 : decode cX2_choose 17 = .ok (.iload_n 1, 1) := dk_27 (dk_at dksX2_choose_0 17 rfl rfl)
theorem dX2_choose_18 : decode cX2_choose 18 = .ok (.invokevirtual 105, 3) := dk_182 0 105 (dk_at dksX2_choose_0 18 rfl rfl)
theorem dX2_choose_21 : decode cX2_choose 21 = .ok (.ifCond .eq 80, 3) := dk_153 0 80 (dk_at dksX2_choose_0 21 rfl rfl)
theorem dX2_choose_24 : decode cX2_choose 24 = .ok (.iload_n 3, 1) := dk_29 (dk_at dksX2_choose_1 0 rfl rfl)
theorem dX2_choose_25 : decode cX2_choose 25 = .ok (.iconst (-1), 1) := dk_2 (dk_at dksX2_choose_1 1 rfl rfl)
theorem dX2_choose_26 : decode cX2_choose 26 = .ok (.if_icmp .eq 7, 3) := dk_159 0 7 (dk_at dksX2_choose_1 2 rfl rfl)
theorem dX2_choose_29 : decode cX2_choose 29 = .ok (.iload_n 2, 1) := dk_28 (dk_at dksX2_choose_1 5 rfl rfl)
theorem dX2_choose_30 : decode cX2_choose 30 = .ok (.ifCond .ne 7, 3) := dk_154 0 7 (dk_at dksX2_choose_1 6 rfl rfl)
theorem dX2_choose_33 : decode cX2_choose 33 = .ok (.iconst 0, 1) := dk_3 (dk_at dksX2_choose_1 9 rfl rfl)
theorem dX2_choose_34 : decode cX2_choose 34 = .ok (.goto 17, 3) := dk_167 0 17 (dk_at dksX2_choose_1 10 rfl rfl)
theorem dX2_choose_37 : decode cX2_choose 37 = .ok (.aload_n 0, 1) := dk_42 (dk_at dksX2_choose_1 13 rfl rfl)
theorem dX2_choose_38 : decode cX2_choose 38 = .ok (.getfield 17, 3) := dk_180 0 17 (dk_at dksX2_choose_1 14 rfl rfl)
theorem dX2_choose_41 : decode cX2_choose 41 = .ok (.iload 4, 2) := dk_21 4 (dk_at dksX2_choose_1 17 rfl rfl)
theorem dX2_choose_43 : decode cX2_choose 43 = .ok (.iaload, 1) := dk_46 (dk_at dksX2_choose_1 19 rfl rfl)
theorem dX2_choose_44 : decode cX2_choose 44 = .ok (.aload_n 0, 1) := dk_42 (dk_at dksX2_choose_1 20 rfl rfl)
theorem dX2_choose_45 : decode cX2_choose 45 = .ok (.getfield 17, 3) := dk_180 0 17 (dk_at dksX2_choose_1 21 rfl rfl)
theorem dX2_choose_48 : decode cX2_choose 48 = .ok (.iload_n 3, 1) := dk_29 (dk_at dksX2_choose_2 0 rfl rfl)
theorem dX2_choose_49 : decode cX2_choose 49 = .ok (.iaload, 1) := dk_46 (dk_at dksX2_choose_2 1 rfl rfl)
theorem dX2_choose_50 : decode cX2_choose 50 = .ok (.isub, 1) := dk_100 (dk_at dksX2_choose_2 2 rfl rfl)
theorem dX2_choose_51 : decode cX2_choose 51 = .ok (.istore 5, 2) := dk_54 5 (dk_at dksX2_choose_2 3 rfl rfl)
theorem dX2_choose_53 : decode cX2_choose 53 = .ok (.iload_n 3, 1) := dk_29 (dk_at dksX2_choose_2 5 rfl rfl)
theorem dX2_choose_54 : decode cX2_choose 54 = .ok (.iconst (-1), 1) := dk_2 (dk_at dksX2_choose_2 6 rfl rfl)
theorem dX2_choose_55 : decode cX2_choose 55 = .ok (.if_icmp .eq 27, 3) := dk_159 0 27 (dk_at dksX2_choose_2 7 rfl rfl)
theorem dX2_choose_58 : decode cX2_choose 58 = .ok (.iload 5, 2) := dk_21 5 (dk_at dksX2_choose_2 10 rfl rfl)
theorem dX2_choose_60 : decode cX2_choose 60 = .ok (.ifCond .gt 22, 3) := dk_157 0 22 (dk_at dksX2_choose_2 12 rfl rfl)
theorem dX2_choose_63 : decode cX2_choose 63 = .ok (.iload 5, 2) := dk_21 5 (dk_at dksX2_choose_2 15 rfl rfl)
theorem dX2_choose_65 : decode cX2_choose 65 = .ok (.ifCond .ne 21, 3) := dk_154 0 21 (dk_at dksX2_choose_2 17 rfl rfl)
theorem dX2_choose_68 : decode cX2_choose 68 = .ok (.aload_n 0, 1) := dk_42 (dk_at dksX2_choose_2 20 rfl rfl)
theorem dX2_choose_69 : decode cX2_choose 69 = .ok (.iload 4, 2) := dk_21 4 (dk_at dksX2_choose_2 21 rfl rfl)
theorem dX2_choose_71 : decode cX2_choose 71 = .ok (.invokevirtual 108, 3) := dk_182 0 108 (dk_at dksX2_choose_3 0 rfl rfl)
theorem dX2_choose_74 : decode cX2_choose 74 = .ok (.aload_n 0, 1) := dk_42 (dk_at dksX2_choose_3 3 rfl rfl)
theorem dX2_choose_75 : decode cX2_choose 75 = .ok (.iload_n 3, 1) := dk_29 (dk_at dksX2_choose_3 4 rfl rfl)
theorem dX2_choose_76 : decode cX2_choose 76 = .ok (.invokevirtual 108, 3) := dk_182 0 108 (dk_at dksX2_choose_3 5 rfl rfl)
theorem dX2_choose_79 : decode cX2_choose 79 = .ok (.if_icmp .ge 7, 3) := dk_162 0 7 (dk_at dksX2_choose_3 8 rfl rfl)
theorem dX2_choose_82 : decode cX2_choose 82 = .ok (.iconst 1, 1) := dk_4 (dk_at dksX2_choose_3 11 rfl rfl)
theorem dX2_choose_83 : decode cX2_choose 83 = .ok (.goto 4, 3) := dk_167 0 4 (dk_at dksX2_choose_3 12 rfl rfl)
theorem dX2_choose_86 : decode cX2_choose 86 = .ok (.iconst 0, 1) := dk_3 (dk_at dksX2_choose_3 15 rfl rfl)
theorem dX2_choose_87 : decode cX2_choose 87 = .ok (.istore 6, 2) := dk_54 6 (dk_at dksX2_choose_3 16 rfl rfl)
theorem dX2_choose_89 : decode cX2_choose 89 = .ok (.iload 6, 2) := dk_21 6 (dk_at dksX2_choose_3 18 rfl rfl)
theorem dX2_choose_91 : decode cX2_choose 91 = .ok (.ifCond .eq 8, 3) := dk_153 0 8 (dk_at dksX2_choose_3 20 rfl rfl)
theorem dX2_choose_94 : decode cX2_choose 94 = .ok (.iload 4, 2) := dk_21 4 (dk_at dksX2_choose_4 0 rfl rfl)
theorem dX2_choose_96 : decode cX2_choose 96 = .ok (.goto 4, 3) := dk_167 0 4 (dk_at dksX2_choose_4 2 rfl rfl)
theorem dX2_choose_99 : decode cX2_choose 99 = .ok (.iload_n 3, 1) := dk_29 (dk_at dksX2_choose_4 5 rfl rfl)
theorem dX2_choose_100 : decode cX2_choose 100 = .ok (.istore_n 3, 1) := dk_62 (dk_at dksX2_choose_4 6 rfl rfl)
theorem dX2_choose_101 : decode cX2_choose 101 = .ok (.iinc 4 1, 3) := dk_132 4 1 (dk_at dksX2_choose_4 7 rfl rfl)
theorem dX2_choose_104 : decode cX2_choose 104 = .ok (.goto (-99), 3) := dk_167 255 157 (dk_at dksX2_choose_4 10 rfl rfl)
theorem dX2_choose_107 : decode cX2_choose 107 = .ok (.iload_n 3, 1) := dk_29 (dk_at dksX2_choose_4 13 rfl rfl)
theorem dX2_choose_108 : decode cX2_choose 108 = .ok (.ireturn, 1) := dk_172 (dk_at dksX2_choose_4 14 rfl rfl)
abbrev cX2_may : ByteArray := prog_9_method_19_code
def yX2_may : MethodName := ⟨RX2, "may", "(II)Z"⟩
def dkwX2_may_1 : List UInt8 := [180, 0, 32, 27, 28, 184, 0, 101, 51, 154, 0, 7, 4, 167, 0, 4, 3, 172]
abbrev dktX2_may_1 : List UInt8 := dkwX2_may_1 ++ []
def dkwX2_may_0 : List UInt8 := [42, 27, 28, 182, 0, 97, 153, 0, 33, 42, 180, 0, 29, 27, 28, 184, 0, 101, 51, 154, 0, 20, 42]
abbrev dktX2_may_0 : List UInt8 := dkwX2_may_0 ++ dktX2_may_1
theorem dksX2_may_0 : cX2_may.data.toList.drop 0 = dktX2_may_0 := by decide +kernel
theorem dksX2_may_1 : cX2_may.data.toList.drop 23 = dktX2_may_1 := dk_seg dksX2_may_0 23 rfl rfl
theorem dX2_may_0 : decode cX2_may 0 = .ok (.aload_n 0, 1) := dk_42 (dk_at dksX2_may_0 0 rfl rfl)
theorem dX2_may_1 : decode cX2_may 1 = .ok (.iload_n 1, 1) := dk_27 (dk_at dksX2_may_0 1 rfl rfl)
theorem dX2_may_2 : decode cX2_may 2 = .ok (.iload_n 2, 1) := dk_28 (dk_at dksX2_may_0 2 rfl rfl)
theorem dX2_may_3 : decode cX2_may 3 = .ok (.invokevirtual 97, 3) := dk_182 0 97 (dk_at dksX2_may_0 3 rfl rfl)
theorem dX2_may_6 : decode cX2_may 6 = .ok (.ifCond .eq 33, 3) := dk_153 0 33 (dk_at dksX2_may_0 6 rfl rfl)
theorem dX2_may_9 : decode cX2_may 9 = .ok (.aload_n 0, 1) := dk_42 (dk_at dksX2_may_0 9 rfl rfl)
theorem dX2_may_10 : decode cX2_may 10 = .ok (.getfield 29, 3) := dk_180 0 29 (dk_at dksX2_may_0 10 rfl rfl)
theorem dX2_may_13 : decode cX2_may 13 = .ok (.iload_n 1, 1) := dk_27 (dk_at dksX2_may_0 13 rfl rfl)
theorem dX2_may_14 : decode cX2_may 14 = .ok (.iload_n 2, 1) := dk_28 (dk_at dksX2_may_0 14 rfl rfl)
theorem dX2_may_15 : decode cX2_may 15 = .ok (.invokestatic 101, 3) := dk_184 0 101 (dk_at dksX2_may_0 15 rfl rfl)
theorem dX2_may_18 : decode cX2_may 18 = .ok (.baload, 1) := dk_51 (dk_at dksX2_may_0 18 rfl rfl)
theorem dX2_may_19 : decode cX2_may 19 = .ok (.ifCond .ne 20, 3) := dk_154 0 20 (dk_at dksX2_may_0 19 rfl rfl)
theorem dX2_may_22 : decode cX2_may 22 = .ok (.aload_n 0, 1) := dk_42 (dk_at dksX2_may_0 22 rfl rfl)
theorem dX2_may_23 : decode cX2_may 23 = .ok (.getfield 32, 3) := dk_180 0 32 (dk_at dksX2_may_1 0 rfl rfl)
theorem dX2_may_26 : decode cX2_may 26 = .ok (.iload_n 1, 1) := dk_27 (dk_at dksX2_may_1 3 rfl rfl)
theorem dX2_may_27 : decode cX2_may 27 = .ok (.iload_n 2, 1) := dk_28 (dk_at dksX2_may_1 4 rfl rfl)
theorem dX2_may_28 : decode cX2_may 28 = .ok (.invokestatic 101, 3) := dk_184 0 101 (dk_at dksX2_may_1 5 rfl rfl)
theorem dX2_may_31 : decode cX2_may 31 = .ok (.baload, 1) := dk_51 (dk_at dksX2_may_1 8 rfl rfl)
theorem dX2_may_32 : decode cX2_may 32 = .ok (.ifCond .ne 7, 3) := dk_154 0 7 (dk_at dksX2_may_1 9 rfl rfl)
theorem dX2_may_35 : decode cX2_may 35 = .ok (.iconst 1, 1) := dk_4 (dk_at dksX2_may_1 12 rfl rfl)
theorem dX2_may_36 : decode cX2_may 36 = .ok (.goto 4, 3) := dk_167 0 4 (dk_at dksX2_may_1 13 rfl rfl)
theorem dX2_may_39 : decode cX2_may 39 = .ok (.iconst 0, 1) := dk_3 (dk_at dksX2_may_1 16 rfl rfl)
theorem dX2_may_40 : decode cX2_may 40 = .ok (.ireturn, 1) := dk_172 (dk_at dksX2_may_1 17 rfl rfl)
abbrev cX2_isForeign : ByteArray := prog_9_method_18_code
def yX2_isForeign : MethodName := ⟨RX2, "isForeign", "(II)Z"⟩
def dkwX2_isForeign_1 : List UInt8 := [3, 172]
abbrev dktX2_isForeign_1 : List UInt8 := dkwX2_isForeign_1 ++ []
def dkwX2_isForeign_0 : List UInt8 := [27, 28, 159, 0, 22, 42, 180, 0, 7, 27, 46, 42, 180, 0, 7, 28, 46, 159, 0, 7, 4, 167, 0, 4]
abbrev dktX2_isForeign_0 : List UInt8 := dkwX2_isForeign_0 ++ dktX2_isForeign_1
theorem dksX2_isForeign_0 : cX2_isForeign.data.toList.drop 0 = dktX2_isForeign_0 := by decide +kernel
theorem dksX2_isForeign_1 : cX2_isForeign.data.toList.drop 24 = dktX2_isForeign_1 := dk_seg dksX2_isForeign_0 24 rfl rfl
theorem dX2_isForeign_0 : decode cX2_isForeign 0 = .ok (.iload_n 1, 1) := dk_27 (dk_at dksX2_isForeign_0 0 rfl rfl)
theorem dX2_isForeign_1 : decode cX2_isForeign 1 = .ok (.iload_n 2, 1) := dk_28 (dk_at dksX2_isForeign_0 1 rfl rfl)
theorem dX2_isForeign_2 : decode cX2_isForeign 2 = .ok (.if_icmp .eq 22, 3) := dk_159 0 22 (dk_at dksX2_isForeign_0 2 rfl rfl)
theorem dX2_isForeign_5 : decode cX2_isForeign 5 = .ok (.aload_n 0, 1) := dk_42 (dk_at dksX2_isForeign_0 5 rfl rfl)
theorem dX2_isForeign_6 : decode cX2_isForeign 6 = .ok (.getfield 7, 3) := dk_180 0 7 (dk_at dksX2_isForeign_0 6 rfl rfl)
theorem dX2_isForeign_9 : decode cX2_isForeign 9 = .ok (.iload_n 1, 1) := dk_27 (dk_at dksX2_isForeign_0 9 rfl rfl)
theorem dX2_isForeign_10 : decode cX2_isForeign 10 = .ok (.iaload, 1) := dk_46 (dk_at dksX2_isForeign_0 10 rfl rfl)
theorem dX2_isForeign_11 : decode cX2_isForeign 11 = .ok (.aload_n 0, 1) := dk_42 (dk_at dksX2_isForeign_0 11 rfl rfl)
theorem dX2_isForeign_12 : decode cX2_isForeign 12 = .ok (.getfield 7, 3) := dk_180 0 7 (dk_at dksX2_isForeign_0 12 rfl rfl)
theorem dX2_isForeign_15 : decode cX2_isForeign 15 = .ok (.iload_n 2, 1) := dk_28 (dk_at dksX2_isForeign_0 15 rfl rfl)
theorem dX2_isForeign_16 : decode cX2_isForeign 16 = .ok (.iaload, 1) := dk_46 (dk_at dksX2_isForeign_0 16 rfl rfl)
theorem dX2_isForeign_17 : decode cX2_isForeign 17 = .ok (.if_icmp .eq 7, 3) := dk_159 0 7 (dk_at dksX2_isForeign_0 17 rfl rfl)
theorem dX2_isForeign_20 : decode cX2_isForeign 20 = .ok (.iconst 1, 1) := dk_4 (dk_at dksX2_isForeign_0 20 rfl rfl)
theorem dX2_isForeign_21 : decode cX2_isForeign 21 = .ok (.goto 4, 3) := dk_167 0 4 (dk_at dksX2_isForeign_0 21 rfl rfl)
theorem dX2_isForeign_24 : decode cX2_isForeign 24 = .ok (.iconst 0, 1) := dk_3 (dk_at dksX2_isForeign_1 0 rfl rfl)
theorem dX2_isForeign_25 : decode cX2_isForeign 25 = .ok (.ireturn, 1) := dk_172 (dk_at dksX2_isForeign_1 1 rfl rfl)
abbrev cX2_load : ByteArray := prog_9_method_20_code
def yX2_load : MethodName := ⟨RX2, "load", "(I)I"⟩
def dkwX2_load_1 : List UInt8 := [153, 0, 7, 4, 167, 0, 4, 3, 96, 61, 132, 3, 1, 167, 255, 224, 28, 172]
abbrev dktX2_load_1 : List UInt8 := dkwX2_load_1 ++ []
def dkwX2_load_0 : List UInt8 := [3, 61, 3, 62, 29, 42, 180, 0, 69, 162, 0, 30, 28, 42, 180, 0, 29, 27, 29, 184, 0, 101, 51]
abbrev dktX2_load_0 : List UInt8 := dkwX2_load_0 ++ dktX2_load_1
theorem dksX2_load_0 : cX2_load.data.toList.drop 0 = dktX2_load_0 := by decide +kernel
theorem dksX2_load_1 : cX2_load.data.toList.drop 23 = dktX2_load_1 := dk_seg dksX2_load_0 23 rfl rfl
theorem dX2_load_0 : decode cX2_load 0 = .ok (.iconst 0, 1) := dk_3 (dk_at dksX2_load_0 0 rfl rfl)
theorem dX2_load_1 : decode cX2_load 1 = .ok (.istore_n 2, 1) := dk_61 (dk_at dksX2_load_0 1 rfl rfl)
theorem dX2_load_2 : decode cX2_load 2 = .ok (.iconst 0, 1) := dk_3 (dk_at dksX2_load_0 2 rfl rfl)
theorem dX2_load_3 : decode cX2_load 3 = .ok (.istore_n 3, 1) := dk_62 (dk_at dksX2_load_0 3 rfl rfl)
theorem dX2_load_4 : decode cX2_load 4 = .ok (.iload_n 3, 1) := dk_29 (dk_at dksX2_load_0 4 rfl rfl)
theorem dX2_load_5 : decode cX2_load 5 = .ok (.aload_n 0, 1) := dk_42 (dk_at dksX2_load_0 5 rfl rfl)
theorem dX2_load_6 : decode cX2_load 6 = .ok (.getfield 69, 3) := dk_180 0 69 (dk_at dksX2_load_0 6 rfl rfl)
theorem dX2_load_9 : decode cX2_load 9 = .ok (.if_icmp .ge 30, 3) := dk_162 0 30 (dk_at dksX2_load_0 9 rfl rfl)
theorem dX2_load_12 : decode cX2_load 12 = .ok (.iload_n 2, 1) := dk_28 (dk_at dksX2_load_0 12 rfl rfl)
theorem dX2_load_13 : decode cX2_load 13 = .ok (.aload_n 0, 1) := dk_42 (dk_at dksX2_load_0 13 rfl rfl)
theorem dX2_load_14 : decode cX2_load 14 = .ok (.getfield 29, 3) := dk_180 0 29 (dk_at dksX2_load_0 14 rfl rfl)
theorem dX2_load_17 : decode cX2_load 17 = .ok (.iload_n 1, 1) := dk_27 (dk_at dksX2_load_0 17 rfl rfl)
theorem dX2_load_18 : decode cX2_load 18 = .ok (.iload_n 3, 1) := dk_29 (dk_at dksX2_load_0 18 rfl rfl)
theorem dX2_load_19 : decode cX2_load 19 = .ok (.invokestatic 101, 3) := dk_184 0 101 (dk_at dksX2_load_0 19 rfl rfl)
theorem dX2_load_22 : decode cX2_load 22 = .ok (.baload, 1) := dk_51 (dk_at dksX2_load_0 22 rfl rfl)
theorem dX2_load_23 : decode cX2_load 23 = .ok (.ifCond .eq 7, 3) := dk_153 0 7 (dk_at dksX2_load_1 0 rfl rfl)
theorem dX2_load_26 : decode cX2_load 26 = .ok (.iconst 1, 1) := dk_4 (dk_at dksX2_load_1 3 rfl rfl)
theorem dX2_load_27 : decode cX2_load 27 = .ok (.goto 4, 3) := dk_167 0 4 (dk_at dksX2_load_1 4 rfl rfl)
theorem dX2_load_30 : decode cX2_load 30 = .ok (.iconst 0, 1) := dk_3 (dk_at dksX2_load_1 7 rfl rfl)
theorem dX2_load_31 : decode cX2_load 31 = .ok (.iadd, 1) := dk_96 (dk_at dksX2_load_1 8 rfl rfl)
theorem dX2_load_32 : decode cX2_load 32 = .ok (.istore_n 2, 1) := dk_61 (dk_at dksX2_load_1 9 rfl rfl)
theorem dX2_load_33 : decode cX2_load 33 = .ok (.iinc 3 1, 3) := dk_132 3 1 (dk_at dksX2_load_1 10 rfl rfl)
theorem dX2_load_36 : decode cX2_load 36 = .ok (.goto (-32), 3) := dk_167 255 224 (dk_at dksX2_load_1 13 rfl rfl)
theorem dX2_load_39 : decode cX2_load 39 = .ok (.iload_n 2, 1) := dk_28 (dk_at dksX2_load_1 16 rfl rfl)
theorem dX2_load_40 : decode cX2_load 40 = .ok (.ireturn, 1) := dk_172 (dk_at dksX2_load_1 17 rfl rfl)
abbrev cX2_readersOf : ByteArray := prog_9_method_24_code
def yX2_readersOf : MethodName := ⟨RX2, "readersOf", "(I)I"⟩
def dkwX2_readersOf_2 : List UInt8 := [167, 0, 4, 3, 128, 61, 132, 3, 1, 167, 255, 222, 28, 172]
abbrev dktX2_readersOf_2 : List UInt8 := dkwX2_readersOf_2 ++ []
def dkwX2_readersOf_1 : List UInt8 := [42, 180, 0, 69, 162, 0, 32, 28, 42, 180, 0, 29, 29, 27, 184, 0, 101, 51, 153, 0, 9, 4, 29, 120]
abbrev dktX2_readersOf_1 : List UInt8 := dkwX2_readersOf_1 ++ dktX2_readersOf_2
def dkwX2_readersOf_0 : List UInt8 := [42, 3, 181, 0, 66, 42, 27, 182, 0, 118, 154, 0, 9, 42, 4, 182, 0, 87, 172, 3, 61, 3, 62, 29]
abbrev dktX2_readersOf_0 : List UInt8 := dkwX2_readersOf_0 ++ dktX2_readersOf_1
theorem dksX2_readersOf_0 : cX2_readersOf.data.toList.drop 0 = dktX2_readersOf_0 := by decide +kernel
theorem dksX2_readersOf_1 : cX2_readersOf.data.toList.drop 24 = dktX2_readersOf_1 := dk_seg dksX2_readersOf_0 24 rfl rfl
theorem dksX2_readersOf_2 : cX2_readersOf.data.toList.drop 48 = dktX2_readersOf_2 := dk_seg dksX2_readersOf_1 24 rfl rfl
theorem dX2_readersOf_0 : decode cX2_readersOf 0 = .ok (.aload_n 0, 1) := dk_42 (dk_at dksX2_readersOf_0 0 rfl rfl)
theorem dX2_readersOf_1 : decode cX2_readersOf 1 = .ok (.iconst 0, 1) := dk_3 (dk_at dksX2_readersOf_0 1 rfl rfl)
theorem dX2_readersOf_2 : decode cX2_readersOf 2 = .ok (.putfield 66, 3) := dk_181 0 66 (dk_at dksX2_readersOf_0 2 rfl rfl)
theorem dX2_readersOf_5 : decode cX2_readersOf 5 = .ok (.aload_n 0, 1) := dk_42 (dk_at dksX2_readersOf_0 5 rfl rfl)
theorem dX2_readersOf_6 : decode cX2_readersOf 6 = .ok (.iload_n 1, 1) := dk_27 (dk_at dksX2_readersOf_0 6 rfl rfl)
theorem dX2_readersOf_7 : decode cX2_readersOf 7 = .ok (.invokevirtual 118, 3) := dk_182 0 118 (dk_at dksX2_readersOf_0 7 rfl rfl)
theorem dX2_readersOf_10 : decode cX2_readersOf 10 = .ok (.ifCond .ne 9, 3) := dk_154 0 9 (dk_at dksX2_readersOf_0 10 rfl rfl)
theorem dX2_readersOf_13 : decode cX2_readersOf 13 = .ok (.aload_n 0, 1) := dk_42 (dk_at dksX2_readersOf_0 13 rfl rfl)
theorem dX2_readersOf_14 : decode cX2_readersOf 14 = .ok (.iconst 1, 1) := dk_4 (dk_at dksX2_readersOf_0 14 rfl rfl)
theorem dX2_readersOf_15 : decode cX2_readersOf 15 = .ok (.invokevirtual 87, 3) := dk_182 0 87 (dk_at dksX2_readersOf_0 15 rfl rfl)
theorem dX2_readersOf_18 : decode cX2_readersOf 18 = .ok (.ireturn, 1) := dk_172 (dk_at dksX2_readersOf_0 18 rfl rfl)
theorem dX2_readersOf_19 : decode cX2_readersOf 19 = .ok (.iconst 0, 1) := dk_3 (dk_at dksX2_readersOf_0 19 rfl rfl)
theorem dX2_readersOf_20 : decode cX2_readersOf 20 = .ok (.istore_n 2, 1) := dk_61 (dk_at dksX2_readersOf_0 20 rfl rfl)
theorem dX2_readersOf_21 : decode cX2_readersOf 21 = .ok (.iconst 0, 1) := dk_3 (dk_at dksX2_readersOf_0 21 rfl rfl)
theorem dX2_readersOf_22 : decode cX2_readersOf 22 = .ok (.istore_n 3, 1) := dk_62 (dk_at dksX2_readersOf_0 22 rfl rfl)
theorem dX2_readersOf_23 : decode cX2_readersOf 23 = .ok (.iload_n 3, 1) := dk_29 (dk_at dksX2_readersOf_0 23 rfl rfl)
theorem dX2_readersOf_24 : decode cX2_readersOf 24 = .ok (.aload_n 0, 1) := dk_42 (dk_at dksX2_readersOf_1 0 rfl rfl)
theorem dX2_readersOf_25 : decode cX2_readersOf 25 = .ok (.getfield 69, 3) := dk_180 0 69 (dk_at dksX2_readersOf_1 1 rfl rfl)
theorem dX2_readersOf_28 : decode cX2_readersOf 28 = .ok (.if_icmp .ge 32, 3) := dk_162 0 32 (dk_at dksX2_readersOf_1 4 rfl rfl)
theorem dX2_readersOf_31 : decode cX2_readersOf 31 = .ok (.iload_n 2, 1) := dk_28 (dk_at dksX2_readersOf_1 7 rfl rfl)
theorem dX2_readersOf_32 : decode cX2_readersOf 32 = .ok (.aload_n 0, 1) := dk_42 (dk_at dksX2_readersOf_1 8 rfl rfl)
theorem dX2_readersOf_33 : decode cX2_readersOf 33 = .ok (.getfield 29, 3) := dk_180 0 29 (dk_at dksX2_readersOf_1 9 rfl rfl)
theorem dX2_readersOf_36 : decode cX2_readersOf 36 = .ok (.iload_n 3, 1) := dk_29 (dk_at dksX2_readersOf_1 12 rfl rfl)
theorem dX2_readersOf_37 : decode cX2_readersOf 37 = .ok (.iload_n 1, 1) := dk_27 (dk_at dksX2_readersOf_1 13 rfl rfl)
theorem dX2_readersOf_38 : decode cX2_readersOf 38 = .ok (.invokestatic 101, 3) := dk_184 0 101 (dk_at dksX2_readersOf_1 14 rfl rfl)
theorem dX2_readersOf_41 : decode cX2_readersOf 41 = .ok (.baload, 1) := dk_51 (dk_at dksX2_readersOf_1 17 rfl rfl)
theorem dX2_readersOf_42 : decode cX2_readersOf 42 = .ok (.ifCond .eq 9, 3) := dk_153 0 9 (dk_at dksX2_readersOf_1 18 rfl rfl)
theorem dX2_readersOf_45 : decode cX2_readersOf 45 = .ok (.iconst 1, 1) := dk_4 (dk_at dksX2_readersOf_1 21 rfl rfl)
theorem dX2_readersOf_46 : decode cX2_readersOf 46 = .ok (.iload_n 3, 1) := dk_29 (dk_at dksX2_readersOf_1 22 rfl rfl)
theorem dX2_readersOf_47 : decode cX2_readersOf 47 = .ok (.ishl, 1) := dk_120 (dk_at dksX2_readersOf_1 23 rfl rfl)
theorem dX2_readersOf_48 : decode cX2_readersOf 48 = .ok (.goto 4, 3) := dk_167 0 4 (dk_at dksX2_readersOf_2 0 rfl rfl)
theorem dX2_readersOf_51 : decode cX2_readersOf 51 = .ok (.iconst 0, 1) := dk_3 (dk_at dksX2_readersOf_2 3 rfl rfl)
theorem dX2_readersOf_52 : decode cX2_readersOf 52 = .ok (.ior, 1) := dk_128 (dk_at dksX2_readersOf_2 4 rfl rfl)
theorem dX2_readersOf_53 : decode cX2_readersOf 53 = .ok (.istore_n 2, 1) := dk_61 (dk_at dksX2_readersOf_2 5 rfl rfl)
theorem dX2_readersOf_54 : decode cX2_readersOf 54 = .ok (.iinc 3 1, 3) := dk_132 3 1 (dk_at dksX2_readersOf_2 6 rfl rfl)
theorem dX2_readersOf_57 : decode cX2_readersOf 57 = .ok (.goto (-34), 3) := dk_167 255 222 (dk_at dksX2_readersOf_2 9 rfl rfl)
theorem dX2_readersOf_60 : decode cX2_readersOf 60 = .ok (.iload_n 2, 1) := dk_28 (dk_at dksX2_readersOf_2 12 rfl rfl)
theorem dX2_readersOf_61 : decode cX2_readersOf 61 = .ok (.ireturn, 1) := dk_172 (dk_at dksX2_readersOf_2 13 rfl rfl)
abbrev cX2_isWork : ByteArray := prog_9_method_7_code
def yX2_isWork : MethodName := ⟨RX2, "isWork", "(I)Z"⟩
def dkwX2_isWork_0 : List UInt8 := [42, 27, 182, 0, 76, 153, 0, 16, 42, 180, 0, 13, 27, 51, 153, 0, 7, 4, 167, 0, 4, 3, 172]
abbrev dktX2_isWork_0 : List UInt8 := dkwX2_isWork_0 ++ []
theorem dksX2_isWork_0 : cX2_isWork.data.toList.drop 0 = dktX2_isWork_0 := by decide +kernel
theorem dX2_isWork_0 : decode cX2_isWork 0 = .ok (.aload_n 0, 1) := dk_42 (dk_at dksX2_isWork_0 0 rfl rfl)
theorem dX2_isWork_1 : decode cX2_isWork 1 = .ok (.iload_n 1, 1) := dk_27 (dk_at dksX2_isWork_0 1 rfl rfl)
theorem dX2_isWork_2 : decode cX2_isWork 2 = .ok (.invokevirtual 76, 3) := dk_182 0 76 (dk_at dksX2_isWork_0 2 rfl rfl)
theorem dX2_isWork_5 : decode cX2_isWork 5 = .ok (.ifCond .eq 16, 3) := dk_153 0 16 (dk_at dksX2_isWork_0 5 rfl rfl)
theorem dX2_isWork_8 : decode cX2_isWork 8 = .ok (.aload_n 0, 1) := dk_42 (dk_at dksX2_isWork_0 8 rfl rfl)
theorem dX2_isWork_9 : decode cX2_isWork 9 = .ok (.getfield 13, 3) := dk_180 0 13 (dk_at dksX2_isWork_0 9 rfl rfl)
theorem dX2_isWork_12 : decode cX2_isWork 12 = .ok (.iload_n 1, 1) := dk_27 (dk_at dksX2_isWork_0 12 rfl rfl)
theorem dX2_isWork_13 : decode cX2_isWork 13 = .ok (.baload, 1) := dk_51 (dk_at dksX2_isWork_0 13 rfl rfl)
theorem dX2_isWork_14 : decode cX2_isWork 14 = .ok (.ifCond .eq 7, 3) := dk_153 0 7 (dk_at dksX2_isWork_0 14 rfl rfl)
theorem dX2_isWork_17 : decode cX2_isWork 17 = .ok (.iconst 1, 1) := dk_4 (dk_at dksX2_isWork_0 17 rfl rfl)
theorem dX2_isWork_18 : decode cX2_isWork 18 = .ok (.goto 4, 3) := dk_167 0 4 (dk_at dksX2_isWork_0 18 rfl rfl)
theorem dX2_isWork_21 : decode cX2_isWork 21 = .ok (.iconst 0, 1) := dk_3 (dk_at dksX2_isWork_0 21 rfl rfl)
theorem dX2_isWork_22 : decode cX2_isWork 22 = .ok (.ireturn, 1) := dk_172 (dk_at dksX2_isWork_0 22 rfl rfl)
abbrev cX2_mayRead : ByteArray := prog_9_method_25_code
def yX2_mayRead : MethodName := ⟨RX2, "mayRead", "(I)I"⟩
def dkwX2_mayRead_2 : List UInt8 := [128, 61, 132, 3, 1, 167, 255, 226, 28, 172]
abbrev dktX2_mayRead_2 : List UInt8 := dkwX2_mayRead_2 ++ []
def dkwX2_mayRead_1 : List UInt8 := [42, 180, 0, 69, 162, 0, 28, 28, 42, 29, 27, 182, 0, 105, 153, 0, 9, 4, 29, 120, 167, 0, 4, 3]
abbrev dktX2_mayRead_1 : List UInt8 := dkwX2_mayRead_1 ++ dktX2_mayRead_2
def dkwX2_mayRead_0 : List UInt8 := [42, 3, 181, 0, 66, 42, 27, 182, 0, 118, 154, 0, 9, 42, 4, 182, 0, 87, 172, 3, 61, 3, 62, 29]
abbrev dktX2_mayRead_0 : List UInt8 := dkwX2_mayRead_0 ++ dktX2_mayRead_1
theorem dksX2_mayRead_0 : cX2_mayRead.data.toList.drop 0 = dktX2_mayRead_0 := by decide +kernel
theorem dksX2_mayRead_1 : cX2_mayRead.data.toList.drop 24 = dktX2_mayRead_1 := dk_seg dksX2_mayRead_0 24 rfl rfl
theorem dksX2_mayRead_2 : cX2_mayRead.data.toList.drop 48 = dktX2_mayRead_2 := dk_seg dksX2_mayRead_1 24 rfl rfl
theorem dX2_mayRead_0 : decode cX2_mayRead 0 = .ok (.aload_n 0, 1) := dk_42 (dk_at dksX2_mayRead_0 0 rfl rfl)
theorem dX2_mayRead_1 : decode cX2_mayRead 1 = .ok (.iconst 0, 1) := dk_3 (dk_at dksX2_mayRead_0 1 rfl rfl)
theorem dX2_mayRead_2 : decode cX2_mayRead 2 = .ok (.putfield 66, 3) := dk_181 0 66 (dk_at dksX2_mayRead_0 2 rfl rfl)
theorem dX2_mayRead_5 : decode cX2_mayRead 5 = .ok (.aload_n 0, 1) := dk_42 (dk_at dksX2_mayRead_0 5 rfl rfl)
theorem dX2_mayRead_6 : decode cX2_mayRead 6 = .ok (.iload_n 1, 1) := dk_27 (dk_at dksX2_mayRead_0 6 rfl rfl)
theorem dX2_mayRead_7 : decode cX2_mayRead 7 = .ok (.invokevirtual 118, 3) := dk_182 0 118 (dk_at dksX2_mayRead_0 7 rfl rfl)
theorem dX2_mayRead_10 : decode cX2_mayRead 10 = .ok (.ifCond .ne 9, 3) := dk_154 0 9 (dk_at dksX2_mayRead_0 10 rfl rfl)
theorem dX2_mayRead_13 : decode cX2_mayRead 13 = .ok (.aload_n 0, 1) := dk_42 (dk_at dksX2_mayRead_0 13 rfl rfl)
theorem dX2_mayRead_14 : decode cX2_mayRead 14 = .ok (.iconst 1, 1) := dk_4 (dk_at dksX2_mayRead_0 14 rfl rfl)
theorem dX2_mayRead_15 : decode cX2_mayRead 15 = .ok (.invokevirtual 87, 3) := dk_182 0 87 (dk_at dksX2_mayRead_0 15 rfl rfl)
theorem dX2_mayRead_18 : decode cX2_mayRead 18 = .ok (.ireturn, 1) := dk_172 (dk_at dksX2_mayRead_0 18 rfl rfl)
theorem dX2_mayRead_19 : decode cX2_mayRead 19 = .ok (.iconst 0, 1) := dk_3 (dk_at dksX2_mayRead_0 19 rfl rfl)
theorem dX2_mayRead_20 : decode cX2_mayRead 20 = .ok (.istore_n 2, 1) := dk_61 (dk_at dksX2_mayRead_0 20 rfl rfl)
theorem dX2_mayRead_21 : decode cX2_mayRead 21 = .ok (.iconst 0, 1) := dk_3 (dk_at dksX2_mayRead_0 21 rfl rfl)
theorem dX2_mayRead_22 : decode cX2_mayRead 22 = .ok (.istore_n 3, 1) := dk_62 (dk_at dksX2_mayRead_0 22 rfl rfl)
theorem dX2_mayRead_23 : decode cX2_mayRead 23 = .ok (.iload_n 3, 1) := dk_29 (dk_at dksX2_mayRead_0 23 rfl rfl)
theorem dX2_mayRead_24 : decode cX2_mayRead 24 = .ok (.aload_n 0, 1) := dk_42 (dk_at dksX2_mayRead_1 0 rfl rfl)
theorem dX2_mayRead_25 : decode cX2_mayRead 25 = .ok (.getfield 69, 3) := dk_180 0 69 (dk_at dksX2_mayRead_1 1 rfl rfl)
theorem dX2_mayRead_28 : decode cX2_mayRead 28 = .ok (.if_icmp .ge 28, 3) := dk_162 0 28 (dk_at dksX2_mayRead_1 4 rfl rfl)
theorem dX2_mayRead_31 : decode cX2_mayRead 31 = .ok (.iload_n 2, 1) := dk_28 (dk_at dksX2_mayRead_1 7 rfl rfl)
theorem dX2_mayRead_32 : decode cX2_mayRead 32 = .ok (.aload_n 0, 1) := dk_42 (dk_at dksX2_mayRead_1 8 rfl rfl)
theorem dX2_mayRead_33 : decode cX2_mayRead 33 = .ok (.iload_n 3, 1) := dk_29 (dk_at dksX2_mayRead_1 9 rfl rfl)
theorem dX2_mayRead_34 : decode cX2_mayRead 34 = .ok (.iload_n 1, 1) := dk_27 (dk_at dksX2_mayRead_1 10 rfl rfl)
theorem dX2_mayRead_35 : decode cX2_mayRead 35 = .ok (.invokevirtual 105, 3) := dk_182 0 105 (dk_at dksX2_mayRead_1 11 rfl rfl)
theorem dX2_mayRead_38 : decode cX2_mayRead 38 = .ok (.ifCond .eq 9, 3) := dk_153 0 9 (dk_at dksX2_mayRead_1 14 rfl rfl)
theorem dX2_mayRead_41 : decode cX2_mayRead 41 = .ok (.iconst 1, 1) := dk_4 (dk_at dksX2_mayRead_1 17 rfl rfl)
theorem dX2_mayRead_42 : decode cX2_mayRead 42 = .ok (.iload_n 3, 1) := dk_29 (dk_at dksX2_mayRead_1 18 rfl rfl)
theorem dX2_mayRead_43 : decode cX2_mayRead 43 = .ok (.ishl, 1) := dk_120 (dk_at dksX2_mayRead_1 19 rfl rfl)
theorem dX2_mayRead_44 : decode cX2_mayRead 44 = .ok (.goto 4, 3) := dk_167 0 4 (dk_at dksX2_mayRead_1 20 rfl rfl)
theorem dX2_mayRead_47 : decode cX2_mayRead 47 = .ok (.iconst 0, 1) := dk_3 (dk_at dksX2_mayRead_1 23 rfl rfl)
theorem dX2_mayRead_48 : decode cX2_mayRead 48 = .ok (.ior, 1) := dk_128 (dk_at dksX2_mayRead_2 0 rfl rfl)
theorem dX2_mayRead_49 : decode cX2_mayRead 49 = .ok (.istore_n 2, 1) := dk_61 (dk_at dksX2_mayRead_2 1 rfl rfl)
theorem dX2_mayRead_50 : decode cX2_mayRead 50 = .ok (.iinc 3 1, 3) := dk_132 3 1 (dk_at dksX2_mayRead_2 2 rfl rfl)
theorem dX2_mayRead_53 : decode cX2_mayRead 53 = .ok (.goto (-30), 3) := dk_167 255 226 (dk_at dksX2_mayRead_2 5 rfl rfl)
theorem dX2_mayRead_56 : decode cX2_mayRead 56 = .ok (.iload_n 2, 1) := dk_28 (dk_at dksX2_mayRead_2 8 rfl rfl)
theorem dX2_mayRead_57 : decode cX2_mayRead 57 = .ok (.ireturn, 1) := dk_172 (dk_at dksX2_mayRead_2 9 rfl rfl)
abbrev cX2_loadOf : ByteArray := prog_9_method_26_code
def yX2_loadOf : MethodName := ⟨RX2, "loadOf", "(I)I"⟩
def dkwX2_loadOf_1 : List UInt8 := [182, 0, 87, 172]
abbrev dktX2_loadOf_1 : List UInt8 := dkwX2_loadOf_1 ++ []
def dkwX2_loadOf_0 : List UInt8 := [42, 3, 181, 0, 66, 42, 27, 182, 0, 76, 153, 0, 11, 42, 27, 182, 0, 108, 167, 0, 8, 42, 4]
abbrev dktX2_loadOf_0 : List UInt8 := dkwX2_loadOf_0 ++ dktX2_loadOf_1
theorem dksX2_loadOf_0 : cX2_loadOf.data.toList.drop 0 = dktX2_loadOf_0 := by decide +kernel
theorem dksX2_loadOf_1 : cX2_loadOf.data.toList.drop 23 = dktX2_loadOf_1 := dk_seg dksX2_loadOf_0 23 rfl rfl
theorem dX2_loadOf_0 : decode cX2_loadOf 0 = .ok (.aload_n 0, 1) := dk_42 (dk_at dksX2_loadOf_0 0 rfl rfl)
theorem dX2_loadOf_1 : decode cX2_loadOf 1 = .ok (.iconst 0, 1) := dk_3 (dk_at dksX2_loadOf_0 1 rfl rfl)
theorem dX2_loadOf_2 : decode cX2_loadOf 2 = .ok (.putfield 66, 3) := dk_181 0 66 (dk_at dksX2_loadOf_0 2 rfl rfl)
theorem dX2_loadOf_5 : decode cX2_loadOf 5 = .ok (.aload_n 0, 1) := dk_42 (dk_at dksX2_loadOf_0 5 rfl rfl)
theorem dX2_loadOf_6 : decode cX2_loadOf 6 = .ok (.iload_n 1, 1) := dk_27 (dk_at dksX2_loadOf_0 6 rfl rfl)
theorem dX2_loadOf_7 : decode cX2_loadOf 7 = .ok (.invokevirtual 76, 3) := dk_182 0 76 (dk_at dksX2_loadOf_0 7 rfl rfl)
theorem dX2_loadOf_10 : decode cX2_loadOf 10 = .ok (.ifCond .eq 11, 3) := dk_153 0 11 (dk_at dksX2_loadOf_0 10 rfl rfl)
theorem dX2_loadOf_13 : decode cX2_loadOf 13 = .ok (.aload_n 0, 1) := dk_42 (dk_at dksX2_loadOf_0 13 rfl rfl)
theorem dX2_loadOf_14 : decode cX2_loadOf 14 = .ok (.iload_n 1, 1) := dk_27 (dk_at dksX2_loadOf_0 14 rfl rfl)
theorem dX2_loadOf_15 : decode cX2_loadOf 15 = .ok (.invokevirtual 108, 3) := dk_182 0 108 (dk_at dksX2_loadOf_0 15 rfl rfl)
theorem dX2_loadOf_18 : decode cX2_loadOf 18 = .ok (.goto 8, 3) := dk_167 0 8 (dk_at dksX2_loadOf_0 18 rfl rfl)
theorem dX2_loadOf_21 : decode cX2_loadOf 21 = .ok (.aload_n 0, 1) := dk_42 (dk_at dksX2_loadOf_0 21 rfl rfl)
theorem dX2_loadOf_22 : decode cX2_loadOf 22 = .ok (.iconst 1, 1) := dk_4 (dk_at dksX2_loadOf_0 22 rfl rfl)
theorem dX2_loadOf_23 : decode cX2_loadOf 23 = .ok (.invokevirtual 87, 3) := dk_182 0 87 (dk_at dksX2_loadOf_1 0 rfl rfl)
theorem dX2_loadOf_26 : decode cX2_loadOf 26 = .ok (.ireturn, 1) := dk_172 (dk_at dksX2_loadOf_1 3 rfl rfl)
abbrev cX2_possible : ByteArray := prog_9_method_30_code
def yX2_possible : MethodName := ⟨RX2, "possible", "(II)I"⟩
def dkwX2_possible_6 : List UInt8 := [62, 132, 4, 1, 167, 255, 178, 29, 172]
abbrev dktX2_possible_6 : List UInt8 := dkwX2_possible_6 ++ []
def dkwX2_possible_5 : List UInt8 := [153, 0, 22, 42, 21, 4, 42, 180, 0, 69, 112, 28, 182, 0, 128, 153, 0, 7, 4, 167, 0, 4, 3, 96]
abbrev dktX2_possible_5 : List UInt8 := dkwX2_possible_5 ++ dktX2_possible_6
def dkwX2_possible_4 : List UInt8 := [21, 5, 3, 84, 132, 5, 1, 167, 255, 236, 29, 42, 180, 0, 13, 21, 4, 42, 180, 0, 69, 112, 51]
abbrev dktX2_possible_4 : List UInt8 := dkwX2_possible_4 ++ dktX2_possible_5
def dkwX2_possible_3 : List UInt8 := [180, 0, 69, 104, 162, 0, 73, 3, 54, 5, 21, 5, 42, 180, 0, 69, 162, 0, 17, 42, 180, 0, 57]
abbrev dktX2_possible_3 : List UInt8 := dkwX2_possible_3 ++ dktX2_possible_4
def dkwX2_possible_2 : List UInt8 := [180, 0, 54, 29, 16, 16, 112, 3, 79, 132, 3, 1, 167, 255, 229, 3, 62, 3, 54, 4, 21, 4, 27, 42]
abbrev dktX2_possible_2 : List UInt8 := dkwX2_possible_2 ++ dktX2_possible_3
def dkwX2_possible_1 : List UInt8 := [42, 4, 182, 0, 87, 172, 3, 62, 29, 17, 1, 0, 162, 0, 26, 42, 180, 0, 51, 29, 3, 84, 42]
abbrev dktX2_possible_1 : List UInt8 := dkwX2_possible_1 ++ dktX2_possible_2
def dkwX2_possible_0 : List UInt8 := [42, 3, 181, 0, 66, 27, 4, 8, 184, 0, 72, 153, 0, 13, 28, 4, 16, 16, 184, 0, 72, 154, 0, 9]
abbrev dktX2_possible_0 : List UInt8 := dkwX2_possible_0 ++ dktX2_possible_1
theorem dksX2_possible_0 : cX2_possible.data.toList.drop 0 = dktX2_possible_0 := by decide +kernel
theorem dksX2_possible_1 : cX2_possible.data.toList.drop 24 = dktX2_possible_1 := dk_seg dksX2_possible_0 24 rfl rfl
theorem dksX2_possible_2 : cX2_possible.data.toList.drop 47 = dktX2_possible_2 := dk_seg dksX2_possible_1 23 rfl rfl
theorem dksX2_possible_3 : cX2_possible.data.toList.drop 71 = dktX2_possible_3 := dk_seg dksX2_possible_2 24 rfl rfl
theorem dksX2_possible_4 : cX2_possible.data.toList.drop 94 = dktX2_possible_4 := dk_seg dksX2_possible_3 23 rfl rfl
theorem dksX2_possible_5 : cX2_possible.data.toList.drop 117 = dktX2_possible_5 := dk_seg dksX2_possible_4 23 rfl rfl
theorem dksX2_possible_6 : cX2_possible.data.toList.drop 141 = dktX2_possible_6 := dk_seg dksX2_possible_5 24 rfl rfl
theorem dX2_possible_0 : decode cX2_possible 0 = .ok (.aload_n 0, 1) := dk_42 (dk_at dksX2_possible_0 0 rfl rfl)
theorem dX2_possible_1 : decode cX2_possible 1 = .ok (.iconst 0, 1) := dk_3 (dk_at dksX2_possible_0 1 rfl rfl)
theorem dX2_possible_2 : decode cX2_possible 2 = .ok (.putfield 66, 3) := dk_181 0 66 (dk_at dksX2_possible_0 2 rfl rfl)
theorem dX2_possible_5 : decode cX2_possible 5 = .ok (.iload_n 1, 1) := dk_27 (dk_at dksX2_possible_0 5 rfl rfl)
theorem dX2_possible_6 : decode cX2_possible 6 = .ok (.iconst 1, 1) := dk_4 (dk_at dksX2_possible_0 6 rfl rfl)
theorem dX2_possible_7 : decode cX2_possible 7 = .ok (.iconst 5, 1) := dk_8 (dk_at dksX2_possible_0 7 rfl rfl)
theorem dX2_possible_8 : decode cX2_possible 8 = .ok (.invokestatic 72, 3) := dk_184 0 72 (dk_at dksX2_possible_0 8 rfl rfl)
theorem dX2_possible_11 : decode cX2_possible 11 = .ok (.ifCond .eq 13, 3) := dk_153 0 13 (dk_at dksX2_possible_0 11 rfl rfl)
theorem dX2_possible_14 : decode cX2_possible 14 = .ok (.iload_n 2, 1) := dk_28 (dk_at dksX2_possible_0 14 rfl rfl)
theorem dX2_possible_15 : decode cX2_possible 15 = .ok (.iconst 1, 1) := dk_4 (dk_at dksX2_possible_0 15 rfl rfl)
theorem dX2_possible_16 : decode cX2_possible 16 = .ok (.bipush 16, 2) := dk_16 16 (dk_at dksX2_possible_0 16 rfl rfl)
theorem dX2_possible_18 : decode cX2_possible 18 = .ok (.invokestatic 72, 3) := dk_184 0 72 (dk_at dksX2_possible_0 18 rfl rfl)
theorem dX2_possible_21 : decode cX2_possible 21 = .ok (.ifCond .ne 9, 3) := dk_154 0 9 (dk_at dksX2_possible_0 21 rfl rfl)
theorem dX2_possible_24 : decode cX2_possible 24 = .ok (.aload_n 0, 1) := dk_42 (dk_at dksX2_possible_1 0 rfl rfl)
theorem dX2_possible_25 : decode cX2_possible 25 = .ok (.iconst 1, 1) := dk_4 (dk_at dksX2_possible_1 1 rfl rfl)
theorem dX2_possible_26 : decode cX2_possible 26 = .ok (.invokevirtual 87, 3) := dk_182 0 87 (dk_at dksX2_possible_1 2 rfl rfl)
theorem dX2_possible_29 : decode cX2_possible 29 = .ok (.ireturn, 1) := dk_172 (dk_at dksX2_possible_1 5 rfl rfl)
theorem dX2_possible_30 : decode cX2_possible 30 = .ok (.iconst 0, 1) := dk_3 (dk_at dksX2_possible_1 6 rfl rfl)
theorem dX2_possible_31 : decode cX2_possible 31 = .ok (.istore_n 3, 1) := dk_62 (dk_at dksX2_possible_1 7 rfl rfl)
theorem dX2_possible_32 : decode cX2_possible 32 = .ok (.iload_n 3, 1) := dk_29 (dk_at dksX2_possible_1 8 rfl rfl)
theorem dX2_possible_33 : decode cX2_possible 33 = .ok (.sipush 256, 3) := dk_17 1 0 (dk_at dksX2_possible_1 9 rfl rfl)
theorem dX2_possible_36 : decode cX2_possible 36 = .ok (.if_icmp .ge 26, 3) := dk_162 0 26 (dk_at dksX2_possible_1 12 rfl rfl)
theorem dX2_possible_39 : decode cX2_possible 39 = .ok (.aload_n 0, 1) := dk_42 (dk_at dksX2_possible_1 15 rfl rfl)
theorem dX2_possible_40 : decode cX2_possible 40 = .ok (.getfield 51, 3) := dk_180 0 51 (dk_at dksX2_possible_1 16 rfl rfl)
theorem dX2_possible_43 : decode cX2_possible 43 = .ok (.iload_n 3, 1) := dk_29 (dk_at dksX2_possible_1 19 rfl rfl)
theorem dX2_possible_44 : decode cX2_possible 44 = .ok (.iconst 0, 1) := dk_3 (dk_at dksX2_possible_1 20 rfl rfl)
theorem dX2_possible_45 : decode cX2_possible 45 = .ok (.bastore, 1) := dk_84 (dk_at dksX2_possible_1 21 rfl rfl)
theorem dX2_possible_46 : decode cX2_possible 46 = .ok (.aload_n 0, 1) := dk_42 (dk_at dksX2_possible_1 22 rfl rfl)
theorem dX2_possible_47 : decode cX2_possible 47 = .ok (.getfield 54, 3) := dk_180 0 54 (dk_at dksX2_possible_2 0 rfl rfl)
theorem dX2_possible_50 : decode cX2_possible 50 = .ok (.iload_n 3, 1) := dk_29 (dk_at dksX2_possible_2 3 rfl rfl)
theorem dX2_possible_51 : decode cX2_possible 51 = .ok (.bipush 16, 2) := dk_16 16 (dk_at dksX2_possible_2 4 rfl rfl)
theorem dX2_possible_53 : decode cX2_possible 53 = .ok (.irem, 1) := dk_112 (dk_at dksX2_possible_2 6 rfl rfl)
theorem dX2_possible_54 : decode cX2_possible 54 = .ok (.iconst 0, 1) := dk_3 (dk_at dksX2_possible_2 7 rfl rfl)
theorem dX2_possible_55 : decode cX2_possible 55 = .ok (.iastore, 1) := dk_79 (dk_at dksX2_possible_2 8 rfl rfl)
theorem dX2_possible_56 : decode cX2_possible 56 = .ok (.iinc 3 1, 3) := dk_132 3 1 (dk_at dksX2_possible_2 9 rfl rfl)
theorem dX2_possible_59 : decode cX2_possible 59 = .ok (.goto (-27), 3) := dk_167 255 229 (dk_at dksX2_possible_2 12 rfl rfl)
theorem dX2_possible_62 : decode cX2_possible 62 = .ok (.iconst 0, 1) := dk_3 (dk_at dksX2_possible_2 15 rfl rfl)
theorem dX2_possible_63 : decode cX2_possible 63 = .ok (.istore_n 3, 1) := dk_62 (dk_at dksX2_possible_2 16 rfl rfl)
theorem dX2_possible_64 : decode cX2_possible 64 = .ok (.iconst 0, 1) := dk_3 (dk_at dksX2_possible_2 17 rfl rfl)
theorem dX2_possible_65 : decode cX2_possible 65 = .ok (.istore 4, 2) := dk_54 4 (dk_at dksX2_possible_2 18 rfl rfl)
theorem dX2_possible_67 : decode cX2_possible 67 = .ok (.iload 4, 2) := dk_21 4 (dk_at dksX2_possible_2 20 rfl rfl)
theorem dX2_possible_69 : decode cX2_possible 69 = .ok (.iload_n 1, 1) := dk_27 (dk_at dksX2_possible_2 22 rfl rfl)
theorem dX2_possible_70 : decode cX2_possible 70 = .ok (.aload_n 0, 1) := dk_42 (dk_at dksX2_possible_2 23 rfl rfl)
theorem dX2_possible_71 : decode cX2_possible 71 = .ok (.getfield 69, 3) := dk_180 0 69 (dk_at dksX2_possible_3 0 rfl rfl)
theorem dX2_possible_74 : decode cX2_possible 74 = .ok (.imul, 1) := dk_104 (dk_at dksX2_possible_3 3 rfl rfl)
theorem dX2_possible_75 : decode cX2_possible 75 = .ok (.if_icmp .ge 73, 3) := dk_162 0 73 (dk_at dksX2_possible_3 4 rfl rfl)
theorem dX2_possible_78 : decode cX2_possible 78 = .ok (.iconst 0, 1) := dk_3 (dk_at dksX2_possible_3 7 rfl rfl)
theorem dX2_possible_79 : decode cX2_possible 79 = .ok (.istore 5, 2) := dk_54 5 (dk_at dksX2_possible_3 8 rfl rfl)
theorem dX2_possible_81 : decode cX2_possible 81 = .ok (.iload 5, 2) := dk_21 5 (dk_at dksX2_possible_3 10 rfl rfl)
theorem dX2_possible_83 : decode cX2_possible 83 = .ok (.aload_n 0, 1) := dk_42 (dk_at dksX2_possible_3 12 rfl rfl)
theorem dX2_possible_84 : decode cX2_possible 84 = .ok (.getfield 69, 3) := dk_180 0 69 (dk_at dksX2_possible_3 13 rfl rfl)
theorem dX2_possible_87 : decode cX2_possible 87 = .ok (.if_icmp .ge 17, 3) := dk_162 0 17 (dk_at dksX2_possible_3 16 rfl rfl)
theorem dX2_possible_90 : decode cX2_possible 90 = .ok (.aload_n 0, 1) := dk_42 (dk_at dksX2_possible_3 19 rfl rfl)
theorem dX2_possible_91 : decode cX2_possible 91 = .ok (.getfield 57, 3) := dk_180 0 57 (dk_at dksX2_possible_3 20 rfl rfl)
theorem dX2_possible_94 : decode cX2_possible 94 = .ok (.iload 5, 2) := dk_21 5 (dk_at dksX2_possible_4 0 rfl rfl)
theorem dX2_possible_96 : decode cX2_possible 96 = .ok (.iconst 0, 1) := dk_3 (dk_at dksX2_possible_4 2 rfl rfl)
theorem dX2_possible_97 : decode cX2_possible 97 = .ok (.bastore, 1) := dk_84 (dk_at dksX2_possible_4 3 rfl rfl)
theorem dX2_possible_98 : decode cX2_possible 98 = .ok (.iinc 5 1, 3) := dk_132 5 1 (dk_at dksX2_possible_4 4 rfl rfl)
theorem dX2_possible_101 : decode cX2_possible 101 = .ok (.goto (-20), 3) := dk_167 255 236 (dk_at dksX2_possible_4 7 rfl rfl)
theorem dX2_possible_104 : decode cX2_possible 104 = .ok (.iload_n 3, 1) := dk_29 (dk_at dksX2_possible_4 10 rfl rfl)
theorem dX2_possible_105 : decode cX2_possible 105 = .ok (.aload_n 0, 1) := dk_42 (dk_at dksX2_possible_4 11 rfl rfl)
theorem dX2_possible_106 : decode cX2_possible 106 = .ok (.getfield 13, 3) := dk_180 0 13 (dk_at dksX2_possible_4 12 rfl rfl)
theorem dX2_possible_109 : decode cX2_possible 109 = .ok (.iload 4, 2) := dk_21 4 (dk_at dksX2_possible_4 15 rfl rfl)
theorem dX2_possible_111 : decode cX2_possible 111 = .ok (.aload_n 0, 1) := dk_42 (dk_at dksX2_possible_4 17 rfl rfl)
theorem dX2_possible_112 : decode cX2_possible 112 = .ok (.getfield 69, 3) := dk_180 0 69 (dk_at dksX2_possible_4 18 rfl rfl)
theorem dX2_possible_115 : decode cX2_possible 115 = .ok (.irem, 1) := dk_112 (dk_at dksX2_possible_4 21 rfl rfl)
theorem dX2_possible_116 : decode cX2_possible 116 = .ok (.baload, 1) := dk_51 (dk_at dksX2_possible_4 22 rfl rfl)
theorem dX2_possible_117 : decode cX2_possible 117 = .ok (.ifCond .eq 22, 3) := dk_153 0 22 (dk_at dksX2_possible_5 0 rfl rfl)
theorem dX2_possible_120 : decode cX2_possible 120 = .ok (.aload_n 0, 1) := dk_42 (dk_at dksX2_possible_5 3 rfl rfl)
theorem dX2_possible_121 : decode cX2_possible 121 = .ok (.iload 4, 2) := dk_21 4 (dk_at dksX2_possible_5 4 rfl rfl)
theorem dX2_possible_123 : decode cX2_possible 123 = .ok (.aload_n 0, 1) := dk_42 (dk_at dksX2_possible_5 6 rfl rfl)
theorem dX2_possible_124 : decode cX2_possible 124 = .ok (.getfield 69, 3) := dk_180 0 69 (dk_at dksX2_possible_5 7 rfl rfl)
theorem dX2_possible_127 : decode cX2_possible 127 = .ok (.irem, 1) := dk_112 (dk_at dksX2_possible_5 10 rfl rfl)
theorem dX2_possible_128 : decode cX2_possible 128 = .ok (.iload_n 2, 1) := dk_28 (dk_at dksX2_possible_5 11 rfl rfl)
theorem dX2_possible_129 : decode cX2_possible 129 = .ok (.invokevirtual 128, 3) := dk_182 0 128 (dk_at dksX2_possible_5 12 rfl rfl)
theorem dX2_possible_132 : decode cX2_possible 132 = .ok (.ifCond .eq 7, 3) := dk_153 0 7 (dk_at dksX2_possible_5 15 rfl rfl)
theorem dX2_possible_135 : decode cX2_possible 135 = .ok (.iconst 1, 1) := dk_4 (dk_at dksX2_possible_5 18 rfl rfl)
theorem dX2_possible_136 : decode cX2_possible 136 = .ok (.goto 4, 3) := dk_167 0 4 (dk_at dksX2_possible_5 19 rfl rfl)
theorem dX2_possible_139 : decode cX2_possible 139 = .ok (.iconst 0, 1) := dk_3 (dk_at dksX2_possible_5 22 rfl rfl)
theorem dX2_possible_140 : decode cX2_possible 140 = .ok (.iadd, 1) := dk_96 (dk_at dksX2_possible_5 23 rfl rfl)
theorem dX2_possible_141 : decode cX2_possible 141 = .ok (.istore_n 3, 1) := dk_62 (dk_at dksX2_possible_6 0 rfl rfl)
theorem dX2_possible_142 : decode cX2_possible 142 = .ok (.iinc 4 1, 3) := dk_132 4 1 (dk_at dksX2_possible_6 1 rfl rfl)
theorem dX2_possible_145 : decode cX2_possible 145 = .ok (.goto (-78), 3) := dk_167 255 178 (dk_at dksX2_possible_6 4 rfl rfl)
theorem dX2_possible_148 : decode cX2_possible 148 = .ok (.iload_n 3, 1) := dk_29 (dk_at dksX2_possible_6 7 rfl rfl)
theorem dX2_possible_149 : decode cX2_possible 149 = .ok (.ireturn, 1) := dk_172 (dk_at dksX2_possible_6 8 rfl rfl)
abbrev cX2_gain : ByteArray := prog_9_method_28_code
def yX2_gain : MethodName := ⟨RX2, "gain", "(II)Z"⟩
def dkwX2_gain_3 : List UInt8 := [182, 0, 124, 4, 172, 132, 3, 1, 167, 255, 179, 3, 172]
abbrev dktX2_gain_3 : List UInt8 := dkwX2_gain_3 ++ []
def dkwX2_gain_2 : List UInt8 := [42, 180, 0, 54, 29, 46, 28, 161, 0, 12, 42, 29, 28, 182, 0, 121, 153, 0, 12, 42, 29, 27, 4]
abbrev dktX2_gain_2 : List UInt8 := dkwX2_gain_2 ++ dktX2_gain_3
def dkwX2_gain_1 : List UInt8 := [27, 184, 0, 101, 51, 154, 0, 47, 42, 180, 0, 57, 29, 51, 154, 0, 38, 42, 180, 0, 57, 29, 4, 84]
abbrev dktX2_gain_1 : List UInt8 := dkwX2_gain_1 ++ dktX2_gain_2
def dkwX2_gain_0 : List UInt8 := [3, 62, 29, 42, 180, 0, 69, 162, 0, 75, 42, 29, 27, 182, 0, 97, 153, 0, 60, 42, 180, 0, 51, 29]
abbrev dktX2_gain_0 : List UInt8 := dkwX2_gain_0 ++ dktX2_gain_1
theorem dksX2_gain_0 : cX2_gain.data.toList.drop 0 = dktX2_gain_0 := by decide +kernel
theorem dksX2_gain_1 : cX2_gain.data.toList.drop 24 = dktX2_gain_1 := dk_seg dksX2_gain_0 24 rfl rfl
theorem dksX2_gain_2 : cX2_gain.data.toList.drop 48 = dktX2_gain_2 := dk_seg dksX2_gain_1 24 rfl rfl
theorem dksX2_gain_3 : cX2_gain.data.toList.drop 71 = dktX2_gain_3 := dk_seg dksX2_gain_2 23 rfl rfl
theorem dX2_gain_0 : decode cX2_gain 0 = .ok (.iconst 0, 1) := dk_3 (dk_at dksX2_gain_0 0 rfl rfl)
theorem dX2_gain_1 : decode cX2_gain 1 = .ok (.istore_n 3, 1) := dk_62 (dk_at dksX2_gain_0 1 rfl rfl)
theorem dX2_gain_2 : decode cX2_gain 2 = .ok (.iload_n 3, 1) := dk_29 (dk_at dksX2_gain_0 2 rfl rfl)
theorem dX2_gain_3 : decode cX2_gain 3 = .ok (.aload_n 0, 1) := dk_42 (dk_at dksX2_gain_0 3 rfl rfl)
theorem dX2_gain_4 : decode cX2_gain 4 = .ok (.getfield 69, 3) := dk_180 0 69 (dk_at dksX2_gain_0 4 rfl rfl)
theorem dX2_gain_7 : decode cX2_gain 7 = .ok (.if_icmp .ge 75, 3) := dk_162 0 75 (dk_at dksX2_gain_0 7 rfl rfl)
theorem dX2_gain_10 : decode cX2_gain 10 = .ok (.aload_n 0, 1) := dk_42 (dk_at dksX2_gain_0 10 rfl rfl)
theorem dX2_gain_11 : decode cX2_gain 11 = .ok (.iload_n 3, 1) := dk_29 (dk_at dksX2_gain_0 11 rfl rfl)
theorem dX2_gain_12 : decode cX2_gain 12 = .ok (.iload_n 1, 1) := dk_27 (dk_at dksX2_gain_0 12 rfl rfl)
theorem dX2_gain_13 : decode cX2_gain 13 = .ok (.invokevirtual 97, 3) := dk_182 0 97 (dk_at dksX2_gain_0 13 rfl rfl)
theorem dX2_gain_16 : decode cX2_gain 16 = .ok (.ifCond .eq 60, 3) := dk_153 0 60 (dk_at dksX2_gain_0 16 rfl rfl)
theorem dX2_gain_19 : decode cX2_gain 19 = .ok (.aload_n 0, 1) := dk_42 (dk_at dksX2_gain_0 19 rfl rfl)
theorem dX2_gain_20 : decode cX2_gain 20 = .ok (.getfield 51, 3) := dk_180 0 51 (dk_at dksX2_gain_0 20 rfl rfl)
theorem dX2_gain_23 : decode cX2_gain 23 = .ok (.iload_n 3, 1) := dk_29 (dk_at dksX2_gain_0 23 rfl rfl)
theorem dX2_gain_24 : decode cX2_gain 24 = .ok (.iload_n 1, 1) := dk_27 (dk_at dksX2_gain_1 0 rfl rfl)
theorem dX2_gain_25 : decode cX2_gain 25 = .ok (.invokestatic 101, 3) := dk_184 0 101 (dk_at dksX2_gain_1 1 rfl rfl)
theorem dX2_gain_28 : decode cX2_gain 28 = .ok (.baload, 1) := dk_51 (dk_at dksX2_gain_1 4 rfl rfl)
theorem dX2_gain_29 : decode cX2_gain 29 = .ok (.ifCond .ne 47, 3) := dk_154 0 47 (dk_at dksX2_gain_1 5 rfl rfl)
theorem dX2_gain_32 : decode cX2_gain 32 = .ok (.aload_n 0, 1) := dk_42 (dk_at dksX2_gain_1 8 rfl rfl)
theorem dX2_gain_33 : decode cX2_gain 33 = .ok (.getfield 57, 3) := dk_180 0 57 (dk_at dksX2_gain_1 9 rfl rfl)
theorem dX2_gain_36 : decode cX2_gain 36 = .ok (.iload_n 3, 1) := dk_29 (dk_at dksX2_gain_1 12 rfl rfl)
theorem dX2_gain_37 : decode cX2_gain 37 = .ok (.baload, 1) := dk_51 (dk_at dksX2_gain_1 13 rfl rfl)
theorem dX2_gain_38 : decode cX2_gain 38 = .ok (.ifCond .ne 38, 3) := dk_154 0 38 (dk_at dksX2_gain_1 14 rfl rfl)
theorem dX2_gain_41 : decode cX2_gain 41 = .ok (.aload_n 0, 1) := dk_42 (dk_at dksX2_gain_1 17 rfl rfl)
theorem dX2_gain_42 : decode cX2_gain 42 = .ok (.getfield 57, 3) := dk_180 0 57 (dk_at dksX2_gain_1 18 rfl rfl)
theorem dX2_gain_45 : decode cX2_gain 45 = .ok (.iload_n 3, 1) := dk_29 (dk_at dksX2_gain_1 21 rfl rfl)
theorem dX2_gain_46 : decode cX2_gain 46 = .ok (.iconst 1, 1) := dk_4 (dk_at dksX2_gain_1 22 rfl rfl)
theorem dX2_gain_47 : decode cX2_gain 47 = .ok (.bastore, 1) := dk_84 (dk_at dksX2_gain_1 23 rfl rfl)
theorem dX2_gain_48 : decode cX2_gain 48 = .ok (.aload_n 0, 1) := dk_42 (dk_at dksX2_gain_2 0 rfl rfl)
theorem dX2_gain_49 : decode cX2_gain 49 = .ok (.getfield 54, 3) := dk_180 0 54 (dk_at dksX2_gain_2 1 rfl rfl)
theorem dX2_gain_52 : decode cX2_gain 52 = .ok (.iload_n 3, 1) := dk_29 (dk_at dksX2_gain_2 4 rfl rfl)
theorem dX2_gain_53 : decode cX2_gain 53 = .ok (.iaload, 1) := dk_46 (dk_at dksX2_gain_2 5 rfl rfl)
theorem dX2_gain_54 : decode cX2_gain 54 = .ok (.iload_n 2, 1) := dk_28 (dk_at dksX2_gain_2 6 rfl rfl)
theorem dX2_gain_55 : decode cX2_gain 55 = .ok (.if_icmp .lt 12, 3) := dk_161 0 12 (dk_at dksX2_gain_2 7 rfl rfl)
theorem dX2_gain_58 : decode cX2_gain 58 = .ok (.aload_n 0, 1) := dk_42 (dk_at dksX2_gain_2 10 rfl rfl)
theorem dX2_gain_59 : decode cX2_gain 59 = .ok (.iload_n 3, 1) := dk_29 (dk_at dksX2_gain_2 11 rfl rfl)
theorem dX2_gain_60 : decode cX2_gain 60 = .ok (.iload_n 2, 1) := dk_28 (dk_at dksX2_gain_2 12 rfl rfl)
theorem dX2_gain_61 : decode cX2_gain 61 = .ok (.invokevirtual 121, 3) := dk_182 0 121 (dk_at dksX2_gain_2 13 rfl rfl)
theorem dX2_gain_64 : decode cX2_gain 64 = .ok (.ifCond .eq 12, 3) := dk_153 0 12 (dk_at dksX2_gain_2 16 rfl rfl)
theorem dX2_gain_67 : decode cX2_gain 67 = .ok (.aload_n 0, 1) := dk_42 (dk_at dksX2_gain_2 19 rfl rfl)
theorem dX2_gain_68 : decode cX2_gain 68 = .ok (.iload_n 3, 1) := dk_29 (dk_at dksX2_gain_2 20 rfl rfl)
theorem dX2_gain_69 : decode cX2_gain 69 = .ok (.iload_n 1, 1) := dk_27 (dk_at dksX2_gain_2 21 rfl rfl)
theorem dX2_gain_70 : decode cX2_gain 70 = .ok (.iconst 1, 1) := dk_4 (dk_at dksX2_gain_2 22 rfl rfl)
theorem dX2_gain_71 : decode cX2_gain 71 = .ok (.invokevirtual 124, 3) := dk_182 0 124 (dk_at dksX2_gain_3 0 rfl rfl)
theorem dX2_gain_74 : decode cX2_gain 74 = .ok (.iconst 1, 1) := dk_4 (dk_at dksX2_gain_3 3 rfl rfl)
theorem dX2_gain_75 : decode cX2_gain 75 = .ok (.ireturn, 1) := dk_172 (dk_at dksX2_gain_3 4 rfl rfl)
theorem dX2_gain_76 : decode cX2_gain 76 = .ok (.iinc 3 1, 3) := dk_132 3 1 (dk_at dksX2_gain_3 5 rfl rfl)
theorem dX2_gain_79 : decode cX2_gain 79 = .ok (.goto (-77), 3) := dk_167 255 179 (dk_at dksX2_gain_3 8 rfl rfl)
theorem dX2_gain_82 : decode cX2_gain 82 = .ok (.iconst 0, 1) := dk_3 (dk_at dksX2_gain_3 11 rfl rfl)
theorem dX2_gain_83 : decode cX2_gain 83 = .ok (.ireturn, 1) := dk_172 (dk_at dksX2_gain_3 12 rfl rfl)
abbrev cX2_canYield : ByteArray := prog_9_method_29_code
def yX2_canYield : MethodName := ⟨RX2, "canYield", "(II)Z"⟩
def dkwX2_canYield_2 : List UInt8 := [172]
abbrev dktX2_canYield_2 : List UInt8 := dkwX2_canYield_2 ++ []
def dkwX2_canYield_1 : List UInt8 := [29, 28, 182, 0, 128, 153, 0, 12, 42, 27, 29, 3, 182, 0, 124, 4, 172, 132, 3, 1, 167, 255, 214, 3]
abbrev dktX2_canYield_1 : List UInt8 := dkwX2_canYield_1 ++ dktX2_canYield_2
def dkwX2_canYield_0 : List UInt8 := [3, 62, 29, 42, 180, 0, 69, 162, 0, 40, 42, 180, 0, 51, 27, 29, 184, 0, 101, 51, 153, 0, 21, 42]
abbrev dktX2_canYield_0 : List UInt8 := dkwX2_canYield_0 ++ dktX2_canYield_1
theorem dksX2_canYield_0 : cX2_canYield.data.toList.drop 0 = dktX2_canYield_0 := by decide +kernel
theorem dksX2_canYield_1 : cX2_canYield.data.toList.drop 24 = dktX2_canYield_1 := dk_seg dksX2_canYield_0 24 rfl rfl
theorem dksX2_canYield_2 : cX2_canYield.data.toList.drop 48 = dktX2_canYield_2 := dk_seg dksX2_canYield_1 24 rfl rfl
theorem dX2_canYield_0 : decode cX2_canYield 0 = .ok (.iconst 0, 1) := dk_3 (dk_at dksX2_canYield_0 0 rfl rfl)
theorem dX2_canYield_1 : decode cX2_canYield 1 = .ok (.istore_n 3, 1) := dk_62 (dk_at dksX2_canYield_0 1 rfl rfl)
theorem dX2_canYield_2 : decode cX2_canYield 2 = .ok (.iload_n 3, 1) := dk_29 (dk_at dksX2_canYield_0 2 rfl rfl)
theorem dX2_canYield_3 : decode cX2_canYield 3 = .ok (.aload_n 0, 1) := dk_42 (dk_at dksX2_canYield_0 3 rfl rfl)
theorem dX2_canYield_4 : decode cX2_canYield 4 = .ok (.getfield 69, 3) := dk_180 0 69 (dk_at dksX2_canYield_0 4 rfl rfl)
theorem dX2_canYield_7 : decode cX2_canYield 7 = .ok (.if_icmp .ge 40, 3) := dk_162 0 40 (dk_at dksX2_canYield_0 7 rfl rfl)
theorem dX2_canYield_10 : decode cX2_canYield 10 = .ok (.aload_n 0, 1) := dk_42 (dk_at dksX2_canYield_0 10 rfl rfl)
theorem dX2_canYield_11 : decode cX2_canYield 11 = .ok (.getfield 51, 3) := dk_180 0 51 (dk_at dksX2_canYield_0 11 rfl rfl)
theorem dX2_canYield_14 : decode cX2_canYield 14 = .ok (.iload_n 1, 1) := dk_27 (dk_at dksX2_canYield_0 14 rfl rfl)
theorem dX2_canYield_15 : decode cX2_canYield 15 = .ok (.iload_n 3, 1) := dk_29 (dk_at dksX2_canYield_0 15 rfl rfl)
theorem dX2_canYield_16 : decode cX2_canYield 16 = .ok (.invokestatic 101, 3) := dk_184 0 101 (dk_at dksX2_canYield_0 16 rfl rfl)
theorem dX2_canYield_19 : decode cX2_canYield 19 = .ok (.baload, 1) := dk_51 (dk_at dksX2_canYield_0 19 rfl rfl)
theorem dX2_canYield_20 : decode cX2_canYield 20 = .ok (.ifCond .eq 21, 3) := dk_153 0 21 (dk_at dksX2_canYield_0 20 rfl rfl)
theorem dX2_canYield_23 : decode cX2_canYield 23 = .ok (.aload_n 0, 1) := dk_42 (dk_at dksX2_canYield_0 23 rfl rfl)
theorem dX2_canYield_24 : decode cX2_canYield 24 = .ok (.iload_n 3, 1) := dk_29 (dk_at dksX2_canYield_1 0 rfl rfl)
theorem dX2_canYield_25 : decode cX2_canYield 25 = .ok (.iload_n 2, 1) := dk_28 (dk_at dksX2_canYield_1 1 rfl rfl)
theorem dX2_canYield_26 : decode cX2_canYield 26 = .ok (.invokevirtual 128, 3) := dk_182 0 128 (dk_at dksX2_canYield_1 2 rfl rfl)
theorem dX2_canYield_29 : decode cX2_canYield 29 = .ok (.ifCond .eq 12, 3) := dk_153 0 12 (dk_at dksX2_canYield_1 5 rfl rfl)
theorem dX2_canYield_32 : decode cX2_canYield 32 = .ok (.aload_n 0, 1) := dk_42 (dk_at dksX2_canYield_1 8 rfl rfl)
theorem dX2_canYield_33 : decode cX2_canYield 33 = .ok (.iload_n 1, 1) := dk_27 (dk_at dksX2_canYield_1 9 rfl rfl)
theorem dX2_canYield_34 : decode cX2_canYield 34 = .ok (.iload_n 3, 1) := dk_29 (dk_at dksX2_canYield_1 10 rfl rfl)
theorem dX2_canYield_35 : decode cX2_canYield 35 = .ok (.iconst 0, 1) := dk_3 (dk_at dksX2_canYield_1 11 rfl rfl)
theorem dX2_canYield_36 : decode cX2_canYield 36 = .ok (.invokevirtual 124, 3) := dk_182 0 124 (dk_at dksX2_canYield_1 12 rfl rfl)
theorem dX2_canYield_39 : decode cX2_canYield 39 = .ok (.iconst 1, 1) := dk_4 (dk_at dksX2_canYield_1 15 rfl rfl)
theorem dX2_canYield_40 : decode cX2_canYield 40 = .ok (.ireturn, 1) := dk_172 (dk_at dksX2_canYield_1 16 rfl rfl)
theorem dX2_canYield_41 : decode cX2_canYield 41 = .ok (.iinc 3 1, 3) := dk_132 3 1 (dk_at dksX2_canYield_1 17 rfl rfl)
theorem dX2_canYield_44 : decode cX2_canYield 44 = .ok (.goto (-42), 3) := dk_167 255 214 (dk_at dksX2_canYield_1 20 rfl rfl)
theorem dX2_canYield_47 : decode cX2_canYield 47 = .ok (.iconst 0, 1) := dk_3 (dk_at dksX2_canYield_1 23 rfl rfl)
theorem dX2_canYield_48 : decode cX2_canYield 48 = .ok (.ireturn, 1) := dk_172 (dk_at dksX2_canYield_2 0 rfl rfl)
abbrev cX2_pair : ByteArray := prog_9_method_27_code
def yX2_pair : MethodName := ⟨RX2, "pair", "(IIZ)V"⟩
def dkwX2_pair_1 : List UInt8 := [167, 0, 4, 2, 96, 79, 177]
abbrev dktX2_pair_1 : List UInt8 := dkwX2_pair_1 ++ []
def dkwX2_pair_0 : List UInt8 := [42, 180, 0, 51, 27, 28, 184, 0, 101, 29, 84, 42, 180, 0, 54, 27, 92, 46, 29, 153, 0, 7, 4]
abbrev dktX2_pair_0 : List UInt8 := dkwX2_pair_0 ++ dktX2_pair_1
theorem dksX2_pair_0 : cX2_pair.data.toList.drop 0 = dktX2_pair_0 := by decide +kernel
theorem dksX2_pair_1 : cX2_pair.data.toList.drop 23 = dktX2_pair_1 := dk_seg dksX2_pair_0 23 rfl rfl
theorem dX2_pair_0 : decode cX2_pair 0 = .ok (.aload_n 0, 1) := dk_42 (dk_at dksX2_pair_0 0 rfl rfl)
theorem dX2_pair_1 : decode cX2_pair 1 = .ok (.getfield 51, 3) := dk_180 0 51 (dk_at dksX2_pair_0 1 rfl rfl)
theorem dX2_pair_4 : decode cX2_pair 4 = .ok (.iload_n 1, 1) := dk_27 (dk_at dksX2_pair_0 4 rfl rfl)
theorem dX2_pair_5 : decode cX2_pair 5 = .ok (.iload_n 2, 1) := dk_28 (dk_at dksX2_pair_0 5 rfl rfl)
theorem dX2_pair_6 : decode cX2_pair 6 = .ok (.invokestatic 101, 3) := dk_184 0 101 (dk_at dksX2_pair_0 6 rfl rfl)
theorem dX2_pair_9 : decode cX2_pair 9 = .ok (.iload_n 3, 1) := dk_29 (dk_at dksX2_pair_0 9 rfl rfl)
theorem dX2_pair_10 : decode cX2_pair 10 = .ok (.bastore, 1) := dk_84 (dk_at dksX2_pair_0 10 rfl rfl)
theorem dX2_pair_11 : decode cX2_pair 11 = .ok (.aload_n 0, 1) := dk_42 (dk_at dksX2_pair_0 11 rfl rfl)
theorem dX2_pair_12 : decode cX2_pair 12 = .ok (.getfield 54, 3) := dk_180 0 54 (dk_at dksX2_pair_0 12 rfl rfl)
theorem dX2_pair_15 : decode cX2_pair 15 = .ok (.iload_n 1, 1) := dk_27 (dk_at dksX2_pair_0 15 rfl rfl)
theorem dX2_pair_16 : decode cX2_pair 16 = .ok (.dup2, 1) := dk_92 (dk_at dksX2_pair_0 16 rfl rfl)
theorem dX2_pair_17 : decode cX2_pair 17 = .ok (.iaload, 1) := dk_46 (dk_at dksX2_pair_0 17 rfl rfl)
theorem dX2_pair_18 : decode cX2_pair 18 = .ok (.iload_n 3, 1) := dk_29 (dk_at dksX2_pair_0 18 rfl rfl)
theorem dX2_pair_19 : decode cX2_pair 19 = .ok (.ifCond .eq 7, 3) := dk_153 0 7 (dk_at dksX2_pair_0 19 rfl rfl)
theorem dX2_pair_22 : decode cX2_pair 22 = .ok (.iconst 1, 1) := dk_4 (dk_at dksX2_pair_0 22 rfl rfl)
theorem dX2_pair_23 : decode cX2_pair 23 = .ok (.goto 4, 3) := dk_167 0 4 (dk_at dksX2_pair_1 0 rfl rfl)
theorem dX2_pair_26 : decode cX2_pair 26 = .ok (.iconst (-1), 1) := dk_2 (dk_at dksX2_pair_1 3 rfl rfl)
theorem dX2_pair_27 : decode cX2_pair 27 = .ok (.iadd, 1) := dk_96 (dk_at dksX2_pair_1 4 rfl rfl)
theorem dX2_pair_28 : decode cX2_pair 28 = .ok (.iastore, 1) := dk_79 (dk_at dksX2_pair_1 5 rfl rfl)
theorem dX2_pair_29 : decode cX2_pair 29 = .ok (.return_, 1) := dk_177 (dk_at dksX2_pair_1 6 rfl rfl)
abbrev cX2_calibrate : ByteArray := prog_9_method_33_code
def yX2_calibrate : MethodName := ⟨RX2, "calibrate", "(III)I"⟩
def dkwX2_calibrate_4 : List UInt8 := [180, 0, 17, 27, 46, 172]
abbrev dktX2_calibrate_4 : List UInt8 := dkwX2_calibrate_4 ++ []
def dkwX2_calibrate_3 : List UInt8 := [92, 46, 28, 29, 100, 184, 0, 139, 96, 79, 42, 180, 0, 17, 27, 42, 27, 182, 0, 142, 79, 42]
abbrev dktX2_calibrate_3 : List UInt8 := dkwX2_calibrate_3 ++ dktX2_calibrate_4
def dkwX2_calibrate_2 : List UInt8 := [160, 0, 9, 42, 6, 182, 0, 87, 172, 42, 180, 0, 20, 27, 92, 46, 4, 96, 79, 42, 180, 0, 23, 27]
abbrev dktX2_calibrate_2 : List UInt8 := dkwX2_calibrate_2 ++ dktX2_calibrate_3
def dkwX2_calibrate_1 : List UInt8 := [153, 0, 10, 29, 184, 0, 91, 154, 0, 9, 42, 5, 182, 0, 87, 172, 42, 180, 0, 20, 27, 46, 16, 8]
abbrev dktX2_calibrate_1 : List UInt8 := dkwX2_calibrate_1 ++ dktX2_calibrate_2
def dkwX2_calibrate_0 : List UInt8 := [42, 3, 181, 0, 66, 42, 27, 182, 0, 76, 154, 0, 9, 42, 4, 182, 0, 87, 172, 28, 184, 0, 91]
abbrev dktX2_calibrate_0 : List UInt8 := dkwX2_calibrate_0 ++ dktX2_calibrate_1
theorem dksX2_calibrate_0 : cX2_calibrate.data.toList.drop 0 = dktX2_calibrate_0 := by decide +kernel
theorem dksX2_calibrate_1 : cX2_calibrate.data.toList.drop 23 = dktX2_calibrate_1 := dk_seg dksX2_calibrate_0 23 rfl rfl
theorem dksX2_calibrate_2 : cX2_calibrate.data.toList.drop 47 = dktX2_calibrate_2 := dk_seg dksX2_calibrate_1 24 rfl rfl
theorem dksX2_calibrate_3 : cX2_calibrate.data.toList.drop 71 = dktX2_calibrate_3 := dk_seg dksX2_calibrate_2 24 rfl rfl
theorem dksX2_calibrate_4 : cX2_calibrate.data.toList.drop 93 = dktX2_calibrate_4 := dk_seg dksX2_calibrate_3 22 rfl rfl
theorem dX2_calibrate_0 : decode cX2_calibrate 0 = .ok (.aload_n 0, 1) := dk_42 (dk_at dksX2_calibrate_0 0 rfl rfl)
theorem dX2_calibrate_1 : decode cX2_calibrate 1 = .ok (.iconst 0, 1) := dk_3 (dk_at dksX2_calibrate_0 1 rfl rfl)
theorem dX2_calibrate_2 : decode cX2_calibrate 2 = .ok (.putfield 66, 3) := dk_181 0 66 (dk_at dksX2_calibrate_0 2 rfl rfl)
theorem dX2_calibrate_5 : decode cX2_calibrate 5 = .ok (.aload_n 0, 1) := dk_42 (dk_at dksX2_calibrate_0 5 rfl rfl)
theorem dX2_calibrate_6 : decode cX2_calibrate 6 = .ok (.iload_n 1, 1) := dk_27 (dk_at dksX2_calibrate_0 6 rfl rfl)
theorem dX2_calibrate_7 : decode cX2_calibrate 7 = .ok (.invokevirtual 76, 3) := dk_182 0 76 (dk_at dksX2_calibrate_0 7 rfl rfl)
theorem dX2_calibrate_10 : decode cX2_calibrate 10 = .ok (.ifCond .ne 9, 3) := dk_154 0 9 (dk_at dksX2_calibrate_0 10 rfl rfl)
theorem dX2_calibrate_13 : decode cX2_calibrate 13 = .ok (.aload_n 0, 1) := dk_42 (dk_at dksX2_calibrate_0 13 rfl rfl)
theorem dX2_calibrate_14 : decode cX2_calibrate 14 = .ok (.iconst 1, 1) := dk_4 (dk_at dksX2_calibrate_0 14 rfl rfl)
theorem dX2_calibrate_15 : decode cX2_calibrate 15 = .ok (.invokevirtual 87, 3) := dk_182 0 87 (dk_at dksX2_calibrate_0 15 rfl rfl)
theorem dX2_calibrate_18 : decode cX2_calibrate 18 = .ok (.ireturn, 1) := dk_172 (dk_at dksX2_calibrate_0 18 rfl rfl)
theorem dX2_calibrate_19 : decode cX2_calibrate 19 = .ok (.iload_n 2, 1) := dk_28 (dk_at dksX2_calibrate_0 19 rfl rfl)
theorem dX2_calibrate_20 : decode cX2_calibrate 20 = .ok (.invokestatic 91, 3) := dk_184 0 91 (dk_at dksX2_calibrate_0 20 rfl rfl)
theorem dX2_calibrate_23 : decode cX2_calibrate 23 = .ok (.ifCond .eq 10, 3) := dk_153 0 10 (dk_at dksX2_calibrate_1 0 rfl rfl)
theorem dX2_calibrate_26 : decode cX2_calibrate 26 = .ok (.iload_n 3, 1) := dk_29 (dk_at dksX2_calibrate_1 3 rfl rfl)
theorem dX2_calibrate_27 : decode cX2_calibrate 27 = .ok (.invokestatic 91, 3) := dk_184 0 91 (dk_at dksX2_calibrate_1 4 rfl rfl)
theorem dX2_calibrate_30 : decode cX2_calibrate 30 = .ok (.ifCond .ne 9, 3) := dk_154 0 9 (dk_at dksX2_calibrate_1 7 rfl rfl)
theorem dX2_calibrate_33 : decode cX2_calibrate 33 = .ok (.aload_n 0, 1) := dk_42 (dk_at dksX2_calibrate_1 10 rfl rfl)
theorem dX2_calibrate_34 : decode cX2_calibrate 34 = .ok (.iconst 2, 1) := dk_5 (dk_at dksX2_calibrate_1 11 rfl rfl)
theorem dX2_calibrate_35 : decode cX2_calibrate 35 = .ok (.invokevirtual 87, 3) := dk_182 0 87 (dk_at dksX2_calibrate_1 12 rfl rfl)
theorem dX2_calibrate_38 : decode cX2_calibrate 38 = .ok (.ireturn, 1) := dk_172 (dk_at dksX2_calibrate_1 15 rfl rfl)
theorem dX2_calibrate_39 : decode cX2_calibrate 39 = .ok (.aload_n 0, 1) := dk_42 (dk_at dksX2_calibrate_1 16 rfl rfl)
theorem dX2_calibrate_40 : decode cX2_calibrate 40 = .ok (.getfield 20, 3) := dk_180 0 20 (dk_at dksX2_calibrate_1 17 rfl rfl)
theorem dX2_calibrate_43 : decode cX2_calibrate 43 = .ok (.iload_n 1, 1) := dk_27 (dk_at dksX2_calibrate_1 20 rfl rfl)
theorem dX2_calibrate_44 : decode cX2_calibrate 44 = .ok (.iaload, 1) := dk_46 (dk_at dksX2_calibrate_1 21 rfl rfl)
theorem dX2_calibrate_45 : decode cX2_calibrate 45 = .ok (.bipush 8, 2) := dk_16 8 (dk_at dksX2_calibrate_1 22 rfl rfl)
theorem dX2_calibrate_47 : decode cX2_calibrate 47 = .ok (.if_icmp .ne 9, 3) := dk_160 0 9 (dk_at dksX2_calibrate_2 0 rfl rfl)
theorem dX2_calibrate_50 : decode cX2_calibrate 50 = .ok (.aload_n 0, 1) := dk_42 (dk_at dksX2_calibrate_2 3 rfl rfl)
theorem dX2_calibrate_51 : decode cX2_calibrate 51 = .ok (.iconst 3, 1) := dk_6 (dk_at dksX2_calibrate_2 4 rfl rfl)
theorem dX2_calibrate_52 : decode cX2_calibrate 52 = .ok (.invokevirtual 87, 3) := dk_182 0 87 (dk_at dksX2_calibrate_2 5 rfl rfl)
theorem dX2_calibrate_55 : decode cX2_calibrate 55 = .ok (.ireturn, 1) := dk_172 (dk_at dksX2_calibrate_2 8 rfl rfl)
theorem dX2_calibrate_56 : decode cX2_calibrate 56 = .ok (.aload_n 0, 1) := dk_42 (dk_at dksX2_calibrate_2 9 rfl rfl)
theorem dX2_calibrate_57 : decode cX2_calibrate 57 = .ok (.getfield 20, 3) := dk_180 0 20 (dk_at dksX2_calibrate_2 10 rfl rfl)
theorem dX2_calibrate_60 : decode cX2_calibrate 60 = .ok (.iload_n 1, 1) := dk_27 (dk_at dksX2_calibrate_2 13 rfl rfl)
theorem dX2_calibrate_61 : decode cX2_calibrate 61 = .ok (.dup2, 1) := dk_92 (dk_at dksX2_calibrate_2 14 rfl rfl)
theorem dX2_calibrate_62 : decode cX2_calibrate 62 = .ok (.iaload, 1) := dk_46 (dk_at dksX2_calibrate_2 15 rfl rfl)
theorem dX2_calibrate_63 : decode cX2_calibrate 63 = .ok (.iconst 1, 1) := dk_4 (dk_at dksX2_calibrate_2 16 rfl rfl)
theorem dX2_calibrate_64 : decode cX2_calibrate 64 = .ok (.iadd, 1) := dk_96 (dk_at dksX2_calibrate_2 17 rfl rfl)
theorem dX2_calibrate_65 : decode cX2_calibrate 65 = .ok (.iastore, 1) := dk_79 (dk_at dksX2_calibrate_2 18 rfl rfl)
theorem dX2_calibrate_66 : decode cX2_calibrate 66 = .ok (.aload_n 0, 1) := dk_42 (dk_at dksX2_calibrate_2 19 rfl rfl)
theorem dX2_calibrate_67 : decode cX2_calibrate 67 = .ok (.getfield 23, 3) := dk_180 0 23 (dk_at dksX2_calibrate_2 20 rfl rfl)
theorem dX2_calibrate_70 : decode cX2_calibrate 70 = .ok (.iload_n 1, 1) := dk_27 (dk_at dksX2_calibrate_2 23 rfl rfl)
theorem dX2_calibrate_71 : decode cX2_calibrate 71 = .ok (.dup2, 1) := dk_92 (dk_at dksX2_calibrate_3 0 rfl rfl)
theorem dX2_calibrate_72 : decode cX2_calibrate 72 = .ok (.iaload, 1) := dk_46 (dk_at dksX2_calibrate_3 1 rfl rfl)
theorem dX2_calibrate_73 : decode cX2_calibrate 73 = .ok (.iload_n 2, 1) := dk_28 (dk_at dksX2_calibrate_3 2 rfl rfl)
theorem dX2_calibrate_74 : decode cX2_calibrate 74 = .ok (.iload_n 3, 1) := dk_29 (dk_at dksX2_calibrate_3 3 rfl rfl)
theorem dX2_calibrate_75 : decode cX2_calibrate 75 = .ok (.isub, 1) := dk_100 (dk_at dksX2_calibrate_3 4 rfl rfl)
theorem dX2_calibrate_76 : decode cX2_calibrate 76 = .ok (.invokestatic 139, 3) := dk_184 0 139 (dk_at dksX2_calibrate_3 5 rfl rfl)
theorem dX2_calibrate_79 : decode cX2_calibrate 79 = .ok (.iadd, 1) := dk_96 (dk_at dksX2_calibrate_3 8 rfl rfl)
theorem dX2_calibrate_80 : decode cX2_calibrate 80 = .ok (.iastore, 1) := dk_79 (dk_at dksX2_calibrate_3 9 rfl rfl)
theorem dX2_calibrate_81 : decode cX2_calibrate 81 = .ok (.aload_n 0, 1) := dk_42 (dk_at dksX2_calibrate_3 10 rfl rfl)
theorem dX2_calibrate_82 : decode cX2_calibrate 82 = .ok (.getfield 17, 3) := dk_180 0 17 (dk_at dksX2_calibrate_3 11 rfl rfl)
theorem dX2_calibrate_85 : decode cX2_calibrate 85 = .ok (.iload_n 1, 1) := dk_27 (dk_at dksX2_calibrate_3 14 rfl rfl)
theorem dX2_calibrate_86 : decode cX2_calibrate 86 = .ok (.aload_n 0, 1) := dk_42 (dk_at dksX2_calibrate_3 15 rfl rfl)
theorem dX2_calibrate_87 : decode cX2_calibrate 87 = .ok (.iload_n 1, 1) := dk_27 (dk_at dksX2_calibrate_3 16 rfl rfl)
theorem dX2_calibrate_88 : decode cX2_calibrate 88 = .ok (.invokevirtual 142, 3) := dk_182 0 142 (dk_at dksX2_calibrate_3 17 rfl rfl)
theorem dX2_calibrate_91 : decode cX2_calibrate 91 = .ok (.iastore, 1) := dk_79 (dk_at dksX2_calibrate_3 20 rfl rfl)
theorem dX2_calibrate_92 : decode cX2_calibrate 92 = .ok (.aload_n 0, 1) := dk_42 (dk_at dksX2_calibrate_3 21 rfl rfl)
theorem dX2_calibrate_93 : decode cX2_calibrate 93 = .ok (.getfield 17, 3) := dk_180 0 17 (dk_at dksX2_calibrate_4 0 rfl rfl)
theorem dX2_calibrate_96 : decode cX2_calibrate 96 = .ok (.iload_n 1, 1) := dk_27 (dk_at dksX2_calibrate_4 3 rfl rfl)
theorem dX2_calibrate_97 : decode cX2_calibrate 97 = .ok (.iaload, 1) := dk_46 (dk_at dksX2_calibrate_4 4 rfl rfl)
theorem dX2_calibrate_98 : decode cX2_calibrate 98 = .ok (.ireturn, 1) := dk_172 (dk_at dksX2_calibrate_4 5 rfl rfl)
abbrev cX2_plainWeight : ByteArray := prog_9_method_32_code
def yX2_plainWeight : MethodName := ⟨RX2, "plainWeight", "(I)I"⟩
def dkwX2_plainWeight_1 : List UInt8 := [46, 184, 0, 136, 172]
abbrev dktX2_plainWeight_1 : List UInt8 := dkwX2_plainWeight_1 ++ []
def dkwX2_plainWeight_0 : List UInt8 := [42, 180, 0, 20, 27, 46, 154, 0, 7, 8, 167, 0, 18, 42, 180, 0, 23, 27, 46, 42, 180, 0, 20, 27]
abbrev dktX2_plainWeight_0 : List UInt8 := dkwX2_plainWeight_0 ++ dktX2_plainWeight_1
theorem dksX2_plainWeight_0 : cX2_plainWeight.data.toList.drop 0 = dktX2_plainWeight_0 := by decide +kernel
theorem dksX2_plainWeight_1 : cX2_plainWeight.data.toList.drop 24 = dktX2_plainWeight_1 := dk_seg dksX2_plainWeight_0 24 rfl rfl
theorem dX2_plainWeight_0 : decode cX2_plainWeight 0 = .ok (.aload_n 0, 1) := dk_42 (dk_at dksX2_plainWeight_0 0 rfl rfl)
theorem dX2_plainWeight_1 : decode cX2_plainWeight 1 = .ok (.getfield 20, 3) := dk_180 0 20 (dk_at dksX2_plainWeight_0 1 rfl rfl)
theorem dX2_plainWeight_4 : decode cX2_plainWeight 4 = .ok (.iload_n 1, 1) := dk_27 (dk_at dksX2_plainWeight_0 4 rfl rfl)
theorem dX2_plainWeight_5 : decode cX2_plainWeight 5 = .ok (.iaload, 1) := dk_46 (dk_at dksX2_plainWeight_0 5 rfl rfl)
theorem dX2_plainWeight_6 : decode cX2_plainWeight 6 = .ok (.ifCond .ne 7, 3) := dk_154 0 7 (dk_at dksX2_plainWeight_0 6 rfl rfl)
theorem dX2_plainWeight_9 : decode cX2_plainWeight 9 = .ok (.iconst 5, 1) := dk_8 (dk_at dksX2_plainWeight_0 9 rfl rfl)
theorem dX2_plainWeight_10 : decode cX2_plainWeight 10 = .ok (.goto 18, 3) := dk_167 0 18 (dk_at dksX2_plainWeight_0 10 rfl rfl)
theorem dX2_plainWeight_13 : decode cX2_plainWeight 13 = .ok (.aload_n 0, 1) := dk_42 (dk_at dksX2_plainWeight_0 13 rfl rfl)
theorem dX2_plainWeight_14 : decode cX2_plainWeight 14 = .ok (.getfield 23, 3) := dk_180 0 23 (dk_at dksX2_plainWeight_0 14 rfl rfl)
theorem dX2_plainWeight_17 : decode cX2_plainWeight 17 = .ok (.iload_n 1, 1) := dk_27 (dk_at dksX2_plainWeight_0 17 rfl rfl)
theorem dX2_plainWeight_18 : decode cX2_plainWeight 18 = .ok (.iaload, 1) := dk_46 (dk_at dksX2_plainWeight_0 18 rfl rfl)
theorem dX2_plainWeight_19 : decode cX2_plainWeight 19 = .ok (.aload_n 0, 1) := dk_42 (dk_at dksX2_plainWeight_0 19 rfl rfl)
theorem dX2_plainWeight_20 : decode cX2_plainWeight 20 = .ok (.getfield 20, 3) := dk_180 0 20 (dk_at dksX2_plainWeight_0 20 rfl rfl)
theorem dX2_plainWeight_23 : decode cX2_plainWeight 23 = .ok (.iload_n 1, 1) := dk_27 (dk_at dksX2_plainWeight_0 23 rfl rfl)
theorem dX2_plainWeight_24 : decode cX2_plainWeight 24 = .ok (.iaload, 1) := dk_46 (dk_at dksX2_plainWeight_1 0 rfl rfl)
theorem dX2_plainWeight_25 : decode cX2_plainWeight 25 = .ok (.invokestatic 136, 3) := dk_184 0 136 (dk_at dksX2_plainWeight_1 1 rfl rfl)
theorem dX2_plainWeight_28 : decode cX2_plainWeight 28 = .ok (.ireturn, 1) := dk_172 (dk_at dksX2_plainWeight_1 4 rfl rfl)
abbrev cX2_weightBy : ByteArray := prog_9_method_31_code
def yX2_weightBy : MethodName := ⟨RX2, "weightBy", "(II)I"⟩
def dkwX2_weightBy_0 : List UInt8 := [4, 16, 10, 26, 7, 27, 104, 108, 100, 184, 0, 131, 172]
abbrev dktX2_weightBy_0 : List UInt8 := dkwX2_weightBy_0 ++ []
theorem dksX2_weightBy_0 : cX2_weightBy.data.toList.drop 0 = dktX2_weightBy_0 := by decide +kernel
theorem dX2_weightBy_0 : decode cX2_weightBy 0 = .ok (.iconst 1, 1) := dk_4 (dk_at dksX2_weightBy_0 0 rfl rfl)
theorem dX2_weightBy_1 : decode cX2_weightBy 1 = .ok (.bipush 10, 2) := dk_16 10 (dk_at dksX2_weightBy_0 1 rfl rfl)
theorem dX2_weightBy_3 : decode cX2_weightBy 3 = .ok (.iload_n 0, 1) := dk_26 (dk_at dksX2_weightBy_0 3 rfl rfl)
theorem dX2_weightBy_4 : decode cX2_weightBy 4 = .ok (.iconst 4, 1) := dk_7 (dk_at dksX2_weightBy_0 4 rfl rfl)
theorem dX2_weightBy_5 : decode cX2_weightBy 5 = .ok (.iload_n 1, 1) := dk_27 (dk_at dksX2_weightBy_0 5 rfl rfl)
theorem dX2_weightBy_6 : decode cX2_weightBy 6 = .ok (.imul, 1) := dk_104 (dk_at dksX2_weightBy_0 6 rfl rfl)
theorem dX2_weightBy_7 : decode cX2_weightBy 7 = .ok (.idiv, 1) := dk_108 (dk_at dksX2_weightBy_0 7 rfl rfl)
theorem dX2_weightBy_8 : decode cX2_weightBy 8 = .ok (.isub, 1) := dk_100 (dk_at dksX2_weightBy_0 8 rfl rfl)
theorem dX2_weightBy_9 : decode cX2_weightBy 9 = .ok (.invokestatic 131, 3) := dk_184 0 131 (dk_at dksX2_weightBy_0 9 rfl rfl)
theorem dX2_weightBy_12 : decode cX2_weightBy 12 = .ok (.ireturn, 1) := dk_172 (dk_at dksX2_weightBy_0 12 rfl rfl)
abbrev cX2_weightOf : ByteArray := prog_9_method_34_code
def yX2_weightOf : MethodName := ⟨RX2, "weightOf", "(I)I"⟩
def dkwX2_weightOf_1 : List UInt8 := [182, 0, 87, 172]
abbrev dktX2_weightOf_1 : List UInt8 := dkwX2_weightOf_1 ++ []
def dkwX2_weightOf_0 : List UInt8 := [42, 3, 181, 0, 66, 42, 27, 182, 0, 76, 153, 0, 12, 42, 180, 0, 17, 27, 46, 167, 0, 8, 42, 4]
abbrev dktX2_weightOf_0 : List UInt8 := dkwX2_weightOf_0 ++ dktX2_weightOf_1
theorem dksX2_weightOf_0 : cX2_weightOf.data.toList.drop 0 = dktX2_weightOf_0 := by decide +kernel
theorem dksX2_weightOf_1 : cX2_weightOf.data.toList.drop 24 = dktX2_weightOf_1 := dk_seg dksX2_weightOf_0 24 rfl rfl
theorem dX2_weightOf_0 : decode cX2_weightOf 0 = .ok (.aload_n 0, 1) := dk_42 (dk_at dksX2_weightOf_0 0 rfl rfl)
theorem dX2_weightOf_1 : decode cX2_weightOf 1 = .ok (.iconst 0, 1) := dk_3 (dk_at dksX2_weightOf_0 1 rfl rfl)
theorem dX2_weightOf_2 : decode cX2_weightOf 2 = .ok (.putfield 66, 3) := dk_181 0 66 (dk_at dksX2_weightOf_0 2 rfl rfl)
theorem dX2_weightOf_5 : decode cX2_weightOf 5 = .ok (.aload_n 0, 1) := dk_42 (dk_at dksX2_weightOf_0 5 rfl rfl)
theorem dX2_weightOf_6 : decode cX2_weightOf 6 = .ok (.iload_n 1, 1) := dk_27 (dk_at dksX2_weightOf_0 6 rfl rfl)
theorem dX2_weightOf_7 : decode cX2_weightOf 7 = .ok (.invokevirtual 76, 3) := dk_182 0 76 (dk_at dksX2_weightOf_0 7 rfl rfl)
theorem dX2_weightOf_10 : decode cX2_weightOf 10 = .ok (.ifCond .eq 12, 3) := dk_153 0 12 (dk_at dksX2_weightOf_0 10 rfl rfl)
theorem dX2_weightOf_13 : decode cX2_weightOf 13 = .ok (.aload_n 0, 1) := dk_42 (dk_at dksX2_weightOf_0 13 rfl rfl)
theorem dX2_weightOf_14 : decode cX2_weightOf 14 = .ok (.getfield 17, 3) := dk_180 0 17 (dk_at dksX2_weightOf_0 14 rfl rfl)
theorem dX2_weightOf_17 : decode cX2_weightOf 17 = .ok (.iload_n 1, 1) := dk_27 (dk_at dksX2_weightOf_0 17 rfl rfl)
theorem dX2_weightOf_18 : decode cX2_weightOf 18 = .ok (.iaload, 1) := dk_46 (dk_at dksX2_weightOf_0 18 rfl rfl)
theorem dX2_weightOf_19 : decode cX2_weightOf 19 = .ok (.goto 8, 3) := dk_167 0 8 (dk_at dksX2_weightOf_0 19 rfl rfl)
theorem dX2_weightOf_22 : decode cX2_weightOf 22 = .ok (.aload_n 0, 1) := dk_42 (dk_at dksX2_weightOf_0 22 rfl rfl)
theorem dX2_weightOf_23 : decode cX2_weightOf 23 = .ok (.iconst 1, 1) := dk_4 (dk_at dksX2_weightOf_0 23 rfl rfl)
theorem dX2_weightOf_24 : decode cX2_weightOf 24 = .ok (.invokevirtual 87, 3) := dk_182 0 87 (dk_at dksX2_weightOf_1 0 rfl rfl)
theorem dX2_weightOf_27 : decode cX2_weightOf 27 = .ok (.ireturn, 1) := dk_172 (dk_at dksX2_weightOf_1 3 rfl rfl)
abbrev cX2_settle : ByteArray := prog_9_method_37_code
def yX2_settle : MethodName := ⟨RX2, "settle", "(I)I"⟩
def dkwX2_settle_1 : List UInt8 := [27, 162, 0, 16, 42, 182, 0, 151, 153, 0, 9, 132, 2, 1, 167, 255, 241, 28, 172]
abbrev dktX2_settle_1 : List UInt8 := dkwX2_settle_1 ++ []
def dkwX2_settle_0 : List UInt8 := [42, 3, 181, 0, 66, 27, 4, 16, 20, 184, 0, 72, 154, 0, 9, 42, 4, 182, 0, 87, 172, 3, 61, 28]
abbrev dktX2_settle_0 : List UInt8 := dkwX2_settle_0 ++ dktX2_settle_1
theorem dksX2_settle_0 : cX2_settle.data.toList.drop 0 = dktX2_settle_0 := by decide +kernel
theorem dksX2_settle_1 : cX2_settle.data.toList.drop 24 = dktX2_settle_1 := dk_seg dksX2_settle_0 24 rfl rfl
theorem dX2_settle_0 : decode cX2_settle 0 = .ok (.aload_n 0, 1) := dk_42 (dk_at dksX2_settle_0 0 rfl rfl)
theorem dX2_settle_1 : decode cX2_settle 1 = .ok (.iconst 0, 1) := dk_3 (dk_at dksX2_settle_0 1 rfl rfl)
theorem dX2_settle_2 : decode cX2_settle 2 = .ok (.putfield 66, 3) := dk_181 0 66 (dk_at dksX2_settle_0 2 rfl rfl)
theorem dX2_settle_5 : decode cX2_settle 5 = .ok (.iload_n 1, 1) := dk_27 (dk_at dksX2_settle_0 5 rfl rfl)
theorem dX2_settle_6 : decode cX2_settle 6 = .ok (.iconst 1, 1) := dk_4 (dk_at dksX2_settle_0 6 rfl rfl)
theorem dX2_settle_7 : decode cX2_settle 7 = .ok (.bipush 20, 2) := dk_16 20 (dk_at dksX2_settle_0 7 rfl rfl)
theorem dX2_settle_9 : decode cX2_settle 9 = .ok (.invokestatic 72, 3) := dk_184 0 72 (dk_at dksX2_settle_0 9 rfl rfl)
theorem dX2_settle_12 : decode cX2_settle 12 = .ok (.ifCond .ne 9, 3) := dk_154 0 9 (dk_at dksX2_settle_0 12 rfl rfl)
theorem dX2_settle_15 : decode cX2_settle 15 = .ok (.aload_n 0, 1) := dk_42 (dk_at dksX2_settle_0 15 rfl rfl)
theorem dX2_settle_16 : decode cX2_settle 16 = .ok (.iconst 1, 1) := dk_4 (dk_at dksX2_settle_0 16 rfl rfl)
theorem dX2_settle_17 : decode cX2_settle 17 = .ok (.invokevirtual 87, 3) := dk_182 0 87 (dk_at dksX2_settle_0 17 rfl rfl)
theorem dX2_settle_20 : decode cX2_settle 20 = .ok (.ireturn, 1) := dk_172 (dk_at dksX2_settle_0 20 rfl rfl)
theorem dX2_settle_21 : decode cX2_settle 21 = .ok (.iconst 0, 1) := dk_3 (dk_at dksX2_settle_0 21 rfl rfl)
theorem dX2_settle_22 : decode cX2_settle 22 = .ok (.istore_n 2, 1) := dk_61 (dk_at dksX2_settle_0 22 rfl rfl)
theorem dX2_settle_23 : decode cX2_settle 23 = .ok (.iload_n 2, 1) := dk_28 (dk_at dksX2_settle_0 23 rfl rfl)
theorem dX2_settle_24 : decode cX2_settle 24 = .ok (.iload_n 1, 1) := dk_27 (dk_at dksX2_settle_1 0 rfl rfl)
theorem dX2_settle_25 : decode cX2_settle 25 = .ok (.if_icmp .ge 16, 3) := dk_162 0 16 (dk_at dksX2_settle_1 1 rfl rfl)
theorem dX2_settle_28 : decode cX2_settle 28 = .ok (.aload_n 0, 1) := dk_42 (dk_at dksX2_settle_1 4 rfl rfl)
theorem dX2_settle_29 : decode cX2_settle 29 = .ok (.invokevirtual 151, 3) := dk_182 0 151 (dk_at dksX2_settle_1 5 rfl rfl)
theorem dX2_settle_32 : decode cX2_settle 32 = .ok (.ifCond .eq 9, 3) := dk_153 0 9 (dk_at dksX2_settle_1 8 rfl rfl)
theorem dX2_settle_35 : decode cX2_settle 35 = .ok (.iinc 2 1, 3) := dk_132 2 1 (dk_at dksX2_settle_1 11 rfl rfl)
theorem dX2_settle_38 : decode cX2_settle 38 = .ok (.goto (-15), 3) := dk_167 255 241 (dk_at dksX2_settle_1 14 rfl rfl)
theorem dX2_settle_41 : decode cX2_settle 41 = .ok (.iload_n 2, 1) := dk_28 (dk_at dksX2_settle_1 17 rfl rfl)
theorem dX2_settle_42 : decode cX2_settle 42 = .ok (.ireturn, 1) := dk_172 (dk_at dksX2_settle_1 18 rfl rfl)
abbrev cX2_changes : ByteArray := prog_9_method_36_code
def yX2_changes : MethodName := ⟨RX2, "changes", "()Z"⟩
def dkwX2_changes_4 : List UInt8 := [180, 0, 17, 28, 42, 180, 0, 63, 28, 46, 79, 132, 2, 1, 167, 255, 210, 27, 172]
abbrev dktX2_changes_4 : List UInt8 := dkwX2_changes_4 ++ []
def dkwX2_changes_3 : List UInt8 := [180, 0, 17, 28, 46, 42, 180, 0, 63, 28, 46, 159, 0, 7, 4, 167, 0, 4, 3, 128, 60, 42]
abbrev dktX2_changes_3 : List UInt8 := dkwX2_changes_3 ++ dktX2_changes_4
def dkwX2_changes_2 : List UInt8 := [182, 0, 148, 79, 132, 2, 1, 167, 255, 234, 3, 61, 28, 42, 180, 0, 69, 162, 0, 44, 27, 42]
abbrev dktX2_changes_2 : List UInt8 := dkwX2_changes_2 ++ dktX2_changes_3
def dkwX2_changes_1 : List UInt8 := [167, 255, 234, 3, 60, 3, 61, 28, 42, 180, 0, 69, 162, 0, 20, 42, 180, 0, 63, 28, 42, 28]
abbrev dktX2_changes_1 : List UInt8 := dkwX2_changes_1 ++ dktX2_changes_2
def dkwX2_changes_0 : List UInt8 := [3, 60, 27, 42, 180, 0, 69, 162, 0, 20, 42, 180, 0, 60, 27, 42, 27, 182, 0, 145, 79, 132, 1, 1]
abbrev dktX2_changes_0 : List UInt8 := dkwX2_changes_0 ++ dktX2_changes_1
theorem dksX2_changes_0 : cX2_changes.data.toList.drop 0 = dktX2_changes_0 := by decide +kernel
theorem dksX2_changes_1 : cX2_changes.data.toList.drop 24 = dktX2_changes_1 := dk_seg dksX2_changes_0 24 rfl rfl
theorem dksX2_changes_2 : cX2_changes.data.toList.drop 46 = dktX2_changes_2 := dk_seg dksX2_changes_1 22 rfl rfl
theorem dksX2_changes_3 : cX2_changes.data.toList.drop 68 = dktX2_changes_3 := dk_seg dksX2_changes_2 22 rfl rfl
theorem dksX2_changes_4 : cX2_changes.data.toList.drop 90 = dktX2_changes_4 := dk_seg dksX2_changes_3 22 rfl rfl
theorem dX2_changes_0 : decode cX2_changes 0 = .ok (.iconst 0, 1) := dk_3 (dk_at dksX2_changes_0 0 rfl rfl)
theorem dX2_changes_1 : decode cX2_changes 1 = .ok (.istore_n 1, 1) := dk_60 (dk_at dksX2_changes_0 1 rfl rfl)
theorem dX2_changes_2 : decode cX2_changes 2 = .ok (.iload_n 1, 1) := dk_27 (dk_at dksX2_changes_0 2 rfl rfl)
theorem dX2_changes_3 : decode cX2_changes 3 = .ok (.aload_n 0, 1) := dk_42 (dk_at dksX2_changes_0 3 rfl rfl)
theorem dX2_changes_4 : decode cX2_changes 4 = .ok (.getfield 69, 3) := dk_180 0 69 (dk_at dksX2_changes_0 4 rfl rfl)
theorem dX2_changes_7 : decode cX2_changes 7 = .ok (.if_icmp .ge 20, 3) := dk_162 0 20 (dk_at dksX2_changes_0 7 rfl rfl)
theorem dX2_changes_10 : decode cX2_changes 10 = .ok (.aload_n 0, 1) := dk_42 (dk_at dksX2_changes_0 10 rfl rfl)
theorem dX2_changes_11 : decode cX2_changes 11 = .ok (.getfield 60, 3) := dk_180 0 60 (dk_at dksX2_changes_0 11 rfl rfl)
theorem dX2_changes_14 : decode cX2_changes 14 = .ok (.iload_n 1, 1) := dk_27 (dk_at dksX2_changes_0 14 rfl rfl)
theorem dX2_changes_15 : decode cX2_changes 15 = .ok (.aload_n 0, 1) := dk_42 (dk_at dksX2_changes_0 15 rfl rfl)
theorem dX2_changes_16 : decode cX2_changes 16 = .ok (.iload_n 1, 1) := dk_27 (dk_at dksX2_changes_0 16 rfl rfl)
theorem dX2_changes_17 : decode cX2_changes 17 = .ok (.invokevirtual 145, 3) := dk_182 0 145 (dk_at dksX2_changes_0 17 rfl rfl)
theorem dX2_changes_20 : decode cX2_changes 20 = .ok (.iastore, 1) := dk_79 (dk_at dksX2_changes_0 20 rfl rfl)
theorem dX2_changes_21 : decode cX2_changes 21 = .ok (.iinc 1 1, 3) := dk_132 1 1 (dk_at dksX2_changes_0 21 rfl rfl)
theorem dX2_changes_24 : decode cX2_changes 24 = .ok (.goto (-22), 3) := dk_167 255 234 (dk_at dksX2_changes_1 0 rfl rfl)
theorem dX2_changes_27 : decode cX2_changes 27 = .ok (.iconst 0, 1) := dk_3 (dk_at dksX2_changes_1 3 rfl rfl)
theorem dX2_changes_28 : decode cX2_changes 28 = .ok (.istore_n 1, 1) := dk_60 (dk_at dksX2_changes_1 4 rfl rfl)
theorem dX2_changes_29 : decode cX2_changes 29 = .ok (.iconst 0, 1) := dk_3 (dk_at dksX2_changes_1 5 rfl rfl)
theorem dX2_changes_30 : decode cX2_changes 30 = .ok (.istore_n 2, 1) := dk_61 (dk_at dksX2_changes_1 6 rfl rfl)
theorem dX2_changes_31 : decode cX2_changes 31 = .ok (.iload_n 2, 1) := dk_28 (dk_at dksX2_changes_1 7 rfl rfl)
theorem dX2_changes_32 : decode cX2_changes 32 = .ok (.aload_n 0, 1) := dk_42 (dk_at dksX2_changes_1 8 rfl rfl)
theorem dX2_changes_33 : decode cX2_changes 33 = .ok (.getfield 69, 3) := dk_180 0 69 (dk_at dksX2_changes_1 9 rfl rfl)
theorem dX2_changes_36 : decode cX2_changes 36 = .ok (.if_icmp .ge 20, 3) := dk_162 0 20 (dk_at dksX2_changes_1 12 rfl rfl)
theorem dX2_changes_39 : decode cX2_changes 39 = .ok (.aload_n 0, 1) := dk_42 (dk_at dksX2_changes_1 15 rfl rfl)
theorem dX2_changes_40 : decode cX2_changes 40 = .ok (.getfield 63, 3) := dk_180 0 63 (dk_at dksX2_changes_1 16 rfl rfl)
theorem dX2_changes_43 : decode cX2_changes 43 = .ok (.iload_n 2, 1) := dk_28 (dk_at dksX2_changes_1 19 rfl rfl)
theorem dX2_changes_44 : decode cX2_changes 44 = .ok (.aload_n 0, 1) := dk_42 (dk_at dksX2_changes_1 20 rfl rfl)
theorem dX2_changes_45 : decode cX2_changes 45 = .ok (.iload_n 2, 1) := dk_28 (dk_at dksX2_changes_1 21 rfl rfl)
theorem dX2_changes_46 : decode cX2_changes 46 = .ok (.invokevirtual 148, 3) := dk_182 0 148 (dk_at dksX2_changes_2 0 rfl rfl)
theorem dX2_changes_49 : decode cX2_changes 49 = .ok (.iastore, 1) := dk_79 (dk_at dksX2_changes_2 3 rfl rfl)
theorem dX2_changes_50 : decode cX2_changes 50 = .ok (.iinc 2 1, 3) := dk_132 2 1 (dk_at dksX2_changes_2 4 rfl rfl)
theorem dX2_changes_53 : decode cX2_changes 53 = .ok (.goto (-22), 3) := dk_167 255 234 (dk_at dksX2_changes_2 7 rfl rfl)
theorem dX2_changes_56 : decode cX2_changes 56 = .ok (.iconst 0, 1) := dk_3 (dk_at dksX2_changes_2 10 rfl rfl)
theorem dX2_changes_57 : decode cX2_changes 57 = .ok (.istore_n 2, 1) := dk_61 (dk_at dksX2_changes_2 11 rfl rfl)
theorem dX2_changes_58 : decode cX2_changes 58 = .ok (.iload_n 2, 1) := dk_28 (dk_at dksX2_changes_2 12 rfl rfl)
theorem dX2_changes_59 : decode cX2_changes 59 = .ok (.aload_n 0, 1) := dk_42 (dk_at dksX2_changes_2 13 rfl rfl)
theorem dX2_changes_60 : decode cX2_changes 60 = .ok (.getfield 69, 3) := dk_180 0 69 (dk_at dksX2_changes_2 14 rfl rfl)
theorem dX2_changes_63 : decode cX2_changes 63 = .ok (.if_icmp .ge 44, 3) := dk_162 0 44 (dk_at dksX2_changes_2 17 rfl rfl)
theorem dX2_changes_66 : decode cX2_changes 66 = .ok (.iload_n 1, 1) := dk_27 (dk_at dksX2_changes_2 20 rfl rfl)
theorem dX2_changes_67 : decode cX2_changes 67 = .ok (.aload_n 0, 1) := dk_42 (dk_at dksX2_changes_2 21 rfl rfl)
theorem dX2_changes_68 : decode cX2_changes 68 = .ok (.getfield 17, 3) := dk_180 0 17 (dk_at dksX2_changes_3 0 rfl rfl)
theorem dX2_changes_71 : decode cX2_changes 71 = .ok (.iload_n 2, 1) := dk_28 (dk_at dksX2_changes_3 3 rfl rfl)
theorem dX2_changes_72 : decode cX2_changes 72 = .ok (.iaload, 1) := dk_46 (dk_at dksX2_changes_3 4 rfl rfl)
theorem dX2_changes_73 : decode cX2_changes 73 = .ok (.aload_n 0, 1) := dk_42 (dk_at dksX2_changes_3 5 rfl rfl)
theorem dX2_changes_74 : decode cX2_changes 74 = .ok (.getfield 63, 3) := dk_180 0 63 (dk_at dksX2_changes_3 6 rfl rfl)
theorem dX2_changes_77 : decode cX2_changes 77 = .ok (.iload_n 2, 1) := dk_28 (dk_at dksX2_changes_3 9 rfl rfl)
theorem dX2_changes_78 : decode cX2_changes 78 = .ok (.iaload, 1) := dk_46 (dk_at dksX2_changes_3 10 rfl rfl)
theorem dX2_changes_79 : decode cX2_changes 79 = .ok (.if_icmp .eq 7, 3) := dk_159 0 7 (dk_at dksX2_changes_3 11 rfl rfl)
theorem dX2_changes_82 : decode cX2_changes 82 = .ok (.iconst 1, 1) := dk_4 (dk_at dksX2_changes_3 14 rfl rfl)
theorem dX2_changes_83 : decode cX2_changes 83 = .ok (.goto 4, 3) := dk_167 0 4 (dk_at dksX2_changes_3 15 rfl rfl)
theorem dX2_changes_86 : decode cX2_changes 86 = .ok (.iconst 0, 1) := dk_3 (dk_at dksX2_changes_3 18 rfl rfl)
theorem dX2_changes_87 : decode cX2_changes 87 = .ok (.ior, 1) := dk_128 (dk_at dksX2_changes_3 19 rfl rfl)
theorem dX2_changes_88 : decode cX2_changes 88 = .ok (.istore_n 1, 1) := dk_60 (dk_at dksX2_changes_3 20 rfl rfl)
theorem dX2_changes_89 : decode cX2_changes 89 = .ok (.aload_n 0, 1) := dk_42 (dk_at dksX2_changes_3 21 rfl rfl)
theorem dX2_changes_90 : decode cX2_changes 90 = .ok (.getfield 17, 3) := dk_180 0 17 (dk_at dksX2_changes_4 0 rfl rfl)
theorem dX2_changes_93 : decode cX2_changes 93 = .ok (.iload_n 2, 1) := dk_28 (dk_at dksX2_changes_4 3 rfl rfl)
theorem dX2_changes_94 : decode cX2_changes 94 = .ok (.aload_n 0, 1) := dk_42 (dk_at dksX2_changes_4 4 rfl rfl)
theorem dX2_changes_95 : decode cX2_changes 95 = .ok (.getfield 63, 3) := dk_180 0 63 (dk_at dksX2_changes_4 5 rfl rfl)
theorem dX2_changes_98 : decode cX2_changes 98 = .ok (.iload_n 2, 1) := dk_28 (dk_at dksX2_changes_4 8 rfl rfl)
theorem dX2_changes_99 : decode cX2_changes 99 = .ok (.iaload, 1) := dk_46 (dk_at dksX2_changes_4 9 rfl rfl)
theorem dX2_changes_100 : decode cX2_changes 100 = .ok (.iastore, 1) := dk_79 (dk_at dksX2_changes_4 10 rfl rfl)
theorem dX2_changes_101 : decode cX2_changes 101 = .ok (.iinc 2 1, 3) := dk_132 2 1 (dk_at dksX2_changes_4 11 rfl rfl)
theorem dX2_changes_104 : decode cX2_changes 104 = .ok (.goto (-46), 3) := dk_167 255 210 (dk_at dksX2_changes_4 14 rfl rfl)
theorem dX2_changes_107 : decode cX2_changes 107 = .ok (.iload_n 1, 1) := dk_27 (dk_at dksX2_changes_4 17 rfl rfl)
theorem dX2_changes_108 : decode cX2_changes 108 = .ok (.ireturn, 1) := dk_172 (dk_at dksX2_changes_4 18 rfl rfl)
abbrev cX2_mark : ByteArray := prog_9_method_48_code
def yX2_mark : MethodName := ⟨RX2, "mark", "(I)I"⟩
def dkwX2_mark_0 : List UInt8 := [42, 27, 42, 27, 3, 16, 100, 182, 0, 169, 42, 27, 182, 0, 173, 182, 0, 169, 172]
abbrev dktX2_mark_0 : List UInt8 := dkwX2_mark_0 ++ []
theorem dksX2_mark_0 : cX2_mark.data.toList.drop 0 = dktX2_mark_0 := by decide +kernel
theorem dX2_mark_0 : decode cX2_mark 0 = .ok (.aload_n 0, 1) := dk_42 (dk_at dksX2_mark_0 0 rfl rfl)
theorem dX2_mark_1 : decode cX2_mark 1 = .ok (.iload_n 1, 1) := dk_27 (dk_at dksX2_mark_0 1 rfl rfl)
theorem dX2_mark_2 : decode cX2_mark 2 = .ok (.aload_n 0, 1) := dk_42 (dk_at dksX2_mark_0 2 rfl rfl)
theorem dX2_mark_3 : decode cX2_mark 3 = .ok (.iload_n 1, 1) := dk_27 (dk_at dksX2_mark_0 3 rfl rfl)
theorem dX2_mark_4 : decode cX2_mark 4 = .ok (.iconst 0, 1) := dk_3 (dk_at dksX2_mark_0 4 rfl rfl)
theorem dX2_mark_5 : decode cX2_mark 5 = .ok (.bipush 100, 2) := dk_16 100 (dk_at dksX2_mark_0 5 rfl rfl)
theorem dX2_mark_7 : decode cX2_mark 7 = .ok (.invokevirtual 169, 3) := dk_182 0 169 (dk_at dksX2_mark_0 7 rfl rfl)
theorem dX2_mark_10 : decode cX2_mark 10 = .ok (.aload_n 0, 1) := dk_42 (dk_at dksX2_mark_0 10 rfl rfl)
theorem dX2_mark_11 : decode cX2_mark 11 = .ok (.iload_n 1, 1) := dk_27 (dk_at dksX2_mark_0 11 rfl rfl)
theorem dX2_mark_12 : decode cX2_mark 12 = .ok (.invokevirtual 173, 3) := dk_182 0 173 (dk_at dksX2_mark_0 12 rfl rfl)
theorem dX2_mark_15 : decode cX2_mark 15 = .ok (.invokevirtual 169, 3) := dk_182 0 169 (dk_at dksX2_mark_0 15 rfl rfl)
theorem dX2_mark_18 : decode cX2_mark 18 = .ok (.ireturn, 1) := dk_172 (dk_at dksX2_mark_0 18 rfl rfl)
abbrev cX2_median : ByteArray := prog_9_method_44_code
def yX2_median : MethodName := ⟨RX2, "median", "(III)I"⟩
def dkwX2_median_6 : List UInt8 := [21, 5, 172]
abbrev dktX2_median_6 : List UInt8 := dkwX2_median_6 ++ []
def dkwX2_median_5 : List UInt8 := [21, 7, 28, 29, 182, 0, 165, 104, 21, 4, 161, 0, 7, 21, 7, 54, 5, 132, 6, 1, 167, 255, 174]
abbrev dktX2_median_5 : List UInt8 := dkwX2_median_5 ++ dktX2_median_6
def dkwX2_median_4 : List UInt8 := [3, 54, 8, 42, 21, 6, 27, 28, 29, 182, 0, 161, 153, 0, 28, 21, 8, 153, 0, 23, 5, 42, 27]
abbrev dktX2_median_4 : List UInt8 := dkwX2_median_4 ++ dktX2_median_5
def dkwX2_median_3 : List UInt8 := [27, 184, 0, 101, 46, 54, 7, 21, 5, 2, 159, 0, 10, 21, 7, 21, 5, 162, 0, 7, 4, 167, 0, 4]
abbrev dktX2_median_3 : List UInt8 := dkwX2_median_3 ++ dktX2_median_4
def dkwX2_median_2 : List UInt8 := [167, 255, 216, 2, 54, 5, 3, 54, 6, 21, 6, 42, 180, 0, 69, 162, 0, 79, 42, 180, 0, 38, 21, 6]
abbrev dktX2_median_2 : List UInt8 := dkwX2_median_2 ++ dktX2_median_3
def dkwX2_median_1 : List UInt8 := [182, 0, 161, 153, 0, 13, 42, 21, 5, 27, 182, 0, 158, 167, 0, 4, 3, 96, 54, 4, 132, 5, 1]
abbrev dktX2_median_1 : List UInt8 := dkwX2_median_1 ++ dktX2_median_2
def dkwX2_median_0 : List UInt8 := [3, 54, 4, 3, 54, 5, 21, 5, 42, 180, 0, 69, 162, 0, 37, 21, 4, 42, 21, 5, 27, 28, 29]
abbrev dktX2_median_0 : List UInt8 := dkwX2_median_0 ++ dktX2_median_1
theorem dksX2_median_0 : cX2_median.data.toList.drop 0 = dktX2_median_0 := by decide +kernel
theorem dksX2_median_1 : cX2_median.data.toList.drop 23 = dktX2_median_1 := dk_seg dksX2_median_0 23 rfl rfl
theorem dksX2_median_2 : cX2_median.data.toList.drop 46 = dktX2_median_2 := dk_seg dksX2_median_1 23 rfl rfl
theorem dksX2_median_3 : cX2_median.data.toList.drop 70 = dktX2_median_3 := dk_seg dksX2_median_2 24 rfl rfl
theorem dksX2_median_4 : cX2_median.data.toList.drop 94 = dktX2_median_4 := dk_seg dksX2_median_3 24 rfl rfl
theorem dksX2_median_5 : cX2_median.data.toList.drop 117 = dktX2_median_5 := dk_seg dksX2_median_4 23 rfl rfl
theorem dksX2_median_6 : cX2_median.data.toList.drop 140 = dktX2_median_6 := dk_seg dksX2_median_5 23 rfl rfl
theorem dX2_median_0 : decode cX2_median 0 = .ok (.iconst 0, 1) := dk_3 (dk_at dksX2_median_0 0 rfl rfl)
theorem dX2_median_1 : decode cX2_median 1 = .ok (.istore 4, 2) := dk_54 4 (dk_at dksX2_median_0 1 rfl rfl)
theorem dX2_median_3 : decode cX2_median 3 = .ok (.iconst 0, 1) := dk_3 (dk_at dksX2_median_0 3 rfl rfl)
theorem dX2_median_4 : decode cX2_median 4 = .ok (.istore 5, 2) := dk_54 5 (dk_at dksX2_median_0 4 rfl rfl)
theorem dX2_median_6 : decode cX2_median 6 = .ok (.iload 5, 2) := dk_21 5 (dk_at dksX2_median_0 6 rfl rfl)
theorem dX2_median_8 : decode cX2_median 8 = .ok (.aload_n 0, 1) := dk_42 (dk_at dksX2_median_0 8 rfl rfl)
theorem dX2_median_9 : decode cX2_median 9 = .ok (.getfield 69, 3) := dk_180 0 69 (dk_at dksX2_median_0 9 rfl rfl)
theorem dX2_median_12 : decode cX2_median 12 = .ok (.if_icmp .ge 37, 3) := dk_162 0 37 (dk_at dksX2_median_0 12 rfl rfl)
theorem dX2_median_15 : decode cX2_median 15 = .ok (.iload 4, 2) := dk_21 4 (dk_at dksX2_median_0 15 rfl rfl)
theorem dX2_median_17 : decode cX2_median 17 = .ok (.aload_n 0, 1) := dk_42 (dk_at dksX2_median_0 17 rfl rfl)
theorem dX2_median_18 : decode cX2_median 18 = .ok (.iload 5, 2) := dk_21 5 (dk_at dksX2_median_0 18 rfl rfl)
theorem dX2_median_20 : decode cX2_median 20 = .ok (.iload_n 1, 1) := dk_27 (dk_at dksX2_median_0 20 rfl rfl)
theorem dX2_median_21 : decode cX2_median 21 = .ok (.iload_n 2, 1) := dk_28 (dk_at dksX2_median_0 21 rfl rfl)
theorem dX2_median_22 : decode cX2_median 22 = .ok (.iload_n 3, 1) := dk_29 (dk_at dksX2_median_0 22 rfl rfl)
theorem dX2_median_23 : decode cX2_median 23 = .ok (.invokevirtual 161, 3) := dk_182 0 161 (dk_at dksX2_median_1 0 rfl rfl)
theorem dX2_median_26 : decode cX2_median 26 = .ok (.ifCond .eq 13, 3) := dk_153 0 13 (dk_at dksX2_median_1 3 rfl rfl)
theorem dX2_median_29 : decode cX2_median 29 = .ok (.aload_n 0, 1) := dk_42 (dk_at dksX2_median_1 6 rfl rfl)
theorem dX2_median_30 : decode cX2_median 30 = .ok (.iload 5, 2) := dk_21 5 (dk_at dksX2_median_1 7 rfl rfl)
theorem dX2_median_32 : decode cX2_median 32 = .ok (.iload_n 1, 1) := dk_27 (dk_at dksX2_median_1 9 rfl rfl)
theorem dX2_median_33 : decode cX2_median 33 = .ok (.invokevirtual 158, 3) := dk_182 0 158 (dk_at dksX2_median_1 10 rfl rfl)
theorem dX2_median_36 : decode cX2_median 36 = .ok (.goto 4, 3) := dk_167 0 4 (dk_at dksX2_median_1 13 rfl rfl)
theorem dX2_median_39 : decode cX2_median 39 = .ok (.iconst 0, 1) := dk_3 (dk_at dksX2_median_1 16 rfl rfl)
theorem dX2_median_40 : decode cX2_median 40 = .ok (.iadd, 1) := dk_96 (dk_at dksX2_median_1 17 rfl rfl)
theorem dX2_median_41 : decode cX2_median 41 = .ok (.istore 4, 2) := dk_54 4 (dk_at dksX2_median_1 18 rfl rfl)
theorem dX2_median_43 : decode cX2_median 43 = .ok (.iinc 5 1, 3) := dk_132 5 1 (dk_at dksX2_median_1 20 rfl rfl)
theorem dX2_median_46 : decode cX2_median 46 = .ok (.goto (-40), 3) := dk_167 255 216 (dk_at dksX2_median_2 0 rfl rfl)
theorem dX2_median_49 : decode cX2_median 49 = .ok (.iconst (-1), 1) := dk_2 (dk_at dksX2_median_2 3 rfl rfl)
theorem dX2_median_50 : decode cX2_median 50 = .ok (.istore 5, 2) := dk_54 5 (dk_at dksX2_median_2 4 rfl rfl)
theorem dX2_median_52 : decode cX2_median 52 = .ok (.iconst 0, 1) := dk_3 (dk_at dksX2_median_2 6 rfl rfl)
theorem dX2_median_53 : decode cX2_median 53 = .ok (.istore 6, 2) := dk_54 6 (dk_at dksX2_median_2 7 rfl rfl)
theorem dX2_median_55 : decode cX2_median 55 = .ok (.iload 6, 2) := dk_21 6 (dk_at dksX2_median_2 9 rfl rfl)
theorem dX2_median_57 : decode cX2_median 57 = .ok (.aload_n 0, 1) := dk_42 (dk_at dksX2_median_2 11 rfl rfl)
theorem dX2_median_58 : decode cX2_median 58 = .ok (.getfield 69, 3) := dk_180 0 69 (dk_at dksX2_median_2 12 rfl rfl)
theorem dX2_median_61 : decode cX2_median 61 = .ok (.if_icmp .ge 79, 3) := dk_162 0 79 (dk_at dksX2_median_2 15 rfl rfl)
theorem dX2_median_64 : decode cX2_median 64 = .ok (.aload_n 0, 1) := dk_42 (dk_at dksX2_median_2 18 rfl rfl)
theorem dX2_median_65 : decode cX2_median 65 = .ok (.getfield 38, 3) := dk_180 0 38 (dk_at dksX2_median_2 19 rfl rfl)
theorem dX2_median_68 : decode cX2_median 68 = .ok (.iload 6, 2) := dk_21 6 (dk_at dksX2_median_2 22 rfl rfl)
theorem dX2_median_70 : decode cX2_median 70 = .ok (.iload_n 1, 1) := dk_27 (dk_at dksX2_median_3 0 rfl rfl)
theorem dX2_median_71 : decode cX2_median 71 = .ok (.invokestatic 101, 3) := dk_184 0 101 (dk_at dksX2_median_3 1 rfl rfl)
theorem dX2_median_74 : decode cX2_median 74 = .ok (.iaload, 1) := dk_46 (dk_at dksX2_median_3 4 rfl rfl)
theorem dX2_median_75 : decode cX2_median 75 = .ok (.istore 7, 2) := dk_54 7 (dk_at dksX2_median_3 5 rfl rfl)
theorem dX2_median_77 : decode cX2_median 77 = .ok (.iload 5, 2) := dk_21 5 (dk_at dksX2_median_3 7 rfl rfl)
theorem dX2_median_79 : decode cX2_median 79 = .ok (.iconst (-1), 1) := dk_2 (dk_at dksX2_median_3 9 rfl rfl)
theorem dX2_median_80 : decode cX2_median 80 = .ok (.if_icmp .eq 10, 3) := dk_159 0 10 (dk_at dksX2_median_3 10 rfl rfl)
theorem dX2_median_83 : decode cX2_median 83 = .ok (.iload 7, 2) := dk_21 7 (dk_at dksX2_median_3 13 rfl rfl)
theorem dX2_median_85 : decode cX2_median 85 = .ok (.iload 5, 2) := dk_21 5 (dk_at dksX2_median_3 15 rfl rfl)
theorem dX2_median_87 : decode cX2_median 87 = .ok (.if_icmp .ge 7, 3) := dk_162 0 7 (dk_at dksX2_median_3 17 rfl rfl)
theorem dX2_median_90 : decode cX2_median 90 = .ok (.iconst 1, 1) := dk_4 (dk_at dksX2_median_3 20 rfl rfl)
theorem dX2_median_91 : decode cX2_median 91 = .ok (.goto 4, 3) := dk_167 0 4 (dk_at dksX2_median_3 21 rfl rfl)
theorem dX2_median_94 : decode cX2_median 94 = .ok (.iconst 0, 1) := dk_3 (dk_at dksX2_median_4 0 rfl rfl)
theorem dX2_median_95 : decode cX2_median 95 = .ok (.istore 8, 2) := dk_54 8 (dk_at dksX2_median_4 1 rfl rfl)
theorem dX2_median_97 : decode cX2_median 97 = .ok (.aload_n 0, 1) := dk_42 (dk_at dksX2_median_4 3 rfl rfl)
theorem dX2_median_98 : decode cX2_median 98 = .ok (.iload 6, 2) := dk_21 6 (dk_at dksX2_median_4 4 rfl rfl)
theorem dX2_median_100 : decode cX2_median 100 = .ok (.iload_n 1, 1) := dk_27 (dk_at dksX2_median_4 6 rfl rfl)
theorem dX2_median_101 : decode cX2_median 101 = .ok (.iload_n 2, 1) := dk_28 (dk_at dksX2_median_4 7 rfl rfl)
theorem dX2_median_102 : decode cX2_median 102 = .ok (.iload_n 3, 1) := dk_29 (dk_at dksX2_median_4 8 rfl rfl)
theorem dX2_median_103 : decode cX2_median 103 = .ok (.invokevirtual 161, 3) := dk_182 0 161 (dk_at dksX2_median_4 9 rfl rfl)
theorem dX2_median_106 : decode cX2_median 106 = .ok (.ifCond .eq 28, 3) := dk_153 0 28 (dk_at dksX2_median_4 12 rfl rfl)
theorem dX2_median_109 : decode cX2_median 109 = .ok (.iload 8, 2) := dk_21 8 (dk_at dksX2_median_4 15 rfl rfl)
theorem dX2_median_111 : decode cX2_median 111 = .ok (.ifCond .eq 23, 3) := dk_153 0 23 (dk_at dksX2_median_4 17 rfl rfl)
theorem dX2_median_114 : decode cX2_median 114 = .ok (.iconst 2, 1) := dk_5 (dk_at dksX2_median_4 20 rfl rfl)
theorem dX2_median_115 : decode cX2_median 115 = .ok (.aload_n 0, 1) := dk_42 (dk_at dksX2_median_4 21 rfl rfl)
theorem dX2_median_116 : decode cX2_median 116 = .ok (.iload_n 1, 1) := dk_27 (dk_at dksX2_median_4 22 rfl rfl)
theorem dX2_median_117 : decode cX2_median 117 = .ok (.iload 7, 2) := dk_21 7 (dk_at dksX2_median_5 0 rfl rfl)
theorem dX2_median_119 : decode cX2_median 119 = .ok (.iload_n 2, 1) := dk_28 (dk_at dksX2_median_5 2 rfl rfl)
theorem dX2_median_120 : decode cX2_median 120 = .ok (.iload_n 3, 1) := dk_29 (dk_at dksX2_median_5 3 rfl rfl)
theorem dX2_median_121 : decode cX2_median 121 = .ok (.invokevirtual 165, 3) := dk_182 0 165 (dk_at dksX2_median_5 4 rfl rfl)
theorem dX2_median_124 : decode cX2_median 124 = .ok (.imul, 1) := dk_104 (dk_at dksX2_median_5 7 rfl rfl)
theorem dX2_median_125 : decode cX2_median 125 = .ok (.iload 4, 2) := dk_21 4 (dk_at dksX2_median_5 8 rfl rfl)
theorem dX2_median_127 : decode cX2_median 127 = .ok (.if_icmp .lt 7, 3) := dk_161 0 7 (dk_at dksX2_median_5 10 rfl rfl)
theorem dX2_median_130 : decode cX2_median 130 = .ok (.iload 7, 2) := dk_21 7 (dk_at dksX2_median_5 13 rfl rfl)
theorem dX2_median_132 : decode cX2_median 132 = .ok (.istore 5, 2) := dk_54 5 (dk_at dksX2_median_5 15 rfl rfl)
theorem dX2_median_134 : decode cX2_median 134 = .ok (.iinc 6 1, 3) := dk_132 6 1 (dk_at dksX2_median_5 17 rfl rfl)
theorem dX2_median_137 : decode cX2_median 137 = .ok (.goto (-82), 3) := dk_167 255 174 (dk_at dksX2_median_5 20 rfl rfl)
theorem dX2_median_140 : decode cX2_median 140 = .ok (.iload 5, 2) := dk_21 5 (dk_at dksX2_median_6 0 rfl rfl)
theorem dX2_median_142 : decode cX2_median 142 = .ok (.ireturn, 1) := dk_172 (dk_at dksX2_median_6 2 rfl rfl)
abbrev cX2_isNear : ByteArray := prog_9_method_45_code
def yX2_isNear : MethodName := ⟨RX2, "isNear", "(IIII)Z"⟩
def dkwX2_isNear_1 : List UInt8 := [184, 0, 139, 21, 4, 163, 0, 7, 4, 167, 0, 4, 3, 172]
abbrev dktX2_isNear_1 : List UInt8 := dkwX2_isNear_1 ++ []
def dkwX2_isNear_0 : List UInt8 := [42, 180, 0, 38, 27, 28, 184, 0, 101, 46, 54, 5, 21, 5, 2, 159, 0, 19, 21, 5, 29, 100]
abbrev dktX2_isNear_0 : List UInt8 := dkwX2_isNear_0 ++ dktX2_isNear_1
theorem dksX2_isNear_0 : cX2_isNear.data.toList.drop 0 = dktX2_isNear_0 := by decide +kernel
theorem dksX2_isNear_1 : cX2_isNear.data.toList.drop 22 = dktX2_isNear_1 := dk_seg dksX2_isNear_0 22 rfl rfl
theorem dX2_isNear_0 : decode cX2_isNear 0 = .ok (.aload_n 0, 1) := dk_42 (dk_at dksX2_isNear_0 0 rfl rfl)
theorem dX2_isNear_1 : decode cX2_isNear 1 = .ok (.getfield 38, 3) := dk_180 0 38 (dk_at dksX2_isNear_0 1 rfl rfl)
theorem dX2_isNear_4 : decode cX2_isNear 4 = .ok (.iload_n 1, 1) := dk_27 (dk_at dksX2_isNear_0 4 rfl rfl)
theorem dX2_isNear_5 : decode cX2_isNear 5 = .ok (.iload_n 2, 1) := dk_28 (dk_at dksX2_isNear_0 5 rfl rfl)
theorem dX2_isNear_6 : decode cX2_isNear 6 = .ok (.invokestatic 101, 3) := dk_184 0 101 (dk_at dksX2_isNear_0 6 rfl rfl)
theorem dX2_isNear_9 : decode cX2_isNear 9 = .ok (.iaload, 1) := dk_46 (dk_at dksX2_isNear_0 9 rfl rfl)
theorem dX2_isNear_10 : decode cX2_isNear 10 = .ok (.istore 5, 2) := dk_54 5 (dk_at dksX2_isNear_0 10 rfl rfl)
theorem dX2_isNear_12 : decode cX2_isNear 12 = .ok (.iload 5, 2) := dk_21 5 (dk_at dksX2_isNear_0 12 rfl rfl)
theorem dX2_isNear_14 : decode cX2_isNear 14 = .ok (.iconst (-1), 1) := dk_2 (dk_at dksX2_isNear_0 14 rfl rfl)
theorem dX2_isNear_15 : decode cX2_isNear 15 = .ok (.if_icmp .eq 19, 3) := dk_159 0 19 (dk_at dksX2_isNear_0 15 rfl rfl)
theorem dX2_isNear_18 : decode cX2_isNear 18 = .ok (.iload 5, 2) := dk_21 5 (dk_at dksX2_isNear_0 18 rfl rfl)
theorem dX2_isNear_20 : decode cX2_isNear 20 = .ok (.iload_n 3, 1) := dk_29 (dk_at dksX2_isNear_0 20 rfl rfl)
theorem dX2_isNear_21 : decode cX2_isNear 21 = .ok (.isub, 1) := dk_100 (dk_at dksX2_isNear_0 21 rfl rfl)
theorem dX2_isNear_22 : decode cX2_isNear 22 = .ok (.invokestatic 139, 3) := dk_184 0 139 (dk_at dksX2_isNear_1 0 rfl rfl)
theorem dX2_isNear_25 : decode cX2_isNear 25 = .ok (.iload 4, 2) := dk_21 4 (dk_at dksX2_isNear_1 3 rfl rfl)
theorem dX2_isNear_27 : decode cX2_isNear 27 = .ok (.if_icmp .gt 7, 3) := dk_163 0 7 (dk_at dksX2_isNear_1 5 rfl rfl)
theorem dX2_isNear_30 : decode cX2_isNear 30 = .ok (.iconst 1, 1) := dk_4 (dk_at dksX2_isNear_1 8 rfl rfl)
theorem dX2_isNear_31 : decode cX2_isNear 31 = .ok (.goto 4, 3) := dk_167 0 4 (dk_at dksX2_isNear_1 9 rfl rfl)
theorem dX2_isNear_34 : decode cX2_isNear 34 = .ok (.iconst 0, 1) := dk_3 (dk_at dksX2_isNear_1 12 rfl rfl)
theorem dX2_isNear_35 : decode cX2_isNear 35 = .ok (.ireturn, 1) := dk_172 (dk_at dksX2_isNear_1 13 rfl rfl)
abbrev cX2_counts : ByteArray := prog_9_method_42_code
def yX2_counts : MethodName := ⟨RX2, "counts", "(II)I"⟩
def dkwX2_counts_2 : List UInt8 := [3, 167, 0, 21, 42, 180, 0, 35, 29, 51, 153, 0, 10, 5, 21, 4, 104, 167, 0, 5, 21, 4, 172]
abbrev dktX2_counts_2 : List UInt8 := dkwX2_counts_2 ++ []
def dkwX2_counts_1 : List UInt8 := [46, 167, 0, 11, 5, 42, 180, 0, 17, 27, 46, 104, 54, 4, 42, 180, 0, 38, 29, 46, 2, 160, 0, 7]
abbrev dktX2_counts_1 : List UInt8 := dkwX2_counts_1 ++ dktX2_counts_2
def dkwX2_counts_0 : List UInt8 := [27, 28, 184, 0, 101, 62, 42, 180, 0, 41, 29, 46, 42, 180, 0, 44, 164, 0, 12, 42, 180, 0, 17, 27]
abbrev dktX2_counts_0 : List UInt8 := dkwX2_counts_0 ++ dktX2_counts_1
theorem dksX2_counts_0 : cX2_counts.data.toList.drop 0 = dktX2_counts_0 := by decide +kernel
theorem dksX2_counts_1 : cX2_counts.data.toList.drop 24 = dktX2_counts_1 := dk_seg dksX2_counts_0 24 rfl rfl
theorem dksX2_counts_2 : cX2_counts.data.toList.drop 48 = dktX2_counts_2 := dk_seg dksX2_counts_1 24 rfl rfl
theorem dX2_counts_0 : decode cX2_counts 0 = .ok (.iload_n 1, 1) := dk_27 (dk_at dksX2_counts_0 0 rfl rfl)
theorem dX2_counts_1 : decode cX2_counts 1 = .ok (.iload_n 2, 1) := dk_28 (dk_at dksX2_counts_0 1 rfl rfl)
theorem dX2_counts_2 : decode cX2_counts 2 = .ok (.invokestatic 101, 3) := dk_184 0 101 (dk_at dksX2_counts_0 2 rfl rfl)
theorem dX2_counts_5 : decode cX2_counts 5 = .ok (.istore_n 3, 1) := dk_62 (dk_at dksX2_counts_0 5 rfl rfl)
theorem dX2_counts_6 : decode cX2_counts 6 = .ok (.aload_n 0, 1) := dk_42 (dk_at dksX2_counts_0 6 rfl rfl)
theorem dX2_counts_7 : decode cX2_counts 7 = .ok (.getfield 41, 3) := dk_180 0 41 (dk_at dksX2_counts_0 7 rfl rfl)
theorem dX2_counts_10 : decode cX2_counts 10 = .ok (.iload_n 3, 1) := dk_29 (dk_at dksX2_counts_0 10 rfl rfl)
theorem dX2_counts_11 : decode cX2_counts 11 = .ok (.iaload, 1) := dk_46 (dk_at dksX2_counts_0 11 rfl rfl)
theorem dX2_counts_12 : decode cX2_counts 12 = .ok (.aload_n 0, 1) := dk_42 (dk_at dksX2_counts_0 12 rfl rfl)
theorem dX2_counts_13 : decode cX2_counts 13 = .ok (.getfield 44, 3) := dk_180 0 44 (dk_at dksX2_counts_0 13 rfl rfl)
theorem dX2_counts_16 : decode cX2_counts 16 = .ok (.if_icmp .le 12, 3) := dk_164 0 12 (dk_at dksX2_counts_0 16 rfl rfl)
theorem dX2_counts_19 : decode cX2_counts 19 = .ok (.aload_n 0, 1) := dk_42 (dk_at dksX2_counts_0 19 rfl rfl)
theorem dX2_counts_20 : decode cX2_counts 20 = .ok (.getfield 17, 3) := dk_180 0 17 (dk_at dksX2_counts_0 20 rfl rfl)
theorem dX2_counts_23 : decode cX2_counts 23 = .ok (.iload_n 1, 1) := dk_27 (dk_at dksX2_counts_0 23 rfl rfl)
theorem dX2_counts_24 : decode cX2_counts 24 = .ok (.iaload, 1) := dk_46 (dk_at dksX2_counts_1 0 rfl rfl)
theorem dX2_counts_25 : decode cX2_counts 25 = .ok (.goto 11, 3) := dk_167 0 11 (dk_at dksX2_counts_1 1 rfl rfl)
theorem dX2_counts_28 : decode cX2_counts 28 = .ok (.iconst 2, 1) := dk_5 (dk_at dksX2_counts_1 4 rfl rfl)
theorem dX2_counts_29 : decode cX2_counts 29 = .ok (.aload_n 0, 1) := dk_42 (dk_at dksX2_counts_1 5 rfl rfl)
theorem dX2_counts_30 : decode cX2_counts 30 = .ok (.getfield 17, 3) := dk_180 0 17 (dk_at dksX2_counts_1 6 rfl rfl)
theorem dX2_counts_33 : decode cX2_counts 33 = .ok (.iload_n 1, 1) := dk_27 (dk_at dksX2_counts_1 9 rfl rfl)
theorem dX2_counts_34 : decode cX2_counts 34 = .ok (.iaload, 1) := dk_46 (dk_at dksX2_counts_1 10 rfl rfl)
theorem dX2_counts_35 : decode cX2_counts 35 = .ok (.imul, 1) := dk_104 (dk_at dksX2_counts_1 11 rfl rfl)
theorem dX2_counts_36 : decode cX2_counts 36 = .ok (.istore 4, 2) := dk_54 4 (dk_at dksX2_counts_1 12 rfl rfl)
theorem dX2_counts_38 : decode cX2_counts 38 = .ok (.aload_n 0, 1) := dk_42 (dk_at dksX2_counts_1 14 rfl rfl)
theorem dX2_counts_39 : decode cX2_counts 39 = .ok (.getfield 38, 3) := dk_180 0 38 (dk_at dksX2_counts_1 15 rfl rfl)
theorem dX2_counts_42 : decode cX2_counts 42 = .ok (.iload_n 3, 1) := dk_29 (dk_at dksX2_counts_1 18 rfl rfl)
theorem dX2_counts_43 : decode cX2_counts 43 = .ok (.iaload, 1) := dk_46 (dk_at dksX2_counts_1 19 rfl rfl)
theorem dX2_counts_44 : decode cX2_counts 44 = .ok (.iconst (-1), 1) := dk_2 (dk_at dksX2_counts_1 20 rfl rfl)
theorem dX2_counts_45 : decode cX2_counts 45 = .ok (.if_icmp .ne 7, 3) := dk_160 0 7 (dk_at dksX2_counts_1 21 rfl rfl)
theorem dX2_counts_48 : decode cX2_counts 48 = .ok (.iconst 0, 1) := dk_3 (dk_at dksX2_counts_2 0 rfl rfl)
theorem dX2_counts_49 : decode cX2_counts 49 = .ok (.goto 21, 3) := dk_167 0 21 (dk_at dksX2_counts_2 1 rfl rfl)
theorem dX2_counts_52 : decode cX2_counts 52 = .ok (.aload_n 0, 1) := dk_42 (dk_at dksX2_counts_2 4 rfl rfl)
theorem dX2_counts_53 : decode cX2_counts 53 = .ok (.getfield 35, 3) := dk_180 0 35 (dk_at dksX2_counts_2 5 rfl rfl)
theorem dX2_counts_56 : decode cX2_counts 56 = .ok (.iload_n 3, 1) := dk_29 (dk_at dksX2_counts_2 8 rfl rfl)
theorem dX2_counts_57 : decode cX2_counts 57 = .ok (.baload, 1) := dk_51 (dk_at dksX2_counts_2 9 rfl rfl)
theorem dX2_counts_58 : decode cX2_counts 58 = .ok (.ifCond .eq 10, 3) := dk_153 0 10 (dk_at dksX2_counts_2 10 rfl rfl)
theorem dX2_counts_61 : decode cX2_counts 61 = .ok (.iconst 2, 1) := dk_5 (dk_at dksX2_counts_2 13 rfl rfl)
theorem dX2_counts_62 : decode cX2_counts 62 = .ok (.iload 4, 2) := dk_21 4 (dk_at dksX2_counts_2 14 rfl rfl)
theorem dX2_counts_64 : decode cX2_counts 64 = .ok (.imul, 1) := dk_104 (dk_at dksX2_counts_2 16 rfl rfl)
theorem dX2_counts_65 : decode cX2_counts 65 = .ok (.goto 5, 3) := dk_167 0 5 (dk_at dksX2_counts_2 17 rfl rfl)
theorem dX2_counts_68 : decode cX2_counts 68 = .ok (.iload 4, 2) := dk_21 4 (dk_at dksX2_counts_2 20 rfl rfl)
theorem dX2_counts_70 : decode cX2_counts 70 = .ok (.ireturn, 1) := dk_172 (dk_at dksX2_counts_2 22 rfl rfl)
abbrev cX2_countBelow : ByteArray := prog_9_method_46_code
def yX2_countBelow : MethodName := ⟨RX2, "countBelow", "(IIII)I"⟩
def dkwX2_countBelow_3 : List UInt8 := [96, 54, 5, 132, 6, 1, 167, 255, 188, 21, 5, 172]
abbrev dktX2_countBelow_3 : List UInt8 := dkwX2_countBelow_3 ++ []
def dkwX2_countBelow_2 : List UInt8 := [167, 0, 4, 3, 54, 7, 21, 5, 21, 7, 153, 0, 13, 42, 21, 6, 27, 182, 0, 158, 167, 0, 4, 3]
abbrev dktX2_countBelow_2 : List UInt8 := dkwX2_countBelow_2 ++ dktX2_countBelow_3
def dkwX2_countBelow_1 : List UInt8 := [182, 0, 161, 153, 0, 22, 42, 180, 0, 38, 21, 6, 27, 184, 0, 101, 46, 28, 163, 0, 7, 4]
abbrev dktX2_countBelow_1 : List UInt8 := dkwX2_countBelow_1 ++ dktX2_countBelow_2
def dkwX2_countBelow_0 : List UInt8 := [3, 54, 5, 3, 54, 6, 21, 6, 42, 180, 0, 69, 162, 0, 65, 42, 21, 6, 27, 29, 21, 4]
abbrev dktX2_countBelow_0 : List UInt8 := dkwX2_countBelow_0 ++ dktX2_countBelow_1
theorem dksX2_countBelow_0 : cX2_countBelow.data.toList.drop 0 = dktX2_countBelow_0 := by decide +kernel
theorem dksX2_countBelow_1 : cX2_countBelow.data.toList.drop 22 = dktX2_countBelow_1 := dk_seg dksX2_countBelow_0 22 rfl rfl
theorem dksX2_countBelow_2 : cX2_countBelow.data.toList.drop 44 = dktX2_countBelow_2 := dk_seg dksX2_countBelow_1 22 rfl rfl
theorem dksX2_countBelow_3 : cX2_countBelow.data.toList.drop 68 = dktX2_countBelow_3 := dk_seg dksX2_countBelow_2 24 rfl rfl
theorem dX2_countBelow_0 : decode cX2_countBelow 0 = .ok (.iconst 0, 1) := dk_3 (dk_at dksX2_countBelow_0 0 rfl rfl)
theorem dX2_countBelow_1 : decode cX2_countBelow 1 = .ok (.istore 5, 2) := dk_54 5 (dk_at dksX2_countBelow_0 1 rfl rfl)
theorem dX2_countBelow_3 : decode cX2_countBelow 3 = .ok (.iconst 0, 1) := dk_3 (dk_at dksX2_countBelow_0 3 rfl rfl)
theorem dX2_countBelow_4 : decode cX2_countBelow 4 = .ok (.istore 6, 2) := dk_54 6 (dk_at dksX2_countBelow_0 4 rfl rfl)
theorem dX2_countBelow_6 : decode cX2_countBelow 6 = .ok (.iload 6, 2) := dk_21 6 (dk_at dksX2_countBelow_0 6 rfl rfl)
theorem dX2_countBelow_8 : decode cX2_countBelow 8 = .ok (.aload_n 0, 1) := dk_42 (dk_at dksX2_countBelow_0 8 rfl rfl)
theorem dX2_countBelow_9 : decode cX2_countBelow 9 = .ok (.getfield 69, 3) := dk_180 0 69 (dk_at dksX2_countBelow_0 9 rfl rfl)
theorem dX2_countBelow_12 : decode cX2_countBelow 12 = .ok (.if_icmp .ge 65, 3) := dk_162 0 65 (dk_at dksX2_countBelow_0 12 rfl rfl)
theorem dX2_countBelow_15 : decode cX2_countBelow 15 = .ok (.aload_n 0, 1) := dk_42 (dk_at dksX2_countBelow_0 15 rfl rfl)
theorem dX2_countBelow_16 : decode cX2_countBelow 16 = .ok (.iload 6, 2) := dk_21 6 (dk_at dksX2_countBelow_0 16 rfl rfl)
theorem dX2_countBelow_18 : decode cX2_countBelow 18 = .ok (.iload_n 1, 1) := dk_27 (dk_at dksX2_countBelow_0 18 rfl rfl)
theorem dX2_countBelow_19 : decode cX2_countBelow 19 = .ok (.iload_n 3, 1) := dk_29 (dk_at dksX2_countBelow_0 19 rfl rfl)
theorem dX2_countBelow_20 : decode cX2_countBelow 20 = .ok (.iload 4, 2) := dk_21 4 (dk_at dksX2_countBelow_0 20 rfl rfl)
theorem dX2_countBelow_22 : decode cX2_countBelow 22 = .ok (.invokevirtual 161, 3) := dk_182 0 161 (dk_at dksX2_countBelow_1 0 rfl rfl)
theorem dX2_countBelow_25 : decode cX2_countBelow 25 = .ok (.ifCond .eq 22, 3) := dk_153 0 22 (dk_at dksX2_countBelow_1 3 rfl rfl)
theorem dX2_countBelow_28 : decode cX2_countBelow 28 = .ok (.aload_n 0, 1) := dk_42 (dk_at dksX2_countBelow_1 6 rfl rfl)
theorem dX2_countBelow_29 : decode cX2_countBelow 29 = .ok (.getfield 38, 3) := dk_180 0 38 (dk_at dksX2_countBelow_1 7 rfl rfl)
theorem dX2_countBelow_32 : decode cX2_countBelow 32 = .ok (.iload 6, 2) := dk_21 6 (dk_at dksX2_countBelow_1 10 rfl rfl)
theorem dX2_countBelow_34 : decode cX2_countBelow 34 = .ok (.iload_n 1, 1) := dk_27 (dk_at dksX2_countBelow_1 12 rfl rfl)
theorem dX2_countBelow_35 : decode cX2_countBelow 35 = .ok (.invokestatic 101, 3) := dk_184 0 101 (dk_at dksX2_countBelow_1 13 rfl rfl)
theorem dX2_countBelow_38 : decode cX2_countBelow 38 = .ok (.iaload, 1) := dk_46 (dk_at dksX2_countBelow_1 16 rfl rfl)
theorem dX2_countBelow_39 : decode cX2_countBelow 39 = .ok (.iload_n 2, 1) := dk_28 (dk_at dksX2_countBelow_1 17 rfl rfl)
theorem dX2_countBelow_40 : decode cX2_countBelow 40 = .ok (.if_icmp .gt 7, 3) := dk_163 0 7 (dk_at dksX2_countBelow_1 18 rfl rfl)
theorem dX2_countBelow_43 : decode cX2_countBelow 43 = .ok (.iconst 1, 1) := dk_4 (dk_at dksX2_countBelow_1 21 rfl rfl)
theorem dX2_countBelow_44 : decode cX2_countBelow 44 = .ok (.goto 4, 3) := dk_167 0 4 (dk_at dksX2_countBelow_2 0 rfl rfl)
theorem dX2_countBelow_47 : decode cX2_countBelow 47 = .ok (.iconst 0, 1) := dk_3 (dk_at dksX2_countBelow_2 3 rfl rfl)
theorem dX2_countBelow_48 : decode cX2_countBelow 48 = .ok (.istore 7, 2) := dk_54 7 (dk_at dksX2_countBelow_2 4 rfl rfl)
theorem dX2_countBelow_50 : decode cX2_countBelow 50 = .ok (.iload 5, 2) := dk_21 5 (dk_at dksX2_countBelow_2 6 rfl rfl)
theorem dX2_countBelow_52 : decode cX2_countBelow 52 = .ok (.iload 7, 2) := dk_21 7 (dk_at dksX2_countBelow_2 8 rfl rfl)
theorem dX2_countBelow_54 : decode cX2_countBelow 54 = .ok (.ifCond .eq 13, 3) := dk_153 0 13 (dk_at dksX2_countBelow_2 10 rfl rfl)
theorem dX2_countBelow_57 : decode cX2_countBelow 57 = .ok (.aload_n 0, 1) := dk_42 (dk_at dksX2_countBelow_2 13 rfl rfl)
theorem dX2_countBelow_58 : decode cX2_countBelow 58 = .ok (.iload 6, 2) := dk_21 6 (dk_at dksX2_countBelow_2 14 rfl rfl)
theorem dX2_countBelow_60 : decode cX2_countBelow 60 = .ok (.iload_n 1, 1) := dk_27 (dk_at dksX2_countBelow_2 16 rfl rfl)
theorem dX2_countBelow_61 : decode cX2_countBelow 61 = .ok (.invokevirtual 158, 3) := dk_182 0 158 (dk_at dksX2_countBelow_2 17 rfl rfl)
theorem dX2_countBelow_64 : decode cX2_countBelow 64 = .ok (.goto 4, 3) := dk_167 0 4 (dk_at dksX2_countBelow_2 20 rfl rfl)
theorem dX2_countBelow_67 : decode cX2_countBelow 67 = .ok (.iconst 0, 1) := dk_3 (dk_at dksX2_countBelow_2 23 rfl rfl)
theorem dX2_countBelow_68 : decode cX2_countBelow 68 = .ok (.iadd, 1) := dk_96 (dk_at dksX2_countBelow_3 0 rfl rfl)
theorem dX2_countBelow_69 : decode cX2_countBelow 69 = .ok (.istore 5, 2) := dk_54 5 (dk_at dksX2_countBelow_3 1 rfl rfl)
theorem dX2_countBelow_71 : decode cX2_countBelow 71 = .ok (.iinc 6 1, 3) := dk_132 6 1 (dk_at dksX2_countBelow_3 3 rfl rfl)
theorem dX2_countBelow_74 : decode cX2_countBelow 74 = .ok (.goto (-68), 3) := dk_167 255 188 (dk_at dksX2_countBelow_3 6 rfl rfl)
theorem dX2_countBelow_77 : decode cX2_countBelow 77 = .ok (.iload 5, 2) := dk_21 5 (dk_at dksX2_countBelow_3 9 rfl rfl)
theorem dX2_countBelow_79 : decode cX2_countBelow 79 = .ok (.ireturn, 1) := dk_172 (dk_at dksX2_countBelow_3 11 rfl rfl)
abbrev cX2_allowed : ByteArray := prog_9_method_47_code
def yX2_allowed : MethodName := ⟨RX2, "allowed", "(I)I"⟩
def dkwX2_allowed_0 : List UInt8 := [42, 27, 182, 0, 155, 6, 162, 0, 8, 16, 100, 167, 0, 7, 42, 180, 0, 48, 172]
abbrev dktX2_allowed_0 : List UInt8 := dkwX2_allowed_0 ++ []
theorem dksX2_allowed_0 : cX2_allowed.data.toList.drop 0 = dktX2_allowed_0 := by decide +kernel
theorem dX2_allowed_0 : decode cX2_allowed 0 = .ok (.aload_n 0, 1) := dk_42 (dk_at dksX2_allowed_0 0 rfl rfl)
theorem dX2_allowed_1 : decode cX2_allowed 1 = .ok (.iload_n 1, 1) := dk_27 (dk_at dksX2_allowed_0 1 rfl rfl)
theorem dX2_allowed_2 : decode cX2_allowed 2 = .ok (.invokevirtual 155, 3) := dk_182 0 155 (dk_at dksX2_allowed_0 2 rfl rfl)
theorem dX2_allowed_5 : decode cX2_allowed 5 = .ok (.iconst 3, 1) := dk_6 (dk_at dksX2_allowed_0 5 rfl rfl)
theorem dX2_allowed_6 : decode cX2_allowed 6 = .ok (.if_icmp .ge 8, 3) := dk_162 0 8 (dk_at dksX2_allowed_0 6 rfl rfl)
theorem dX2_allowed_9 : decode cX2_allowed 9 = .ok (.bipush 100, 2) := dk_16 100 (dk_at dksX2_allowed_0 9 rfl rfl)
theorem dX2_allowed_11 : decode cX2_allowed 11 = .ok (.goto 7, 3) := dk_167 0 7 (dk_at dksX2_allowed_0 11 rfl rfl)
theorem dX2_allowed_14 : decode cX2_allowed 14 = .ok (.aload_n 0, 1) := dk_42 (dk_at dksX2_allowed_0 14 rfl rfl)
theorem dX2_allowed_15 : decode cX2_allowed 15 = .ok (.getfield 48, 3) := dk_180 0 48 (dk_at dksX2_allowed_0 15 rfl rfl)
theorem dX2_allowed_18 : decode cX2_allowed 18 = .ok (.ireturn, 1) := dk_172 (dk_at dksX2_allowed_0 18 rfl rfl)
abbrev cX2_countReviews : ByteArray := prog_9_method_39_code
def yX2_countReviews : MethodName := ⟨RX2, "countReviews", "(I)I"⟩
def dkwX2_countReviews_1 : List UInt8 := [160, 0, 7, 3, 167, 0, 4, 4, 96, 61, 132, 3, 1, 167, 255, 223, 28, 172]
abbrev dktX2_countReviews_1 : List UInt8 := dkwX2_countReviews_1 ++ []
def dkwX2_countReviews_0 : List UInt8 := [3, 61, 3, 62, 29, 42, 180, 0, 69, 162, 0, 31, 28, 42, 180, 0, 38, 29, 27, 184, 0, 101, 46, 2]
abbrev dktX2_countReviews_0 : List UInt8 := dkwX2_countReviews_0 ++ dktX2_countReviews_1
theorem dksX2_countReviews_0 : cX2_countReviews.data.toList.drop 0 = dktX2_countReviews_0 := by decide +kernel
theorem dksX2_countReviews_1 : cX2_countReviews.data.toList.drop 24 = dktX2_countReviews_1 := dk_seg dksX2_countReviews_0 24 rfl rfl
theorem dX2_countReviews_0 : decode cX2_countReviews 0 = .ok (.iconst 0, 1) := dk_3 (dk_at dksX2_countReviews_0 0 rfl rfl)
theorem dX2_countReviews_1 : decode cX2_countReviews 1 = .ok (.istore_n 2, 1) := dk_61 (dk_at dksX2_countReviews_0 1 rfl rfl)
theorem dX2_countReviews_2 : decode cX2_countReviews 2 = .ok (.iconst 0, 1) := dk_3 (dk_at dksX2_countReviews_0 2 rfl rfl)
theorem dX2_countReviews_3 : decode cX2_countReviews 3 = .ok (.istore_n 3, 1) := dk_62 (dk_at dksX2_countReviews_0 3 rfl rfl)
theorem dX2_countReviews_4 : decode cX2_countReviews 4 = .ok (.iload_n 3, 1) := dk_29 (dk_at dksX2_countReviews_0 4 rfl rfl)
theorem dX2_countReviews_5 : decode cX2_countReviews 5 = .ok (.aload_n 0, 1) := dk_42 (dk_at dksX2_countReviews_0 5 rfl rfl)
theorem dX2_countReviews_6 : decode cX2_countReviews 6 = .ok (.getfield 69, 3) := dk_180 0 69 (dk_at dksX2_countReviews_0 6 rfl rfl)
theorem dX2_countReviews_9 : decode cX2_countReviews 9 = .ok (.if_icmp .ge 31, 3) := dk_162 0 31 (dk_at dksX2_countReviews_0 9 rfl rfl)
theorem dX2_countReviews_12 : decode cX2_countReviews 12 = .ok (.iload_n 2, 1) := dk_28 (dk_at dksX2_countReviews_0 12 rfl rfl)
theorem dX2_countReviews_13 : decode cX2_countReviews 13 = .ok (.aload_n 0, 1) := dk_42 (dk_at dksX2_countReviews_0 13 rfl rfl)
theorem dX2_countReviews_14 : decode cX2_countReviews 14 = .ok (.getfield 38, 3) := dk_180 0 38 (dk_at dksX2_countReviews_0 14 rfl rfl)
theorem dX2_countReviews_17 : decode cX2_countReviews 17 = .ok (.iload_n 3, 1) := dk_29 (dk_at dksX2_countReviews_0 17 rfl rfl)
theorem dX2_countReviews_18 : decode cX2_countReviews 18 = .ok (.iload_n 1, 1) := dk_27 (dk_at dksX2_countReviews_0 18 rfl rfl)
theorem dX2_countReviews_19 : decode cX2_countReviews 19 = .ok (.invokestatic 101, 3) := dk_184 0 101 (dk_at dksX2_countReviews_0 19 rfl rfl)
theorem dX2_countReviews_22 : decode cX2_countReviews 22 = .ok (.iaload, 1) := dk_46 (dk_at dksX2_countReviews_0 22 rfl rfl)
theorem dX2_countReviews_23 : decode cX2_countReviews 23 = .ok (.iconst (-1), 1) := dk_2 (dk_at dksX2_countReviews_0 23 rfl rfl)
theorem dX2_countReviews_24 : decode cX2_countReviews 24 = .ok (.if_icmp .ne 7, 3) := dk_160 0 7 (dk_at dksX2_countReviews_1 0 rfl rfl)
theorem dX2_countReviews_27 : decode cX2_countReviews 27 = .ok (.iconst 0, 1) := dk_3 (dk_at dksX2_countReviews_1 3 rfl rfl)
theorem dX2_countReviews_28 : decode cX2_countReviews 28 = .ok (.goto 4, 3) := dk_167 0 4 (dk_at dksX2_countReviews_1 4 rfl rfl)
theorem dX2_countReviews_31 : decode cX2_countReviews 31 = .ok (.iconst 1, 1) := dk_4 (dk_at dksX2_countReviews_1 7 rfl rfl)
theorem dX2_countReviews_32 : decode cX2_countReviews 32 = .ok (.iadd, 1) := dk_96 (dk_at dksX2_countReviews_1 8 rfl rfl)
theorem dX2_countReviews_33 : decode cX2_countReviews 33 = .ok (.istore_n 2, 1) := dk_61 (dk_at dksX2_countReviews_1 9 rfl rfl)
theorem dX2_countReviews_34 : decode cX2_countReviews 34 = .ok (.iinc 3 1, 3) := dk_132 3 1 (dk_at dksX2_countReviews_1 10 rfl rfl)
theorem dX2_countReviews_37 : decode cX2_countReviews 37 = .ok (.goto (-33), 3) := dk_167 255 223 (dk_at dksX2_countReviews_1 13 rfl rfl)
theorem dX2_countReviews_40 : decode cX2_countReviews 40 = .ok (.iload_n 2, 1) := dk_28 (dk_at dksX2_countReviews_1 16 rfl rfl)
theorem dX2_countReviews_41 : decode cX2_countReviews 41 = .ok (.ireturn, 1) := dk_172 (dk_at dksX2_countReviews_1 17 rfl rfl)
abbrev cX2_freshWeight : ByteArray := prog_9_method_35_code
def yX2_freshWeight : MethodName := ⟨RX2, "freshWeight", "(I)I"⟩
def dkwX2_freshWeight_4 : List UInt8 := [172]
abbrev dktX2_freshWeight_4 : List UInt8 := dkwX2_freshWeight_4 ++ []
def dkwX2_freshWeight_3 : List UInt8 := [132, 4, 1, 167, 255, 201, 29, 154, 0, 12, 42, 180, 0, 17, 27, 46, 167, 0, 8, 28, 29, 184, 0, 136]
abbrev dktX2_freshWeight_3 : List UInt8 := dkwX2_freshWeight_3 ++ dktX2_freshWeight_4
def dkwX2_freshWeight_2 : List UInt8 := [21, 4, 184, 0, 101, 46, 42, 180, 0, 60, 21, 4, 46, 100, 184, 0, 139, 96, 61, 132, 3, 1]
abbrev dktX2_freshWeight_2 : List UInt8 := dkwX2_freshWeight_2 ++ dktX2_freshWeight_3
def dkwX2_freshWeight_1 : List UInt8 := [162, 0, 52, 42, 180, 0, 38, 27, 21, 4, 184, 0, 101, 46, 2, 159, 0, 31, 28, 42, 180, 0, 38, 27]
abbrev dktX2_freshWeight_1 : List UInt8 := dkwX2_freshWeight_1 ++ dktX2_freshWeight_2
def dkwX2_freshWeight_0 : List UInt8 := [42, 180, 0, 23, 27, 46, 61, 42, 180, 0, 20, 27, 46, 62, 3, 54, 4, 21, 4, 42, 180, 0, 69]
abbrev dktX2_freshWeight_0 : List UInt8 := dkwX2_freshWeight_0 ++ dktX2_freshWeight_1
theorem dksX2_freshWeight_0 : cX2_freshWeight.data.toList.drop 0 = dktX2_freshWeight_0 := by decide +kernel
theorem dksX2_freshWeight_1 : cX2_freshWeight.data.toList.drop 23 = dktX2_freshWeight_1 := dk_seg dksX2_freshWeight_0 23 rfl rfl
theorem dksX2_freshWeight_2 : cX2_freshWeight.data.toList.drop 47 = dktX2_freshWeight_2 := dk_seg dksX2_freshWeight_1 24 rfl rfl
theorem dksX2_freshWeight_3 : cX2_freshWeight.data.toList.drop 69 = dktX2_freshWeight_3 := dk_seg dksX2_freshWeight_2 22 rfl rfl
theorem dksX2_freshWeight_4 : cX2_freshWeight.data.toList.drop 93 = dktX2_freshWeight_4 := dk_seg dksX2_freshWeight_3 24 rfl rfl
theorem dX2_freshWeight_0 : decode cX2_freshWeight 0 = .ok (.aload_n 0, 1) := dk_42 (dk_at dksX2_freshWeight_0 0 rfl rfl)
theorem dX2_freshWeight_1 : decode cX2_freshWeight 1 = .ok (.getfield 23, 3) := dk_180 0 23 (dk_at dksX2_freshWeight_0 1 rfl rfl)
theorem dX2_freshWeight_4 : decode cX2_freshWeight 4 = .ok (.iload_n 1, 1) := dk_27 (dk_at dksX2_freshWeight_0 4 rfl rfl)
theorem dX2_freshWeight_5 : decode cX2_freshWeight 5 = .ok (.iaload, 1) := dk_46 (dk_at dksX2_freshWeight_0 5 rfl rfl)
theorem dX2_freshWeight_6 : decode cX2_freshWeight 6 = .ok (.istore_n 2, 1) := dk_61 (dk_at dksX2_freshWeight_0 6 rfl rfl)
theorem dX2_freshWeight_7 : decode cX2_freshWeight 7 = .ok (.aload_n 0, 1) := dk_42 (dk_at dksX2_freshWeight_0 7 rfl rfl)
theorem dX2_freshWeight_8 : decode cX2_freshWeight 8 = .ok (.getfield 20, 3) := dk_180 0 20 (dk_at dksX2_freshWeight_0 8 rfl rfl)
theorem dX2_freshWeight_11 : decode cX2_freshWeight 11 = .ok (.iload_n 1, 1) := dk_27 (dk_at dksX2_freshWeight_0 11 rfl rfl)
theorem dX2_freshWeight_12 : decode cX2_freshWeight 12 = .ok (.iaload, 1) := dk_46 (dk_at dksX2_freshWeight_0 12 rfl rfl)
theorem dX2_freshWeight_13 : decode cX2_freshWeight 13 = .ok (.istore_n 3, 1) := dk_62 (dk_at dksX2_freshWeight_0 13 rfl rfl)
theorem dX2_freshWeight_14 : decode cX2_freshWeight 14 = .ok (.iconst 0, 1) := dk_3 (dk_at dksX2_freshWeight_0 14 rfl rfl)
theorem dX2_freshWeight_15 : decode cX2_freshWeight 15 = .ok (.istore 4, 2) := dk_54 4 (dk_at dksX2_freshWeight_0 15 rfl rfl)
theorem dX2_freshWeight_17 : decode cX2_freshWeight 17 = .ok (.iload 4, 2) := dk_21 4 (dk_at dksX2_freshWeight_0 17 rfl rfl)
theorem dX2_freshWeight_19 : decode cX2_freshWeight 19 = .ok (.aload_n 0, 1) := dk_42 (dk_at dksX2_freshWeight_0 19 rfl rfl)
theorem dX2_freshWeight_20 : decode cX2_freshWeight 20 = .ok (.getfield 69, 3) := dk_180 0 69 (dk_at dksX2_freshWeight_0 20 rfl rfl)
theorem dX2_freshWeight_23 : decode cX2_freshWeight 23 = .ok (.if_icmp .ge 52, 3) := dk_162 0 52 (dk_at dksX2_freshWeight_1 0 rfl rfl)
theorem dX2_freshWeight_26 : decode cX2_freshWeight 26 = .ok (.aload_n 0, 1) := dk_42 (dk_at dksX2_freshWeight_1 3 rfl rfl)
theorem dX2_freshWeight_27 : decode cX2_freshWeight 27 = .ok (.getfield 38, 3) := dk_180 0 38 (dk_at dksX2_freshWeight_1 4 rfl rfl)
theorem dX2_freshWeight_30 : decode cX2_freshWeight 30 = .ok (.iload_n 1, 1) := dk_27 (dk_at dksX2_freshWeight_1 7 rfl rfl)
theorem dX2_freshWeight_31 : decode cX2_freshWeight 31 = .ok (.iload 4, 2) := dk_21 4 (dk_at dksX2_freshWeight_1 8 rfl rfl)
theorem dX2_freshWeight_33 : decode cX2_freshWeight 33 = .ok (.invokestatic 101, 3) := dk_184 0 101 (dk_at dksX2_freshWeight_1 10 rfl rfl)
theorem dX2_freshWeight_36 : decode cX2_freshWeight 36 = .ok (.iaload, 1) := dk_46 (dk_at dksX2_freshWeight_1 13 rfl rfl)
theorem dX2_freshWeight_37 : decode cX2_freshWeight 37 = .ok (.iconst (-1), 1) := dk_2 (dk_at dksX2_freshWeight_1 14 rfl rfl)
theorem dX2_freshWeight_38 : decode cX2_freshWeight 38 = .ok (.if_icmp .eq 31, 3) := dk_159 0 31 (dk_at dksX2_freshWeight_1 15 rfl rfl)
theorem dX2_freshWeight_41 : decode cX2_freshWeight 41 = .ok (.iload_n 2, 1) := dk_28 (dk_at dksX2_freshWeight_1 18 rfl rfl)
theorem dX2_freshWeight_42 : decode cX2_freshWeight 42 = .ok (.aload_n 0, 1) := dk_42 (dk_at dksX2_freshWeight_1 19 rfl rfl)
theorem dX2_freshWeight_43 : decode cX2_freshWeight 43 = .ok (.getfield 38, 3) := dk_180 0 38 (dk_at dksX2_freshWeight_1 20 rfl rfl)
theorem dX2_freshWeight_46 : decode cX2_freshWeight 46 = .ok (.iload_n 1, 1) := dk_27 (dk_at dksX2_freshWeight_1 23 rfl rfl)
theorem dX2_freshWeight_47 : decode cX2_freshWeight 47 = .ok (.iload 4, 2) := dk_21 4 (dk_at dksX2_freshWeight_2 0 rfl rfl)
theorem dX2_freshWeight_49 : decode cX2_freshWeight 49 = .ok (.invokestatic 101, 3) := dk_184 0 101 (dk_at dksX2_freshWeight_2 2 rfl rfl)
theorem dX2_freshWeight_52 : decode cX2_freshWeight 52 = .ok (.iaload, 1) := dk_46 (dk_at dksX2_freshWeight_2 5 rfl rfl)
theorem dX2_freshWeight_53 : decode cX2_freshWeight 53 = .ok (.aload_n 0, 1) := dk_42 (dk_at dksX2_freshWeight_2 6 rfl rfl)
theorem dX2_freshWeight_54 : decode cX2_freshWeight 54 = .ok (.getfield 60, 3) := dk_180 0 60 (dk_at dksX2_freshWeight_2 7 rfl rfl)
theorem dX2_freshWeight_57 : decode cX2_freshWeight 57 = .ok (.iload 4, 2) := dk_21 4 (dk_at dksX2_freshWeight_2 10 rfl rfl)
theorem dX2_freshWeight_59 : decode cX2_freshWeight 59 = .ok (.iaload, 1) := dk_46 (dk_at dksX2_freshWeight_2 12 rfl rfl)
theorem dX2_freshWeight_60 : decode cX2_freshWeight 60 = .ok (.isub, 1) := dk_100 (dk_at dksX2_freshWeight_2 13 rfl rfl)
theorem dX2_freshWeight_61 : decode cX2_freshWeight 61 = .ok (.invokestatic 139, 3) := dk_184 0 139 (dk_at dksX2_freshWeight_2 14 rfl rfl)
theorem dX2_freshWeight_64 : decode cX2_freshWeight 64 = .ok (.iadd, 1) := dk_96 (dk_at dksX2_freshWeight_2 17 rfl rfl)
theorem dX2_freshWeight_65 : decode cX2_freshWeight 65 = .ok (.istore_n 2, 1) := dk_61 (dk_at dksX2_freshWeight_2 18 rfl rfl)
theorem dX2_freshWeight_66 : decode cX2_freshWeight 66 = .ok (.iinc 3 1, 3) := dk_132 3 1 (dk_at dksX2_freshWeight_2 19 rfl rfl)
theorem dX2_freshWeight_69 : decode cX2_freshWeight 69 = .ok (.iinc 4 1, 3) := dk_132 4 1 (dk_at dksX2_freshWeight_3 0 rfl rfl)
theorem dX2_freshWeight_72 : decode cX2_freshWeight 72 = .ok (.goto (-55), 3) := dk_167 255 201 (dk_at dksX2_freshWeight_3 3 rfl rfl)
theorem dX2_freshWeight_75 : decode cX2_freshWeight 75 = .ok (.iload_n 3, 1) := dk_29 (dk_at dksX2_freshWeight_3 6 rfl rfl)
theorem dX2_freshWeight_76 : decode cX2_freshWeight 76 = .ok (.ifCond .ne 12, 3) := dk_154 0 12 (dk_at dksX2_freshWeight_3 7 rfl rfl)
theorem dX2_freshWeight_79 : decode cX2_freshWeight 79 = .ok (.aload_n 0, 1) := dk_42 (dk_at dksX2_freshWeight_3 10 rfl rfl)
theorem dX2_freshWeight_80 : decode cX2_freshWeight 80 = .ok (.getfield 17, 3) := dk_180 0 17 (dk_at dksX2_freshWeight_3 11 rfl rfl)
theorem dX2_freshWeight_83 : decode cX2_freshWeight 83 = .ok (.iload_n 1, 1) := dk_27 (dk_at dksX2_freshWeight_3 14 rfl rfl)
theorem dX2_freshWeight_84 : decode cX2_freshWeight 84 = .ok (.iaload, 1) := dk_46 (dk_at dksX2_freshWeight_3 15 rfl rfl)
theorem dX2_freshWeight_85 : decode cX2_freshWeight 85 = .ok (.goto 8, 3) := dk_167 0 8 (dk_at dksX2_freshWeight_3 16 rfl rfl)
theorem dX2_freshWeight_88 : decode cX2_freshWeight 88 = .ok (.iload_n 2, 1) := dk_28 (dk_at dksX2_freshWeight_3 19 rfl rfl)
theorem dX2_freshWeight_89 : decode cX2_freshWeight 89 = .ok (.iload_n 3, 1) := dk_29 (dk_at dksX2_freshWeight_3 20 rfl rfl)
theorem dX2_freshWeight_90 : decode cX2_freshWeight 90 = .ok (.invokestatic 136, 3) := dk_184 0 136 (dk_at dksX2_freshWeight_3 21 rfl rfl)
theorem dX2_freshWeight_93 : decode cX2_freshWeight 93 = .ok (.ireturn, 1) := dk_172 (dk_at dksX2_freshWeight_4 0 rfl rfl)
abbrev cX2_plain : ByteArray := prog_9_method_38_code
def yX2_plain : MethodName := ⟨RX2, "plain", "()I"⟩
def dkwX2_plain_2 : List UInt8 := [182, 0, 142, 79, 132, 2, 1, 167, 255, 212, 27, 172]
abbrev dktX2_plain_2 : List UInt8 := dkwX2_plain_2 ++ []
def dkwX2_plain_1 : List UInt8 := [42, 28, 182, 0, 142, 160, 0, 7, 3, 167, 0, 4, 4, 96, 60, 42, 180, 0, 17, 28, 42, 28]
abbrev dktX2_plain_1 : List UInt8 := dkwX2_plain_1 ++ dktX2_plain_2
def dkwX2_plain_0 : List UInt8 := [42, 3, 181, 0, 66, 3, 60, 3, 61, 28, 42, 180, 0, 69, 162, 0, 42, 27, 42, 180, 0, 17, 28, 46]
abbrev dktX2_plain_0 : List UInt8 := dkwX2_plain_0 ++ dktX2_plain_1
theorem dksX2_plain_0 : cX2_plain.data.toList.drop 0 = dktX2_plain_0 := by decide +kernel
theorem dksX2_plain_1 : cX2_plain.data.toList.drop 24 = dktX2_plain_1 := dk_seg dksX2_plain_0 24 rfl rfl
theorem dksX2_plain_2 : cX2_plain.data.toList.drop 46 = dktX2_plain_2 := dk_seg dksX2_plain_1 22 rfl rfl
theorem dX2_plain_0 : decode cX2_plain 0 = .ok (.aload_n 0, 1) := dk_42 (dk_at dksX2_plain_0 0 rfl rfl)
theorem dX2_plain_1 : decode cX2_plain 1 = .ok (.iconst 0, 1) := dk_3 (dk_at dksX2_plain_0 1 rfl rfl)
theorem dX2_plain_2 : decode cX2_plain 2 = .ok (.putfield 66, 3) := dk_181 0 66 (dk_at dksX2_plain_0 2 rfl rfl)
theorem dX2_plain_5 : decode cX2_plain 5 = .ok (.iconst 0, 1) := dk_3 (dk_at dksX2_plain_0 5 rfl rfl)
theorem dX2_plain_6 : decode cX2_plain 6 = .ok (.istore_n 1, 1) := dk_60 (dk_at dksX2_plain_0 6 rfl rfl)
theorem dX2_plain_7 : decode cX2_plain 7 = .ok (.iconst 0, 1) := dk_3 (dk_at dksX2_plain_0 7 rfl rfl)
theorem dX2_plain_8 : decode cX2_plain 8 = .ok (.istore_n 2, 1) := dk_61 (dk_at dksX2_plain_0 8 rfl rfl)
theorem dX2_plain_9 : decode cX2_plain 9 = .ok (.iload_n 2, 1) := dk_28 (dk_at dksX2_plain_0 9 rfl rfl)
theorem dX2_plain_10 : decode cX2_plain 10 = .ok (.aload_n 0, 1) := dk_42 (dk_at dksX2_plain_0 10 rfl rfl)
theorem dX2_plain_11 : decode cX2_plain 11 = .ok (.getfield 69, 3) := dk_180 0 69 (dk_at dksX2_plain_0 11 rfl rfl)
theorem dX2_plain_14 : decode cX2_plain 14 = .ok (.if_icmp .ge 42, 3) := dk_162 0 42 (dk_at dksX2_plain_0 14 rfl rfl)
theorem dX2_plain_17 : decode cX2_plain 17 = .ok (.iload_n 1, 1) := dk_27 (dk_at dksX2_plain_0 17 rfl rfl)
theorem dX2_plain_18 : decode cX2_plain 18 = .ok (.aload_n 0, 1) := dk_42 (dk_at dksX2_plain_0 18 rfl rfl)
theorem dX2_plain_19 : decode cX2_plain 19 = .ok (.getfield 17, 3) := dk_180 0 17 (dk_at dksX2_plain_0 19 rfl rfl)
theorem dX2_plain_22 : decode cX2_plain 22 = .ok (.iload_n 2, 1) := dk_28 (dk_at dksX2_plain_0 22 rfl rfl)
theorem dX2_plain_23 : decode cX2_plain 23 = .ok (.iaload, 1) := dk_46 (dk_at dksX2_plain_0 23 rfl rfl)
theorem dX2_plain_24 : decode cX2_plain 24 = .ok (.aload_n 0, 1) := dk_42 (dk_at dksX2_plain_1 0 rfl rfl)
theorem dX2_plain_25 : decode cX2_plain 25 = .ok (.iload_n 2, 1) := dk_28 (dk_at dksX2_plain_1 1 rfl rfl)
theorem dX2_plain_26 : decode cX2_plain 26 = .ok (.invokevirtual 142, 3) := dk_182 0 142 (dk_at dksX2_plain_1 2 rfl rfl)
theorem dX2_plain_29 : decode cX2_plain 29 = .ok (.if_icmp .ne 7, 3) := dk_160 0 7 (dk_at dksX2_plain_1 5 rfl rfl)
theorem dX2_plain_32 : decode cX2_plain 32 = .ok (.iconst 0, 1) := dk_3 (dk_at dksX2_plain_1 8 rfl rfl)
theorem dX2_plain_33 : decode cX2_plain 33 = .ok (.goto 4, 3) := dk_167 0 4 (dk_at dksX2_plain_1 9 rfl rfl)
theorem dX2_plain_36 : decode cX2_plain 36 = .ok (.iconst 1, 1) := dk_4 (dk_at dksX2_plain_1 12 rfl rfl)
theorem dX2_plain_37 : decode cX2_plain 37 = .ok (.iadd, 1) := dk_96 (dk_at dksX2_plain_1 13 rfl rfl)
theorem dX2_plain_38 : decode cX2_plain 38 = .ok (.istore_n 1, 1) := dk_60 (dk_at dksX2_plain_1 14 rfl rfl)
theorem dX2_plain_39 : decode cX2_plain 39 = .ok (.aload_n 0, 1) := dk_42 (dk_at dksX2_plain_1 15 rfl rfl)
theorem dX2_plain_40 : decode cX2_plain 40 = .ok (.getfield 17, 3) := dk_180 0 17 (dk_at dksX2_plain_1 16 rfl rfl)
theorem dX2_plain_43 : decode cX2_plain 43 = .ok (.iload_n 2, 1) := dk_28 (dk_at dksX2_plain_1 19 rfl rfl)
theorem dX2_plain_44 : decode cX2_plain 44 = .ok (.aload_n 0, 1) := dk_42 (dk_at dksX2_plain_1 20 rfl rfl)
theorem dX2_plain_45 : decode cX2_plain 45 = .ok (.iload_n 2, 1) := dk_28 (dk_at dksX2_plain_1 21 rfl rfl)
theorem dX2_plain_46 : decode cX2_plain 46 = .ok (.invokevirtual 142, 3) := dk_182 0 142 (dk_at dksX2_plain_2 0 rfl rfl)
theorem dX2_plain_49 : decode cX2_plain 49 = .ok (.iastore, 1) := dk_79 (dk_at dksX2_plain_2 3 rfl rfl)
theorem dX2_plain_50 : decode cX2_plain 50 = .ok (.iinc 2 1, 3) := dk_132 2 1 (dk_at dksX2_plain_2 4 rfl rfl)
theorem dX2_plain_53 : decode cX2_plain 53 = .ok (.goto (-44), 3) := dk_167 255 212 (dk_at dksX2_plain_2 7 rfl rfl)
theorem dX2_plain_56 : decode cX2_plain 56 = .ok (.iload_n 1, 1) := dk_27 (dk_at dksX2_plain_2 10 rfl rfl)
theorem dX2_plain_57 : decode cX2_plain 57 = .ok (.ireturn, 1) := dk_172 (dk_at dksX2_plain_2 11 rfl rfl)
abbrev cX2_review : ByteArray := prog_9_method_40_code
def yX2_review : MethodName := ⟨RX2, "review", "(IIII)I"⟩
def dkwX2_review_4 : List UInt8 := [180, 0, 41, 27, 28, 184, 0, 101, 21, 4, 79, 42, 28, 182, 0, 155, 172]
abbrev dktX2_review_4 : List UInt8 := dkwX2_review_4 ++ []
def dkwX2_review_3 : List UInt8 := [2, 159, 0, 9, 42, 6, 182, 0, 87, 172, 42, 180, 0, 38, 27, 28, 184, 0, 101, 29, 79, 42]
abbrev dktX2_review_3 : List UInt8 := dkwX2_review_3 ++ dktX2_review_4
def dkwX2_review_2 : List UInt8 := [172, 42, 180, 0, 29, 27, 28, 184, 0, 101, 51, 153, 0, 17, 42, 180, 0, 38, 27, 28, 184, 0, 101, 46]
abbrev dktX2_review_2 : List UInt8 := dkwX2_review_2 ++ dktX2_review_3
def dkwX2_review_1 : List UInt8 := [182, 0, 87, 172, 29, 184, 0, 91, 153, 0, 11, 21, 4, 184, 0, 84, 154, 0, 9, 42, 5, 182, 0, 87]
abbrev dktX2_review_1 : List UInt8 := dkwX2_review_1 ++ dktX2_review_2
def dkwX2_review_0 : List UInt8 := [42, 3, 181, 0, 66, 42, 27, 182, 0, 76, 153, 0, 11, 42, 28, 182, 0, 118, 154, 0, 9, 42, 4]
abbrev dktX2_review_0 : List UInt8 := dkwX2_review_0 ++ dktX2_review_1
theorem dksX2_review_0 : cX2_review.data.toList.drop 0 = dktX2_review_0 := by decide +kernel
theorem dksX2_review_1 : cX2_review.data.toList.drop 23 = dktX2_review_1 := dk_seg dksX2_review_0 23 rfl rfl
theorem dksX2_review_2 : cX2_review.data.toList.drop 47 = dktX2_review_2 := dk_seg dksX2_review_1 24 rfl rfl
theorem dksX2_review_3 : cX2_review.data.toList.drop 71 = dktX2_review_3 := dk_seg dksX2_review_2 24 rfl rfl
theorem dksX2_review_4 : cX2_review.data.toList.drop 93 = dktX2_review_4 := dk_seg dksX2_review_3 22 rfl rfl
theorem dX2_review_0 : decode cX2_review 0 = .ok (.aload_n 0, 1) := dk_42 (dk_at dksX2_review_0 0 rfl rfl)
theorem dX2_review_1 : decode cX2_review 1 = .ok (.iconst 0, 1) := dk_3 (dk_at dksX2_review_0 1 rfl rfl)
theorem dX2_review_2 : decode cX2_review 2 = .ok (.putfield 66, 3) := dk_181 0 66 (dk_at dksX2_review_0 2 rfl rfl)
theorem dX2_review_5 : decode cX2_review 5 = .ok (.aload_n 0, 1) := dk_42 (dk_at dksX2_review_0 5 rfl rfl)
theorem dX2_review_6 : decode cX2_review 6 = .ok (.iload_n 1, 1) := dk_27 (dk_at dksX2_review_0 6 rfl rfl)
theorem dX2_review_7 : decode cX2_review 7 = .ok (.invokevirtual 76, 3) := dk_182 0 76 (dk_at dksX2_review_0 7 rfl rfl)
theorem dX2_review_10 : decode cX2_review 10 = .ok (.ifCond .eq 11, 3) := dk_153 0 11 (dk_at dksX2_review_0 10 rfl rfl)
theorem dX2_review_13 : decode cX2_review 13 = .ok (.aload_n 0, 1) := dk_42 (dk_at dksX2_review_0 13 rfl rfl)
theorem dX2_review_14 : decode cX2_review 14 = .ok (.iload_n 2, 1) := dk_28 (dk_at dksX2_review_0 14 rfl rfl)
theorem dX2_review_15 : decode cX2_review 15 = .ok (.invokevirtual 118, 3) := dk_182 0 118 (dk_at dksX2_review_0 15 rfl rfl)
theorem dX2_review_18 : decode cX2_review 18 = .ok (.ifCond .ne 9, 3) := dk_154 0 9 (dk_at dksX2_review_0 18 rfl rfl)
theorem dX2_review_21 : decode cX2_review 21 = .ok (.aload_n 0, 1) := dk_42 (dk_at dksX2_review_0 21 rfl rfl)
theorem dX2_review_22 : decode cX2_review 22 = .ok (.iconst 1, 1) := dk_4 (dk_at dksX2_review_0 22 rfl rfl)
theorem dX2_review_23 : decode cX2_review 23 = .ok (.invokevirtual 87, 3) := dk_182 0 87 (dk_at dksX2_review_1 0 rfl rfl)
theorem dX2_review_26 : decode cX2_review 26 = .ok (.ireturn, 1) := dk_172 (dk_at dksX2_review_1 3 rfl rfl)
theorem dX2_review_27 : decode cX2_review 27 = .ok (.iload_n 3, 1) := dk_29 (dk_at dksX2_review_1 4 rfl rfl)
theorem dX2_review_28 : decode cX2_review 28 = .ok (.invokestatic 91, 3) := dk_184 0 91 (dk_at dksX2_review_1 5 rfl rfl)
theorem dX2_review_31 : decode cX2_review 31 = .ok (.ifCond .eq 11, 3) := dk_153 0 11 (dk_at dksX2_review_1 8 rfl rfl)
theorem dX2_review_34 : decode cX2_review 34 = .ok (.iload 4, 2) := dk_21 4 (dk_at dksX2_review_1 11 rfl rfl)
theorem dX2_review_36 : decode cX2_review 36 = .ok (.invokestatic 84, 3) := dk_184 0 84 (dk_at dksX2_review_1 13 rfl rfl)
theorem dX2_review_39 : decode cX2_review 39 = .ok (.ifCond .ne 9, 3) := dk_154 0 9 (dk_at dksX2_review_1 16 rfl rfl)
theorem dX2_review_42 : decode cX2_review 42 = .ok (.aload_n 0, 1) := dk_42 (dk_at dksX2_review_1 19 rfl rfl)
theorem dX2_review_43 : decode cX2_review 43 = .ok (.iconst 2, 1) := dk_5 (dk_at dksX2_review_1 20 rfl rfl)
theorem dX2_review_44 : decode cX2_review 44 = .ok (.invokevirtual 87, 3) := dk_182 0 87 (dk_at dksX2_review_1 21 rfl rfl)
theorem dX2_review_47 : decode cX2_review 47 = .ok (.ireturn, 1) := dk_172 (dk_at dksX2_review_2 0 rfl rfl)
theorem dX2_review_48 : decode cX2_review 48 = .ok (.aload_n 0, 1) := dk_42 (dk_at dksX2_review_2 1 rfl rfl)
theorem dX2_review_49 : decode cX2_review 49 = .ok (.getfield 29, 3) := dk_180 0 29 (dk_at dksX2_review_2 2 rfl rfl)
theorem dX2_review_52 : decode cX2_review 52 = .ok (.iload_n 1, 1) := dk_27 (dk_at dksX2_review_2 5 rfl rfl)
theorem dX2_review_53 : decode cX2_review 53 = .ok (.iload_n 2, 1) := dk_28 (dk_at dksX2_review_2 6 rfl rfl)
theorem dX2_review_54 : decode cX2_review 54 = .ok (.invokestatic 101, 3) := dk_184 0 101 (dk_at dksX2_review_2 7 rfl rfl)
theorem dX2_review_57 : decode cX2_review 57 = .ok (.baload, 1) := dk_51 (dk_at dksX2_review_2 10 rfl rfl)
theorem dX2_review_58 : decode cX2_review 58 = .ok (.ifCond .eq 17, 3) := dk_153 0 17 (dk_at dksX2_review_2 11 rfl rfl)
theorem dX2_review_61 : decode cX2_review 61 = .ok (.aload_n 0, 1) := dk_42 (dk_at dksX2_review_2 14 rfl rfl)
theorem dX2_review_62 : decode cX2_review 62 = .ok (.getfield 38, 3) := dk_180 0 38 (dk_at dksX2_review_2 15 rfl rfl)
theorem dX2_review_65 : decode cX2_review 65 = .ok (.iload_n 1, 1) := dk_27 (dk_at dksX2_review_2 18 rfl rfl)
theorem dX2_review_66 : decode cX2_review 66 = .ok (.iload_n 2, 1) := dk_28 (dk_at dksX2_review_2 19 rfl rfl)
theorem dX2_review_67 : decode cX2_review 67 = .ok (.invokestatic 101, 3) := dk_184 0 101 (dk_at dksX2_review_2 20 rfl rfl)
theorem dX2_review_70 : decode cX2_review 70 = .ok (.iaload, 1) := dk_46 (dk_at dksX2_review_2 23 rfl rfl)
theorem dX2_review_71 : decode cX2_review 71 = .ok (.iconst (-1), 1) := dk_2 (dk_at dksX2_review_3 0 rfl rfl)
theorem dX2_review_72 : decode cX2_review 72 = .ok (.if_icmp .eq 9, 3) := dk_159 0 9 (dk_at dksX2_review_3 1 rfl rfl)
theorem dX2_review_75 : decode cX2_review 75 = .ok (.aload_n 0, 1) := dk_42 (dk_at dksX2_review_3 4 rfl rfl)
theorem dX2_review_76 : decode cX2_review 76 = .ok (.iconst 3, 1) := dk_6 (dk_at dksX2_review_3 5 rfl rfl)
theorem dX2_review_77 : decode cX2_review 77 = .ok (.invokevirtual 87, 3) := dk_182 0 87 (dk_at dksX2_review_3 6 rfl rfl)
theorem dX2_review_80 : decode cX2_review 80 = .ok (.ireturn, 1) := dk_172 (dk_at dksX2_review_3 9 rfl rfl)
theorem dX2_review_81 : decode cX2_review 81 = .ok (.aload_n 0, 1) := dk_42 (dk_at dksX2_review_3 10 rfl rfl)
theorem dX2_review_82 : decode cX2_review 82 = .ok (.getfield 38, 3) := dk_180 0 38 (dk_at dksX2_review_3 11 rfl rfl)
theorem dX2_review_85 : decode cX2_review 85 = .ok (.iload_n 1, 1) := dk_27 (dk_at dksX2_review_3 14 rfl rfl)
theorem dX2_review_86 : decode cX2_review 86 = .ok (.iload_n 2, 1) := dk_28 (dk_at dksX2_review_3 15 rfl rfl)
theorem dX2_review_87 : decode cX2_review 87 = .ok (.invokestatic 101, 3) := dk_184 0 101 (dk_at dksX2_review_3 16 rfl rfl)
theorem dX2_review_90 : decode cX2_review 90 = .ok (.iload_n 3, 1) := dk_29 (dk_at dksX2_review_3 19 rfl rfl)
theorem dX2_review_91 : decode cX2_review 91 = .ok (.iastore, 1) := dk_79 (dk_at dksX2_review_3 20 rfl rfl)
theorem dX2_review_92 : decode cX2_review 92 = .ok (.aload_n 0, 1) := dk_42 (dk_at dksX2_review_3 21 rfl rfl)
theorem dX2_review_93 : decode cX2_review 93 = .ok (.getfield 41, 3) := dk_180 0 41 (dk_at dksX2_review_4 0 rfl rfl)
theorem dX2_review_96 : decode cX2_review 96 = .ok (.iload_n 1, 1) := dk_27 (dk_at dksX2_review_4 3 rfl rfl)
theorem dX2_review_97 : decode cX2_review 97 = .ok (.iload_n 2, 1) := dk_28 (dk_at dksX2_review_4 4 rfl rfl)
theorem dX2_review_98 : decode cX2_review 98 = .ok (.invokestatic 101, 3) := dk_184 0 101 (dk_at dksX2_review_4 5 rfl rfl)
theorem dX2_review_101 : decode cX2_review 101 = .ok (.iload 4, 2) := dk_21 4 (dk_at dksX2_review_4 8 rfl rfl)
theorem dX2_review_103 : decode cX2_review 103 = .ok (.iastore, 1) := dk_79 (dk_at dksX2_review_4 10 rfl rfl)
theorem dX2_review_104 : decode cX2_review 104 = .ok (.aload_n 0, 1) := dk_42 (dk_at dksX2_review_4 11 rfl rfl)
theorem dX2_review_105 : decode cX2_review 105 = .ok (.iload_n 2, 1) := dk_28 (dk_at dksX2_review_4 12 rfl rfl)
theorem dX2_review_106 : decode cX2_review 106 = .ok (.invokevirtual 155, 3) := dk_182 0 155 (dk_at dksX2_review_4 13 rfl rfl)
theorem dX2_review_109 : decode cX2_review 109 = .ok (.ireturn, 1) := dk_172 (dk_at dksX2_review_4 16 rfl rfl)
abbrev cX2_reviews : ByteArray := prog_9_method_41_code
def yX2_reviews : MethodName := ⟨RX2, "reviews", "(I)I"⟩
def dkwX2_reviews_1 : List UInt8 := [182, 0, 87, 172]
abbrev dktX2_reviews_1 : List UInt8 := dkwX2_reviews_1 ++ []
def dkwX2_reviews_0 : List UInt8 := [42, 3, 181, 0, 66, 42, 27, 182, 0, 118, 153, 0, 11, 42, 27, 182, 0, 155, 167, 0, 8, 42, 4]
abbrev dktX2_reviews_0 : List UInt8 := dkwX2_reviews_0 ++ dktX2_reviews_1
theorem dksX2_reviews_0 : cX2_reviews.data.toList.drop 0 = dktX2_reviews_0 := by decide +kernel
theorem dksX2_reviews_1 : cX2_reviews.data.toList.drop 23 = dktX2_reviews_1 := dk_seg dksX2_reviews_0 23 rfl rfl
theorem dX2_reviews_0 : decode cX2_reviews 0 = .ok (.aload_n 0, 1) := dk_42 (dk_at dksX2_reviews_0 0 rfl rfl)
theorem dX2_reviews_1 : decode cX2_reviews 1 = .ok (.iconst 0, 1) := dk_3 (dk_at dksX2_reviews_0 1 rfl rfl)
theorem dX2_reviews_2 : decode cX2_reviews 2 = .ok (.putfield 66, 3) := dk_181 0 66 (dk_at dksX2_reviews_0 2 rfl rfl)
theorem dX2_reviews_5 : decode cX2_reviews 5 = .ok (.aload_n 0, 1) := dk_42 (dk_at dksX2_reviews_0 5 rfl rfl)
theorem dX2_reviews_6 : decode cX2_reviews 6 = .ok (.iload_n 1, 1) := dk_27 (dk_at dksX2_reviews_0 6 rfl rfl)
theorem dX2_reviews_7 : decode cX2_reviews 7 = .ok (.invokevirtual 118, 3) := dk_182 0 118 (dk_at dksX2_reviews_0 7 rfl rfl)
theorem dX2_reviews_10 : decode cX2_reviews 10 = .ok (.ifCond .eq 11, 3) := dk_153 0 11 (dk_at dksX2_reviews_0 10 rfl rfl)
theorem dX2_reviews_13 : decode cX2_reviews 13 = .ok (.aload_n 0, 1) := dk_42 (dk_at dksX2_reviews_0 13 rfl rfl)
theorem dX2_reviews_14 : decode cX2_reviews 14 = .ok (.iload_n 1, 1) := dk_27 (dk_at dksX2_reviews_0 14 rfl rfl)
theorem dX2_reviews_15 : decode cX2_reviews 15 = .ok (.invokevirtual 155, 3) := dk_182 0 155 (dk_at dksX2_reviews_0 15 rfl rfl)
theorem dX2_reviews_18 : decode cX2_reviews 18 = .ok (.goto 8, 3) := dk_167 0 8 (dk_at dksX2_reviews_0 18 rfl rfl)
theorem dX2_reviews_21 : decode cX2_reviews 21 = .ok (.aload_n 0, 1) := dk_42 (dk_at dksX2_reviews_0 21 rfl rfl)
theorem dX2_reviews_22 : decode cX2_reviews 22 = .ok (.iconst 1, 1) := dk_4 (dk_at dksX2_reviews_0 22 rfl rfl)
theorem dX2_reviews_23 : decode cX2_reviews 23 = .ok (.invokevirtual 87, 3) := dk_182 0 87 (dk_at dksX2_reviews_1 0 rfl rfl)
theorem dX2_reviews_26 : decode cX2_reviews 26 = .ok (.ireturn, 1) := dk_172 (dk_at dksX2_reviews_1 3 rfl rfl)
abbrev cX2_countsOf : ByteArray := prog_9_method_43_code
def yX2_countsOf : MethodName := ⟨RX2, "countsOf", "(II)I"⟩
def dkwX2_countsOf_1 : List UInt8 := [182, 0, 158, 167, 0, 8, 42, 4, 182, 0, 87, 172]
abbrev dktX2_countsOf_1 : List UInt8 := dkwX2_countsOf_1 ++ []
def dkwX2_countsOf_0 : List UInt8 := [42, 3, 181, 0, 66, 42, 27, 182, 0, 76, 153, 0, 20, 42, 28, 182, 0, 118, 153, 0, 12, 42, 27, 28]
abbrev dktX2_countsOf_0 : List UInt8 := dkwX2_countsOf_0 ++ dktX2_countsOf_1
theorem dksX2_countsOf_0 : cX2_countsOf.data.toList.drop 0 = dktX2_countsOf_0 := by decide +kernel
theorem dksX2_countsOf_1 : cX2_countsOf.data.toList.drop 24 = dktX2_countsOf_1 := dk_seg dksX2_countsOf_0 24 rfl rfl
theorem dX2_countsOf_0 : decode cX2_countsOf 0 = .ok (.aload_n 0, 1) := dk_42 (dk_at dksX2_countsOf_0 0 rfl rfl)
theorem dX2_countsOf_1 : decode cX2_countsOf 1 = .ok (.iconst 0, 1) := dk_3 (dk_at dksX2_countsOf_0 1 rfl rfl)
theorem dX2_countsOf_2 : decode cX2_countsOf 2 = .ok (.putfield 66, 3) := dk_181 0 66 (dk_at dksX2_countsOf_0 2 rfl rfl)
theorem dX2_countsOf_5 : decode cX2_countsOf 5 = .ok (.aload_n 0, 1) := dk_42 (dk_at dksX2_countsOf_0 5 rfl rfl)
theorem dX2_countsOf_6 : decode cX2_countsOf 6 = .ok (.iload_n 1, 1) := dk_27 (dk_at dksX2_countsOf_0 6 rfl rfl)
theorem dX2_countsOf_7 : decode cX2_countsOf 7 = .ok (.invokevirtual 76, 3) := dk_182 0 76 (dk_at dksX2_countsOf_0 7 rfl rfl)
theorem dX2_countsOf_10 : decode cX2_countsOf 10 = .ok (.ifCond .eq 20, 3) := dk_153 0 20 (dk_at dksX2_countsOf_0 10 rfl rfl)
theorem dX2_countsOf_13 : decode cX2_countsOf 13 = .ok (.aload_n 0, 1) := dk_42 (dk_at dksX2_countsOf_0 13 rfl rfl)
theorem dX2_countsOf_14 : decode cX2_countsOf 14 = .ok (.iload_n 2, 1) := dk_28 (dk_at dksX2_countsOf_0 14 rfl rfl)
theorem dX2_countsOf_15 : decode cX2_countsOf 15 = .ok (.invokevirtual 118, 3) := dk_182 0 118 (dk_at dksX2_countsOf_0 15 rfl rfl)
theorem dX2_countsOf_18 : decode cX2_countsOf 18 = .ok (.ifCond .eq 12, 3) := dk_153 0 12 (dk_at dksX2_countsOf_0 18 rfl rfl)
theorem dX2_countsOf_21 : decode cX2_countsOf 21 = .ok (.aload_n 0, 1) := dk_42 (dk_at dksX2_countsOf_0 21 rfl rfl)
theorem dX2_countsOf_22 : decode cX2_countsOf 22 = .ok (.iload_n 1, 1) := dk_27 (dk_at dksX2_countsOf_0 22 rfl rfl)
theorem dX2_countsOf_23 : decode cX2_countsOf 23 = .ok (.iload_n 2, 1) := dk_28 (dk_at dksX2_countsOf_0 23 rfl rfl)
theorem dX2_countsOf_24 : decode cX2_countsOf 24 = .ok (.invokevirtual 158, 3) := dk_182 0 158 (dk_at dksX2_countsOf_1 0 rfl rfl)
theorem dX2_countsOf_27 : decode cX2_countsOf 27 = .ok (.goto 8, 3) := dk_167 0 8 (dk_at dksX2_countsOf_1 3 rfl rfl)
theorem dX2_countsOf_30 : decode cX2_countsOf 30 = .ok (.aload_n 0, 1) := dk_42 (dk_at dksX2_countsOf_1 6 rfl rfl)
theorem dX2_countsOf_31 : decode cX2_countsOf 31 = .ok (.iconst 1, 1) := dk_4 (dk_at dksX2_countsOf_1 7 rfl rfl)
theorem dX2_countsOf_32 : decode cX2_countsOf 32 = .ok (.invokevirtual 87, 3) := dk_182 0 87 (dk_at dksX2_countsOf_1 8 rfl rfl)
theorem dX2_countsOf_35 : decode cX2_countsOf 35 = .ok (.ireturn, 1) := dk_172 (dk_at dksX2_countsOf_1 11 rfl rfl)
abbrev cX2_outliers : ByteArray := prog_9_method_49_code
def yX2_outliers : MethodName := ⟨RX2, "outliers", "(I)I"⟩
def dkwX2_outliers_4 : List UInt8 := [128, 62, 132, 4, 1, 167, 255, 190, 29, 172]
abbrev dktX2_outliers_4 : List UInt8 := dkwX2_outliers_4 ++ []
def dkwX2_outliers_3 : List UInt8 := [154, 0, 7, 4, 167, 0, 4, 3, 54, 5, 29, 21, 5, 153, 0, 10, 4, 21, 4, 120, 167, 0, 4, 3]
abbrev dktX2_outliers_3 : List UInt8 := dkwX2_outliers_3 ++ dktX2_outliers_4
def dkwX2_outliers_2 : List UInt8 := [27, 184, 0, 101, 46, 2, 159, 0, 23, 42, 21, 4, 27, 28, 42, 27, 182, 0, 173, 182, 0, 161]
abbrev dktX2_outliers_2 : List UInt8 := dkwX2_outliers_2 ++ dktX2_outliers_3
def dkwX2_outliers_1 : List UInt8 := [182, 0, 169, 61, 3, 62, 3, 54, 4, 21, 4, 42, 180, 0, 69, 162, 0, 63, 42, 180, 0, 38, 21, 4]
abbrev dktX2_outliers_1 : List UInt8 := dkwX2_outliers_1 ++ dktX2_outliers_2
def dkwX2_outliers_0 : List UInt8 := [42, 3, 181, 0, 66, 42, 27, 182, 0, 118, 154, 0, 9, 42, 4, 182, 0, 87, 172, 42, 27, 3, 16, 100]
abbrev dktX2_outliers_0 : List UInt8 := dkwX2_outliers_0 ++ dktX2_outliers_1
theorem dksX2_outliers_0 : cX2_outliers.data.toList.drop 0 = dktX2_outliers_0 := by decide +kernel
theorem dksX2_outliers_1 : cX2_outliers.data.toList.drop 24 = dktX2_outliers_1 := dk_seg dksX2_outliers_0 24 rfl rfl
theorem dksX2_outliers_2 : cX2_outliers.data.toList.drop 48 = dktX2_outliers_2 := dk_seg dksX2_outliers_1 24 rfl rfl
theorem dksX2_outliers_3 : cX2_outliers.data.toList.drop 70 = dktX2_outliers_3 := dk_seg dksX2_outliers_2 22 rfl rfl
theorem dksX2_outliers_4 : cX2_outliers.data.toList.drop 94 = dktX2_outliers_4 := dk_seg dksX2_outliers_3 24 rfl rfl
theorem dX2_outliers_0 : decode cX2_outliers 0 = .ok (.aload_n 0, 1) := dk_42 (dk_at dksX2_outliers_0 0 rfl rfl)
theorem dX2_outliers_1 : decode cX2_outliers 1 = .ok (.iconst 0, 1) := dk_3 (dk_at dksX2_outliers_0 1 rfl rfl)
theorem dX2_outliers_2 : decode cX2_outliers 2 = .ok (.putfield 66, 3) := dk_181 0 66 (dk_at dksX2_outliers_0 2 rfl rfl)
theorem dX2_outliers_5 : decode cX2_outliers 5 = .ok (.aload_n 0, 1) := dk_42 (dk_at dksX2_outliers_0 5 rfl rfl)
theorem dX2_outliers_6 : decode cX2_outliers 6 = .ok (.iload_n 1, 1) := dk_27 (dk_at dksX2_outliers_0 6 rfl rfl)
theorem dX2_outliers_7 : decode cX2_outliers 7 = .ok (.invokevirtual 118, 3) := dk_182 0 118 (dk_at dksX2_outliers_0 7 rfl rfl)
theorem dX2_outliers_10 : decode cX2_outliers 10 = .ok (.ifCond .ne 9, 3) := dk_154 0 9 (dk_at dksX2_outliers_0 10 rfl rfl)
theorem dX2_outliers_13 : decode cX2_outliers 13 = .ok (.aload_n 0, 1) := dk_42 (dk_at dksX2_outliers_0 13 rfl rfl)
theorem dX2_outliers_14 : decode cX2_outliers 14 = .ok (.iconst 1, 1) := dk_4 (dk_at dksX2_outliers_0 14 rfl rfl)
theorem dX2_outliers_15 : decode cX2_outliers 15 = .ok (.invokevirtual 87, 3) := dk_182 0 87 (dk_at dksX2_outliers_0 15 rfl rfl)
theorem dX2_outliers_18 : decode cX2_outliers 18 = .ok (.ireturn, 1) := dk_172 (dk_at dksX2_outliers_0 18 rfl rfl)
theorem dX2_outliers_19 : decode cX2_outliers 19 = .ok (.aload_n 0, 1) := dk_42 (dk_at dksX2_outliers_0 19 rfl rfl)
theorem dX2_outliers_20 : decode cX2_outliers 20 = .ok (.iload_n 1, 1) := dk_27 (dk_at dksX2_outliers_0 20 rfl rfl)
theorem dX2_outliers_21 : decode cX2_outliers 21 = .ok (.iconst 0, 1) := dk_3 (dk_at dksX2_outliers_0 21 rfl rfl)
theorem dX2_outliers_22 : decode cX2_outliers 22 = .ok (.bipush 100, 2) := dk_16 100 (dk_at dksX2_outliers_0 22 rfl rfl)
theorem dX2_outliers_24 : decode cX2_outliers 24 = .ok (.invokevirtual 169, 3) := dk_182 0 169 (dk_at dksX2_outliers_1 0 rfl rfl)
theorem dX2_outliers_27 : decode cX2_outliers 27 = .ok (.istore_n 2, 1) := dk_61 (dk_at dksX2_outliers_1 3 rfl rfl)
theorem dX2_outliers_28 : decode cX2_outliers 28 = .ok (.iconst 0, 1) := dk_3 (dk_at dksX2_outliers_1 4 rfl rfl)
theorem dX2_outliers_29 : decode cX2_outliers 29 = .ok (.istore_n 3, 1) := dk_62 (dk_at dksX2_outliers_1 5 rfl rfl)
theorem dX2_outliers_30 : decode cX2_outliers 30 = .ok (.iconst 0, 1) := dk_3 (dk_at dksX2_outliers_1 6 rfl rfl)
theorem dX2_outliers_31 : decode cX2_outliers 31 = .ok (.istore 4, 2) := dk_54 4 (dk_at dksX2_outliers_1 7 rfl rfl)
theorem dX2_outliers_33 : decode cX2_outliers 33 = .ok (.iload 4, 2) := dk_21 4 (dk_at dksX2_outliers_1 9 rfl rfl)
theorem dX2_outliers_35 : decode cX2_outliers 35 = .ok (.aload_n 0, 1) := dk_42 (dk_at dksX2_outliers_1 11 rfl rfl)
theorem dX2_outliers_36 : decode cX2_outliers 36 = .ok (.getfield 69, 3) := dk_180 0 69 (dk_at dksX2_outliers_1 12 rfl rfl)
theorem dX2_outliers_39 : decode cX2_outliers 39 = .ok (.if_icmp .ge 63, 3) := dk_162 0 63 (dk_at dksX2_outliers_1 15 rfl rfl)
theorem dX2_outliers_42 : decode cX2_outliers 42 = .ok (.aload_n 0, 1) := dk_42 (dk_at dksX2_outliers_1 18 rfl rfl)
theorem dX2_outliers_43 : decode cX2_outliers 43 = .ok (.getfield 38, 3) := dk_180 0 38 (dk_at dksX2_outliers_1 19 rfl rfl)
theorem dX2_outliers_46 : decode cX2_outliers 46 = .ok (.iload 4, 2) := dk_21 4 (dk_at dksX2_outliers_1 22 rfl rfl)
theorem dX2_outliers_48 : decode cX2_outliers 48 = .ok (.iload_n 1, 1) := dk_27 (dk_at dksX2_outliers_2 0 rfl rfl)
theorem dX2_outliers_49 : decode cX2_outliers 49 = .ok (.invokestatic 101, 3) := dk_184 0 101 (dk_at dksX2_outliers_2 1 rfl rfl)
theorem dX2_outliers_52 : decode cX2_outliers 52 = .ok (.iaload, 1) := dk_46 (dk_at dksX2_outliers_2 4 rfl rfl)
theorem dX2_outliers_53 : decode cX2_outliers 53 = .ok (.iconst (-1), 1) := dk_2 (dk_at dksX2_outliers_2 5 rfl rfl)
theorem dX2_outliers_54 : decode cX2_outliers 54 = .ok (.if_icmp .eq 23, 3) := dk_159 0 23 (dk_at dksX2_outliers_2 6 rfl rfl)
theorem dX2_outliers_57 : decode cX2_outliers 57 = .ok (.aload_n 0, 1) := dk_42 (dk_at dksX2_outliers_2 9 rfl rfl)
theorem dX2_outliers_58 : decode cX2_outliers 58 = .ok (.iload 4, 2) := dk_21 4 (dk_at dksX2_outliers_2 10 rfl rfl)
theorem dX2_outliers_60 : decode cX2_outliers 60 = .ok (.iload_n 1, 1) := dk_27 (dk_at dksX2_outliers_2 12 rfl rfl)
theorem dX2_outliers_61 : decode cX2_outliers 61 = .ok (.iload_n 2, 1) := dk_28 (dk_at dksX2_outliers_2 13 rfl rfl)
theorem dX2_outliers_62 : decode cX2_outliers 62 = .ok (.aload_n 0, 1) := dk_42 (dk_at dksX2_outliers_2 14 rfl rfl)
theorem dX2_outliers_63 : decode cX2_outliers 63 = .ok (.iload_n 1, 1) := dk_27 (dk_at dksX2_outliers_2 15 rfl rfl)
theorem dX2_outliers_64 : decode cX2_outliers 64 = .ok (.invokevirtual 173, 3) := dk_182 0 173 (dk_at dksX2_outliers_2 16 rfl rfl)
theorem dX2_outliers_67 : decode cX2_outliers 67 = .ok (.invokevirtual 161, 3) := dk_182 0 161 (dk_at dksX2_outliers_2 19 rfl rfl)
theorem dX2_outliers_70 : decode cX2_outliers 70 = .ok (.ifCond .ne 7, 3) := dk_154 0 7 (dk_at dksX2_outliers_3 0 rfl rfl)
theorem dX2_outliers_73 : decode cX2_outliers 73 = .ok (.iconst 1, 1) := dk_4 (dk_at dksX2_outliers_3 3 rfl rfl)
theorem dX2_outliers_74 : decode cX2_outliers 74 = .ok (.goto 4, 3) := dk_167 0 4 (dk_at dksX2_outliers_3 4 rfl rfl)
theorem dX2_outliers_77 : decode cX2_outliers 77 = .ok (.iconst 0, 1) := dk_3 (dk_at dksX2_outliers_3 7 rfl rfl)
theorem dX2_outliers_78 : decode cX2_outliers 78 = .ok (.istore 5, 2) := dk_54 5 (dk_at dksX2_outliers_3 8 rfl rfl)
theorem dX2_outliers_80 : decode cX2_outliers 80 = .ok (.iload_n 3, 1) := dk_29 (dk_at dksX2_outliers_3 10 rfl rfl)
theorem dX2_outliers_81 : decode cX2_outliers 81 = .ok (.iload 5, 2) := dk_21 5 (dk_at dksX2_outliers_3 11 rfl rfl)
theorem dX2_outliers_83 : decode cX2_outliers 83 = .ok (.ifCond .eq 10, 3) := dk_153 0 10 (dk_at dksX2_outliers_3 13 rfl rfl)
theorem dX2_outliers_86 : decode cX2_outliers 86 = .ok (.iconst 1, 1) := dk_4 (dk_at dksX2_outliers_3 16 rfl rfl)
theorem dX2_outliers_87 : decode cX2_outliers 87 = .ok (.iload 4, 2) := dk_21 4 (dk_at dksX2_outliers_3 17 rfl rfl)
theorem dX2_outliers_89 : decode cX2_outliers 89 = .ok (.ishl, 1) := dk_120 (dk_at dksX2_outliers_3 19 rfl rfl)
theorem dX2_outliers_90 : decode cX2_outliers 90 = .ok (.goto 4, 3) := dk_167 0 4 (dk_at dksX2_outliers_3 20 rfl rfl)
theorem dX2_outliers_93 : decode cX2_outliers 93 = .ok (.iconst 0, 1) := dk_3 (dk_at dksX2_outliers_3 23 rfl rfl)
theorem dX2_outliers_94 : decode cX2_outliers 94 = .ok (.ior, 1) := dk_128 (dk_at dksX2_outliers_4 0 rfl rfl)
theorem dX2_outliers_95 : decode cX2_outliers 95 = .ok (.istore_n 3, 1) := dk_62 (dk_at dksX2_outliers_4 1 rfl rfl)
theorem dX2_outliers_96 : decode cX2_outliers 96 = .ok (.iinc 4 1, 3) := dk_132 4 1 (dk_at dksX2_outliers_4 2 rfl rfl)
theorem dX2_outliers_99 : decode cX2_outliers 99 = .ok (.goto (-66), 3) := dk_167 255 190 (dk_at dksX2_outliers_4 5 rfl rfl)
theorem dX2_outliers_102 : decode cX2_outliers 102 = .ok (.iload_n 3, 1) := dk_29 (dk_at dksX2_outliers_4 8 rfl rfl)
theorem dX2_outliers_103 : decode cX2_outliers 103 = .ok (.ireturn, 1) := dk_172 (dk_at dksX2_outliers_4 9 rfl rfl)
abbrev cX2_markOf : ByteArray := prog_9_method_50_code
def yX2_markOf : MethodName := ⟨RX2, "markOf", "(I)I"⟩
def dkwX2_markOf_1 : List UInt8 := [167, 0, 4, 3, 181, 0, 66, 42, 180, 0, 66, 158, 0, 7, 3, 167, 0, 8, 42, 27, 182, 0, 145, 172]
abbrev dktX2_markOf_1 : List UInt8 := dkwX2_markOf_1 ++ []
def dkwX2_markOf_0 : List UInt8 := [42, 42, 27, 182, 0, 118, 154, 0, 7, 4, 167, 0, 17, 42, 27, 182, 0, 145, 2, 160, 0, 7, 5]
abbrev dktX2_markOf_0 : List UInt8 := dkwX2_markOf_0 ++ dktX2_markOf_1
theorem dksX2_markOf_0 : cX2_markOf.data.toList.drop 0 = dktX2_markOf_0 := by decide +kernel
theorem dksX2_markOf_1 : cX2_markOf.data.toList.drop 23 = dktX2_markOf_1 := dk_seg dksX2_markOf_0 23 rfl rfl
theorem dX2_markOf_0 : decode cX2_markOf 0 = .ok (.aload_n 0, 1) := dk_42 (dk_at dksX2_markOf_0 0 rfl rfl)
theorem dX2_markOf_1 : decode cX2_markOf 1 = .ok (.aload_n 0, 1) := dk_42 (dk_at dksX2_markOf_0 1 rfl rfl)
theorem dX2_markOf_2 : decode cX2_markOf 2 = .ok (.iload_n 1, 1) := dk_27 (dk_at dksX2_markOf_0 2 rfl rfl)
theorem dX2_markOf_3 : decode cX2_markOf 3 = .ok (.invokevirtual 118, 3) := dk_182 0 118 (dk_at dksX2_markOf_0 3 rfl rfl)
theorem dX2_markOf_6 : decode cX2_markOf 6 = .ok (.ifCond .ne 7, 3) := dk_154 0 7 (dk_at dksX2_markOf_0 6 rfl rfl)
theorem dX2_markOf_9 : decode cX2_markOf 9 = .ok (.iconst 1, 1) := dk_4 (dk_at dksX2_markOf_0 9 rfl rfl)
theorem dX2_markOf_10 : decode cX2_markOf 10 = .ok (.goto 17, 3) := dk_167 0 17 (dk_at dksX2_markOf_0 10 rfl rfl)
theorem dX2_markOf_13 : decode cX2_markOf 13 = .ok (.aload_n 0, 1) := dk_42 (dk_at dksX2_markOf_0 13 rfl rfl)
theorem dX2_markOf_14 : decode cX2_markOf 14 = .ok (.iload_n 1, 1) := dk_27 (dk_at dksX2_markOf_0 14 rfl rfl)
theorem dX2_markOf_15 : decode cX2_markOf 15 = .ok (.invokevirtual 145, 3) := dk_182 0 145 (dk_at dksX2_markOf_0 15 rfl rfl)
theorem dX2_markOf_18 : decode cX2_markOf 18 = .ok (.iconst (-1), 1) := dk_2 (dk_at dksX2_markOf_0 18 rfl rfl)
theorem dX2_markOf_19 : decode cX2_markOf 19 = .ok (.if_icmp .ne 7, 3) := dk_160 0 7 (dk_at dksX2_markOf_0 19 rfl rfl)
theorem dX2_markOf_22 : decode cX2_markOf 22 = .ok (.iconst 2, 1) := dk_5 (dk_at dksX2_markOf_0 22 rfl rfl)
theorem dX2_markOf_23 : decode cX2_markOf 23 = .ok (.goto 4, 3) := dk_167 0 4 (dk_at dksX2_markOf_1 0 rfl rfl)
theorem dX2_markOf_26 : decode cX2_markOf 26 = .ok (.iconst 0, 1) := dk_3 (dk_at dksX2_markOf_1 3 rfl rfl)
theorem dX2_markOf_27 : decode cX2_markOf 27 = .ok (.putfield 66, 3) := dk_181 0 66 (dk_at dksX2_markOf_1 4 rfl rfl)
theorem dX2_markOf_30 : decode cX2_markOf 30 = .ok (.aload_n 0, 1) := dk_42 (dk_at dksX2_markOf_1 7 rfl rfl)
theorem dX2_markOf_31 : decode cX2_markOf 31 = .ok (.getfield 66, 3) := dk_180 0 66 (dk_at dksX2_markOf_1 8 rfl rfl)
theorem dX2_markOf_34 : decode cX2_markOf 34 = .ok (.ifCond .le 7, 3) := dk_158 0 7 (dk_at dksX2_markOf_1 11 rfl rfl)
theorem dX2_markOf_37 : decode cX2_markOf 37 = .ok (.iconst 0, 1) := dk_3 (dk_at dksX2_markOf_1 14 rfl rfl)
theorem dX2_markOf_38 : decode cX2_markOf 38 = .ok (.goto 8, 3) := dk_167 0 8 (dk_at dksX2_markOf_1 15 rfl rfl)
theorem dX2_markOf_41 : decode cX2_markOf 41 = .ok (.aload_n 0, 1) := dk_42 (dk_at dksX2_markOf_1 18 rfl rfl)
theorem dX2_markOf_42 : decode cX2_markOf 42 = .ok (.iload_n 1, 1) := dk_27 (dk_at dksX2_markOf_1 19 rfl rfl)
theorem dX2_markOf_43 : decode cX2_markOf 43 = .ok (.invokevirtual 145, 3) := dk_182 0 145 (dk_at dksX2_markOf_1 20 rfl rfl)
theorem dX2_markOf_46 : decode cX2_markOf 46 = .ok (.ireturn, 1) := dk_172 (dk_at dksX2_markOf_1 23 rfl rfl)
abbrev cX2_placeOf : ByteArray := prog_9_method_51_code
def yX2_placeOf : MethodName := ⟨RX2, "placeOf", "(I)I"⟩
def dkwX2_placeOf_3 : List UInt8 := [132, 3, 1, 167, 255, 217, 42, 180, 0, 66, 158, 0, 7, 3, 167, 0, 4, 28, 172]
abbrev dktX2_placeOf_3 : List UInt8 := dkwX2_placeOf_3 ++ []
def dkwX2_placeOf_2 : List UInt8 := [162, 0, 30, 28, 42, 29, 182, 0, 145, 42, 27, 182, 0, 145, 164, 0, 7, 4, 167, 0, 4, 3, 96, 61]
abbrev dktX2_placeOf_2 : List UInt8 := dkwX2_placeOf_2 ++ dktX2_placeOf_3
def dkwX2_placeOf_1 : List UInt8 := [167, 0, 4, 3, 181, 0, 66, 4, 61, 3, 62, 42, 180, 0, 66, 154, 0, 38, 29, 42, 180, 0, 69]
abbrev dktX2_placeOf_1 : List UInt8 := dkwX2_placeOf_1 ++ dktX2_placeOf_2
def dkwX2_placeOf_0 : List UInt8 := [42, 42, 27, 182, 0, 118, 154, 0, 7, 4, 167, 0, 17, 42, 27, 182, 0, 145, 2, 160, 0, 7, 5]
abbrev dktX2_placeOf_0 : List UInt8 := dkwX2_placeOf_0 ++ dktX2_placeOf_1
theorem dksX2_placeOf_0 : cX2_placeOf.data.toList.drop 0 = dktX2_placeOf_0 := by decide +kernel
theorem dksX2_placeOf_1 : cX2_placeOf.data.toList.drop 23 = dktX2_placeOf_1 := dk_seg dksX2_placeOf_0 23 rfl rfl
theorem dksX2_placeOf_2 : cX2_placeOf.data.toList.drop 46 = dktX2_placeOf_2 := dk_seg dksX2_placeOf_1 23 rfl rfl
theorem dksX2_placeOf_3 : cX2_placeOf.data.toList.drop 70 = dktX2_placeOf_3 := dk_seg dksX2_placeOf_2 24 rfl rfl
theorem dX2_placeOf_0 : decode cX2_placeOf 0 = .ok (.aload_n 0, 1) := dk_42 (dk_at dksX2_placeOf_0 0 rfl rfl)
theorem dX2_placeOf_1 : decode cX2_placeOf 1 = .ok (.aload_n 0, 1) := dk_42 (dk_at dksX2_placeOf_0 1 rfl rfl)
theorem dX2_placeOf_2 : decode cX2_placeOf 2 = .ok (.iload_n 1, 1) := dk_27 (dk_at dksX2_placeOf_0 2 rfl rfl)
theorem dX2_placeOf_3 : decode cX2_placeOf 3 = .ok (.invokevirtual 118, 3) := dk_182 0 118 (dk_at dksX2_placeOf_0 3 rfl rfl)
theorem dX2_placeOf_6 : decode cX2_placeOf 6 = .ok (.ifCond .ne 7, 3) := dk_154 0 7 (dk_at dksX2_placeOf_0 6 rfl rfl)
theorem dX2_placeOf_9 : decode cX2_placeOf 9 = .ok (.iconst 1, 1) := dk_4 (dk_at dksX2_placeOf_0 9 rfl rfl)
theorem dX2_placeOf_10 : decode cX2_placeOf 10 = .ok (.goto 17, 3) := dk_167 0 17 (dk_at dksX2_placeOf_0 10 rfl rfl)
theorem dX2_placeOf_13 : decode cX2_placeOf 13 = .ok (.aload_n 0, 1) := dk_42 (dk_at dksX2_placeOf_0 13 rfl rfl)
theorem dX2_placeOf_14 : decode cX2_placeOf 14 = .ok (.iload_n 1, 1) := dk_27 (dk_at dksX2_placeOf_0 14 rfl rfl)
theorem dX2_placeOf_15 : decode cX2_placeOf 15 = .ok (.invokevirtual 145, 3) := dk_182 0 145 (dk_at dksX2_placeOf_0 15 rfl rfl)
theorem dX2_placeOf_18 : decode cX2_placeOf 18 = .ok (.iconst (-1), 1) := dk_2 (dk_at dksX2_placeOf_0 18 rfl rfl)
theorem dX2_placeOf_19 : decode cX2_placeOf 19 = .ok (.if_icmp .ne 7, 3) := dk_160 0 7 (dk_at dksX2_placeOf_0 19 rfl rfl)
theorem dX2_placeOf_22 : decode cX2_placeOf 22 = .ok (.iconst 2, 1) := dk_5 (dk_at dksX2_placeOf_0 22 rfl rfl)
theorem dX2_placeOf_23 : decode cX2_placeOf 23 = .ok (.goto 4, 3) := dk_167 0 4 (dk_at dksX2_placeOf_1 0 rfl rfl)
theorem dX2_placeOf_26 : decode cX2_placeOf 26 = .ok (.iconst 0, 1) := dk_3 (dk_at dksX2_placeOf_1 3 rfl rfl)
theorem dX2_placeOf_27 : decode cX2_placeOf 27 = .ok (.putfield 66, 3) := dk_181 0 66 (dk_at dksX2_placeOf_1 4 rfl rfl)
theorem dX2_placeOf_30 : decode cX2_placeOf 30 = .ok (.iconst 1, 1) := dk_4 (dk_at dksX2_placeOf_1 7 rfl rfl)
theorem dX2_placeOf_31 : decode cX2_placeOf 31 = .ok (.istore_n 2, 1) := dk_61 (dk_at dksX2_placeOf_1 8 rfl rfl)
theorem dX2_placeOf_32 : decode cX2_placeOf 32 = .ok (.iconst 0, 1) := dk_3 (dk_at dksX2_placeOf_1 9 rfl rfl)
theorem dX2_placeOf_33 : decode cX2_placeOf 33 = .ok (.istore_n 3, 1) := dk_62 (dk_at dksX2_placeOf_1 10 rfl rfl)
theorem dX2_placeOf_34 : decode cX2_placeOf 34 = .ok (.aload_n 0, 1) := dk_42 (dk_at dksX2_placeOf_1 11 rfl rfl)
theorem dX2_placeOf_35 : decode cX2_placeOf 35 = .ok (.getfield 66, 3) := dk_180 0 66 (dk_at dksX2_placeOf_1 12 rfl rfl)
theorem dX2_placeOf_38 : decode cX2_placeOf 38 = .ok (.ifCond .ne 38, 3) := dk_154 0 38 (dk_at dksX2_placeOf_1 15 rfl rfl)
theorem dX2_placeOf_41 : decode cX2_placeOf 41 = .ok (.iload_n 3, 1) := dk_29 (dk_at dksX2_placeOf_1 18 rfl rfl)
theorem dX2_placeOf_42 : decode cX2_placeOf 42 = .ok (.aload_n 0, 1) := dk_42 (dk_at dksX2_placeOf_1 19 rfl rfl)
theorem dX2_placeOf_43 : decode cX2_placeOf 43 = .ok (.getfield 69, 3) := dk_180 0 69 (dk_at dksX2_placeOf_1 20 rfl rfl)
theorem dX2_placeOf_46 : decode cX2_placeOf 46 = .ok (.if_icmp .ge 30, 3) := dk_162 0 30 (dk_at dksX2_placeOf_2 0 rfl rfl)
theorem dX2_placeOf_49 : decode cX2_placeOf 49 = .ok (.iload_n 2, 1) := dk_28 (dk_at dksX2_placeOf_2 3 rfl rfl)
theorem dX2_placeOf_50 : decode cX2_placeOf 50 = .ok (.aload_n 0, 1) := dk_42 (dk_at dksX2_placeOf_2 4 rfl rfl)
theorem dX2_placeOf_51 : decode cX2_placeOf 51 = .ok (.iload_n 3, 1) := dk_29 (dk_at dksX2_placeOf_2 5 rfl rfl)
theorem dX2_placeOf_52 : decode cX2_placeOf 52 = .ok (.invokevirtual 145, 3) := dk_182 0 145 (dk_at dksX2_placeOf_2 6 rfl rfl)
theorem dX2_placeOf_55 : decode cX2_placeOf 55 = .ok (.aload_n 0, 1) := dk_42 (dk_at dksX2_placeOf_2 9 rfl rfl)
theorem dX2_placeOf_56 : decode cX2_placeOf 56 = .ok (.iload_n 1, 1) := dk_27 (dk_at dksX2_placeOf_2 10 rfl rfl)
theorem dX2_placeOf_57 : decode cX2_placeOf 57 = .ok (.invokevirtual 145, 3) := dk_182 0 145 (dk_at dksX2_placeOf_2 11 rfl rfl)
theorem dX2_placeOf_60 : decode cX2_placeOf 60 = .ok (.if_icmp .le 7, 3) := dk_164 0 7 (dk_at dksX2_placeOf_2 14 rfl rfl)
theorem dX2_placeOf_63 : decode cX2_placeOf 63 = .ok (.iconst 1, 1) := dk_4 (dk_at dksX2_placeOf_2 17 rfl rfl)
theorem dX2_placeOf_64 : decode cX2_placeOf 64 = .ok (.goto 4, 3) := dk_167 0 4 (dk_at dksX2_placeOf_2 18 rfl rfl)
theorem dX2_placeOf_67 : decode cX2_placeOf 67 = .ok (.iconst 0, 1) := dk_3 (dk_at dksX2_placeOf_2 21 rfl rfl)
theorem dX2_placeOf_68 : decode cX2_placeOf 68 = .ok (.iadd, 1) := dk_96 (dk_at dksX2_placeOf_2 22 rfl rfl)
theorem dX2_placeOf_69 : decode cX2_placeOf 69 = .ok (.istore_n 2, 1) := dk_61 (dk_at dksX2_placeOf_2 23 rfl rfl)
theorem dX2_placeOf_70 : decode cX2_placeOf 70 = .ok (.iinc 3 1, 3) := dk_132 3 1 (dk_at dksX2_placeOf_3 0 rfl rfl)
theorem dX2_placeOf_73 : decode cX2_placeOf 73 = .ok (.goto (-39), 3) := dk_167 255 217 (dk_at dksX2_placeOf_3 3 rfl rfl)
theorem dX2_placeOf_76 : decode cX2_placeOf 76 = .ok (.aload_n 0, 1) := dk_42 (dk_at dksX2_placeOf_3 6 rfl rfl)
theorem dX2_placeOf_77 : decode cX2_placeOf 77 = .ok (.getfield 66, 3) := dk_180 0 66 (dk_at dksX2_placeOf_3 7 rfl rfl)
theorem dX2_placeOf_80 : decode cX2_placeOf 80 = .ok (.ifCond .le 7, 3) := dk_158 0 7 (dk_at dksX2_placeOf_3 10 rfl rfl)
theorem dX2_placeOf_83 : decode cX2_placeOf 83 = .ok (.iconst 0, 1) := dk_3 (dk_at dksX2_placeOf_3 13 rfl rfl)
theorem dX2_placeOf_84 : decode cX2_placeOf 84 = .ok (.goto 4, 3) := dk_167 0 4 (dk_at dksX2_placeOf_3 14 rfl rfl)
theorem dX2_placeOf_87 : decode cX2_placeOf 87 = .ok (.iload_n 2, 1) := dk_28 (dk_at dksX2_placeOf_3 17 rfl rfl)
theorem dX2_placeOf_88 : decode cX2_placeOf 88 = .ok (.ireturn, 1) := dk_172 (dk_at dksX2_placeOf_3 18 rfl rfl)
abbrev cX2_gradeOf : ByteArray := prog_9_method_52_code
def yX2_gradeOf : MethodName := ⟨RX2, "gradeOf", "(I)I"⟩
def dkwX2_gradeOf_1 : List UInt8 := [16, 10, 42, 180, 0, 17, 27, 46, 104, 96, 8, 108, 167, 0, 8, 42, 4, 182, 0, 87, 172]
abbrev dktX2_gradeOf_1 : List UInt8 := dkwX2_gradeOf_1 ++ []
def dkwX2_gradeOf_0 : List UInt8 := [42, 3, 181, 0, 66, 42, 27, 182, 0, 76, 153, 0, 29, 7, 3, 42, 27, 182, 0, 145, 184, 0, 131, 104]
abbrev dktX2_gradeOf_0 : List UInt8 := dkwX2_gradeOf_0 ++ dktX2_gradeOf_1
theorem dksX2_gradeOf_0 : cX2_gradeOf.data.toList.drop 0 = dktX2_gradeOf_0 := by decide +kernel
theorem dksX2_gradeOf_1 : cX2_gradeOf.data.toList.drop 24 = dktX2_gradeOf_1 := dk_seg dksX2_gradeOf_0 24 rfl rfl
theorem dX2_gradeOf_0 : decode cX2_gradeOf 0 = .ok (.aload_n 0, 1) := dk_42 (dk_at dksX2_gradeOf_0 0 rfl rfl)
theorem dX2_gradeOf_1 : decode cX2_gradeOf 1 = .ok (.iconst 0, 1) := dk_3 (dk_at dksX2_gradeOf_0 1 rfl rfl)
theorem dX2_gradeOf_2 : decode cX2_gradeOf 2 = .ok (.putfield 66, 3) := dk_181 0 66 (dk_at dksX2_gradeOf_0 2 rfl rfl)
theorem dX2_gradeOf_5 : decode cX2_gradeOf 5 = .ok (.aload_n 0, 1) := dk_42 (dk_at dksX2_gradeOf_0 5 rfl rfl)
theorem dX2_gradeOf_6 : decode cX2_gradeOf 6 = .ok (.iload_n 1, 1) := dk_27 (dk_at dksX2_gradeOf_0 6 rfl rfl)
theorem dX2_gradeOf_7 : decode cX2_gradeOf 7 = .ok (.invokevirtual 76, 3) := dk_182 0 76 (dk_at dksX2_gradeOf_0 7 rfl rfl)
theorem dX2_gradeOf_10 : decode cX2_gradeOf 10 = .ok (.ifCond .eq 29, 3) := dk_153 0 29 (dk_at dksX2_gradeOf_0 10 rfl rfl)
theorem dX2_gradeOf_13 : decode cX2_gradeOf 13 = .ok (.iconst 4, 1) := dk_7 (dk_at dksX2_gradeOf_0 13 rfl rfl)
theorem dX2_gradeOf_14 : decode cX2_gradeOf 14 = .ok (.iconst 0, 1) := dk_3 (dk_at dksX2_gradeOf_0 14 rfl rfl)
theorem dX2_gradeOf_15 : decode cX2_gradeOf 15 = .ok (.aload_n 0, 1) := dk_42 (dk_at dksX2_gradeOf_0 15 rfl rfl)
theorem dX2_gradeOf_16 : decode cX2_gradeOf 16 = .ok (.iload_n 1, 1) := dk_27 (dk_at dksX2_gradeOf_0 16 rfl rfl)
theorem dX2_gradeOf_17 : decode cX2_gradeOf 17 = .ok (.invokevirtual 145, 3) := dk_182 0 145 (dk_at dksX2_gradeOf_0 17 rfl rfl)
theorem dX2_gradeOf_20 : decode cX2_gradeOf 20 = .ok (.invokestatic 131, 3) := dk_184 0 131 (dk_at dksX2_gradeOf_0 20 rfl rfl)
theorem dX2_gradeOf_23 : decode cX2_gradeOf 23 = .ok (.imul, 1) := dk_104 (dk_at dksX2_gradeOf_0 23 rfl rfl)
theorem dX2_gradeOf_24 : decode cX2_gradeOf 24 = .ok (.bipush 10, 2) := dk_16 10 (dk_at dksX2_gradeOf_1 0 rfl rfl)
theorem dX2_gradeOf_26 : decode cX2_gradeOf 26 = .ok (.aload_n 0, 1) := dk_42 (dk_at dksX2_gradeOf_1 2 rfl rfl)
theorem dX2_gradeOf_27 : decode cX2_gradeOf 27 = .ok (.getfield 17, 3) := dk_180 0 17 (dk_at dksX2_gradeOf_1 3 rfl rfl)
theorem dX2_gradeOf_30 : decode cX2_gradeOf 30 = .ok (.iload_n 1, 1) := dk_27 (dk_at dksX2_gradeOf_1 6 rfl rfl)
theorem dX2_gradeOf_31 : decode cX2_gradeOf 31 = .ok (.iaload, 1) := dk_46 (dk_at dksX2_gradeOf_1 7 rfl rfl)
theorem dX2_gradeOf_32 : decode cX2_gradeOf 32 = .ok (.imul, 1) := dk_104 (dk_at dksX2_gradeOf_1 8 rfl rfl)
theorem dX2_gradeOf_33 : decode cX2_gradeOf 33 = .ok (.iadd, 1) := dk_96 (dk_at dksX2_gradeOf_1 9 rfl rfl)
theorem dX2_gradeOf_34 : decode cX2_gradeOf 34 = .ok (.iconst 5, 1) := dk_8 (dk_at dksX2_gradeOf_1 10 rfl rfl)
theorem dX2_gradeOf_35 : decode cX2_gradeOf 35 = .ok (.idiv, 1) := dk_108 (dk_at dksX2_gradeOf_1 11 rfl rfl)
theorem dX2_gradeOf_36 : decode cX2_gradeOf 36 = .ok (.goto 8, 3) := dk_167 0 8 (dk_at dksX2_gradeOf_1 12 rfl rfl)
theorem dX2_gradeOf_39 : decode cX2_gradeOf 39 = .ok (.aload_n 0, 1) := dk_42 (dk_at dksX2_gradeOf_1 15 rfl rfl)
theorem dX2_gradeOf_40 : decode cX2_gradeOf 40 = .ok (.iconst 1, 1) := dk_4 (dk_at dksX2_gradeOf_1 16 rfl rfl)
theorem dX2_gradeOf_41 : decode cX2_gradeOf 41 = .ok (.invokevirtual 87, 3) := dk_182 0 87 (dk_at dksX2_gradeOf_1 17 rfl rfl)
theorem dX2_gradeOf_44 : decode cX2_gradeOf 44 = .ok (.ireturn, 1) := dk_172 (dk_at dksX2_gradeOf_1 20 rfl rfl)
abbrev cX2_missing : ByteArray := prog_9_method_53_code
def yX2_missing : MethodName := ⟨RX2, "missing", "(I)I"⟩
def dkwX2_missing_2 : List UInt8 := [182, 0, 155, 100, 96, 61, 132, 3, 1, 167, 255, 223, 28, 172]
abbrev dktX2_missing_2 : List UInt8 := dkwX2_missing_2 ++ []
def dkwX2_missing_1 : List UInt8 := [180, 0, 69, 162, 0, 31, 27, 42, 180, 0, 44, 164, 0, 23, 28, 42, 29, 182, 0, 111, 42, 29]
abbrev dktX2_missing_1 : List UInt8 := dkwX2_missing_1 ++ dktX2_missing_2
def dkwX2_missing_0 : List UInt8 := [42, 3, 181, 0, 66, 27, 184, 0, 84, 154, 0, 9, 42, 4, 182, 0, 87, 172, 3, 61, 3, 62, 29, 42]
abbrev dktX2_missing_0 : List UInt8 := dkwX2_missing_0 ++ dktX2_missing_1
theorem dksX2_missing_0 : cX2_missing.data.toList.drop 0 = dktX2_missing_0 := by decide +kernel
theorem dksX2_missing_1 : cX2_missing.data.toList.drop 24 = dktX2_missing_1 := dk_seg dksX2_missing_0 24 rfl rfl
theorem dksX2_missing_2 : cX2_missing.data.toList.drop 46 = dktX2_missing_2 := dk_seg dksX2_missing_1 22 rfl rfl
theorem dX2_missing_0 : decode cX2_missing 0 = .ok (.aload_n 0, 1) := dk_42 (dk_at dksX2_missing_0 0 rfl rfl)
theorem dX2_missing_1 : decode cX2_missing 1 = .ok (.iconst 0, 1) := dk_3 (dk_at dksX2_missing_0 1 rfl rfl)
theorem dX2_missing_2 : decode cX2_missing 2 = .ok (.putfield 66, 3) := dk_181 0 66 (dk_at dksX2_missing_0 2 rfl rfl)
theorem dX2_missing_5 : decode cX2_missing 5 = .ok (.iload_n 1, 1) := dk_27 (dk_at dksX2_missing_0 5 rfl rfl)
theorem dX2_missing_6 : decode cX2_missing 6 = .ok (.invokestatic 84, 3) := dk_184 0 84 (dk_at dksX2_missing_0 6 rfl rfl)
theorem dX2_missing_9 : decode cX2_missing 9 = .ok (.ifCond .ne 9, 3) := dk_154 0 9 (dk_at dksX2_missing_0 9 rfl rfl)
theorem dX2_missing_12 : decode cX2_missing 12 = .ok (.aload_n 0, 1) := dk_42 (dk_at dksX2_missing_0 12 rfl rfl)
theorem dX2_missing_13 : decode cX2_missing 13 = .ok (.iconst 1, 1) := dk_4 (dk_at dksX2_missing_0 13 rfl rfl)
theorem dX2_missing_14 : decode cX2_missing 14 = .ok (.invokevirtual 87, 3) := dk_182 0 87 (dk_at dksX2_missing_0 14 rfl rfl)
theorem dX2_missing_17 : decode cX2_missing 17 = .ok (.ireturn, 1) := dk_172 (dk_at dksX2_missing_0 17 rfl rfl)
theorem dX2_missing_18 : decode cX2_missing 18 = .ok (.iconst 0, 1) := dk_3 (dk_at dksX2_missing_0 18 rfl rfl)
theorem dX2_missing_19 : decode cX2_missing 19 = .ok (.istore_n 2, 1) := dk_61 (dk_at dksX2_missing_0 19 rfl rfl)
theorem dX2_missing_20 : decode cX2_missing 20 = .ok (.iconst 0, 1) := dk_3 (dk_at dksX2_missing_0 20 rfl rfl)
theorem dX2_missing_21 : decode cX2_missing 21 = .ok (.istore_n 3, 1) := dk_62 (dk_at dksX2_missing_0 21 rfl rfl)
theorem dX2_missing_22 : decode cX2_missing 22 = .ok (.iload_n 3, 1) := dk_29 (dk_at dksX2_missing_0 22 rfl rfl)
theorem dX2_missing_23 : decode cX2_missing 23 = .ok (.aload_n 0, 1) := dk_42 (dk_at dksX2_missing_0 23 rfl rfl)
theorem dX2_missing_24 : decode cX2_missing 24 = .ok (.getfield 69, 3) := dk_180 0 69 (dk_at dksX2_missing_1 0 rfl rfl)
theorem dX2_missing_27 : decode cX2_missing 27 = .ok (.if_icmp .ge 31, 3) := dk_162 0 31 (dk_at dksX2_missing_1 3 rfl rfl)
theorem dX2_missing_30 : decode cX2_missing 30 = .ok (.iload_n 1, 1) := dk_27 (dk_at dksX2_missing_1 6 rfl rfl)
theorem dX2_missing_31 : decode cX2_missing 31 = .ok (.aload_n 0, 1) := dk_42 (dk_at dksX2_missing_1 7 rfl rfl)
theorem dX2_missing_32 : decode cX2_missing 32 = .ok (.getfield 44, 3) := dk_180 0 44 (dk_at dksX2_missing_1 8 rfl rfl)
theorem dX2_missing_35 : decode cX2_missing 35 = .ok (.if_icmp .le 23, 3) := dk_164 0 23 (dk_at dksX2_missing_1 11 rfl rfl)
theorem dX2_missing_38 : decode cX2_missing 38 = .ok (.iload_n 2, 1) := dk_28 (dk_at dksX2_missing_1 14 rfl rfl)
theorem dX2_missing_39 : decode cX2_missing 39 = .ok (.aload_n 0, 1) := dk_42 (dk_at dksX2_missing_1 15 rfl rfl)
theorem dX2_missing_40 : decode cX2_missing 40 = .ok (.iload_n 3, 1) := dk_29 (dk_at dksX2_missing_1 16 rfl rfl)
theorem dX2_missing_41 : decode cX2_missing 41 = .ok (.invokevirtual 111, 3) := dk_182 0 111 (dk_at dksX2_missing_1 17 rfl rfl)
theorem dX2_missing_44 : decode cX2_missing 44 = .ok (.aload_n 0, 1) := dk_42 (dk_at dksX2_missing_1 20 rfl rfl)
theorem dX2_missing_45 : decode cX2_missing 45 = .ok (.iload_n 3, 1) := dk_29 (dk_at dksX2_missing_1 21 rfl rfl)
theorem dX2_missing_46 : decode cX2_missing 46 = .ok (.invokevirtual 155, 3) := dk_182 0 155 (dk_at dksX2_missing_2 0 rfl rfl)
theorem dX2_missing_49 : decode cX2_missing 49 = .ok (.isub, 1) := dk_100 (dk_at dksX2_missing_2 3 rfl rfl)
theorem dX2_missing_50 : decode cX2_missing 50 = .ok (.iadd, 1) := dk_96 (dk_at dksX2_missing_2 4 rfl rfl)
theorem dX2_missing_51 : decode cX2_missing 51 = .ok (.istore_n 2, 1) := dk_61 (dk_at dksX2_missing_2 5 rfl rfl)
theorem dX2_missing_52 : decode cX2_missing 52 = .ok (.iinc 3 1, 3) := dk_132 3 1 (dk_at dksX2_missing_2 6 rfl rfl)
theorem dX2_missing_55 : decode cX2_missing 55 = .ok (.goto (-33), 3) := dk_167 255 223 (dk_at dksX2_missing_2 9 rfl rfl)
theorem dX2_missing_58 : decode cX2_missing 58 = .ok (.iload_n 2, 1) := dk_28 (dk_at dksX2_missing_2 12 rfl rfl)
theorem dX2_missing_59 : decode cX2_missing 59 = .ok (.ireturn, 1) := dk_172 (dk_at dksX2_missing_2 13 rfl rfl)
abbrev cX2_replace : ByteArray := prog_9_method_54_code
def yX2_replace : MethodName := ⟨RX2, "replace", "(III)I"⟩
def dkwX2_replace_5 : List UInt8 := [159, 0, 15, 42, 180, 0, 29, 21, 5, 28, 184, 0, 101, 4, 84, 21, 5, 172]
abbrev dktX2_replace_5 : List UInt8 := dkwX2_replace_5 ++ []
def dkwX2_replace_4 : List UInt8 := [21, 4, 3, 84, 42, 180, 0, 32, 21, 4, 4, 84, 42, 28, 3, 182, 0, 114, 54, 5, 21, 5, 2]
abbrev dktX2_replace_4 : List UInt8 := dkwX2_replace_4 ++ dktX2_replace_5
def dkwX2_replace_3 : List UInt8 := [180, 0, 44, 163, 0, 9, 42, 6, 182, 0, 87, 172, 42, 180, 0, 29, 21, 4, 3, 84, 42, 180, 0, 35]
abbrev dktX2_replace_3 : List UInt8 := dkwX2_replace_3 ++ dktX2_replace_4
def dkwX2_replace_2 : List UInt8 := [42, 180, 0, 29, 21, 4, 51, 153, 0, 22, 42, 180, 0, 38, 21, 4, 46, 2, 160, 0, 11, 29, 42]
abbrev dktX2_replace_2 : List UInt8 := dkwX2_replace_2 ++ dktX2_replace_3
def dkwX2_replace_1 : List UInt8 := [182, 0, 87, 172, 29, 184, 0, 84, 154, 0, 9, 42, 5, 182, 0, 87, 172, 27, 28, 184, 0, 101, 54, 4]
abbrev dktX2_replace_1 : List UInt8 := dkwX2_replace_1 ++ dktX2_replace_2
def dkwX2_replace_0 : List UInt8 := [42, 3, 181, 0, 66, 42, 27, 182, 0, 76, 153, 0, 11, 42, 28, 182, 0, 118, 154, 0, 9, 42, 4]
abbrev dktX2_replace_0 : List UInt8 := dkwX2_replace_0 ++ dktX2_replace_1
theorem dksX2_replace_0 : cX2_replace.data.toList.drop 0 = dktX2_replace_0 := by decide +kernel
theorem dksX2_replace_1 : cX2_replace.data.toList.drop 23 = dktX2_replace_1 := dk_seg dksX2_replace_0 23 rfl rfl
theorem dksX2_replace_2 : cX2_replace.data.toList.drop 47 = dktX2_replace_2 := dk_seg dksX2_replace_1 24 rfl rfl
theorem dksX2_replace_3 : cX2_replace.data.toList.drop 70 = dktX2_replace_3 := dk_seg dksX2_replace_2 23 rfl rfl
theorem dksX2_replace_4 : cX2_replace.data.toList.drop 94 = dktX2_replace_4 := dk_seg dksX2_replace_3 24 rfl rfl
theorem dksX2_replace_5 : cX2_replace.data.toList.drop 117 = dktX2_replace_5 := dk_seg dksX2_replace_4 23 rfl rfl
theorem dX2_replace_0 : decode cX2_replace 0 = .ok (.aload_n 0, 1) := dk_42 (dk_at dksX2_replace_0 0 rfl rfl)
theorem dX2_replace_1 : decode cX2_replace 1 = .ok (.iconst 0, 1) := dk_3 (dk_at dksX2_replace_0 1 rfl rfl)
theorem dX2_replace_2 : decode cX2_replace 2 = .ok (.putfield 66, 3) := dk_181 0 66 (dk_at dksX2_replace_0 2 rfl rfl)
theorem dX2_replace_5 : decode cX2_replace 5 = .ok (.aload_n 0, 1) := dk_42 (dk_at dksX2_replace_0 5 rfl rfl)
theorem dX2_replace_6 : decode cX2_replace 6 = .ok (.iload_n 1, 1) := dk_27 (dk_at dksX2_replace_0 6 rfl rfl)
theorem dX2_replace_7 : decode cX2_replace 7 = .ok (.invokevirtual 76, 3) := dk_182 0 76 (dk_at dksX2_replace_0 7 rfl rfl)
theorem dX2_replace_10 : decode cX2_replace 10 = .ok (.ifCond .eq 11, 3) := dk_153 0 11 (dk_at dksX2_replace_0 10 rfl rfl)
theorem dX2_replace_13 : decode cX2_replace 13 = .ok (.aload_n 0, 1) := dk_42 (dk_at dksX2_replace_0 13 rfl rfl)
theorem dX2_replace_14 : decode cX2_replace 14 = .ok (.iload_n 2, 1) := dk_28 (dk_at dksX2_replace_0 14 rfl rfl)
theorem dX2_replace_15 : decode cX2_replace 15 = .ok (.invokevirtual 118, 3) := dk_182 0 118 (dk_at dksX2_replace_0 15 rfl rfl)
theorem dX2_replace_18 : decode cX2_replace 18 = .ok (.ifCond .ne 9, 3) := dk_154 0 9 (dk_at dksX2_replace_0 18 rfl rfl)
theorem dX2_replace_21 : decode cX2_replace 21 = .ok (.aload_n 0, 1) := dk_42 (dk_at dksX2_replace_0 21 rfl rfl)
theorem dX2_replace_22 : decode cX2_replace 22 = .ok (.iconst 1, 1) := dk_4 (dk_at dksX2_replace_0 22 rfl rfl)
theorem dX2_replace_23 : decode cX2_replace 23 = .ok (.invokevirtual 87, 3) := dk_182 0 87 (dk_at dksX2_replace_1 0 rfl rfl)
theorem dX2_replace_26 : decode cX2_replace 26 = .ok (.ireturn, 1) := dk_172 (dk_at dksX2_replace_1 3 rfl rfl)
theorem dX2_replace_27 : decode cX2_replace 27 = .ok (.iload_n 3, 1) := dk_29 (dk_at dksX2_replace_1 4 rfl rfl)
theorem dX2_replace_28 : decode cX2_replace 28 = .ok (.invokestatic 84, 3) := dk_184 0 84 (dk_at dksX2_replace_1 5 rfl rfl)
theorem dX2_replace_31 : decode cX2_replace 31 = .ok (.ifCond .ne 9, 3) := dk_154 0 9 (dk_at dksX2_replace_1 8 rfl rfl)
theorem dX2_replace_34 : decode cX2_replace 34 = .ok (.aload_n 0, 1) := dk_42 (dk_at dksX2_replace_1 11 rfl rfl)
theorem dX2_replace_35 : decode cX2_replace 35 = .ok (.iconst 2, 1) := dk_5 (dk_at dksX2_replace_1 12 rfl rfl)
theorem dX2_replace_36 : decode cX2_replace 36 = .ok (.invokevirtual 87, 3) := dk_182 0 87 (dk_at dksX2_replace_1 13 rfl rfl)
theorem dX2_replace_39 : decode cX2_replace 39 = .ok (.ireturn, 1) := dk_172 (dk_at dksX2_replace_1 16 rfl rfl)
theorem dX2_replace_40 : decode cX2_replace 40 = .ok (.iload_n 1, 1) := dk_27 (dk_at dksX2_replace_1 17 rfl rfl)
theorem dX2_replace_41 : decode cX2_replace 41 = .ok (.iload_n 2, 1) := dk_28 (dk_at dksX2_replace_1 18 rfl rfl)
theorem dX2_replace_42 : decode cX2_replace 42 = .ok (.invokestatic 101, 3) := dk_184 0 101 (dk_at dksX2_replace_1 19 rfl rfl)
theorem dX2_replace_45 : decode cX2_replace 45 = .ok (.istore 4, 2) := dk_54 4 (dk_at dksX2_replace_1 22 rfl rfl)
theorem dX2_replace_47 : decode cX2_replace 47 = .ok (.aload_n 0, 1) := dk_42 (dk_at dksX2_replace_2 0 rfl rfl)
theorem dX2_replace_48 : decode cX2_replace 48 = .ok (.getfield 29, 3) := dk_180 0 29 (dk_at dksX2_replace_2 1 rfl rfl)
theorem dX2_replace_51 : decode cX2_replace 51 = .ok (.iload 4, 2) := dk_21 4 (dk_at dksX2_replace_2 4 rfl rfl)
theorem dX2_replace_53 : decode cX2_replace 53 = .ok (.baload, 1) := dk_51 (dk_at dksX2_replace_2 6 rfl rfl)
theorem dX2_replace_54 : decode cX2_replace 54 = .ok (.ifCond .eq 22, 3) := dk_153 0 22 (dk_at dksX2_replace_2 7 rfl rfl)
theorem dX2_replace_57 : decode cX2_replace 57 = .ok (.aload_n 0, 1) := dk_42 (dk_at dksX2_replace_2 10 rfl rfl)
theorem dX2_replace_58 : decode cX2_replace 58 = .ok (.getfield 38, 3) := dk_180 0 38 (dk_at dksX2_replace_2 11 rfl rfl)
theorem dX2_replace_61 : decode cX2_replace 61 = .ok (.iload 4, 2) := dk_21 4 (dk_at dksX2_replace_2 14 rfl rfl)
theorem dX2_replace_63 : decode cX2_replace 63 = .ok (.iaload, 1) := dk_46 (dk_at dksX2_replace_2 16 rfl rfl)
theorem dX2_replace_64 : decode cX2_replace 64 = .ok (.iconst (-1), 1) := dk_2 (dk_at dksX2_replace_2 17 rfl rfl)
theorem dX2_replace_65 : decode cX2_replace 65 = .ok (.if_icmp .ne 11, 3) := dk_160 0 11 (dk_at dksX2_replace_2 18 rfl rfl)
theorem dX2_replace_68 : decode cX2_replace 68 = .ok (.iload_n 3, 1) := dk_29 (dk_at dksX2_replace_2 21 rfl rfl)
theorem dX2_replace_69 : decode cX2_replace 69 = .ok (.aload_n 0, 1) := dk_42 (dk_at dksX2_replace_2 22 rfl rfl)
theorem dX2_replace_70 : decode cX2_replace 70 = .ok (.getfield 44, 3) := dk_180 0 44 (dk_at dksX2_replace_3 0 rfl rfl)
theorem dX2_replace_73 : decode cX2_replace 73 = .ok (.if_icmp .gt 9, 3) := dk_163 0 9 (dk_at dksX2_replace_3 3 rfl rfl)
theorem dX2_replace_76 : decode cX2_replace 76 = .ok (.aload_n 0, 1) := dk_42 (dk_at dksX2_replace_3 6 rfl rfl)
theorem dX2_replace_77 : decode cX2_replace 77 = .ok (.iconst 3, 1) := dk_6 (dk_at dksX2_replace_3 7 rfl rfl)
theorem dX2_replace_78 : decode cX2_replace 78 = .ok (.invokevirtual 87, 3) := dk_182 0 87 (dk_at dksX2_replace_3 8 rfl rfl)
theorem dX2_replace_81 : decode cX2_replace 81 = .ok (.ireturn, 1) := dk_172 (dk_at dksX2_replace_3 11 rfl rfl)
theorem dX2_replace_82 : decode cX2_replace 82 = .ok (.aload_n 0, 1) := dk_42 (dk_at dksX2_replace_3 12 rfl rfl)
theorem dX2_replace_83 : decode cX2_replace 83 = .ok (.getfield 29, 3) := dk_180 0 29 (dk_at dksX2_replace_3 13 rfl rfl)
theorem dX2_replace_86 : decode cX2_replace 86 = .ok (.iload 4, 2) := dk_21 4 (dk_at dksX2_replace_3 16 rfl rfl)
theorem dX2_replace_88 : decode cX2_replace 88 = .ok (.iconst 0, 1) := dk_3 (dk_at dksX2_replace_3 18 rfl rfl)
theorem dX2_replace_89 : decode cX2_replace 89 = .ok (.bastore, 1) := dk_84 (dk_at dksX2_replace_3 19 rfl rfl)
theorem dX2_replace_90 : decode cX2_replace 90 = .ok (.aload_n 0, 1) := dk_42 (dk_at dksX2_replace_3 20 rfl rfl)
theorem dX2_replace_91 : decode cX2_replace 91 = .ok (.getfield 35, 3) := dk_180 0 35 (dk_at dksX2_replace_3 21 rfl rfl)
theorem dX2_replace_94 : decode cX2_replace 94 = .ok (.iload 4, 2) := dk_21 4 (dk_at dksX2_replace_4 0 rfl rfl)
theorem dX2_replace_96 : decode cX2_replace 96 = .ok (.iconst 0, 1) := dk_3 (dk_at dksX2_replace_4 2 rfl rfl)
theorem dX2_replace_97 : decode cX2_replace 97 = .ok (.bastore, 1) := dk_84 (dk_at dksX2_replace_4 3 rfl rfl)
theorem dX2_replace_98 : decode cX2_replace 98 = .ok (.aload_n 0, 1) := dk_42 (dk_at dksX2_replace_4 4 rfl rfl)
theorem dX2_replace_99 : decode cX2_replace 99 = .ok (.getfield 32, 3) := dk_180 0 32 (dk_at dksX2_replace_4 5 rfl rfl)
theorem dX2_replace_102 : decode cX2_replace 102 = .ok (.iload 4, 2) := dk_21 4 (dk_at dksX2_replace_4 8 rfl rfl)
theorem dX2_replace_104 : decode cX2_replace 104 = .ok (.iconst 1, 1) := dk_4 (dk_at dksX2_replace_4 10 rfl rfl)
theorem dX2_replace_105 : decode cX2_replace 105 = .ok (.bastore, 1) := dk_84 (dk_at dksX2_replace_4 11 rfl rfl)
theorem dX2_replace_106 : decode cX2_replace 106 = .ok (.aload_n 0, 1) := dk_42 (dk_at dksX2_replace_4 12 rfl rfl)
theorem dX2_replace_107 : decode cX2_replace 107 = .ok (.iload_n 2, 1) := dk_28 (dk_at dksX2_replace_4 13 rfl rfl)
theorem dX2_replace_108 : decode cX2_replace 108 = .ok (.iconst 0, 1) := dk_3 (dk_at dksX2_replace_4 14 rfl rfl)
theorem dX2_replace_109 : decode cX2_replace 109 = .ok (.invokevirtual 114, 3) := dk_182 0 114 (dk_at dksX2_replace_4 15 rfl rfl)
theorem dX2_replace_112 : decode cX2_replace 112 = .ok (.istore 5, 2) := dk_54 5 (dk_at dksX2_replace_4 18 rfl rfl)
theorem dX2_replace_114 : decode cX2_replace 114 = .ok (.iload 5, 2) := dk_21 5 (dk_at dksX2_replace_4 20 rfl rfl)
theorem dX2_replace_116 : decode cX2_replace 116 = .ok (.iconst (-1), 1) := dk_2 (dk_at dksX2_replace_4 22 rfl rfl)
theorem dX2_replace_117 : decode cX2_replace 117 = .ok (.if_icmp .eq 15, 3) := dk_159 0 15 (dk_at dksX2_replace_5 0 rfl rfl)
theorem dX2_replace_120 : decode cX2_replace 120 = .ok (.aload_n 0, 1) := dk_42 (dk_at dksX2_replace_5 3 rfl rfl)
theorem dX2_replace_121 : decode cX2_replace 121 = .ok (.getfield 29, 3) := dk_180 0 29 (dk_at dksX2_replace_5 4 rfl rfl)
theorem dX2_replace_124 : decode cX2_replace 124 = .ok (.iload 5, 2) := dk_21 5 (dk_at dksX2_replace_5 7 rfl rfl)
theorem dX2_replace_126 : decode cX2_replace 126 = .ok (.iload_n 2, 1) := dk_28 (dk_at dksX2_replace_5 9 rfl rfl)
theorem dX2_replace_127 : decode cX2_replace 127 = .ok (.invokestatic 101, 3) := dk_184 0 101 (dk_at dksX2_replace_5 10 rfl rfl)
theorem dX2_replace_130 : decode cX2_replace 130 = .ok (.iconst 1, 1) := dk_4 (dk_at dksX2_replace_5 13 rfl rfl)
theorem dX2_replace_131 : decode cX2_replace 131 = .ok (.bastore, 1) := dk_84 (dk_at dksX2_replace_5 14 rfl rfl)
theorem dX2_replace_132 : decode cX2_replace 132 = .ok (.iload 5, 2) := dk_21 5 (dk_at dksX2_replace_5 15 rfl rfl)
theorem dX2_replace_134 : decode cX2_replace 134 = .ok (.ireturn, 1) := dk_172 (dk_at dksX2_replace_5 17 rfl rfl)
abbrev cX2_appeal : ByteArray := prog_9_method_55_code
def yX2_appeal : MethodName := ⟨RX2, "appeal", "(I)I"⟩
def dkwX2_appeal_4 : List UInt8 := [180, 0, 26, 27, 4, 84, 28, 172]
abbrev dktX2_appeal_4 : List UInt8 := dkwX2_appeal_4 ++ []
def dkwX2_appeal_3 : List UInt8 := [180, 0, 29, 28, 27, 184, 0, 101, 4, 84, 42, 180, 0, 35, 28, 27, 184, 0, 101, 4, 84, 42]
abbrev dktX2_appeal_3 : List UInt8 := dkwX2_appeal_3 ++ dktX2_appeal_4
def dkwX2_appeal_2 : List UInt8 := [167, 0, 4, 3, 181, 0, 66, 42, 180, 0, 66, 158, 0, 5, 3, 172, 42, 27, 4, 182, 0, 114, 61, 42]
abbrev dktX2_appeal_2 : List UInt8 := dkwX2_appeal_2 ++ dktX2_appeal_3
def dkwX2_appeal_1 : List UInt8 := [180, 0, 26, 27, 51, 153, 0, 7, 5, 167, 0, 18, 42, 27, 4, 182, 0, 114, 2, 160, 0, 7, 6]
abbrev dktX2_appeal_1 : List UInt8 := dkwX2_appeal_1 ++ dktX2_appeal_2
def dkwX2_appeal_0 : List UInt8 := [42, 42, 27, 182, 0, 118, 154, 0, 7, 4, 167, 0, 40, 42, 27, 182, 0, 145, 2, 159, 0, 12, 42]
abbrev dktX2_appeal_0 : List UInt8 := dkwX2_appeal_0 ++ dktX2_appeal_1
theorem dksX2_appeal_0 : cX2_appeal.data.toList.drop 0 = dktX2_appeal_0 := by decide +kernel
theorem dksX2_appeal_1 : cX2_appeal.data.toList.drop 23 = dktX2_appeal_1 := dk_seg dksX2_appeal_0 23 rfl rfl
theorem dksX2_appeal_2 : cX2_appeal.data.toList.drop 46 = dktX2_appeal_2 := dk_seg dksX2_appeal_1 23 rfl rfl
theorem dksX2_appeal_3 : cX2_appeal.data.toList.drop 70 = dktX2_appeal_3 := dk_seg dksX2_appeal_2 24 rfl rfl
theorem dksX2_appeal_4 : cX2_appeal.data.toList.drop 92 = dktX2_appeal_4 := dk_seg dksX2_appeal_3 22 rfl rfl
theorem dX2_appeal_0 : decode cX2_appeal 0 = .ok (.aload_n 0, 1) := dk_42 (dk_at dksX2_appeal_0 0 rfl rfl)
theorem dX2_appeal_1 : decode cX2_appeal 1 = .ok (.aload_n 0, 1) := dk_42 (dk_at dksX2_appeal_0 1 rfl rfl)
theorem dX2_appeal_2 : decode cX2_appeal 2 = .ok (.iload_n 1, 1) := dk_27 (dk_at dksX2_appeal_0 2 rfl rfl)
theorem dX2_appeal_3 : decode cX2_appeal 3 = .ok (.invokevirtual 118, 3) := dk_182 0 118 (dk_at dksX2_appeal_0 3 rfl rfl)
theorem dX2_appeal_6 : decode cX2_appeal 6 = .ok (.ifCond .ne 7, 3) := dk_154 0 7 (dk_at dksX2_appeal_0 6 rfl rfl)
theorem dX2_appeal_9 : decode cX2_appeal 9 = .ok (.iconst 1, 1) := dk_4 (dk_at dksX2_appeal_0 9 rfl rfl)
theorem dX2_appeal_10 : decode cX2_appeal 10 = .ok (.goto 40, 3) := dk_167 0 40 (dk_at dksX2_appeal_0 10 rfl rfl)
theorem dX2_appeal_13 : decode cX2_appeal 13 = .ok (.aload_n 0, 1) := dk_42 (dk_at dksX2_appeal_0 13 rfl rfl)
theorem dX2_appeal_14 : decode cX2_appeal 14 = .ok (.iload_n 1, 1) := dk_27 (dk_at dksX2_appeal_0 14 rfl rfl)
theorem dX2_appeal_15 : decode cX2_appeal 15 = .ok (.invokevirtual 145, 3) := dk_182 0 145 (dk_at dksX2_appeal_0 15 rfl rfl)
theorem dX2_appeal_18 : decode cX2_appeal 18 = .ok (.iconst (-1), 1) := dk_2 (dk_at dksX2_appeal_0 18 rfl rfl)
theorem dX2_appeal_19 : decode cX2_appeal 19 = .ok (.if_icmp .eq 12, 3) := dk_159 0 12 (dk_at dksX2_appeal_0 19 rfl rfl)
theorem dX2_appeal_22 : decode cX2_appeal 22 = .ok (.aload_n 0, 1) := dk_42 (dk_at dksX2_appeal_0 22 rfl rfl)
theorem dX2_appeal_23 : decode cX2_appeal 23 = .ok (.getfield 26, 3) := dk_180 0 26 (dk_at dksX2_appeal_1 0 rfl rfl)
theorem dX2_appeal_26 : decode cX2_appeal 26 = .ok (.iload_n 1, 1) := dk_27 (dk_at dksX2_appeal_1 3 rfl rfl)
theorem dX2_appeal_27 : decode cX2_appeal 27 = .ok (.baload, 1) := dk_51 (dk_at dksX2_appeal_1 4 rfl rfl)
theorem dX2_appeal_28 : decode cX2_appeal 28 = .ok (.ifCond .eq 7, 3) := dk_153 0 7 (dk_at dksX2_appeal_1 5 rfl rfl)
theorem dX2_appeal_31 : decode cX2_appeal 31 = .ok (.iconst 2, 1) := dk_5 (dk_at dksX2_appeal_1 8 rfl rfl)
theorem dX2_appeal_32 : decode cX2_appeal 32 = .ok (.goto 18, 3) := dk_167 0 18 (dk_at dksX2_appeal_1 9 rfl rfl)
theorem dX2_appeal_35 : decode cX2_appeal 35 = .ok (.aload_n 0, 1) := dk_42 (dk_at dksX2_appeal_1 12 rfl rfl)
theorem dX2_appeal_36 : decode cX2_appeal 36 = .ok (.iload_n 1, 1) := dk_27 (dk_at dksX2_appeal_1 13 rfl rfl)
theorem dX2_appeal_37 : decode cX2_appeal 37 = .ok (.iconst 1, 1) := dk_4 (dk_at dksX2_appeal_1 14 rfl rfl)
theorem dX2_appeal_38 : decode cX2_appeal 38 = .ok (.invokevirtual 114, 3) := dk_182 0 114 (dk_at dksX2_appeal_1 15 rfl rfl)
theorem dX2_appeal_41 : decode cX2_appeal 41 = .ok (.iconst (-1), 1) := dk_2 (dk_at dksX2_appeal_1 18 rfl rfl)
theorem dX2_appeal_42 : decode cX2_appeal 42 = .ok (.if_icmp .ne 7, 3) := dk_160 0 7 (dk_at dksX2_appeal_1 19 rfl rfl)
theorem dX2_appeal_45 : decode cX2_appeal 45 = .ok (.iconst 3, 1) := dk_6 (dk_at dksX2_appeal_1 22 rfl rfl)
theorem dX2_appeal_46 : decode cX2_appeal 46 = .ok (.goto 4, 3) := dk_167 0 4 (dk_at dksX2_appeal_2 0 rfl rfl)
theorem dX2_appeal_49 : decode cX2_appeal 49 = .ok (.iconst 0, 1) := dk_3 (dk_at dksX2_appeal_2 3 rfl rfl)
theorem dX2_appeal_50 : decode cX2_appeal 50 = .ok (.putfield 66, 3) := dk_181 0 66 (dk_at dksX2_appeal_2 4 rfl rfl)
theorem dX2_appeal_53 : decode cX2_appeal 53 = .ok (.aload_n 0, 1) := dk_42 (dk_at dksX2_appeal_2 7 rfl rfl)
theorem dX2_appeal_54 : decode cX2_appeal 54 = .ok (.getfield 66, 3) := dk_180 0 66 (dk_at dksX2_appeal_2 8 rfl rfl)
theorem dX2_appeal_57 : decode cX2_appeal 57 = .ok (.ifCond .le 5, 3) := dk_158 0 5 (dk_at dksX2_appeal_2 11 rfl rfl)
theorem dX2_appeal_60 : decode cX2_appeal 60 = .ok (.iconst 0, 1) := dk_3 (dk_at dksX2_appeal_2 14 rfl rfl)
theorem dX2_appeal_61 : decode cX2_appeal 61 = .ok (.ireturn, 1) := dk_172 (dk_at dksX2_appeal_2 15 rfl rfl)
theorem dX2_appeal_62 : decode cX2_appeal 62 = .ok (.aload_n 0, 1) := dk_42 (dk_at dksX2_appeal_2 16 rfl rfl)
theorem dX2_appeal_63 : decode cX2_appeal 63 = .ok (.iload_n 1, 1) := dk_27 (dk_at dksX2_appeal_2 17 rfl rfl)
theorem dX2_appeal_64 : decode cX2_appeal 64 = .ok (.iconst 1, 1) := dk_4 (dk_at dksX2_appeal_2 18 rfl rfl)
theorem dX2_appeal_65 : decode cX2_appeal 65 = .ok (.invokevirtual 114, 3) := dk_182 0 114 (dk_at dksX2_appeal_2 19 rfl rfl)
theorem dX2_appeal_68 : decode cX2_appeal 68 = .ok (.istore_n 2, 1) := dk_61 (dk_at dksX2_appeal_2 22 rfl rfl)
theorem dX2_appeal_69 : decode cX2_appeal 69 = .ok (.aload_n 0, 1) := dk_42 (dk_at dksX2_appeal_2 23 rfl rfl)
theorem dX2_appeal_70 : decode cX2_appeal 70 = .ok (.getfield 29, 3) := dk_180 0 29 (dk_at dksX2_appeal_3 0 rfl rfl)
theorem dX2_appeal_73 : decode cX2_appeal 73 = .ok (.iload_n 2, 1) := dk_28 (dk_at dksX2_appeal_3 3 rfl rfl)
theorem dX2_appeal_74 : decode cX2_appeal 74 = .ok (.iload_n 1, 1) := dk_27 (dk_at dksX2_appeal_3 4 rfl rfl)
theorem dX2_appeal_75 : decode cX2_appeal 75 = .ok (.invokestatic 101, 3) := dk_184 0 101 (dk_at dksX2_appeal_3 5 rfl rfl)
theorem dX2_appeal_78 : decode cX2_appeal 78 = .ok (.iconst 1, 1) := dk_4 (dk_at dksX2_appeal_3 8 rfl rfl)
theorem dX2_appeal_79 : decode cX2_appeal 79 = .ok (.bastore, 1) := dk_84 (dk_at dksX2_appeal_3 9 rfl rfl)
theorem dX2_appeal_80 : decode cX2_appeal 80 = .ok (.aload_n 0, 1) := dk_42 (dk_at dksX2_appeal_3 10 rfl rfl)
theorem dX2_appeal_81 : decode cX2_appeal 81 = .ok (.getfield 35, 3) := dk_180 0 35 (dk_at dksX2_appeal_3 11 rfl rfl)
theorem dX2_appeal_84 : decode cX2_appeal 84 = .ok (.iload_n 2, 1) := dk_28 (dk_at dksX2_appeal_3 14 rfl rfl)
theorem dX2_appeal_85 : decode cX2_appeal 85 = .ok (.iload_n 1, 1) := dk_27 (dk_at dksX2_appeal_3 15 rfl rfl)
theorem dX2_appeal_86 : decode cX2_appeal 86 = .ok (.invokestatic 101, 3) := dk_184 0 101 (dk_at dksX2_appeal_3 16 rfl rfl)
theorem dX2_appeal_89 : decode cX2_appeal 89 = .ok (.iconst 1, 1) := dk_4 (dk_at dksX2_appeal_3 19 rfl rfl)
theorem dX2_appeal_90 : decode cX2_appeal 90 = .ok (.bastore, 1) := dk_84 (dk_at dksX2_appeal_3 20 rfl rfl)
theorem dX2_appeal_91 : decode cX2_appeal 91 = .ok (.aload_n 0, 1) := dk_42 (dk_at dksX2_appeal_3 21 rfl rfl)
theorem dX2_appeal_92 : decode cX2_appeal 92 = .ok (.getfield 26, 3) := dk_180 0 26 (dk_at dksX2_appeal_4 0 rfl rfl)
theorem dX2_appeal_95 : decode cX2_appeal 95 = .ok (.iload_n 1, 1) := dk_27 (dk_at dksX2_appeal_4 3 rfl rfl)
theorem dX2_appeal_96 : decode cX2_appeal 96 = .ok (.iconst 1, 1) := dk_4 (dk_at dksX2_appeal_4 4 rfl rfl)
theorem dX2_appeal_97 : decode cX2_appeal 97 = .ok (.bastore, 1) := dk_84 (dk_at dksX2_appeal_4 5 rfl rfl)
theorem dX2_appeal_98 : decode cX2_appeal 98 = .ok (.iload_n 2, 1) := dk_28 (dk_at dksX2_appeal_4 6 rfl rfl)
theorem dX2_appeal_99 : decode cX2_appeal 99 = .ok (.ireturn, 1) := dk_172 (dk_at dksX2_appeal_4 7 rfl rfl)
abbrev cX2_meanMark : ByteArray := prog_9_method_56_code
def yX2_meanMark : MethodName := ⟨RX2, "meanMark", "()D"⟩
def dkwX2_meanMark_2 : List UInt8 := [61, 132, 3, 1, 167, 255, 216, 28, 154, 0, 7, 14, 167, 0, 8, 27, 135, 28, 135, 111, 175]
abbrev dktX2_meanMark_2 : List UInt8 := dkwX2_meanMark_2 ++ []
def dkwX2_meanMark_1 : List UInt8 := [182, 0, 145, 184, 0, 131, 96, 60, 28, 42, 29, 182, 0, 145, 2, 160, 0, 7, 3, 167, 0, 4, 4, 96]
abbrev dktX2_meanMark_1 : List UInt8 := dkwX2_meanMark_1 ++ dktX2_meanMark_2
def dkwX2_meanMark_0 : List UInt8 := [42, 3, 181, 0, 66, 3, 60, 3, 61, 3, 62, 29, 42, 180, 0, 69, 162, 0, 38, 27, 3, 42, 29]
abbrev dktX2_meanMark_0 : List UInt8 := dkwX2_meanMark_0 ++ dktX2_meanMark_1
theorem dksX2_meanMark_0 : cX2_meanMark.data.toList.drop 0 = dktX2_meanMark_0 := by decide +kernel
theorem dksX2_meanMark_1 : cX2_meanMark.data.toList.drop 23 = dktX2_meanMark_1 := dk_seg dksX2_meanMark_0 23 rfl rfl
theorem dksX2_meanMark_2 : cX2_meanMark.data.toList.drop 47 = dktX2_meanMark_2 := dk_seg dksX2_meanMark_1 24 rfl rfl
theorem dX2_meanMark_0 : decode cX2_meanMark 0 = .ok (.aload_n 0, 1) := dk_42 (dk_at dksX2_meanMark_0 0 rfl rfl)
theorem dX2_meanMark_1 : decode cX2_meanMark 1 = .ok (.iconst 0, 1) := dk_3 (dk_at dksX2_meanMark_0 1 rfl rfl)
theorem dX2_meanMark_2 : decode cX2_meanMark 2 = .ok (.putfield 66, 3) := dk_181 0 66 (dk_at dksX2_meanMark_0 2 rfl rfl)
theorem dX2_meanMark_5 : decode cX2_meanMark 5 = .ok (.iconst 0, 1) := dk_3 (dk_at dksX2_meanMark_0 5 rfl rfl)
theorem dX2_meanMark_6 : decode cX2_meanMark 6 = .ok (.istore_n 1, 1) := dk_60 (dk_at dksX2_meanMark_0 6 rfl rfl)
theorem dX2_meanMark_7 : decode cX2_meanMark 7 = .ok (.iconst 0, 1) := dk_3 (dk_at dksX2_meanMark_0 7 rfl rfl)
theorem dX2_meanMark_8 : decode cX2_meanMark 8 = .ok (.istore_n 2, 1) := dk_61 (dk_at dksX2_meanMark_0 8 rfl rfl)
theorem dX2_meanMark_9 : decode cX2_meanMark 9 = .ok (.iconst 0, 1) := dk_3 (dk_at dksX2_meanMark_0 9 rfl rfl)
theorem dX2_meanMark_10 : decode cX2_meanMark 10 = .ok (.istore_n 3, 1) := dk_62 (dk_at dksX2_meanMark_0 10 rfl rfl)
theorem dX2_meanMark_11 : decode cX2_meanMark 11 = .ok (.iload_n 3, 1) := dk_29 (dk_at dksX2_meanMark_0 11 rfl rfl)
theorem dX2_meanMark_12 : decode cX2_meanMark 12 = .ok (.aload_n 0, 1) := dk_42 (dk_at dksX2_meanMark_0 12 rfl rfl)
theorem dX2_meanMark_13 : decode cX2_meanMark 13 = .ok (.getfield 69, 3) := dk_180 0 69 (dk_at dksX2_meanMark_0 13 rfl rfl)
theorem dX2_meanMark_16 : decode cX2_meanMark 16 = .ok (.if_icmp .ge 38, 3) := dk_162 0 38 (dk_at dksX2_meanMark_0 16 rfl rfl)
theorem dX2_meanMark_19 : decode cX2_meanMark 19 = .ok (.iload_n 1, 1) := dk_27 (dk_at dksX2_meanMark_0 19 rfl rfl)
theorem dX2_meanMark_20 : decode cX2_meanMark 20 = .ok (.iconst 0, 1) := dk_3 (dk_at dksX2_meanMark_0 20 rfl rfl)
theorem dX2_meanMark_21 : decode cX2_meanMark 21 = .ok (.aload_n 0, 1) := dk_42 (dk_at dksX2_meanMark_0 21 rfl rfl)
theorem dX2_meanMark_22 : decode cX2_meanMark 22 = .ok (.iload_n 3, 1) := dk_29 (dk_at dksX2_meanMark_0 22 rfl rfl)
theorem dX2_meanMark_23 : decode cX2_meanMark 23 = .ok (.invokevirtual 145, 3) := dk_182 0 145 (dk_at dksX2_meanMark_1 0 rfl rfl)
theorem dX2_meanMark_26 : decode cX2_meanMark 26 = .ok (.invokestatic 131, 3) := dk_184 0 131 (dk_at dksX2_meanMark_1 3 rfl rfl)
theorem dX2_meanMark_29 : decode cX2_meanMark 29 = .ok (.iadd, 1) := dk_96 (dk_at dksX2_meanMark_1 6 rfl rfl)
theorem dX2_meanMark_30 : decode cX2_meanMark 30 = .ok (.istore_n 1, 1) := dk_60 (dk_at dksX2_meanMark_1 7 rfl rfl)
theorem dX2_meanMark_31 : decode cX2_meanMark 31 = .ok (.iload_n 2, 1) := dk_28 (dk_at dksX2_meanMark_1 8 rfl rfl)
theorem dX2_meanMark_32 : decode cX2_meanMark 32 = .ok (.aload_n 0, 1) := dk_42 (dk_at dksX2_meanMark_1 9 rfl rfl)
theorem dX2_meanMark_33 : decode cX2_meanMark 33 = .ok (.iload_n 3, 1) := dk_29 (dk_at dksX2_meanMark_1 10 rfl rfl)
theorem dX2_meanMark_34 : decode cX2_meanMark 34 = .ok (.invokevirtual 145, 3) := dk_182 0 145 (dk_at dksX2_meanMark_1 11 rfl rfl)
theorem dX2_meanMark_37 : decode cX2_meanMark 37 = .ok (.iconst (-1), 1) := dk_2 (dk_at dksX2_meanMark_1 14 rfl rfl)
theorem dX2_meanMark_38 : decode cX2_meanMark 38 = .ok (.if_icmp .ne 7, 3) := dk_160 0 7 (dk_at dksX2_meanMark_1 15 rfl rfl)
theorem dX2_meanMark_41 : decode cX2_meanMark 41 = .ok (.iconst 0, 1) := dk_3 (dk_at dksX2_meanMark_1 18 rfl rfl)
theorem dX2_meanMark_42 : decode cX2_meanMark 42 = .ok (.goto 4, 3) := dk_167 0 4 (dk_at dksX2_meanMark_1 19 rfl rfl)
theorem dX2_meanMark_45 : decode cX2_meanMark 45 = .ok (.iconst 1, 1) := dk_4 (dk_at dksX2_meanMark_1 22 rfl rfl)
theorem dX2_meanMark_46 : decode cX2_meanMark 46 = .ok (.iadd, 1) := dk_96 (dk_at dksX2_meanMark_1 23 rfl rfl)
theorem dX2_meanMark_47 : decode cX2_meanMark 47 = .ok (.istore_n 2, 1) := dk_61 (dk_at dksX2_meanMark_2 0 rfl rfl)
theorem dX2_meanMark_48 : decode cX2_meanMark 48 = .ok (.iinc 3 1, 3) := dk_132 3 1 (dk_at dksX2_meanMark_2 1 rfl rfl)
theorem dX2_meanMark_51 : decode cX2_meanMark 51 = .ok (.goto (-40), 3) := dk_167 255 216 (dk_at dksX2_meanMark_2 4 rfl rfl)
theorem dX2_meanMark_54 : decode cX2_meanMark 54 = .ok (.iload_n 2, 1) := dk_28 (dk_at dksX2_meanMark_2 7 rfl rfl)
theorem dX2_meanMark_55 : decode cX2_meanMark 55 = .ok (.ifCond .ne 7, 3) := dk_154 0 7 (dk_at dksX2_meanMark_2 8 rfl rfl)
theorem dX2_meanMark_58 : decode cX2_meanMark 58 = .ok (.dconst 0, 1) := dk_14 (dk_at dksX2_meanMark_2 11 rfl rfl)
theorem dX2_meanMark_59 : decode cX2_meanMark 59 = .ok (.goto 8, 3) := dk_167 0 8 (dk_at dksX2_meanMark_2 12 rfl rfl)
theorem dX2_meanMark_62 : decode cX2_meanMark 62 = .ok (.iload_n 1, 1) := dk_27 (dk_at dksX2_meanMark_2 15 rfl rfl)
theorem dX2_meanMark_63 : decode cX2_meanMark 63 = .ok (.i2d, 1) := dk_135 (dk_at dksX2_meanMark_2 16 rfl rfl)
theorem dX2_meanMark_64 : decode cX2_meanMark 64 = .ok (.iload_n 2, 1) := dk_28 (dk_at dksX2_meanMark_2 17 rfl rfl)
theorem dX2_meanMark_65 : decode cX2_meanMark 65 = .ok (.i2d, 1) := dk_135 (dk_at dksX2_meanMark_2 18 rfl rfl)
theorem dX2_meanMark_66 : decode cX2_meanMark 66 = .ok (.ddiv, 1) := dk_111 (dk_at dksX2_meanMark_2 19 rfl rfl)
theorem dX2_meanMark_67 : decode cX2_meanMark 67 = .ok (.dreturn, 1) := dk_175 (dk_at dksX2_meanMark_2 20 rfl rfl)
abbrev cX2_lateShare : ByteArray := prog_9_method_57_code
def yX2_lateShare : MethodName := ⟨RX2, "lateShare", "()F"⟩
def dkwX2_lateShare_3 : List UInt8 := [167, 255, 197, 28, 154, 0, 7, 11, 167, 0, 8, 27, 134, 28, 134, 110, 174]
abbrev dktX2_lateShare_3 : List UInt8 := dkwX2_lateShare_3 ++ []
def dkwX2_lateShare_2 : List UInt8 := [60, 28, 42, 180, 0, 38, 29, 46, 2, 160, 0, 7, 3, 167, 0, 4, 4, 96, 61, 132, 3, 1]
abbrev dktX2_lateShare_2 : List UInt8 := dkwX2_lateShare_2 ++ dktX2_lateShare_3
def dkwX2_lateShare_1 : List UInt8 := [46, 2, 159, 0, 20, 42, 180, 0, 41, 29, 46, 42, 180, 0, 44, 164, 0, 7, 4, 167, 0, 4, 3, 96]
abbrev dktX2_lateShare_1 : List UInt8 := dkwX2_lateShare_1 ++ dktX2_lateShare_2
def dkwX2_lateShare_0 : List UInt8 := [42, 3, 181, 0, 66, 3, 60, 3, 61, 3, 62, 29, 17, 1, 0, 162, 0, 58, 27, 42, 180, 0, 38, 29]
abbrev dktX2_lateShare_0 : List UInt8 := dkwX2_lateShare_0 ++ dktX2_lateShare_1
theorem dksX2_lateShare_0 : cX2_lateShare.data.toList.drop 0 = dktX2_lateShare_0 := by decide +kernel
theorem dksX2_lateShare_1 : cX2_lateShare.data.toList.drop 24 = dktX2_lateShare_1 := dk_seg dksX2_lateShare_0 24 rfl rfl
theorem dksX2_lateShare_2 : cX2_lateShare.data.toList.drop 48 = dktX2_lateShare_2 := dk_seg dksX2_lateShare_1 24 rfl rfl
theorem dksX2_lateShare_3 : cX2_lateShare.data.toList.drop 70 = dktX2_lateShare_3 := dk_seg dksX2_lateShare_2 22 rfl rfl
theorem dX2_lateShare_0 : decode cX2_lateShare 0 = .ok (.aload_n 0, 1) := dk_42 (dk_at dksX2_lateShare_0 0 rfl rfl)
theorem dX2_lateShare_1 : decode cX2_lateShare 1 = .ok (.iconst 0, 1) := dk_3 (dk_at dksX2_lateShare_0 1 rfl rfl)
theorem dX2_lateShare_2 : decode cX2_lateShare 2 = .ok (.putfield 66, 3) := dk_181 0 66 (dk_at dksX2_lateShare_0 2 rfl rfl)
theorem dX2_lateShare_5 : decode cX2_lateShare 5 = .ok (.iconst 0, 1) := dk_3 (dk_at dksX2_lateShare_0 5 rfl rfl)
theorem dX2_lateShare_6 : decode cX2_lateShare 6 = .ok (.istore_n 1, 1) := dk_60 (dk_at dksX2_lateShare_0 6 rfl rfl)
theorem dX2_lateShare_7 : decode cX2_lateShare 7 = .ok (.iconst 0, 1) := dk_3 (dk_at dksX2_lateShare_0 7 rfl rfl)
theorem dX2_lateShare_8 : decode cX2_lateShare 8 = .ok (.istore_n 2, 1) := dk_61 (dk_at dksX2_lateShare_0 8 rfl rfl)
theorem dX2_lateShare_9 : decode cX2_lateShare 9 = .ok (.iconst 0, 1) := dk_3 (dk_at dksX2_lateShare_0 9 rfl rfl)
theorem dX2_lateShare_10 : decode cX2_lateShare 10 = .ok (.istore_n 3, 1) := dk_62 (dk_at dksX2_lateShare_0 10 rfl rfl)
theorem dX2_lateShare_11 : decode cX2_lateShare 11 = .ok (.iload_n 3, 1) := dk_29 (dk_at dksX2_lateShare_0 11 rfl rfl)
theorem dX2_lateShare_12 : decode cX2_lateShare 12 = .ok (.sipush 256, 3) := dk_17 1 0 (dk_at dksX2_lateShare_0 12 rfl rfl)
theorem dX2_lateShare_15 : decode cX2_lateShare 15 = .ok (.if_icmp .ge 58, 3) := dk_162 0 58 (dk_at dksX2_lateShare_0 15 rfl rfl)
theorem dX2_lateShare_18 : decode cX2_lateShare 18 = .ok (.iload_n 1, 1) := dk_27 (dk_at dksX2_lateShare_0 18 rfl rfl)
theorem dX2_lateShare_19 : decode cX2_lateShare 19 = .ok (.aload_n 0, 1) := dk_42 (dk_at dksX2_lateShare_0 19 rfl rfl)
theorem dX2_lateShare_20 : decode cX2_lateShare 20 = .ok (.getfield 38, 3) := dk_180 0 38 (dk_at dksX2_lateShare_0 20 rfl rfl)
theorem dX2_lateShare_23 : decode cX2_lateShare 23 = .ok (.iload_n 3, 1) := dk_29 (dk_at dksX2_lateShare_0 23 rfl rfl)
theorem dX2_lateShare_24 : decode cX2_lateShare 24 = .ok (.iaload, 1) := dk_46 (dk_at dksX2_lateShare_1 0 rfl rfl)
theorem dX2_lateShare_25 : decode cX2_lateShare 25 = .ok (.iconst (-1), 1) := dk_2 (dk_at dksX2_lateShare_1 1 rfl rfl)
theorem dX2_lateShare_26 : decode cX2_lateShare 26 = .ok (.if_icmp .eq 20, 3) := dk_159 0 20 (dk_at dksX2_lateShare_1 2 rfl rfl)
theorem dX2_lateShare_29 : decode cX2_lateShare 29 = .ok (.aload_n 0, 1) := dk_42 (dk_at dksX2_lateShare_1 5 rfl rfl)
theorem dX2_lateShare_30 : decode cX2_lateShare 30 = .ok (.getfield 41, 3) := dk_180 0 41 (dk_at dksX2_lateShare_1 6 rfl rfl)
theorem dX2_lateShare_33 : decode cX2_lateShare 33 = .ok (.iload_n 3, 1) := dk_29 (dk_at dksX2_lateShare_1 9 rfl rfl)
theorem dX2_lateShare_34 : decode cX2_lateShare 34 = .ok (.iaload, 1) := dk_46 (dk_at dksX2_lateShare_1 10 rfl rfl)
theorem dX2_lateShare_35 : decode cX2_lateShare 35 = .ok (.aload_n 0, 1) := dk_42 (dk_at dksX2_lateShare_1 11 rfl rfl)
theorem dX2_lateShare_36 : decode cX2_lateShare 36 = .ok (.getfield 44, 3) := dk_180 0 44 (dk_at dksX2_lateShare_1 12 rfl rfl)
theorem dX2_lateShare_39 : decode cX2_lateShare 39 = .ok (.if_icmp .le 7, 3) := dk_164 0 7 (dk_at dksX2_lateShare_1 15 rfl rfl)
theorem dX2_lateShare_42 : decode cX2_lateShare 42 = .ok (.iconst 1, 1) := dk_4 (dk_at dksX2_lateShare_1 18 rfl rfl)
theorem dX2_lateShare_43 : decode cX2_lateShare 43 = .ok (.goto 4, 3) := dk_167 0 4 (dk_at dksX2_lateShare_1 19 rfl rfl)
theorem dX2_lateShare_46 : decode cX2_lateShare 46 = .ok (.iconst 0, 1) := dk_3 (dk_at dksX2_lateShare_1 22 rfl rfl)
theorem dX2_lateShare_47 : decode cX2_lateShare 47 = .ok (.iadd, 1) := dk_96 (dk_at dksX2_lateShare_1 23 rfl rfl)
theorem dX2_lateShare_48 : decode cX2_lateShare 48 = .ok (.istore_n 1, 1) := dk_60 (dk_at dksX2_lateShare_2 0 rfl rfl)
theorem dX2_lateShare_49 : decode cX2_lateShare 49 = .ok (.iload_n 2, 1) := dk_28 (dk_at dksX2_lateShare_2 1 rfl rfl)
theorem dX2_lateShare_50 : decode cX2_lateShare 50 = .ok (.aload_n 0, 1) := dk_42 (dk_at dksX2_lateShare_2 2 rfl rfl)
theorem dX2_lateShare_51 : decode cX2_lateShare 51 = .ok (.getfield 38, 3) := dk_180 0 38 (dk_at dksX2_lateShare_2 3 rfl rfl)
theorem dX2_lateShare_54 : decode cX2_lateShare 54 = .ok (.iload_n 3, 1) := dk_29 (dk_at dksX2_lateShare_2 6 rfl rfl)
theorem dX2_lateShare_55 : decode cX2_lateShare 55 = .ok (.iaload, 1) := dk_46 (dk_at dksX2_lateShare_2 7 rfl rfl)
theorem dX2_lateShare_56 : decode cX2_lateShare 56 = .ok (.iconst (-1), 1) := dk_2 (dk_at dksX2_lateShare_2 8 rfl rfl)
theorem dX2_lateShare_57 : decode cX2_lateShare 57 = .ok (.if_icmp .ne 7, 3) := dk_160 0 7 (dk_at dksX2_lateShare_2 9 rfl rfl)
theorem dX2_lateShare_60 : decode cX2_lateShare 60 = .ok (.iconst 0, 1) := dk_3 (dk_at dksX2_lateShare_2 12 rfl rfl)
theorem dX2_lateShare_61 : decode cX2_lateShare 61 = .ok (.goto 4, 3) := dk_167 0 4 (dk_at dksX2_lateShare_2 13 rfl rfl)
theorem dX2_lateShare_64 : decode cX2_lateShare 64 = .ok (.iconst 1, 1) := dk_4 (dk_at dksX2_lateShare_2 16 rfl rfl)
theorem dX2_lateShare_65 : decode cX2_lateShare 65 = .ok (.iadd, 1) := dk_96 (dk_at dksX2_lateShare_2 17 rfl rfl)
theorem dX2_lateShare_66 : decode cX2_lateShare 66 = .ok (.istore_n 2, 1) := dk_61 (dk_at dksX2_lateShare_2 18 rfl rfl)
theorem dX2_lateShare_67 : decode cX2_lateShare 67 = .ok (.iinc 3 1, 3) := dk_132 3 1 (dk_at dksX2_lateShare_2 19 rfl rfl)
theorem dX2_lateShare_70 : decode cX2_lateShare 70 = .ok (.goto (-59), 3) := dk_167 255 197 (dk_at dksX2_lateShare_3 0 rfl rfl)
theorem dX2_lateShare_73 : decode cX2_lateShare 73 = .ok (.iload_n 2, 1) := dk_28 (dk_at dksX2_lateShare_3 3 rfl rfl)
theorem dX2_lateShare_74 : decode cX2_lateShare 74 = .ok (.ifCond .ne 7, 3) := dk_154 0 7 (dk_at dksX2_lateShare_3 4 rfl rfl)
theorem dX2_lateShare_77 : decode cX2_lateShare 77 = .ok (.fconst 0, 1) := dk_11 (dk_at dksX2_lateShare_3 7 rfl rfl)
theorem dX2_lateShare_78 : decode cX2_lateShare 78 = .ok (.goto 8, 3) := dk_167 0 8 (dk_at dksX2_lateShare_3 8 rfl rfl)
theorem dX2_lateShare_81 : decode cX2_lateShare 81 = .ok (.iload_n 1, 1) := dk_27 (dk_at dksX2_lateShare_3 11 rfl rfl)
theorem dX2_lateShare_82 : decode cX2_lateShare 82 = .ok (.i2f, 1) := dk_134 (dk_at dksX2_lateShare_3 12 rfl rfl)
theorem dX2_lateShare_83 : decode cX2_lateShare 83 = .ok (.iload_n 2, 1) := dk_28 (dk_at dksX2_lateShare_3 13 rfl rfl)
theorem dX2_lateShare_84 : decode cX2_lateShare 84 = .ok (.i2f, 1) := dk_134 (dk_at dksX2_lateShare_3 14 rfl rfl)
theorem dX2_lateShare_85 : decode cX2_lateShare 85 = .ok (.fdiv, 1) := dk_110 (dk_at dksX2_lateShare_3 15 rfl rfl)
theorem dX2_lateShare_86 : decode cX2_lateShare 86 = .ok (.freturn, 1) := dk_174 (dk_at dksX2_lateShare_3 16 rfl rfl)
theorem q50 : (Jvm.Cond.initialized "PeerpanelModel") ∈ lw_all := lw_g (lw_at lw_m1 5 rfl) rfl
theorem q571 : (Jvm.Cond.selects "PeerpanelModel" ({ cls := "java/lang/Object", name := "getClass", desc := "()Ljava/lang/Class;" } : Jvm.MethodName) ({ cls := "java/lang/Object", name := "getClass", desc := "()Ljava/lang/Class;" } : Jvm.MethodName)) ∈ lw_all := lw_g (lw_at lw_m3 46 rfl) rfl
theorem q1136 : (Jvm.Cond.instantiable "PeerpanelModel" (20 : Nat)) ∈ lw_all := lw_g (lw_at lw_m5 131 rfl) rfl
theorem q1138 : (Jvm.Cond.instanceMethod ({ cls := "PeerpanelModel", name := "<init>", desc := "()V" } : Jvm.MethodName)) ∈ lw_all := lw_g (lw_at lw_m5 133 rfl) rfl
theorem q1139 : (Jvm.Cond.code ({ cls := "PeerpanelModel", name := "<init>", desc := "()V" } : Jvm.MethodName) prog_9_method_1_code (2 : Nat) (Option.none : Option Jvm.ClassFile.FieldType)) ∈ lw_all := lw_g (lw_at lw_m5 134 rfl) rfl
theorem q1140 : (Jvm.Cond.methodLink "PeerpanelModel" (1 : Nat) ({ cls := "java/lang/Object", name := "<init>", desc := "()V" } : Jvm.MethodName)) ∈ lw_all := lw_g (lw_at lw_m5 135 rfl) rfl
theorem q1141 : (Jvm.Cond.fieldLink "PeerpanelModel" (69 : Nat) "PeerpanelModel" "peopleCount" "I") ∈ lw_all := lw_g (lw_at lw_m5 136 rfl) rfl
theorem q1142 : (Jvm.Cond.fieldLink "PeerpanelModel" (7 : Nat) "PeerpanelModel" "groups" "[I") ∈ lw_all := lw_g (lw_at lw_m5 137 rfl) rfl
theorem q1143 : (Jvm.Cond.fieldLink "PeerpanelModel" (13 : Nat) "PeerpanelModel" "areThere" "[Z") ∈ lw_all := lw_g (lw_at lw_m5 138 rfl) rfl
theorem q1144 : (Jvm.Cond.fieldLink "PeerpanelModel" (17 : Nat) "PeerpanelModel" "weights" "[I") ∈ lw_all := lw_g (lw_at lw_m5 139 rfl) rfl
theorem q1145 : (Jvm.Cond.fieldLink "PeerpanelModel" (20 : Nat) "PeerpanelModel" "calibrationCounts" "[I") ∈ lw_all := lw_g (lw_at lw_m5 140 rfl) rfl
theorem q1146 : (Jvm.Cond.fieldLink "PeerpanelModel" (23 : Nat) "PeerpanelModel" "errorSums" "[I") ∈ lw_all := lw_g (lw_at lw_m5 141 rfl) rfl
theorem q1147 : (Jvm.Cond.fieldLink "PeerpanelModel" (26 : Nat) "PeerpanelModel" "hadAppeals" "[Z") ∈ lw_all := lw_g (lw_at lw_m5 142 rfl) rfl
theorem q1148 : (Jvm.Cond.fieldLink "PeerpanelModel" (29 : Nat) "PeerpanelModel" "areReaders" "[Z") ∈ lw_all := lw_g (lw_at lw_m5 143 rfl) rfl
theorem q1149 : (Jvm.Cond.fieldLink "PeerpanelModel" (32 : Nat) "PeerpanelModel" "wereReplaced" "[Z") ∈ lw_all := lw_g (lw_at lw_m5 144 rfl) rfl
theorem q1150 : (Jvm.Cond.fieldLink "PeerpanelModel" (35 : Nat) "PeerpanelModel" "areByAppeal" "[Z") ∈ lw_all := lw_g (lw_at lw_m5 145 rfl) rfl
theorem q1151 : (Jvm.Cond.fieldLink "PeerpanelModel" (38 : Nat) "PeerpanelModel" "marks" "[I") ∈ lw_all := lw_g (lw_at lw_m5 146 rfl) rfl
theorem q1152 : (Jvm.Cond.fieldLink "PeerpanelModel" (41 : Nat) "PeerpanelModel" "days" "[I") ∈ lw_all := lw_g (lw_at lw_m5 147 rfl) rfl
theorem q1153 : (Jvm.Cond.fieldLink "PeerpanelModel" (44 : Nat) "PeerpanelModel" "due" "I") ∈ lw_all := lw_g (lw_at lw_m5 148 rfl) rfl
theorem q1154 : (Jvm.Cond.fieldLink "PeerpanelModel" (48 : Nat) "PeerpanelModel" "tolerance" "I") ∈ lw_all := lw_g (lw_at lw_m5 149 rfl) rfl
theorem q1155 : (Jvm.Cond.fieldLink "PeerpanelModel" (66 : Nat) "PeerpanelModel" "thrown" "I") ∈ lw_all := lw_g (lw_at lw_m5 150 rfl) rfl
theorem q1156 : (Jvm.Cond.fieldLink "PeerpanelModel" (51 : Nat) "PeerpanelModel" "pairs" "[Z") ∈ lw_all := lw_g (lw_at lw_m5 151 rfl) rfl
theorem q1157 : (Jvm.Cond.fieldLink "PeerpanelModel" (54 : Nat) "PeerpanelModel" "pairCounts" "[I") ∈ lw_all := lw_g (lw_at lw_m5 152 rfl) rfl
theorem q1158 : (Jvm.Cond.fieldLink "PeerpanelModel" (57 : Nat) "PeerpanelModel" "wereTried" "[Z") ∈ lw_all := lw_g (lw_at lw_m5 153 rfl) rfl
theorem q1159 : (Jvm.Cond.fieldLink "PeerpanelModel" (60 : Nat) "PeerpanelModel" "found" "[I") ∈ lw_all := lw_g (lw_at lw_m5 154 rfl) rfl
theorem q1160 : (Jvm.Cond.fieldLink "PeerpanelModel" (63 : Nat) "PeerpanelModel" "fresh" "[I") ∈ lw_all := lw_g (lw_at lw_m5 155 rfl) rfl
theorem q1161 : (Jvm.Cond.lays "PeerpanelModel" "PeerpanelModel" "peopleCount" "I") ∈ lw_all := lw_g (lw_at lw_m5 156 rfl) rfl
theorem q1162 : (Jvm.Cond.soleField "PeerpanelModel" "peopleCount") ∈ lw_all := lw_g (lw_at lw_m5 157 rfl) rfl
theorem q1163 : (Jvm.Cond.laysFinal "PeerpanelModel" "PeerpanelModel" "groups" "[I") ∈ lw_all := lw_g (lw_at lw_m5 158 rfl) rfl
theorem q1164 : (Jvm.Cond.soleField "PeerpanelModel" "groups") ∈ lw_all := lw_g (lw_at lw_m5 159 rfl) rfl
theorem q1165 : (Jvm.Cond.laysFinal "PeerpanelModel" "PeerpanelModel" "areThere" "[Z") ∈ lw_all := lw_g (lw_at lw_m5 160 rfl) rfl
theorem q1166 : (Jvm.Cond.soleField "PeerpanelModel" "areThere") ∈ lw_all := lw_g (lw_at lw_m5 161 rfl) rfl
theorem q1167 : (Jvm.Cond.laysFinal "PeerpanelModel" "PeerpanelModel" "weights" "[I") ∈ lw_all := lw_g (lw_at lw_m5 162 rfl) rfl
theorem q1168 : (Jvm.Cond.soleField "PeerpanelModel" "weights") ∈ lw_all := lw_g (lw_at lw_m5 163 rfl) rfl
theorem q1169 : (Jvm.Cond.laysFinal "PeerpanelModel" "PeerpanelModel" "calibrationCounts" "[I") ∈ lw_all := lw_g (lw_at lw_m5 164 rfl) rfl
theorem q1170 : (Jvm.Cond.soleField "PeerpanelModel" "calibrationCounts") ∈ lw_all := lw_g (lw_at lw_m5 165 rfl) rfl
theorem q1171 : (Jvm.Cond.laysFinal "PeerpanelModel" "PeerpanelModel" "errorSums" "[I") ∈ lw_all := lw_g (lw_at lw_m5 166 rfl) rfl
theorem q1172 : (Jvm.Cond.soleField "PeerpanelModel" "errorSums") ∈ lw_all := lw_g (lw_at lw_m5 167 rfl) rfl
theorem q1173 : (Jvm.Cond.laysFinal "PeerpanelModel" "PeerpanelModel" "hadAppeals" "[Z") ∈ lw_all := lw_g (lw_at lw_m5 168 rfl) rfl
theorem q1174 : (Jvm.Cond.soleField "PeerpanelModel" "hadAppeals") ∈ lw_all := lw_g (lw_at lw_m5 169 rfl) rfl
theorem q1175 : (Jvm.Cond.laysFinal "PeerpanelModel" "PeerpanelModel" "areReaders" "[Z") ∈ lw_all := lw_g (lw_at lw_m5 170 rfl) rfl
theorem q1176 : (Jvm.Cond.soleField "PeerpanelModel" "areReaders") ∈ lw_all := lw_g (lw_at lw_m5 171 rfl) rfl
theorem q1177 : (Jvm.Cond.laysFinal "PeerpanelModel" "PeerpanelModel" "wereReplaced" "[Z") ∈ lw_all := lw_g (lw_at lw_m5 172 rfl) rfl
theorem q1178 : (Jvm.Cond.soleField "PeerpanelModel" "wereReplaced") ∈ lw_all := lw_g (lw_at lw_m5 173 rfl) rfl
theorem q1179 : (Jvm.Cond.laysFinal "PeerpanelModel" "PeerpanelModel" "areByAppeal" "[Z") ∈ lw_all := lw_g (lw_at lw_m5 174 rfl) rfl
theorem q1180 : (Jvm.Cond.soleField "PeerpanelModel" "areByAppeal") ∈ lw_all := lw_g (lw_at lw_m5 175 rfl) rfl
theorem q1181 : (Jvm.Cond.laysFinal "PeerpanelModel" "PeerpanelModel" "marks" "[I") ∈ lw_all := lw_g (lw_at lw_m5 176 rfl) rfl
theorem q1182 : (Jvm.Cond.soleField "PeerpanelModel" "marks") ∈ lw_all := lw_g (lw_at lw_m5 177 rfl) rfl
theorem q1183 : (Jvm.Cond.laysFinal "PeerpanelModel" "PeerpanelModel" "days" "[I") ∈ lw_all := lw_g (lw_at lw_m5 178 rfl) rfl
theorem q1184 : (Jvm.Cond.soleField "PeerpanelModel" "days") ∈ lw_all := lw_g (lw_at lw_m5 179 rfl) rfl
theorem q1185 : (Jvm.Cond.lays "PeerpanelModel" "PeerpanelModel" "due" "I") ∈ lw_all := lw_g (lw_at lw_m5 180 rfl) rfl
theorem q1186 : (Jvm.Cond.soleField "PeerpanelModel" "due") ∈ lw_all := lw_g (lw_at lw_m5 181 rfl) rfl
theorem q1187 : (Jvm.Cond.lays "PeerpanelModel" "PeerpanelModel" "tolerance" "I") ∈ lw_all := lw_g (lw_at lw_m5 182 rfl) rfl
theorem q1188 : (Jvm.Cond.soleField "PeerpanelModel" "tolerance") ∈ lw_all := lw_g (lw_at lw_m5 183 rfl) rfl
theorem q1189 : (Jvm.Cond.lays "PeerpanelModel" "PeerpanelModel" "thrown" "I") ∈ lw_all := lw_g (lw_at lw_m5 184 rfl) rfl
theorem q1190 : (Jvm.Cond.soleField "PeerpanelModel" "thrown") ∈ lw_all := lw_g (lw_at lw_m5 185 rfl) rfl
theorem q1191 : (Jvm.Cond.laysFinal "PeerpanelModel" "PeerpanelModel" "pairs" "[Z") ∈ lw_all := lw_g (lw_at lw_m5 186 rfl) rfl
theorem q1192 : (Jvm.Cond.soleField "PeerpanelModel" "pairs") ∈ lw_all := lw_g (lw_at lw_m5 187 rfl) rfl
theorem q1193 : (Jvm.Cond.laysFinal "PeerpanelModel" "PeerpanelModel" "pairCounts" "[I") ∈ lw_all := lw_g (lw_at lw_m5 188 rfl) rfl
theorem q1194 : (Jvm.Cond.soleField "PeerpanelModel" "pairCounts") ∈ lw_all := lw_g (lw_at lw_m5 189 rfl) rfl
theorem q1195 : (Jvm.Cond.laysFinal "PeerpanelModel" "PeerpanelModel" "wereTried" "[Z") ∈ lw_all := lw_g (lw_at lw_m5 190 rfl) rfl
theorem q1196 : (Jvm.Cond.soleField "PeerpanelModel" "wereTried") ∈ lw_all := lw_g (lw_at lw_m5 191 rfl) rfl
theorem q1197 : (Jvm.Cond.laysFinal "PeerpanelModel" "PeerpanelModel" "found" "[I") ∈ lw_all := lw_g (lw_at lw_m5 192 rfl) rfl
theorem q1198 : (Jvm.Cond.soleField "PeerpanelModel" "found") ∈ lw_all := lw_g (lw_at lw_m5 193 rfl) rfl
theorem q1199 : (Jvm.Cond.laysFinal "PeerpanelModel" "PeerpanelModel" "fresh" "[I") ∈ lw_all := lw_g (lw_at lw_m5 194 rfl) rfl
theorem q1200 : (Jvm.Cond.soleField "PeerpanelModel" "fresh") ∈ lw_all := lw_g (lw_at lw_m5 195 rfl) rfl
theorem q1201 : (Jvm.Cond.superclass "PeerpanelModel" "java/lang/Object") ∈ lw_all := lw_g (lw_at lw_m5 196 rfl) rfl
theorem q1204 : (Jvm.Cond.instanceMethod ({ cls := "PeerpanelModel", name := "thrown", desc := "()I" } : Jvm.MethodName)) ∈ lw_all := lw_g (lw_at lw_m5 199 rfl) rfl
theorem q1205 : (Jvm.Cond.selects "PeerpanelModel" ({ cls := "PeerpanelModel", name := "thrown", desc := "()I" } : Jvm.MethodName) ({ cls := "PeerpanelModel", name := "thrown", desc := "()I" } : Jvm.MethodName)) ∈ lw_all := lw_g (lw_at lw_m5 200 rfl) rfl
theorem q1206 : (Jvm.Cond.code ({ cls := "PeerpanelModel", name := "thrown", desc := "()I" } : Jvm.MethodName) prog_9_method_2_code (1 : Nat) (Option.some Jvm.ClassFile.FieldType.int)) ∈ lw_all := lw_g (lw_at lw_m5 201 rfl) rfl
theorem q1208 : (Jvm.Cond.instanceMethod ({ cls := "PeerpanelModel", name := "addPerson", desc := "(I)I" } : Jvm.MethodName)) ∈ lw_all := lw_g (lw_at lw_m5 203 rfl) rfl
theorem q1209 : (Jvm.Cond.selects "PeerpanelModel" ({ cls := "PeerpanelModel", name := "addPerson", desc := "(I)I" } : Jvm.MethodName) ({ cls := "PeerpanelModel", name := "addPerson", desc := "(I)I" } : Jvm.MethodName)) ∈ lw_all := lw_g (lw_at lw_m5 204 rfl) rfl
theorem q1210 : (Jvm.Cond.code ({ cls := "PeerpanelModel", name := "addPerson", desc := "(I)I" } : Jvm.MethodName) prog_9_method_11_code (2 : Nat) (Option.some Jvm.ClassFile.FieldType.int)) ∈ lw_all := lw_g (lw_at lw_m5 205 rfl) rfl
theorem q1211 : (Jvm.Cond.methodLink "PeerpanelModel" (72 : Nat) ({ cls := "PeerpanelModel", name := "isBetween", desc := "(III)Z" } : Jvm.MethodName)) ∈ lw_all := lw_g (lw_at lw_m5 206 rfl) rfl
theorem q1212 : (Jvm.Cond.static ({ cls := "PeerpanelModel", name := "isBetween", desc := "(III)Z" } : Jvm.MethodName)) ∈ lw_all := lw_g (lw_at lw_m5 207 rfl) rfl
theorem q1213 : (Jvm.Cond.code ({ cls := "PeerpanelModel", name := "isBetween", desc := "(III)Z" } : Jvm.MethodName) prog_9_method_5_code (3 : Nat) (Option.some Jvm.ClassFile.FieldType.boolean)) ∈ lw_all := lw_g (lw_at lw_m5 208 rfl) rfl
theorem q1215 : (Jvm.Cond.instanceMethod ({ cls := "PeerpanelModel", name := "handIn", desc := "(I)I" } : Jvm.MethodName)) ∈ lw_all := lw_g (lw_at lw_m5 210 rfl) rfl
theorem q1216 : (Jvm.Cond.selects "PeerpanelModel" ({ cls := "PeerpanelModel", name := "handIn", desc := "(I)I" } : Jvm.MethodName) ({ cls := "PeerpanelModel", name := "handIn", desc := "(I)I" } : Jvm.MethodName)) ∈ lw_all := lw_g (lw_at lw_m5 211 rfl) rfl
theorem q1217 : (Jvm.Cond.code ({ cls := "PeerpanelModel", name := "handIn", desc := "(I)I" } : Jvm.MethodName) prog_9_method_13_code (2 : Nat) (Option.some Jvm.ClassFile.FieldType.int)) ∈ lw_all := lw_g (lw_at lw_m5 212 rfl) rfl
theorem q1218 : (Jvm.Cond.methodLink "PeerpanelModel" (76 : Nat) ({ cls := "PeerpanelModel", name := "isPerson", desc := "(I)Z" } : Jvm.MethodName)) ∈ lw_all := lw_g (lw_at lw_m5 213 rfl) rfl
theorem q1219 : (Jvm.Cond.privateMethod ({ cls := "PeerpanelModel", name := "isPerson", desc := "(I)Z" } : Jvm.MethodName)) ∈ lw_tbl := lw_at lw_m5 214 rfl
theorem q1220 : (Jvm.Cond.instanceMethod ({ cls := "PeerpanelModel", name := "isPerson", desc := "(I)Z" } : Jvm.MethodName)) ∈ lw_all := lw_g (lw_at lw_m5 215 rfl) rfl
theorem q1221 : (Jvm.Cond.code ({ cls := "PeerpanelModel", name := "isPerson", desc := "(I)Z" } : Jvm.MethodName) prog_9_method_6_code (2 : Nat) (Option.some Jvm.ClassFile.FieldType.boolean)) ∈ lw_all := lw_g (lw_at lw_m5 216 rfl) rfl
theorem q1222 : (Jvm.Cond.methodLink "PeerpanelModel" (80 : Nat) ({ cls := "PeerpanelModel", name := "countWorks", desc := "()I" } : Jvm.MethodName)) ∈ lw_all := lw_g (lw_at lw_m5 217 rfl) rfl
theorem q1223 : (Jvm.Cond.privateMethod ({ cls := "PeerpanelModel", name := "countWorks", desc := "()I" } : Jvm.MethodName)) ∈ lw_tbl := lw_at lw_m5 218 rfl
theorem q1224 : (Jvm.Cond.instanceMethod ({ cls := "PeerpanelModel", name := "countWorks", desc := "()I" } : Jvm.MethodName)) ∈ lw_all := lw_g (lw_at lw_m5 219 rfl) rfl
theorem q1225 : (Jvm.Cond.code ({ cls := "PeerpanelModel", name := "countWorks", desc := "()I" } : Jvm.MethodName) prog_9_method_12_code (3 : Nat) (Option.some Jvm.ClassFile.FieldType.int)) ∈ lw_all := lw_g (lw_at lw_m5 220 rfl) rfl
theorem q1227 : (Jvm.Cond.instanceMethod ({ cls := "PeerpanelModel", name := "setDue", desc := "(I)I" } : Jvm.MethodName)) ∈ lw_all := lw_g (lw_at lw_m5 222 rfl) rfl
theorem q1228 : (Jvm.Cond.selects "PeerpanelModel" ({ cls := "PeerpanelModel", name := "setDue", desc := "(I)I" } : Jvm.MethodName) ({ cls := "PeerpanelModel", name := "setDue", desc := "(I)I" } : Jvm.MethodName)) ∈ lw_all := lw_g (lw_at lw_m5 223 rfl) rfl
theorem q1229 : (Jvm.Cond.code ({ cls := "PeerpanelModel", name := "setDue", desc := "(I)I" } : Jvm.MethodName) prog_9_method_14_code (3 : Nat) (Option.some Jvm.ClassFile.FieldType.int)) ∈ lw_all := lw_g (lw_at lw_m5 224 rfl) rfl
theorem q1230 : (Jvm.Cond.methodLink "PeerpanelModel" (84 : Nat) ({ cls := "PeerpanelModel", name := "isDay", desc := "(I)Z" } : Jvm.MethodName)) ∈ lw_all := lw_g (lw_at lw_m5 225 rfl) rfl
theorem q1231 : (Jvm.Cond.static ({ cls := "PeerpanelModel", name := "isDay", desc := "(I)Z" } : Jvm.MethodName)) ∈ lw_all := lw_g (lw_at lw_m5 226 rfl) rfl
theorem q1232 : (Jvm.Cond.code ({ cls := "PeerpanelModel", name := "isDay", desc := "(I)Z" } : Jvm.MethodName) prog_9_method_9_code (1 : Nat) (Option.some Jvm.ClassFile.FieldType.boolean)) ∈ lw_all := lw_g (lw_at lw_m5 227 rfl) rfl
theorem q1233 : (Jvm.Cond.methodLink "PeerpanelModel" (87 : Nat) ({ cls := "PeerpanelModel", name := "fail", desc := "(I)I" } : Jvm.MethodName)) ∈ lw_all := lw_g (lw_at lw_m5 228 rfl) rfl
theorem q1234 : (Jvm.Cond.privateMethod ({ cls := "PeerpanelModel", name := "fail", desc := "(I)I" } : Jvm.MethodName)) ∈ lw_tbl := lw_at lw_m5 229 rfl
theorem q1235 : (Jvm.Cond.instanceMethod ({ cls := "PeerpanelModel", name := "fail", desc := "(I)I" } : Jvm.MethodName)) ∈ lw_all := lw_g (lw_at lw_m5 230 rfl) rfl
theorem q1236 : (Jvm.Cond.code ({ cls := "PeerpanelModel", name := "fail", desc := "(I)I" } : Jvm.MethodName) prog_9_method_3_code (2 : Nat) (Option.some Jvm.ClassFile.FieldType.int)) ∈ lw_all := lw_g (lw_at lw_m5 231 rfl) rfl
theorem q1238 : (Jvm.Cond.instanceMethod ({ cls := "PeerpanelModel", name := "setTolerance", desc := "(I)I" } : Jvm.MethodName)) ∈ lw_all := lw_g (lw_at lw_m5 233 rfl) rfl
theorem q1239 : (Jvm.Cond.selects "PeerpanelModel" ({ cls := "PeerpanelModel", name := "setTolerance", desc := "(I)I" } : Jvm.MethodName) ({ cls := "PeerpanelModel", name := "setTolerance", desc := "(I)I" } : Jvm.MethodName)) ∈ lw_all := lw_g (lw_at lw_m5 234 rfl) rfl
theorem q1240 : (Jvm.Cond.code ({ cls := "PeerpanelModel", name := "setTolerance", desc := "(I)I" } : Jvm.MethodName) prog_9_method_15_code (3 : Nat) (Option.some Jvm.ClassFile.FieldType.int)) ∈ lw_all := lw_g (lw_at lw_m5 235 rfl) rfl
theorem q1241 : (Jvm.Cond.methodLink "PeerpanelModel" (91 : Nat) ({ cls := "PeerpanelModel", name := "isMark", desc := "(I)Z" } : Jvm.MethodName)) ∈ lw_all := lw_g (lw_at lw_m5 236 rfl) rfl
theorem q1242 : (Jvm.Cond.static ({ cls := "PeerpanelModel", name := "isMark", desc := "(I)Z" } : Jvm.MethodName)) ∈ lw_all := lw_g (lw_at lw_m5 237 rfl) rfl
theorem q1243 : (Jvm.Cond.code ({ cls := "PeerpanelModel", name := "isMark", desc := "(I)Z" } : Jvm.MethodName) prog_9_method_8_code (1 : Nat) (Option.some Jvm.ClassFile.FieldType.boolean)) ∈ lw_all := lw_g (lw_at lw_m5 238 rfl) rfl
theorem q1245 : (Jvm.Cond.instanceMethod ({ cls := "PeerpanelModel", name := "people", desc := "()I" } : Jvm.MethodName)) ∈ lw_all := lw_g (lw_at lw_m6 0 rfl) rfl
theorem q1246 : (Jvm.Cond.selects "PeerpanelModel" ({ cls := "PeerpanelModel", name := "people", desc := "()I" } : Jvm.MethodName) ({ cls := "PeerpanelModel", name := "people", desc := "()I" } : Jvm.MethodName)) ∈ lw_all := lw_g (lw_at lw_m6 1 rfl) rfl
theorem q1247 : (Jvm.Cond.code ({ cls := "PeerpanelModel", name := "people", desc := "()I" } : Jvm.MethodName) prog_9_method_16_code (1 : Nat) (Option.some Jvm.ClassFile.FieldType.int)) ∈ lw_all := lw_g (lw_at lw_m6 2 rfl) rfl
theorem q1248 : (Jvm.Cond.methodLink "PeerpanelModel" (94 : Nat) ({ cls := "PeerpanelModel", name := "tell", desc := "(I)I" } : Jvm.MethodName)) ∈ lw_all := lw_g (lw_at lw_m6 3 rfl) rfl
theorem q1249 : (Jvm.Cond.privateMethod ({ cls := "PeerpanelModel", name := "tell", desc := "(I)I" } : Jvm.MethodName)) ∈ lw_tbl := lw_at lw_m6 4 rfl
theorem q1250 : (Jvm.Cond.instanceMethod ({ cls := "PeerpanelModel", name := "tell", desc := "(I)I" } : Jvm.MethodName)) ∈ lw_all := lw_g (lw_at lw_m6 5 rfl) rfl
theorem q1251 : (Jvm.Cond.code ({ cls := "PeerpanelModel", name := "tell", desc := "(I)I" } : Jvm.MethodName) prog_9_method_4_code (2 : Nat) (Option.some Jvm.ClassFile.FieldType.int)) ∈ lw_all := lw_g (lw_at lw_m6 6 rfl) rfl
theorem q1253 : (Jvm.Cond.instanceMethod ({ cls := "PeerpanelModel", name := "works", desc := "()I" } : Jvm.MethodName)) ∈ lw_all := lw_g (lw_at lw_m6 8 rfl) rfl
theorem q1254 : (Jvm.Cond.selects "PeerpanelModel" ({ cls := "PeerpanelModel", name := "works", desc := "()I" } : Jvm.MethodName) ({ cls := "PeerpanelModel", name := "works", desc := "()I" } : Jvm.MethodName)) ∈ lw_all := lw_g (lw_at lw_m6 9 rfl) rfl
theorem q1255 : (Jvm.Cond.code ({ cls := "PeerpanelModel", name := "works", desc := "()I" } : Jvm.MethodName) prog_9_method_17_code (1 : Nat) (Option.some Jvm.ClassFile.FieldType.int)) ∈ lw_all := lw_g (lw_at lw_m6 10 rfl) rfl
theorem q1257 : (Jvm.Cond.instanceMethod ({ cls := "PeerpanelModel", name := "share", desc := "(I)I" } : Jvm.MethodName)) ∈ lw_all := lw_g (lw_at lw_m6 12 rfl) rfl
theorem q1258 : (Jvm.Cond.selects "PeerpanelModel" ({ cls := "PeerpanelModel", name := "share", desc := "(I)I" } : Jvm.MethodName) ({ cls := "PeerpanelModel", name := "share", desc := "(I)I" } : Jvm.MethodName)) ∈ lw_all := lw_g (lw_at lw_m6 13 rfl) rfl
theorem q1259 : (Jvm.Cond.code ({ cls := "PeerpanelModel", name := "share", desc := "(I)I" } : Jvm.MethodName) prog_9_method_23_code (6 : Nat) (Option.some Jvm.ClassFile.FieldType.int)) ∈ lw_all := lw_g (lw_at lw_m6 14 rfl) rfl
theorem q1260 : (Jvm.Cond.methodLink "PeerpanelModel" (111 : Nat) ({ cls := "PeerpanelModel", name := "countReaders", desc := "(I)I" } : Jvm.MethodName)) ∈ lw_all := lw_g (lw_at lw_m6 15 rfl) rfl
theorem q1261 : (Jvm.Cond.privateMethod ({ cls := "PeerpanelModel", name := "countReaders", desc := "(I)I" } : Jvm.MethodName)) ∈ lw_tbl := lw_at lw_m6 16 rfl
theorem q1262 : (Jvm.Cond.instanceMethod ({ cls := "PeerpanelModel", name := "countReaders", desc := "(I)I" } : Jvm.MethodName)) ∈ lw_all := lw_g (lw_at lw_m6 17 rfl) rfl
theorem q1263 : (Jvm.Cond.code ({ cls := "PeerpanelModel", name := "countReaders", desc := "(I)I" } : Jvm.MethodName) prog_9_method_21_code (4 : Nat) (Option.some Jvm.ClassFile.FieldType.int)) ∈ lw_all := lw_g (lw_at lw_m6 18 rfl) rfl
theorem q1264 : (Jvm.Cond.methodLink "PeerpanelModel" (101 : Nat) ({ cls := "PeerpanelModel", name := "at", desc := "(II)I" } : Jvm.MethodName)) ∈ lw_all := lw_g (lw_at lw_m6 19 rfl) rfl
theorem q1265 : (Jvm.Cond.static ({ cls := "PeerpanelModel", name := "at", desc := "(II)I" } : Jvm.MethodName)) ∈ lw_all := lw_g (lw_at lw_m6 20 rfl) rfl
theorem q1266 : (Jvm.Cond.code ({ cls := "PeerpanelModel", name := "at", desc := "(II)I" } : Jvm.MethodName) prog_9_method_10_code (2 : Nat) (Option.some Jvm.ClassFile.FieldType.int)) ∈ lw_all := lw_g (lw_at lw_m6 21 rfl) rfl
theorem q1267 : (Jvm.Cond.methodLink "PeerpanelModel" (114 : Nat) ({ cls := "PeerpanelModel", name := "choose", desc := "(IZ)I" } : Jvm.MethodName)) ∈ lw_all := lw_g (lw_at lw_m6 22 rfl) rfl
theorem q1268 : (Jvm.Cond.privateMethod ({ cls := "PeerpanelModel", name := "choose", desc := "(IZ)I" } : Jvm.MethodName)) ∈ lw_tbl := lw_at lw_m6 23 rfl
theorem q1269 : (Jvm.Cond.instanceMethod ({ cls := "PeerpanelModel", name := "choose", desc := "(IZ)I" } : Jvm.MethodName)) ∈ lw_all := lw_g (lw_at lw_m6 24 rfl) rfl
theorem q1270 : (Jvm.Cond.code ({ cls := "PeerpanelModel", name := "choose", desc := "(IZ)I" } : Jvm.MethodName) prog_9_method_22_code (7 : Nat) (Option.some Jvm.ClassFile.FieldType.int)) ∈ lw_all := lw_g (lw_at lw_m6 25 rfl) rfl
theorem q1271 : (Jvm.Cond.methodLink "PeerpanelModel" (105 : Nat) ({ cls := "PeerpanelModel", name := "may", desc := "(II)Z" } : Jvm.MethodName)) ∈ lw_all := lw_g (lw_at lw_m6 26 rfl) rfl
theorem q1272 : (Jvm.Cond.privateMethod ({ cls := "PeerpanelModel", name := "may", desc := "(II)Z" } : Jvm.MethodName)) ∈ lw_tbl := lw_at lw_m6 27 rfl
theorem q1273 : (Jvm.Cond.instanceMethod ({ cls := "PeerpanelModel", name := "may", desc := "(II)Z" } : Jvm.MethodName)) ∈ lw_all := lw_g (lw_at lw_m6 28 rfl) rfl
theorem q1274 : (Jvm.Cond.code ({ cls := "PeerpanelModel", name := "may", desc := "(II)Z" } : Jvm.MethodName) prog_9_method_19_code (3 : Nat) (Option.some Jvm.ClassFile.FieldType.boolean)) ∈ lw_all := lw_g (lw_at lw_m6 29 rfl) rfl
theorem q1275 : (Jvm.Cond.methodLink "PeerpanelModel" (97 : Nat) ({ cls := "PeerpanelModel", name := "isForeign", desc := "(II)Z" } : Jvm.MethodName)) ∈ lw_all := lw_g (lw_at lw_m6 30 rfl) rfl
theorem q1276 : (Jvm.Cond.privateMethod ({ cls := "PeerpanelModel", name := "isForeign", desc := "(II)Z" } : Jvm.MethodName)) ∈ lw_tbl := lw_at lw_m6 31 rfl
theorem q1277 : (Jvm.Cond.instanceMethod ({ cls := "PeerpanelModel", name := "isForeign", desc := "(II)Z" } : Jvm.MethodName)) ∈ lw_all := lw_g (lw_at lw_m6 32 rfl) rfl
theorem q1278 : (Jvm.Cond.code ({ cls := "PeerpanelModel", name := "isForeign", desc := "(II)Z" } : Jvm.MethodName) prog_9_method_18_code (3 : Nat) (Option.some Jvm.ClassFile.FieldType.boolean)) ∈ lw_all := lw_g (lw_at lw_m6 33 rfl) rfl
theorem q1279 : (Jvm.Cond.methodLink "PeerpanelModel" (108 : Nat) ({ cls := "PeerpanelModel", name := "load", desc := "(I)I" } : Jvm.MethodName)) ∈ lw_all := lw_g (lw_at lw_m6 34 rfl) rfl
theorem q1280 : (Jvm.Cond.privateMethod ({ cls := "PeerpanelModel", name := "load", desc := "(I)I" } : Jvm.MethodName)) ∈ lw_tbl := lw_at lw_m6 35 rfl
theorem q1281 : (Jvm.Cond.instanceMethod ({ cls := "PeerpanelModel", name := "load", desc := "(I)I" } : Jvm.MethodName)) ∈ lw_all := lw_g (lw_at lw_m6 36 rfl) rfl
theorem q1282 : (Jvm.Cond.code ({ cls := "PeerpanelModel", name := "load", desc := "(I)I" } : Jvm.MethodName) prog_9_method_20_code (4 : Nat) (Option.some Jvm.ClassFile.FieldType.int)) ∈ lw_all := lw_g (lw_at lw_m6 37 rfl) rfl
theorem q1284 : (Jvm.Cond.instanceMethod ({ cls := "PeerpanelModel", name := "readersOf", desc := "(I)I" } : Jvm.MethodName)) ∈ lw_all := lw_g (lw_at lw_m6 39 rfl) rfl
theorem q1285 : (Jvm.Cond.selects "PeerpanelModel" ({ cls := "PeerpanelModel", name := "readersOf", desc := "(I)I" } : Jvm.MethodName) ({ cls := "PeerpanelModel", name := "readersOf", desc := "(I)I" } : Jvm.MethodName)) ∈ lw_all := lw_g (lw_at lw_m6 40 rfl) rfl
theorem q1286 : (Jvm.Cond.code ({ cls := "PeerpanelModel", name := "readersOf", desc := "(I)I" } : Jvm.MethodName) prog_9_method_24_code (4 : Nat) (Option.some Jvm.ClassFile.FieldType.int)) ∈ lw_all := lw_g (lw_at lw_m6 41 rfl) rfl
theorem q1287 : (Jvm.Cond.methodLink "PeerpanelModel" (118 : Nat) ({ cls := "PeerpanelModel", name := "isWork", desc := "(I)Z" } : Jvm.MethodName)) ∈ lw_all := lw_g (lw_at lw_m6 42 rfl) rfl
theorem q1288 : (Jvm.Cond.privateMethod ({ cls := "PeerpanelModel", name := "isWork", desc := "(I)Z" } : Jvm.MethodName)) ∈ lw_tbl := lw_at lw_m6 43 rfl
theorem q1289 : (Jvm.Cond.instanceMethod ({ cls := "PeerpanelModel", name := "isWork", desc := "(I)Z" } : Jvm.MethodName)) ∈ lw_all := lw_g (lw_at lw_m6 44 rfl) rfl
theorem q1290 : (Jvm.Cond.code ({ cls := "PeerpanelModel", name := "isWork", desc := "(I)Z" } : Jvm.MethodName) prog_9_method_7_code (2 : Nat) (Option.some Jvm.ClassFile.FieldType.boolean)) ∈ lw_all := lw_g (lw_at lw_m6 45 rfl) rfl
theorem q1292 : (Jvm.Cond.instanceMethod ({ cls := "PeerpanelModel", name := "mayRead", desc := "(I)I" } : Jvm.MethodName)) ∈ lw_all := lw_g (lw_at lw_m6 47 rfl) rfl
theorem q1293 : (Jvm.Cond.selects "PeerpanelModel" ({ cls := "PeerpanelModel", name := "mayRead", desc := "(I)I" } : Jvm.MethodName) ({ cls := "PeerpanelModel", name := "mayRead", desc := "(I)I" } : Jvm.MethodName)) ∈ lw_all := lw_g (lw_at lw_m6 48 rfl) rfl
theorem q1294 : (Jvm.Cond.code ({ cls := "PeerpanelModel", name := "mayRead", desc := "(I)I" } : Jvm.MethodName) prog_9_method_25_code (4 : Nat) (Option.some Jvm.ClassFile.FieldType.int)) ∈ lw_all := lw_g (lw_at lw_m6 49 rfl) rfl
theorem q1296 : (Jvm.Cond.instanceMethod ({ cls := "PeerpanelModel", name := "loadOf", desc := "(I)I" } : Jvm.MethodName)) ∈ lw_all := lw_g (lw_at lw_m6 51 rfl) rfl
theorem q1297 : (Jvm.Cond.selects "PeerpanelModel" ({ cls := "PeerpanelModel", name := "loadOf", desc := "(I)I" } : Jvm.MethodName) ({ cls := "PeerpanelModel", name := "loadOf", desc := "(I)I" } : Jvm.MethodName)) ∈ lw_all := lw_g (lw_at lw_m6 52 rfl) rfl
theorem q1298 : (Jvm.Cond.code ({ cls := "PeerpanelModel", name := "loadOf", desc := "(I)I" } : Jvm.MethodName) prog_9_method_26_code (2 : Nat) (Option.some Jvm.ClassFile.FieldType.int)) ∈ lw_all := lw_g (lw_at lw_m6 53 rfl) rfl
theorem q1300 : (Jvm.Cond.instanceMethod ({ cls := "PeerpanelModel", name := "possible", desc := "(II)I" } : Jvm.MethodName)) ∈ lw_all := lw_g (lw_at lw_m6 55 rfl) rfl
theorem q1301 : (Jvm.Cond.selects "PeerpanelModel" ({ cls := "PeerpanelModel", name := "possible", desc := "(II)I" } : Jvm.MethodName) ({ cls := "PeerpanelModel", name := "possible", desc := "(II)I" } : Jvm.MethodName)) ∈ lw_all := lw_g (lw_at lw_m6 56 rfl) rfl
theorem q1302 : (Jvm.Cond.code ({ cls := "PeerpanelModel", name := "possible", desc := "(II)I" } : Jvm.MethodName) prog_9_method_30_code (6 : Nat) (Option.some Jvm.ClassFile.FieldType.int)) ∈ lw_all := lw_g (lw_at lw_m6 57 rfl) rfl
theorem q1303 : (Jvm.Cond.methodLink "PeerpanelModel" (128 : Nat) ({ cls := "PeerpanelModel", name := "gain", desc := "(II)Z" } : Jvm.MethodName)) ∈ lw_all := lw_g (lw_at lw_m6 58 rfl) rfl
theorem q1304 : (Jvm.Cond.privateMethod ({ cls := "PeerpanelModel", name := "gain", desc := "(II)Z" } : Jvm.MethodName)) ∈ lw_tbl := lw_at lw_m6 59 rfl
theorem q1305 : (Jvm.Cond.instanceMethod ({ cls := "PeerpanelModel", name := "gain", desc := "(II)Z" } : Jvm.MethodName)) ∈ lw_all := lw_g (lw_at lw_m6 60 rfl) rfl
theorem q1306 : (Jvm.Cond.code ({ cls := "PeerpanelModel", name := "gain", desc := "(II)Z" } : Jvm.MethodName) prog_9_method_28_code (4 : Nat) (Option.some Jvm.ClassFile.FieldType.boolean)) ∈ lw_all := lw_g (lw_at lw_m6 61 rfl) rfl
theorem q1307 : (Jvm.Cond.methodLink "PeerpanelModel" (121 : Nat) ({ cls := "PeerpanelModel", name := "canYield", desc := "(II)Z" } : Jvm.MethodName)) ∈ lw_all := lw_g (lw_at lw_m6 62 rfl) rfl
theorem q1308 : (Jvm.Cond.privateMethod ({ cls := "PeerpanelModel", name := "canYield", desc := "(II)Z" } : Jvm.MethodName)) ∈ lw_tbl := lw_at lw_m6 63 rfl
theorem q1309 : (Jvm.Cond.instanceMethod ({ cls := "PeerpanelModel", name := "canYield", desc := "(II)Z" } : Jvm.MethodName)) ∈ lw_all := lw_g (lw_at lw_m6 64 rfl) rfl
theorem q1310 : (Jvm.Cond.code ({ cls := "PeerpanelModel", name := "canYield", desc := "(II)Z" } : Jvm.MethodName) prog_9_method_29_code (4 : Nat) (Option.some Jvm.ClassFile.FieldType.boolean)) ∈ lw_all := lw_g (lw_at lw_m6 65 rfl) rfl
theorem q1311 : (Jvm.Cond.methodLink "PeerpanelModel" (124 : Nat) ({ cls := "PeerpanelModel", name := "pair", desc := "(IIZ)V" } : Jvm.MethodName)) ∈ lw_all := lw_g (lw_at lw_m6 66 rfl) rfl
theorem q1312 : (Jvm.Cond.privateMethod ({ cls := "PeerpanelModel", name := "pair", desc := "(IIZ)V" } : Jvm.MethodName)) ∈ lw_tbl := lw_at lw_m6 67 rfl
theorem q1313 : (Jvm.Cond.instanceMethod ({ cls := "PeerpanelModel", name := "pair", desc := "(IIZ)V" } : Jvm.MethodName)) ∈ lw_all := lw_g (lw_at lw_m6 68 rfl) rfl
theorem q1314 : (Jvm.Cond.code ({ cls := "PeerpanelModel", name := "pair", desc := "(IIZ)V" } : Jvm.MethodName) prog_9_method_27_code (4 : Nat) (Option.none : Option Jvm.ClassFile.FieldType)) ∈ lw_all := lw_g (lw_at lw_m6 69 rfl) rfl
theorem q1316 : (Jvm.Cond.instanceMethod ({ cls := "PeerpanelModel", name := "calibrate", desc := "(III)I" } : Jvm.MethodName)) ∈ lw_all := lw_g (lw_at lw_m6 71 rfl) rfl
theorem q1317 : (Jvm.Cond.selects "PeerpanelModel" ({ cls := "PeerpanelModel", name := "calibrate", desc := "(III)I" } : Jvm.MethodName) ({ cls := "PeerpanelModel", name := "calibrate", desc := "(III)I" } : Jvm.MethodName)) ∈ lw_all := lw_g (lw_at lw_m6 72 rfl) rfl
theorem q1318 : (Jvm.Cond.code ({ cls := "PeerpanelModel", name := "calibrate", desc := "(III)I" } : Jvm.MethodName) prog_9_method_33_code (4 : Nat) (Option.some Jvm.ClassFile.FieldType.int)) ∈ lw_all := lw_g (lw_at lw_m6 73 rfl) rfl
theorem q1319 : (Jvm.Cond.methodLink "PeerpanelModel" (139 : Nat) ({ cls := "java/lang/Math", name := "abs", desc := "(I)I" } : Jvm.MethodName)) ∈ lw_all := lw_g (lw_at lw_m6 74 rfl) rfl
theorem q1320 : (Jvm.Cond.methodLink "PeerpanelModel" (142 : Nat) ({ cls := "PeerpanelModel", name := "plainWeight", desc := "(I)I" } : Jvm.MethodName)) ∈ lw_all := lw_g (lw_at lw_m6 75 rfl) rfl
theorem q1321 : (Jvm.Cond.privateMethod ({ cls := "PeerpanelModel", name := "plainWeight", desc := "(I)I" } : Jvm.MethodName)) ∈ lw_tbl := lw_at lw_m6 76 rfl
theorem q1322 : (Jvm.Cond.instanceMethod ({ cls := "PeerpanelModel", name := "plainWeight", desc := "(I)I" } : Jvm.MethodName)) ∈ lw_all := lw_g (lw_at lw_m6 77 rfl) rfl
theorem q1323 : (Jvm.Cond.code ({ cls := "PeerpanelModel", name := "plainWeight", desc := "(I)I" } : Jvm.MethodName) prog_9_method_32_code (2 : Nat) (Option.some Jvm.ClassFile.FieldType.int)) ∈ lw_all := lw_g (lw_at lw_m6 78 rfl) rfl
theorem q1324 : (Jvm.Cond.methodLink "PeerpanelModel" (136 : Nat) ({ cls := "PeerpanelModel", name := "weightBy", desc := "(II)I" } : Jvm.MethodName)) ∈ lw_all := lw_g (lw_at lw_m6 79 rfl) rfl
theorem q1325 : (Jvm.Cond.static ({ cls := "PeerpanelModel", name := "weightBy", desc := "(II)I" } : Jvm.MethodName)) ∈ lw_all := lw_g (lw_at lw_m6 80 rfl) rfl
theorem q1326 : (Jvm.Cond.code ({ cls := "PeerpanelModel", name := "weightBy", desc := "(II)I" } : Jvm.MethodName) prog_9_method_31_code (2 : Nat) (Option.some Jvm.ClassFile.FieldType.int)) ∈ lw_all := lw_g (lw_at lw_m6 81 rfl) rfl
theorem q1327 : (Jvm.Cond.methodLink "PeerpanelModel" (131 : Nat) ({ cls := "java/lang/Math", name := "max", desc := "(II)I" } : Jvm.MethodName)) ∈ lw_all := lw_g (lw_at lw_m6 82 rfl) rfl
theorem q1329 : (Jvm.Cond.instanceMethod ({ cls := "PeerpanelModel", name := "weightOf", desc := "(I)I" } : Jvm.MethodName)) ∈ lw_all := lw_g (lw_at lw_m6 84 rfl) rfl
theorem q1330 : (Jvm.Cond.selects "PeerpanelModel" ({ cls := "PeerpanelModel", name := "weightOf", desc := "(I)I" } : Jvm.MethodName) ({ cls := "PeerpanelModel", name := "weightOf", desc := "(I)I" } : Jvm.MethodName)) ∈ lw_all := lw_g (lw_at lw_m6 85 rfl) rfl
theorem q1331 : (Jvm.Cond.code ({ cls := "PeerpanelModel", name := "weightOf", desc := "(I)I" } : Jvm.MethodName) prog_9_method_34_code (2 : Nat) (Option.some Jvm.ClassFile.FieldType.int)) ∈ lw_all := lw_g (lw_at lw_m6 86 rfl) rfl
theorem q1333 : (Jvm.Cond.instanceMethod ({ cls := "PeerpanelModel", name := "settle", desc := "(I)I" } : Jvm.MethodName)) ∈ lw_all := lw_g (lw_at lw_m6 88 rfl) rfl
theorem q1334 : (Jvm.Cond.selects "PeerpanelModel" ({ cls := "PeerpanelModel", name := "settle", desc := "(I)I" } : Jvm.MethodName) ({ cls := "PeerpanelModel", name := "settle", desc := "(I)I" } : Jvm.MethodName)) ∈ lw_all := lw_g (lw_at lw_m6 89 rfl) rfl
theorem q1335 : (Jvm.Cond.code ({ cls := "PeerpanelModel", name := "settle", desc := "(I)I" } : Jvm.MethodName) prog_9_method_37_code (3 : Nat) (Option.some Jvm.ClassFile.FieldType.int)) ∈ lw_all := lw_g (lw_at lw_m6 90 rfl) rfl
theorem q1336 : (Jvm.Cond.methodLink "PeerpanelModel" (151 : Nat) ({ cls := "PeerpanelModel", name := "changes", desc := "()Z" } : Jvm.MethodName)) ∈ lw_all := lw_g (lw_at lw_m6 91 rfl) rfl
theorem q1337 : (Jvm.Cond.privateMethod ({ cls := "PeerpanelModel", name := "changes", desc := "()Z" } : Jvm.MethodName)) ∈ lw_tbl := lw_at lw_m6 92 rfl
theorem q1338 : (Jvm.Cond.instanceMethod ({ cls := "PeerpanelModel", name := "changes", desc := "()Z" } : Jvm.MethodName)) ∈ lw_all := lw_g (lw_at lw_m6 93 rfl) rfl
theorem q1339 : (Jvm.Cond.code ({ cls := "PeerpanelModel", name := "changes", desc := "()Z" } : Jvm.MethodName) prog_9_method_36_code (3 : Nat) (Option.some Jvm.ClassFile.FieldType.boolean)) ∈ lw_all := lw_g (lw_at lw_m6 94 rfl) rfl
theorem q1340 : (Jvm.Cond.methodLink "PeerpanelModel" (145 : Nat) ({ cls := "PeerpanelModel", name := "mark", desc := "(I)I" } : Jvm.MethodName)) ∈ lw_all := lw_g (lw_at lw_m6 95 rfl) rfl
theorem q1341 : (Jvm.Cond.privateMethod ({ cls := "PeerpanelModel", name := "mark", desc := "(I)I" } : Jvm.MethodName)) ∈ lw_tbl := lw_at lw_m6 96 rfl
theorem q1342 : (Jvm.Cond.instanceMethod ({ cls := "PeerpanelModel", name := "mark", desc := "(I)I" } : Jvm.MethodName)) ∈ lw_all := lw_g (lw_at lw_m6 97 rfl) rfl
theorem q1343 : (Jvm.Cond.code ({ cls := "PeerpanelModel", name := "mark", desc := "(I)I" } : Jvm.MethodName) prog_9_method_48_code (2 : Nat) (Option.some Jvm.ClassFile.FieldType.int)) ∈ lw_all := lw_g (lw_at lw_m6 98 rfl) rfl
theorem q1344 : (Jvm.Cond.methodLink "PeerpanelModel" (169 : Nat) ({ cls := "PeerpanelModel", name := "median", desc := "(III)I" } : Jvm.MethodName)) ∈ lw_all := lw_g (lw_at lw_m6 99 rfl) rfl
theorem q1345 : (Jvm.Cond.privateMethod ({ cls := "PeerpanelModel", name := "median", desc := "(III)I" } : Jvm.MethodName)) ∈ lw_tbl := lw_at lw_m6 100 rfl
theorem q1346 : (Jvm.Cond.instanceMethod ({ cls := "PeerpanelModel", name := "median", desc := "(III)I" } : Jvm.MethodName)) ∈ lw_all := lw_g (lw_at lw_m6 101 rfl) rfl
theorem q1347 : (Jvm.Cond.code ({ cls := "PeerpanelModel", name := "median", desc := "(III)I" } : Jvm.MethodName) prog_9_method_44_code (9 : Nat) (Option.some Jvm.ClassFile.FieldType.int)) ∈ lw_all := lw_g (lw_at lw_m6 102 rfl) rfl
theorem q1348 : (Jvm.Cond.methodLink "PeerpanelModel" (161 : Nat) ({ cls := "PeerpanelModel", name := "isNear", desc := "(IIII)Z" } : Jvm.MethodName)) ∈ lw_all := lw_g (lw_at lw_m6 103 rfl) rfl
theorem q1349 : (Jvm.Cond.privateMethod ({ cls := "PeerpanelModel", name := "isNear", desc := "(IIII)Z" } : Jvm.MethodName)) ∈ lw_tbl := lw_at lw_m6 104 rfl
theorem q1350 : (Jvm.Cond.instanceMethod ({ cls := "PeerpanelModel", name := "isNear", desc := "(IIII)Z" } : Jvm.MethodName)) ∈ lw_all := lw_g (lw_at lw_m6 105 rfl) rfl
theorem q1351 : (Jvm.Cond.code ({ cls := "PeerpanelModel", name := "isNear", desc := "(IIII)Z" } : Jvm.MethodName) prog_9_method_45_code (6 : Nat) (Option.some Jvm.ClassFile.FieldType.boolean)) ∈ lw_all := lw_g (lw_at lw_m6 106 rfl) rfl
theorem q1352 : (Jvm.Cond.methodLink "PeerpanelModel" (158 : Nat) ({ cls := "PeerpanelModel", name := "counts", desc := "(II)I" } : Jvm.MethodName)) ∈ lw_all := lw_g (lw_at lw_m6 107 rfl) rfl
theorem q1353 : (Jvm.Cond.privateMethod ({ cls := "PeerpanelModel", name := "counts", desc := "(II)I" } : Jvm.MethodName)) ∈ lw_tbl := lw_at lw_m6 108 rfl
theorem q1354 : (Jvm.Cond.instanceMethod ({ cls := "PeerpanelModel", name := "counts", desc := "(II)I" } : Jvm.MethodName)) ∈ lw_all := lw_g (lw_at lw_m6 109 rfl) rfl
theorem q1355 : (Jvm.Cond.code ({ cls := "PeerpanelModel", name := "counts", desc := "(II)I" } : Jvm.MethodName) prog_9_method_42_code (5 : Nat) (Option.some Jvm.ClassFile.FieldType.int)) ∈ lw_all := lw_g (lw_at lw_m6 110 rfl) rfl
theorem q1356 : (Jvm.Cond.methodLink "PeerpanelModel" (165 : Nat) ({ cls := "PeerpanelModel", name := "countBelow", desc := "(IIII)I" } : Jvm.MethodName)) ∈ lw_all := lw_g (lw_at lw_m6 111 rfl) rfl
theorem q1357 : (Jvm.Cond.privateMethod ({ cls := "PeerpanelModel", name := "countBelow", desc := "(IIII)I" } : Jvm.MethodName)) ∈ lw_tbl := lw_at lw_m6 112 rfl
theorem q1358 : (Jvm.Cond.instanceMethod ({ cls := "PeerpanelModel", name := "countBelow", desc := "(IIII)I" } : Jvm.MethodName)) ∈ lw_all := lw_g (lw_at lw_m6 113 rfl) rfl
theorem q1359 : (Jvm.Cond.code ({ cls := "PeerpanelModel", name := "countBelow", desc := "(IIII)I" } : Jvm.MethodName) prog_9_method_46_code (8 : Nat) (Option.some Jvm.ClassFile.FieldType.int)) ∈ lw_all := lw_g (lw_at lw_m6 114 rfl) rfl
theorem q1360 : (Jvm.Cond.methodLink "PeerpanelModel" (173 : Nat) ({ cls := "PeerpanelModel", name := "allowed", desc := "(I)I" } : Jvm.MethodName)) ∈ lw_all := lw_g (lw_at lw_m6 115 rfl) rfl
theorem q1361 : (Jvm.Cond.privateMethod ({ cls := "PeerpanelModel", name := "allowed", desc := "(I)I" } : Jvm.MethodName)) ∈ lw_tbl := lw_at lw_m6 116 rfl
theorem q1362 : (Jvm.Cond.instanceMethod ({ cls := "PeerpanelModel", name := "allowed", desc := "(I)I" } : Jvm.MethodName)) ∈ lw_all := lw_g (lw_at lw_m6 117 rfl) rfl
theorem q1363 : (Jvm.Cond.code ({ cls := "PeerpanelModel", name := "allowed", desc := "(I)I" } : Jvm.MethodName) prog_9_method_47_code (2 : Nat) (Option.some Jvm.ClassFile.FieldType.int)) ∈ lw_all := lw_g (lw_at lw_m6 118 rfl) rfl
theorem q1364 : (Jvm.Cond.methodLink "PeerpanelModel" (155 : Nat) ({ cls := "PeerpanelModel", name := "countReviews", desc := "(I)I" } : Jvm.MethodName)) ∈ lw_all := lw_g (lw_at lw_m6 119 rfl) rfl
theorem q1365 : (Jvm.Cond.privateMethod ({ cls := "PeerpanelModel", name := "countReviews", desc := "(I)I" } : Jvm.MethodName)) ∈ lw_tbl := lw_at lw_m6 120 rfl
theorem q1366 : (Jvm.Cond.instanceMethod ({ cls := "PeerpanelModel", name := "countReviews", desc := "(I)I" } : Jvm.MethodName)) ∈ lw_all := lw_g (lw_at lw_m6 121 rfl) rfl
theorem q1367 : (Jvm.Cond.code ({ cls := "PeerpanelModel", name := "countReviews", desc := "(I)I" } : Jvm.MethodName) prog_9_method_39_code (4 : Nat) (Option.some Jvm.ClassFile.FieldType.int)) ∈ lw_all := lw_g (lw_at lw_m6 122 rfl) rfl
theorem q1368 : (Jvm.Cond.methodLink "PeerpanelModel" (148 : Nat) ({ cls := "PeerpanelModel", name := "freshWeight", desc := "(I)I" } : Jvm.MethodName)) ∈ lw_all := lw_g (lw_at lw_m6 123 rfl) rfl
theorem q1369 : (Jvm.Cond.privateMethod ({ cls := "PeerpanelModel", name := "freshWeight", desc := "(I)I" } : Jvm.MethodName)) ∈ lw_tbl := lw_at lw_m6 124 rfl
theorem q1370 : (Jvm.Cond.instanceMethod ({ cls := "PeerpanelModel", name := "freshWeight", desc := "(I)I" } : Jvm.MethodName)) ∈ lw_all := lw_g (lw_at lw_m6 125 rfl) rfl
theorem q1371 : (Jvm.Cond.code ({ cls := "PeerpanelModel", name := "freshWeight", desc := "(I)I" } : Jvm.MethodName) prog_9_method_35_code (5 : Nat) (Option.some Jvm.ClassFile.FieldType.int)) ∈ lw_all := lw_g (lw_at lw_m6 126 rfl) rfl
theorem q1373 : (Jvm.Cond.instanceMethod ({ cls := "PeerpanelModel", name := "plain", desc := "()I" } : Jvm.MethodName)) ∈ lw_all := lw_g (lw_at lw_m6 128 rfl) rfl
theorem q1374 : (Jvm.Cond.selects "PeerpanelModel" ({ cls := "PeerpanelModel", name := "plain", desc := "()I" } : Jvm.MethodName) ({ cls := "PeerpanelModel", name := "plain", desc := "()I" } : Jvm.MethodName)) ∈ lw_all := lw_g (lw_at lw_m6 129 rfl) rfl
theorem q1375 : (Jvm.Cond.code ({ cls := "PeerpanelModel", name := "plain", desc := "()I" } : Jvm.MethodName) prog_9_method_38_code (3 : Nat) (Option.some Jvm.ClassFile.FieldType.int)) ∈ lw_all := lw_g (lw_at lw_m6 130 rfl) rfl
theorem q1377 : (Jvm.Cond.instanceMethod ({ cls := "PeerpanelModel", name := "review", desc := "(IIII)I" } : Jvm.MethodName)) ∈ lw_all := lw_g (lw_at lw_m6 132 rfl) rfl
theorem q1378 : (Jvm.Cond.selects "PeerpanelModel" ({ cls := "PeerpanelModel", name := "review", desc := "(IIII)I" } : Jvm.MethodName) ({ cls := "PeerpanelModel", name := "review", desc := "(IIII)I" } : Jvm.MethodName)) ∈ lw_all := lw_g (lw_at lw_m6 133 rfl) rfl
theorem q1379 : (Jvm.Cond.code ({ cls := "PeerpanelModel", name := "review", desc := "(IIII)I" } : Jvm.MethodName) prog_9_method_40_code (5 : Nat) (Option.some Jvm.ClassFile.FieldType.int)) ∈ lw_all := lw_g (lw_at lw_m6 134 rfl) rfl
theorem q1381 : (Jvm.Cond.instanceMethod ({ cls := "PeerpanelModel", name := "reviews", desc := "(I)I" } : Jvm.MethodName)) ∈ lw_all := lw_g (lw_at lw_m6 136 rfl) rfl
theorem q1382 : (Jvm.Cond.selects "PeerpanelModel" ({ cls := "PeerpanelModel", name := "reviews", desc := "(I)I" } : Jvm.MethodName) ({ cls := "PeerpanelModel", name := "reviews", desc := "(I)I" } : Jvm.MethodName)) ∈ lw_all := lw_g (lw_at lw_m6 137 rfl) rfl
theorem q1383 : (Jvm.Cond.code ({ cls := "PeerpanelModel", name := "reviews", desc := "(I)I" } : Jvm.MethodName) prog_9_method_41_code (2 : Nat) (Option.some Jvm.ClassFile.FieldType.int)) ∈ lw_all := lw_g (lw_at lw_m6 138 rfl) rfl
theorem q1385 : (Jvm.Cond.instanceMethod ({ cls := "PeerpanelModel", name := "countsOf", desc := "(II)I" } : Jvm.MethodName)) ∈ lw_all := lw_g (lw_at lw_m6 140 rfl) rfl
theorem q1386 : (Jvm.Cond.selects "PeerpanelModel" ({ cls := "PeerpanelModel", name := "countsOf", desc := "(II)I" } : Jvm.MethodName) ({ cls := "PeerpanelModel", name := "countsOf", desc := "(II)I" } : Jvm.MethodName)) ∈ lw_all := lw_g (lw_at lw_m6 141 rfl) rfl
theorem q1387 : (Jvm.Cond.code ({ cls := "PeerpanelModel", name := "countsOf", desc := "(II)I" } : Jvm.MethodName) prog_9_method_43_code (3 : Nat) (Option.some Jvm.ClassFile.FieldType.int)) ∈ lw_all := lw_g (lw_at lw_m6 142 rfl) rfl
theorem q1389 : (Jvm.Cond.instanceMethod ({ cls := "PeerpanelModel", name := "outliers", desc := "(I)I" } : Jvm.MethodName)) ∈ lw_all := lw_g (lw_at lw_m6 144 rfl) rfl
theorem q1390 : (Jvm.Cond.selects "PeerpanelModel" ({ cls := "PeerpanelModel", name := "outliers", desc := "(I)I" } : Jvm.MethodName) ({ cls := "PeerpanelModel", name := "outliers", desc := "(I)I" } : Jvm.MethodName)) ∈ lw_all := lw_g (lw_at lw_m6 145 rfl) rfl
theorem q1391 : (Jvm.Cond.code ({ cls := "PeerpanelModel", name := "outliers", desc := "(I)I" } : Jvm.MethodName) prog_9_method_49_code (6 : Nat) (Option.some Jvm.ClassFile.FieldType.int)) ∈ lw_all := lw_g (lw_at lw_m6 146 rfl) rfl
theorem q1393 : (Jvm.Cond.instanceMethod ({ cls := "PeerpanelModel", name := "markOf", desc := "(I)I" } : Jvm.MethodName)) ∈ lw_all := lw_g (lw_at lw_m6 148 rfl) rfl
theorem q1394 : (Jvm.Cond.selects "PeerpanelModel" ({ cls := "PeerpanelModel", name := "markOf", desc := "(I)I" } : Jvm.MethodName) ({ cls := "PeerpanelModel", name := "markOf", desc := "(I)I" } : Jvm.MethodName)) ∈ lw_all := lw_g (lw_at lw_m6 149 rfl) rfl
theorem q1395 : (Jvm.Cond.code ({ cls := "PeerpanelModel", name := "markOf", desc := "(I)I" } : Jvm.MethodName) prog_9_method_50_code (2 : Nat) (Option.some Jvm.ClassFile.FieldType.int)) ∈ lw_all := lw_g (lw_at lw_m6 150 rfl) rfl
theorem q1397 : (Jvm.Cond.instanceMethod ({ cls := "PeerpanelModel", name := "placeOf", desc := "(I)I" } : Jvm.MethodName)) ∈ lw_all := lw_g (lw_at lw_m6 152 rfl) rfl
theorem q1398 : (Jvm.Cond.selects "PeerpanelModel" ({ cls := "PeerpanelModel", name := "placeOf", desc := "(I)I" } : Jvm.MethodName) ({ cls := "PeerpanelModel", name := "placeOf", desc := "(I)I" } : Jvm.MethodName)) ∈ lw_all := lw_g (lw_at lw_m6 153 rfl) rfl
theorem q1399 : (Jvm.Cond.code ({ cls := "PeerpanelModel", name := "placeOf", desc := "(I)I" } : Jvm.MethodName) prog_9_method_51_code (4 : Nat) (Option.some Jvm.ClassFile.FieldType.int)) ∈ lw_all := lw_g (lw_at lw_m6 154 rfl) rfl
theorem q1401 : (Jvm.Cond.instanceMethod ({ cls := "PeerpanelModel", name := "gradeOf", desc := "(I)I" } : Jvm.MethodName)) ∈ lw_all := lw_g (lw_at lw_m6 156 rfl) rfl
theorem q1402 : (Jvm.Cond.selects "PeerpanelModel" ({ cls := "PeerpanelModel", name := "gradeOf", desc := "(I)I" } : Jvm.MethodName) ({ cls := "PeerpanelModel", name := "gradeOf", desc := "(I)I" } : Jvm.MethodName)) ∈ lw_all := lw_g (lw_at lw_m6 157 rfl) rfl
theorem q1403 : (Jvm.Cond.code ({ cls := "PeerpanelModel", name := "gradeOf", desc := "(I)I" } : Jvm.MethodName) prog_9_method_52_code (2 : Nat) (Option.some Jvm.ClassFile.FieldType.int)) ∈ lw_all := lw_g (lw_at lw_m6 158 rfl) rfl
theorem q1405 : (Jvm.Cond.instanceMethod ({ cls := "PeerpanelModel", name := "missing", desc := "(I)I" } : Jvm.MethodName)) ∈ lw_all := lw_g (lw_at lw_m6 160 rfl) rfl
theorem q1406 : (Jvm.Cond.selects "PeerpanelModel" ({ cls := "PeerpanelModel", name := "missing", desc := "(I)I" } : Jvm.MethodName) ({ cls := "PeerpanelModel", name := "missing", desc := "(I)I" } : Jvm.MethodName)) ∈ lw_all := lw_g (lw_at lw_m6 161 rfl) rfl
theorem q1407 : (Jvm.Cond.code ({ cls := "PeerpanelModel", name := "missing", desc := "(I)I" } : Jvm.MethodName) prog_9_method_53_code (4 : Nat) (Option.some Jvm.ClassFile.FieldType.int)) ∈ lw_all := lw_g (lw_at lw_m6 162 rfl) rfl
theorem q1409 : (Jvm.Cond.instanceMethod ({ cls := "PeerpanelModel", name := "replace", desc := "(III)I" } : Jvm.MethodName)) ∈ lw_all := lw_g (lw_at lw_m6 164 rfl) rfl
theorem q1410 : (Jvm.Cond.selects "PeerpanelModel" ({ cls := "PeerpanelModel", name := "replace", desc := "(III)I" } : Jvm.MethodName) ({ cls := "PeerpanelModel", name := "replace", desc := "(III)I" } : Jvm.MethodName)) ∈ lw_all := lw_g (lw_at lw_m6 165 rfl) rfl
theorem q1411 : (Jvm.Cond.code ({ cls := "PeerpanelModel", name := "replace", desc := "(III)I" } : Jvm.MethodName) prog_9_method_54_code (6 : Nat) (Option.some Jvm.ClassFile.FieldType.int)) ∈ lw_all := lw_g (lw_at lw_m6 166 rfl) rfl
theorem q1413 : (Jvm.Cond.instanceMethod ({ cls := "PeerpanelModel", name := "appeal", desc := "(I)I" } : Jvm.MethodName)) ∈ lw_all := lw_g (lw_at lw_m6 168 rfl) rfl
theorem q1414 : (Jvm.Cond.selects "PeerpanelModel" ({ cls := "PeerpanelModel", name := "appeal", desc := "(I)I" } : Jvm.MethodName) ({ cls := "PeerpanelModel", name := "appeal", desc := "(I)I" } : Jvm.MethodName)) ∈ lw_all := lw_g (lw_at lw_m6 169 rfl) rfl
theorem q1415 : (Jvm.Cond.code ({ cls := "PeerpanelModel", name := "appeal", desc := "(I)I" } : Jvm.MethodName) prog_9_method_55_code (3 : Nat) (Option.some Jvm.ClassFile.FieldType.int)) ∈ lw_all := lw_g (lw_at lw_m6 170 rfl) rfl
theorem q1417 : (Jvm.Cond.instanceMethod ({ cls := "PeerpanelModel", name := "meanMark", desc := "()D" } : Jvm.MethodName)) ∈ lw_all := lw_g (lw_at lw_m6 172 rfl) rfl
theorem q1418 : (Jvm.Cond.selects "PeerpanelModel" ({ cls := "PeerpanelModel", name := "meanMark", desc := "()D" } : Jvm.MethodName) ({ cls := "PeerpanelModel", name := "meanMark", desc := "()D" } : Jvm.MethodName)) ∈ lw_all := lw_g (lw_at lw_m6 173 rfl) rfl
theorem q1419 : (Jvm.Cond.code ({ cls := "PeerpanelModel", name := "meanMark", desc := "()D" } : Jvm.MethodName) prog_9_method_56_code (4 : Nat) (Option.some Jvm.ClassFile.FieldType.double)) ∈ lw_all := lw_g (lw_at lw_m6 174 rfl) rfl
theorem q1421 : (Jvm.Cond.instanceMethod ({ cls := "PeerpanelModel", name := "lateShare", desc := "()F" } : Jvm.MethodName)) ∈ lw_all := lw_g (lw_at lw_m6 176 rfl) rfl
theorem q1422 : (Jvm.Cond.selects "PeerpanelModel" ({ cls := "PeerpanelModel", name := "lateShare", desc := "()F" } : Jvm.MethodName) ({ cls := "PeerpanelModel", name := "lateShare", desc := "()F" } : Jvm.MethodName)) ∈ lw_all := lw_g (lw_at lw_m6 177 rfl) rfl
theorem q1423 : (Jvm.Cond.code ({ cls := "PeerpanelModel", name := "lateShare", desc := "()F" } : Jvm.MethodName) prog_9_method_57_code (4 : Nat) (Option.some Jvm.ClassFile.FieldType.float)) ∈ lw_all := lw_g (lw_at lw_m6 178 rfl) rfl
theorem q1431 : (Jvm.Cond.castable "PeerpanelModel" "java/lang/Object") ∈ lw_tbl := lw_at lw_m6 186 rfl
theorem in_X2 : ∀ w ∈ wsX20, w ∈ lw_all := lw_in wsX20 [1161, 1163, 1165, 1167, 1169, 1171, 1173, 1175, 1177, 1179, 1181, 1183, 1185, 1187, 1189, 1191, 1193, 1195, 1197, 1199] (by decide +kernel) (by decide +kernel)
