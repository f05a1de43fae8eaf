/-! PeerpanelLaw -/
set_option maxRecDepth 100000
def RX0 : String := "PeerpanelLaw"
abbrev cX0_addPerson : ByteArray := method_3_code
def yX0_addPerson : MethodName := ⟨RX0, "addPerson", "(LPeerpanel;I[J)I"⟩
def dkwX0_addPerson_0 : List UInt8 := [44, 3, 42, 27, 182, 0, 7, 133, 80, 167, 0, 9, 78, 4, 172, 78, 5, 172, 3, 172]
abbrev dktX0_addPerson_0 : List UInt8 := dkwX0_addPerson_0 ++ []
theorem dksX0_addPerson_0 : cX0_addPerson.data.toList.drop 0 = dktX0_addPerson_0 := by decide +kernel
theorem dX0_addPerson_0 : decode cX0_addPerson 0 = .ok (.aload_n 2, 1) := dk_44 (dk_at dksX0_addPerson_0 0 rfl rfl)
theorem dX0_addPerson_1 : decode cX0_addPerson 1 = .ok (.iconst 0, 1) := dk_3 (dk_at dksX0_addPerson_0 1 rfl rfl)
theorem dX0_addPerson_2 : decode cX0_addPerson 2 = .ok (.aload_n 0, 1) := dk_42 (dk_at dksX0_addPerson_0 2 rfl rfl)
theorem dX0_addPerson_3 : decode cX0_addPerson 3 = .ok (.iload_n 1, 1) := dk_27 (dk_at dksX0_addPerson_0 3 rfl rfl)
theorem dX0_addPerson_4 : decode cX0_addPerson 4 = .ok (.invokevirtual 7, 3) := dk_182 0 7 (dk_at dksX0_addPerson_0 4 rfl rfl)
theorem dX0_addPerson_7 : decode cX0_addPerson 7 = .ok (.i2l, 1) := dk_133 (dk_at dksX0_addPerson_0 7 rfl rfl)
theorem dX0_addPerson_8 : decode cX0_addPerson 8 = .ok (.lastore, 1) := dk_80 (dk_at dksX0_addPerson_0 8 rfl rfl)
theorem dX0_addPerson_9 : decode cX0_addPerson 9 = .ok (.goto 9, 3) := dk_167 0 9 (dk_at dksX0_addPerson_0 9 rfl rfl)
theorem dX0_addPerson_12 : decode cX0_addPerson 12 = .ok (.astore_n 3, 1) := dk_78 (dk_at dksX0_addPerson_0 12 rfl rfl)
theorem dX0_addPerson_13 : decode cX0_addPerson 13 = .ok (.iconst 1, 1) := dk_4 (dk_at dksX0_addPerson_0 13 rfl rfl)
theorem dX0_addPerson_14 : decode cX0_addPerson 14 = .ok (.ireturn, 1) := dk_172 (dk_at dksX0_addPerson_0 14 rfl rfl)
theorem dX0_addPerson_15 : decode cX0_addPerson 15 = .ok (.astore_n 3, 1) := dk_78 (dk_at dksX0_addPerson_0 15 rfl rfl)
theorem dX0_addPerson_16 : decode cX0_addPerson 16 = .ok (.iconst 2, 1) := dk_5 (dk_at dksX0_addPerson_0 16 rfl rfl)
theorem dX0_addPerson_17 : decode cX0_addPerson 17 = .ok (.ireturn, 1) := dk_172 (dk_at dksX0_addPerson_0 17 rfl rfl)
theorem dX0_addPerson_18 : decode cX0_addPerson 18 = .ok (.iconst 0, 1) := dk_3 (dk_at dksX0_addPerson_0 18 rfl rfl)
theorem dX0_addPerson_19 : decode cX0_addPerson 19 = .ok (.ireturn, 1) := dk_172 (dk_at dksX0_addPerson_0 19 rfl rfl)
abbrev cX0_handIn : ByteArray := method_4_code
def yX0_handIn : MethodName := ⟨RX0, "handIn", "(LPeerpanel;I[J)I"⟩
def dkwX0_handIn_0 : List UInt8 := [44, 3, 42, 27, 182, 0, 17, 133, 80, 167, 0, 9, 78, 4, 172, 78, 5, 172, 3, 172]
abbrev dktX0_handIn_0 : List UInt8 := dkwX0_handIn_0 ++ []
theorem dksX0_handIn_0 : cX0_handIn.data.toList.drop 0 = dktX0_handIn_0 := by decide +kernel
theorem dX0_handIn_0 : decode cX0_handIn 0 = .ok (.aload_n 2, 1) := dk_44 (dk_at dksX0_handIn_0 0 rfl rfl)
theorem dX0_handIn_1 : decode cX0_handIn 1 = .ok (.iconst 0, 1) := dk_3 (dk_at dksX0_handIn_0 1 rfl rfl)
theorem dX0_handIn_2 : decode cX0_handIn 2 = .ok (.aload_n 0, 1) := dk_42 (dk_at dksX0_handIn_0 2 rfl rfl)
theorem dX0_handIn_3 : decode cX0_handIn 3 = .ok (.iload_n 1, 1) := dk_27 (dk_at dksX0_handIn_0 3 rfl rfl)
theorem dX0_handIn_4 : decode cX0_handIn 4 = .ok (.invokevirtual 17, 3) := dk_182 0 17 (dk_at dksX0_handIn_0 4 rfl rfl)
theorem dX0_handIn_7 : decode cX0_handIn 7 = .ok (.i2l, 1) := dk_133 (dk_at dksX0_handIn_0 7 rfl rfl)
theorem dX0_handIn_8 : decode cX0_handIn 8 = .ok (.lastore, 1) := dk_80 (dk_at dksX0_handIn_0 8 rfl rfl)
theorem dX0_handIn_9 : decode cX0_handIn 9 = .ok (.goto 9, 3) := dk_167 0 9 (dk_at dksX0_handIn_0 9 rfl rfl)
theorem dX0_handIn_12 : decode cX0_handIn 12 = .ok (.astore_n 3, 1) := dk_78 (dk_at dksX0_handIn_0 12 rfl rfl)
theorem dX0_handIn_13 : decode cX0_handIn 13 = .ok (.iconst 1, 1) := dk_4 (dk_at dksX0_handIn_0 13 rfl rfl)
theorem dX0_handIn_14 : decode cX0_handIn 14 = .ok (.ireturn, 1) := dk_172 (dk_at dksX0_handIn_0 14 rfl rfl)
theorem dX0_handIn_15 : decode cX0_handIn 15 = .ok (.astore_n 3, 1) := dk_78 (dk_at dksX0_handIn_0 15 rfl rfl)
theorem dX0_handIn_16 : decode cX0_handIn 16 = .ok (.iconst 2, 1) := dk_5 (dk_at dksX0_handIn_0 16 rfl rfl)
theorem dX0_handIn_17 : decode cX0_handIn 17 = .ok (.ireturn, 1) := dk_172 (dk_at dksX0_handIn_0 17 rfl rfl)
theorem dX0_handIn_18 : decode cX0_handIn 18 = .ok (.iconst 0, 1) := dk_3 (dk_at dksX0_handIn_0 18 rfl rfl)
theorem dX0_handIn_19 : decode cX0_handIn 19 = .ok (.ireturn, 1) := dk_172 (dk_at dksX0_handIn_0 19 rfl rfl)
abbrev cX0_setDue : ByteArray := method_5_code
def yX0_setDue : MethodName := ⟨RX0, "setDue", "(LPeerpanel;I[J)I"⟩
def dkwX0_setDue_0 : List UInt8 := [44, 3, 42, 27, 182, 0, 22, 133, 80, 167, 0, 6, 78, 4, 172, 3, 172]
abbrev dktX0_setDue_0 : List UInt8 := dkwX0_setDue_0 ++ []
theorem dksX0_setDue_0 : cX0_setDue.data.toList.drop 0 = dktX0_setDue_0 := by decide +kernel
theorem dX0_setDue_0 : decode cX0_setDue 0 = .ok (.aload_n 2, 1) := dk_44 (dk_at dksX0_setDue_0 0 rfl rfl)
theorem dX0_setDue_1 : decode cX0_setDue 1 = .ok (.iconst 0, 1) := dk_3 (dk_at dksX0_setDue_0 1 rfl rfl)
theorem dX0_setDue_2 : decode cX0_setDue 2 = .ok (.aload_n 0, 1) := dk_42 (dk_at dksX0_setDue_0 2 rfl rfl)
theorem dX0_setDue_3 : decode cX0_setDue 3 = .ok (.iload_n 1, 1) := dk_27 (dk_at dksX0_setDue_0 3 rfl rfl)
theorem dX0_setDue_4 : decode cX0_setDue 4 = .ok (.invokevirtual 22, 3) := dk_182 0 22 (dk_at dksX0_setDue_0 4 rfl rfl)
theorem dX0_setDue_7 : decode cX0_setDue 7 = .ok (.i2l, 1) := dk_133 (dk_at dksX0_setDue_0 7 rfl rfl)
theorem dX0_setDue_8 : decode cX0_setDue 8 = .ok (.lastore, 1) := dk_80 (dk_at dksX0_setDue_0 8 rfl rfl)
theorem dX0_setDue_9 : decode cX0_setDue 9 = .ok (.goto 6, 3) := dk_167 0 6 (dk_at dksX0_setDue_0 9 rfl rfl)
theorem dX0_setDue_12 : decode cX0_setDue 12 = .ok (.astore_n 3, 1) := dk_78 (dk_at dksX0_setDue_0 12 rfl rfl)
theorem dX0_setDue_13 : decode cX0_setDue 13 = .ok (.iconst 1, 1) := dk_4 (dk_at dksX0_setDue_0 13 rfl rfl)
theorem dX0_setDue_14 : decode cX0_setDue 14 = .ok (.ireturn, 1) := dk_172 (dk_at dksX0_setDue_0 14 rfl rfl)
theorem dX0_setDue_15 : decode cX0_setDue 15 = .ok (.iconst 0, 1) := dk_3 (dk_at dksX0_setDue_0 15 rfl rfl)
theorem dX0_setDue_16 : decode cX0_setDue 16 = .ok (.ireturn, 1) := dk_172 (dk_at dksX0_setDue_0 16 rfl rfl)
abbrev cX0_setTolerance : ByteArray := method_6_code
def yX0_setTolerance : MethodName := ⟨RX0, "setTolerance", "(LPeerpanel;I[J)I"⟩
def dkwX0_setTolerance_0 : List UInt8 := [44, 3, 42, 27, 182, 0, 25, 133, 80, 167, 0, 6, 78, 4, 172, 3, 172]
abbrev dktX0_setTolerance_0 : List UInt8 := dkwX0_setTolerance_0 ++ []
theorem dksX0_setTolerance_0 : cX0_setTolerance.data.toList.drop 0 = dktX0_setTolerance_0 := by decide +kernel
theorem dX0_setTolerance_0 : decode cX0_setTolerance 0 = .ok (.aload_n 2, 1) := dk_44 (dk_at dksX0_setTolerance_0 0 rfl rfl)
theorem dX0_setTolerance_1 : decode cX0_setTolerance 1 = .ok (.iconst 0, 1) := dk_3 (dk_at dksX0_setTolerance_0 1 rfl rfl)
theorem dX0_setTolerance_2 : decode cX0_setTolerance 2 = .ok (.aload_n 0, 1) := dk_42 (dk_at dksX0_setTolerance_0 2 rfl rfl)
theorem dX0_setTolerance_3 : decode cX0_setTolerance 3 = .ok (.iload_n 1, 1) := dk_27 (dk_at dksX0_setTolerance_0 3 rfl rfl)
theorem dX0_setTolerance_4 : decode cX0_setTolerance 4 = .ok (.invokevirtual 25, 3) := dk_182 0 25 (dk_at dksX0_setTolerance_0 4 rfl rfl)
theorem dX0_setTolerance_7 : decode cX0_setTolerance 7 = .ok (.i2l, 1) := dk_133 (dk_at dksX0_setTolerance_0 7 rfl rfl)
theorem dX0_setTolerance_8 : decode cX0_setTolerance 8 = .ok (.lastore, 1) := dk_80 (dk_at dksX0_setTolerance_0 8 rfl rfl)
theorem dX0_setTolerance_9 : decode cX0_setTolerance 9 = .ok (.goto 6, 3) := dk_167 0 6 (dk_at dksX0_setTolerance_0 9 rfl rfl)
theorem dX0_setTolerance_12 : decode cX0_setTolerance 12 = .ok (.astore_n 3, 1) := dk_78 (dk_at dksX0_setTolerance_0 12 rfl rfl)
theorem dX0_setTolerance_13 : decode cX0_setTolerance 13 = .ok (.iconst 1, 1) := dk_4 (dk_at dksX0_setTolerance_0 13 rfl rfl)
theorem dX0_setTolerance_14 : decode cX0_setTolerance 14 = .ok (.ireturn, 1) := dk_172 (dk_at dksX0_setTolerance_0 14 rfl rfl)
theorem dX0_setTolerance_15 : decode cX0_setTolerance 15 = .ok (.iconst 0, 1) := dk_3 (dk_at dksX0_setTolerance_0 15 rfl rfl)
theorem dX0_setTolerance_16 : decode cX0_setTolerance 16 = .ok (.ireturn, 1) := dk_172 (dk_at dksX0_setTolerance_0 16 rfl rfl)
abbrev cX0_share : ByteArray := method_7_code
def yX0_share : MethodName := ⟨RX0, "share", "(LPeerpanel;I[J)I"⟩
def dkwX0_share_0 : List UInt8 := [44, 3, 42, 27, 182, 0, 28, 133, 80, 167, 0, 6, 78, 4, 172, 3, 172]
abbrev dktX0_share_0 : List UInt8 := dkwX0_share_0 ++ []
theorem dksX0_share_0 : cX0_share.data.toList.drop 0 = dktX0_share_0 := by decide +kernel
theorem dX0_share_0 : decode cX0_share 0 = .ok (.aload_n 2, 1) := dk_44 (dk_at dksX0_share_0 0 rfl rfl)
theorem dX0_share_1 : decode cX0_share 1 = .ok (.iconst 0, 1) := dk_3 (dk_at dksX0_share_0 1 rfl rfl)
theorem dX0_share_2 : decode cX0_share 2 = .ok (.aload_n 0, 1) := dk_42 (dk_at dksX0_share_0 2 rfl rfl)
theorem dX0_share_3 : decode cX0_share 3 = .ok (.iload_n 1, 1) := dk_27 (dk_at dksX0_share_0 3 rfl rfl)
theorem dX0_share_4 : decode cX0_share 4 = .ok (.invokevirtual 28, 3) := dk_182 0 28 (dk_at dksX0_share_0 4 rfl rfl)
theorem dX0_share_7 : decode cX0_share 7 = .ok (.i2l, 1) := dk_133 (dk_at dksX0_share_0 7 rfl rfl)
theorem dX0_share_8 : decode cX0_share 8 = .ok (.lastore, 1) := dk_80 (dk_at dksX0_share_0 8 rfl rfl)
theorem dX0_share_9 : decode cX0_share 9 = .ok (.goto 6, 3) := dk_167 0 6 (dk_at dksX0_share_0 9 rfl rfl)
theorem dX0_share_12 : decode cX0_share 12 = .ok (.astore_n 3, 1) := dk_78 (dk_at dksX0_share_0 12 rfl rfl)
theorem dX0_share_13 : decode cX0_share 13 = .ok (.iconst 1, 1) := dk_4 (dk_at dksX0_share_0 13 rfl rfl)
theorem dX0_share_14 : decode cX0_share 14 = .ok (.ireturn, 1) := dk_172 (dk_at dksX0_share_0 14 rfl rfl)
theorem dX0_share_15 : decode cX0_share 15 = .ok (.iconst 0, 1) := dk_3 (dk_at dksX0_share_0 15 rfl rfl)
theorem dX0_share_16 : decode cX0_share 16 = .ok (.ireturn, 1) := dk_172 (dk_at dksX0_share_0 16 rfl rfl)
abbrev cX0_readersOf : ByteArray := method_8_code
def yX0_readersOf : MethodName := ⟨RX0, "readersOf", "(LPeerpanel;I[J)I"⟩
def dkwX0_readersOf_0 : List UInt8 := [44, 3, 42, 27, 182, 0, 31, 133, 80, 167, 0, 6, 78, 4, 172, 3, 172]
abbrev dktX0_readersOf_0 : List UInt8 := dkwX0_readersOf_0 ++ []
theorem dksX0_readersOf_0 : cX0_readersOf.data.toList.drop 0 = dktX0_readersOf_0 := by decide +kernel
theorem dX0_readersOf_0 : decode cX0_readersOf 0 = .ok (.aload_n 2, 1) := dk_44 (dk_at dksX0_readersOf_0 0 rfl rfl)
theorem dX0_readersOf_1 : decode cX0_readersOf 1 = .ok (.iconst 0, 1) := dk_3 (dk_at dksX0_readersOf_0 1 rfl rfl)
theorem dX0_readersOf_2 : decode cX0_readersOf 2 = .ok (.aload_n 0, 1) := dk_42 (dk_at dksX0_readersOf_0 2 rfl rfl)
theorem dX0_readersOf_3 : decode cX0_readersOf 3 = .ok (.iload_n 1, 1) := dk_27 (dk_at dksX0_readersOf_0 3 rfl rfl)
theorem dX0_readersOf_4 : decode cX0_readersOf 4 = .ok (.invokevirtual 31, 3) := dk_182 0 31 (dk_at dksX0_readersOf_0 4 rfl rfl)
theorem dX0_readersOf_7 : decode cX0_readersOf 7 = .ok (.i2l, 1) := dk_133 (dk_at dksX0_readersOf_0 7 rfl rfl)
theorem dX0_readersOf_8 : decode cX0_readersOf 8 = .ok (.lastore, 1) := dk_80 (dk_at dksX0_readersOf_0 8 rfl rfl)
theorem dX0_readersOf_9 : decode cX0_readersOf 9 = .ok (.goto 6, 3) := dk_167 0 6 (dk_at dksX0_readersOf_0 9 rfl rfl)
theorem dX0_readersOf_12 : decode cX0_readersOf 12 = .ok (.astore_n 3, 1) := dk_78 (dk_at dksX0_readersOf_0 12 rfl rfl)
theorem dX0_readersOf_13 : decode cX0_readersOf 13 = .ok (.iconst 1, 1) := dk_4 (dk_at dksX0_readersOf_0 13 rfl rfl)
theorem dX0_readersOf_14 : decode cX0_readersOf 14 = .ok (.ireturn, 1) := dk_172 (dk_at dksX0_readersOf_0 14 rfl rfl)
theorem dX0_readersOf_15 : decode cX0_readersOf 15 = .ok (.iconst 0, 1) := dk_3 (dk_at dksX0_readersOf_0 15 rfl rfl)
theorem dX0_readersOf_16 : decode cX0_readersOf 16 = .ok (.ireturn, 1) := dk_172 (dk_at dksX0_readersOf_0 16 rfl rfl)
abbrev cX0_mayRead : ByteArray := method_9_code
def yX0_mayRead : MethodName := ⟨RX0, "mayRead", "(LPeerpanel;I[J)I"⟩
def dkwX0_mayRead_0 : List UInt8 := [44, 3, 42, 27, 182, 0, 34, 133, 80, 167, 0, 6, 78, 4, 172, 3, 172]
abbrev dktX0_mayRead_0 : List UInt8 := dkwX0_mayRead_0 ++ []
theorem dksX0_mayRead_0 : cX0_mayRead.data.toList.drop 0 = dktX0_mayRead_0 := by decide +kernel
theorem dX0_mayRead_0 : decode cX0_mayRead 0 = .ok (.aload_n 2, 1) := dk_44 (dk_at dksX0_mayRead_0 0 rfl rfl)
theorem dX0_mayRead_1 : decode cX0_mayRead 1 = .ok (.iconst 0, 1) := dk_3 (dk_at dksX0_mayRead_0 1 rfl rfl)
theorem dX0_mayRead_2 : decode cX0_mayRead 2 = .ok (.aload_n 0, 1) := dk_42 (dk_at dksX0_mayRead_0 2 rfl rfl)
theorem dX0_mayRead_3 : decode cX0_mayRead 3 = .ok (.iload_n 1, 1) := dk_27 (dk_at dksX0_mayRead_0 3 rfl rfl)
theorem dX0_mayRead_4 : decode cX0_mayRead 4 = .ok (.invokevirtual 34, 3) := dk_182 0 34 (dk_at dksX0_mayRead_0 4 rfl rfl)
theorem dX0_mayRead_7 : decode cX0_mayRead 7 = .ok (.i2l, 1) := dk_133 (dk_at dksX0_mayRead_0 7 rfl rfl)
theorem dX0_mayRead_8 : decode cX0_mayRead 8 = .ok (.lastore, 1) := dk_80 (dk_at dksX0_mayRead_0 8 rfl rfl)
theorem dX0_mayRead_9 : decode cX0_mayRead 9 = .ok (.goto 6, 3) := dk_167 0 6 (dk_at dksX0_mayRead_0 9 rfl rfl)
theorem dX0_mayRead_12 : decode cX0_mayRead 12 = .ok (.astore_n 3, 1) := dk_78 (dk_at dksX0_mayRead_0 12 rfl rfl)
theorem dX0_mayRead_13 : decode cX0_mayRead 13 = .ok (.iconst 1, 1) := dk_4 (dk_at dksX0_mayRead_0 13 rfl rfl)
theorem dX0_mayRead_14 : decode cX0_mayRead 14 = .ok (.ireturn, 1) := dk_172 (dk_at dksX0_mayRead_0 14 rfl rfl)
theorem dX0_mayRead_15 : decode cX0_mayRead 15 = .ok (.iconst 0, 1) := dk_3 (dk_at dksX0_mayRead_0 15 rfl rfl)
theorem dX0_mayRead_16 : decode cX0_mayRead 16 = .ok (.ireturn, 1) := dk_172 (dk_at dksX0_mayRead_0 16 rfl rfl)
abbrev cX0_loadOf : ByteArray := method_10_code
def yX0_loadOf : MethodName := ⟨RX0, "loadOf", "(LPeerpanel;I[J)I"⟩
def dkwX0_loadOf_0 : List UInt8 := [44, 3, 42, 27, 182, 0, 37, 133, 80, 167, 0, 6, 78, 4, 172, 3, 172]
abbrev dktX0_loadOf_0 : List UInt8 := dkwX0_loadOf_0 ++ []
theorem dksX0_loadOf_0 : cX0_loadOf.data.toList.drop 0 = dktX0_loadOf_0 := by decide +kernel
theorem dX0_loadOf_0 : decode cX0_loadOf 0 = .ok (.aload_n 2, 1) := dk_44 (dk_at dksX0_loadOf_0 0 rfl rfl)
theorem dX0_loadOf_1 : decode cX0_loadOf 1 = .ok (.iconst 0, 1) := dk_3 (dk_at dksX0_loadOf_0 1 rfl rfl)
theorem dX0_loadOf_2 : decode cX0_loadOf 2 = .ok (.aload_n 0, 1) := dk_42 (dk_at dksX0_loadOf_0 2 rfl rfl)
theorem dX0_loadOf_3 : decode cX0_loadOf 3 = .ok (.iload_n 1, 1) := dk_27 (dk_at dksX0_loadOf_0 3 rfl rfl)
theorem dX0_loadOf_4 : decode cX0_loadOf 4 = .ok (.invokevirtual 37, 3) := dk_182 0 37 (dk_at dksX0_loadOf_0 4 rfl rfl)
theorem dX0_loadOf_7 : decode cX0_loadOf 7 = .ok (.i2l, 1) := dk_133 (dk_at dksX0_loadOf_0 7 rfl rfl)
theorem dX0_loadOf_8 : decode cX0_loadOf 8 = .ok (.lastore, 1) := dk_80 (dk_at dksX0_loadOf_0 8 rfl rfl)
theorem dX0_loadOf_9 : decode cX0_loadOf 9 = .ok (.goto 6, 3) := dk_167 0 6 (dk_at dksX0_loadOf_0 9 rfl rfl)
theorem dX0_loadOf_12 : decode cX0_loadOf 12 = .ok (.astore_n 3, 1) := dk_78 (dk_at dksX0_loadOf_0 12 rfl rfl)
theorem dX0_loadOf_13 : decode cX0_loadOf 13 = .ok (.iconst 1, 1) := dk_4 (dk_at dksX0_loadOf_0 13 rfl rfl)
theorem dX0_loadOf_14 : decode cX0_loadOf 14 = .ok (.ireturn, 1) := dk_172 (dk_at dksX0_loadOf_0 14 rfl rfl)
theorem dX0_loadOf_15 : decode cX0_loadOf 15 = .ok (.iconst 0, 1) := dk_3 (dk_at dksX0_loadOf_0 15 rfl rfl)
theorem dX0_loadOf_16 : decode cX0_loadOf 16 = .ok (.ireturn, 1) := dk_172 (dk_at dksX0_loadOf_0 16 rfl rfl)
abbrev cX0_possible : ByteArray := method_11_code
def yX0_possible : MethodName := ⟨RX0, "possible", "(LPeerpanel;II[J)I"⟩
def dkwX0_possible_0 : List UInt8 := [45, 3, 42, 27, 28, 182, 0, 40, 133, 80, 167, 0, 7, 58, 4, 4, 172, 3, 172]
abbrev dktX0_possible_0 : List UInt8 := dkwX0_possible_0 ++ []
theorem dksX0_possible_0 : cX0_possible.data.toList.drop 0 = dktX0_possible_0 := by decide +kernel
theorem dX0_possible_0 : decode cX0_possible 0 = .ok (.aload_n 3, 1) := dk_45 (dk_at dksX0_possible_0 0 rfl rfl)
theorem dX0_possible_1 : decode cX0_possible 1 = .ok (.iconst 0, 1) := dk_3 (dk_at dksX0_possible_0 1 rfl rfl)
theorem dX0_possible_2 : decode cX0_possible 2 = .ok (.aload_n 0, 1) := dk_42 (dk_at dksX0_possible_0 2 rfl rfl)
theorem dX0_possible_3 : decode cX0_possible 3 = .ok (.iload_n 1, 1) := dk_27 (dk_at dksX0_possible_0 3 rfl rfl)
theorem dX0_possible_4 : decode cX0_possible 4 = .ok (.iload_n 2, 1) := dk_28 (dk_at dksX0_possible_0 4 rfl rfl)
theorem dX0_possible_5 : decode cX0_possible 5 = .ok (.invokevirtual 40, 3) := dk_182 0 40 (dk_at dksX0_possible_0 5 rfl rfl)
theorem dX0_possible_8 : decode cX0_possible 8 = .ok (.i2l, 1) := dk_133 (dk_at dksX0_possible_0 8 rfl rfl)
theorem dX0_possible_9 : decode cX0_possible 9 = .ok (.lastore, 1) := dk_80 (dk_at dksX0_possible_0 9 rfl rfl)
theorem dX0_possible_10 : decode cX0_possible 10 = .ok (.goto 7, 3) := dk_167 0 7 (dk_at dksX0_possible_0 10 rfl rfl)
theorem dX0_possible_13 : decode cX0_possible 13 = .ok (.astore 4, 2) := dk_58 4 (dk_at dksX0_possible_0 13 rfl rfl)
theorem dX0_possible_15 : decode cX0_possible 15 = .ok (.iconst 1, 1) := dk_4 (dk_at dksX0_possible_0 15 rfl rfl)
theorem dX0_possible_16 : decode cX0_possible 16 = .ok (.ireturn, 1) := dk_172 (dk_at dksX0_possible_0 16 rfl rfl)
theorem dX0_possible_17 : decode cX0_possible 17 = .ok (.iconst 0, 1) := dk_3 (dk_at dksX0_possible_0 17 rfl rfl)
theorem dX0_possible_18 : decode cX0_possible 18 = .ok (.ireturn, 1) := dk_172 (dk_at dksX0_possible_0 18 rfl rfl)
abbrev cX0_calibrate : ByteArray := method_12_code
def yX0_calibrate : MethodName := ⟨RX0, "calibrate", "(LPeerpanel;III[J)I"⟩
def dkwX0_calibrate_1 : List UInt8 := [58, 5, 6, 172, 3, 172]
abbrev dktX0_calibrate_1 : List UInt8 := dkwX0_calibrate_1 ++ []
def dkwX0_calibrate_0 : List UInt8 := [25, 4, 3, 42, 27, 28, 29, 182, 0, 44, 133, 80, 167, 0, 15, 58, 5, 4, 172, 58, 5, 5, 172]
abbrev dktX0_calibrate_0 : List UInt8 := dkwX0_calibrate_0 ++ dktX0_calibrate_1
theorem dksX0_calibrate_0 : cX0_calibrate.data.toList.drop 0 = dktX0_calibrate_0 := by decide +kernel
theorem dksX0_calibrate_1 : cX0_calibrate.data.toList.drop 23 = dktX0_calibrate_1 := dk_seg dksX0_calibrate_0 23 rfl rfl
theorem dX0_calibrate_0 : decode cX0_calibrate 0 = .ok (.aload 4, 2) := dk_25 4 (dk_at dksX0_calibrate_0 0 rfl rfl)
theorem dX0_calibrate_2 : decode cX0_calibrate 2 = .ok (.iconst 0, 1) := dk_3 (dk_at dksX0_calibrate_0 2 rfl rfl)
theorem dX0_calibrate_3 : decode cX0_calibrate 3 = .ok (.aload_n 0, 1) := dk_42 (dk_at dksX0_calibrate_0 3 rfl rfl)
theorem dX0_calibrate_4 : decode cX0_calibrate 4 = .ok (.iload_n 1, 1) := dk_27 (dk_at dksX0_calibrate_0 4 rfl rfl)
theorem dX0_calibrate_5 : decode cX0_calibrate 5 = .ok (.iload_n 2, 1) := dk_28 (dk_at dksX0_calibrate_0 5 rfl rfl)
theorem dX0_calibrate_6 : decode cX0_calibrate 6 = .ok (.iload_n 3, 1) := dk_29 (dk_at dksX0_calibrate_0 6 rfl rfl)
theorem dX0_calibrate_7 : decode cX0_calibrate 7 = .ok (.invokevirtual 44, 3) := dk_182 0 44 (dk_at dksX0_calibrate_0 7 rfl rfl)
theorem dX0_calibrate_10 : decode cX0_calibrate 10 = .ok (.i2l, 1) := dk_133 (dk_at dksX0_calibrate_0 10 rfl rfl)
theorem dX0_calibrate_11 : decode cX0_calibrate 11 = .ok (.lastore, 1) := dk_80 (dk_at dksX0_calibrate_0 11 rfl rfl)
theorem dX0_calibrate_12 : decode cX0_calibrate 12 = .ok (.goto 15, 3) := dk_167 0 15 (dk_at dksX0_calibrate_0 12 rfl rfl)
theorem dX0_calibrate_15 : decode cX0_calibrate 15 = .ok (.astore 5, 2) := dk_58 5 (dk_at dksX0_calibrate_0 15 rfl rfl)
theorem dX0_calibrate_17 : decode cX0_calibrate 17 = .ok (.iconst 1, 1) := dk_4 (dk_at dksX0_calibrate_0 17 rfl rfl)
theorem dX0_calibrate_18 : decode cX0_calibrate 18 = .ok (.ireturn, 1) := dk_172 (dk_at dksX0_calibrate_0 18 rfl rfl)
theorem dX0_calibrate_19 : decode cX0_calibrate 19 = .ok (.astore 5, 2) := dk_58 5 (dk_at dksX0_calibrate_0 19 rfl rfl)
theorem dX0_calibrate_21 : decode cX0_calibrate 21 = .ok (.iconst 2, 1) := dk_5 (dk_at dksX0_calibrate_0 21 rfl rfl)
theorem dX0_calibrate_22 : decode cX0_calibrate 22 = .ok (.ireturn, 1) := dk_172 (dk_at dksX0_calibrate_0 22 rfl rfl)
theorem dX0_calibrate_23 : decode cX0_calibrate 23 = .ok (.astore 5, 2) := dk_58 5 (dk_at dksX0_calibrate_1 0 rfl rfl)
theorem dX0_calibrate_25 : decode cX0_calibrate 25 = .ok (.iconst 3, 1) := dk_6 (dk_at dksX0_calibrate_1 2 rfl rfl)
theorem dX0_calibrate_26 : decode cX0_calibrate 26 = .ok (.ireturn, 1) := dk_172 (dk_at dksX0_calibrate_1 3 rfl rfl)
theorem dX0_calibrate_27 : decode cX0_calibrate 27 = .ok (.iconst 0, 1) := dk_3 (dk_at dksX0_calibrate_1 4 rfl rfl)
theorem dX0_calibrate_28 : decode cX0_calibrate 28 = .ok (.ireturn, 1) := dk_172 (dk_at dksX0_calibrate_1 5 rfl rfl)
abbrev cX0_weightOf : ByteArray := method_13_code
def yX0_weightOf : MethodName := ⟨RX0, "weightOf", "(LPeerpanel;I[J)I"⟩
def dkwX0_weightOf_0 : List UInt8 := [44, 3, 42, 27, 182, 0, 48, 133, 80, 167, 0, 6, 78, 4, 172, 3, 172]
abbrev dktX0_weightOf_0 : List UInt8 := dkwX0_weightOf_0 ++ []
theorem dksX0_weightOf_0 : cX0_weightOf.data.toList.drop 0 = dktX0_weightOf_0 := by decide +kernel
theorem dX0_weightOf_0 : decode cX0_weightOf 0 = .ok (.aload_n 2, 1) := dk_44 (dk_at dksX0_weightOf_0 0 rfl rfl)
theorem dX0_weightOf_1 : decode cX0_weightOf 1 = .ok (.iconst 0, 1) := dk_3 (dk_at dksX0_weightOf_0 1 rfl rfl)
theorem dX0_weightOf_2 : decode cX0_weightOf 2 = .ok (.aload_n 0, 1) := dk_42 (dk_at dksX0_weightOf_0 2 rfl rfl)
theorem dX0_weightOf_3 : decode cX0_weightOf 3 = .ok (.iload_n 1, 1) := dk_27 (dk_at dksX0_weightOf_0 3 rfl rfl)
theorem dX0_weightOf_4 : decode cX0_weightOf 4 = .ok (.invokevirtual 48, 3) := dk_182 0 48 (dk_at dksX0_weightOf_0 4 rfl rfl)
theorem dX0_weightOf_7 : decode cX0_weightOf 7 = .ok (.i2l, 1) := dk_133 (dk_at dksX0_weightOf_0 7 rfl rfl)
theorem dX0_weightOf_8 : decode cX0_weightOf 8 = .ok (.lastore, 1) := dk_80 (dk_at dksX0_weightOf_0 8 rfl rfl)
theorem dX0_weightOf_9 : decode cX0_weightOf 9 = .ok (.goto 6, 3) := dk_167 0 6 (dk_at dksX0_weightOf_0 9 rfl rfl)
theorem dX0_weightOf_12 : decode cX0_weightOf 12 = .ok (.astore_n 3, 1) := dk_78 (dk_at dksX0_weightOf_0 12 rfl rfl)
theorem dX0_weightOf_13 : decode cX0_weightOf 13 = .ok (.iconst 1, 1) := dk_4 (dk_at dksX0_weightOf_0 13 rfl rfl)
theorem dX0_weightOf_14 : decode cX0_weightOf 14 = .ok (.ireturn, 1) := dk_172 (dk_at dksX0_weightOf_0 14 rfl rfl)
theorem dX0_weightOf_15 : decode cX0_weightOf 15 = .ok (.iconst 0, 1) := dk_3 (dk_at dksX0_weightOf_0 15 rfl rfl)
theorem dX0_weightOf_16 : decode cX0_weightOf 16 = .ok (.ireturn, 1) := dk_172 (dk_at dksX0_weightOf_0 16 rfl rfl)
abbrev cX0_settle : ByteArray := method_14_code
def yX0_settle : MethodName := ⟨RX0, "settle", "(LPeerpanel;I[J)I"⟩
def dkwX0_settle_0 : List UInt8 := [44, 3, 42, 27, 182, 0, 51, 133, 80, 167, 0, 6, 78, 4, 172, 3, 172]
abbrev dktX0_settle_0 : List UInt8 := dkwX0_settle_0 ++ []
theorem dksX0_settle_0 : cX0_settle.data.toList.drop 0 = dktX0_settle_0 := by decide +kernel
theorem dX0_settle_0 : decode cX0_settle 0 = .ok (.aload_n 2, 1) := dk_44 (dk_at dksX0_settle_0 0 rfl rfl)
theorem dX0_settle_1 : decode cX0_settle 1 = .ok (.iconst 0, 1) := dk_3 (dk_at dksX0_settle_0 1 rfl rfl)
theorem dX0_settle_2 : decode cX0_settle 2 = .ok (.aload_n 0, 1) := dk_42 (dk_at dksX0_settle_0 2 rfl rfl)
theorem dX0_settle_3 : decode cX0_settle 3 = .ok (.iload_n 1, 1) := dk_27 (dk_at dksX0_settle_0 3 rfl rfl)
theorem dX0_settle_4 : decode cX0_settle 4 = .ok (.invokevirtual 51, 3) := dk_182 0 51 (dk_at dksX0_settle_0 4 rfl rfl)
theorem dX0_settle_7 : decode cX0_settle 7 = .ok (.i2l, 1) := dk_133 (dk_at dksX0_settle_0 7 rfl rfl)
theorem dX0_settle_8 : decode cX0_settle 8 = .ok (.lastore, 1) := dk_80 (dk_at dksX0_settle_0 8 rfl rfl)
theorem dX0_settle_9 : decode cX0_settle 9 = .ok (.goto 6, 3) := dk_167 0 6 (dk_at dksX0_settle_0 9 rfl rfl)
theorem dX0_settle_12 : decode cX0_settle 12 = .ok (.astore_n 3, 1) := dk_78 (dk_at dksX0_settle_0 12 rfl rfl)
theorem dX0_settle_13 : decode cX0_settle 13 = .ok (.iconst 1, 1) := dk_4 (dk_at dksX0_settle_0 13 rfl rfl)
theorem dX0_settle_14 : decode cX0_settle 14 = .ok (.ireturn, 1) := dk_172 (dk_at dksX0_settle_0 14 rfl rfl)
theorem dX0_settle_15 : decode cX0_settle 15 = .ok (.iconst 0, 1) := dk_3 (dk_at dksX0_settle_0 15 rfl rfl)
theorem dX0_settle_16 : decode cX0_settle 16 = .ok (.ireturn, 1) := dk_172 (dk_at dksX0_settle_0 16 rfl rfl)
abbrev cX0_review : ByteArray := method_15_code
def yX0_review : MethodName := ⟨RX0, "review", "(LPeerpanel;IIII[J)I"⟩
def dkwX0_review_1 : List UInt8 := [172, 58, 6, 6, 172, 3, 172]
abbrev dktX0_review_1 : List UInt8 := dkwX0_review_1 ++ []
def dkwX0_review_0 : List UInt8 := [25, 5, 3, 42, 27, 28, 29, 21, 4, 182, 0, 54, 133, 80, 167, 0, 15, 58, 6, 4, 172, 58, 6, 5]
abbrev dktX0_review_0 : List UInt8 := dkwX0_review_0 ++ dktX0_review_1
theorem dksX0_review_0 : cX0_review.data.toList.drop 0 = dktX0_review_0 := by decide +kernel
theorem dksX0_review_1 : cX0_review.data.toList.drop 24 = dktX0_review_1 := dk_seg dksX0_review_0 24 rfl rfl
theorem dX0_review_0 : decode cX0_review 0 = .ok (.aload 5, 2) := dk_25 5 (dk_at dksX0_review_0 0 rfl rfl)
theorem dX0_review_2 : decode cX0_review 2 = .ok (.iconst 0, 1) := dk_3 (dk_at dksX0_review_0 2 rfl rfl)
theorem dX0_review_3 : decode cX0_review 3 = .ok (.aload_n 0, 1) := dk_42 (dk_at dksX0_review_0 3 rfl rfl)
theorem dX0_review_4 : decode cX0_review 4 = .ok (.iload_n 1, 1) := dk_27 (dk_at dksX0_review_0 4 rfl rfl)
theorem dX0_review_5 : decode cX0_review 5 = .ok (.iload_n 2, 1) := dk_28 (dk_at dksX0_review_0 5 rfl rfl)
theorem dX0_review_6 : decode cX0_review 6 = .ok (.iload_n 3, 1) := dk_29 (dk_at dksX0_review_0 6 rfl rfl)
theorem dX0_review_7 : decode cX0_review 7 = .ok (.iload 4, 2) := dk_21 4 (dk_at dksX0_review_0 7 rfl rfl)
theorem dX0_review_9 : decode cX0_review 9 = .ok (.invokevirtual 54, 3) := dk_182 0 54 (dk_at dksX0_review_0 9 rfl rfl)
theorem dX0_review_12 : decode cX0_review 12 = .ok (.i2l, 1) := dk_133 (dk_at dksX0_review_0 12 rfl rfl)
theorem dX0_review_13 : decode cX0_review 13 = .ok (.lastore, 1) := dk_80 (dk_at dksX0_review_0 13 rfl rfl)
theorem dX0_review_14 : decode cX0_review 14 = .ok (.goto 15, 3) := dk_167 0 15 (dk_at dksX0_review_0 14 rfl rfl)
theorem dX0_review_17 : decode cX0_review 17 = .ok (.astore 6, 2) := dk_58 6 (dk_at dksX0_review_0 17 rfl rfl)
theorem dX0_review_19 : decode cX0_review 19 = .ok (.iconst 1, 1) := dk_4 (dk_at dksX0_review_0 19 rfl rfl)
theorem dX0_review_20 : decode cX0_review 20 = .ok (.ireturn, 1) := dk_172 (dk_at dksX0_review_0 20 rfl rfl)
theorem dX0_review_21 : decode cX0_review 21 = .ok (.astore 6, 2) := dk_58 6 (dk_at dksX0_review_0 21 rfl rfl)
theorem dX0_review_23 : decode cX0_review 23 = .ok (.iconst 2, 1) := dk_5 (dk_at dksX0_review_0 23 rfl rfl)
theorem dX0_review_24 : decode cX0_review 24 = .ok (.ireturn, 1) := dk_172 (dk_at dksX0_review_1 0 rfl rfl)
theorem dX0_review_25 : decode cX0_review 25 = .ok (.astore 6, 2) := dk_58 6 (dk_at dksX0_review_1 1 rfl rfl)
theorem dX0_review_27 : decode cX0_review 27 = .ok (.iconst 3, 1) := dk_6 (dk_at dksX0_review_1 3 rfl rfl)
theorem dX0_review_28 : decode cX0_review 28 = .ok (.ireturn, 1) := dk_172 (dk_at dksX0_review_1 4 rfl rfl)
theorem dX0_review_29 : decode cX0_review 29 = .ok (.iconst 0, 1) := dk_3 (dk_at dksX0_review_1 5 rfl rfl)
theorem dX0_review_30 : decode cX0_review 30 = .ok (.ireturn, 1) := dk_172 (dk_at dksX0_review_1 6 rfl rfl)
abbrev cX0_reviews : ByteArray := method_16_code
def yX0_reviews : MethodName := ⟨RX0, "reviews", "(LPeerpanel;I[J)I"⟩
def dkwX0_reviews_0 : List UInt8 := [44, 3, 42, 27, 182, 0, 58, 133, 80, 167, 0, 6, 78, 4, 172, 3, 172]
abbrev dktX0_reviews_0 : List UInt8 := dkwX0_reviews_0 ++ []
theorem dksX0_reviews_0 : cX0_reviews.data.toList.drop 0 = dktX0_reviews_0 := by decide +kernel
theorem dX0_reviews_0 : decode cX0_reviews 0 = .ok (.aload_n 2, 1) := dk_44 (dk_at dksX0_reviews_0 0 rfl rfl)
theorem dX0_reviews_1 : decode cX0_reviews 1 = .ok (.iconst 0, 1) := dk_3 (dk_at dksX0_reviews_0 1 rfl rfl)
theorem dX0_reviews_2 : decode cX0_reviews 2 = .ok (.aload_n 0, 1) := dk_42 (dk_at dksX0_reviews_0 2 rfl rfl)
theorem dX0_reviews_3 : decode cX0_reviews 3 = .ok (.iload_n 1, 1) := dk_27 (dk_at dksX0_reviews_0 3 rfl rfl)
theorem dX0_reviews_4 : decode cX0_reviews 4 = .ok (.invokevirtual 58, 3) := dk_182 0 58 (dk_at dksX0_reviews_0 4 rfl rfl)
theorem dX0_reviews_7 : decode cX0_reviews 7 = .ok (.i2l, 1) := dk_133 (dk_at dksX0_reviews_0 7 rfl rfl)
theorem dX0_reviews_8 : decode cX0_reviews 8 = .ok (.lastore, 1) := dk_80 (dk_at dksX0_reviews_0 8 rfl rfl)
theorem dX0_reviews_9 : decode cX0_reviews 9 = .ok (.goto 6, 3) := dk_167 0 6 (dk_at dksX0_reviews_0 9 rfl rfl)
theorem dX0_reviews_12 : decode cX0_reviews 12 = .ok (.astore_n 3, 1) := dk_78 (dk_at dksX0_reviews_0 12 rfl rfl)
theorem dX0_reviews_13 : decode cX0_reviews 13 = .ok (.iconst 1, 1) := dk_4 (dk_at dksX0_reviews_0 13 rfl rfl)
theorem dX0_reviews_14 : decode cX0_reviews 14 = .ok (.ireturn, 1) := dk_172 (dk_at dksX0_reviews_0 14 rfl rfl)
theorem dX0_reviews_15 : decode cX0_reviews 15 = .ok (.iconst 0, 1) := dk_3 (dk_at dksX0_reviews_0 15 rfl rfl)
theorem dX0_reviews_16 : decode cX0_reviews 16 = .ok (.ireturn, 1) := dk_172 (dk_at dksX0_reviews_0 16 rfl rfl)
abbrev cX0_countsOf : ByteArray := method_17_code
def yX0_countsOf : MethodName := ⟨RX0, "countsOf", "(LPeerpanel;II[J)I"⟩
def dkwX0_countsOf_0 : List UInt8 := [45, 3, 42, 27, 28, 182, 0, 61, 133, 80, 167, 0, 7, 58, 4, 4, 172, 3, 172]
abbrev dktX0_countsOf_0 : List UInt8 := dkwX0_countsOf_0 ++ []
theorem dksX0_countsOf_0 : cX0_countsOf.data.toList.drop 0 = dktX0_countsOf_0 := by decide +kernel
theorem dX0_countsOf_0 : decode cX0_countsOf 0 = .ok (.aload_n 3, 1) := dk_45 (dk_at dksX0_countsOf_0 0 rfl rfl)
theorem dX0_countsOf_1 : decode cX0_countsOf 1 = .ok (.iconst 0, 1) := dk_3 (dk_at dksX0_countsOf_0 1 rfl rfl)
theorem dX0_countsOf_2 : decode cX0_countsOf 2 = .ok (.aload_n 0, 1) := dk_42 (dk_at dksX0_countsOf_0 2 rfl rfl)
theorem dX0_countsOf_3 : decode cX0_countsOf 3 = .ok (.iload_n 1, 1) := dk_27 (dk_at dksX0_countsOf_0 3 rfl rfl)
theorem dX0_countsOf_4 : decode cX0_countsOf 4 = .ok (.iload_n 2, 1) := dk_28 (dk_at dksX0_countsOf_0 4 rfl rfl)
theorem dX0_countsOf_5 : decode cX0_countsOf 5 = .ok (.invokevirtual 61, 3) := dk_182 0 61 (dk_at dksX0_countsOf_0 5 rfl rfl)
theorem dX0_countsOf_8 : decode cX0_countsOf 8 = .ok (.i2l, 1) := dk_133 (dk_at dksX0_countsOf_0 8 rfl rfl)
theorem dX0_countsOf_9 : decode cX0_countsOf 9 = .ok (.lastore, 1) := dk_80 (dk_at dksX0_countsOf_0 9 rfl rfl)
theorem dX0_countsOf_10 : decode cX0_countsOf 10 = .ok (.goto 7, 3) := dk_167 0 7 (dk_at dksX0_countsOf_0 10 rfl rfl)
theorem dX0_countsOf_13 : decode cX0_countsOf 13 = .ok (.astore 4, 2) := dk_58 4 (dk_at dksX0_countsOf_0 13 rfl rfl)
theorem dX0_countsOf_15 : decode cX0_countsOf 15 = .ok (.iconst 1, 1) := dk_4 (dk_at dksX0_countsOf_0 15 rfl rfl)
theorem dX0_countsOf_16 : decode cX0_countsOf 16 = .ok (.ireturn, 1) := dk_172 (dk_at dksX0_countsOf_0 16 rfl rfl)
theorem dX0_countsOf_17 : decode cX0_countsOf 17 = .ok (.iconst 0, 1) := dk_3 (dk_at dksX0_countsOf_0 17 rfl rfl)
theorem dX0_countsOf_18 : decode cX0_countsOf 18 = .ok (.ireturn, 1) := dk_172 (dk_at dksX0_countsOf_0 18 rfl rfl)
abbrev cX0_outliers : ByteArray := method_18_code
def yX0_outliers : MethodName := ⟨RX0, "outliers", "(LPeerpanel;I[J)I"⟩
def dkwX0_outliers_0 : List UInt8 := [44, 3, 42, 27, 182, 0, 64, 133, 80, 167, 0, 6, 78, 4, 172, 3, 172]
abbrev dktX0_outliers_0 : List UInt8 := dkwX0_outliers_0 ++ []
theorem dksX0_outliers_0 : cX0_outliers.data.toList.drop 0 = dktX0_outliers_0 := by decide +kernel
theorem dX0_outliers_0 : decode cX0_outliers 0 = .ok (.aload_n 2, 1) := dk_44 (dk_at dksX0_outliers_0 0 rfl rfl)
theorem dX0_outliers_1 : decode cX0_outliers 1 = .ok (.iconst 0, 1) := dk_3 (dk_at dksX0_outliers_0 1 rfl rfl)
theorem dX0_outliers_2 : decode cX0_outliers 2 = .ok (.aload_n 0, 1) := dk_42 (dk_at dksX0_outliers_0 2 rfl rfl)
theorem dX0_outliers_3 : decode cX0_outliers 3 = .ok (.iload_n 1, 1) := dk_27 (dk_at dksX0_outliers_0 3 rfl rfl)
theorem dX0_outliers_4 : decode cX0_outliers 4 = .ok (.invokevirtual 64, 3) := dk_182 0 64 (dk_at dksX0_outliers_0 4 rfl rfl)
theorem dX0_outliers_7 : decode cX0_outliers 7 = .ok (.i2l, 1) := dk_133 (dk_at dksX0_outliers_0 7 rfl rfl)
theorem dX0_outliers_8 : decode cX0_outliers 8 = .ok (.lastore, 1) := dk_80 (dk_at dksX0_outliers_0 8 rfl rfl)
theorem dX0_outliers_9 : decode cX0_outliers 9 = .ok (.goto 6, 3) := dk_167 0 6 (dk_at dksX0_outliers_0 9 rfl rfl)
theorem dX0_outliers_12 : decode cX0_outliers 12 = .ok (.astore_n 3, 1) := dk_78 (dk_at dksX0_outliers_0 12 rfl rfl)
theorem dX0_outliers_13 : decode cX0_outliers 13 = .ok (.iconst 1, 1) := dk_4 (dk_at dksX0_outliers_0 13 rfl rfl)
theorem dX0_outliers_14 : decode cX0_outliers 14 = .ok (.ireturn, 1) := dk_172 (dk_at dksX0_outliers_0 14 rfl rfl)
theorem dX0_outliers_15 : decode cX0_outliers 15 = .ok (.iconst 0, 1) := dk_3 (dk_at dksX0_outliers_0 15 rfl rfl)
theorem dX0_outliers_16 : decode cX0_outliers 16 = .ok (.ireturn, 1) := dk_172 (dk_at dksX0_outliers_0 16 rfl rfl)
abbrev cX0_markOf : ByteArray := method_19_code
def yX0_markOf : MethodName := ⟨RX0, "markOf", "(LPeerpanel;I[J)I"⟩
def dkwX0_markOf_0 : List UInt8 := [44, 3, 42, 27, 182, 0, 67, 133, 80, 167, 0, 9, 78, 4, 172, 78, 5, 172, 3, 172]
abbrev dktX0_markOf_0 : List UInt8 := dkwX0_markOf_0 ++ []
theorem dksX0_markOf_0 : cX0_markOf.data.toList.drop 0 = dktX0_markOf_0 := by decide +kernel
theorem dX0_markOf_0 : decode cX0_markOf 0 = .ok (.aload_n 2, 1) := dk_44 (dk_at dksX0_markOf_0 0 rfl rfl)
theorem dX0_markOf_1 : decode cX0_markOf 1 = .ok (.iconst 0, 1) := dk_3 (dk_at dksX0_markOf_0 1 rfl rfl)
theorem dX0_markOf_2 : decode cX0_markOf 2 = .ok (.aload_n 0, 1) := dk_42 (dk_at dksX0_markOf_0 2 rfl rfl)
theorem dX0_markOf_3 : decode cX0_markOf 3 = .ok (.iload_n 1, 1) := dk_27 (dk_at dksX0_markOf_0 3 rfl rfl)
theorem dX0_markOf_4 : decode cX0_markOf 4 = .ok (.invokevirtual 67, 3) := dk_182 0 67 (dk_at dksX0_markOf_0 4 rfl rfl)
theorem dX0_markOf_7 : decode cX0_markOf 7 = .ok (.i2l, 1) := dk_133 (dk_at dksX0_markOf_0 7 rfl rfl)
theorem dX0_markOf_8 : decode cX0_markOf 8 = .ok (.lastore, 1) := dk_80 (dk_at dksX0_markOf_0 8 rfl rfl)
theorem dX0_markOf_9 : decode cX0_markOf 9 = .ok (.goto 9, 3) := dk_167 0 9 (dk_at dksX0_markOf_0 9 rfl rfl)
theorem dX0_markOf_12 : decode cX0_markOf 12 = .ok (.astore_n 3, 1) := dk_78 (dk_at dksX0_markOf_0 12 rfl rfl)
theorem dX0_markOf_13 : decode cX0_markOf 13 = .ok (.iconst 1, 1) := dk_4 (dk_at dksX0_markOf_0 13 rfl rfl)
theorem dX0_markOf_14 : decode cX0_markOf 14 = .ok (.ireturn, 1) := dk_172 (dk_at dksX0_markOf_0 14 rfl rfl)
theorem dX0_markOf_15 : decode cX0_markOf 15 = .ok (.astore_n 3, 1) := dk_78 (dk_at dksX0_markOf_0 15 rfl rfl)
theorem dX0_markOf_16 : decode cX0_markOf 16 = .ok (.iconst 2, 1) := dk_5 (dk_at dksX0_markOf_0 16 rfl rfl)
theorem dX0_markOf_17 : decode cX0_markOf 17 = .ok (.ireturn, 1) := dk_172 (dk_at dksX0_markOf_0 17 rfl rfl)
theorem dX0_markOf_18 : decode cX0_markOf 18 = .ok (.iconst 0, 1) := dk_3 (dk_at dksX0_markOf_0 18 rfl rfl)
theorem dX0_markOf_19 : decode cX0_markOf 19 = .ok (.ireturn, 1) := dk_172 (dk_at dksX0_markOf_0 19 rfl rfl)
abbrev cX0_placeOf : ByteArray := method_20_code
def yX0_placeOf : MethodName := ⟨RX0, "placeOf", "(LPeerpanel;I[J)I"⟩
def dkwX0_placeOf_0 : List UInt8 := [44, 3, 42, 27, 182, 0, 72, 133, 80, 167, 0, 9, 78, 4, 172, 78, 5, 172, 3, 172]
abbrev dktX0_placeOf_0 : List UInt8 := dkwX0_placeOf_0 ++ []
theorem dksX0_placeOf_0 : cX0_placeOf.data.toList.drop 0 = dktX0_placeOf_0 := by decide +kernel
theorem dX0_placeOf_0 : decode cX0_placeOf 0 = .ok (.aload_n 2, 1) := dk_44 (dk_at dksX0_placeOf_0 0 rfl rfl)
theorem dX0_placeOf_1 : decode cX0_placeOf 1 = .ok (.iconst 0, 1) := dk_3 (dk_at dksX0_placeOf_0 1 rfl rfl)
theorem dX0_placeOf_2 : decode cX0_placeOf 2 = .ok (.aload_n 0, 1) := dk_42 (dk_at dksX0_placeOf_0 2 rfl rfl)
theorem dX0_placeOf_3 : decode cX0_placeOf 3 = .ok (.iload_n 1, 1) := dk_27 (dk_at dksX0_placeOf_0 3 rfl rfl)
theorem dX0_placeOf_4 : decode cX0_placeOf 4 = .ok (.invokevirtual 72, 3) := dk_182 0 72 (dk_at dksX0_placeOf_0 4 rfl rfl)
theorem dX0_placeOf_7 : decode cX0_placeOf 7 = .ok (.i2l, 1) := dk_133 (dk_at dksX0_placeOf_0 7 rfl rfl)
theorem dX0_placeOf_8 : decode cX0_placeOf 8 = .ok (.lastore, 1) := dk_80 (dk_at dksX0_placeOf_0 8 rfl rfl)
theorem dX0_placeOf_9 : decode cX0_placeOf 9 = .ok (.goto 9, 3) := dk_167 0 9 (dk_at dksX0_placeOf_0 9 rfl rfl)
theorem dX0_placeOf_12 : decode cX0_placeOf 12 = .ok (.astore_n 3, 1) := dk_78 (dk_at dksX0_placeOf_0 12 rfl rfl)
theorem dX0_placeOf_13 : decode cX0_placeOf 13 = .ok (.iconst 1, 1) := dk_4 (dk_at dksX0_placeOf_0 13 rfl rfl)
theorem dX0_placeOf_14 : decode cX0_placeOf 14 = .ok (.ireturn, 1) := dk_172 (dk_at dksX0_placeOf_0 14 rfl rfl)
theorem dX0_placeOf_15 : decode cX0_placeOf 15 = .ok (.astore_n 3, 1) := dk_78 (dk_at dksX0_placeOf_0 15 rfl rfl)
theorem dX0_placeOf_16 : decode cX0_placeOf 16 = .ok (.iconst 2, 1) := dk_5 (dk_at dksX0_placeOf_0 16 rfl rfl)
theorem dX0_placeOf_17 : decode cX0_placeOf 17 = .ok (.ireturn, 1) := dk_172 (dk_at dksX0_placeOf_0 17 rfl rfl)
theorem dX0_placeOf_18 : decode cX0_placeOf 18 = .ok (.iconst 0, 1) := dk_3 (dk_at dksX0_placeOf_0 18 rfl rfl)
theorem dX0_placeOf_19 : decode cX0_placeOf 19 = .ok (.ireturn, 1) := dk_172 (dk_at dksX0_placeOf_0 19 rfl rfl)
abbrev cX0_gradeOf : ByteArray := method_21_code
def yX0_gradeOf : MethodName := ⟨RX0, "gradeOf", "(LPeerpanel;I[J)I"⟩
def dkwX0_gradeOf_0 : List UInt8 := [44, 3, 42, 27, 182, 0, 75, 133, 80, 167, 0, 6, 78, 4, 172, 3, 172]
abbrev dktX0_gradeOf_0 : List UInt8 := dkwX0_gradeOf_0 ++ []
theorem dksX0_gradeOf_0 : cX0_gradeOf.data.toList.drop 0 = dktX0_gradeOf_0 := by decide +kernel
theorem dX0_gradeOf_0 : decode cX0_gradeOf 0 = .ok (.aload_n 2, 1) := dk_44 (dk_at dksX0_gradeOf_0 0 rfl rfl)
theorem dX0_gradeOf_1 : decode cX0_gradeOf 1 = .ok (.iconst 0, 1) := dk_3 (dk_at dksX0_gradeOf_0 1 rfl rfl)
theorem dX0_gradeOf_2 : decode cX0_gradeOf 2 = .ok (.aload_n 0, 1) := dk_42 (dk_at dksX0_gradeOf_0 2 rfl rfl)
theorem dX0_gradeOf_3 : decode cX0_gradeOf 3 = .ok (.iload_n 1, 1) := dk_27 (dk_at dksX0_gradeOf_0 3 rfl rfl)
theorem dX0_gradeOf_4 : decode cX0_gradeOf 4 = .ok (.invokevirtual 75, 3) := dk_182 0 75 (dk_at dksX0_gradeOf_0 4 rfl rfl)
theorem dX0_gradeOf_7 : decode cX0_gradeOf 7 = .ok (.i2l, 1) := dk_133 (dk_at dksX0_gradeOf_0 7 rfl rfl)
theorem dX0_gradeOf_8 : decode cX0_gradeOf 8 = .ok (.lastore, 1) := dk_80 (dk_at dksX0_gradeOf_0 8 rfl rfl)
theorem dX0_gradeOf_9 : decode cX0_gradeOf 9 = .ok (.goto 6, 3) := dk_167 0 6 (dk_at dksX0_gradeOf_0 9 rfl rfl)
theorem dX0_gradeOf_12 : decode cX0_gradeOf 12 = .ok (.astore_n 3, 1) := dk_78 (dk_at dksX0_gradeOf_0 12 rfl rfl)
theorem dX0_gradeOf_13 : decode cX0_gradeOf 13 = .ok (.iconst 1, 1) := dk_4 (dk_at dksX0_gradeOf_0 13 rfl rfl)
theorem dX0_gradeOf_14 : decode cX0_gradeOf 14 = .ok (.ireturn, 1) := dk_172 (dk_at dksX0_gradeOf_0 14 rfl rfl)
theorem dX0_gradeOf_15 : decode cX0_gradeOf 15 = .ok (.iconst 0, 1) := dk_3 (dk_at dksX0_gradeOf_0 15 rfl rfl)
theorem dX0_gradeOf_16 : decode cX0_gradeOf 16 = .ok (.ireturn, 1) := dk_172 (dk_at dksX0_gradeOf_0 16 rfl rfl)
abbrev cX0_missing : ByteArray := method_22_code
def yX0_missing : MethodName := ⟨RX0, "missing", "(LPeerpanel;I[J)I"⟩
def dkwX0_missing_0 : List UInt8 := [44, 3, 42, 27, 182, 0, 78, 133, 80, 167, 0, 6, 78, 4, 172, 3, 172]
abbrev dktX0_missing_0 : List UInt8 := dkwX0_missing_0 ++ []
theorem dksX0_missing_0 : cX0_missing.data.toList.drop 0 = dktX0_missing_0 := by decide +kernel
theorem dX0_missing_0 : decode cX0_missing 0 = .ok (.aload_n 2, 1) := dk_44 (dk_at dksX0_missing_0 0 rfl rfl)
theorem dX0_missing_1 : decode cX0_missing 1 = .ok (.iconst 0, 1) := dk_3 (dk_at dksX0_missing_0 1 rfl rfl)
theorem dX0_missing_2 : decode cX0_missing 2 = .ok (.aload_n 0, 1) := dk_42 (dk_at dksX0_missing_0 2 rfl rfl)
theorem dX0_missing_3 : decode cX0_missing 3 = .ok (.iload_n 1, 1) := dk_27 (dk_at dksX0_missing_0 3 rfl rfl)
theorem dX0_missing_4 : decode cX0_missing 4 = .ok (.invokevirtual 78, 3) := dk_182 0 78 (dk_at dksX0_missing_0 4 rfl rfl)
theorem dX0_missing_7 : decode cX0_missing 7 = .ok (.i2l, 1) := dk_133 (dk_at dksX0_missing_0 7 rfl rfl)
theorem dX0_missing_8 : decode cX0_missing 8 = .ok (.lastore, 1) := dk_80 (dk_at dksX0_missing_0 8 rfl rfl)
theorem dX0_missing_9 : decode cX0_missing 9 = .ok (.goto 6, 3) := dk_167 0 6 (dk_at dksX0_missing_0 9 rfl rfl)
theorem dX0_missing_12 : decode cX0_missing 12 = .ok (.astore_n 3, 1) := dk_78 (dk_at dksX0_missing_0 12 rfl rfl)
theorem dX0_missing_13 : decode cX0_missing 13 = .ok (.iconst 1, 1) := dk_4 (dk_at dksX0_missing_0 13 rfl rfl)
theorem dX0_missing_14 : decode cX0_missing 14 = .ok (.ireturn, 1) := dk_172 (dk_at dksX0_missing_0 14 rfl rfl)
theorem dX0_missing_15 : decode cX0_missing 15 = .ok (.iconst 0, 1) := dk_3 (dk_at dksX0_missing_0 15 rfl rfl)
theorem dX0_missing_16 : decode cX0_missing 16 = .ok (.ireturn, 1) := dk_172 (dk_at dksX0_missing_0 16 rfl rfl)
abbrev cX0_replace : ByteArray := method_23_code
def yX0_replace : MethodName := ⟨RX0, "replace", "(LPeerpanel;III[J)I"⟩
def dkwX0_replace_1 : List UInt8 := [58, 5, 6, 172, 3, 172]
abbrev dktX0_replace_1 : List UInt8 := dkwX0_replace_1 ++ []
def dkwX0_replace_0 : List UInt8 := [25, 4, 3, 42, 27, 28, 29, 182, 0, 81, 133, 80, 167, 0, 15, 58, 5, 4, 172, 58, 5, 5, 172]
abbrev dktX0_replace_0 : List UInt8 := dkwX0_replace_0 ++ dktX0_replace_1
theorem dksX0_replace_0 : cX0_replace.data.toList.drop 0 = dktX0_replace_0 := by decide +kernel
theorem dksX0_replace_1 : cX0_replace.data.toList.drop 23 = dktX0_replace_1 := dk_seg dksX0_replace_0 23 rfl rfl
theorem dX0_replace_0 : decode cX0_replace 0 = .ok (.aload 4, 2) := dk_25 4 (dk_at dksX0_replace_0 0 rfl rfl)
theorem dX0_replace_2 : decode cX0_replace 2 = .ok (.iconst 0, 1) := dk_3 (dk_at dksX0_replace_0 2 rfl rfl)
theorem dX0_replace_3 : decode cX0_replace 3 = .ok (.aload_n 0, 1) := dk_42 (dk_at dksX0_replace_0 3 rfl rfl)
theorem dX0_replace_4 : decode cX0_replace 4 = .ok (.iload_n 1, 1) := dk_27 (dk_at dksX0_replace_0 4 rfl rfl)
theorem dX0_replace_5 : decode cX0_replace 5 = .ok (.iload_n 2, 1) := dk_28 (dk_at dksX0_replace_0 5 rfl rfl)
theorem dX0_replace_6 : decode cX0_replace 6 = .ok (.iload_n 3, 1) := dk_29 (dk_at dksX0_replace_0 6 rfl rfl)
theorem dX0_replace_7 : decode cX0_replace 7 = .ok (.invokevirtual 81, 3) := dk_182 0 81 (dk_at dksX0_replace_0 7 rfl rfl)
theorem dX0_replace_10 : decode cX0_replace 10 = .ok (.i2l, 1) := dk_133 (dk_at dksX0_replace_0 10 rfl rfl)
theorem dX0_replace_11 : decode cX0_replace 11 = .ok (.lastore, 1) := dk_80 (dk_at dksX0_replace_0 11 rfl rfl)
theorem dX0_replace_12 : decode cX0_replace 12 = .ok (.goto 15, 3) := dk_167 0 15 (dk_at dksX0_replace_0 12 rfl rfl)
theorem dX0_replace_15 : decode cX0_replace 15 = .ok (.astore 5, 2) := dk_58 5 (dk_at dksX0_replace_0 15 rfl rfl)
theorem dX0_replace_17 : decode cX0_replace 17 = .ok (.iconst 1, 1) := dk_4 (dk_at dksX0_replace_0 17 rfl rfl)
theorem dX0_replace_18 : decode cX0_replace 18 = .ok (.ireturn, 1) := dk_172 (dk_at dksX0_replace_0 18 rfl rfl)
theorem dX0_replace_19 : decode cX0_replace 19 = .ok (.astore 5, 2) := dk_58 5 (dk_at dksX0_replace_0 19 rfl rfl)
theorem dX0_replace_21 : decode cX0_replace 21 = .ok (.iconst 2, 1) := dk_5 (dk_at dksX0_replace_0 21 rfl rfl)
theorem dX0_replace_22 : decode cX0_replace 22 = .ok (.ireturn, 1) := dk_172 (dk_at dksX0_replace_0 22 rfl rfl)
theorem dX0_replace_23 : decode cX0_replace 23 = .ok (.astore 5, 2) := dk_58 5 (dk_at dksX0_replace_1 0 rfl rfl)
theorem dX0_replace_25 : decode cX0_replace 25 = .ok (.iconst 3, 1) := dk_6 (dk_at dksX0_replace_1 2 rfl rfl)
theorem dX0_replace_26 : decode cX0_replace 26 = .ok (.ireturn, 1) := dk_172 (dk_at dksX0_replace_1 3 rfl rfl)
theorem dX0_replace_27 : decode cX0_replace 27 = .ok (.iconst 0, 1) := dk_3 (dk_at dksX0_replace_1 4 rfl rfl)
theorem dX0_replace_28 : decode cX0_replace 28 = .ok (.ireturn, 1) := dk_172 (dk_at dksX0_replace_1 5 rfl rfl)
abbrev cX0_appeal : ByteArray := method_24_code
def yX0_appeal : MethodName := ⟨RX0, "appeal", "(LPeerpanel;I[J)I"⟩
def dkwX0_appeal_0 : List UInt8 := [44, 3, 42, 27, 182, 0, 84, 133, 80, 167, 0, 12, 78, 4, 172, 78, 5, 172, 78, 6, 172, 3, 172]
abbrev dktX0_appeal_0 : List UInt8 := dkwX0_appeal_0 ++ []
theorem dksX0_appeal_0 : cX0_appeal.data.toList.drop 0 = dktX0_appeal_0 := by decide +kernel
theorem dX0_appeal_0 : decode cX0_appeal 0 = .ok (.aload_n 2, 1) := dk_44 (dk_at dksX0_appeal_0 0 rfl rfl)
theorem dX0_appeal_1 : decode cX0_appeal 1 = .ok (.iconst 0, 1) := dk_3 (dk_at dksX0_appeal_0 1 rfl rfl)
theorem dX0_appeal_2 : decode cX0_appeal 2 = .ok (.aload_n 0, 1) := dk_42 (dk_at dksX0_appeal_0 2 rfl rfl)
theorem dX0_appeal_3 : decode cX0_appeal 3 = .ok (.iload_n 1, 1) := dk_27 (dk_at dksX0_appeal_0 3 rfl rfl)
theorem dX0_appeal_4 : decode cX0_appeal 4 = .ok (.invokevirtual 84, 3) := dk_182 0 84 (dk_at dksX0_appeal_0 4 rfl rfl)
theorem dX0_appeal_7 : decode cX0_appeal 7 = .ok (.i2l, 1) := dk_133 (dk_at dksX0_appeal_0 7 rfl rfl)
theorem dX0_appeal_8 : decode cX0_appeal 8 = .ok (.lastore, 1) := dk_80 (dk_at dksX0_appeal_0 8 rfl rfl)
theorem dX0_appeal_9 : decode cX0_appeal 9 = .ok (.goto 12, 3) := dk_167 0 12 (dk_at dksX0_appeal_0 9 rfl rfl)
theorem dX0_appeal_12 : decode cX0_appeal 12 = .ok (.astore_n 3, 1) := dk_78 (dk_at dksX0_appeal_0 12 rfl rfl)
theorem dX0_appeal_13 : decode cX0_appeal 13 = .ok (.iconst 1, 1) := dk_4 (dk_at dksX0_appeal_0 13 rfl rfl)
theorem dX0_appeal_14 : decode cX0_appeal 14 = .ok (.ireturn, 1) := dk_172 (dk_at dksX0_appeal_0 14 rfl rfl)
theorem dX0_appeal_15 : decode cX0_appeal 15 = .ok (.astore_n 3, 1) := dk_78 (dk_at dksX0_appeal_0 15 rfl rfl)
theorem dX0_appeal_16 : decode cX0_appeal 16 = .ok (.iconst 2, 1) := dk_5 (dk_at dksX0_appeal_0 16 rfl rfl)
theorem dX0_appeal_17 : decode cX0_appeal 17 = .ok (.ireturn, 1) := dk_172 (dk_at dksX0_appeal_0 17 rfl rfl)
theorem dX0_appeal_18 : decode cX0_appeal 18 = .ok (.astore_n 3, 1) := dk_78 (dk_at dksX0_appeal_0 18 rfl rfl)
theorem dX0_appeal_19 : decode cX0_appeal 19 = .ok (.iconst 3, 1) := dk_6 (dk_at dksX0_appeal_0 19 rfl rfl)
theorem dX0_appeal_20 : decode cX0_appeal 20 = .ok (.ireturn, 1) := dk_172 (dk_at dksX0_appeal_0 20 rfl rfl)
theorem dX0_appeal_21 : decode cX0_appeal 21 = .ok (.iconst 0, 1) := dk_3 (dk_at dksX0_appeal_0 21 rfl rfl)
theorem dX0_appeal_22 : decode cX0_appeal 22 = .ok (.ireturn, 1) := dk_172 (dk_at dksX0_appeal_0 22 rfl rfl)
theorem q45 : (Jvm.Cond.initialized "PeerpanelLaw") ∈ lw_all := lw_g (lw_at lw_m1 0 rfl) rfl
theorem q80 : (Jvm.Cond.classLink "PeerpanelLaw" (8 : Nat) "Peerpanel") ∈ lw_all := lw_g (lw_at lw_m1 35 rfl) rfl
theorem q82 : (Jvm.Cond.methodLink "PeerpanelLaw" (87 : Nat) ({ cls := "Peerpanel", name := "<init>", desc := "()V" } : Jvm.MethodName)) ∈ lw_all := lw_g (lw_at lw_m1 37 rfl) rfl
theorem q141 : (Jvm.Cond.methodLink "PeerpanelLaw" (113 : Nat) ({ cls := "Peerpanel", name := "people", desc := "()I" } : Jvm.MethodName)) ∈ lw_all := lw_g (lw_at lw_m1 96 rfl) rfl
theorem q149 : (Jvm.Cond.methodLink "PeerpanelLaw" (117 : Nat) ({ cls := "Peerpanel", name := "works", desc := "()I" } : Jvm.MethodName)) ∈ lw_all := lw_g (lw_at lw_m1 104 rfl) rfl
theorem q288 : (Jvm.Cond.methodLink "PeerpanelLaw" (144 : Nat) ({ cls := "Peerpanel", name := "plain", desc := "()I" } : Jvm.MethodName)) ∈ lw_all := lw_g (lw_at lw_m2 3 rfl) rfl
theorem q321 : (Jvm.Cond.methodLink "PeerpanelLaw" (179 : Nat) ({ cls := "Peerpanel", name := "meanMark", desc := "()D" } : Jvm.MethodName)) ∈ lw_all := lw_g (lw_at lw_m2 36 rfl) rfl
theorem q438 : (Jvm.Cond.methodLink "PeerpanelLaw" (184 : Nat) ({ cls := "Peerpanel", name := "lateShare", desc := "()F" } : Jvm.MethodName)) ∈ lw_all := lw_g (lw_at lw_m2 153 rfl) rfl
theorem q448 : (Jvm.Cond.methodLink "PeerpanelLaw" (91 : Nat) ({ cls := "PeerpanelLaw", name := "addPerson", desc := "(LPeerpanel;I[J)I" } : Jvm.MethodName)) ∈ lw_all := lw_g (lw_at lw_m2 163 rfl) rfl
theorem q449 : (Jvm.Cond.static ({ cls := "PeerpanelLaw", name := "addPerson", desc := "(LPeerpanel;I[J)I" } : Jvm.MethodName)) ∈ lw_all := lw_g (lw_at lw_m2 164 rfl) rfl
theorem q450 : (Jvm.Cond.codeWith ({ cls := "PeerpanelLaw", name := "addPerson", desc := "(LPeerpanel;I[J)I" } : Jvm.MethodName) method_3_code (4 : Nat) (Option.some Jvm.ClassFile.FieldType.int) [((0 : Nat), (9 : Nat), (12 : Nat), (13 : Nat)), ((0 : Nat), (9 : Nat), (15 : Nat), (15 : Nat))]) ∈ lw_all := lw_g (lw_at lw_m2 165 rfl) rfl
theorem q451 : (Jvm.Cond.classLink "PeerpanelLaw" (13 : Nat) "java/lang/IllegalArgumentException") ∈ lw_all := lw_g (lw_at lw_m2 166 rfl) rfl
theorem q452 : (Jvm.Cond.classLink "PeerpanelLaw" (15 : Nat) "java/lang/IllegalStateException") ∈ lw_all := lw_g (lw_at lw_m2 167 rfl) rfl
theorem q453 : (Jvm.Cond.methodLink "PeerpanelLaw" (7 : Nat) ({ cls := "Peerpanel", name := "addPerson", desc := "(I)I" } : Jvm.MethodName)) ∈ lw_all := lw_g (lw_at lw_m2 168 rfl) rfl
theorem q599 : (Jvm.Cond.methodLink "PeerpanelLaw" (101 : Nat) ({ cls := "PeerpanelLaw", name := "handIn", desc := "(LPeerpanel;I[J)I" } : Jvm.MethodName)) ∈ lw_all := lw_g (lw_at lw_m3 74 rfl) rfl
theorem q600 : (Jvm.Cond.static ({ cls := "PeerpanelLaw", name := "handIn", desc := "(LPeerpanel;I[J)I" } : Jvm.MethodName)) ∈ lw_all := lw_g (lw_at lw_m3 75 rfl) rfl
theorem q601 : (Jvm.Cond.codeWith ({ cls := "PeerpanelLaw", name := "handIn", desc := "(LPeerpanel;I[J)I" } : Jvm.MethodName) method_4_code (4 : Nat) (Option.some Jvm.ClassFile.FieldType.int) [((0 : Nat), (9 : Nat), (12 : Nat), (20 : Nat)), ((0 : Nat), (9 : Nat), (15 : Nat), (15 : Nat))]) ∈ lw_all := lw_g (lw_at lw_m3 76 rfl) rfl
theorem q602 : (Jvm.Cond.classLink "PeerpanelLaw" (20 : Nat) "java/lang/IndexOutOfBoundsException") ∈ lw_all := lw_g (lw_at lw_m3 77 rfl) rfl
theorem q635 : (Jvm.Cond.methodLink "PeerpanelLaw" (17 : Nat) ({ cls := "Peerpanel", name := "handIn", desc := "(I)I" } : Jvm.MethodName)) ∈ lw_all := lw_g (lw_at lw_m3 110 rfl) rfl
theorem q728 : (Jvm.Cond.methodLink "PeerpanelLaw" (104 : Nat) ({ cls := "PeerpanelLaw", name := "setDue", desc := "(LPeerpanel;I[J)I" } : Jvm.MethodName)) ∈ lw_all := lw_g (lw_at lw_m3 203 rfl) rfl
theorem q729 : (Jvm.Cond.static ({ cls := "PeerpanelLaw", name := "setDue", desc := "(LPeerpanel;I[J)I" } : Jvm.MethodName)) ∈ lw_all := lw_g (lw_at lw_m3 204 rfl) rfl
theorem q730 : (Jvm.Cond.codeWith ({ cls := "PeerpanelLaw", name := "setDue", desc := "(LPeerpanel;I[J)I" } : Jvm.MethodName) method_5_code (4 : Nat) (Option.some Jvm.ClassFile.FieldType.int) [((0 : Nat), (9 : Nat), (12 : Nat), (13 : Nat))]) ∈ lw_all := lw_g (lw_at lw_m3 205 rfl) rfl
theorem q731 : (Jvm.Cond.methodLink "PeerpanelLaw" (22 : Nat) ({ cls := "Peerpanel", name := "setDue", desc := "(I)I" } : Jvm.MethodName)) ∈ lw_all := lw_g (lw_at lw_m3 206 rfl) rfl
theorem q735 : (Jvm.Cond.methodLink "PeerpanelLaw" (107 : Nat) ({ cls := "PeerpanelLaw", name := "setTolerance", desc := "(LPeerpanel;I[J)I" } : Jvm.MethodName)) ∈ lw_all := lw_g (lw_at lw_m3 210 rfl) rfl
theorem q736 : (Jvm.Cond.static ({ cls := "PeerpanelLaw", name := "setTolerance", desc := "(LPeerpanel;I[J)I" } : Jvm.MethodName)) ∈ lw_all := lw_g (lw_at lw_m3 211 rfl) rfl
theorem q737 : (Jvm.Cond.codeWith ({ cls := "PeerpanelLaw", name := "setTolerance", desc := "(LPeerpanel;I[J)I" } : Jvm.MethodName) method_6_code (4 : Nat) (Option.some Jvm.ClassFile.FieldType.int) [((0 : Nat), (9 : Nat), (12 : Nat), (13 : Nat))]) ∈ lw_all := lw_g (lw_at lw_m3 212 rfl) rfl
theorem q738 : (Jvm.Cond.methodLink "PeerpanelLaw" (25 : Nat) ({ cls := "Peerpanel", name := "setTolerance", desc := "(I)I" } : Jvm.MethodName)) ∈ lw_all := lw_g (lw_at lw_m3 213 rfl) rfl
theorem q742 : (Jvm.Cond.methodLink "PeerpanelLaw" (110 : Nat) ({ cls := "PeerpanelLaw", name := "share", desc := "(LPeerpanel;I[J)I" } : Jvm.MethodName)) ∈ lw_all := lw_g (lw_at lw_m3 217 rfl) rfl
theorem q743 : (Jvm.Cond.static ({ cls := "PeerpanelLaw", name := "share", desc := "(LPeerpanel;I[J)I" } : Jvm.MethodName)) ∈ lw_all := lw_g (lw_at lw_m3 218 rfl) rfl
theorem q744 : (Jvm.Cond.codeWith ({ cls := "PeerpanelLaw", name := "share", desc := "(LPeerpanel;I[J)I" } : Jvm.MethodName) method_7_code (4 : Nat) (Option.some Jvm.ClassFile.FieldType.int) [((0 : Nat), (9 : Nat), (12 : Nat), (13 : Nat))]) ∈ lw_all := lw_g (lw_at lw_m3 219 rfl) rfl
theorem q745 : (Jvm.Cond.methodLink "PeerpanelLaw" (28 : Nat) ({ cls := "Peerpanel", name := "share", desc := "(I)I" } : Jvm.MethodName)) ∈ lw_all := lw_g (lw_at lw_m3 220 rfl) rfl
theorem q771 : (Jvm.Cond.methodLink "PeerpanelLaw" (121 : Nat) ({ cls := "PeerpanelLaw", name := "readersOf", desc := "(LPeerpanel;I[J)I" } : Jvm.MethodName)) ∈ lw_all := lw_g (lw_at lw_m4 6 rfl) rfl
theorem q772 : (Jvm.Cond.static ({ cls := "PeerpanelLaw", name := "readersOf", desc := "(LPeerpanel;I[J)I" } : Jvm.MethodName)) ∈ lw_all := lw_g (lw_at lw_m4 7 rfl) rfl
theorem q773 : (Jvm.Cond.codeWith ({ cls := "PeerpanelLaw", name := "readersOf", desc := "(LPeerpanel;I[J)I" } : Jvm.MethodName) method_8_code (4 : Nat) (Option.some Jvm.ClassFile.FieldType.int) [((0 : Nat), (9 : Nat), (12 : Nat), (20 : Nat))]) ∈ lw_all := lw_g (lw_at lw_m4 8 rfl) rfl
theorem q774 : (Jvm.Cond.methodLink "PeerpanelLaw" (31 : Nat) ({ cls := "Peerpanel", name := "readersOf", desc := "(I)I" } : Jvm.MethodName)) ∈ lw_all := lw_g (lw_at lw_m4 9 rfl) rfl
theorem q782 : (Jvm.Cond.methodLink "PeerpanelLaw" (124 : Nat) ({ cls := "PeerpanelLaw", name := "mayRead", desc := "(LPeerpanel;I[J)I" } : Jvm.MethodName)) ∈ lw_all := lw_g (lw_at lw_m4 17 rfl) rfl
theorem q783 : (Jvm.Cond.static ({ cls := "PeerpanelLaw", name := "mayRead", desc := "(LPeerpanel;I[J)I" } : Jvm.MethodName)) ∈ lw_all := lw_g (lw_at lw_m4 18 rfl) rfl
theorem q784 : (Jvm.Cond.codeWith ({ cls := "PeerpanelLaw", name := "mayRead", desc := "(LPeerpanel;I[J)I" } : Jvm.MethodName) method_9_code (4 : Nat) (Option.some Jvm.ClassFile.FieldType.int) [((0 : Nat), (9 : Nat), (12 : Nat), (20 : Nat))]) ∈ lw_all := lw_g (lw_at lw_m4 19 rfl) rfl
theorem q785 : (Jvm.Cond.methodLink "PeerpanelLaw" (34 : Nat) ({ cls := "Peerpanel", name := "mayRead", desc := "(I)I" } : Jvm.MethodName)) ∈ lw_all := lw_g (lw_at lw_m4 20 rfl) rfl
theorem q789 : (Jvm.Cond.methodLink "PeerpanelLaw" (127 : Nat) ({ cls := "PeerpanelLaw", name := "loadOf", desc := "(LPeerpanel;I[J)I" } : Jvm.MethodName)) ∈ lw_all := lw_g (lw_at lw_m4 24 rfl) rfl
theorem q790 : (Jvm.Cond.static ({ cls := "PeerpanelLaw", name := "loadOf", desc := "(LPeerpanel;I[J)I" } : Jvm.MethodName)) ∈ lw_all := lw_g (lw_at lw_m4 25 rfl) rfl
theorem q791 : (Jvm.Cond.codeWith ({ cls := "PeerpanelLaw", name := "loadOf", desc := "(LPeerpanel;I[J)I" } : Jvm.MethodName) method_10_code (4 : Nat) (Option.some Jvm.ClassFile.FieldType.int) [((0 : Nat), (9 : Nat), (12 : Nat), (20 : Nat))]) ∈ lw_all := lw_g (lw_at lw_m4 26 rfl) rfl
theorem q792 : (Jvm.Cond.methodLink "PeerpanelLaw" (37 : Nat) ({ cls := "Peerpanel", name := "loadOf", desc := "(I)I" } : Jvm.MethodName)) ∈ lw_all := lw_g (lw_at lw_m4 27 rfl) rfl
theorem q796 : (Jvm.Cond.methodLink "PeerpanelLaw" (130 : Nat) ({ cls := "PeerpanelLaw", name := "possible", desc := "(LPeerpanel;II[J)I" } : Jvm.MethodName)) ∈ lw_all := lw_g (lw_at lw_m4 31 rfl) rfl
theorem q797 : (Jvm.Cond.static ({ cls := "PeerpanelLaw", name := "possible", desc := "(LPeerpanel;II[J)I" } : Jvm.MethodName)) ∈ lw_all := lw_g (lw_at lw_m4 32 rfl) rfl
theorem q798 : (Jvm.Cond.codeWith ({ cls := "PeerpanelLaw", name := "possible", desc := "(LPeerpanel;II[J)I" } : Jvm.MethodName) method_11_code (5 : Nat) (Option.some Jvm.ClassFile.FieldType.int) [((0 : Nat), (10 : Nat), (13 : Nat), (13 : Nat))]) ∈ lw_all := lw_g (lw_at lw_m4 33 rfl) rfl
theorem q799 : (Jvm.Cond.methodLink "PeerpanelLaw" (40 : Nat) ({ cls := "Peerpanel", name := "possible", desc := "(II)I" } : Jvm.MethodName)) ∈ lw_all := lw_g (lw_at lw_m4 34 rfl) rfl
theorem q844 : (Jvm.Cond.methodLink "PeerpanelLaw" (134 : Nat) ({ cls := "PeerpanelLaw", name := "calibrate", desc := "(LPeerpanel;III[J)I" } : Jvm.MethodName)) ∈ lw_all := lw_g (lw_at lw_m4 79 rfl) rfl
theorem q845 : (Jvm.Cond.static ({ cls := "PeerpanelLaw", name := "calibrate", desc := "(LPeerpanel;III[J)I" } : Jvm.MethodName)) ∈ lw_all := lw_g (lw_at lw_m4 80 rfl) rfl
theorem q846 : (Jvm.Cond.codeWith ({ cls := "PeerpanelLaw", name := "calibrate", desc := "(LPeerpanel;III[J)I" } : Jvm.MethodName) method_12_code (6 : Nat) (Option.some Jvm.ClassFile.FieldType.int) [((0 : Nat), (12 : Nat), (15 : Nat), (20 : Nat)), ((0 : Nat), (12 : Nat), (19 : Nat), (13 : Nat)), ((0 : Nat), (12 : Nat), (23 : Nat), (15 : Nat))]) ∈ lw_all := lw_g (lw_at lw_m4 81 rfl) rfl
theorem q847 : (Jvm.Cond.methodLink "PeerpanelLaw" (44 : Nat) ({ cls := "Peerpanel", name := "calibrate", desc := "(III)I" } : Jvm.MethodName)) ∈ lw_all := lw_g (lw_at lw_m4 82 rfl) rfl
theorem q852 : (Jvm.Cond.methodLink "PeerpanelLaw" (138 : Nat) ({ cls := "PeerpanelLaw", name := "weightOf", desc := "(LPeerpanel;I[J)I" } : Jvm.MethodName)) ∈ lw_all := lw_g (lw_at lw_m4 87 rfl) rfl
theorem q853 : (Jvm.Cond.static ({ cls := "PeerpanelLaw", name := "weightOf", desc := "(LPeerpanel;I[J)I" } : Jvm.MethodName)) ∈ lw_all := lw_g (lw_at lw_m4 88 rfl) rfl
theorem q854 : (Jvm.Cond.codeWith ({ cls := "PeerpanelLaw", name := "weightOf", desc := "(LPeerpanel;I[J)I" } : Jvm.MethodName) method_13_code (4 : Nat) (Option.some Jvm.ClassFile.FieldType.int) [((0 : Nat), (9 : Nat), (12 : Nat), (20 : Nat))]) ∈ lw_all := lw_g (lw_at lw_m4 89 rfl) rfl
theorem q855 : (Jvm.Cond.methodLink "PeerpanelLaw" (48 : Nat) ({ cls := "Peerpanel", name := "weightOf", desc := "(I)I" } : Jvm.MethodName)) ∈ lw_all := lw_g (lw_at lw_m4 90 rfl) rfl
theorem q859 : (Jvm.Cond.methodLink "PeerpanelLaw" (141 : Nat) ({ cls := "PeerpanelLaw", name := "settle", desc := "(LPeerpanel;I[J)I" } : Jvm.MethodName)) ∈ lw_all := lw_g (lw_at lw_m4 94 rfl) rfl
theorem q860 : (Jvm.Cond.static ({ cls := "PeerpanelLaw", name := "settle", desc := "(LPeerpanel;I[J)I" } : Jvm.MethodName)) ∈ lw_all := lw_g (lw_at lw_m4 95 rfl) rfl
theorem q861 : (Jvm.Cond.codeWith ({ cls := "PeerpanelLaw", name := "settle", desc := "(LPeerpanel;I[J)I" } : Jvm.MethodName) method_14_code (4 : Nat) (Option.some Jvm.ClassFile.FieldType.int) [((0 : Nat), (9 : Nat), (12 : Nat), (13 : Nat))]) ∈ lw_all := lw_g (lw_at lw_m4 96 rfl) rfl
theorem q862 : (Jvm.Cond.methodLink "PeerpanelLaw" (51 : Nat) ({ cls := "Peerpanel", name := "settle", desc := "(I)I" } : Jvm.MethodName)) ∈ lw_all := lw_g (lw_at lw_m4 97 rfl) rfl
theorem q938 : (Jvm.Cond.methodLink "PeerpanelLaw" (148 : Nat) ({ cls := "PeerpanelLaw", name := "review", desc := "(LPeerpanel;IIII[J)I" } : Jvm.MethodName)) ∈ lw_all := lw_g (lw_at lw_m4 173 rfl) rfl
theorem q939 : (Jvm.Cond.static ({ cls := "PeerpanelLaw", name := "review", desc := "(LPeerpanel;IIII[J)I" } : Jvm.MethodName)) ∈ lw_all := lw_g (lw_at lw_m4 174 rfl) rfl
theorem q940 : (Jvm.Cond.codeWith ({ cls := "PeerpanelLaw", name := "review", desc := "(LPeerpanel;IIII[J)I" } : Jvm.MethodName) method_15_code (7 : Nat) (Option.some Jvm.ClassFile.FieldType.int) [((0 : Nat), (14 : Nat), (17 : Nat), (20 : Nat)), ((0 : Nat), (14 : Nat), (21 : Nat), (13 : Nat)), ((0 : Nat), (14 : Nat), (25 : Nat), (15 : Nat))]) ∈ lw_all := lw_g (lw_at lw_m4 175 rfl) rfl
theorem q941 : (Jvm.Cond.methodLink "PeerpanelLaw" (54 : Nat) ({ cls := "Peerpanel", name := "review", desc := "(IIII)I" } : Jvm.MethodName)) ∈ lw_all := lw_g (lw_at lw_m4 176 rfl) rfl
theorem q1055 : (Jvm.Cond.methodLink "PeerpanelLaw" (152 : Nat) ({ cls := "PeerpanelLaw", name := "reviews", desc := "(LPeerpanel;I[J)I" } : Jvm.MethodName)) ∈ lw_all := lw_g (lw_at lw_m5 50 rfl) rfl
theorem q1056 : (Jvm.Cond.static ({ cls := "PeerpanelLaw", name := "reviews", desc := "(LPeerpanel;I[J)I" } : Jvm.MethodName)) ∈ lw_all := lw_g (lw_at lw_m5 51 rfl) rfl
theorem q1057 : (Jvm.Cond.codeWith ({ cls := "PeerpanelLaw", name := "reviews", desc := "(LPeerpanel;I[J)I" } : Jvm.MethodName) method_16_code (4 : Nat) (Option.some Jvm.ClassFile.FieldType.int) [((0 : Nat), (9 : Nat), (12 : Nat), (20 : Nat))]) ∈ lw_all := lw_g (lw_at lw_m5 52 rfl) rfl
theorem q1058 : (Jvm.Cond.methodLink "PeerpanelLaw" (58 : Nat) ({ cls := "Peerpanel", name := "reviews", desc := "(I)I" } : Jvm.MethodName)) ∈ lw_all := lw_g (lw_at lw_m5 53 rfl) rfl
theorem q1062 : (Jvm.Cond.methodLink "PeerpanelLaw" (155 : Nat) ({ cls := "PeerpanelLaw", name := "countsOf", desc := "(LPeerpanel;II[J)I" } : Jvm.MethodName)) ∈ lw_all := lw_g (lw_at lw_m5 57 rfl) rfl
theorem q1063 : (Jvm.Cond.static ({ cls := "PeerpanelLaw", name := "countsOf", desc := "(LPeerpanel;II[J)I" } : Jvm.MethodName)) ∈ lw_all := lw_g (lw_at lw_m5 58 rfl) rfl
theorem q1064 : (Jvm.Cond.codeWith ({ cls := "PeerpanelLaw", name := "countsOf", desc := "(LPeerpanel;II[J)I" } : Jvm.MethodName) method_17_code (5 : Nat) (Option.some Jvm.ClassFile.FieldType.int) [((0 : Nat), (10 : Nat), (13 : Nat), (20 : Nat))]) ∈ lw_all := lw_g (lw_at lw_m5 59 rfl) rfl
theorem q1065 : (Jvm.Cond.methodLink "PeerpanelLaw" (61 : Nat) ({ cls := "Peerpanel", name := "countsOf", desc := "(II)I" } : Jvm.MethodName)) ∈ lw_all := lw_g (lw_at lw_m5 60 rfl) rfl
theorem q1071 : (Jvm.Cond.methodLink "PeerpanelLaw" (158 : Nat) ({ cls := "PeerpanelLaw", name := "outliers", desc := "(LPeerpanel;I[J)I" } : Jvm.MethodName)) ∈ lw_all := lw_g (lw_at lw_m5 66 rfl) rfl
theorem q1072 : (Jvm.Cond.static ({ cls := "PeerpanelLaw", name := "outliers", desc := "(LPeerpanel;I[J)I" } : Jvm.MethodName)) ∈ lw_all := lw_g (lw_at lw_m5 67 rfl) rfl
theorem q1073 : (Jvm.Cond.codeWith ({ cls := "PeerpanelLaw", name := "outliers", desc := "(LPeerpanel;I[J)I" } : Jvm.MethodName) method_18_code (4 : Nat) (Option.some Jvm.ClassFile.FieldType.int) [((0 : Nat), (9 : Nat), (12 : Nat), (20 : Nat))]) ∈ lw_all := lw_g (lw_at lw_m5 68 rfl) rfl
theorem q1074 : (Jvm.Cond.methodLink "PeerpanelLaw" (64 : Nat) ({ cls := "Peerpanel", name := "outliers", desc := "(I)I" } : Jvm.MethodName)) ∈ lw_all := lw_g (lw_at lw_m5 69 rfl) rfl
theorem q1082 : (Jvm.Cond.methodLink "PeerpanelLaw" (161 : Nat) ({ cls := "PeerpanelLaw", name := "markOf", desc := "(LPeerpanel;I[J)I" } : Jvm.MethodName)) ∈ lw_all := lw_g (lw_at lw_m5 77 rfl) rfl
theorem q1083 : (Jvm.Cond.static ({ cls := "PeerpanelLaw", name := "markOf", desc := "(LPeerpanel;I[J)I" } : Jvm.MethodName)) ∈ lw_all := lw_g (lw_at lw_m5 78 rfl) rfl
theorem q1084 : (Jvm.Cond.codeWith ({ cls := "PeerpanelLaw", name := "markOf", desc := "(LPeerpanel;I[J)I" } : Jvm.MethodName) method_19_code (4 : Nat) (Option.some Jvm.ClassFile.FieldType.int) [((0 : Nat), (9 : Nat), (12 : Nat), (20 : Nat)), ((0 : Nat), (9 : Nat), (15 : Nat), (70 : Nat))]) ∈ lw_all := lw_g (lw_at lw_m5 79 rfl) rfl
theorem q1085 : (Jvm.Cond.classLink "PeerpanelLaw" (70 : Nat) "java/util/NoSuchElementException") ∈ lw_all := lw_g (lw_at lw_m5 80 rfl) rfl
theorem q1086 : (Jvm.Cond.methodLink "PeerpanelLaw" (67 : Nat) ({ cls := "Peerpanel", name := "markOf", desc := "(I)I" } : Jvm.MethodName)) ∈ lw_all := lw_g (lw_at lw_m5 81 rfl) rfl
theorem q1095 : (Jvm.Cond.methodLink "PeerpanelLaw" (164 : Nat) ({ cls := "PeerpanelLaw", name := "placeOf", desc := "(LPeerpanel;I[J)I" } : Jvm.MethodName)) ∈ lw_all := lw_g (lw_at lw_m5 90 rfl) rfl
theorem q1096 : (Jvm.Cond.static ({ cls := "PeerpanelLaw", name := "placeOf", desc := "(LPeerpanel;I[J)I" } : Jvm.MethodName)) ∈ lw_all := lw_g (lw_at lw_m5 91 rfl) rfl
theorem q1097 : (Jvm.Cond.codeWith ({ cls := "PeerpanelLaw", name := "placeOf", desc := "(LPeerpanel;I[J)I" } : Jvm.MethodName) method_20_code (4 : Nat) (Option.some Jvm.ClassFile.FieldType.int) [((0 : Nat), (9 : Nat), (12 : Nat), (20 : Nat)), ((0 : Nat), (9 : Nat), (15 : Nat), (70 : Nat))]) ∈ lw_all := lw_g (lw_at lw_m5 92 rfl) rfl
theorem q1098 : (Jvm.Cond.methodLink "PeerpanelLaw" (72 : Nat) ({ cls := "Peerpanel", name := "placeOf", desc := "(I)I" } : Jvm.MethodName)) ∈ lw_all := lw_g (lw_at lw_m5 93 rfl) rfl
theorem q1103 : (Jvm.Cond.methodLink "PeerpanelLaw" (167 : Nat) ({ cls := "PeerpanelLaw", name := "gradeOf", desc := "(LPeerpanel;I[J)I" } : Jvm.MethodName)) ∈ lw_all := lw_g (lw_at lw_m5 98 rfl) rfl
theorem q1104 : (Jvm.Cond.static ({ cls := "PeerpanelLaw", name := "gradeOf", desc := "(LPeerpanel;I[J)I" } : Jvm.MethodName)) ∈ lw_all := lw_g (lw_at lw_m5 99 rfl) rfl
theorem q1105 : (Jvm.Cond.codeWith ({ cls := "PeerpanelLaw", name := "gradeOf", desc := "(LPeerpanel;I[J)I" } : Jvm.MethodName) method_21_code (4 : Nat) (Option.some Jvm.ClassFile.FieldType.int) [((0 : Nat), (9 : Nat), (12 : Nat), (20 : Nat))]) ∈ lw_all := lw_g (lw_at lw_m5 100 rfl) rfl
theorem q1106 : (Jvm.Cond.methodLink "PeerpanelLaw" (75 : Nat) ({ cls := "Peerpanel", name := "gradeOf", desc := "(I)I" } : Jvm.MethodName)) ∈ lw_all := lw_g (lw_at lw_m5 101 rfl) rfl
theorem q1110 : (Jvm.Cond.methodLink "PeerpanelLaw" (170 : Nat) ({ cls := "PeerpanelLaw", name := "missing", desc := "(LPeerpanel;I[J)I" } : Jvm.MethodName)) ∈ lw_all := lw_g (lw_at lw_m5 105 rfl) rfl
theorem q1111 : (Jvm.Cond.static ({ cls := "PeerpanelLaw", name := "missing", desc := "(LPeerpanel;I[J)I" } : Jvm.MethodName)) ∈ lw_all := lw_g (lw_at lw_m5 106 rfl) rfl
theorem q1112 : (Jvm.Cond.codeWith ({ cls := "PeerpanelLaw", name := "missing", desc := "(LPeerpanel;I[J)I" } : Jvm.MethodName) method_22_code (4 : Nat) (Option.some Jvm.ClassFile.FieldType.int) [((0 : Nat), (9 : Nat), (12 : Nat), (13 : Nat))]) ∈ lw_all := lw_g (lw_at lw_m5 107 rfl) rfl
theorem q1113 : (Jvm.Cond.methodLink "PeerpanelLaw" (78 : Nat) ({ cls := "Peerpanel", name := "missing", desc := "(I)I" } : Jvm.MethodName)) ∈ lw_all := lw_g (lw_at lw_m5 108 rfl) rfl
theorem q1117 : (Jvm.Cond.methodLink "PeerpanelLaw" (173 : Nat) ({ cls := "PeerpanelLaw", name := "replace", desc := "(LPeerpanel;III[J)I" } : Jvm.MethodName)) ∈ lw_all := lw_g (lw_at lw_m5 112 rfl) rfl
theorem q1118 : (Jvm.Cond.static ({ cls := "PeerpanelLaw", name := "replace", desc := "(LPeerpanel;III[J)I" } : Jvm.MethodName)) ∈ lw_all := lw_g (lw_at lw_m5 113 rfl) rfl
theorem q1119 : (Jvm.Cond.codeWith ({ cls := "PeerpanelLaw", name := "replace", desc := "(LPeerpanel;III[J)I" } : Jvm.MethodName) method_23_code (6 : Nat) (Option.some Jvm.ClassFile.FieldType.int) [((0 : Nat), (12 : Nat), (15 : Nat), (20 : Nat)), ((0 : Nat), (12 : Nat), (19 : Nat), (13 : Nat)), ((0 : Nat), (12 : Nat), (23 : Nat), (15 : Nat))]) ∈ lw_all := lw_g (lw_at lw_m5 114 rfl) rfl
theorem q1120 : (Jvm.Cond.methodLink "PeerpanelLaw" (81 : Nat) ({ cls := "Peerpanel", name := "replace", desc := "(III)I" } : Jvm.MethodName)) ∈ lw_all := lw_g (lw_at lw_m5 115 rfl) rfl
theorem q1128 : (Jvm.Cond.methodLink "PeerpanelLaw" (176 : Nat) ({ cls := "PeerpanelLaw", name := "appeal", desc := "(LPeerpanel;I[J)I" } : Jvm.MethodName)) ∈ lw_all := lw_g (lw_at lw_m5 123 rfl) rfl
theorem q1129 : (Jvm.Cond.static ({ cls := "PeerpanelLaw", name := "appeal", desc := "(LPeerpanel;I[J)I" } : Jvm.MethodName)) ∈ lw_all := lw_g (lw_at lw_m5 124 rfl) rfl
theorem q1130 : (Jvm.Cond.codeWith ({ cls := "PeerpanelLaw", name := "appeal", desc := "(LPeerpanel;I[J)I" } : Jvm.MethodName) method_24_code (4 : Nat) (Option.some Jvm.ClassFile.FieldType.int) [((0 : Nat), (9 : Nat), (12 : Nat), (20 : Nat)), ((0 : Nat), (9 : Nat), (15 : Nat), (15 : Nat)), ((0 : Nat), (9 : Nat), (18 : Nat), (70 : Nat))]) ∈ lw_all := lw_g (lw_at lw_m5 125 rfl) rfl
theorem q1131 : (Jvm.Cond.methodLink "PeerpanelLaw" (84 : Nat) ({ cls := "Peerpanel", name := "appeal", desc := "(I)I" } : Jvm.MethodName)) ∈ lw_all := lw_g (lw_at lw_m5 126 rfl) rfl
theorem q1135 : (Jvm.Cond.classLink "PeerpanelLaw" (88 : Nat) "PeerpanelModel") ∈ lw_all := lw_g (lw_at lw_m5 130 rfl) rfl
theorem q1137 : (Jvm.Cond.methodLink "PeerpanelLaw" (90 : Nat) ({ cls := "PeerpanelModel", name := "<init>", desc := "()V" } : Jvm.MethodName)) ∈ lw_all := lw_g (lw_at lw_m5 132 rfl) rfl
theorem q1203 : (Jvm.Cond.methodLink "PeerpanelLaw" (97 : Nat) ({ cls := "PeerpanelModel", name := "thrown", desc := "()I" } : Jvm.MethodName)) ∈ lw_all := lw_g (lw_at lw_m5 198 rfl) rfl
theorem q1207 : (Jvm.Cond.methodLink "PeerpanelLaw" (96 : Nat) ({ cls := "PeerpanelModel", name := "addPerson", desc := "(I)I" } : Jvm.MethodName)) ∈ lw_all := lw_g (lw_at lw_m5 202 rfl) rfl
theorem q1214 : (Jvm.Cond.methodLink "PeerpanelLaw" (103 : Nat) ({ cls := "PeerpanelModel", name := "handIn", desc := "(I)I" } : Jvm.MethodName)) ∈ lw_all := lw_g (lw_at lw_m5 209 rfl) rfl
theorem q1226 : (Jvm.Cond.methodLink "PeerpanelLaw" (106 : Nat) ({ cls := "PeerpanelModel", name := "setDue", desc := "(I)I" } : Jvm.MethodName)) ∈ lw_all := lw_g (lw_at lw_m5 221 rfl) rfl
theorem q1237 : (Jvm.Cond.methodLink "PeerpanelLaw" (109 : Nat) ({ cls := "PeerpanelModel", name := "setTolerance", desc := "(I)I" } : Jvm.MethodName)) ∈ lw_all := lw_g (lw_at lw_m5 232 rfl) rfl
theorem q1244 : (Jvm.Cond.methodLink "PeerpanelLaw" (116 : Nat) ({ cls := "PeerpanelModel", name := "people", desc := "()I" } : Jvm.MethodName)) ∈ lw_all := lw_g (lw_at lw_m5 239 rfl) rfl
theorem q1252 : (Jvm.Cond.methodLink "PeerpanelLaw" (120 : Nat) ({ cls := "PeerpanelModel", name := "works", desc := "()I" } : Jvm.MethodName)) ∈ lw_all := lw_g (lw_at lw_m6 7 rfl) rfl
theorem q1256 : (Jvm.Cond.methodLink "PeerpanelLaw" (112 : Nat) ({ cls := "PeerpanelModel", name := "share", desc := "(I)I" } : Jvm.MethodName)) ∈ lw_all := lw_g (lw_at lw_m6 11 rfl) rfl
theorem q1283 : (Jvm.Cond.methodLink "PeerpanelLaw" (123 : Nat) ({ cls := "PeerpanelModel", name := "readersOf", desc := "(I)I" } : Jvm.MethodName)) ∈ lw_all := lw_g (lw_at lw_m6 38 rfl) rfl
theorem q1291 : (Jvm.Cond.methodLink "PeerpanelLaw" (126 : Nat) ({ cls := "PeerpanelModel", name := "mayRead", desc := "(I)I" } : Jvm.MethodName)) ∈ lw_all := lw_g (lw_at lw_m6 46 rfl) rfl
theorem q1295 : (Jvm.Cond.methodLink "PeerpanelLaw" (129 : Nat) ({ cls := "PeerpanelModel", name := "loadOf", desc := "(I)I" } : Jvm.MethodName)) ∈ lw_all := lw_g (lw_at lw_m6 50 rfl) rfl
theorem q1299 : (Jvm.Cond.methodLink "PeerpanelLaw" (133 : Nat) ({ cls := "PeerpanelModel", name := "possible", desc := "(II)I" } : Jvm.MethodName)) ∈ lw_all := lw_g (lw_at lw_m6 54 rfl) rfl
theorem q1315 : (Jvm.Cond.methodLink "PeerpanelLaw" (137 : Nat) ({ cls := "PeerpanelModel", name := "calibrate", desc := "(III)I" } : Jvm.MethodName)) ∈ lw_all := lw_g (lw_at lw_m6 70 rfl) rfl
theorem q1328 : (Jvm.Cond.methodLink "PeerpanelLaw" (140 : Nat) ({ cls := "PeerpanelModel", name := "weightOf", desc := "(I)I" } : Jvm.MethodName)) ∈ lw_all := lw_g (lw_at lw_m6 83 rfl) rfl
theorem q1332 : (Jvm.Cond.methodLink "PeerpanelLaw" (143 : Nat) ({ cls := "PeerpanelModel", name := "settle", desc := "(I)I" } : Jvm.MethodName)) ∈ lw_all := lw_g (lw_at lw_m6 87 rfl) rfl
theorem q1372 : (Jvm.Cond.methodLink "PeerpanelLaw" (147 : Nat) ({ cls := "PeerpanelModel", name := "plain", desc := "()I" } : Jvm.MethodName)) ∈ lw_all := lw_g (lw_at lw_m6 127 rfl) rfl
theorem q1376 : (Jvm.Cond.methodLink "PeerpanelLaw" (151 : Nat) ({ cls := "PeerpanelModel", name := "review", desc := "(IIII)I" } : Jvm.MethodName)) ∈ lw_all := lw_g (lw_at lw_m6 131 rfl) rfl
theorem q1380 : (Jvm.Cond.methodLink "PeerpanelLaw" (154 : Nat) ({ cls := "PeerpanelModel", name := "reviews", desc := "(I)I" } : Jvm.MethodName)) ∈ lw_all := lw_g (lw_at lw_m6 135 rfl) rfl
theorem q1384 : (Jvm.Cond.methodLink "PeerpanelLaw" (157 : Nat) ({ cls := "PeerpanelModel", name := "countsOf", desc := "(II)I" } : Jvm.MethodName)) ∈ lw_all := lw_g (lw_at lw_m6 139 rfl) rfl
theorem q1388 : (Jvm.Cond.methodLink "PeerpanelLaw" (160 : Nat) ({ cls := "PeerpanelModel", name := "outliers", desc := "(I)I" } : Jvm.MethodName)) ∈ lw_all := lw_g (lw_at lw_m6 143 rfl) rfl
theorem q1392 : (Jvm.Cond.methodLink "PeerpanelLaw" (163 : Nat) ({ cls := "PeerpanelModel", name := "markOf", desc := "(I)I" } : Jvm.MethodName)) ∈ lw_all := lw_g (lw_at lw_m6 147 rfl) rfl
theorem q1396 : (Jvm.Cond.methodLink "PeerpanelLaw" (166 : Nat) ({ cls := "PeerpanelModel", name := "placeOf", desc := "(I)I" } : Jvm.MethodName)) ∈ lw_all := lw_g (lw_at lw_m6 151 rfl) rfl
theorem q1400 : (Jvm.Cond.methodLink "PeerpanelLaw" (169 : Nat) ({ cls := "PeerpanelModel", name := "gradeOf", desc := "(I)I" } : Jvm.MethodName)) ∈ lw_all := lw_g (lw_at lw_m6 155 rfl) rfl
theorem q1404 : (Jvm.Cond.methodLink "PeerpanelLaw" (172 : Nat) ({ cls := "PeerpanelModel", name := "missing", desc := "(I)I" } : Jvm.MethodName)) ∈ lw_all := lw_g (lw_at lw_m6 159 rfl) rfl
theorem q1408 : (Jvm.Cond.methodLink "PeerpanelLaw" (175 : Nat) ({ cls := "PeerpanelModel", name := "replace", desc := "(III)I" } : Jvm.MethodName)) ∈ lw_all := lw_g (lw_at lw_m6 163 rfl) rfl
theorem q1412 : (Jvm.Cond.methodLink "PeerpanelLaw" (178 : Nat) ({ cls := "PeerpanelModel", name := "appeal", desc := "(I)I" } : Jvm.MethodName)) ∈ lw_all := lw_g (lw_at lw_m6 167 rfl) rfl
theorem q1416 : (Jvm.Cond.methodLink "PeerpanelLaw" (183 : Nat) ({ cls := "PeerpanelModel", name := "meanMark", desc := "()D" } : Jvm.MethodName)) ∈ lw_all := lw_g (lw_at lw_m6 171 rfl) rfl
theorem q1420 : (Jvm.Cond.methodLink "PeerpanelLaw" (188 : Nat) ({ cls := "PeerpanelModel", name := "lateShare", desc := "()F" } : Jvm.MethodName)) ∈ lw_all := lw_g (lw_at lw_m6 175 rfl) rfl
/-! the law's own entry -/
set_option maxRecDepth 100000
abbrev cL_law : ByteArray := code
def dkwL_law_65 : List UInt8 := [24, 7, 151, 154, 0, 5, 3, 172, 167, 0, 3, 132, 4, 5, 167, 249, 189, 4, 172]
abbrev dktL_law_65 : List UInt8 := dkwL_law_65 ++ []
def dkwL_law_64 : List UInt8 := [182, 0, 188, 141, 57, 7, 24, 5, 24, 7, 151, 153, 0, 21, 24, 5, 24, 5, 151, 153, 0, 11, 24, 7]
abbrev dktL_law_64 : List UInt8 := dkwL_law_64 ++ dktL_law_65
def dkwL_law_63 : List UInt8 := [153, 0, 11, 24, 7, 24, 7, 151, 154, 0, 5, 3, 172, 167, 0, 46, 43, 182, 0, 184, 141, 57, 5, 44]
abbrev dktL_law_63 : List UInt8 := dkwL_law_63 ++ dktL_law_64
def dkwL_law_62 : List UInt8 := [182, 0, 179, 57, 5, 44, 182, 0, 183, 57, 7, 24, 5, 24, 7, 151, 153, 0, 21, 24, 5, 24, 5, 151]
abbrev dktL_law_62 : List UInt8 := dkwL_law_62 ++ dktL_law_63
def dkwL_law_61 : List UInt8 := [172, 21, 5, 154, 0, 15, 45, 3, 47, 21, 6, 133, 148, 153, 0, 5, 3, 172, 167, 0, 87, 43]
abbrev dktL_law_61 : List UInt8 := dkwL_law_61 ++ dktL_law_62
def dkwL_law_60 : List UInt8 := [54, 5, 44, 42, 21, 4, 4, 96, 46, 182, 0, 178, 54, 6, 44, 182, 0, 97, 21, 5, 159, 0, 5, 3]
abbrev dktL_law_60 : List UInt8 := dkwL_law_60 ++ dktL_law_61
def dkwL_law_59 : List UInt8 := [21, 6, 133, 148, 153, 0, 5, 3, 172, 167, 0, 143, 43, 42, 21, 4, 4, 96, 46, 45, 184, 0, 176]
abbrev dktL_law_59 : List UInt8 := dkwL_law_59 ++ dktL_law_60
def dkwL_law_58 : List UInt8 := [182, 0, 175, 54, 6, 44, 182, 0, 97, 21, 5, 159, 0, 5, 3, 172, 21, 5, 154, 0, 15, 45, 3, 47]
abbrev dktL_law_58 : List UInt8 := dkwL_law_58 ++ dktL_law_59
def dkwL_law_57 : List UInt8 := [184, 0, 173, 54, 5, 44, 42, 21, 4, 4, 96, 46, 42, 21, 4, 5, 96, 46, 42, 21, 4, 6, 96, 46]
abbrev dktL_law_57 : List UInt8 := dkwL_law_57 ++ dktL_law_58
def dkwL_law_56 : List UInt8 := [167, 0, 223, 43, 42, 21, 4, 4, 96, 46, 42, 21, 4, 5, 96, 46, 42, 21, 4, 6, 96, 46, 45]
abbrev dktL_law_56 : List UInt8 := dkwL_law_56 ++ dktL_law_57
def dkwL_law_55 : List UInt8 := [21, 5, 159, 0, 5, 3, 172, 21, 5, 154, 0, 15, 45, 3, 47, 21, 6, 133, 148, 153, 0, 5, 3, 172]
abbrev dktL_law_55 : List UInt8 := dkwL_law_55 ++ dktL_law_56
def dkwL_law_54 : List UInt8 := [46, 45, 184, 0, 170, 54, 5, 44, 42, 21, 4, 4, 96, 46, 182, 0, 172, 54, 6, 44, 182, 0, 97]
abbrev dktL_law_54 : List UInt8 := dkwL_law_54 ++ dktL_law_55
def dkwL_law_53 : List UInt8 := [154, 0, 15, 45, 3, 47, 21, 6, 133, 148, 153, 0, 5, 3, 172, 167, 1, 23, 43, 42, 21, 4, 4, 96]
abbrev dktL_law_53 : List UInt8 := dkwL_law_53 ++ dktL_law_54
def dkwL_law_52 : List UInt8 := [21, 4, 4, 96, 46, 182, 0, 169, 54, 6, 44, 182, 0, 97, 21, 5, 159, 0, 5, 3, 172, 21, 5]
abbrev dktL_law_52 : List UInt8 := dkwL_law_52 ++ dktL_law_53
def dkwL_law_51 : List UInt8 := [153, 0, 5, 3, 172, 167, 1, 79, 43, 42, 21, 4, 4, 96, 46, 45, 184, 0, 167, 54, 5, 44, 42]
abbrev dktL_law_51 : List UInt8 := dkwL_law_51 ++ dktL_law_52
def dkwL_law_50 : List UInt8 := [182, 0, 97, 21, 5, 159, 0, 5, 3, 172, 21, 5, 154, 0, 15, 45, 3, 47, 21, 6, 133, 148]
abbrev dktL_law_50 : List UInt8 := dkwL_law_50 ++ dktL_law_51
def dkwL_law_49 : List UInt8 := [21, 4, 4, 96, 46, 45, 184, 0, 164, 54, 5, 44, 42, 21, 4, 4, 96, 46, 182, 0, 166, 54, 6, 44]
abbrev dktL_law_49 : List UInt8 := dkwL_law_49 ++ dktL_law_50
def dkwL_law_48 : List UInt8 := [172, 21, 5, 154, 0, 15, 45, 3, 47, 21, 6, 133, 148, 153, 0, 5, 3, 172, 167, 1, 135, 43, 42]
abbrev dktL_law_48 : List UInt8 := dkwL_law_48 ++ dktL_law_49
def dkwL_law_47 : List UInt8 := [54, 5, 44, 42, 21, 4, 4, 96, 46, 182, 0, 163, 54, 6, 44, 182, 0, 97, 21, 5, 159, 0, 5, 3]
abbrev dktL_law_47 : List UInt8 := dkwL_law_47 ++ dktL_law_48
def dkwL_law_46 : List UInt8 := [21, 6, 133, 148, 153, 0, 5, 3, 172, 167, 1, 191, 43, 42, 21, 4, 4, 96, 46, 45, 184, 0, 161]
abbrev dktL_law_46 : List UInt8 := dkwL_law_46 ++ dktL_law_47
def dkwL_law_45 : List UInt8 := [182, 0, 160, 54, 6, 44, 182, 0, 97, 21, 5, 159, 0, 5, 3, 172, 21, 5, 154, 0, 15, 45, 3, 47]
abbrev dktL_law_45 : List UInt8 := dkwL_law_45 ++ dktL_law_46
def dkwL_law_44 : List UInt8 := [167, 1, 247, 43, 42, 21, 4, 4, 96, 46, 45, 184, 0, 158, 54, 5, 44, 42, 21, 4, 4, 96, 46]
abbrev dktL_law_44 : List UInt8 := dkwL_law_44 ++ dktL_law_45
def dkwL_law_43 : List UInt8 := [159, 0, 5, 3, 172, 21, 5, 154, 0, 15, 45, 3, 47, 21, 6, 133, 148, 153, 0, 5, 3, 172]
abbrev dktL_law_43 : List UInt8 := dkwL_law_43 ++ dktL_law_44
def dkwL_law_42 : List UInt8 := [21, 4, 4, 96, 46, 42, 21, 4, 5, 96, 46, 182, 0, 157, 54, 6, 44, 182, 0, 97, 21, 5]
abbrev dktL_law_42 : List UInt8 := dkwL_law_42 ++ dktL_law_43
def dkwL_law_41 : List UInt8 := [167, 2, 59, 43, 42, 21, 4, 4, 96, 46, 42, 21, 4, 5, 96, 46, 45, 184, 0, 155, 54, 5, 44, 42]
abbrev dktL_law_41 : List UInt8 := dkwL_law_41 ++ dktL_law_42
def dkwL_law_40 : List UInt8 := [21, 5, 159, 0, 5, 3, 172, 21, 5, 154, 0, 15, 45, 3, 47, 21, 6, 133, 148, 153, 0, 5, 3, 172]
abbrev dktL_law_40 : List UInt8 := dkwL_law_40 ++ dktL_law_41
def dkwL_law_39 : List UInt8 := [46, 45, 184, 0, 152, 54, 5, 44, 42, 21, 4, 4, 96, 46, 182, 0, 154, 54, 6, 44, 182, 0, 97]
abbrev dktL_law_39 : List UInt8 := dkwL_law_39 ++ dktL_law_40
def dkwL_law_38 : List UInt8 := [154, 0, 15, 45, 3, 47, 21, 6, 133, 148, 153, 0, 5, 3, 172, 167, 2, 115, 43, 42, 21, 4, 4, 96]
abbrev dktL_law_38 : List UInt8 := dkwL_law_38 ++ dktL_law_39
def dkwL_law_37 : List UInt8 := [42, 21, 4, 7, 96, 46, 182, 0, 151, 54, 6, 44, 182, 0, 97, 21, 5, 159, 0, 5, 3, 172, 21, 5]
abbrev dktL_law_37 : List UInt8 := dkwL_law_37 ++ dktL_law_38
def dkwL_law_36 : List UInt8 := [184, 0, 148, 54, 5, 44, 42, 21, 4, 4, 96, 46, 42, 21, 4, 5, 96, 46, 42, 21, 4, 6, 96, 46]
abbrev dktL_law_36 : List UInt8 := dkwL_law_36 ++ dktL_law_37
def dkwL_law_35 : List UInt8 := [21, 4, 4, 96, 46, 42, 21, 4, 5, 96, 46, 42, 21, 4, 6, 96, 46, 42, 21, 4, 7, 96, 46, 45]
abbrev dktL_law_35 : List UInt8 := dkwL_law_35 ++ dktL_law_36
def dkwL_law_34 : List UInt8 := [153, 0, 5, 3, 172, 167, 2, 220, 43, 182, 0, 144, 44, 182, 0, 147, 159, 2, 209, 3, 172, 43, 42]
abbrev dktL_law_34 : List UInt8 := dkwL_law_34 ++ dktL_law_35
def dkwL_law_33 : List UInt8 := [182, 0, 97, 21, 5, 159, 0, 5, 3, 172, 21, 5, 154, 0, 15, 45, 3, 47, 21, 6, 133, 148]
abbrev dktL_law_33 : List UInt8 := dkwL_law_33 ++ dktL_law_34
def dkwL_law_32 : List UInt8 := [21, 4, 4, 96, 46, 45, 184, 0, 141, 54, 5, 44, 42, 21, 4, 4, 96, 46, 182, 0, 143, 54, 6, 44]
abbrev dktL_law_32 : List UInt8 := dkwL_law_32 ++ dktL_law_33
def dkwL_law_31 : List UInt8 := [172, 21, 5, 154, 0, 15, 45, 3, 47, 21, 6, 133, 148, 153, 0, 5, 3, 172, 167, 3, 20, 43, 42]
abbrev dktL_law_31 : List UInt8 := dkwL_law_31 ++ dktL_law_32
def dkwL_law_30 : List UInt8 := [54, 5, 44, 42, 21, 4, 4, 96, 46, 182, 0, 140, 54, 6, 44, 182, 0, 97, 21, 5, 159, 0, 5, 3]
abbrev dktL_law_30 : List UInt8 := dkwL_law_30 ++ dktL_law_31
def dkwL_law_29 : List UInt8 := [21, 6, 133, 148, 153, 0, 5, 3, 172, 167, 3, 76, 43, 42, 21, 4, 4, 96, 46, 45, 184, 0, 138]
abbrev dktL_law_29 : List UInt8 := dkwL_law_29 ++ dktL_law_30
def dkwL_law_28 : List UInt8 := [182, 0, 137, 54, 6, 44, 182, 0, 97, 21, 5, 159, 0, 5, 3, 172, 21, 5, 154, 0, 15, 45, 3, 47]
abbrev dktL_law_28 : List UInt8 := dkwL_law_28 ++ dktL_law_29
def dkwL_law_27 : List UInt8 := [184, 0, 134, 54, 5, 44, 42, 21, 4, 4, 96, 46, 42, 21, 4, 5, 96, 46, 42, 21, 4, 6, 96, 46]
abbrev dktL_law_27 : List UInt8 := dkwL_law_27 ++ dktL_law_28
def dkwL_law_26 : List UInt8 := [167, 3, 156, 43, 42, 21, 4, 4, 96, 46, 42, 21, 4, 5, 96, 46, 42, 21, 4, 6, 96, 46, 45]
abbrev dktL_law_26 : List UInt8 := dkwL_law_26 ++ dktL_law_27
def dkwL_law_25 : List UInt8 := [159, 0, 5, 3, 172, 21, 5, 154, 0, 15, 45, 3, 47, 21, 6, 133, 148, 153, 0, 5, 3, 172]
abbrev dktL_law_25 : List UInt8 := dkwL_law_25 ++ dktL_law_26
def dkwL_law_24 : List UInt8 := [21, 4, 4, 96, 46, 42, 21, 4, 5, 96, 46, 182, 0, 133, 54, 6, 44, 182, 0, 97, 21, 5]
abbrev dktL_law_24 : List UInt8 := dkwL_law_24 ++ dktL_law_25
def dkwL_law_23 : List UInt8 := [167, 3, 224, 43, 42, 21, 4, 4, 96, 46, 42, 21, 4, 5, 96, 46, 45, 184, 0, 130, 54, 5, 44, 42]
abbrev dktL_law_23 : List UInt8 := dkwL_law_23 ++ dktL_law_24
def dkwL_law_22 : List UInt8 := [21, 5, 159, 0, 5, 3, 172, 21, 5, 154, 0, 15, 45, 3, 47, 21, 6, 133, 148, 153, 0, 5, 3, 172]
abbrev dktL_law_22 : List UInt8 := dkwL_law_22 ++ dktL_law_23
def dkwL_law_21 : List UInt8 := [46, 45, 184, 0, 127, 54, 5, 44, 42, 21, 4, 4, 96, 46, 182, 0, 129, 54, 6, 44, 182, 0, 97]
abbrev dktL_law_21 : List UInt8 := dkwL_law_21 ++ dktL_law_22
def dkwL_law_20 : List UInt8 := [154, 0, 15, 45, 3, 47, 21, 6, 133, 148, 153, 0, 5, 3, 172, 167, 4, 24, 43, 42, 21, 4, 4, 96]
abbrev dktL_law_20 : List UInt8 := dkwL_law_20 ++ dktL_law_21
def dkwL_law_19 : List UInt8 := [21, 4, 4, 96, 46, 182, 0, 126, 54, 6, 44, 182, 0, 97, 21, 5, 159, 0, 5, 3, 172, 21, 5]
abbrev dktL_law_19 : List UInt8 := dkwL_law_19 ++ dktL_law_20
def dkwL_law_18 : List UInt8 := [148, 153, 0, 5, 3, 172, 167, 4, 80, 43, 42, 21, 4, 4, 96, 46, 45, 184, 0, 124, 54, 5, 44, 42]
abbrev dktL_law_18 : List UInt8 := dkwL_law_18 ++ dktL_law_19
def dkwL_law_17 : List UInt8 := [54, 6, 44, 182, 0, 97, 21, 5, 159, 0, 5, 3, 172, 21, 5, 154, 0, 15, 45, 3, 47, 21, 6, 133]
abbrev dktL_law_17 : List UInt8 := dkwL_law_17 ++ dktL_law_18
def dkwL_law_16 : List UInt8 := [172, 43, 42, 21, 4, 4, 96, 46, 45, 184, 0, 121, 54, 5, 44, 42, 21, 4, 4, 96, 46, 182, 0, 123]
abbrev dktL_law_16 : List UInt8 := dkwL_law_16 ++ dktL_law_17
def dkwL_law_15 : List UInt8 := [182, 0, 113, 44, 182, 0, 116, 159, 4, 151, 3, 172, 43, 182, 0, 117, 44, 182, 0, 120, 159, 4, 138, 3]
abbrev dktL_law_15 : List UInt8 := dkwL_law_15 ++ dktL_law_16
def dkwL_law_14 : List UInt8 := [172, 21, 5, 154, 0, 15, 45, 3, 47, 21, 6, 133, 148, 153, 0, 5, 3, 172, 167, 4, 162, 43]
abbrev dktL_law_14 : List UInt8 := dkwL_law_14 ++ dktL_law_15
def dkwL_law_13 : List UInt8 := [54, 5, 44, 42, 21, 4, 4, 96, 46, 182, 0, 112, 54, 6, 44, 182, 0, 97, 21, 5, 159, 0, 5, 3]
abbrev dktL_law_13 : List UInt8 := dkwL_law_13 ++ dktL_law_14
def dkwL_law_12 : List UInt8 := [21, 6, 133, 148, 153, 0, 5, 3, 172, 167, 4, 218, 43, 42, 21, 4, 4, 96, 46, 45, 184, 0, 110]
abbrev dktL_law_12 : List UInt8 := dkwL_law_12 ++ dktL_law_13
def dkwL_law_11 : List UInt8 := [182, 0, 109, 54, 6, 44, 182, 0, 97, 21, 5, 159, 0, 5, 3, 172, 21, 5, 154, 0, 15, 45, 3, 47]
abbrev dktL_law_11 : List UInt8 := dkwL_law_11 ++ dktL_law_12
def dkwL_law_10 : List UInt8 := [167, 5, 18, 43, 42, 21, 4, 4, 96, 46, 45, 184, 0, 107, 54, 5, 44, 42, 21, 4, 4, 96, 46]
abbrev dktL_law_10 : List UInt8 := dkwL_law_10 ++ dktL_law_11
def dkwL_law_9 : List UInt8 := [21, 5, 159, 0, 5, 3, 172, 21, 5, 154, 0, 15, 45, 3, 47, 21, 6, 133, 148, 153, 0, 5, 3, 172]
abbrev dktL_law_9 : List UInt8 := dkwL_law_9 ++ dktL_law_10
def dkwL_law_8 : List UInt8 := [46, 45, 184, 0, 104, 54, 5, 44, 42, 21, 4, 4, 96, 46, 182, 0, 106, 54, 6, 44, 182, 0, 97]
abbrev dktL_law_8 : List UInt8 := dkwL_law_8 ++ dktL_law_9
def dkwL_law_7 : List UInt8 := [154, 0, 15, 45, 3, 47, 21, 6, 133, 148, 153, 0, 5, 3, 172, 167, 5, 74, 43, 42, 21, 4, 4, 96]
abbrev dktL_law_7 : List UInt8 := dkwL_law_7 ++ dktL_law_8
def dkwL_law_6 : List UInt8 := [21, 4, 4, 96, 46, 182, 0, 103, 54, 6, 44, 182, 0, 97, 21, 5, 159, 0, 5, 3, 172, 21, 5]
abbrev dktL_law_6 : List UInt8 := dkwL_law_6 ++ dktL_law_7
def dkwL_law_5 : List UInt8 := [148, 153, 0, 5, 3, 172, 167, 5, 130, 43, 42, 21, 4, 4, 96, 46, 45, 184, 0, 101, 54, 5, 44, 42]
abbrev dktL_law_5 : List UInt8 := dkwL_law_5 ++ dktL_law_6
def dkwL_law_4 : List UInt8 := [54, 6, 44, 182, 0, 97, 21, 5, 159, 0, 5, 3, 172, 21, 5, 154, 0, 15, 45, 3, 47, 21, 6, 133]
abbrev dktL_law_4 : List UInt8 := dkwL_law_4 ++ dktL_law_5
def dkwL_law_3 : List UInt8 := [43, 42, 21, 4, 4, 96, 46, 45, 184, 0, 91, 54, 5, 44, 42, 21, 4, 4, 96, 46, 182, 0, 96]
abbrev dktL_law_3 : List UInt8 := dkwL_law_3 ++ dktL_law_4
def dkwL_law_2 : List UInt8 := [170, 0, 0, 6, 48, 0, 0, 0, 0, 0, 0, 0, 26, 0, 0, 0, 121, 0, 0, 0, 177, 0, 0, 0, 233, 0, 0, 1, 33, 0, 0, 1, 89, 0, 0, 1, 145, 0, 0, 1, 158, 0, 0, 1, 171, 0, 0, 1, 227, 0, 0, 2, 27, 0, 0, 2, 83, 0, 0, 2, 151, 0, 0, 2, 231, 0, 0, 3, 31, 0, 0, 3, 87, 0, 0, 3, 100, 0, 0, 3, 192, 0, 0, 3, 248, 0, 0, 4, 60, 0, 0, 4, 116, 0, 0, 4, 172, 0, 0, 4, 228, 0, 0, 5, 28, 0, 0, 5, 84, 0, 0, 5, 164, 0, 0, 5, 220, 0, 0, 6, 5]
abbrev dktL_law_2 : List UInt8 := dkwL_law_2 ++ dktL_law_3
def dkwL_law_1 : List UInt8 := [21, 4, 42, 190, 8, 100, 163, 6, 64, 42, 21, 4, 46, 16, 31, 126]
abbrev dktL_law_1 : List UInt8 := dkwL_law_1 ++ dktL_law_2
def dkwL_law_0 : List UInt8 := [187, 0, 8, 89, 183, 0, 87, 76, 187, 0, 88, 89, 183, 0, 90, 77, 4, 188, 11, 78, 3, 54, 4]
abbrev dktL_law_0 : List UInt8 := dkwL_law_0 ++ dktL_law_1
theorem dksL_law_0 : cL_law.data.toList.drop 0 = dktL_law_0 := by decide +kernel
theorem dksL_law_1 : cL_law.data.toList.drop 23 = dktL_law_1 := dk_seg dksL_law_0 23 rfl rfl
theorem dksL_law_2 : cL_law.data.toList.drop 39 = dktL_law_2 := dk_seg dksL_law_1 16 rfl rfl
theorem dksL_law_3 : cL_law.data.toList.drop 160 = dktL_law_3 := dk_seg dksL_law_2 121 rfl rfl
theorem dksL_law_4 : cL_law.data.toList.drop 183 = dktL_law_4 := dk_seg dksL_law_3 23 rfl rfl
theorem dksL_law_5 : cL_law.data.toList.drop 207 = dktL_law_5 := dk_seg dksL_law_4 24 rfl rfl
theorem dksL_law_6 : cL_law.data.toList.drop 231 = dktL_law_6 := dk_seg dksL_law_5 24 rfl rfl
theorem dksL_law_7 : cL_law.data.toList.drop 254 = dktL_law_7 := dk_seg dksL_law_6 23 rfl rfl
theorem dksL_law_8 : cL_law.data.toList.drop 278 = dktL_law_8 := dk_seg dksL_law_7 24 rfl rfl
theorem dksL_law_9 : cL_law.data.toList.drop 301 = dktL_law_9 := dk_seg dksL_law_8 23 rfl rfl
theorem dksL_law_10 : cL_law.data.toList.drop 325 = dktL_law_10 := dk_seg dksL_law_9 24 rfl rfl
theorem dksL_law_11 : cL_law.data.toList.drop 348 = dktL_law_11 := dk_seg dksL_law_10 23 rfl rfl
theorem dksL_law_12 : cL_law.data.toList.drop 372 = dktL_law_12 := dk_seg dksL_law_11 24 rfl rfl
theorem dksL_law_13 : cL_law.data.toList.drop 395 = dktL_law_13 := dk_seg dksL_law_12 23 rfl rfl
theorem dksL_law_14 : cL_law.data.toList.drop 419 = dktL_law_14 := dk_seg dksL_law_13 24 rfl rfl
theorem dksL_law_15 : cL_law.data.toList.drop 441 = dktL_law_15 := dk_seg dksL_law_14 22 rfl rfl
theorem dksL_law_16 : cL_law.data.toList.drop 465 = dktL_law_16 := dk_seg dksL_law_15 24 rfl rfl
theorem dksL_law_17 : cL_law.data.toList.drop 489 = dktL_law_17 := dk_seg dksL_law_16 24 rfl rfl
theorem dksL_law_18 : cL_law.data.toList.drop 513 = dktL_law_18 := dk_seg dksL_law_17 24 rfl rfl
theorem dksL_law_19 : cL_law.data.toList.drop 537 = dktL_law_19 := dk_seg dksL_law_18 24 rfl rfl
theorem dksL_law_20 : cL_law.data.toList.drop 560 = dktL_law_20 := dk_seg dksL_law_19 23 rfl rfl
theorem dksL_law_21 : cL_law.data.toList.drop 584 = dktL_law_21 := dk_seg dksL_law_20 24 rfl rfl
theorem dksL_law_22 : cL_law.data.toList.drop 607 = dktL_law_22 := dk_seg dksL_law_21 23 rfl rfl
theorem dksL_law_23 : cL_law.data.toList.drop 631 = dktL_law_23 := dk_seg dksL_law_22 24 rfl rfl
theorem dksL_law_24 : cL_law.data.toList.drop 655 = dktL_law_24 := dk_seg dksL_law_23 24 rfl rfl
theorem dksL_law_25 : cL_law.data.toList.drop 677 = dktL_law_25 := dk_seg dksL_law_24 22 rfl rfl
theorem dksL_law_26 : cL_law.data.toList.drop 699 = dktL_law_26 := dk_seg dksL_law_25 22 rfl rfl
theorem dksL_law_27 : cL_law.data.toList.drop 722 = dktL_law_27 := dk_seg dksL_law_26 23 rfl rfl
theorem dksL_law_28 : cL_law.data.toList.drop 746 = dktL_law_28 := dk_seg dksL_law_27 24 rfl rfl
theorem dksL_law_29 : cL_law.data.toList.drop 770 = dktL_law_29 := dk_seg dksL_law_28 24 rfl rfl
theorem dksL_law_30 : cL_law.data.toList.drop 793 = dktL_law_30 := dk_seg dksL_law_29 23 rfl rfl
theorem dksL_law_31 : cL_law.data.toList.drop 817 = dktL_law_31 := dk_seg dksL_law_30 24 rfl rfl
theorem dksL_law_32 : cL_law.data.toList.drop 840 = dktL_law_32 := dk_seg dksL_law_31 23 rfl rfl
theorem dksL_law_33 : cL_law.data.toList.drop 864 = dktL_law_33 := dk_seg dksL_law_32 24 rfl rfl
theorem dksL_law_34 : cL_law.data.toList.drop 886 = dktL_law_34 := dk_seg dksL_law_33 22 rfl rfl
theorem dksL_law_35 : cL_law.data.toList.drop 909 = dktL_law_35 := dk_seg dksL_law_34 23 rfl rfl
theorem dksL_law_36 : cL_law.data.toList.drop 933 = dktL_law_36 := dk_seg dksL_law_35 24 rfl rfl
theorem dksL_law_37 : cL_law.data.toList.drop 957 = dktL_law_37 := dk_seg dksL_law_36 24 rfl rfl
theorem dksL_law_38 : cL_law.data.toList.drop 981 = dktL_law_38 := dk_seg dksL_law_37 24 rfl rfl
theorem dksL_law_39 : cL_law.data.toList.drop 1005 = dktL_law_39 := dk_seg dksL_law_38 24 rfl rfl
theorem dksL_law_40 : cL_law.data.toList.drop 1028 = dktL_law_40 := dk_seg dksL_law_39 23 rfl rfl
theorem dksL_law_41 : cL_law.data.toList.drop 1052 = dktL_law_41 := dk_seg dksL_law_40 24 rfl rfl
theorem dksL_law_42 : cL_law.data.toList.drop 1076 = dktL_law_42 := dk_seg dksL_law_41 24 rfl rfl
theorem dksL_law_43 : cL_law.data.toList.drop 1098 = dktL_law_43 := dk_seg dksL_law_42 22 rfl rfl
theorem dksL_law_44 : cL_law.data.toList.drop 1120 = dktL_law_44 := dk_seg dksL_law_43 22 rfl rfl
theorem dksL_law_45 : cL_law.data.toList.drop 1143 = dktL_law_45 := dk_seg dksL_law_44 23 rfl rfl
theorem dksL_law_46 : cL_law.data.toList.drop 1167 = dktL_law_46 := dk_seg dksL_law_45 24 rfl rfl
theorem dksL_law_47 : cL_law.data.toList.drop 1190 = dktL_law_47 := dk_seg dksL_law_46 23 rfl rfl
theorem dksL_law_48 : cL_law.data.toList.drop 1214 = dktL_law_48 := dk_seg dksL_law_47 24 rfl rfl
theorem dksL_law_49 : cL_law.data.toList.drop 1237 = dktL_law_49 := dk_seg dksL_law_48 23 rfl rfl
theorem dksL_law_50 : cL_law.data.toList.drop 1261 = dktL_law_50 := dk_seg dksL_law_49 24 rfl rfl
theorem dksL_law_51 : cL_law.data.toList.drop 1283 = dktL_law_51 := dk_seg dksL_law_50 22 rfl rfl
theorem dksL_law_52 : cL_law.data.toList.drop 1306 = dktL_law_52 := dk_seg dksL_law_51 23 rfl rfl
theorem dksL_law_53 : cL_law.data.toList.drop 1329 = dktL_law_53 := dk_seg dksL_law_52 23 rfl rfl
theorem dksL_law_54 : cL_law.data.toList.drop 1353 = dktL_law_54 := dk_seg dksL_law_53 24 rfl rfl
theorem dksL_law_55 : cL_law.data.toList.drop 1376 = dktL_law_55 := dk_seg dksL_law_54 23 rfl rfl
theorem dksL_law_56 : cL_law.data.toList.drop 1400 = dktL_law_56 := dk_seg dksL_law_55 24 rfl rfl
theorem dksL_law_57 : cL_law.data.toList.drop 1423 = dktL_law_57 := dk_seg dksL_law_56 23 rfl rfl
theorem dksL_law_58 : cL_law.data.toList.drop 1447 = dktL_law_58 := dk_seg dksL_law_57 24 rfl rfl
theorem dksL_law_59 : cL_law.data.toList.drop 1471 = dktL_law_59 := dk_seg dksL_law_58 24 rfl rfl
theorem dksL_law_60 : cL_law.data.toList.drop 1494 = dktL_law_60 := dk_seg dksL_law_59 23 rfl rfl
theorem dksL_law_61 : cL_law.data.toList.drop 1518 = dktL_law_61 := dk_seg dksL_law_60 24 rfl rfl
theorem dksL_law_62 : cL_law.data.toList.drop 1540 = dktL_law_62 := dk_seg dksL_law_61 22 rfl rfl
theorem dksL_law_63 : cL_law.data.toList.drop 1564 = dktL_law_63 := dk_seg dksL_law_62 24 rfl rfl
theorem dksL_law_64 : cL_law.data.toList.drop 1588 = dktL_law_64 := dk_seg dksL_law_63 24 rfl rfl
theorem dksL_law_65 : cL_law.data.toList.drop 1612 = dktL_law_65 := dk_seg dksL_law_64 24 rfl rfl
theorem dL_law_0 : decode cL_law 0 = .ok (.new 8, 3) := dk_187 0 8 (dk_at dksL_law_0 0 rfl rfl)
theorem dL_law_3 : decode cL_law 3 = .ok (.dup, 1) := dk_89 (dk_at dksL_law_0 3 rfl rfl)
theorem dL_law_4 : decode cL_law 4 = .ok (.invokespecial 87, 3) := dk_183 0 87 (dk_at dksL_law_0 4 rfl rfl)
theorem dL_law_7 : decode cL_law 7 = .ok (.astore_n 1, 1) := dk_76 (dk_at dksL_law_0 7 rfl rfl)
theorem dL_law_8 : decode cL_law 8 = .ok (.new 88, 3) := dk_187 0 88 (dk_at dksL_law_0 8 rfl rfl)
theorem dL_law_11 : decode cL_law 11 = .ok (.dup, 1) := dk_89 (dk_at dksL_law_0 11 rfl rfl)
theorem dL_law_12 : decode cL_law 12 = .ok (.invokespecial 90, 3) := dk_183 0 90 (dk_at dksL_law_0 12 rfl rfl)
theorem dL_law_15 : decode cL_law 15 = .ok (.astore_n 2, 1) := dk_77 (dk_at dksL_law_0 15 rfl rfl)
theorem dL_law_16 : decode cL_law 16 = .ok (.iconst 1, 1) := dk_4 (dk_at dksL_law_0 16 rfl rfl)
theorem dL_law_17 : decode cL_law 17 = .ok (.newarray .long, 2) := dk_188_11 (dk_at dksL_law_0 17 rfl rfl)
theorem dL_law_19 : decode cL_law 19 = .ok (.astore_n 3, 1) := dk_78 (dk_at dksL_law_0 19 rfl rfl)
theorem dL_law_20 : decode cL_law 20 = .ok (.iconst 0, 1) := dk_3 (dk_at dksL_law_0 20 rfl rfl)
theorem dL_law_21 : decode cL_law 21 = .ok (.istore 4, 2) := dk_54 4 (dk_at dksL_law_0 21 rfl rfl)
theorem dL_law_23 : decode cL_law 23 = .ok (.iload 4, 2) := dk_21 4 (dk_at dksL_law_1 0 rfl rfl)
theorem dL_law_25 : decode cL_law 25 = .ok (.aload_n 0, 1) := dk_42 (dk_at dksL_law_1 2 rfl rfl)
theorem dL_law_26 : decode cL_law 26 = .ok (.arraylength, 1) := dk_190 (dk_at dksL_law_1 3 rfl rfl)
theorem dL_law_27 : decode cL_law 27 = .ok (.iconst 5, 1) := dk_8 (dk_at dksL_law_1 4 rfl rfl)
theorem dL_law_28 : decode cL_law 28 = .ok (.isub, 1) := dk_100 (dk_at dksL_law_1 5 rfl rfl)
theorem dL_law_29 : decode cL_law 29 = .ok (.if_icmp .gt 1600, 3) := dk_163 6 64 (dk_at dksL_law_1 6 rfl rfl)
theorem dL_law_32 : decode cL_law 32 = .ok (.aload_n 0, 1) := dk_42 (dk_at dksL_law_1 9 rfl rfl)
theorem dL_law_33 : decode cL_law 33 = .ok (.iload 4, 2) := dk_21 4 (dk_at dksL_law_1 10 rfl rfl)
theorem dL_law_35 : decode cL_law 35 = .ok (.iaload, 1) := dk_46 (dk_at dksL_law_1 12 rfl rfl)
theorem dL_law_36 : decode cL_law 36 = .ok (.bipush 31, 2) := dk_16 31 (dk_at dksL_law_1 13 rfl rfl)
theorem dL_law_38 : decode cL_law 38 = .ok (.iand, 1) := dk_126 (dk_at dksL_law_1 15 rfl rfl)
theorem dL_law_39 : decode cL_law 39 = .ok (.tableswitch 1584 0 26 #[121, 177, 233, 289, 345, 401, 414, 427, 483, 539, 595, 663, 743, 799, 855, 868, 960, 1016, 1084, 1140, 1196, 1252, 1308, 1364, 1444, 1500, 1541], 121) := by decide +kernel
theorem dL_law_160 : decode cL_law 160 = .ok (.aload_n 1, 1) := dk_43 (dk_at dksL_law_3 0 rfl rfl)
theorem dL_law_161 : decode cL_law 161 = .ok (.aload_n 0, 1) := dk_42 (dk_at dksL_law_3 1 rfl rfl)
theorem dL_law_162 : decode cL_law 162 = .ok (.iload 4, 2) := dk_21 4 (dk_at dksL_law_3 2 rfl rfl)
theorem dL_law_164 : decode cL_law 164 = .ok (.iconst 1, 1) := dk_4 (dk_at dksL_law_3 4 rfl rfl)
theorem dL_law_165 : decode cL_law 165 = .ok (.iadd, 1) := dk_96 (dk_at dksL_law_3 5 rfl rfl)
theorem dL_law_166 : decode cL_law 166 = .ok (.iaload, 1) := dk_46 (dk_at dksL_law_3 6 rfl rfl)
theorem dL_law_167 : decode cL_law 167 = .ok (.aload_n 3, 1) := dk_45 (dk_at dksL_law_3 7 rfl rfl)
theorem dL_law_168 : decode cL_law 168 = .ok (.invokestatic 91, 3) := dk_184 0 91 (dk_at dksL_law_3 8 rfl rfl)
theorem dL_law_171 : decode cL_law 171 = .ok (.istore 5, 2) := dk_54 5 (dk_at dksL_law_3 11 rfl rfl)
theorem dL_law_173 : decode cL_law 173 = .ok (.aload_n 2, 1) := dk_44 (dk_at dksL_law_3 13 rfl rfl)
theorem dL_law_174 : decode cL_law 174 = .ok (.aload_n 0, 1) := dk_42 (dk_at dksL_law_3 14 rfl rfl)
theorem dL_law_175 : decode cL_law 175 = .ok (.iload 4, 2) := dk_21 4 (dk_at dksL_law_3 15 rfl rfl)
theorem dL_law_177 : decode cL_law 177 = .ok (.iconst 1, 1) := dk_4 (dk_at dksL_law_3 17 rfl rfl)
theorem dL_law_178 : decode cL_law 178 = .ok (.iadd, 1) := dk_96 (dk_at dksL_law_3 18 rfl rfl)
theorem dL_law_179 : decode cL_law 179 = .ok (.iaload, 1) := dk_46 (dk_at dksL_law_3 19 rfl rfl)
theorem dL_law_180 : decode cL_law 180 = .ok (.invokevirtual 96, 3) := dk_182 0 96 (dk_at dksL_law_3 20 rfl rfl)
theorem dL_law_183 : decode cL_law 183 = .ok (.istore 6, 2) := dk_54 6 (dk_at dksL_law_4 0 rfl rfl)
theorem dL_law_185 : decode cL_law 185 = .ok (.aload_n 2, 1) := dk_44 (dk_at dksL_law_4 2 rfl rfl)
theorem dL_law_186 : decode cL_law 186 = .ok (.invokevirtual 97, 3) := dk_182 0 97 (dk_at dksL_law_4 3 rfl rfl)
theorem dL_law_189 : decode cL_law 189 = .ok (.iload 5, 2) := dk_21 5 (dk_at dksL_law_4 6 rfl rfl)
theorem dL_law_191 : decode cL_law 191 = .ok (.if_icmp .eq 5, 3) := dk_159 0 5 (dk_at dksL_law_4 8 rfl rfl)
theorem dL_law_194 : decode cL_law 194 = .ok (.iconst 0, 1) := dk_3 (dk_at dksL_law_4 11 rfl rfl)
theorem dL_law_195 : decode cL_law 195 = .ok (.ireturn, 1) := dk_172 (dk_at dksL_law_4 12 rfl rfl)
theorem dL_law_196 : decode cL_law 196 = .ok (.iload 5, 2) := dk_21 5 (dk_at dksL_law_4 13 rfl rfl)
theorem dL_law_198 : decode cL_law 198 = .ok (.ifCond .ne 15, 3) := dk_154 0 15 (dk_at dksL_law_4 15 rfl rfl)
theorem dL_law_201 : decode cL_law 201 = .ok (.aload_n 3, 1) := dk_45 (dk_at dksL_law_4 18 rfl rfl)
theorem dL_law_202 : decode cL_law 202 = .ok (.iconst 0, 1) := dk_3 (dk_at dksL_law_4 19 rfl rfl)
theorem dL_law_203 : decode cL_law 203 = .ok (.laload, 1) := dk_47 (dk_at dksL_law_4 20 rfl rfl)
theorem dL_law_204 : decode cL_law 204 = .ok (.iload 6, 2) := dk_21 6 (dk_at dksL_law_4 21 rfl rfl)
theorem dL_law_206 : decode cL_law 206 = .ok (.i2l, 1) := dk_133 (dk_at dksL_law_4 23 rfl rfl)
theorem dL_law_207 : decode cL_law 207 = .ok (.lcmp, 1) := dk_148 (dk_at dksL_law_5 0 rfl rfl)
theorem dL_law_208 : decode cL_law 208 = .ok (.ifCond .eq 5, 3) := dk_153 0 5 (dk_at dksL_law_5 1 rfl rfl)
theorem dL_law_211 : decode cL_law 211 = .ok (.iconst 0, 1) := dk_3 (dk_at dksL_law_5 4 rfl rfl)
theorem dL_law_212 : decode cL_law 212 = .ok (.ireturn, 1) := dk_172 (dk_at dksL_law_5 5 rfl rfl)
theorem dL_law_213 : decode cL_law 213 = .ok (.goto 1410, 3) := dk_167 5 130 (dk_at dksL_law_5 6 rfl rfl)
theorem dL_law_216 : decode cL_law 216 = .ok (.aload_n 1, 1) := dk_43 (dk_at dksL_law_5 9 rfl rfl)
theorem dL_law_217 : decode cL_law 217 = .ok (.aload_n 0, 1) := dk_42 (dk_at dksL_law_5 10 rfl rfl)
theorem dL_law_218 : decode cL_law 218 = .ok (.iload 4, 2) := dk_21 4 (dk_at dksL_law_5 11 rfl rfl)
theorem dL_law_220 : decode cL_law 220 = .ok (.iconst 1, 1) := dk_4 (dk_at dksL_law_5 13 rfl rfl)
theorem dL_law_221 : decode cL_law 221 = .ok (.iadd, 1) := dk_96 (dk_at dksL_law_5 14 rfl rfl)
theorem dL_law_222 : decode cL_law 222 = .ok (.iaload, 1) := dk_46 (dk_at dksL_law_5 15 rfl rfl)
theorem dL_law_223 : decode cL_law 223 = .ok (.aload_n 3, 1) := dk_45 (dk_at dksL_law_5 16 rfl rfl)
theorem dL_law_224 : decode cL_law 224 = .ok (.invokestatic 101, 3) := dk_184 0 101 (dk_at dksL_law_5 17 rfl rfl)
theorem dL_law_227 : decode cL_law 227 = .ok (.istore 5, 2) := dk_54 5 (dk_at dksL_law_5 20 rfl rfl)
theorem dL_law_229 : decode cL_law 229 = .ok (.aload_n 2, 1) := dk_44 (dk_at dksL_law_5 22 rfl rfl)
theorem dL_law_230 : decode cL_law 230 = .ok (.aload_n 0, 1) := dk_42 (dk_at dksL_law_5 23 rfl rfl)
theorem dL_law_231 : decode cL_law 231 = .ok (.iload 4, 2) := dk_21 4 (dk_at dksL_law_6 0 rfl rfl)
theorem dL_law_233 : decode cL_law 233 = .ok (.iconst 1, 1) := dk_4 (dk_at dksL_law_6 2 rfl rfl)
theorem dL_law_234 : decode cL_law 234 = .ok (.iadd, 1) := dk_96 (dk_at dksL_law_6 3 rfl rfl)
theorem dL_law_235 : decode cL_law 235 = .ok (.iaload, 1) := dk_46 (dk_at dksL_law_6 4 rfl rfl)
theorem dL_law_236 : decode cL_law 236 = .ok (.invokevirtual 103, 3) := dk_182 0 103 (dk_at dksL_law_6 5 rfl rfl)
theorem dL_law_239 : decode cL_law 239 = .ok (.istore 6, 2) := dk_54 6 (dk_at dksL_law_6 8 rfl rfl)
theorem dL_law_241 : decode cL_law 241 = .ok (.aload_n 2, 1) := dk_44 (dk_at dksL_law_6 10 rfl rfl)
theorem dL_law_242 : decode cL_law 242 = .ok (.invokevirtual 97, 3) := dk_182 0 97 (dk_at dksL_law_6 11 rfl rfl)
theorem dL_law_245 : decode cL_law 245 = .ok (.iload 5, 2) := dk_21 5 (dk_at dksL_law_6 14 rfl rfl)
theorem dL_law_247 : decode cL_law 247 = .ok (.if_icmp .eq 5, 3) := dk_159 0 5 (dk_at dksL_law_6 16 rfl rfl)
theorem dL_law_250 : decode cL_law 250 = .ok (.iconst 0, 1) := dk_3 (dk_at dksL_law_6 19 rfl rfl)
theorem dL_law_251 : decode cL_law 251 = .ok (.ireturn, 1) := dk_172 (dk_at dksL_law_6 20 rfl rfl)
theorem dL_law_252 : decode cL_law 252 = .ok (.iload 5, 2) := dk_21 5 (dk_at dksL_law_6 21 rfl rfl)
theorem dL_law_254 : decode cL_law 254 = .ok (.ifCond .ne 15, 3) := dk_154 0 15 (dk_at dksL_law_7 0 rfl rfl)
theorem dL_law_257 : decode cL_law 257 = .ok (.aload_n 3, 1) := dk_45 (dk_at dksL_law_7 3 rfl rfl)
theorem dL_law_258 : decode cL_law 258 = .ok (.iconst 0, 1) := dk_3 (dk_at dksL_law_7 4 rfl rfl)
theorem dL_law_259 : decode cL_law 259 = .ok (.laload, 1) := dk_47 (dk_at dksL_law_7 5 rfl rfl)
theorem dL_law_260 : decode cL_law 260 = .ok (.iload 6, 2) := dk_21 6 (dk_at dksL_law_7 6 rfl rfl)
theorem dL_law_262 : decode cL_law 262 = .ok (.i2l, 1) := dk_133 (dk_at dksL_law_7 8 rfl rfl)
theorem dL_law_263 : decode cL_law 263 = .ok (.lcmp, 1) := dk_148 (dk_at dksL_law_7 9 rfl rfl)
theorem dL_law_264 : decode cL_law 264 = .ok (.ifCond .eq 5, 3) := dk_153 0 5 (dk_at dksL_law_7 10 rfl rfl)
theorem dL_law_267 : decode cL_law 267 = .ok (.iconst 0, 1) := dk_3 (dk_at dksL_law_7 13 rfl rfl)
theorem dL_law_268 : decode cL_law 268 = .ok (.ireturn, 1) := dk_172 (dk_at dksL_law_7 14 rfl rfl)
theorem dL_law_269 : decode cL_law 269 = .ok (.goto 1354, 3) := dk_167 5 74 (dk_at dksL_law_7 15 rfl rfl)
theorem dL_law_272 : decode cL_law 272 = .ok (.aload_n 1, 1) := dk_43 (dk_at dksL_law_7 18 rfl rfl)
theorem dL_law_273 : decode cL_law 273 = .ok (.aload_n 0, 1) := dk_42 (dk_at dksL_law_7 19 rfl rfl)
theorem dL_law_274 : decode cL_law 274 = .ok (.iload 4, 2) := dk_21 4 (dk_at dksL_law_7 20 rfl rfl)
theorem dL_law_276 : decode cL_law 276 = .ok (.iconst 1, 1) := dk_4 (dk_at dksL_law_7 22 rfl rfl)
theorem dL_law_277 : decode cL_law 277 = .ok (.iadd, 1) := dk_96 (dk_at dksL_law_7 23 rfl rfl)
theorem dL_law_278 : decode cL_law 278 = .ok (.iaload, 1) := dk_46 (dk_at dksL_law_8 0 rfl rfl)
theorem dL_law_279 : decode cL_law 279 = .ok (.aload_n 3, 1) := dk_45 (dk_at dksL_law_8 1 rfl rfl)
theorem dL_law_280 : decode cL_law 280 = .ok (.invokestatic 104, 3) := dk_184 0 104 (dk_at dksL_law_8 2 rfl rfl)
theorem dL_law_283 : decode cL_law 283 = .ok (.istore 5, 2) := dk_54 5 (dk_at dksL_law_8 5 rfl rfl)
theorem dL_law_285 : decode cL_law 285 = .ok (.aload_n 2, 1) := dk_44 (dk_at dksL_law_8 7 rfl rfl)
theorem dL_law_286 : decode cL_law 286 = .ok (.aload_n 0, 1) := dk_42 (dk_at dksL_law_8 8 rfl rfl)
theorem dL_law_287 : decode cL_law 287 = .ok (.iload 4, 2) := dk_21 4 (dk_at dksL_law_8 9 rfl rfl)
theorem dL_law_289 : decode cL_law 289 = .ok (.iconst 1, 1) := dk_4 (dk_at dksL_law_8 11 rfl rfl)
theorem dL_law_290 : decode cL_law 290 = .ok (.iadd, 1) := dk_96 (dk_at dksL_law_8 12 rfl rfl)
theorem dL_law_291 : decode cL_law 291 = .ok (.iaload, 1) := dk_46 (dk_at dksL_law_8 13 rfl rfl)
theorem dL_law_292 : decode cL_law 292 = .ok (.invokevirtual 106, 3) := dk_182 0 106 (dk_at dksL_law_8 14 rfl rfl)
theorem dL_law_295 : decode cL_law 295 = .ok (.istore 6, 2) := dk_54 6 (dk_at dksL_law_8 17 rfl rfl)
theorem dL_law_297 : decode cL_law 297 = .ok (.aload_n 2, 1) := dk_44 (dk_at dksL_law_8 19 rfl rfl)
theorem dL_law_298 : decode cL_law 298 = .ok (.invokevirtual 97, 3) := dk_182 0 97 (dk_at dksL_law_8 20 rfl rfl)
theorem dL_law_301 : decode cL_law 301 = .ok (.iload 5, 2) := dk_21 5 (dk_at dksL_law_9 0 rfl rfl)
theorem dL_law_303 : decode cL_law 303 = .ok (.if_icmp .eq 5, 3) := dk_159 0 5 (dk_at dksL_law_9 2 rfl rfl)
theorem dL_law_306 : decode cL_law 306 = .ok (.iconst 0, 1) := dk_3 (dk_at dksL_law_9 5 rfl rfl)
theorem dL_law_307 : decode cL_law 307 = .ok (.ireturn, 1) := dk_172 (dk_at dksL_law_9 6 rfl rfl)
theorem dL_law_308 : decode cL_law 308 = .ok (.iload 5, 2) := dk_21 5 (dk_at dksL_law_9 7 rfl rfl)
theorem dL_law_310 : decode cL_law 310 = .ok (.ifCond .ne 15, 3) := dk_154 0 15 (dk_at dksL_law_9 9 rfl rfl)
theorem dL_law_313 : decode cL_law 313 = .ok (.aload_n 3, 1) := dk_45 (dk_at dksL_law_9 12 rfl rfl)
theorem dL_law_314 : decode cL_law 314 = .ok (.iconst 0, 1) := dk_3 (dk_at dksL_law_9 13 rfl rfl)
theorem dL_law_315 : decode cL_law 315 = .ok (.laload, 1) := dk_47 (dk_at dksL_law_9 14 rfl rfl)
theorem dL_law_316 : decode cL_law 316 = .ok (.iload 6, 2) := dk_21 6 (dk_at dksL_law_9 15 rfl rfl)
theorem dL_law_318 : decode cL_law 318 = .ok (.i2l, 1) := dk_133 (dk_at dksL_law_9 17 rfl rfl)
theorem dL_law_319 : decode cL_law 319 = .ok (.lcmp, 1) := dk_148 (dk_at dksL_law_9 18 rfl rfl)
theorem dL_law_320 : decode cL_law 320 = .ok (.ifCond .eq 5, 3) := dk_153 0 5 (dk_at dksL_law_9 19 rfl rfl)
theorem dL_law_323 : decode cL_law 323 = .ok (.iconst 0, 1) := dk_3 (dk_at dksL_law_9 22 rfl rfl)
theorem dL_law_324 : decode cL_law 324 = .ok (.ireturn, 1) := dk_172 (dk_at dksL_law_9 23 rfl rfl)
theorem dL_law_325 : decode cL_law 325 = .ok (.goto 1298, 3) := dk_167 5 18 (dk_at dksL_law_10 0 rfl rfl)
theorem dL_law_328 : decode cL_law 328 = .ok (.aload_n 1, 1) := dk_43 (dk_at dksL_law_10 3 rfl rfl)
theorem dL_law_329 : decode cL_law 329 = .ok (.aload_n 0, 1) := dk_42 (dk_at dksL_law_10 4 rfl rfl)
theorem dL_law_330 : decode cL_law 330 = .ok (.iload 4, 2) := dk_21 4 (dk_at dksL_law_10 5 rfl rfl)
theorem dL_law_332 : decode cL_law 332 = .ok (.iconst 1, 1) := dk_4 (dk_at dksL_law_10 7 rfl rfl)
theorem dL_law_333 : decode cL_law 333 = .ok (.iadd, 1) := dk_96 (dk_at dksL_law_10 8 rfl rfl)
theorem dL_law_334 : decode cL_law 334 = .ok (.iaload, 1) := dk_46 (dk_at dksL_law_10 9 rfl rfl)
theorem dL_law_335 : decode cL_law 335 = .ok (.aload_n 3, 1) := dk_45 (dk_at dksL_law_10 10 rfl rfl)
theorem dL_law_336 : decode cL_law 336 = .ok (.invokestatic 107, 3) := dk_184 0 107 (dk_at dksL_law_10 11 rfl rfl)
theorem dL_law_339 : decode cL_law 339 = .ok (.istore 5, 2) := dk_54 5 (dk_at dksL_law_10 14 rfl rfl)
theorem dL_law_341 : decode cL_law 341 = .ok (.aload_n 2, 1) := dk_44 (dk_at dksL_law_10 16 rfl rfl)
theorem dL_law_342 : decode cL_law 342 = .ok (.aload_n 0, 1) := dk_42 (dk_at dksL_law_10 17 rfl rfl)
theorem dL_law_343 : decode cL_law 343 = .ok (.iload 4, 2) := dk_21 4 (dk_at dksL_law_10 18 rfl rfl)
theorem dL_law_345 : decode cL_law 345 = .ok (.iconst 1, 1) := dk_4 (dk_at dksL_law_10 20 rfl rfl)
theorem dL_law_346 : decode cL_law 346 = .ok (.iadd, 1) := dk_96 (dk_at dksL_law_10 21 rfl rfl)
theorem dL_law_347 : decode cL_law 347 = .ok (.iaload, 1) := dk_46 (dk_at dksL_law_10 22 rfl rfl)
theorem dL_law_348 : decode cL_law 348 = .ok (.invokevirtual 109, 3) := dk_182 0 109 (dk_at dksL_law_11 0 rfl rfl)
theorem dL_law_351 : decode cL_law 351 = .ok (.istore 6, 2) := dk_54 6 (dk_at dksL_law_11 3 rfl rfl)
theorem dL_law_353 : decode cL_law 353 = .ok (.aload_n 2, 1) := dk_44 (dk_at dksL_law_11 5 rfl rfl)
theorem dL_law_354 : decode cL_law 354 = .ok (.invokevirtual 97, 3) := dk_182 0 97 (dk_at dksL_law_11 6 rfl rfl)
theorem dL_law_357 : decode cL_law 357 = .ok (.iload 5, 2) := dk_21 5 (dk_at dksL_law_11 9 rfl rfl)
theorem dL_law_359 : decode cL_law 359 = .ok (.if_icmp .eq 5, 3) := dk_159 0 5 (dk_at dksL_law_11 11 rfl rfl)
theorem dL_law_362 : decode cL_law 362 = .ok (.iconst 0, 1) := dk_3 (dk_at dksL_law_11 14 rfl rfl)
theorem dL_law_363 : decode cL_law 363 = .ok (.ireturn, 1) := dk_172 (dk_at dksL_law_11 15 rfl rfl)
theorem dL_law_364 : decode cL_law 364 = .ok (.iload 5, 2) := dk_21 5 (dk_at dksL_law_11 16 rfl rfl)
theorem dL_law_366 : decode cL_law 366 = .ok (.ifCond .ne 15, 3) := dk_154 0 15 (dk_at dksL_law_11 18 rfl rfl)
theorem dL_law_369 : decode cL_law 369 = .ok (.aload_n 3, 1) := dk_45 (dk_at dksL_law_11 21 rfl rfl)
theorem dL_law_370 : decode cL_law 370 = .ok (.iconst 0, 1) := dk_3 (dk_at dksL_law_11 22 rfl rfl)
theorem dL_law_371 : decode cL_law 371 = .ok (.laload, 1) := dk_47 (dk_at dksL_law_11 23 rfl rfl)
theorem dL_law_372 : decode cL_law 372 = .ok (.iload 6, 2) := dk_21 6 (dk_at dksL_law_12 0 rfl rfl)
theorem dL_law_374 : decode cL_law 374 = .ok (.i2l, 1) := dk_133 (dk_at dksL_law_12 2 rfl rfl)
theorem dL_law_375 : decode cL_law 375 = .ok (.lcmp, 1) := dk_148 (dk_at dksL_law_12 3 rfl rfl)
theorem dL_law_376 : decode cL_law 376 = .ok (.ifCond .eq 5, 3) := dk_153 0 5 (dk_at dksL_law_12 4 rfl rfl)
theorem dL_law_379 : decode cL_law 379 = .ok (.iconst 0, 1) := dk_3 (dk_at dksL_law_12 7 rfl rfl)
theorem dL_law_380 : decode cL_law 380 = .ok (.ireturn, 1) := dk_172 (dk_at dksL_law_12 8 rfl rfl)
theorem dL_law_381 : decode cL_law 381 = .ok (.goto 1242, 3) := dk_167 4 218 (dk_at dksL_law_12 9 rfl rfl)
theorem dL_law_384 : decode cL_law 384 = .ok (.aload_n 1, 1) := dk_43 (dk_at dksL_law_12 12 rfl rfl)
theorem dL_law_385 : decode cL_law 385 = .ok (.aload_n 0, 1) := dk_42 (dk_at dksL_law_12 13 rfl rfl)
theorem dL_law_386 : decode cL_law 386 = .ok (.iload 4, 2) := dk_21 4 (dk_at dksL_law_12 14 rfl rfl)
theorem dL_law_388 : decode cL_law 388 = .ok (.iconst 1, 1) := dk_4 (dk_at dksL_law_12 16 rfl rfl)
theorem dL_law_389 : decode cL_law 389 = .ok (.iadd, 1) := dk_96 (dk_at dksL_law_12 17 rfl rfl)
theorem dL_law_390 : decode cL_law 390 = .ok (.iaload, 1) := dk_46 (dk_at dksL_law_12 18 rfl rfl)
theorem dL_law_391 : decode cL_law 391 = .ok (.aload_n 3, 1) := dk_45 (dk_at dksL_law_12 19 rfl rfl)
theorem dL_law_392 : decode cL_law 392 = .ok (.invokestatic 110, 3) := dk_184 0 110 (dk_at dksL_law_12 20 rfl rfl)
theorem dL_law_395 : decode cL_law 395 = .ok (.istore 5, 2) := dk_54 5 (dk_at dksL_law_13 0 rfl rfl)
theorem dL_law_397 : decode cL_law 397 = .ok (.aload_n 2, 1) := dk_44 (dk_at dksL_law_13 2 rfl rfl)
theorem dL_law_398 : decode cL_law 398 = .ok (.aload_n 0, 1) := dk_42 (dk_at dksL_law_13 3 rfl rfl)
theorem dL_law_399 : decode cL_law 399 = .ok (.iload 4, 2) := dk_21 4 (dk_at dksL_law_13 4 rfl rfl)
theorem dL_law_401 : decode cL_law 401 = .ok (.iconst 1, 1) := dk_4 (dk_at dksL_law_13 6 rfl rfl)
theorem dL_law_402 : decode cL_law 402 = .ok (.iadd, 1) := dk_96 (dk_at dksL_law_13 7 rfl rfl)
theorem dL_law_403 : decode cL_law 403 = .ok (.iaload, 1) := dk_46 (dk_at dksL_law_13 8 rfl rfl)
theorem dL_law_404 : decode cL_law 404 = .ok (.invokevirtual 112, 3) := dk_182 0 112 (dk_at dksL_law_13 9 rfl rfl)
theorem dL_law_407 : decode cL_law 407 = .ok (.istore 6, 2) := dk_54 6 (dk_at dksL_law_13 12 rfl rfl)
theorem dL_law_409 : decode cL_law 409 = .ok (.aload_n 2, 1) := dk_44 (dk_at dksL_law_13 14 rfl rfl)
theorem dL_law_410 : decode cL_law 410 = .ok (.invokevirtual 97, 3) := dk_182 0 97 (dk_at dksL_law_13 15 rfl rfl)
theorem dL_law_413 : decode cL_law 413 = .ok (.iload 5, 2) := dk_21 5 (dk_at dksL_law_13 18 rfl rfl)
theorem dL_law_415 : decode cL_law 415 = .ok (.if_icmp .eq 5, 3) := dk_159 0 5 (dk_at dksL_law_13 20 rfl rfl)
theorem dL_law_418 : decode cL_law 418 = .ok (.iconst 0, 1) := dk_3 (dk_at dksL_law_13 23 rfl rfl)
theorem dL_law_419 : decode cL_law 419 = .ok (.ireturn, 1) := dk_172 (dk_at dksL_law_14 0 rfl rfl)
theorem dL_law_420 : decode cL_law 420 = .ok (.iload 5, 2) := dk_21 5 (dk_at dksL_law_14 1 rfl rfl)
theorem dL_law_422 : decode cL_law 422 = .ok (.ifCond .ne 15, 3) := dk_154 0 15 (dk_at dksL_law_14 3 rfl rfl)
theorem dL_law_425 : decode cL_law 425 = .ok (.aload_n 3, 1) := dk_45 (dk_at dksL_law_14 6 rfl rfl)
theorem dL_law_426 : decode cL_law 426 = .ok (.iconst 0, 1) := dk_3 (dk_at dksL_law_14 7 rfl rfl)
theorem dL_law_427 : decode cL_law 427 = .ok (.laload, 1) := dk_47 (dk_at dksL_law_14 8 rfl rfl)
theorem dL_law_428 : decode cL_law 428 = .ok (.iload 6, 2) := dk_21 6 (dk_at dksL_law_14 9 rfl rfl)
theorem dL_law_430 : decode cL_law 430 = .ok (.i2l, 1) := dk_133 (dk_at dksL_law_14 11 rfl rfl)
theorem dL_law_431 : decode cL_law 431 = .ok (.lcmp, 1) := dk_148 (dk_at dksL_law_14 12 rfl rfl)
theorem dL_law_432 : decode cL_law 432 = .ok (.ifCond .eq 5, 3) := dk_153 0 5 (dk_at dksL_law_14 13 rfl rfl)
theorem dL_law_435 : decode cL_law 435 = .ok (.iconst 0, 1) := dk_3 (dk_at dksL_law_14 16 rfl rfl)
theorem dL_law_436 : decode cL_law 436 = .ok (.ireturn, 1) := dk_172 (dk_at dksL_law_14 17 rfl rfl)
theorem dL_law_437 : decode cL_law 437 = .ok (.goto 1186, 3) := dk_167 4 162 (dk_at dksL_law_14 18 rfl rfl)
theorem dL_law_440 : decode cL_law 440 = .ok (.aload_n 1, 1) := dk_43 (dk_at dksL_law_14 21 rfl rfl)
theorem dL_law_441 : decode cL_law 441 = .ok (.invokevirtual 113, 3) := dk_182 0 113 (dk_at dksL_law_15 0 rfl rfl)
theorem dL_law_444 : decode cL_law 444 = .ok (.aload_n 2, 1) := dk_44 (dk_at dksL_law_15 3 rfl rfl)
theorem dL_law_445 : decode cL_law 445 = .ok (.invokevirtual 116, 3) := dk_182 0 116 (dk_at dksL_law_15 4 rfl rfl)
theorem dL_law_448 : decode cL_law 448 = .ok (.if_icmp .eq 1175, 3) := dk_159 4 151 (dk_at dksL_law_15 7 rfl rfl)
theorem dL_law_451 : decode cL_law 451 = .ok (.iconst 0, 1) := dk_3 (dk_at dksL_law_15 10 rfl rfl)
theorem dL_law_452 : decode cL_law 452 = .ok (.ireturn, 1) := dk_172 (dk_at dksL_law_15 11 rfl rfl)
theorem dL_law_453 : decode cL_law 453 = .ok (.aload_n 1, 1) := dk_43 (dk_at dksL_law_15 12 rfl rfl)
theorem dL_law_454 : decode cL_law 454 = .ok (.invokevirtual 117, 3) := dk_182 0 117 (dk_at dksL_law_15 13 rfl rfl)
theorem dL_law_457 : decode cL_law 457 = .ok (.aload_n 2, 1) := dk_44 (dk_at dksL_law_15 16 rfl rfl)
theorem dL_law_458 : decode cL_law 458 = .ok (.invokevirtual 120, 3) := dk_182 0 120 (dk_at dksL_law_15 17 rfl rfl)
theorem dL_law_461 : decode cL_law 461 = .ok (.if_icmp .eq 1162, 3) := dk_159 4 138 (dk_at dksL_law_15 20 rfl rfl)
theorem dL_law_464 : decode cL_law 464 = .ok (.iconst 0, 1) := dk_3 (dk_at dksL_law_15 23 rfl rfl)
theorem dL_law_465 : decode cL_law 465 = .ok (.ireturn, 1) := dk_172 (dk_at dksL_law_16 0 rfl rfl)
theorem dL_law_466 : decode cL_law 466 = .ok (.aload_n 1, 1) := dk_43 (dk_at dksL_law_16 1 rfl rfl)
theorem dL_law_467 : decode cL_law 467 = .ok (.aload_n 0, 1) := dk_42 (dk_at dksL_law_16 2 rfl rfl)
theorem dL_law_468 : decode cL_law 468 = .ok (.iload 4, 2) := dk_21 4 (dk_at dksL_law_16 3 rfl rfl)
theorem dL_law_470 : decode cL_law 470 = .ok (.iconst 1, 1) := dk_4 (dk_at dksL_law_16 5 rfl rfl)
theorem dL_law_471 : decode cL_law 471 = .ok (.iadd, 1) := dk_96 (dk_at dksL_law_16 6 rfl rfl)
theorem dL_law_472 : decode cL_law 472 = .ok (.iaload, 1) := dk_46 (dk_at dksL_law_16 7 rfl rfl)
theorem dL_law_473 : decode cL_law 473 = .ok (.aload_n 3, 1) := dk_45 (dk_at dksL_law_16 8 rfl rfl)
theorem dL_law_474 : decode cL_law 474 = .ok (.invokestatic 121, 3) := dk_184 0 121 (dk_at dksL_law_16 9 rfl rfl)
theorem dL_law_477 : decode cL_law 477 = .ok (.istore 5, 2) := dk_54 5 (dk_at dksL_law_16 12 rfl rfl)
theorem dL_law_479 : decode cL_law 479 = .ok (.aload_n 2, 1) := dk_44 (dk_at dksL_law_16 14 rfl rfl)
theorem dL_law_480 : decode cL_law 480 = .ok (.aload_n 0, 1) := dk_42 (dk_at dksL_law_16 15 rfl rfl)
theorem dL_law_481 : decode cL_law 481 = .ok (.iload 4, 2) := dk_21 4 (dk_at dksL_law_16 16 rfl rfl)
theorem dL_law_483 : decode cL_law 483 = .ok (.iconst 1, 1) := dk_4 (dk_at dksL_law_16 18 rfl rfl)
theorem dL_law_484 : decode cL_law 484 = .ok (.iadd, 1) := dk_96 (dk_at dksL_law_16 19 rfl rfl)
theorem dL_law_485 : decode cL_law 485 = .ok (.iaload, 1) := dk_46 (dk_at dksL_law_16 20 rfl rfl)
theorem dL_law_486 : decode cL_law 486 = .ok (.invokevirtual 123, 3) := dk_182 0 123 (dk_at dksL_law_16 21 rfl rfl)
theorem dL_law_489 : decode cL_law 489 = .ok (.istore 6, 2) := dk_54 6 (dk_at dksL_law_17 0 rfl rfl)
theorem dL_law_491 : decode cL_law 491 = .ok (.aload_n 2, 1) := dk_44 (dk_at dksL_law_17 2 rfl rfl)
theorem dL_law_492 : decode cL_law 492 = .ok (.invokevirtual 97, 3) := dk_182 0 97 (dk_at dksL_law_17 3 rfl rfl)
theorem dL_law_495 : decode cL_law 495 = .ok (.iload 5, 2) := dk_21 5 (dk_at dksL_law_17 6 rfl rfl)
theorem dL_law_497 : decode cL_law 497 = .ok (.if_icmp .eq 5, 3) := dk_159 0 5 (dk_at dksL_law_17 8 rfl rfl)
theorem dL_law_500 : decode cL_law 500 = .ok (.iconst 0, 1) := dk_3 (dk_at dksL_law_17 11 rfl rfl)
theorem dL_law_501 : decode cL_law 501 = .ok (.ireturn, 1) := dk_172 (dk_at dksL_law_17 12 rfl rfl)
theorem dL_law_502 : decode cL_law 502 = .ok (.iload 5, 2) := dk_21 5 (dk_at dksL_law_17 13 rfl rfl)
theorem dL_law_504 : decode cL_law 504 = .ok (.ifCond .ne 15, 3) := dk_154 0 15 (dk_at dksL_law_17 15 rfl rfl)
theorem dL_law_507 : decode cL_law 507 = .ok (.aload_n 3, 1) := dk_45 (dk_at dksL_law_17 18 rfl rfl)
theorem dL_law_508 : decode cL_law 508 = .ok (.iconst 0, 1) := dk_3 (dk_at dksL_law_17 19 rfl rfl)
theorem dL_law_509 : decode cL_law 509 = .ok (.laload, 1) := dk_47 (dk_at dksL_law_17 20 rfl rfl)
theorem dL_law_510 : decode cL_law 510 = .ok (.iload 6, 2) := dk_21 6 (dk_at dksL_law_17 21 rfl rfl)
theorem dL_law_512 : decode cL_law 512 = .ok (.i2l, 1) := dk_133 (dk_at dksL_law_17 23 rfl rfl)
theorem dL_law_513 : decode cL_law 513 = .ok (.lcmp, 1) := dk_148 (dk_at dksL_law_18 0 rfl rfl)
theorem dL_law_514 : decode cL_law 514 = .ok (.ifCond .eq 5, 3) := dk_153 0 5 (dk_at dksL_law_18 1 rfl rfl)
theorem dL_law_517 : decode cL_law 517 = .ok (.iconst 0, 1) := dk_3 (dk_at dksL_law_18 4 rfl rfl)
theorem dL_law_518 : decode cL_law 518 = .ok (.ireturn, 1) := dk_172 (dk_at dksL_law_18 5 rfl rfl)
theorem dL_law_519 : decode cL_law 519 = .ok (.goto 1104, 3) := dk_167 4 80 (dk_at dksL_law_18 6 rfl rfl)
theorem dL_law_522 : decode cL_law 522 = .ok (.aload_n 1, 1) := dk_43 (dk_at dksL_law_18 9 rfl rfl)
theorem dL_law_523 : decode cL_law 523 = .ok (.aload_n 0, 1) := dk_42 (dk_at dksL_law_18 10 rfl rfl)
theorem dL_law_524 : decode cL_law 524 = .ok (.iload 4, 2) := dk_21 4 (dk_at dksL_law_18 11 rfl rfl)
theorem dL_law_526 : decode cL_law 526 = .ok (.iconst 1, 1) := dk_4 (dk_at dksL_law_18 13 rfl rfl)
theorem dL_law_527 : decode cL_law 527 = .ok (.iadd, 1) := dk_96 (dk_at dksL_law_18 14 rfl rfl)
theorem dL_law_528 : decode cL_law 528 = .ok (.iaload, 1) := dk_46 (dk_at dksL_law_18 15 rfl rfl)
theorem dL_law_529 : decode cL_law 529 = .ok (.aload_n 3, 1) := dk_45 (dk_at dksL_law_18 16 rfl rfl)
theorem dL_law_530 : decode cL_law 530 = .ok (.invokestatic 124, 3) := dk_184 0 124 (dk_at dksL_law_18 17 rfl rfl)
theorem dL_law_533 : decode cL_law 533 = .ok (.istore 5, 2) := dk_54 5 (dk_at dksL_law_18 20 rfl rfl)
theorem dL_law_535 : decode cL_law 535 = .ok (.aload_n 2, 1) := dk_44 (dk_at dksL_law_18 22 rfl rfl)
theorem dL_law_536 : decode cL_law 536 = .ok (.aload_n 0, 1) := dk_42 (dk_at dksL_law_18 23 rfl rfl)
theorem dL_law_537 : decode cL_law 537 = .ok (.iload 4, 2) := dk_21 4 (dk_at dksL_law_19 0 rfl rfl)
theorem dL_law_539 : decode cL_law 539 = .ok (.iconst 1, 1) := dk_4 (dk_at dksL_law_19 2 rfl rfl)
theorem dL_law_540 : decode cL_law 540 = .ok (.iadd, 1) := dk_96 (dk_at dksL_law_19 3 rfl rfl)
theorem dL_law_541 : decode cL_law 541 = .ok (.iaload, 1) := dk_46 (dk_at dksL_law_19 4 rfl rfl)
theorem dL_law_542 : decode cL_law 542 = .ok (.invokevirtual 126, 3) := dk_182 0 126 (dk_at dksL_law_19 5 rfl rfl)
theorem dL_law_545 : decode cL_law 545 = .ok (.istore 6, 2) := dk_54 6 (dk_at dksL_law_19 8 rfl rfl)
theorem dL_law_547 : decode cL_law 547 = .ok (.aload_n 2, 1) := dk_44 (dk_at dksL_law_19 10 rfl rfl)
theorem dL_law_548 : decode cL_law 548 = .ok (.invokevirtual 97, 3) := dk_182 0 97 (dk_at dksL_law_19 11 rfl rfl)
theorem dL_law_551 : decode cL_law 551 = .ok (.iload 5, 2) := dk_21 5 (dk_at dksL_law_19 14 rfl rfl)
theorem dL_law_553 : decode cL_law 553 = .ok (.if_icmp .eq 5, 3) := dk_159 0 5 (dk_at dksL_law_19 16 rfl rfl)
theorem dL_law_556 : decode cL_law 556 = .ok (.iconst 0, 1) := dk_3 (dk_at dksL_law_19 19 rfl rfl)
theorem dL_law_557 : decode cL_law 557 = .ok (.ireturn, 1) := dk_172 (dk_at dksL_law_19 20 rfl rfl)
theorem dL_law_558 : decode cL_law 558 = .ok (.iload 5, 2) := dk_21 5 (dk_at dksL_law_19 21 rfl rfl)
theorem dL_law_560 : decode cL_law 560 = .ok (.ifCond .ne 15, 3) := dk_154 0 15 (dk_at dksL_law_20 0 rfl rfl)
theorem dL_law_563 : decode cL_law 563 = .ok (.aload_n 3, 1) := dk_45 (dk_at dksL_law_20 3 rfl rfl)
theorem dL_law_564 : decode cL_law 564 = .ok (.iconst 0, 1) := dk_3 (dk_at dksL_law_20 4 rfl rfl)
theorem dL_law_565 : decode cL_law 565 = .ok (.laload, 1) := dk_47 (dk_at dksL_law_20 5 rfl rfl)
theorem dL_law_566 : decode cL_law 566 = .ok (.iload 6, 2) := dk_21 6 (dk_at dksL_law_20 6 rfl rfl)
theorem dL_law_568 : decode cL_law 568 = .ok (.i2l, 1) := dk_133 (dk_at dksL_law_20 8 rfl rfl)
theorem dL_law_569 : decode cL_law 569 = .ok (.lcmp, 1) := dk_148 (dk_at dksL_law_20 9 rfl rfl)
theorem dL_law_570 : decode cL_law 570 = .ok (.ifCond .eq 5, 3) := dk_153 0 5 (dk_at dksL_law_20 10 rfl rfl)
theorem dL_law_573 : decode cL_law 573 = .ok (.iconst 0, 1) := dk_3 (dk_at dksL_law_20 13 rfl rfl)
theorem dL_law_574 : decode cL_law 574 = .ok (.ireturn, 1) := dk_172 (dk_at dksL_law_20 14 rfl rfl)
theorem dL_law_575 : decode cL_law 575 = .ok (.goto 1048, 3) := dk_167 4 24 (dk_at dksL_law_20 15 rfl rfl)
theorem dL_law_578 : decode cL_law 578 = .ok (.aload_n 1, 1) := dk_43 (dk_at dksL_law_20 18 rfl rfl)
theorem dL_law_579 : decode cL_law 579 = .ok (.aload_n 0, 1) := dk_42 (dk_at dksL_law_20 19 rfl rfl)
theorem dL_law_580 : decode cL_law 580 = .ok (.iload 4, 2) := dk_21 4 (dk_at dksL_law_20 20 rfl rfl)
theorem dL_law_582 : decode cL_law 582 = .ok (.iconst 1, 1) := dk_4 (dk_at dksL_law_20 22 rfl rfl)
theorem dL_law_583 : decode cL_law 583 = .ok (.iadd, 1) := dk_96 (dk_at dksL_law_20 23 rfl rfl)
theorem dL_law_584 : decode cL_law 584 = .ok (.iaload, 1) := dk_46 (dk_at dksL_law_21 0 rfl rfl)
theorem dL_law_585 : decode cL_law 585 = .ok (.aload_n 3, 1) := dk_45 (dk_at dksL_law_21 1 rfl rfl)
theorem dL_law_586 : decode cL_law 586 = .ok (.invokestatic 127, 3) := dk_184 0 127 (dk_at dksL_law_21 2 rfl rfl)
theorem dL_law_589 : decode cL_law 589 = .ok (.istore 5, 2) := dk_54 5 (dk_at dksL_law_21 5 rfl rfl)
theorem dL_law_591 : decode cL_law 591 = .ok (.aload_n 2, 1) := dk_44 (dk_at dksL_law_21 7 rfl rfl)
theorem dL_law_592 : decode cL_law 592 = .ok (.aload_n 0, 1) := dk_42 (dk_at dksL_law_21 8 rfl rfl)
theorem dL_law_593 : decode cL_law 593 = .ok (.iload 4, 2) := dk_21 4 (dk_at dksL_law_21 9 rfl rfl)
theorem dL_law_595 : decode cL_law 595 = .ok (.iconst 1, 1) := dk_4 (dk_at dksL_law_21 11 rfl rfl)
theorem dL_law_596 : decode cL_law 596 = .ok (.iadd, 1) := dk_96 (dk_at dksL_law_21 12 rfl rfl)
theorem dL_law_597 : decode cL_law 597 = .ok (.iaload, 1) := dk_46 (dk_at dksL_law_21 13 rfl rfl)
theorem dL_law_598 : decode cL_law 598 = .ok (.invokevirtual 129, 3) := dk_182 0 129 (dk_at dksL_law_21 14 rfl rfl)
theorem dL_law_601 : decode cL_law 601 = .ok (.istore 6, 2) := dk_54 6 (dk_at dksL_law_21 17 rfl rfl)
theorem dL_law_603 : decode cL_law 603 = .ok (.aload_n 2, 1) := dk_44 (dk_at dksL_law_21 19 rfl rfl)
theorem dL_law_604 : decode cL_law 604 = .ok (.invokevirtual 97, 3) := dk_182 0 97 (dk_at dksL_law_21 20 rfl rfl)
theorem dL_law_607 : decode cL_law 607 = .ok (.iload 5, 2) := dk_21 5 (dk_at dksL_law_22 0 rfl rfl)
theorem dL_law_609 : decode cL_law 609 = .ok (.if_icmp .eq 5, 3) := dk_159 0 5 (dk_at dksL_law_22 2 rfl rfl)
theorem dL_law_612 : decode cL_law 612 = .ok (.iconst 0, 1) := dk_3 (dk_at dksL_law_22 5 rfl rfl)
theorem dL_law_613 : decode cL_law 613 = .ok (.ireturn, 1) := dk_172 (dk_at dksL_law_22 6 rfl rfl)
theorem dL_law_614 : decode cL_law 614 = .ok (.iload 5, 2) := dk_21 5 (dk_at dksL_law_22 7 rfl rfl)
theorem dL_law_616 : decode cL_law 616 = .ok (.ifCond .ne 15, 3) := dk_154 0 15 (dk_at dksL_law_22 9 rfl rfl)
theorem dL_law_619 : decode cL_law 619 = .ok (.aload_n 3, 1) := dk_45 (dk_at dksL_law_22 12 rfl rfl)
theorem dL_law_620 : decode cL_law 620 = .ok (.iconst 0, 1) := dk_3 (dk_at dksL_law_22 13 rfl rfl)
theorem dL_law_621 : decode cL_law 621 = .ok (.laload, 1) := dk_47 (dk_at dksL_law_22 14 rfl rfl)
theorem dL_law_622 : decode cL_law 622 = .ok (.iload 6, 2) := dk_21 6 (dk_at dksL_law_22 15 rfl rfl)
theorem dL_law_624 : decode cL_law 624 = .ok (.i2l, 1) := dk_133 (dk_at dksL_law_22 17 rfl rfl)
theorem dL_law_625 : decode cL_law 625 = .ok (.lcmp, 1) := dk_148 (dk_at dksL_law_22 18 rfl rfl)
theorem dL_law_626 : decode cL_law 626 = .ok (.ifCond .eq 5, 3) := dk_153 0 5 (dk_at dksL_law_22 19 rfl rfl)
theorem dL_law_629 : decode cL_law 629 = .ok (.iconst 0, 1) := dk_3 (dk_at dksL_law_22 22 rfl rfl)
theorem dL_law_630 : decode cL_law 630 = .ok (.ireturn, 1) := dk_172 (dk_at dksL_law_22 23 rfl rfl)
theorem dL_law_631 : decode cL_law 631 = .ok (.goto 992, 3) := dk_167 3 224 (dk_at dksL_law_23 0 rfl rfl)
theorem dL_law_634 : decode cL_law 634 = .ok (.aload_n 1, 1) := dk_43 (dk_at dksL_law_23 3 rfl rfl)
theorem dL_law_635 : decode cL_law 635 = .ok (.aload_n 0, 1) := dk_42 (dk_at dksL_law_23 4 rfl rfl)
theorem dL_law_636 : decode cL_law 636 = .ok (.iload 4, 2) := dk_21 4 (dk_at dksL_law_23 5 rfl rfl)
theorem dL_law_638 : decode cL_law 638 = .ok (.iconst 1, 1) := dk_4 (dk_at dksL_law_23 7 rfl rfl)
theorem dL_law_639 : decode cL_law 639 = .ok (.iadd, 1) := dk_96 (dk_at dksL_law_23 8 rfl rfl)
theorem dL_law_640 : decode cL_law 640 = .ok (.iaload, 1) := dk_46 (dk_at dksL_law_23 9 rfl rfl)
theorem dL_law_641 : decode cL_law 641 = .ok (.aload_n 0, 1) := dk_42 (dk_at dksL_law_23 10 rfl rfl)
theorem dL_law_642 : decode cL_law 642 = .ok (.iload 4, 2) := dk_21 4 (dk_at dksL_law_23 11 rfl rfl)
theorem dL_law_644 : decode cL_law 644 = .ok (.iconst 2, 1) := dk_5 (dk_at dksL_law_23 13 rfl rfl)
theorem dL_law_645 : decode cL_law 645 = .ok (.iadd, 1) := dk_96 (dk_at dksL_law_23 14 rfl rfl)
theorem dL_law_646 : decode cL_law 646 = .ok (.iaload, 1) := dk_46 (dk_at dksL_law_23 15 rfl rfl)
theorem dL_law_647 : decode cL_law 647 = .ok (.aload_n 3, 1) := dk_45 (dk_at dksL_law_23 16 rfl rfl)
theorem dL_law_648 : decode cL_law 648 = .ok (.invokestatic 130, 3) := dk_184 0 130 (dk_at dksL_law_23 17 rfl rfl)
theorem dL_law_651 : decode cL_law 651 = .ok (.istore 5, 2) := dk_54 5 (dk_at dksL_law_23 20 rfl rfl)
theorem dL_law_653 : decode cL_law 653 = .ok (.aload_n 2, 1) := dk_44 (dk_at dksL_law_23 22 rfl rfl)
theorem dL_law_654 : decode cL_law 654 = .ok (.aload_n 0, 1) := dk_42 (dk_at dksL_law_23 23 rfl rfl)
theorem dL_law_655 : decode cL_law 655 = .ok (.iload 4, 2) := dk_21 4 (dk_at dksL_law_24 0 rfl rfl)
theorem dL_law_657 : decode cL_law 657 = .ok (.iconst 1, 1) := dk_4 (dk_at dksL_law_24 2 rfl rfl)
theorem dL_law_658 : decode cL_law 658 = .ok (.iadd, 1) := dk_96 (dk_at dksL_law_24 3 rfl rfl)
theorem dL_law_659 : decode cL_law 659 = .ok (.iaload, 1) := dk_46 (dk_at dksL_law_24 4 rfl rfl)
theorem dL_law_660 : decode cL_law 660 = .ok (.aload_n 0, 1) := dk_42 (dk_at dksL_law_24 5 rfl rfl)
theorem dL_law_661 : decode cL_law 661 = .ok (.iload 4, 2) := dk_21 4 (dk_at dksL_law_24 6 rfl rfl)
theorem dL_law_663 : decode cL_law 663 = .ok (.iconst 2, 1) := dk_5 (dk_at dksL_law_24 8 rfl rfl)
theorem dL_law_664 : decode cL_law 664 = .ok (.iadd, 1) := dk_96 (dk_at dksL_law_24 9 rfl rfl)
theorem dL_law_665 : decode cL_law 665 = .ok (.iaload, 1) := dk_46 (dk_at dksL_law_24 10 rfl rfl)
theorem dL_law_666 : decode cL_law 666 = .ok (.invokevirtual 133, 3) := dk_182 0 133 (dk_at dksL_law_24 11 rfl rfl)
theorem dL_law_669 : decode cL_law 669 = .ok (.istore 6, 2) := dk_54 6 (dk_at dksL_law_24 14 rfl rfl)
theorem dL_law_671 : decode cL_law 671 = .ok (.aload_n 2, 1) := dk_44 (dk_at dksL_law_24 16 rfl rfl)
theorem dL_law_672 : decode cL_law 672 = .ok (.invokevirtual 97, 3) := dk_182 0 97 (dk_at dksL_law_24 17 rfl rfl)
theorem dL_law_675 : decode cL_law 675 = .ok (.iload 5, 2) := dk_21 5 (dk_at dksL_law_24 20 rfl rfl)
theorem dL_law_677 : decode cL_law 677 = .ok (.if_icmp .eq 5, 3) := dk_159 0 5 (dk_at dksL_law_25 0 rfl rfl)
theorem dL_law_680 : decode cL_law 680 = .ok (.iconst 0, 1) := dk_3 (dk_at dksL_law_25 3 rfl rfl)
theorem dL_law_681 : decode cL_law 681 = .ok (.ireturn, 1) := dk_172 (dk_at dksL_law_25 4 rfl rfl)
theorem dL_law_682 : decode cL_law 682 = .ok (.iload 5, 2) := dk_21 5 (dk_at dksL_law_25 5 rfl rfl)
theorem dL_law_684 : decode cL_law 684 = .ok (.ifCond .ne 15, 3) := dk_154 0 15 (dk_at dksL_law_25 7 rfl rfl)
theorem dL_law_687 : decode cL_law 687 = .ok (.aload_n 3, 1) := dk_45 (dk_at dksL_law_25 10 rfl rfl)
theorem dL_law_688 : decode cL_law 688 = .ok (.iconst 0, 1) := dk_3 (dk_at dksL_law_25 11 rfl rfl)
theorem dL_law_689 : decode cL_law 689 = .ok (.laload, 1) := dk_47 (dk_at dksL_law_25 12 rfl rfl)
theorem dL_law_690 : decode cL_law 690 = .ok (.iload 6, 2) := dk_21 6 (dk_at dksL_law_25 13 rfl rfl)
theorem dL_law_692 : decode cL_law 692 = .ok (.i2l, 1) := dk_133 (dk_at dksL_law_25 15 rfl rfl)
theorem dL_law_693 : decode cL_law 693 = .ok (.lcmp, 1) := dk_148 (dk_at dksL_law_25 16 rfl rfl)
theorem dL_law_694 : decode cL_law 694 = .ok (.ifCond .eq 5, 3) := dk_153 0 5 (dk_at dksL_law_25 17 rfl rfl)
theorem dL_law_697 : decode cL_law 697 = .ok (.iconst 0, 1) := dk_3 (dk_at dksL_law_25 20 rfl rfl)
theorem dL_law_698 : decode cL_law 698 = .ok (.ireturn, 1) := dk_172 (dk_at dksL_law_25 21 rfl rfl)
theorem dL_law_699 : decode cL_law 699 = .ok (.goto 924, 3) := dk_167 3 156 (dk_at dksL_law_26 0 rfl rfl)
theorem dL_law_702 : decode cL_law 702 = .ok (.aload_n 1, 1) := dk_43 (dk_at dksL_law_26 3 rfl rfl)
theorem dL_law_703 : decode cL_law 703 = .ok (.aload_n 0, 1) := dk_42 (dk_at dksL_law_26 4 rfl rfl)
theorem dL_law_704 : decode cL_law 704 = .ok (.iload 4, 2) := dk_21 4 (dk_at dksL_law_26 5 rfl rfl)
theorem dL_law_706 : decode cL_law 706 = .ok (.iconst 1, 1) := dk_4 (dk_at dksL_law_26 7 rfl rfl)
theorem dL_law_707 : decode cL_law 707 = .ok (.iadd, 1) := dk_96 (dk_at dksL_law_26 8 rfl rfl)
theorem dL_law_708 : decode cL_law 708 = .ok (.iaload, 1) := dk_46 (dk_at dksL_law_26 9 rfl rfl)
theorem dL_law_709 : decode cL_law 709 = .ok (.aload_n 0, 1) := dk_42 (dk_at dksL_law_26 10 rfl rfl)
theorem dL_law_710 : decode cL_law 710 = .ok (.iload 4, 2) := dk_21 4 (dk_at dksL_law_26 11 rfl rfl)
theorem dL_law_712 : decode cL_law 712 = .ok (.iconst 2, 1) := dk_5 (dk_at dksL_law_26 13 rfl rfl)
theorem dL_law_713 : decode cL_law 713 = .ok (.iadd, 1) := dk_96 (dk_at dksL_law_26 14 rfl rfl)
theorem dL_law_714 : decode cL_law 714 = .ok (.iaload, 1) := dk_46 (dk_at dksL_law_26 15 rfl rfl)
theorem dL_law_715 : decode cL_law 715 = .ok (.aload_n 0, 1) := dk_42 (dk_at dksL_law_26 16 rfl rfl)
theorem dL_law_716 : decode cL_law 716 = .ok (.iload 4, 2) := dk_21 4 (dk_at dksL_law_26 17 rfl rfl)
theorem dL_law_718 : decode cL_law 718 = .ok (.iconst 3, 1) := dk_6 (dk_at dksL_law_26 19 rfl rfl)
theorem dL_law_719 : decode cL_law 719 = .ok (.iadd, 1) := dk_96 (dk_at dksL_law_26 20 rfl rfl)
theorem dL_law_720 : decode cL_law 720 = .ok (.iaload, 1) := dk_46 (dk_at dksL_law_26 21 rfl rfl)
theorem dL_law_721 : decode cL_law 721 = .ok (.aload_n 3, 1) := dk_45 (dk_at dksL_law_26 22 rfl rfl)
theorem dL_law_722 : decode cL_law 722 = .ok (.invokestatic 134, 3) := dk_184 0 134 (dk_at dksL_law_27 0 rfl rfl)
theorem dL_law_725 : decode cL_law 725 = .ok (.istore 5, 2) := dk_54 5 (dk_at dksL_law_27 3 rfl rfl)
theorem dL_law_727 : decode cL_law 727 = .ok (.aload_n 2, 1) := dk_44 (dk_at dksL_law_27 5 rfl rfl)
theorem dL_law_728 : decode cL_law 728 = .ok (.aload_n 0, 1) := dk_42 (dk_at dksL_law_27 6 rfl rfl)
theorem dL_law_729 : decode cL_law 729 = .ok (.iload 4, 2) := dk_21 4 (dk_at dksL_law_27 7 rfl rfl)
theorem dL_law_731 : decode cL_law 731 = .ok (.iconst 1, 1) := dk_4 (dk_at dksL_law_27 9 rfl rfl)
theorem dL_law_732 : decode cL_law 732 = .ok (.iadd, 1) := dk_96 (dk_at dksL_law_27 10 rfl rfl)
theorem dL_law_733 : decode cL_law 733 = .ok (.iaload, 1) := dk_46 (dk_at dksL_law_27 11 rfl rfl)
theorem dL_law_734 : decode cL_law 734 = .ok (.aload_n 0, 1) := dk_42 (dk_at dksL_law_27 12 rfl rfl)
theorem dL_law_735 : decode cL_law 735 = .ok (.iload 4, 2) := dk_21 4 (dk_at dksL_law_27 13 rfl rfl)
theorem dL_law_737 : decode cL_law 737 = .ok (.iconst 2, 1) := dk_5 (dk_at dksL_law_27 15 rfl rfl)
theorem dL_law_738 : decode cL_law 738 = .ok (.iadd, 1) := dk_96 (dk_at dksL_law_27 16 rfl rfl)
theorem dL_law_739 : decode cL_law 739 = .ok (.iaload, 1) := dk_46 (dk_at dksL_law_27 17 rfl rfl)
theorem dL_law_740 : decode cL_law 740 = .ok (.aload_n 0, 1) := dk_42 (dk_at dksL_law_27 18 rfl rfl)
theorem dL_law_741 : decode cL_law 741 = .ok (.iload 4, 2) := dk_21 4 (dk_at dksL_law_27 19 rfl rfl)
theorem dL_law_743 : decode cL_law 743 = .ok (.iconst 3, 1) := dk_6 (dk_at dksL_law_27 21 rfl rfl)
theorem dL_law_744 : decode cL_law 744 = .ok (.iadd, 1) := dk_96 (dk_at dksL_law_27 22 rfl rfl)
theorem dL_law_745 : decode cL_law 745 = .ok (.iaload, 1) := dk_46 (dk_at dksL_law_27 23 rfl rfl)
theorem dL_law_746 : decode cL_law 746 = .ok (.invokevirtual 137, 3) := dk_182 0 137 (dk_at dksL_law_28 0 rfl rfl)
theorem dL_law_749 : decode cL_law 749 = .ok (.istore 6, 2) := dk_54 6 (dk_at dksL_law_28 3 rfl rfl)
theorem dL_law_751 : decode cL_law 751 = .ok (.aload_n 2, 1) := dk_44 (dk_at dksL_law_28 5 rfl rfl)
theorem dL_law_752 : decode cL_law 752 = .ok (.invokevirtual 97, 3) := dk_182 0 97 (dk_at dksL_law_28 6 rfl rfl)
theorem dL_law_755 : decode cL_law 755 = .ok (.iload 5, 2) := dk_21 5 (dk_at dksL_law_28 9 rfl rfl)
theorem dL_law_757 : decode cL_law 757 = .ok (.if_icmp .eq 5, 3) := dk_159 0 5 (dk_at dksL_law_28 11 rfl rfl)
theorem dL_law_760 : decode cL_law 760 = .ok (.iconst 0, 1) := dk_3 (dk_at dksL_law_28 14 rfl rfl)
theorem dL_law_761 : decode cL_law 761 = .ok (.ireturn, 1) := dk_172 (dk_at dksL_law_28 15 rfl rfl)
theorem dL_law_762 : decode cL_law 762 = .ok (.iload 5, 2) := dk_21 5 (dk_at dksL_law_28 16 rfl rfl)
theorem dL_law_764 : decode cL_law 764 = .ok (.ifCond .ne 15, 3) := dk_154 0 15 (dk_at dksL_law_28 18 rfl rfl)
theorem dL_law_767 : decode cL_law 767 = .ok (.aload_n 3, 1) := dk_45 (dk_at dksL_law_28 21 rfl rfl)
theorem dL_law_768 : decode cL_law 768 = .ok (.iconst 0, 1) := dk_3 (dk_at dksL_law_28 22 rfl rfl)
theorem dL_law_769 : decode cL_law 769 = .ok (.laload, 1) := dk_47 (dk_at dksL_law_28 23 rfl rfl)
theorem dL_law_770 : decode cL_law 770 = .ok (.iload 6, 2) := dk_21 6 (dk_at dksL_law_29 0 rfl rfl)
theorem dL_law_772 : decode cL_law 772 = .ok (.i2l, 1) := dk_133 (dk_at dksL_law_29 2 rfl rfl)
theorem dL_law_773 : decode cL_law 773 = .ok (.lcmp, 1) := dk_148 (dk_at dksL_law_29 3 rfl rfl)
theorem dL_law_774 : decode cL_law 774 = .ok (.ifCond .eq 5, 3) := dk_153 0 5 (dk_at dksL_law_29 4 rfl rfl)
theorem dL_law_777 : decode cL_law 777 = .ok (.iconst 0, 1) := dk_3 (dk_at dksL_law_29 7 rfl rfl)
theorem dL_law_778 : decode cL_law 778 = .ok (.ireturn, 1) := dk_172 (dk_at dksL_law_29 8 rfl rfl)
theorem dL_law_779 : decode cL_law 779 = .ok (.goto 844, 3) := dk_167 3 76 (dk_at dksL_law_29 9 rfl rfl)
theorem dL_law_782 : decode cL_law 782 = .ok (.aload_n 1, 1) := dk_43 (dk_at dksL_law_29 12 rfl rfl)
theorem dL_law_783 : decode cL_law 783 = .ok (.aload_n 0, 1) := dk_42 (dk_at dksL_law_29 13 rfl rfl)
theorem dL_law_784 : decode cL_law 784 = .ok (.iload 4, 2) := dk_21 4 (dk_at dksL_law_29 14 rfl rfl)
theorem dL_law_786 : decode cL_law 786 = .ok (.iconst 1, 1) := dk_4 (dk_at dksL_law_29 16 rfl rfl)
theorem dL_law_787 : decode cL_law 787 = .ok (.iadd, 1) := dk_96 (dk_at dksL_law_29 17 rfl rfl)
theorem dL_law_788 : decode cL_law 788 = .ok (.iaload, 1) := dk_46 (dk_at dksL_law_29 18 rfl rfl)
theorem dL_law_789 : decode cL_law 789 = .ok (.aload_n 3, 1) := dk_45 (dk_at dksL_law_29 19 rfl rfl)
theorem dL_law_790 : decode cL_law 790 = .ok (.invokestatic 138, 3) := dk_184 0 138 (dk_at dksL_law_29 20 rfl rfl)
theorem dL_law_793 : decode cL_law 793 = .ok (.istore 5, 2) := dk_54 5 (dk_at dksL_law_30 0 rfl rfl)
theorem dL_law_795 : decode cL_law 795 = .ok (.aload_n 2, 1) := dk_44 (dk_at dksL_law_30 2 rfl rfl)
theorem dL_law_796 : decode cL_law 796 = .ok (.aload_n 0, 1) := dk_42 (dk_at dksL_law_30 3 rfl rfl)
theorem dL_law_797 : decode cL_law 797 = .ok (.iload 4, 2) := dk_21 4 (dk_at dksL_law_30 4 rfl rfl)
theorem dL_law_799 : decode cL_law 799 = .ok (.iconst 1, 1) := dk_4 (dk_at dksL_law_30 6 rfl rfl)
theorem dL_law_800 : decode cL_law 800 = .ok (.iadd, 1) := dk_96 (dk_at dksL_law_30 7 rfl rfl)
theorem dL_law_801 : decode cL_law 801 = .ok (.iaload, 1) := dk_46 (dk_at dksL_law_30 8 rfl rfl)
theorem dL_law_802 : decode cL_law 802 = .ok (.invokevirtual 140, 3) := dk_182 0 140 (dk_at dksL_law_30 9 rfl rfl)
theorem dL_law_805 : decode cL_law 805 = .ok (.istore 6, 2) := dk_54 6 (dk_at dksL_law_30 12 rfl rfl)
theorem dL_law_807 : decode cL_law 807 = .ok (.aload_n 2, 1) := dk_44 (dk_at dksL_law_30 14 rfl rfl)
theorem dL_law_808 : decode cL_law 808 = .ok (.invokevirtual 97, 3) := dk_182 0 97 (dk_at dksL_law_30 15 rfl rfl)
theorem dL_law_811 : decode cL_law 811 = .ok (.iload 5, 2) := dk_21 5 (dk_at dksL_law_30 18 rfl rfl)
theorem dL_law_813 : decode cL_law 813 = .ok (.if_icmp .eq 5, 3) := dk_159 0 5 (dk_at dksL_law_30 20 rfl rfl)
theorem dL_law_816 : decode cL_law 816 = .ok (.iconst 0, 1) := dk_3 (dk_at dksL_law_30 23 rfl rfl)
theorem dL_law_817 : decode cL_law 817 = .ok (.ireturn, 1) := dk_172 (dk_at dksL_law_31 0 rfl rfl)
theorem dL_law_818 : decode cL_law 818 = .ok (.iload 5, 2) := dk_21 5 (dk_at dksL_law_31 1 rfl rfl)
theorem dL_law_820 : decode cL_law 820 = .ok (.ifCond .ne 15, 3) := dk_154 0 15 (dk_at dksL_law_31 3 rfl rfl)
theorem dL_law_823 : decode cL_law 823 = .ok (.aload_n 3, 1) := dk_45 (dk_at dksL_law_31 6 rfl rfl)
theorem dL_law_824 : decode cL_law 824 = .ok (.iconst 0, 1) := dk_3 (dk_at dksL_law_31 7 rfl rfl)
theorem dL_law_825 : decode cL_law 825 = .ok (.laload, 1) := dk_47 (dk_at dksL_law_31 8 rfl rfl)
theorem dL_law_826 : decode cL_law 826 = .ok (.iload 6, 2) := dk_21 6 (dk_at dksL_law_31 9 rfl rfl)
theorem dL_law_828 : decode cL_law 828 = .ok (.i2l, 1) := dk_133 (dk_at dksL_law_31 11 rfl rfl)
theorem dL_law_829 : decode cL_law 829 = .ok (.lcmp, 1) := dk_148 (dk_at dksL_law_31 12 rfl rfl)
theorem dL_law_830 : decode cL_law 830 = .ok (.ifCond .eq 5, 3) := dk_153 0 5 (dk_at dksL_law_31 13 rfl rfl)
theorem dL_law_833 : decode cL_law 833 = .ok (.iconst 0, 1) := dk_3 (dk_at dksL_law_31 16 rfl rfl)
theorem dL_law_834 : decode cL_law 834 = .ok (.ireturn, 1) := dk_172 (dk_at dksL_law_31 17 rfl rfl)
theorem dL_law_835 : decode cL_law 835 = .ok (.goto 788, 3) := dk_167 3 20 (dk_at dksL_law_31 18 rfl rfl)
theorem dL_law_838 : decode cL_law 838 = .ok (.aload_n 1, 1) := dk_43 (dk_at dksL_law_31 21 rfl rfl)
theorem dL_law_839 : decode cL_law 839 = .ok (.aload_n 0, 1) := dk_42 (dk_at dksL_law_31 22 rfl rfl)
theorem dL_law_840 : decode cL_law 840 = .ok (.iload 4, 2) := dk_21 4 (dk_at dksL_law_32 0 rfl rfl)
theorem dL_law_842 : decode cL_law 842 = .ok (.iconst 1, 1) := dk_4 (dk_at dksL_law_32 2 rfl rfl)
theorem dL_law_843 : decode cL_law 843 = .ok (.iadd, 1) := dk_96 (dk_at dksL_law_32 3 rfl rfl)
theorem dL_law_844 : decode cL_law 844 = .ok (.iaload, 1) := dk_46 (dk_at dksL_law_32 4 rfl rfl)
theorem dL_law_845 : decode cL_law 845 = .ok (.aload_n 3, 1) := dk_45 (dk_at dksL_law_32 5 rfl rfl)
theorem dL_law_846 : decode cL_law 846 = .ok (.invokestatic 141, 3) := dk_184 0 141 (dk_at dksL_law_32 6 rfl rfl)
theorem dL_law_849 : decode cL_law 849 = .ok (.istore 5, 2) := dk_54 5 (dk_at dksL_law_32 9 rfl rfl)
theorem dL_law_851 : decode cL_law 851 = .ok (.aload_n 2, 1) := dk_44 (dk_at dksL_law_32 11 rfl rfl)
theorem dL_law_852 : decode cL_law 852 = .ok (.aload_n 0, 1) := dk_42 (dk_at dksL_law_32 12 rfl rfl)
theorem dL_law_853 : decode cL_law 853 = .ok (.iload 4, 2) := dk_21 4 (dk_at dksL_law_32 13 rfl rfl)
theorem dL_law_855 : decode cL_law 855 = .ok (.iconst 1, 1) := dk_4 (dk_at dksL_law_32 15 rfl rfl)
theorem dL_law_856 : decode cL_law 856 = .ok (.iadd, 1) := dk_96 (dk_at dksL_law_32 16 rfl rfl)
theorem dL_law_857 : decode cL_law 857 = .ok (.iaload, 1) := dk_46 (dk_at dksL_law_32 17 rfl rfl)
theorem dL_law_858 : decode cL_law 858 = .ok (.invokevirtual 143, 3) := dk_182 0 143 (dk_at dksL_law_32 18 rfl rfl)
theorem dL_law_861 : decode cL_law 861 = .ok (.istore 6, 2) := dk_54 6 (dk_at dksL_law_32 21 rfl rfl)
theorem dL_law_863 : decode cL_law 863 = .ok (.aload_n 2, 1) := dk_44 (dk_at dksL_law_32 23 rfl rfl)
theorem dL_law_864 : decode cL_law 864 = .ok (.invokevirtual 97, 3) := dk_182 0 97 (dk_at dksL_law_33 0 rfl rfl)
theorem dL_law_867 : decode cL_law 867 = .ok (.iload 5, 2) := dk_21 5 (dk_at dksL_law_33 3 rfl rfl)
theorem dL_law_869 : decode cL_law 869 = .ok (.if_icmp .eq 5, 3) := dk_159 0 5 (dk_at dksL_law_33 5 rfl rfl)
theorem dL_law_872 : decode cL_law 872 = .ok (.iconst 0, 1) := dk_3 (dk_at dksL_law_33 8 rfl rfl)
theorem dL_law_873 : decode cL_law 873 = .ok (.ireturn, 1) := dk_172 (dk_at dksL_law_33 9 rfl rfl)
theorem dL_law_874 : decode cL_law 874 = .ok (.iload 5, 2) := dk_21 5 (dk_at dksL_law_33 10 rfl rfl)
theorem dL_law_876 : decode cL_law 876 = .ok (.ifCond .ne 15, 3) := dk_154 0 15 (dk_at dksL_law_33 12 rfl rfl)
theorem dL_law_879 : decode cL_law 879 = .ok (.aload_n 3, 1) := dk_45 (dk_at dksL_law_33 15 rfl rfl)
theorem dL_law_880 : decode cL_law 880 = .ok (.iconst 0, 1) := dk_3 (dk_at dksL_law_33 16 rfl rfl)
theorem dL_law_881 : decode cL_law 881 = .ok (.laload, 1) := dk_47 (dk_at dksL_law_33 17 rfl rfl)
theorem dL_law_882 : decode cL_law 882 = .ok (.iload 6, 2) := dk_21 6 (dk_at dksL_law_33 18 rfl rfl)
theorem dL_law_884 : decode cL_law 884 = .ok (.i2l, 1) := dk_133 (dk_at dksL_law_33 20 rfl rfl)
theorem dL_law_885 : decode cL_law 885 = .ok (.lcmp, 1) := dk_148 (dk_at dksL_law_33 21 rfl rfl)
theorem dL_law_886 : decode cL_law 886 = .ok (.ifCond .eq 5, 3) := dk_153 0 5 (dk_at dksL_law_34 0 rfl rfl)
theorem dL_law_889 : decode cL_law 889 = .ok (.iconst 0, 1) := dk_3 (dk_at dksL_law_34 3 rfl rfl)
theorem dL_law_890 : decode cL_law 890 = .ok (.ireturn, 1) := dk_172 (dk_at dksL_law_34 4 rfl rfl)
theorem dL_law_891 : decode cL_law 891 = .ok (.goto 732, 3) := dk_167 2 220 (dk_at dksL_law_34 5 rfl rfl)
theorem dL_law_894 : decode cL_law 894 = .ok (.aload_n 1, 1) := dk_43 (dk_at dksL_law_34 8 rfl rfl)
theorem dL_law_895 : decode cL_law 895 = .ok (.invokevirtual 144, 3) := dk_182 0 144 (dk_at dksL_law_34 9 rfl rfl)
theorem dL_law_898 : decode cL_law 898 = .ok (.aload_n 2, 1) := dk_44 (dk_at dksL_law_34 12 rfl rfl)
theorem dL_law_899 : decode cL_law 899 = .ok (.invokevirtual 147, 3) := dk_182 0 147 (dk_at dksL_law_34 13 rfl rfl)
theorem dL_law_902 : decode cL_law 902 = .ok (.if_icmp .eq 721, 3) := dk_159 2 209 (dk_at dksL_law_34 16 rfl rfl)
theorem dL_law_905 : decode cL_law 905 = .ok (.iconst 0, 1) := dk_3 (dk_at dksL_law_34 19 rfl rfl)
theorem dL_law_906 : decode cL_law 906 = .ok (.ireturn, 1) := dk_172 (dk_at dksL_law_34 20 rfl rfl)
theorem dL_law_907 : decode cL_law 907 = .ok (.aload_n 1, 1) := dk_43 (dk_at dksL_law_34 21 rfl rfl)
theorem dL_law_908 : decode cL_law 908 = .ok (.aload_n 0, 1) := dk_42 (dk_at dksL_law_34 22 rfl rfl)
theorem dL_law_909 : decode cL_law 909 = .ok (.iload 4, 2) := dk_21 4 (dk_at dksL_law_35 0 rfl rfl)
theorem dL_law_911 : decode cL_law 911 = .ok (.iconst 1, 1) := dk_4 (dk_at dksL_law_35 2 rfl rfl)
theorem dL_law_912 : decode cL_law 912 = .ok (.iadd, 1) := dk_96 (dk_at dksL_law_35 3 rfl rfl)
theorem dL_law_913 : decode cL_law 913 = .ok (.iaload, 1) := dk_46 (dk_at dksL_law_35 4 rfl rfl)
theorem dL_law_914 : decode cL_law 914 = .ok (.aload_n 0, 1) := dk_42 (dk_at dksL_law_35 5 rfl rfl)
theorem dL_law_915 : decode cL_law 915 = .ok (.iload 4, 2) := dk_21 4 (dk_at dksL_law_35 6 rfl rfl)
theorem dL_law_917 : decode cL_law 917 = .ok (.iconst 2, 1) := dk_5 (dk_at dksL_law_35 8 rfl rfl)
theorem dL_law_918 : decode cL_law 918 = .ok (.iadd, 1) := dk_96 (dk_at dksL_law_35 9 rfl rfl)
theorem dL_law_919 : decode cL_law 919 = .ok (.iaload, 1) := dk_46 (dk_at dksL_law_35 10 rfl rfl)
theorem dL_law_920 : decode cL_law 920 = .ok (.aload_n 0, 1) := dk_42 (dk_at dksL_law_35 11 rfl rfl)
theorem dL_law_921 : decode cL_law 921 = .ok (.iload 4, 2) := dk_21 4 (dk_at dksL_law_35 12 rfl rfl)
theorem dL_law_923 : decode cL_law 923 = .ok (.iconst 3, 1) := dk_6 (dk_at dksL_law_35 14 rfl rfl)
theorem dL_law_924 : decode cL_law 924 = .ok (.iadd, 1) := dk_96 (dk_at dksL_law_35 15 rfl rfl)
theorem dL_law_925 : decode cL_law 925 = .ok (.iaload, 1) := dk_46 (dk_at dksL_law_35 16 rfl rfl)
theorem dL_law_926 : decode cL_law 926 = .ok (.aload_n 0, 1) := dk_42 (dk_at dksL_law_35 17 rfl rfl)
theorem dL_law_927 : decode cL_law 927 = .ok (.iload 4, 2) := dk_21 4 (dk_at dksL_law_35 18 rfl rfl)
theorem dL_law_929 : decode cL_law 929 = .ok (.iconst 4, 1) := dk_7 (dk_at dksL_law_35 20 rfl rfl)
theorem dL_law_930 : decode cL_law 930 = .ok (.iadd, 1) := dk_96 (dk_at dksL_law_35 21 rfl rfl)
theorem dL_law_931 : decode cL_law 931 = .ok (.iaload, 1) := dk_46 (dk_at dksL_law_35 22 rfl rfl)
theorem dL_law_932 : decode cL_law 932 = .ok (.aload_n 3, 1) := dk_45 (dk_at dksL_law_35 23 rfl rfl)
theorem dL_law_933 : decode cL_law 933 = .ok (.invokestatic 148, 3) := dk_184 0 148 (dk_at dksL_law_36 0 rfl rfl)
theorem dL_law_936 : decode cL_law 936 = .ok (.istore 5, 2) := dk_54 5 (dk_at dksL_law_36 3 rfl rfl)
theorem dL_law_938 : decode cL_law 938 = .ok (.aload_n 2, 1) := dk_44 (dk_at dksL_law_36 5 rfl rfl)
theorem dL_law_939 : decode cL_law 939 = .ok (.aload_n 0, 1) := dk_42 (dk_at dksL_law_36 6 rfl rfl)
theorem dL_law_940 : decode cL_law 940 = .ok (.iload 4, 2) := dk_21 4 (dk_at dksL_law_36 7 rfl rfl)
theorem dL_law_942 : decode cL_law 942 = .ok (.iconst 1, 1) := dk_4 (dk_at dksL_law_36 9 rfl rfl)
theorem dL_law_943 : decode cL_law 943 = .ok (.iadd, 1) := dk_96 (dk_at dksL_law_36 10 rfl rfl)
theorem dL_law_944 : decode cL_law 944 = .ok (.iaload, 1) := dk_46 (dk_at dksL_law_36 11 rfl rfl)
theorem dL_law_945 : decode cL_law 945 = .ok (.aload_n 0, 1) := dk_42 (dk_at dksL_law_36 12 rfl rfl)
theorem dL_law_946 : decode cL_law 946 = .ok (.iload 4, 2) := dk_21 4 (dk_at dksL_law_36 13 rfl rfl)
theorem dL_law_948 : decode cL_law 948 = .ok (.iconst 2, 1) := dk_5 (dk_at dksL_law_36 15 rfl rfl)
theorem dL_law_949 : decode cL_law 949 = .ok (.iadd, 1) := dk_96 (dk_at dksL_law_36 16 rfl rfl)
theorem dL_law_950 : decode cL_law 950 = .ok (.iaload, 1) := dk_46 (dk_at dksL_law_36 17 rfl rfl)
theorem dL_law_951 : decode cL_law 951 = .ok (.aload_n 0, 1) := dk_42 (dk_at dksL_law_36 18 rfl rfl)
theorem dL_law_952 : decode cL_law 952 = .ok (.iload 4, 2) := dk_21 4 (dk_at dksL_law_36 19 rfl rfl)
theorem dL_law_954 : decode cL_law 954 = .ok (.iconst 3, 1) := dk_6 (dk_at dksL_law_36 21 rfl rfl)
theorem dL_law_955 : decode cL_law 955 = .ok (.iadd, 1) := dk_96 (dk_at dksL_law_36 22 rfl rfl)
theorem dL_law_956 : decode cL_law 956 = .ok (.iaload, 1) := dk_46 (dk_at dksL_law_36 23 rfl rfl)
theorem dL_law_957 : decode cL_law 957 = .ok (.aload_n 0, 1) := dk_42 (dk_at dksL_law_37 0 rfl rfl)
theorem dL_law_958 : decode cL_law 958 = .ok (.iload 4, 2) := dk_21 4 (dk_at dksL_law_37 1 rfl rfl)
theorem dL_law_960 : decode cL_law 960 = .ok (.iconst 4, 1) := dk_7 (dk_at dksL_law_37 3 rfl rfl)
theorem dL_law_961 : decode cL_law 961 = .ok (.iadd, 1) := dk_96 (dk_at dksL_law_37 4 rfl rfl)
theorem dL_law_962 : decode cL_law 962 = .ok (.iaload, 1) := dk_46 (dk_at dksL_law_37 5 rfl rfl)
theorem dL_law_963 : decode cL_law 963 = .ok (.invokevirtual 151, 3) := dk_182 0 151 (dk_at dksL_law_37 6 rfl rfl)
theorem dL_law_966 : decode cL_law 966 = .ok (.istore 6, 2) := dk_54 6 (dk_at dksL_law_37 9 rfl rfl)
theorem dL_law_968 : decode cL_law 968 = .ok (.aload_n 2, 1) := dk_44 (dk_at dksL_law_37 11 rfl rfl)
theorem dL_law_969 : decode cL_law 969 = .ok (.invokevirtual 97, 3) := dk_182 0 97 (dk_at dksL_law_37 12 rfl rfl)
theorem dL_law_972 : decode cL_law 972 = .ok (.iload 5, 2) := dk_21 5 (dk_at dksL_law_37 15 rfl rfl)
theorem dL_law_974 : decode cL_law 974 = .ok (.if_icmp .eq 5, 3) := dk_159 0 5 (dk_at dksL_law_37 17 rfl rfl)
theorem dL_law_977 : decode cL_law 977 = .ok (.iconst 0, 1) := dk_3 (dk_at dksL_law_37 20 rfl rfl)
theorem dL_law_978 : decode cL_law 978 = .ok (.ireturn, 1) := dk_172 (dk_at dksL_law_37 21 rfl rfl)
theorem dL_law_979 : decode cL_law 979 = .ok (.iload 5, 2) := dk_21 5 (dk_at dksL_law_37 22 rfl rfl)
theorem dL_law_981 : decode cL_law 981 = .ok (.ifCond .ne 15, 3) := dk_154 0 15 (dk_at dksL_law_38 0 rfl rfl)
theorem dL_law_984 : decode cL_law 984 = .ok (.aload_n 3, 1) := dk_45 (dk_at dksL_law_38 3 rfl rfl)
theorem dL_law_985 : decode cL_law 985 = .ok (.iconst 0, 1) := dk_3 (dk_at dksL_law_38 4 rfl rfl)
theorem dL_law_986 : decode cL_law 986 = .ok (.laload, 1) := dk_47 (dk_at dksL_law_38 5 rfl rfl)
theorem dL_law_987 : decode cL_law 987 = .ok (.iload 6, 2) := dk_21 6 (dk_at dksL_law_38 6 rfl rfl)
theorem dL_law_989 : decode cL_law 989 = .ok (.i2l, 1) := dk_133 (dk_at dksL_law_38 8 rfl rfl)
theorem dL_law_990 : decode cL_law 990 = .ok (.lcmp, 1) := dk_148 (dk_at dksL_law_38 9 rfl rfl)
theorem dL_law_991 : decode cL_law 991 = .ok (.ifCond .eq 5, 3) := dk_153 0 5 (dk_at dksL_law_38 10 rfl rfl)
theorem dL_law_994 : decode cL_law 994 = .ok (.iconst 0, 1) := dk_3 (dk_at dksL_law_38 13 rfl rfl)
theorem dL_law_995 : decode cL_law 995 = .ok (.ireturn, 1) := dk_172 (dk_at dksL_law_38 14 rfl rfl)
theorem dL_law_996 : decode cL_law 996 = .ok (.goto 627, 3) := dk_167 2 115 (dk_at dksL_law_38 15 rfl rfl)
theorem dL_law_999 : decode cL_law 999 = .ok (.aload_n 1, 1) := dk_43 (dk_at dksL_law_38 18 rfl rfl)
theorem dL_law_1000 : decode cL_law 1000 = .ok (.aload_n 0, 1) := dk_42 (dk_at dksL_law_38 19 rfl rfl)
theorem dL_law_1001 : decode cL_law 1001 = .ok (.iload 4, 2) := dk_21 4 (dk_at dksL_law_38 20 rfl rfl)
theorem dL_law_1003 : decode cL_law 1003 = .ok (.iconst 1, 1) := dk_4 (dk_at dksL_law_38 22 rfl rfl)
theorem dL_law_1004 : decode cL_law 1004 = .ok (.iadd, 1) := dk_96 (dk_at dksL_law_38 23 rfl rfl)
theorem dL_law_1005 : decode cL_law 1005 = .ok (.iaload, 1) := dk_46 (dk_at dksL_law_39 0 rfl rfl)
theorem dL_law_1006 : decode cL_law 1006 = .ok (.aload_n 3, 1) := dk_45 (dk_at dksL_law_39 1 rfl rfl)
theorem dL_law_1007 : decode cL_law 1007 = .ok (.invokestatic 152, 3) := dk_184 0 152 (dk_at dksL_law_39 2 rfl rfl)
theorem dL_law_1010 : decode cL_law 1010 = .ok (.istore 5, 2) := dk_54 5 (dk_at dksL_law_39 5 rfl rfl)
theorem dL_law_1012 : decode cL_law 1012 = .ok (.aload_n 2, 1) := dk_44 (dk_at dksL_law_39 7 rfl rfl)
theorem dL_law_1013 : decode cL_law 1013 = .ok (.aload_n 0, 1) := dk_42 (dk_at dksL_law_39 8 rfl rfl)
theorem dL_law_1014 : decode cL_law 1014 = .ok (.iload 4, 2) := dk_21 4 (dk_at dksL_law_39 9 rfl rfl)
theorem dL_law_1016 : decode cL_law 1016 = .ok (.iconst 1, 1) := dk_4 (dk_at dksL_law_39 11 rfl rfl)
theorem dL_law_1017 : decode cL_law 1017 = .ok (.iadd, 1) := dk_96 (dk_at dksL_law_39 12 rfl rfl)
theorem dL_law_1018 : decode cL_law 1018 = .ok (.iaload, 1) := dk_46 (dk_at dksL_law_39 13 rfl rfl)
theorem dL_law_1019 : decode cL_law 1019 = .ok (.invokevirtual 154, 3) := dk_182 0 154 (dk_at dksL_law_39 14 rfl rfl)
theorem dL_law_1022 : decode cL_law 1022 = .ok (.istore 6, 2) := dk_54 6 (dk_at dksL_law_39 17 rfl rfl)
theorem dL_law_1024 : decode cL_law 1024 = .ok (.aload_n 2, 1) := dk_44 (dk_at dksL_law_39 19 rfl rfl)
theorem dL_law_1025 : decode cL_law 1025 = .ok (.invokevirtual 97, 3) := dk_182 0 97 (dk_at dksL_law_39 20 rfl rfl)
theorem dL_law_1028 : decode cL_law 1028 = .ok (.iload 5, 2) := dk_21 5 (dk_at dksL_law_40 0 rfl rfl)
theorem dL_law_1030 : decode cL_law 1030 = .ok (.if_icmp .eq 5, 3) := dk_159 0 5 (dk_at dksL_law_40 2 rfl rfl)
theorem dL_law_1033 : decode cL_law 1033 = .ok (.iconst 0, 1) := dk_3 (dk_at dksL_law_40 5 rfl rfl)
theorem dL_law_1034 : decode cL_law 1034 = .ok (.ireturn, 1) := dk_172 (dk_at dksL_law_40 6 rfl rfl)
theorem dL_law_1035 : decode cL_law 1035 = .ok (.iload 5, 2) := dk_21 5 (dk_at dksL_law_40 7 rfl rfl)
theorem dL_law_1037 : decode cL_law 1037 = .ok (.ifCond .ne 15, 3) := dk_154 0 15 (dk_at dksL_law_40 9 rfl rfl)
theorem dL_law_1040 : decode cL_law 1040 = .ok (.aload_n 3, 1) := dk_45 (dk_at dksL_law_40 12 rfl rfl)
theorem dL_law_1041 : decode cL_law 1041 = .ok (.iconst 0, 1) := dk_3 (dk_at dksL_law_40 13 rfl rfl)
theorem dL_law_1042 : decode cL_law 1042 = .ok (.laload, 1) := dk_47 (dk_at dksL_law_40 14 rfl rfl)
theorem dL_law_1043 : decode cL_law 1043 = .ok (.iload 6, 2) := dk_21 6 (dk_at dksL_law_40 15 rfl rfl)
theorem dL_law_1045 : decode cL_law 1045 = .ok (.i2l, 1) := dk_133 (dk_at dksL_law_40 17 rfl rfl)
theorem dL_law_1046 : decode cL_law 1046 = .ok (.lcmp, 1) := dk_148 (dk_at dksL_law_40 18 rfl rfl)
theorem dL_law_1047 : decode cL_law 1047 = .ok (.ifCond .eq 5, 3) := dk_153 0 5 (dk_at dksL_law_40 19 rfl rfl)
theorem dL_law_1050 : decode cL_law 1050 = .ok (.iconst 0, 1) := dk_3 (dk_at dksL_law_40 22 rfl rfl)
theorem dL_law_1051 : decode cL_law 1051 = .ok (.ireturn, 1) := dk_172 (dk_at dksL_law_40 23 rfl rfl)
theorem dL_law_1052 : decode cL_law 1052 = .ok (.goto 571, 3) := dk_167 2 59 (dk_at dksL_law_41 0 rfl rfl)
theorem dL_law_1055 : decode cL_law 1055 = .ok (.aload_n 1, 1) := dk_43 (dk_at dksL_law_41 3 rfl rfl)
theorem dL_law_1056 : decode cL_law 1056 = .ok (.aload_n 0, 1) := dk_42 (dk_at dksL_law_41 4 rfl rfl)
theorem dL_law_1057 : decode cL_law 1057 = .ok (.iload 4, 2) := dk_21 4 (dk_at dksL_law_41 5 rfl rfl)
theorem dL_law_1059 : decode cL_law 1059 = .ok (.iconst 1, 1) := dk_4 (dk_at dksL_law_41 7 rfl rfl)
theorem dL_law_1060 : decode cL_law 1060 = .ok (.iadd, 1) := dk_96 (dk_at dksL_law_41 8 rfl rfl)
theorem dL_law_1061 : decode cL_law 1061 = .ok (.iaload, 1) := dk_46 (dk_at dksL_law_41 9 rfl rfl)
theorem dL_law_1062 : decode cL_law 1062 = .ok (.aload_n 0, 1) := dk_42 (dk_at dksL_law_41 10 rfl rfl)
theorem dL_law_1063 : decode cL_law 1063 = .ok (.iload 4, 2) := dk_21 4 (dk_at dksL_law_41 11 rfl rfl)
theorem dL_law_1065 : decode cL_law 1065 = .ok (.iconst 2, 1) := dk_5 (dk_at dksL_law_41 13 rfl rfl)
theorem dL_law_1066 : decode cL_law 1066 = .ok (.iadd, 1) := dk_96 (dk_at dksL_law_41 14 rfl rfl)
theorem dL_law_1067 : decode cL_law 1067 = .ok (.iaload, 1) := dk_46 (dk_at dksL_law_41 15 rfl rfl)
theorem dL_law_1068 : decode cL_law 1068 = .ok (.aload_n 3, 1) := dk_45 (dk_at dksL_law_41 16 rfl rfl)
theorem dL_law_1069 : decode cL_law 1069 = .ok (.invokestatic 155, 3) := dk_184 0 155 (dk_at dksL_law_41 17 rfl rfl)
theorem dL_law_1072 : decode cL_law 1072 = .ok (.istore 5, 2) := dk_54 5 (dk_at dksL_law_41 20 rfl rfl)
theorem dL_law_1074 : decode cL_law 1074 = .ok (.aload_n 2, 1) := dk_44 (dk_at dksL_law_41 22 rfl rfl)
theorem dL_law_1075 : decode cL_law 1075 = .ok (.aload_n 0, 1) := dk_42 (dk_at dksL_law_41 23 rfl rfl)
theorem dL_law_1076 : decode cL_law 1076 = .ok (.iload 4, 2) := dk_21 4 (dk_at dksL_law_42 0 rfl rfl)
theorem dL_law_1078 : decode cL_law 1078 = .ok (.iconst 1, 1) := dk_4 (dk_at dksL_law_42 2 rfl rfl)
theorem dL_law_1079 : decode cL_law 1079 = .ok (.iadd, 1) := dk_96 (dk_at dksL_law_42 3 rfl rfl)
theorem dL_law_1080 : decode cL_law 1080 = .ok (.iaload, 1) := dk_46 (dk_at dksL_law_42 4 rfl rfl)
theorem dL_law_1081 : decode cL_law 1081 = .ok (.aload_n 0, 1) := dk_42 (dk_at dksL_law_42 5 rfl rfl)
theorem dL_law_1082 : decode cL_law 1082 = .ok (.iload 4, 2) := dk_21 4 (dk_at dksL_law_42 6 rfl rfl)
theorem dL_law_1084 : decode cL_law 1084 = .ok (.iconst 2, 1) := dk_5 (dk_at dksL_law_42 8 rfl rfl)
theorem dL_law_1085 : decode cL_law 1085 = .ok (.iadd, 1) := dk_96 (dk_at dksL_law_42 9 rfl rfl)
theorem dL_law_1086 : decode cL_law 1086 = .ok (.iaload, 1) := dk_46 (dk_at dksL_law_42 10 rfl rfl)
theorem dL_law_1087 : decode cL_law 1087 = .ok (.invokevirtual 157, 3) := dk_182 0 157 (dk_at dksL_law_42 11 rfl rfl)
theorem dL_law_1090 : decode cL_law 1090 = .ok (.istore 6, 2) := dk_54 6 (dk_at dksL_law_42 14 rfl rfl)
theorem dL_law_1092 : decode cL_law 1092 = .ok (.aload_n 2, 1) := dk_44 (dk_at dksL_law_42 16 rfl rfl)
theorem dL_law_1093 : decode cL_law 1093 = .ok (.invokevirtual 97, 3) := dk_182 0 97 (dk_at dksL_law_42 17 rfl rfl)
theorem dL_law_1096 : decode cL_law 1096 = .ok (.iload 5, 2) := dk_21 5 (dk_at dksL_law_42 20 rfl rfl)
theorem dL_law_1098 : decode cL_law 1098 = .ok (.if_icmp .eq 5, 3) := dk_159 0 5 (dk_at dksL_law_43 0 rfl rfl)
theorem dL_law_1101 : decode cL_law 1101 = .ok (.iconst 0, 1) := dk_3 (dk_at dksL_law_43 3 rfl rfl)
theorem dL_law_1102 : decode cL_law 1102 = .ok (.ireturn, 1) := dk_172 (dk_at dksL_law_43 4 rfl rfl)
theorem dL_law_1103 : decode cL_law 1103 = .ok (.iload 5, 2) := dk_21 5 (dk_at dksL_law_43 5 rfl rfl)
theorem dL_law_1105 : decode cL_law 1105 = .ok (.ifCond .ne 15, 3) := dk_154 0 15 (dk_at dksL_law_43 7 rfl rfl)
theorem dL_law_1108 : decode cL_law 1108 = .ok (.aload_n 3, 1) := dk_45 (dk_at dksL_law_43 10 rfl rfl)
theorem dL_law_1109 : decode cL_law 1109 = .ok (.iconst 0, 1) := dk_3 (dk_at dksL_law_43 11 rfl rfl)
theorem dL_law_1110 : decode cL_law 1110 = .ok (.laload, 1) := dk_47 (dk_at dksL_law_43 12 rfl rfl)
theorem dL_law_1111 : decode cL_law 1111 = .ok (.iload 6, 2) := dk_21 6 (dk_at dksL_law_43 13 rfl rfl)
theorem dL_law_1113 : decode cL_law 1113 = .ok (.i2l, 1) := dk_133 (dk_at dksL_law_43 15 rfl rfl)
theorem dL_law_1114 : decode cL_law 1114 = .ok (.lcmp, 1) := dk_148 (dk_at dksL_law_43 16 rfl rfl)
theorem dL_law_1115 : decode cL_law 1115 = .ok (.ifCond .eq 5, 3) := dk_153 0 5 (dk_at dksL_law_43 17 rfl rfl)
theorem dL_law_1118 : decode cL_law 1118 = .ok (.iconst 0, 1) := dk_3 (dk_at dksL_law_43 20 rfl rfl)
theorem dL_law_1119 : decode cL_law 1119 = .ok (.ireturn, 1) := dk_172 (dk_at dksL_law_43 21 rfl rfl)
theorem dL_law_1120 : decode cL_law 1120 = .ok (.goto 503, 3) := dk_167 1 247 (dk_at dksL_law_44 0 rfl rfl)
theorem dL_law_1123 : decode cL_law 1123 = .ok (.aload_n 1, 1) := dk_43 (dk_at dksL_law_44 3 rfl rfl)
theorem dL_law_1124 : decode cL_law 1124 = .ok (.aload_n 0, 1) := dk_42 (dk_at dksL_law_44 4 rfl rfl)
theorem dL_law_1125 : decode cL_law 1125 = .ok (.iload 4, 2) := dk_21 4 (dk_at dksL_law_44 5 rfl rfl)
theorem dL_law_1127 : decode cL_law 1127 = .ok (.iconst 1, 1) := dk_4 (dk_at dksL_law_44 7 rfl rfl)
theorem dL_law_1128 : decode cL_law 1128 = .ok (.iadd, 1) := dk_96 (dk_at dksL_law_44 8 rfl rfl)
theorem dL_law_1129 : decode cL_law 1129 = .ok (.iaload, 1) := dk_46 (dk_at dksL_law_44 9 rfl rfl)
theorem dL_law_1130 : decode cL_law 1130 = .ok (.aload_n 3, 1) := dk_45 (dk_at dksL_law_44 10 rfl rfl)
theorem dL_law_1131 : decode cL_law 1131 = .ok (.invokestatic 158, 3) := dk_184 0 158 (dk_at dksL_law_44 11 rfl rfl)
theorem dL_law_1134 : decode cL_law 1134 = .ok (.istore 5, 2) := dk_54 5 (dk_at dksL_law_44 14 rfl rfl)
theorem dL_law_1136 : decode cL_law 1136 = .ok (.aload_n 2, 1) := dk_44 (dk_at dksL_law_44 16 rfl rfl)
theorem dL_law_1137 : decode cL_law 1137 = .ok (.aload_n 0, 1) := dk_42 (dk_at dksL_law_44 17 rfl rfl)
theorem dL_law_1138 : decode cL_law 1138 = .ok (.iload 4, 2) := dk_21 4 (dk_at dksL_law_44 18 rfl rfl)
theorem dL_law_1140 : decode cL_law 1140 = .ok (.iconst 1, 1) := dk_4 (dk_at dksL_law_44 20 rfl rfl)
theorem dL_law_1141 : decode cL_law 1141 = .ok (.iadd, 1) := dk_96 (dk_at dksL_law_44 21 rfl rfl)
theorem dL_law_1142 : decode cL_law 1142 = .ok (.iaload, 1) := dk_46 (dk_at dksL_law_44 22 rfl rfl)
theorem dL_law_1143 : decode cL_law 1143 = .ok (.invokevirtual 160, 3) := dk_182 0 160 (dk_at dksL_law_45 0 rfl rfl)
theorem dL_law_1146 : decode cL_law 1146 = .ok (.istore 6, 2) := dk_54 6 (dk_at dksL_law_45 3 rfl rfl)
theorem dL_law_1148 : decode cL_law 1148 = .ok (.aload_n 2, 1) := dk_44 (dk_at dksL_law_45 5 rfl rfl)
theorem dL_law_1149 : decode cL_law 1149 = .ok (.invokevirtual 97, 3) := dk_182 0 97 (dk_at dksL_law_45 6 rfl rfl)
theorem dL_law_1152 : decode cL_law 1152 = .ok (.iload 5, 2) := dk_21 5 (dk_at dksL_law_45 9 rfl rfl)
theorem dL_law_1154 : decode cL_law 1154 = .ok (.if_icmp .eq 5, 3) := dk_159 0 5 (dk_at dksL_law_45 11 rfl rfl)
theorem dL_law_1157 : decode cL_law 1157 = .ok (.iconst 0, 1) := dk_3 (dk_at dksL_law_45 14 rfl rfl)
theorem dL_law_1158 : decode cL_law 1158 = .ok (.ireturn, 1) := dk_172 (dk_at dksL_law_45 15 rfl rfl)
theorem dL_law_1159 : decode cL_law 1159 = .ok (.iload 5, 2) := dk_21 5 (dk_at dksL_law_45 16 rfl rfl)
theorem dL_law_1161 : decode cL_law 1161 = .ok (.ifCond .ne 15, 3) := dk_154 0 15 (dk_at dksL_law_45 18 rfl rfl)
theorem dL_law_1164 : decode cL_law 1164 = .ok (.aload_n 3, 1) := dk_45 (dk_at dksL_law_45 21 rfl rfl)
theorem dL_law_1165 : decode cL_law 1165 = .ok (.iconst 0, 1) := dk_3 (dk_at dksL_law_45 22 rfl rfl)
theorem dL_law_1166 : decode cL_law 1166 = .ok (.laload, 1) := dk_47 (dk_at dksL_law_45 23 rfl rfl)
theorem dL_law_1167 : decode cL_law 1167 = .ok (.iload 6, 2) := dk_21 6 (dk_at dksL_law_46 0 rfl rfl)
theorem dL_law_1169 : decode cL_law 1169 = .ok (.i2l, 1) := dk_133 (dk_at dksL_law_46 2 rfl rfl)
theorem dL_law_1170 : decode cL_law 1170 = .ok (.lcmp, 1) := dk_148 (dk_at dksL_law_46 3 rfl rfl)
theorem dL_law_1171 : decode cL_law 1171 = .ok (.ifCond .eq 5, 3) := dk_153 0 5 (dk_at dksL_law_46 4 rfl rfl)
theorem dL_law_1174 : decode cL_law 1174 = .ok (.iconst 0, 1) := dk_3 (dk_at dksL_law_46 7 rfl rfl)
theorem dL_law_1175 : decode cL_law 1175 = .ok (.ireturn, 1) := dk_172 (dk_at dksL_law_46 8 rfl rfl)
theorem dL_law_1176 : decode cL_law 1176 = .ok (.goto 447, 3) := dk_167 1 191 (dk_at dksL_law_46 9 rfl rfl)
theorem dL_law_1179 : decode cL_law 1179 = .ok (.aload_n 1, 1) := dk_43 (dk_at dksL_law_46 12 rfl rfl)
theorem dL_law_1180 : decode cL_law 1180 = .ok (.aload_n 0, 1) := dk_42 (dk_at dksL_law_46 13 rfl rfl)
theorem dL_law_1181 : decode cL_law 1181 = .ok (.iload 4, 2) := dk_21 4 (dk_at dksL_law_46 14 rfl rfl)
theorem dL_law_1183 : decode cL_law 1183 = .ok (.iconst 1, 1) := dk_4 (dk_at dksL_law_46 16 rfl rfl)
theorem dL_law_1184 : decode cL_law 1184 = .ok (.iadd, 1) := dk_96 (dk_at dksL_law_46 17 rfl rfl)
theorem dL_law_1185 : decode cL_law 1185 = .ok (.iaload, 1) := dk_46 (dk_at dksL_law_46 18 rfl rfl)
theorem dL_law_1186 : decode cL_law 1186 = .ok (.aload_n 3, 1) := dk_45 (dk_at dksL_law_46 19 rfl rfl)
theorem dL_law_1187 : decode cL_law 1187 = .ok (.invokestatic 161, 3) := dk_184 0 161 (dk_at dksL_law_46 20 rfl rfl)
theorem dL_law_1190 : decode cL_law 1190 = .ok (.istore 5, 2) := dk_54 5 (dk_at dksL_law_47 0 rfl rfl)
theorem dL_law_1192 : decode cL_law 1192 = .ok (.aload_n 2, 1) := dk_44 (dk_at dksL_law_47 2 rfl rfl)
theorem dL_law_1193 : decode cL_law 1193 = .ok (.aload_n 0, 1) := dk_42 (dk_at dksL_law_47 3 rfl rfl)
theorem dL_law_1194 : decode cL_law 1194 = .ok (.iload 4, 2) := dk_21 4 (dk_at dksL_law_47 4 rfl rfl)
theorem dL_law_1196 : decode cL_law 1196 = .ok (.iconst 1, 1) := dk_4 (dk_at dksL_law_47 6 rfl rfl)
theorem dL_law_1197 : decode cL_law 1197 = .ok (.iadd, 1) := dk_96 (dk_at dksL_law_47 7 rfl rfl)
theorem dL_law_1198 : decode cL_law 1198 = .ok (.iaload, 1) := dk_46 (dk_at dksL_law_47 8 rfl rfl)
theorem dL_law_1199 : decode cL_law 1199 = .ok (.invokevirtual 163, 3) := dk_182 0 163 (dk_at dksL_law_47 9 rfl rfl)
theorem dL_law_1202 : decode cL_law 1202 = .ok (.istore 6, 2) := dk_54 6 (dk_at dksL_law_47 12 rfl rfl)
theorem dL_law_1204 : decode cL_law 1204 = .ok (.aload_n 2, 1) := dk_44 (dk_at dksL_law_47 14 rfl rfl)
theorem dL_law_1205 : decode cL_law 1205 = .ok (.invokevirtual 97, 3) := dk_182 0 97 (dk_at dksL_law_47 15 rfl rfl)
theorem dL_law_1208 : decode cL_law 1208 = .ok (.iload 5, 2) := dk_21 5 (dk_at dksL_law_47 18 rfl rfl)
theorem dL_law_1210 : decode cL_law 1210 = .ok (.if_icmp .eq 5, 3) := dk_159 0 5 (dk_at dksL_law_47 20 rfl rfl)
theorem dL_law_1213 : decode cL_law 1213 = .ok (.iconst 0, 1) := dk_3 (dk_at dksL_law_47 23 rfl rfl)
theorem dL_law_1214 : decode cL_law 1214 = .ok (.ireturn, 1) := dk_172 (dk_at dksL_law_48 0 rfl rfl)
theorem dL_law_1215 : decode cL_law 1215 = .ok (.iload 5, 2) := dk_21 5 (dk_at dksL_law_48 1 rfl rfl)
theorem dL_law_1217 : decode cL_law 1217 = .ok (.ifCond .ne 15, 3) := dk_154 0 15 (dk_at dksL_law_48 3 rfl rfl)
theorem dL_law_1220 : decode cL_law 1220 = .ok (.aload_n 3, 1) := dk_45 (dk_at dksL_law_48 6 rfl rfl)
theorem dL_law_1221 : decode cL_law 1221 = .ok (.iconst 0, 1) := dk_3 (dk_at dksL_law_48 7 rfl rfl)
theorem dL_law_1222 : decode cL_law 1222 = .ok (.laload, 1) := dk_47 (dk_at dksL_law_48 8 rfl rfl)
theorem dL_law_1223 : decode cL_law 1223 = .ok (.iload 6, 2) := dk_21 6 (dk_at dksL_law_48 9 rfl rfl)
theorem dL_law_1225 : decode cL_law 1225 = .ok (.i2l, 1) := dk_133 (dk_at dksL_law_48 11 rfl rfl)
theorem dL_law_1226 : decode cL_law 1226 = .ok (.lcmp, 1) := dk_148 (dk_at dksL_law_48 12 rfl rfl)
theorem dL_law_1227 : decode cL_law 1227 = .ok (.ifCond .eq 5, 3) := dk_153 0 5 (dk_at dksL_law_48 13 rfl rfl)
theorem dL_law_1230 : decode cL_law 1230 = .ok (.iconst 0, 1) := dk_3 (dk_at dksL_law_48 16 rfl rfl)
theorem dL_law_1231 : decode cL_law 1231 = .ok (.ireturn, 1) := dk_172 (dk_at dksL_law_48 17 rfl rfl)
theorem dL_law_1232 : decode cL_law 1232 = .ok (.goto 391, 3) := dk_167 1 135 (dk_at dksL_law_48 18 rfl rfl)
theorem dL_law_1235 : decode cL_law 1235 = .ok (.aload_n 1, 1) := dk_43 (dk_at dksL_law_48 21 rfl rfl)
theorem dL_law_1236 : decode cL_law 1236 = .ok (.aload_n 0, 1) := dk_42 (dk_at dksL_law_48 22 rfl rfl)
theorem dL_law_1237 : decode cL_law 1237 = .ok (.iload 4, 2) := dk_21 4 (dk_at dksL_law_49 0 rfl rfl)
theorem dL_law_1239 : decode cL_law 1239 = .ok (.iconst 1, 1) := dk_4 (dk_at dksL_law_49 2 rfl rfl)
theorem dL_law_1240 : decode cL_law 1240 = .ok (.iadd, 1) := dk_96 (dk_at dksL_law_49 3 rfl rfl)
theorem dL_law_1241 : decode cL_law 1241 = .ok (.iaload, 1) := dk_46 (dk_at dksL_law_49 4 rfl rfl)
theorem dL_law_1242 : decode cL_law 1242 = .ok (.aload_n 3, 1) := dk_45 (dk_at dksL_law_49 5 rfl rfl)
theorem dL_law_1243 : decode cL_law 1243 = .ok (.invokestatic 164, 3) := dk_184 0 164 (dk_at dksL_law_49 6 rfl rfl)
theorem dL_law_1246 : decode cL_law 1246 = .ok (.istore 5, 2) := dk_54 5 (dk_at dksL_law_49 9 rfl rfl)
theorem dL_law_1248 : decode cL_law 1248 = .ok (.aload_n 2, 1) := dk_44 (dk_at dksL_law_49 11 rfl rfl)
theorem dL_law_1249 : decode cL_law 1249 = .ok (.aload_n 0, 1) := dk_42 (dk_at dksL_law_49 12 rfl rfl)
theorem dL_law_1250 : decode cL_law 1250 = .ok (.iload 4, 2) := dk_21 4 (dk_at dksL_law_49 13 rfl rfl)
theorem dL_law_1252 : decode cL_law 1252 = .ok (.iconst 1, 1) := dk_4 (dk_at dksL_law_49 15 rfl rfl)
theorem dL_law_1253 : decode cL_law 1253 = .ok (.iadd, 1) := dk_96 (dk_at dksL_law_49 16 rfl rfl)
theorem dL_law_1254 : decode cL_law 1254 = .ok (.iaload, 1) := dk_46 (dk_at dksL_law_49 17 rfl rfl)
theorem dL_law_1255 : decode cL_law 1255 = .ok (.invokevirtual 166, 3) := dk_182 0 166 (dk_at dksL_law_49 18 rfl rfl)
theorem dL_law_1258 : decode cL_law 1258 = .ok (.istore 6, 2) := dk_54 6 (dk_at dksL_law_49 21 rfl rfl)
theorem dL_law_1260 : decode cL_law 1260 = .ok (.aload_n 2, 1) := dk_44 (dk_at dksL_law_49 23 rfl rfl)
theorem dL_law_1261 : decode cL_law 1261 = .ok (.invokevirtual 97, 3) := dk_182 0 97 (dk_at dksL_law_50 0 rfl rfl)
theorem dL_law_1264 : decode cL_law 1264 = .ok (.iload 5, 2) := dk_21 5 (dk_at dksL_law_50 3 rfl rfl)
theorem dL_law_1266 : decode cL_law 1266 = .ok (.if_icmp .eq 5, 3) := dk_159 0 5 (dk_at dksL_law_50 5 rfl rfl)
theorem dL_law_1269 : decode cL_law 1269 = .ok (.iconst 0, 1) := dk_3 (dk_at dksL_law_50 8 rfl rfl)
theorem dL_law_1270 : decode cL_law 1270 = .ok (.ireturn, 1) := dk_172 (dk_at dksL_law_50 9 rfl rfl)
theorem dL_law_1271 : decode cL_law 1271 = .ok (.iload 5, 2) := dk_21 5 (dk_at dksL_law_50 10 rfl rfl)
theorem dL_law_1273 : decode cL_law 1273 = .ok (.ifCond .ne 15, 3) := dk_154 0 15 (dk_at dksL_law_50 12 rfl rfl)
theorem dL_law_1276 : decode cL_law 1276 = .ok (.aload_n 3, 1) := dk_45 (dk_at dksL_law_50 15 rfl rfl)
theorem dL_law_1277 : decode cL_law 1277 = .ok (.iconst 0, 1) := dk_3 (dk_at dksL_law_50 16 rfl rfl)
theorem dL_law_1278 : decode cL_law 1278 = .ok (.laload, 1) := dk_47 (dk_at dksL_law_50 17 rfl rfl)
theorem dL_law_1279 : decode cL_law 1279 = .ok (.iload 6, 2) := dk_21 6 (dk_at dksL_law_50 18 rfl rfl)
theorem dL_law_1281 : decode cL_law 1281 = .ok (.i2l, 1) := dk_133 (dk_at dksL_law_50 20 rfl rfl)
theorem dL_law_1282 : decode cL_law 1282 = .ok (.lcmp, 1) := dk_148 (dk_at dksL_law_50 21 rfl rfl)
theorem dL_law_1283 : decode cL_law 1283 = .ok (.ifCond .eq 5, 3) := dk_153 0 5 (dk_at dksL_law_51 0 rfl rfl)
theorem dL_law_1286 : decode cL_law 1286 = .ok (.iconst 0, 1) := dk_3 (dk_at dksL_law_51 3 rfl rfl)
theorem dL_law_1287 : decode cL_law 1287 = .ok (.ireturn, 1) := dk_172 (dk_at dksL_law_51 4 rfl rfl)
theorem dL_law_1288 : decode cL_law 1288 = .ok (.goto 335, 3) := dk_167 1 79 (dk_at dksL_law_51 5 rfl rfl)
theorem dL_law_1291 : decode cL_law 1291 = .ok (.aload_n 1, 1) := dk_43 (dk_at dksL_law_51 8 rfl rfl)
theorem dL_law_1292 : decode cL_law 1292 = .ok (.aload_n 0, 1) := dk_42 (dk_at dksL_law_51 9 rfl rfl)
theorem dL_law_1293 : decode cL_law 1293 = .ok (.iload 4, 2) := dk_21 4 (dk_at dksL_law_51 10 rfl rfl)
theorem dL_law_1295 : decode cL_law 1295 = .ok (.iconst 1, 1) := dk_4 (dk_at dksL_law_51 12 rfl rfl)
theorem dL_law_1296 : decode cL_law 1296 = .ok (.iadd, 1) := dk_96 (dk_at dksL_law_51 13 rfl rfl)
theorem dL_law_1297 : decode cL_law 1297 = .ok (.iaload, 1) := dk_46 (dk_at dksL_law_51 14 rfl rfl)
theorem dL_law_1298 : decode cL_law 1298 = .ok (.aload_n 3, 1) := dk_45 (dk_at dksL_law_51 15 rfl rfl)
theorem dL_law_1299 : decode cL_law 1299 = .ok (.invokestatic 167, 3) := dk_184 0 167 (dk_at dksL_law_51 16 rfl rfl)
theorem dL_law_1302 : decode cL_law 1302 = .ok (.istore 5, 2) := dk_54 5 (dk_at dksL_law_51 19 rfl rfl)
theorem dL_law_1304 : decode cL_law 1304 = .ok (.aload_n 2, 1) := dk_44 (dk_at dksL_law_51 21 rfl rfl)
theorem dL_law_1305 : decode cL_law 1305 = .ok (.aload_n 0, 1) := dk_42 (dk_at dksL_law_51 22 rfl rfl)
theorem dL_law_1306 : decode cL_law 1306 = .ok (.iload 4, 2) := dk_21 4 (dk_at dksL_law_52 0 rfl rfl)
theorem dL_law_1308 : decode cL_law 1308 = .ok (.iconst 1, 1) := dk_4 (dk_at dksL_law_52 2 rfl rfl)
theorem dL_law_1309 : decode cL_law 1309 = .ok (.iadd, 1) := dk_96 (dk_at dksL_law_52 3 rfl rfl)
theorem dL_law_1310 : decode cL_law 1310 = .ok (.iaload, 1) := dk_46 (dk_at dksL_law_52 4 rfl rfl)
theorem dL_law_1311 : decode cL_law 1311 = .ok (.invokevirtual 169, 3) := dk_182 0 169 (dk_at dksL_law_52 5 rfl rfl)
theorem dL_law_1314 : decode cL_law 1314 = .ok (.istore 6, 2) := dk_54 6 (dk_at dksL_law_52 8 rfl rfl)
theorem dL_law_1316 : decode cL_law 1316 = .ok (.aload_n 2, 1) := dk_44 (dk_at dksL_law_52 10 rfl rfl)
theorem dL_law_1317 : decode cL_law 1317 = .ok (.invokevirtual 97, 3) := dk_182 0 97 (dk_at dksL_law_52 11 rfl rfl)
theorem dL_law_1320 : decode cL_law 1320 = .ok (.iload 5, 2) := dk_21 5 (dk_at dksL_law_52 14 rfl rfl)
theorem dL_law_1322 : decode cL_law 1322 = .ok (.if_icmp .eq 5, 3) := dk_159 0 5 (dk_at dksL_law_52 16 rfl rfl)
theorem dL_law_1325 : decode cL_law 1325 = .ok (.iconst 0, 1) := dk_3 (dk_at dksL_law_52 19 rfl rfl)
theorem dL_law_1326 : decode cL_law 1326 = .ok (.ireturn, 1) := dk_172 (dk_at dksL_law_52 20 rfl rfl)
theorem dL_law_1327 : decode cL_law 1327 = .ok (.iload 5, 2) := dk_21 5 (dk_at dksL_law_52 21 rfl rfl)
theorem dL_law_1329 : decode cL_law 1329 = .ok (.ifCond .ne 15, 3) := dk_154 0 15 (dk_at dksL_law_53 0 rfl rfl)
theorem dL_law_1332 : decode cL_law 1332 = .ok (.aload_n 3, 1) := dk_45 (dk_at dksL_law_53 3 rfl rfl)
theorem dL_law_1333 : decode cL_law 1333 = .ok (.iconst 0, 1) := dk_3 (dk_at dksL_law_53 4 rfl rfl)
theorem dL_law_1334 : decode cL_law 1334 = .ok (.laload, 1) := dk_47 (dk_at dksL_law_53 5 rfl rfl)
theorem dL_law_1335 : decode cL_law 1335 = .ok (.iload 6, 2) := dk_21 6 (dk_at dksL_law_53 6 rfl rfl)
theorem dL_law_1337 : decode cL_law 1337 = .ok (.i2l, 1) := dk_133 (dk_at dksL_law_53 8 rfl rfl)
theorem dL_law_1338 : decode cL_law 1338 = .ok (.lcmp, 1) := dk_148 (dk_at dksL_law_53 9 rfl rfl)
theorem dL_law_1339 : decode cL_law 1339 = .ok (.ifCond .eq 5, 3) := dk_153 0 5 (dk_at dksL_law_53 10 rfl rfl)
theorem dL_law_1342 : decode cL_law 1342 = .ok (.iconst 0, 1) := dk_3 (dk_at dksL_law_53 13 rfl rfl)
theorem dL_law_1343 : decode cL_law 1343 = .ok (.ireturn, 1) := dk_172 (dk_at dksL_law_53 14 rfl rfl)
theorem dL_law_1344 : decode cL_law 1344 = .ok (.goto 279, 3) := dk_167 1 23 (dk_at dksL_law_53 15 rfl rfl)
theorem dL_law_1347 : decode cL_law 1347 = .ok (.aload_n 1, 1) := dk_43 (dk_at dksL_law_53 18 rfl rfl)
theorem dL_law_1348 : decode cL_law 1348 = .ok (.aload_n 0, 1) := dk_42 (dk_at dksL_law_53 19 rfl rfl)
theorem dL_law_1349 : decode cL_law 1349 = .ok (.iload 4, 2) := dk_21 4 (dk_at dksL_law_53 20 rfl rfl)
theorem dL_law_1351 : decode cL_law 1351 = .ok (.iconst 1, 1) := dk_4 (dk_at dksL_law_53 22 rfl rfl)
theorem dL_law_1352 : decode cL_law 1352 = .ok (.iadd, 1) := dk_96 (dk_at dksL_law_53 23 rfl rfl)
theorem dL_law_1353 : decode cL_law 1353 = .ok (.iaload, 1) := dk_46 (dk_at dksL_law_54 0 rfl rfl)
theorem dL_law_1354 : decode cL_law 1354 = .ok (.aload_n 3, 1) := dk_45 (dk_at dksL_law_54 1 rfl rfl)
theorem dL_law_1355 : decode cL_law 1355 = .ok (.invokestatic 170, 3) := dk_184 0 170 (dk_at dksL_law_54 2 rfl rfl)
theorem dL_law_1358 : decode cL_law 1358 = .ok (.istore 5, 2) := dk_54 5 (dk_at dksL_law_54 5 rfl rfl)
theorem dL_law_1360 : decode cL_law 1360 = .ok (.aload_n 2, 1) := dk_44 (dk_at dksL_law_54 7 rfl rfl)
theorem dL_law_1361 : decode cL_law 1361 = .ok (.aload_n 0, 1) := dk_42 (dk_at dksL_law_54 8 rfl rfl)
theorem dL_law_1362 : decode cL_law 1362 = .ok (.iload 4, 2) := dk_21 4 (dk_at dksL_law_54 9 rfl rfl)
theorem dL_law_1364 : decode cL_law 1364 = .ok (.iconst 1, 1) := dk_4 (dk_at dksL_law_54 11 rfl rfl)
theorem dL_law_1365 : decode cL_law 1365 = .ok (.iadd, 1) := dk_96 (dk_at dksL_law_54 12 rfl rfl)
theorem dL_law_1366 : decode cL_law 1366 = .ok (.iaload, 1) := dk_46 (dk_at dksL_law_54 13 rfl rfl)
theorem dL_law_1367 : decode cL_law 1367 = .ok (.invokevirtual 172, 3) := dk_182 0 172 (dk_at dksL_law_54 14 rfl rfl)
theorem dL_law_1370 : decode cL_law 1370 = .ok (.istore 6, 2) := dk_54 6 (dk_at dksL_law_54 17 rfl rfl)
theorem dL_law_1372 : decode cL_law 1372 = .ok (.aload_n 2, 1) := dk_44 (dk_at dksL_law_54 19 rfl rfl)
theorem dL_law_1373 : decode cL_law 1373 = .ok (.invokevirtual 97, 3) := dk_182 0 97 (dk_at dksL_law_54 20 rfl rfl)
theorem dL_law_1376 : decode cL_law 1376 = .ok (.iload 5, 2) := dk_21 5 (dk_at dksL_law_55 0 rfl rfl)
theorem dL_law_1378 : decode cL_law 1378 = .ok (.if_icmp .eq 5, 3) := dk_159 0 5 (dk_at dksL_law_55 2 rfl rfl)
theorem dL_law_1381 : decode cL_law 1381 = .ok (.iconst 0, 1) := dk_3 (dk_at dksL_law_55 5 rfl rfl)
theorem dL_law_1382 : decode cL_law 1382 = .ok (.ireturn, 1) := dk_172 (dk_at dksL_law_55 6 rfl rfl)
theorem dL_law_1383 : decode cL_law 1383 = .ok (.iload 5, 2) := dk_21 5 (dk_at dksL_law_55 7 rfl rfl)
theorem dL_law_1385 : decode cL_law 1385 = .ok (.ifCond .ne 15, 3) := dk_154 0 15 (dk_at dksL_law_55 9 rfl rfl)
theorem dL_law_1388 : decode cL_law 1388 = .ok (.aload_n 3, 1) := dk_45 (dk_at dksL_law_55 12 rfl rfl)
theorem dL_law_1389 : decode cL_law 1389 = .ok (.iconst 0, 1) := dk_3 (dk_at dksL_law_55 13 rfl rfl)
theorem dL_law_1390 : decode cL_law 1390 = .ok (.laload, 1) := dk_47 (dk_at dksL_law_55 14 rfl rfl)
theorem dL_law_1391 : decode cL_law 1391 = .ok (.iload 6, 2) := dk_21 6 (dk_at dksL_law_55 15 rfl rfl)
theorem dL_law_1393 : decode cL_law 1393 = .ok (.i2l, 1) := dk_133 (dk_at dksL_law_55 17 rfl rfl)
theorem dL_law_1394 : decode cL_law 1394 = .ok (.lcmp, 1) := dk_148 (dk_at dksL_law_55 18 rfl rfl)
theorem dL_law_1395 : decode cL_law 1395 = .ok (.ifCond .eq 5, 3) := dk_153 0 5 (dk_at dksL_law_55 19 rfl rfl)
theorem dL_law_1398 : decode cL_law 1398 = .ok (.iconst 0, 1) := dk_3 (dk_at dksL_law_55 22 rfl rfl)
theorem dL_law_1399 : decode cL_law 1399 = .ok (.ireturn, 1) := dk_172 (dk_at dksL_law_55 23 rfl rfl)
theorem dL_law_1400 : decode cL_law 1400 = .ok (.goto 223, 3) := dk_167 0 223 (dk_at dksL_law_56 0 rfl rfl)
theorem dL_law_1403 : decode cL_law 1403 = .ok (.aload_n 1, 1) := dk_43 (dk_at dksL_law_56 3 rfl rfl)
theorem dL_law_1404 : decode cL_law 1404 = .ok (.aload_n 0, 1) := dk_42 (dk_at dksL_law_56 4 rfl rfl)
theorem dL_law_1405 : decode cL_law 1405 = .ok (.iload 4, 2) := dk_21 4 (dk_at dksL_law_56 5 rfl rfl)
theorem dL_law_1407 : decode cL_law 1407 = .ok (.iconst 1, 1) := dk_4 (dk_at dksL_law_56 7 rfl rfl)
theorem dL_law_1408 : decode cL_law 1408 = .ok (.iadd, 1) := dk_96 (dk_at dksL_law_56 8 rfl rfl)
theorem dL_law_1409 : decode cL_law 1409 = .ok (.iaload, 1) := dk_46 (dk_at dksL_law_56 9 rfl rfl)
theorem dL_law_1410 : decode cL_law 1410 = .ok (.aload_n 0, 1) := dk_42 (dk_at dksL_law_56 10 rfl rfl)
theorem dL_law_1411 : decode cL_law 1411 = .ok (.iload 4, 2) := dk_21 4 (dk_at dksL_law_56 11 rfl rfl)
theorem dL_law_1413 : decode cL_law 1413 = .ok (.iconst 2, 1) := dk_5 (dk_at dksL_law_56 13 rfl rfl)
theorem dL_law_1414 : decode cL_law 1414 = .ok (.iadd, 1) := dk_96 (dk_at dksL_law_56 14 rfl rfl)
theorem dL_law_1415 : decode cL_law 1415 = .ok (.iaload, 1) := dk_46 (dk_at dksL_law_56 15 rfl rfl)
theorem dL_law_1416 : decode cL_law 1416 = .ok (.aload_n 0, 1) := dk_42 (dk_at dksL_law_56 16 rfl rfl)
theorem dL_law_1417 : decode cL_law 1417 = .ok (.iload 4, 2) := dk_21 4 (dk_at dksL_law_56 17 rfl rfl)
theorem dL_law_1419 : decode cL_law 1419 = .ok (.iconst 3, 1) := dk_6 (dk_at dksL_law_56 19 rfl rfl)
theorem dL_law_1420 : decode cL_law 1420 = .ok (.iadd, 1) := dk_96 (dk_at dksL_law_56 20 rfl rfl)
theorem dL_law_1421 : decode cL_law 1421 = .ok (.iaload, 1) := dk_46 (dk_at dksL_law_56 21 rfl rfl)
theorem dL_law_1422 : decode cL_law 1422 = .ok (.aload_n 3, 1) := dk_45 (dk_at dksL_law_56 22 rfl rfl)
theorem dL_law_1423 : decode cL_law 1423 = .ok (.invokestatic 173, 3) := dk_184 0 173 (dk_at dksL_law_57 0 rfl rfl)
theorem dL_law_1426 : decode cL_law 1426 = .ok (.istore 5, 2) := dk_54 5 (dk_at dksL_law_57 3 rfl rfl)
theorem dL_law_1428 : decode cL_law 1428 = .ok (.aload_n 2, 1) := dk_44 (dk_at dksL_law_57 5 rfl rfl)
theorem dL_law_1429 : decode cL_law 1429 = .ok (.aload_n 0, 1) := dk_42 (dk_at dksL_law_57 6 rfl rfl)
theorem dL_law_1430 : decode cL_law 1430 = .ok (.iload 4, 2) := dk_21 4 (dk_at dksL_law_57 7 rfl rfl)
theorem dL_law_1432 : decode cL_law 1432 = .ok (.iconst 1, 1) := dk_4 (dk_at dksL_law_57 9 rfl rfl)
theorem dL_law_1433 : decode cL_law 1433 = .ok (.iadd, 1) := dk_96 (dk_at dksL_law_57 10 rfl rfl)
theorem dL_law_1434 : decode cL_law 1434 = .ok (.iaload, 1) := dk_46 (dk_at dksL_law_57 11 rfl rfl)
theorem dL_law_1435 : decode cL_law 1435 = .ok (.aload_n 0, 1) := dk_42 (dk_at dksL_law_57 12 rfl rfl)
theorem dL_law_1436 : decode cL_law 1436 = .ok (.iload 4, 2) := dk_21 4 (dk_at dksL_law_57 13 rfl rfl)
theorem dL_law_1438 : decode cL_law 1438 = .ok (.iconst 2, 1) := dk_5 (dk_at dksL_law_57 15 rfl rfl)
theorem dL_law_1439 : decode cL_law 1439 = .ok (.iadd, 1) := dk_96 (dk_at dksL_law_57 16 rfl rfl)
theorem dL_law_1440 : decode cL_law 1440 = .ok (.iaload, 1) := dk_46 (dk_at dksL_law_57 17 rfl rfl)
theorem dL_law_1441 : decode cL_law 1441 = .ok (.aload_n 0, 1) := dk_42 (dk_at dksL_law_57 18 rfl rfl)
theorem dL_law_1442 : decode cL_law 1442 = .ok (.iload 4, 2) := dk_21 4 (dk_at dksL_law_57 19 rfl rfl)
theorem dL_law_1444 : decode cL_law 1444 = .ok (.iconst 3, 1) := dk_6 (dk_at dksL_law_57 21 rfl rfl)
theorem dL_law_1445 : decode cL_law 1445 = .ok (.iadd, 1) := dk_96 (dk_at dksL_law_57 22 rfl rfl)
theorem dL_law_1446 : decode cL_law 1446 = .ok (.iaload, 1) := dk_46 (dk_at dksL_law_57 23 rfl rfl)
theorem dL_law_1447 : decode cL_law 1447 = .ok (.invokevirtual 175, 3) := dk_182 0 175 (dk_at dksL_law_58 0 rfl rfl)
theorem dL_law_1450 : decode cL_law 1450 = .ok (.istore 6, 2) := dk_54 6 (dk_at dksL_law_58 3 rfl rfl)
theorem dL_law_1452 : decode cL_law 1452 = .ok (.aload_n 2, 1) := dk_44 (dk_at dksL_law_58 5 rfl rfl)
theorem dL_law_1453 : decode cL_law 1453 = .ok (.invokevirtual 97, 3) := dk_182 0 97 (dk_at dksL_law_58 6 rfl rfl)
theorem dL_law_1456 : decode cL_law 1456 = .ok (.iload 5, 2) := dk_21 5 (dk_at dksL_law_58 9 rfl rfl)
theorem dL_law_1458 : decode cL_law 1458 = .ok (.if_icmp .eq 5, 3) := dk_159 0 5 (dk_at dksL_law_58 11 rfl rfl)
theorem dL_law_1461 : decode cL_law 1461 = .ok (.iconst 0, 1) := dk_3 (dk_at dksL_law_58 14 rfl rfl)
theorem dL_law_1462 : decode cL_law 1462 = .ok (.ireturn, 1) := dk_172 (dk_at dksL_law_58 15 rfl rfl)
theorem dL_law_1463 : decode cL_law 1463 = .ok (.iload 5, 2) := dk_21 5 (dk_at dksL_law_58 16 rfl rfl)
theorem dL_law_1465 : decode cL_law 1465 = .ok (.ifCond .ne 15, 3) := dk_154 0 15 (dk_at dksL_law_58 18 rfl rfl)
theorem dL_law_1468 : decode cL_law 1468 = .ok (.aload_n 3, 1) := dk_45 (dk_at dksL_law_58 21 rfl rfl)
theorem dL_law_1469 : decode cL_law 1469 = .ok (.iconst 0, 1) := dk_3 (dk_at dksL_law_58 22 rfl rfl)
theorem dL_law_1470 : decode cL_law 1470 = .ok (.laload, 1) := dk_47 (dk_at dksL_law_58 23 rfl rfl)
theorem dL_law_1471 : decode cL_law 1471 = .ok (.iload 6, 2) := dk_21 6 (dk_at dksL_law_59 0 rfl rfl)
theorem dL_law_1473 : decode cL_law 1473 = .ok (.i2l, 1) := dk_133 (dk_at dksL_law_59 2 rfl rfl)
theorem dL_law_1474 : decode cL_law 1474 = .ok (.lcmp, 1) := dk_148 (dk_at dksL_law_59 3 rfl rfl)
theorem dL_law_1475 : decode cL_law 1475 = .ok (.ifCond .eq 5, 3) := dk_153 0 5 (dk_at dksL_law_59 4 rfl rfl)
theorem dL_law_1478 : decode cL_law 1478 = .ok (.iconst 0, 1) := dk_3 (dk_at dksL_law_59 7 rfl rfl)
theorem dL_law_1479 : decode cL_law 1479 = .ok (.ireturn, 1) := dk_172 (dk_at dksL_law_59 8 rfl rfl)
theorem dL_law_1480 : decode cL_law 1480 = .ok (.goto 143, 3) := dk_167 0 143 (dk_at dksL_law_59 9 rfl rfl)
theorem dL_law_1483 : decode cL_law 1483 = .ok (.aload_n 1, 1) := dk_43 (dk_at dksL_law_59 12 rfl rfl)
theorem dL_law_1484 : decode cL_law 1484 = .ok (.aload_n 0, 1) := dk_42 (dk_at dksL_law_59 13 rfl rfl)
theorem dL_law_1485 : decode cL_law 1485 = .ok (.iload 4, 2) := dk_21 4 (dk_at dksL_law_59 14 rfl rfl)
theorem dL_law_1487 : decode cL_law 1487 = .ok (.iconst 1, 1) := dk_4 (dk_at dksL_law_59 16 rfl rfl)
theorem dL_law_1488 : decode cL_law 1488 = .ok (.iadd, 1) := dk_96 (dk_at dksL_law_59 17 rfl rfl)
theorem dL_law_1489 : decode cL_law 1489 = .ok (.iaload, 1) := dk_46 (dk_at dksL_law_59 18 rfl rfl)
theorem dL_law_1490 : decode cL_law 1490 = .ok (.aload_n 3, 1) := dk_45 (dk_at dksL_law_59 19 rfl rfl)
theorem dL_law_1491 : decode cL_law 1491 = .ok (.invokestatic 176, 3) := dk_184 0 176 (dk_at dksL_law_59 20 rfl rfl)
theorem dL_law_1494 : decode cL_law 1494 = .ok (.istore 5, 2) := dk_54 5 (dk_at dksL_law_60 0 rfl rfl)
theorem dL_law_1496 : decode cL_law 1496 = .ok (.aload_n 2, 1) := dk_44 (dk_at dksL_law_60 2 rfl rfl)
theorem dL_law_1497 : decode cL_law 1497 = .ok (.aload_n 0, 1) := dk_42 (dk_at dksL_law_60 3 rfl rfl)
theorem dL_law_1498 : decode cL_law 1498 = .ok (.iload 4, 2) := dk_21 4 (dk_at dksL_law_60 4 rfl rfl)
theorem dL_law_1500 : decode cL_law 1500 = .ok (.iconst 1, 1) := dk_4 (dk_at dksL_law_60 6 rfl rfl)
theorem dL_law_1501 : decode cL_law 1501 = .ok (.iadd, 1) := dk_96 (dk_at dksL_law_60 7 rfl rfl)
theorem dL_law_1502 : decode cL_law 1502 = .ok (.iaload, 1) := dk_46 (dk_at dksL_law_60 8 rfl rfl)
theorem dL_law_1503 : decode cL_law 1503 = .ok (.invokevirtual 178, 3) := dk_182 0 178 (dk_at dksL_law_60 9 rfl rfl)
theorem dL_law_1506 : decode cL_law 1506 = .ok (.istore 6, 2) := dk_54 6 (dk_at dksL_law_60 12 rfl rfl)
theorem dL_law_1508 : decode cL_law 1508 = .ok (.aload_n 2, 1) := dk_44 (dk_at dksL_law_60 14 rfl rfl)
theorem dL_law_1509 : decode cL_law 1509 = .ok (.invokevirtual 97, 3) := dk_182 0 97 (dk_at dksL_law_60 15 rfl rfl)
theorem dL_law_1512 : decode cL_law 1512 = .ok (.iload 5, 2) := dk_21 5 (dk_at dksL_law_60 18 rfl rfl)
theorem dL_law_1514 : decode cL_law 1514 = .ok (.if_icmp .eq 5, 3) := dk_159 0 5 (dk_at dksL_law_60 20 rfl rfl)
theorem dL_law_1517 : decode cL_law 1517 = .ok (.iconst 0, 1) := dk_3 (dk_at dksL_law_60 23 rfl rfl)
theorem dL_law_1518 : decode cL_law 1518 = .ok (.ireturn, 1) := dk_172 (dk_at dksL_law_61 0 rfl rfl)
theorem dL_law_1519 : decode cL_law 1519 = .ok (.iload 5, 2) := dk_21 5 (dk_at dksL_law_61 1 rfl rfl)
theorem dL_law_1521 : decode cL_law 1521 = .ok (.ifCond .ne 15, 3) := dk_154 0 15 (dk_at dksL_law_61 3 rfl rfl)
theorem dL_law_1524 : decode cL_law 1524 = .ok (.aload_n 3, 1) := dk_45 (dk_at dksL_law_61 6 rfl rfl)
theorem dL_law_1525 : decode cL_law 1525 = .ok (.iconst 0, 1) := dk_3 (dk_at dksL_law_61 7 rfl rfl)
theorem dL_law_1526 : decode cL_law 1526 = .ok (.laload, 1) := dk_47 (dk_at dksL_law_61 8 rfl rfl)
theorem dL_law_1527 : decode cL_law 1527 = .ok (.iload 6, 2) := dk_21 6 (dk_at dksL_law_61 9 rfl rfl)
theorem dL_law_1529 : decode cL_law 1529 = .ok (.i2l, 1) := dk_133 (dk_at dksL_law_61 11 rfl rfl)
theorem dL_law_1530 : decode cL_law 1530 = .ok (.lcmp, 1) := dk_148 (dk_at dksL_law_61 12 rfl rfl)
theorem dL_law_1531 : decode cL_law 1531 = .ok (.ifCond .eq 5, 3) := dk_153 0 5 (dk_at dksL_law_61 13 rfl rfl)
theorem dL_law_1534 : decode cL_law 1534 = .ok (.iconst 0, 1) := dk_3 (dk_at dksL_law_61 16 rfl rfl)
theorem dL_law_1535 : decode cL_law 1535 = .ok (.ireturn, 1) := dk_172 (dk_at dksL_law_61 17 rfl rfl)
theorem dL_law_1536 : decode cL_law 1536 = .ok (.goto 87, 3) := dk_167 0 87 (dk_at dksL_law_61 18 rfl rfl)
theorem dL_law_1539 : decode cL_law 1539 = .ok (.aload_n 1, 1) := dk_43 (dk_at dksL_law_61 21 rfl rfl)
theorem dL_law_1540 : decode cL_law 1540 = .ok (.invokevirtual 179, 3) := dk_182 0 179 (dk_at dksL_law_62 0 rfl rfl)
theorem dL_law_1543 : decode cL_law 1543 = .ok (.dstore 5, 2) := dk_57 5 (dk_at dksL_law_62 3 rfl rfl)
theorem dL_law_1545 : decode cL_law 1545 = .ok (.aload_n 2, 1) := dk_44 (dk_at dksL_law_62 5 rfl rfl)
theorem dL_law_1546 : decode cL_law 1546 = .ok (.invokevirtual 183, 3) := dk_182 0 183 (dk_at dksL_law_62 6 rfl rfl)
theorem dL_law_1549 : decode cL_law 1549 = .ok (.dstore 7, 2) := dk_57 7 (dk_at dksL_law_62 9 rfl rfl)
theorem dL_law_1551 : decode cL_law 1551 = .ok (.dload 5, 2) := dk_24 5 (dk_at dksL_law_62 11 rfl rfl)
theorem dL_law_1553 : decode cL_law 1553 = .ok (.dload 7, 2) := dk_24 7 (dk_at dksL_law_62 13 rfl rfl)
theorem dL_law_1555 : decode cL_law 1555 = .ok (.dcmp .l, 1) := dk_151 (dk_at dksL_law_62 15 rfl rfl)
theorem dL_law_1556 : decode cL_law 1556 = .ok (.ifCond .eq 21, 3) := dk_153 0 21 (dk_at dksL_law_62 16 rfl rfl)
theorem dL_law_1559 : decode cL_law 1559 = .ok (.dload 5, 2) := dk_24 5 (dk_at dksL_law_62 19 rfl rfl)
theorem dL_law_1561 : decode cL_law 1561 = .ok (.dload 5, 2) := dk_24 5 (dk_at dksL_law_62 21 rfl rfl)
theorem dL_law_1563 : decode cL_law 1563 = .ok (.dcmp .l, 1) := dk_151 (dk_at dksL_law_62 23 rfl rfl)
theorem dL_law_1564 : decode cL_law 1564 = .ok (.ifCond .eq 11, 3) := dk_153 0 11 (dk_at dksL_law_63 0 rfl rfl)
theorem dL_law_1567 : decode cL_law 1567 = .ok (.dload 7, 2) := dk_24 7 (dk_at dksL_law_63 3 rfl rfl)
theorem dL_law_1569 : decode cL_law 1569 = .ok (.dload 7, 2) := dk_24 7 (dk_at dksL_law_63 5 rfl rfl)
theorem dL_law_1571 : decode cL_law 1571 = .ok (.dcmp .l, 1) := dk_151 (dk_at dksL_law_63 7 rfl rfl)
theorem dL_law_1572 : decode cL_law 1572 = .ok (.ifCond .ne 5, 3) := dk_154 0 5 (dk_at dksL_law_63 8 rfl rfl)
theorem dL_law_1575 : decode cL_law 1575 = .ok (.iconst 0, 1) := dk_3 (dk_at dksL_law_63 11 rfl rfl)
theorem dL_law_1576 : decode cL_law 1576 = .ok (.ireturn, 1) := dk_172 (dk_at dksL_law_63 12 rfl rfl)
theorem dL_law_1577 : decode cL_law 1577 = .ok (.goto 46, 3) := dk_167 0 46 (dk_at dksL_law_63 13 rfl rfl)
theorem dL_law_1580 : decode cL_law 1580 = .ok (.aload_n 1, 1) := dk_43 (dk_at dksL_law_63 16 rfl rfl)
theorem dL_law_1581 : decode cL_law 1581 = .ok (.invokevirtual 184, 3) := dk_182 0 184 (dk_at dksL_law_63 17 rfl rfl)
theorem dL_law_1584 : decode cL_law 1584 = .ok (.f2d, 1) := dk_141 (dk_at dksL_law_63 20 rfl rfl)
theorem dL_law_1585 : decode cL_law 1585 = .ok (.dstore 5, 2) := dk_57 5 (dk_at dksL_law_63 21 rfl rfl)
theorem dL_law_1587 : decode cL_law 1587 = .ok (.aload_n 2, 1) := dk_44 (dk_at dksL_law_63 23 rfl rfl)
theorem dL_law_1588 : decode cL_law 1588 = .ok (.invokevirtual 188, 3) := dk_182 0 188 (dk_at dksL_law_64 0 rfl rfl)
theorem dL_law_1591 : decode cL_law 1591 = .ok (.f2d, 1) := dk_141 (dk_at dksL_law_64 3 rfl rfl)
theorem dL_law_1592 : decode cL_law 1592 = .ok (.dstore 7, 2) := dk_57 7 (dk_at dksL_law_64 4 rfl rfl)
theorem dL_law_1594 : decode cL_law 1594 = .ok (.dload 5, 2) := dk_24 5 (dk_at dksL_law_64 6 rfl rfl)
theorem dL_law_1596 : decode cL_law 1596 = .ok (.dload 7, 2) := dk_24 7 (dk_at dksL_law_64 8 rfl rfl)
theorem dL_law_1598 : decode cL_law 1598 = .ok (.dcmp .l, 1) := dk_151 (dk_at dksL_law_64 10 rfl rfl)
theorem dL_law_1599 : decode cL_law 1599 = .ok (.ifCond .eq 21, 3) := dk_153 0 21 (dk_at dksL_law_64 11 rfl rfl)
theorem dL_law_1602 : decode cL_law 1602 = .ok (.dload 5, 2) := dk_24 5 (dk_at dksL_law_64 14 rfl rfl)
theorem dL_law_1604 : decode cL_law 1604 = .ok (.dload 5, 2) := dk_24 5 (dk_at dksL_law_64 16 rfl rfl)
theorem dL_law_1606 : decode cL_law 1606 = .ok (.dcmp .l, 1) := dk_151 (dk_at dksL_law_64 18 rfl rfl)
theorem dL_law_1607 : decode cL_law 1607 = .ok (.ifCond .eq 11, 3) := dk_153 0 11 (dk_at dksL_law_64 19 rfl rfl)
theorem dL_law_1610 : decode cL_law 1610 = .ok (.dload 7, 2) := dk_24 7 (dk_at dksL_law_64 22 rfl rfl)
theorem dL_law_1612 : decode cL_law 1612 = .ok (.dload 7, 2) := dk_24 7 (dk_at dksL_law_65 0 rfl rfl)
theorem dL_law_1614 : decode cL_law 1614 = .ok (.dcmp .l, 1) := dk_151 (dk_at dksL_law_65 2 rfl rfl)
theorem dL_law_1615 : decode cL_law 1615 = .ok (.ifCond .ne 5, 3) := dk_154 0 5 (dk_at dksL_law_65 3 rfl rfl)
theorem dL_law_1618 : decode cL_law 1618 = .ok (.iconst 0, 1) := dk_3 (dk_at dksL_law_65 6 rfl rfl)
theorem dL_law_1619 : decode cL_law 1619 = .ok (.ireturn, 1) := dk_172 (dk_at dksL_law_65 7 rfl rfl)
theorem dL_law_1620 : decode cL_law 1620 = .ok (.goto 3, 3) := dk_167 0 3 (dk_at dksL_law_65 8 rfl rfl)
theorem dL_law_1623 : decode cL_law 1623 = .ok (.iinc 4 5, 3) := dk_132 4 5 (dk_at dksL_law_65 11 rfl rfl)
theorem dL_law_1626 : decode cL_law 1626 = .ok (.goto (-1603), 3) := dk_167 249 189 (dk_at dksL_law_65 14 rfl rfl)
theorem dL_law_1629 : decode cL_law 1629 = .ok (.iconst 1, 1) := dk_4 (dk_at dksL_law_65 17 rfl rfl)
theorem dL_law_1630 : decode cL_law 1630 = .ok (.ireturn, 1) := dk_172 (dk_at dksL_law_65 18 rfl rfl)
/-! Peerpanel -/
set_option maxRecDepth 100000
def RX1 : String := "Peerpanel"
def TX1 : u_T := fun k => match k with
  | 0 => ("Peerpanel", "people", "Ljava/util/ArrayList;", true)
  | 1 => ("Peerpanel", "due", "I", false)
  | 2 => ("Peerpanel", "tolerance", "I", false)
  | 3 => ("Peerpanel", "byLoad", "LPeerpanel$Ahead;", true)
  | _ => ("Peerpanel", "byWeight", "LPeerpanel$Ahead;", true)
def tyX1 : Nat → FieldType := fun k => match k with
  | 0 => .object "java/util/ArrayList"
  | 1 => .int
  | 2 => .int
  | 3 => .object "Peerpanel$Ahead"
  | _ => .object "Peerpanel$Ahead"
abbrev wsX10 : List Cond := u_ws RX1 TX1 5
theorem nmX1 : ∀ a, a < 5 → ∀ b, b < 5 → a ≠ b → (TX1 a).2.1 ≠ (TX1 b).2.1 := by decide +kernel
theorem tyX1_ok : ∀ k, k < 5 → parseFieldDescriptor (TX1 k).2.2.1 = some (tyX1 k) := by decide +kernel
abbrev cX1_init : ByteArray := prog_1_method_7_code
def yX1_init : MethodName := ⟨RX1, "<init>", "()V"⟩
def dkwX1_init_1 : List UInt8 := [181, 0, 42, 42, 186, 0, 45, 0, 0, 181, 0, 49, 42, 186, 0, 53, 0, 0, 181, 0, 54, 177]
abbrev dktX1_init_1 : List UInt8 := dkwX1_init_1 ++ []
def dkwX1_init_0 : List UInt8 := [42, 183, 0, 28, 42, 187, 0, 31, 89, 183, 0, 33, 181, 0, 34, 42, 16, 50, 181, 0, 38, 42, 16, 20]
abbrev dktX1_init_0 : List UInt8 := dkwX1_init_0 ++ dktX1_init_1
theorem dksX1_init_0 : cX1_init.data.toList.drop 0 = dktX1_init_0 := by decide +kernel
theorem dksX1_init_1 : cX1_init.data.toList.drop 24 = dktX1_init_1 := dk_seg dksX1_init_0 24 rfl rfl
theorem dX1_init_0 : decode cX1_init 0 = .ok (.aload_n 0, 1) := dk_42 (dk_at dksX1_init_0 0 rfl rfl)
theorem dX1_init_1 : decode cX1_init 1 = .ok (.invokespecial 28, 3) := dk_183 0 28 (dk_at dksX1_init_0 1 rfl rfl)
theorem dX1_init_4 : decode cX1_init 4 = .ok (.aload_n 0, 1) := dk_42 (dk_at dksX1_init_0 4 rfl rfl)
theorem dX1_init_5 : decode cX1_init 5 = .ok (.new 31, 3) := dk_187 0 31 (dk_at dksX1_init_0 5 rfl rfl)
theorem dX1_init_8 : decode cX1_init 8 = .ok (.dup, 1) := dk_89 (dk_at dksX1_init_0 8 rfl rfl)
theorem dX1_init_9 : decode cX1_init 9 = .ok (.invokespecial 33, 3) := dk_183 0 33 (dk_at dksX1_init_0 9 rfl rfl)
theorem dX1_init_12 : decode cX1_init 12 = .ok (.putfield 34, 3) := dk_181 0 34 (dk_at dksX1_init_0 12 rfl rfl)
theorem dX1_init_15 : decode cX1_init 15 = .ok (.aload_n 0, 1) := dk_42 (dk_at dksX1_init_0 15 rfl rfl)
theorem dX1_init_16 : decode cX1_init 16 = .ok (.bipush 50, 2) := dk_16 50 (dk_at dksX1_init_0 16 rfl rfl)
theorem dX1_init_18 : decode cX1_init 18 = .ok (.putfield 38, 3) := dk_181 0 38 (dk_at dksX1_init_0 18 rfl rfl)
theorem dX1_init_21 : decode cX1_init 21 = .ok (.aload_n 0, 1) := dk_42 (dk_at dksX1_init_0 21 rfl rfl)
theorem dX1_init_22 : decode cX1_init 22 = .ok (.bipush 20, 2) := dk_16 20 (dk_at dksX1_init_0 22 rfl rfl)
theorem dX1_init_24 : decode cX1_init 24 = .ok (.putfield 42, 3) := dk_181 0 42 (dk_at dksX1_init_1 0 rfl rfl)
theorem dX1_init_27 : decode cX1_init 27 = .ok (.aload_n 0, 1) := dk_42 (dk_at dksX1_init_1 3 rfl rfl)
theorem dX1_init_28 : decode cX1_init 28 = .ok (.invokedynamic 45, 5) := by decide +kernel
theorem dX1_init_33 : decode cX1_init 33 = .ok (.putfield 49, 3) := dk_181 0 49 (dk_at dksX1_init_1 9 rfl rfl)
theorem dX1_init_36 : decode cX1_init 36 = .ok (.aload_n 0, 1) := dk_42 (dk_at dksX1_init_1 12 rfl rfl)
theorem dX1_init_37 : decode cX1_init 37 = .ok (.invokedynamic 53, 5) := by decide +kernel
theorem dX1_init_42 : decode cX1_init 42 = .ok (.putfield 54, 3) := dk_181 0 54 (dk_at dksX1_init_1 18 rfl rfl)
theorem dX1_init_45 : decode cX1_init 45 = .ok (.return_, 1) := dk_177 (dk_at dksX1_init_1 21 rfl rfl)
abbrev cX1_lambda_new_0 : ByteArray := prog_1_method_41_code
def yX1_lambda_new_0 : MethodName := ⟨RX1, "lambda$new$0", "(LPeerpanel$Person;LPeerpanel$Person;)Z"⟩
def dkwX1_lambda_new_0_0 : List UInt8 := [42, 180, 0, 145, 43, 180, 0, 145, 162, 0, 7, 4, 167, 0, 4, 3, 172]
abbrev dktX1_lambda_new_0_0 : List UInt8 := dkwX1_lambda_new_0_0 ++ []
theorem dksX1_lambda_new_0_0 : cX1_lambda_new_0.data.toList.drop 0 = dktX1_lambda_new_0_0 := by decide +kernel
theorem dX1_lambda_new_0_0 : decode cX1_lambda_new_0 0 = .ok (.aload_n 0, 1) := dk_42 (dk_at dksX1_lambda_new_0_0 0 rfl rfl)
theorem dX1_lambda_new_0_1 : decode cX1_lambda_new_0 1 = .ok (.getfield 145, 3) := dk_180 0 145 (dk_at dksX1_lambda_new_0_0 1 rfl rfl)
theorem dX1_lambda_new_0_4 : decode cX1_lambda_new_0 4 = .ok (.aload_n 1, 1) := dk_43 (dk_at dksX1_lambda_new_0_0 4 rfl rfl)
theorem dX1_lambda_new_0_5 : decode cX1_lambda_new_0 5 = .ok (.getfield 145, 3) := dk_180 0 145 (dk_at dksX1_lambda_new_0_0 5 rfl rfl)
theorem dX1_lambda_new_0_8 : decode cX1_lambda_new_0 8 = .ok (.if_icmp .ge 7, 3) := dk_162 0 7 (dk_at dksX1_lambda_new_0_0 8 rfl rfl)
theorem dX1_lambda_new_0_11 : decode cX1_lambda_new_0 11 = .ok (.iconst 1, 1) := dk_4 (dk_at dksX1_lambda_new_0_0 11 rfl rfl)
theorem dX1_lambda_new_0_12 : decode cX1_lambda_new_0 12 = .ok (.goto 4, 3) := dk_167 0 4 (dk_at dksX1_lambda_new_0_0 12 rfl rfl)
theorem dX1_lambda_new_0_15 : decode cX1_lambda_new_0 15 = .ok (.iconst 0, 1) := dk_3 (dk_at dksX1_lambda_new_0_0 15 rfl rfl)
theorem dX1_lambda_new_0_16 : decode cX1_lambda_new_0 16 = .ok (.ireturn, 1) := dk_172 (dk_at dksX1_lambda_new_0_0 16 rfl rfl)
abbrev cX1_lambda_new_1 : ByteArray := prog_1_method_40_code
def yX1_lambda_new_1 : MethodName := ⟨RX1, "lambda$new$1", "(LPeerpanel$Person;LPeerpanel$Person;)Z"⟩
def dkwX1_lambda_new_1_1 : List UInt8 := [180, 0, 145, 43, 180, 0, 145, 162, 0, 7, 4, 167, 0, 4, 3, 172]
abbrev dktX1_lambda_new_1_1 : List UInt8 := dkwX1_lambda_new_1_1 ++ []
def dkwX1_lambda_new_1_0 : List UInt8 := [42, 180, 0, 169, 43, 180, 0, 169, 163, 0, 25, 42, 180, 0, 169, 43, 180, 0, 169, 160, 0, 18, 42]
abbrev dktX1_lambda_new_1_0 : List UInt8 := dkwX1_lambda_new_1_0 ++ dktX1_lambda_new_1_1
theorem dksX1_lambda_new_1_0 : cX1_lambda_new_1.data.toList.drop 0 = dktX1_lambda_new_1_0 := by decide +kernel
theorem dksX1_lambda_new_1_1 : cX1_lambda_new_1.data.toList.drop 23 = dktX1_lambda_new_1_1 := dk_seg dksX1_lambda_new_1_0 23 rfl rfl
theorem dX1_lambda_new_1_0 : decode cX1_lambda_new_1 0 = .ok (.aload_n 0, 1) := dk_42 (dk_at dksX1_lambda_new_1_0 0 rfl rfl)
theorem dX1_lambda_new_1_1 : decode cX1_lambda_new_1 1 = .ok (.getfield 169, 3) := dk_180 0 169 (dk_at dksX1_lambda_new_1_0 1 rfl rfl)
theorem dX1_lambda_new_1_4 : decode cX1_lambda_new_1 4 = .ok (.aload_n 1, 1) := dk_43 (dk_at dksX1_lambda_new_1_0 4 rfl rfl)
theorem dX1_lambda_new_1_5 : decode cX1_lambda_new_1 5 = .ok (.getfield 169, 3) := dk_180 0 169 (dk_at dksX1_lambda_new_1_0 5 rfl rfl)
theorem dX1_lambda_new_1_8 : decode cX1_lambda_new_1 8 = .ok (.if_icmp .gt 25, 3) := dk_163 0 25 (dk_at dksX1_lambda_new_1_0 8 rfl rfl)
theorem dX1_lambda_new_1_11 : decode cX1_lambda_new_1 11 = .ok (.aload_n 0, 1) := dk_42 (dk_at dksX1_lambda_new_1_0 11 rfl rfl)
theorem dX1_lambda_new_1_12 : decode cX1_lambda_new_1 12 = .ok (.getfield 169, 3) := dk_180 0 169 (dk_at dksX1_lambda_new_1_0 12 rfl rfl)
theorem dX1_lambda_new_1_15 : decode cX1_lambda_new_1 15 = .ok (.aload_n 1, 1) := dk_43 (dk_at dksX1_lambda_new_1_0 15 rfl rfl)
theorem dX1_lambda_new_1_16 : decode cX1_lambda_new_1 16 = .ok (.getfield 169, 3) := dk_180 0 169 (dk_at dksX1_lambda_new_1_0 16 rfl rfl)
theorem dX1_lambda_new_1_19 : decode cX1_lambda_new_1 19 = .ok (.if_icmp .ne 18, 3) := dk_160 0 18 (dk_at dksX1_lambda_new_1_0 19 rfl rfl)
theorem dX1_lambda_new_1_22 : decode cX1_lambda_new_1 22 = .ok (.aload_n 0, 1) := dk_42 (dk_at dksX1_lambda_new_1_0 22 rfl rfl)
theorem dX1_lambda_new_1_23 : decode cX1_lambda_new_1 23 = .ok (.getfield 145, 3) := dk_180 0 145 (dk_at dksX1_lambda_new_1_1 0 rfl rfl)
theorem dX1_lambda_new_1_26 : decode cX1_lambda_new_1 26 = .ok (.aload_n 1, 1) := dk_43 (dk_at dksX1_lambda_new_1_1 3 rfl rfl)
theorem dX1_lambda_new_1_27 : decode cX1_lambda_new_1 27 = .ok (.getfield 145, 3) := dk_180 0 145 (dk_at dksX1_lambda_new_1_1 4 rfl rfl)
theorem dX1_lambda_new_1_30 : decode cX1_lambda_new_1 30 = .ok (.if_icmp .ge 7, 3) := dk_162 0 7 (dk_at dksX1_lambda_new_1_1 7 rfl rfl)
theorem dX1_lambda_new_1_33 : decode cX1_lambda_new_1 33 = .ok (.iconst 1, 1) := dk_4 (dk_at dksX1_lambda_new_1_1 10 rfl rfl)
theorem dX1_lambda_new_1_34 : decode cX1_lambda_new_1 34 = .ok (.goto 4, 3) := dk_167 0 4 (dk_at dksX1_lambda_new_1_1 11 rfl rfl)
theorem dX1_lambda_new_1_37 : decode cX1_lambda_new_1 37 = .ok (.iconst 0, 1) := dk_3 (dk_at dksX1_lambda_new_1_1 14 rfl rfl)
theorem dX1_lambda_new_1_38 : decode cX1_lambda_new_1 38 = .ok (.ireturn, 1) := dk_172 (dk_at dksX1_lambda_new_1_1 15 rfl rfl)
abbrev cX1_people : ByteArray := prog_1_method_16_code
def yX1_people : MethodName := ⟨RX1, "people", "()I"⟩
def dkwX1_people_0 : List UInt8 := [42, 180, 0, 34, 182, 0, 57, 172]
abbrev dktX1_people_0 : List UInt8 := dkwX1_people_0 ++ []
theorem dksX1_people_0 : cX1_people.data.toList.drop 0 = dktX1_people_0 := by decide +kernel
theorem dX1_people_0 : decode cX1_people 0 = .ok (.aload_n 0, 1) := dk_42 (dk_at dksX1_people_0 0 rfl rfl)
theorem dX1_people_1 : decode cX1_people 1 = .ok (.getfield 34, 3) := dk_180 0 34 (dk_at dksX1_people_0 1 rfl rfl)
theorem dX1_people_4 : decode cX1_people 4 = .ok (.invokevirtual 57, 3) := dk_182 0 57 (dk_at dksX1_people_0 4 rfl rfl)
theorem dX1_people_7 : decode cX1_people 7 = .ok (.ireturn, 1) := dk_172 (dk_at dksX1_people_0 7 rfl rfl)
abbrev cX1_works : ByteArray := prog_1_method_17_code
def yX1_works : MethodName := ⟨RX1, "works", "()I"⟩
def dkwX1_works_1 : List UInt8 := [185, 0, 110, 1, 0, 192, 0, 68, 78, 45, 180, 0, 74, 198, 0, 6, 132, 1, 1, 167, 255, 227, 27, 172]
abbrev dktX1_works_1 : List UInt8 := dkwX1_works_1 ++ []
def dkwX1_works_0 : List UInt8 := [3, 60, 42, 180, 0, 34, 182, 0, 100, 77, 44, 185, 0, 104, 1, 0, 153, 0, 26, 44]
abbrev dktX1_works_0 : List UInt8 := dkwX1_works_0 ++ dktX1_works_1
theorem dksX1_works_0 : cX1_works.data.toList.drop 0 = dktX1_works_0 := by decide +kernel
theorem dksX1_works_1 : cX1_works.data.toList.drop 20 = dktX1_works_1 := dk_seg dksX1_works_0 20 rfl rfl
theorem dX1_works_0 : decode cX1_works 0 = .ok (.iconst 0, 1) := dk_3 (dk_at dksX1_works_0 0 rfl rfl)
theorem dX1_works_1 : decode cX1_works 1 = .ok (.istore_n 1, 1) := dk_60 (dk_at dksX1_works_0 1 rfl rfl)
theorem dX1_works_2 : decode cX1_works 2 = .ok (.aload_n 0, 1) := dk_42 (dk_at dksX1_works_0 2 rfl rfl)
theorem dX1_works_3 : decode cX1_works 3 = .ok (.getfield 34, 3) := dk_180 0 34 (dk_at dksX1_works_0 3 rfl rfl)
theorem dX1_works_6 : decode cX1_works 6 = .ok (.invokevirtual 100, 3) := dk_182 0 100 (dk_at dksX1_works_0 6 rfl rfl)
theorem dX1_works_9 : decode cX1_works 9 = .ok (.astore_n 2, 1) := dk_77 (dk_at dksX1_works_0 9 rfl rfl)
theorem dX1_works_10 : decode cX1_works 10 = .ok (.aload_n 2, 1) := dk_44 (dk_at dksX1_works_0 10 rfl rfl)
theorem dX1_works_11 : decode cX1_works 11 = .ok (.invokeinterface 104 1, 5) := by decide +kernel
theorem dX1_works_16 : decode cX1_works 16 = .ok (.ifCond .eq 26, 3) := dk_153 0 26 (dk_at dksX1_works_0 16 rfl rfl)
theorem dX1_works_19 : decode cX1_works 19 = .ok (.aload_n 2, 1) := dk_44 (dk_at dksX1_works_0 19 rfl rfl)
theorem dX1_works_20 : decode cX1_works 20 = .ok (.invokeinterface 110 1, 5) := by decide +kernel
theorem dX1_works_25 : decode cX1_works 25 = .ok (.checkcast 68, 3) := dk_192 0 68 (dk_at dksX1_works_1 5 rfl rfl)
theorem dX1_works_28 : decode cX1_works 28 = .ok (.astore_n 3, 1) := dk_78 (dk_at dksX1_works_1 8 rfl rfl)
theorem dX1_works_29 : decode cX1_works 29 = .ok (.aload_n 3, 1) := dk_45 (dk_at dksX1_works_1 9 rfl rfl)
theorem dX1_works_30 : decode cX1_works 30 = .ok (.getfield 74, 3) := dk_180 0 74 (dk_at dksX1_works_1 10 rfl rfl)
theorem dX1_works_33 : decode cX1_works 33 = .ok (.ifnull 6, 3) := dk_198 0 6 (dk_at dksX1_works_1 13 rfl rfl)
theorem dX1_works_36 : decode cX1_works 36 = .ok (.iinc 1 1, 3) := dk_132 1 1 (dk_at dksX1_works_1 16 rfl rfl)
theorem dX1_works_39 : decode cX1_works 39 = .ok (.goto (-29), 3) := dk_167 255 227 (dk_at dksX1_works_1 19 rfl rfl)
theorem dX1_works_42 : decode cX1_works 42 = .ok (.iload_n 1, 1) := dk_27 (dk_at dksX1_works_1 22 rfl rfl)
theorem dX1_works_43 : decode cX1_works 43 = .ok (.ireturn, 1) := dk_172 (dk_at dksX1_works_1 23 rfl rfl)
abbrev cX1_plain : ByteArray := prog_1_method_27_code
def yX1_plain : MethodName := ⟨RX1, "plain", "()I"⟩
def dkwX1_plain_1 : List UInt8 := [28, 182, 0, 64, 192, 0, 68, 182, 0, 166, 79, 132, 2, 1, 167, 255, 230, 42, 43, 182, 0, 183, 172]
abbrev dktX1_plain_1 : List UInt8 := dkwX1_plain_1 ++ []
def dkwX1_plain_0 : List UInt8 := [42, 180, 0, 34, 182, 0, 57, 188, 10, 76, 3, 61, 28, 43, 190, 162, 0, 26, 43, 28, 42, 180, 0, 34]
abbrev dktX1_plain_0 : List UInt8 := dkwX1_plain_0 ++ dktX1_plain_1
theorem dksX1_plain_0 : cX1_plain.data.toList.drop 0 = dktX1_plain_0 := by decide +kernel
theorem dksX1_plain_1 : cX1_plain.data.toList.drop 24 = dktX1_plain_1 := dk_seg dksX1_plain_0 24 rfl rfl
theorem dX1_plain_0 : decode cX1_plain 0 = .ok (.aload_n 0, 1) := dk_42 (dk_at dksX1_plain_0 0 rfl rfl)
theorem dX1_plain_1 : decode cX1_plain 1 = .ok (.getfield 34, 3) := dk_180 0 34 (dk_at dksX1_plain_0 1 rfl rfl)
theorem dX1_plain_4 : decode cX1_plain 4 = .ok (.invokevirtual 57, 3) := dk_182 0 57 (dk_at dksX1_plain_0 4 rfl rfl)
theorem dX1_plain_7 : decode cX1_plain 7 = .ok (.newarray .int, 2) := dk_188_10 (dk_at dksX1_plain_0 7 rfl rfl)
theorem dX1_plain_9 : decode cX1_plain 9 = .ok (.astore_n 1, 1) := dk_76 (dk_at dksX1_plain_0 9 rfl rfl)
theorem dX1_plain_10 : decode cX1_plain 10 = .ok (.iconst 0, 1) := dk_3 (dk_at dksX1_plain_0 10 rfl rfl)
theorem dX1_plain_11 : decode cX1_plain 11 = .ok (.istore_n 2, 1) := dk_61 (dk_at dksX1_plain_0 11 rfl rfl)
theorem dX1_plain_12 : decode cX1_plain 12 = .ok (.iload_n 2, 1) := dk_28 (dk_at dksX1_plain_0 12 rfl rfl)
theorem dX1_plain_13 : decode cX1_plain 13 = .ok (.aload_n 1, 1) := dk_43 (dk_at dksX1_plain_0 13 rfl rfl)
theorem dX1_plain_14 : decode cX1_plain 14 = .ok (.arraylength, 1) := dk_190 (dk_at dksX1_plain_0 14 rfl rfl)
theorem dX1_plain_15 : decode cX1_plain 15 = .ok (.if_icmp .ge 26, 3) := dk_162 0 26 (dk_at dksX1_plain_0 15 rfl rfl)
theorem dX1_plain_18 : decode cX1_plain 18 = .ok (.aload_n 1, 1) := dk_43 (dk_at dksX1_plain_0 18 rfl rfl)
theorem dX1_plain_19 : decode cX1_plain 19 = .ok (.iload_n 2, 1) := dk_28 (dk_at dksX1_plain_0 19 rfl rfl)
theorem dX1_plain_20 : decode cX1_plain 20 = .ok (.aload_n 0, 1) := dk_42 (dk_at dksX1_plain_0 20 rfl rfl)
theorem dX1_plain_21 : decode cX1_plain 21 = .ok (.getfield 34, 3) := dk_180 0 34 (dk_at dksX1_plain_0 21 rfl rfl)
theorem dX1_plain_24 : decode cX1_plain 24 = .ok (.iload_n 2, 1) := dk_28 (dk_at dksX1_plain_1 0 rfl rfl)
theorem dX1_plain_25 : decode cX1_plain 25 = .ok (.invokevirtual 64, 3) := dk_182 0 64 (dk_at dksX1_plain_1 1 rfl rfl)
theorem dX1_plain_28 : decode cX1_plain 28 = .ok (.checkcast 68, 3) := dk_192 0 68 (dk_at dksX1_plain_1 4 rfl rfl)
theorem dX1_plain_31 : decode cX1_plain 31 = .ok (.invokevirtual 166, 3) := dk_182 0 166 (dk_at dksX1_plain_1 7 rfl rfl)
theorem dX1_plain_34 : decode cX1_plain 34 = .ok (.iastore, 1) := dk_79 (dk_at dksX1_plain_1 10 rfl rfl)
theorem dX1_plain_35 : decode cX1_plain 35 = .ok (.iinc 2 1, 3) := dk_132 2 1 (dk_at dksX1_plain_1 11 rfl rfl)
theorem dX1_plain_38 : decode cX1_plain 38 = .ok (.goto (-26), 3) := dk_167 255 230 (dk_at dksX1_plain_1 14 rfl rfl)
theorem dX1_plain_41 : decode cX1_plain 41 = .ok (.aload_n 0, 1) := dk_42 (dk_at dksX1_plain_1 17 rfl rfl)
theorem dX1_plain_42 : decode cX1_plain 42 = .ok (.aload_n 1, 1) := dk_43 (dk_at dksX1_plain_1 18 rfl rfl)
theorem dX1_plain_43 : decode cX1_plain 43 = .ok (.invokevirtual 183, 3) := dk_182 0 183 (dk_at dksX1_plain_1 19 rfl rfl)
theorem dX1_plain_46 : decode cX1_plain 46 = .ok (.ireturn, 1) := dk_172 (dk_at dksX1_plain_1 22 rfl rfl)
abbrev cX1_weightBy : ByteArray := prog_1_method_6_code
def yX1_weightBy : MethodName := ⟨RX1, "weightBy", "(III)I"⟩
def dkwX1_weightBy_0 : List UInt8 := [27, 154, 0, 7, 28, 167, 0, 15, 4, 16, 10, 26, 7, 27, 104, 108, 100, 184, 0, 22, 172]
abbrev dktX1_weightBy_0 : List UInt8 := dkwX1_weightBy_0 ++ []
theorem dksX1_weightBy_0 : cX1_weightBy.data.toList.drop 0 = dktX1_weightBy_0 := by decide +kernel
theorem dX1_weightBy_0 : decode cX1_weightBy 0 = .ok (.iload_n 1, 1) := dk_27 (dk_at dksX1_weightBy_0 0 rfl rfl)
theorem dX1_weightBy_1 : decode cX1_weightBy 1 = .ok (.ifCond .ne 7, 3) := dk_154 0 7 (dk_at dksX1_weightBy_0 1 rfl rfl)
theorem dX1_weightBy_4 : decode cX1_weightBy 4 = .ok (.iload_n 2, 1) := dk_28 (dk_at dksX1_weightBy_0 4 rfl rfl)
theorem dX1_weightBy_5 : decode cX1_weightBy 5 = .ok (.goto 15, 3) := dk_167 0 15 (dk_at dksX1_weightBy_0 5 rfl rfl)
theorem dX1_weightBy_8 : decode cX1_weightBy 8 = .ok (.iconst 1, 1) := dk_4 (dk_at dksX1_weightBy_0 8 rfl rfl)
theorem dX1_weightBy_9 : decode cX1_weightBy 9 = .ok (.bipush 10, 2) := dk_16 10 (dk_at dksX1_weightBy_0 9 rfl rfl)
theorem dX1_weightBy_11 : decode cX1_weightBy 11 = .ok (.iload_n 0, 1) := dk_26 (dk_at dksX1_weightBy_0 11 rfl rfl)
theorem dX1_weightBy_12 : decode cX1_weightBy 12 = .ok (.iconst 4, 1) := dk_7 (dk_at dksX1_weightBy_0 12 rfl rfl)
theorem dX1_weightBy_13 : decode cX1_weightBy 13 = .ok (.iload_n 1, 1) := dk_27 (dk_at dksX1_weightBy_0 13 rfl rfl)
theorem dX1_weightBy_14 : decode cX1_weightBy 14 = .ok (.imul, 1) := dk_104 (dk_at dksX1_weightBy_0 14 rfl rfl)
theorem dX1_weightBy_15 : decode cX1_weightBy 15 = .ok (.idiv, 1) := dk_108 (dk_at dksX1_weightBy_0 15 rfl rfl)
theorem dX1_weightBy_16 : decode cX1_weightBy 16 = .ok (.isub, 1) := dk_100 (dk_at dksX1_weightBy_0 16 rfl rfl)
theorem dX1_weightBy_17 : decode cX1_weightBy 17 = .ok (.invokestatic 22, 3) := dk_184 0 22 (dk_at dksX1_weightBy_0 17 rfl rfl)
theorem dX1_weightBy_20 : decode cX1_weightBy 20 = .ok (.ireturn, 1) := dk_172 (dk_at dksX1_weightBy_0 20 rfl rfl)
abbrev cX1_become : ByteArray := prog_1_method_24_code
def yX1_become : MethodName := ⟨RX1, "become", "([I)I"⟩
def dkwX1_become_2 : List UInt8 := [181, 0, 169, 132, 3, 1, 167, 255, 207, 28, 172]
abbrev dktX1_become_2 : List UInt8 := dkwX1_become_2 ++ []
def dkwX1_become_1 : List UInt8 := [43, 29, 46, 159, 0, 6, 132, 2, 1, 42, 180, 0, 34, 29, 182, 0, 64, 192, 0, 68, 43, 29, 46]
abbrev dktX1_become_1 : List UInt8 := dkwX1_become_1 ++ dktX1_become_2
def dkwX1_become_0 : List UInt8 := [3, 61, 3, 62, 29, 43, 190, 162, 0, 49, 42, 180, 0, 34, 29, 182, 0, 64, 192, 0, 68, 180, 0, 169]
abbrev dktX1_become_0 : List UInt8 := dkwX1_become_0 ++ dktX1_become_1
theorem dksX1_become_0 : cX1_become.data.toList.drop 0 = dktX1_become_0 := by decide +kernel
theorem dksX1_become_1 : cX1_become.data.toList.drop 24 = dktX1_become_1 := dk_seg dksX1_become_0 24 rfl rfl
theorem dksX1_become_2 : cX1_become.data.toList.drop 47 = dktX1_become_2 := dk_seg dksX1_become_1 23 rfl rfl
theorem dX1_become_0 : decode cX1_become 0 = .ok (.iconst 0, 1) := dk_3 (dk_at dksX1_become_0 0 rfl rfl)
theorem dX1_become_1 : decode cX1_become 1 = .ok (.istore_n 2, 1) := dk_61 (dk_at dksX1_become_0 1 rfl rfl)
theorem dX1_become_2 : decode cX1_become 2 = .ok (.iconst 0, 1) := dk_3 (dk_at dksX1_become_0 2 rfl rfl)
theorem dX1_become_3 : decode cX1_become 3 = .ok (.istore_n 3, 1) := dk_62 (dk_at dksX1_become_0 3 rfl rfl)
theorem dX1_become_4 : decode cX1_become 4 = .ok (.iload_n 3, 1) := dk_29 (dk_at dksX1_become_0 4 rfl rfl)
theorem dX1_become_5 : decode cX1_become 5 = .ok (.aload_n 1, 1) := dk_43 (dk_at dksX1_become_0 5 rfl rfl)
theorem dX1_become_6 : decode cX1_become 6 = .ok (.arraylength, 1) := dk_190 (dk_at dksX1_become_0 6 rfl rfl)
theorem dX1_become_7 : decode cX1_become 7 = .ok (.if_icmp .ge 49, 3) := dk_162 0 49 (dk_at dksX1_become_0 7 rfl rfl)
theorem dX1_become_10 : decode cX1_become 10 = .ok (.aload_n 0, 1) := dk_42 (dk_at dksX1_become_0 10 rfl rfl)
theorem dX1_become_11 : decode cX1_become 11 = .ok (.getfield 34, 3) := dk_180 0 34 (dk_at dksX1_become_0 11 rfl rfl)
theorem dX1_become_14 : decode cX1_become 14 = .ok (.iload_n 3, 1) := dk_29 (dk_at dksX1_become_0 14 rfl rfl)
theorem dX1_become_15 : decode cX1_become 15 = .ok (.invokevirtual 64, 3) := dk_182 0 64 (dk_at dksX1_become_0 15 rfl rfl)
theorem dX1_become_18 : decode cX1_become 18 = .ok (.checkcast 68, 3) := dk_192 0 68 (dk_at dksX1_become_0 18 rfl rfl)
theorem dX1_become_21 : decode cX1_become 21 = .ok (.getfield 169, 3) := dk_180 0 169 (dk_at dksX1_become_0 21 rfl rfl)
theorem dX1_become_24 : decode cX1_become 24 = .ok (.aload_n 1, 1) := dk_43 (dk_at dksX1_become_1 0 rfl rfl)
theorem dX1_become_25 : decode cX1_become 25 = .ok (.iload_n 3, 1) := dk_29 (dk_at dksX1_become_1 1 rfl rfl)
theorem dX1_become_26 : decode cX1_become 26 = .ok (.iaload, 1) := dk_46 (dk_at dksX1_become_1 2 rfl rfl)
theorem dX1_become_27 : decode cX1_become 27 = .ok (.if_icmp .eq 6, 3) := dk_159 0 6 (dk_at dksX1_become_1 3 rfl rfl)
theorem dX1_become_30 : decode cX1_become 30 = .ok (.iinc 2 1, 3) := dk_132 2 1 (dk_at dksX1_become_1 6 rfl rfl)
theorem dX1_become_33 : decode cX1_become 33 = .ok (.aload_n 0, 1) := dk_42 (dk_at dksX1_become_1 9 rfl rfl)
theorem dX1_become_34 : decode cX1_become 34 = .ok (.getfield 34, 3) := dk_180 0 34 (dk_at dksX1_become_1 10 rfl rfl)
theorem dX1_become_37 : decode cX1_become 37 = .ok (.iload_n 3, 1) := dk_29 (dk_at dksX1_become_1 13 rfl rfl)
theorem dX1_become_38 : decode cX1_become 38 = .ok (.invokevirtual 64, 3) := dk_182 0 64 (dk_at dksX1_become_1 14 rfl rfl)
theorem dX1_become_41 : decode cX1_become 41 = .ok (.checkcast 68, 3) := dk_192 0 68 (dk_at dksX1_become_1 17 rfl rfl)
theorem dX1_become_44 : decode cX1_become 44 = .ok (.aload_n 1, 1) := dk_43 (dk_at dksX1_become_1 20 rfl rfl)
theorem dX1_become_45 : decode cX1_become 45 = .ok (.iload_n 3, 1) := dk_29 (dk_at dksX1_become_1 21 rfl rfl)
theorem dX1_become_46 : decode cX1_become 46 = .ok (.iaload, 1) := dk_46 (dk_at dksX1_become_1 22 rfl rfl)
theorem dX1_become_47 : decode cX1_become 47 = .ok (.putfield 169, 3) := dk_181 0 169 (dk_at dksX1_become_2 0 rfl rfl)
theorem dX1_become_50 : decode cX1_become 50 = .ok (.iinc 3 1, 3) := dk_132 3 1 (dk_at dksX1_become_2 3 rfl rfl)
theorem dX1_become_53 : decode cX1_become 53 = .ok (.goto (-49), 3) := dk_167 255 207 (dk_at dksX1_become_2 6 rfl rfl)
theorem dX1_become_56 : decode cX1_become 56 = .ok (.iload_n 2, 1) := dk_28 (dk_at dksX1_become_2 9 rfl rfl)
theorem dX1_become_57 : decode cX1_become 57 = .ok (.ireturn, 1) := dk_172 (dk_at dksX1_become_2 10 rfl rfl)
abbrev cX1_meanMark : ByteArray := prog_1_method_38_code
def yX1_meanMark : MethodName := ⟨RX1, "meanMark", "()D"⟩
def dkwX1_meanMark_2 : List UInt8 := [132, 5, 1, 167, 255, 223, 28, 154, 0, 7, 14, 167, 0, 8, 27, 135, 28, 135, 111, 175]
abbrev dktX1_meanMark_2 : List UInt8 := dkwX1_meanMark_2 ++ []
def dkwX1_meanMark_1 : List UInt8 := [21, 5, 46, 54, 6, 21, 6, 2, 160, 0, 6, 167, 0, 11, 27, 21, 6, 96, 60, 132, 2, 1]
abbrev dktX1_meanMark_1 : List UInt8 := dkwX1_meanMark_1 ++ dktX1_meanMark_2
def dkwX1_meanMark_0 : List UInt8 := [3, 60, 3, 61, 42, 182, 0, 175, 78, 45, 190, 54, 4, 3, 54, 5, 21, 5, 21, 4, 162, 0, 32, 45]
abbrev dktX1_meanMark_0 : List UInt8 := dkwX1_meanMark_0 ++ dktX1_meanMark_1
theorem dksX1_meanMark_0 : cX1_meanMark.data.toList.drop 0 = dktX1_meanMark_0 := by decide +kernel
theorem dksX1_meanMark_1 : cX1_meanMark.data.toList.drop 24 = dktX1_meanMark_1 := dk_seg dksX1_meanMark_0 24 rfl rfl
theorem dksX1_meanMark_2 : cX1_meanMark.data.toList.drop 46 = dktX1_meanMark_2 := dk_seg dksX1_meanMark_1 22 rfl rfl
theorem dX1_meanMark_0 : decode cX1_meanMark 0 = .ok (.iconst 0, 1) := dk_3 (dk_at dksX1_meanMark_0 0 rfl rfl)
theorem dX1_meanMark_1 : decode cX1_meanMark 1 = .ok (.istore_n 1, 1) := dk_60 (dk_at dksX1_meanMark_0 1 rfl rfl)
theorem dX1_meanMark_2 : decode cX1_meanMark 2 = .ok (.iconst 0, 1) := dk_3 (dk_at dksX1_meanMark_0 2 rfl rfl)
theorem dX1_meanMark_3 : decode cX1_meanMark 3 = .ok (.istore_n 2, 1) := dk_61 (dk_at dksX1_meanMark_0 3 rfl rfl)
theorem dX1_meanMark_4 : decode cX1_meanMark 4 = .ok (.aload_n 0, 1) := dk_42 (dk_at dksX1_meanMark_0 4 rfl rfl)
theorem dX1_meanMark_5 : decode cX1_meanMark 5 = .ok (.invokevirtual 175, 3) := dk_182 0 175 (dk_at dksX1_meanMark_0 5 rfl rfl)
theorem dX1_meanMark_8 : decode cX1_meanMark 8 = .ok (.astore_n 3, 1) := dk_78 (dk_at dksX1_meanMark_0 8 rfl rfl)
theorem dX1_meanMark_9 : decode cX1_meanMark 9 = .ok (.aload_n 3, 1) := dk_45 (dk_at dksX1_meanMark_0 9 rfl rfl)
theorem dX1_meanMark_10 : decode cX1_meanMark 10 = .ok (.arraylength, 1) := dk_190 (dk_at dksX1_meanMark_0 10 rfl rfl)
theorem dX1_meanMark_11 : decode cX1_meanMark 11 = .ok (.istore 4, 2) := dk_54 4 (dk_at dksX1_meanMark_0 11 rfl rfl)
theorem dX1_meanMark_13 : decode cX1_meanMark 13 = .ok (.iconst 0, 1) := dk_3 (dk_at dksX1_meanMark_0 13 rfl rfl)
theorem dX1_meanMark_14 : decode cX1_meanMark 14 = .ok (.istore 5, 2) := dk_54 5 (dk_at dksX1_meanMark_0 14 rfl rfl)
theorem dX1_meanMark_16 : decode cX1_meanMark 16 = .ok (.iload 5, 2) := dk_21 5 (dk_at dksX1_meanMark_0 16 rfl rfl)
theorem dX1_meanMark_18 : decode cX1_meanMark 18 = .ok (.iload 4, 2) := dk_21 4 (dk_at dksX1_meanMark_0 18 rfl rfl)
theorem dX1_meanMark_20 : decode cX1_meanMark 20 = .ok (.if_icmp .ge 32, 3) := dk_162 0 32 (dk_at dksX1_meanMark_0 20 rfl rfl)
theorem dX1_meanMark_23 : decode cX1_meanMark 23 = .ok (.aload_n 3, 1) := dk_45 (dk_at dksX1_meanMark_0 23 rfl rfl)
theorem dX1_meanMark_24 : decode cX1_meanMark 24 = .ok (.iload 5, 2) := dk_21 5 (dk_at dksX1_meanMark_1 0 rfl rfl)
theorem dX1_meanMark_26 : decode cX1_meanMark 26 = .ok (.iaload, 1) := dk_46 (dk_at dksX1_meanMark_1 2 rfl rfl)
theorem dX1_meanMark_27 : decode cX1_meanMark 27 = .ok (.istore 6, 2) := dk_54 6 (dk_at dksX1_meanMark_1 3 rfl rfl)
theorem dX1_meanMark_29 : decode cX1_meanMark 29 = .ok (.iload 6, 2) := dk_21 6 (dk_at dksX1_meanMark_1 5 rfl rfl)
theorem dX1_meanMark_31 : decode cX1_meanMark 31 = .ok (.iconst (-1), 1) := dk_2 (dk_at dksX1_meanMark_1 7 rfl rfl)
theorem dX1_meanMark_32 : decode cX1_meanMark 32 = .ok (.if_icmp .ne 6, 3) := dk_160 0 6 (dk_at dksX1_meanMark_1 8 rfl rfl)
theorem dX1_meanMark_35 : decode cX1_meanMark 35 = .ok (.goto 11, 3) := dk_167 0 11 (dk_at dksX1_meanMark_1 11 rfl rfl)
theorem dX1_meanMark_38 : decode cX1_meanMark 38 = .ok (.iload_n 1, 1) := dk_27 (dk_at dksX1_meanMark_1 14 rfl rfl)
theorem dX1_meanMark_39 : decode cX1_meanMark 39 = .ok (.iload 6, 2) := dk_21 6 (dk_at dksX1_meanMark_1 15 rfl rfl)
theorem dX1_meanMark_41 : decode cX1_meanMark 41 = .ok (.iadd, 1) := dk_96 (dk_at dksX1_meanMark_1 17 rfl rfl)
theorem dX1_meanMark_42 : decode cX1_meanMark 42 = .ok (.istore_n 1, 1) := dk_60 (dk_at dksX1_meanMark_1 18 rfl rfl)
theorem dX1_meanMark_43 : decode cX1_meanMark 43 = .ok (.iinc 2 1, 3) := dk_132 2 1 (dk_at dksX1_meanMark_1 19 rfl rfl)
theorem dX1_meanMark_46 : decode cX1_meanMark 46 = .ok (.iinc 5 1, 3) := dk_132 5 1 (dk_at dksX1_meanMark_2 0 rfl rfl)
theorem dX1_meanMark_49 : decode cX1_meanMark 49 = .ok (.goto (-33), 3) := dk_167 255 223 (dk_at dksX1_meanMark_2 3 rfl rfl)
theorem dX1_meanMark_52 : decode cX1_meanMark 52 = .ok (.iload_n 2, 1) := dk_28 (dk_at dksX1_meanMark_2 6 rfl rfl)
theorem dX1_meanMark_53 : decode cX1_meanMark 53 = .ok (.ifCond .ne 7, 3) := dk_154 0 7 (dk_at dksX1_meanMark_2 7 rfl rfl)
theorem dX1_meanMark_56 : decode cX1_meanMark 56 = .ok (.dconst 0, 1) := dk_14 (dk_at dksX1_meanMark_2 10 rfl rfl)
theorem dX1_meanMark_57 : decode cX1_meanMark 57 = .ok (.goto 8, 3) := dk_167 0 8 (dk_at dksX1_meanMark_2 11 rfl rfl)
theorem dX1_meanMark_60 : decode cX1_meanMark 60 = .ok (.iload_n 1, 1) := dk_27 (dk_at dksX1_meanMark_2 14 rfl rfl)
theorem dX1_meanMark_61 : decode cX1_meanMark 61 = .ok (.i2d, 1) := dk_135 (dk_at dksX1_meanMark_2 15 rfl rfl)
theorem dX1_meanMark_62 : decode cX1_meanMark 62 = .ok (.iload_n 2, 1) := dk_28 (dk_at dksX1_meanMark_2 16 rfl rfl)
theorem dX1_meanMark_63 : decode cX1_meanMark 63 = .ok (.i2d, 1) := dk_135 (dk_at dksX1_meanMark_2 17 rfl rfl)
theorem dX1_meanMark_64 : decode cX1_meanMark 64 = .ok (.ddiv, 1) := dk_111 (dk_at dksX1_meanMark_2 18 rfl rfl)
theorem dX1_meanMark_65 : decode cX1_meanMark 65 = .ok (.dreturn, 1) := dk_175 (dk_at dksX1_meanMark_2 19 rfl rfl)
abbrev cX1_marks : ByteArray := prog_1_method_25_code
def yX1_marks : MethodName := ⟨RX1, "marks", "()[I"⟩
def dkwX1_marks_2 : List UInt8 := [182, 0, 64, 192, 0, 68, 180, 0, 74, 182, 0, 172, 79, 132, 2, 1, 167, 255, 206, 43, 176]
abbrev dktX1_marks_2 : List UInt8 := dkwX1_marks_2 ++ []
def dkwX1_marks_1 : List UInt8 := [28, 182, 0, 64, 192, 0, 68, 180, 0, 74, 199, 0, 7, 2, 167, 0, 20, 42, 180, 0, 34, 28]
abbrev dktX1_marks_1 : List UInt8 := dkwX1_marks_1 ++ dktX1_marks_2
def dkwX1_marks_0 : List UInt8 := [42, 180, 0, 34, 182, 0, 57, 188, 10, 76, 3, 61, 28, 43, 190, 162, 0, 50, 43, 28, 42, 180, 0, 34]
abbrev dktX1_marks_0 : List UInt8 := dkwX1_marks_0 ++ dktX1_marks_1
theorem dksX1_marks_0 : cX1_marks.data.toList.drop 0 = dktX1_marks_0 := by decide +kernel
theorem dksX1_marks_1 : cX1_marks.data.toList.drop 24 = dktX1_marks_1 := dk_seg dksX1_marks_0 24 rfl rfl
theorem dksX1_marks_2 : cX1_marks.data.toList.drop 46 = dktX1_marks_2 := dk_seg dksX1_marks_1 22 rfl rfl
theorem dX1_marks_0 : decode cX1_marks 0 = .ok (.aload_n 0, 1) := dk_42 (dk_at dksX1_marks_0 0 rfl rfl)
theorem dX1_marks_1 : decode cX1_marks 1 = .ok (.getfield 34, 3) := dk_180 0 34 (dk_at dksX1_marks_0 1 rfl rfl)
theorem dX1_marks_4 : decode cX1_marks 4 = .ok (.invokevirtual 57, 3) := dk_182 0 57 (dk_at dksX1_marks_0 4 rfl rfl)
theorem dX1_marks_7 : decode cX1_marks 7 = .ok (.newarray .int, 2) := dk_188_10 (dk_at dksX1_marks_0 7 rfl rfl)
theorem dX1_marks_9 : decode cX1_marks 9 = .ok (.astore_n 1, 1) := dk_76 (dk_at dksX1_marks_0 9 rfl rfl)
theorem dX1_marks_10 : decode cX1_marks 10 = .ok (.iconst 0, 1) := dk_3 (dk_at dksX1_marks_0 10 rfl rfl)
theorem dX1_marks_11 : decode cX1_marks 11 = .ok (.istore_n 2, 1) := dk_61 (dk_at dksX1_marks_0 11 rfl rfl)
theorem dX1_marks_12 : decode cX1_marks 12 = .ok (.iload_n 2, 1) := dk_28 (dk_at dksX1_marks_0 12 rfl rfl)
theorem dX1_marks_13 : decode cX1_marks 13 = .ok (.aload_n 1, 1) := dk_43 (dk_at dksX1_marks_0 13 rfl rfl)
theorem dX1_marks_14 : decode cX1_marks 14 = .ok (.arraylength, 1) := dk_190 (dk_at dksX1_marks_0 14 rfl rfl)
theorem dX1_marks_15 : decode cX1_marks 15 = .ok (.if_icmp .ge 50, 3) := dk_162 0 50 (dk_at dksX1_marks_0 15 rfl rfl)
theorem dX1_marks_18 : decode cX1_marks 18 = .ok (.aload_n 1, 1) := dk_43 (dk_at dksX1_marks_0 18 rfl rfl)
theorem dX1_marks_19 : decode cX1_marks 19 = .ok (.iload_n 2, 1) := dk_28 (dk_at dksX1_marks_0 19 rfl rfl)
theorem dX1_marks_20 : decode cX1_marks 20 = .ok (.aload_n 0, 1) := dk_42 (dk_at dksX1_marks_0 20 rfl rfl)
theorem dX1_marks_21 : decode cX1_marks 21 = .ok (.getfield 34, 3) := dk_180 0 34 (dk_at dksX1_marks_0 21 rfl rfl)
theorem dX1_marks_24 : decode cX1_marks 24 = .ok (.iload_n 2, 1) := dk_28 (dk_at dksX1_marks_1 0 rfl rfl)
theorem dX1_marks_25 : decode cX1_marks 25 = .ok (.invokevirtual 64, 3) := dk_182 0 64 (dk_at dksX1_marks_1 1 rfl rfl)
theorem dX1_marks_28 : decode cX1_marks 28 = .ok (.checkcast 68, 3) := dk_192 0 68 (dk_at dksX1_marks_1 4 rfl rfl)
theorem dX1_marks_31 : decode cX1_marks 31 = .ok (.getfield 74, 3) := dk_180 0 74 (dk_at dksX1_marks_1 7 rfl rfl)
theorem dX1_marks_34 : decode cX1_marks 34 = .ok (.ifnonnull 7, 3) := dk_199 0 7 (dk_at dksX1_marks_1 10 rfl rfl)
theorem dX1_marks_37 : decode cX1_marks 37 = .ok (.iconst (-1), 1) := dk_2 (dk_at dksX1_marks_1 13 rfl rfl)
theorem dX1_marks_38 : decode cX1_marks 38 = .ok (.goto 20, 3) := dk_167 0 20 (dk_at dksX1_marks_1 14 rfl rfl)
theorem dX1_marks_41 : decode cX1_marks 41 = .ok (.aload_n 0, 1) := dk_42 (dk_at dksX1_marks_1 17 rfl rfl)
theorem dX1_marks_42 : decode cX1_marks 42 = .ok (.getfield 34, 3) := dk_180 0 34 (dk_at dksX1_marks_1 18 rfl rfl)
theorem dX1_marks_45 : decode cX1_marks 45 = .ok (.iload_n 2, 1) := dk_28 (dk_at dksX1_marks_1 21 rfl rfl)
theorem dX1_marks_46 : decode cX1_marks 46 = .ok (.invokevirtual 64, 3) := dk_182 0 64 (dk_at dksX1_marks_2 0 rfl rfl)
theorem dX1_marks_49 : decode cX1_marks 49 = .ok (.checkcast 68, 3) := dk_192 0 68 (dk_at dksX1_marks_2 3 rfl rfl)
theorem dX1_marks_52 : decode cX1_marks 52 = .ok (.getfield 74, 3) := dk_180 0 74 (dk_at dksX1_marks_2 6 rfl rfl)
theorem dX1_marks_55 : decode cX1_marks 55 = .ok (.invokevirtual 172, 3) := dk_182 0 172 (dk_at dksX1_marks_2 9 rfl rfl)
theorem dX1_marks_58 : decode cX1_marks 58 = .ok (.iastore, 1) := dk_79 (dk_at dksX1_marks_2 12 rfl rfl)
theorem dX1_marks_59 : decode cX1_marks 59 = .ok (.iinc 2 1, 3) := dk_132 2 1 (dk_at dksX1_marks_2 13 rfl rfl)
theorem dX1_marks_62 : decode cX1_marks 62 = .ok (.goto (-50), 3) := dk_167 255 206 (dk_at dksX1_marks_2 16 rfl rfl)
theorem dX1_marks_65 : decode cX1_marks 65 = .ok (.aload_n 1, 1) := dk_43 (dk_at dksX1_marks_2 19 rfl rfl)
theorem dX1_marks_66 : decode cX1_marks 66 = .ok (.areturn, 1) := dk_176 (dk_at dksX1_marks_2 20 rfl rfl)
abbrev cX1_lateShare : ByteArray := prog_1_method_39_code
def yX1_lateShare : MethodName := ⟨RX1, "lateShare", "()F"⟩
def dkwX1_lateShare_5 : List UInt8 := [154, 0, 7, 11, 167, 0, 8, 27, 134, 28, 134, 110, 174]
abbrev dktX1_lateShare_5 : List UInt8 := dkwX1_lateShare_5 ++ []
def dkwX1_lateShare_4 : List UInt8 := [132, 1, 1, 167, 255, 223, 28, 25, 4, 180, 0, 74, 180, 0, 189, 182, 0, 214, 96, 61, 167, 255, 157, 28]
abbrev dktX1_lateShare_4 : List UInt8 := dkwX1_lateShare_4 ++ dktX1_lateShare_5
def dkwX1_lateShare_3 : List UInt8 := [153, 0, 29, 25, 5, 185, 0, 110, 1, 0, 192, 0, 202, 58, 6, 25, 6, 182, 0, 244, 153, 0, 6]
abbrev dktX1_lateShare_3 : List UInt8 := dkwX1_lateShare_3 ++ dktX1_lateShare_4
def dkwX1_lateShare_2 : List UInt8 := [180, 0, 74, 180, 0, 189, 182, 0, 237, 185, 0, 241, 1, 0, 58, 5, 25, 5, 185, 0, 104, 1, 0]
abbrev dktX1_lateShare_2 : List UInt8 := dkwX1_lateShare_2 ++ dktX1_lateShare_3
def dkwX1_lateShare_1 : List UInt8 := [185, 0, 110, 1, 0, 192, 0, 68, 58, 4, 25, 4, 180, 0, 74, 199, 0, 6, 167, 255, 228, 25, 4]
abbrev dktX1_lateShare_1 : List UInt8 := dkwX1_lateShare_1 ++ dktX1_lateShare_2
def dkwX1_lateShare_0 : List UInt8 := [3, 60, 3, 61, 42, 180, 0, 34, 182, 0, 100, 78, 45, 185, 0, 104, 1, 0, 153, 0, 96, 45]
abbrev dktX1_lateShare_0 : List UInt8 := dkwX1_lateShare_0 ++ dktX1_lateShare_1
theorem dksX1_lateShare_0 : cX1_lateShare.data.toList.drop 0 = dktX1_lateShare_0 := by decide +kernel
theorem dksX1_lateShare_1 : cX1_lateShare.data.toList.drop 22 = dktX1_lateShare_1 := dk_seg dksX1_lateShare_0 22 rfl rfl
theorem dksX1_lateShare_2 : cX1_lateShare.data.toList.drop 45 = dktX1_lateShare_2 := dk_seg dksX1_lateShare_1 23 rfl rfl
theorem dksX1_lateShare_3 : cX1_lateShare.data.toList.drop 68 = dktX1_lateShare_3 := dk_seg dksX1_lateShare_2 23 rfl rfl
theorem dksX1_lateShare_4 : cX1_lateShare.data.toList.drop 91 = dktX1_lateShare_4 := dk_seg dksX1_lateShare_3 23 rfl rfl
theorem dksX1_lateShare_5 : cX1_lateShare.data.toList.drop 115 = dktX1_lateShare_5 := dk_seg dksX1_lateShare_4 24 rfl rfl
theorem dX1_lateShare_0 : decode cX1_lateShare 0 = .ok (.iconst 0, 1) := dk_3 (dk_at dksX1_lateShare_0 0 rfl rfl)
theorem dX1_lateShare_1 : decode cX1_lateShare 1 = .ok (.istore_n 1, 1) := dk_60 (dk_at dksX1_lateShare_0 1 rfl rfl)
theorem dX1_lateShare_2 : decode cX1_lateShare 2 = .ok (.iconst 0, 1) := dk_3 (dk_at dksX1_lateShare_0 2 rfl rfl)
theorem dX1_lateShare_3 : decode cX1_lateShare 3 = .ok (.istore_n 2, 1) := dk_61 (dk_at dksX1_lateShare_0 3 rfl rfl)
theorem dX1_lateShare_4 : decode cX1_lateShare 4 = .ok (.aload_n 0, 1) := dk_42 (dk_at dksX1_lateShare_0 4 rfl rfl)
theorem dX1_lateShare_5 : decode cX1_lateShare 5 = .ok (.getfield 34, 3) := dk_180 0 34 (dk_at dksX1_lateShare_0 5 rfl rfl)
theorem dX1_lateShare_8 : decode cX1_lateShare 8 = .ok (.invokevirtual 100, 3) := dk_182 0 100 (dk_at dksX1_lateShare_0 8 rfl rfl)
theorem dX1_lateShare_11 : decode cX1_lateShare 11 = .ok (.astore_n 3, 1) := dk_78 (dk_at dksX1_lateShare_0 11 rfl rfl)
theorem dX1_lateShare_12 : decode cX1_lateShare 12 = .ok (.aload_n 3, 1) := dk_45 (dk_at dksX1_lateShare_0 12 rfl rfl)
theorem dX1_lateShare_13 : decode cX1_lateShare 13 = .ok (.invokeinterface 104 1, 5) := by decide +kernel
theorem dX1_lateShare_18 : decode cX1_lateShare 18 = .ok (.ifCond .eq 96, 3) := dk_153 0 96 (dk_at dksX1_lateShare_0 18 rfl rfl)
theorem dX1_lateShare_21 : decode cX1_lateShare 21 = .ok (.aload_n 3, 1) := dk_45 (dk_at dksX1_lateShare_0 21 rfl rfl)
theorem dX1_lateShare_22 : decode cX1_lateShare 22 = .ok (.invokeinterface 110 1, 5) := by decide +kernel
theorem dX1_lateShare_27 : decode cX1_lateShare 27 = .ok (.checkcast 68, 3) := dk_192 0 68 (dk_at dksX1_lateShare_1 5 rfl rfl)
theorem dX1_lateShare_30 : decode cX1_lateShare 30 = .ok (.astore 4, 2) := dk_58 4 (dk_at dksX1_lateShare_1 8 rfl rfl)
theorem dX1_lateShare_32 : decode cX1_lateShare 32 = .ok (.aload 4, 2) := dk_25 4 (dk_at dksX1_lateShare_1 10 rfl rfl)
theorem dX1_lateShare_34 : decode cX1_lateShare 34 = .ok (.getfield 74, 3) := dk_180 0 74 (dk_at dksX1_lateShare_1 12 rfl rfl)
theorem dX1_lateShare_37 : decode cX1_lateShare 37 = .ok (.ifnonnull 6, 3) := dk_199 0 6 (dk_at dksX1_lateShare_1 15 rfl rfl)
theorem dX1_lateShare_40 : decode cX1_lateShare 40 = .ok (.goto (-28), 3) := dk_167 255 228 (dk_at dksX1_lateShare_1 18 rfl rfl)
theorem dX1_lateShare_43 : decode cX1_lateShare 43 = .ok (.aload 4, 2) := dk_25 4 (dk_at dksX1_lateShare_1 21 rfl rfl)
theorem dX1_lateShare_45 : decode cX1_lateShare 45 = .ok (.getfield 74, 3) := dk_180 0 74 (dk_at dksX1_lateShare_2 0 rfl rfl)
theorem dX1_lateShare_48 : decode cX1_lateShare 48 = .ok (.getfield 189, 3) := dk_180 0 189 (dk_at dksX1_lateShare_2 3 rfl rfl)
theorem dX1_lateShare_51 : decode cX1_lateShare 51 = .ok (.invokevirtual 237, 3) := dk_182 0 237 (dk_at dksX1_lateShare_2 6 rfl rfl)
theorem dX1_lateShare_54 : decode cX1_lateShare 54 = .ok (.invokeinterface 241 1, 5) := by decide +kernel
theorem dX1_lateShare_59 : decode cX1_lateShare 59 = .ok (.astore 5, 2) := dk_58 5 (dk_at dksX1_lateShare_2 14 rfl rfl)
theorem dX1_lateShare_61 : decode cX1_lateShare 61 = .ok (.aload 5, 2) := dk_25 5 (dk_at dksX1_lateShare_2 16 rfl rfl)
theorem dX1_lateShare_63 : decode cX1_lateShare 63 = .ok (.invokeinterface 104 1, 5) := by decide +kernel
theorem dX1_lateShare_68 : decode cX1_lateShare 68 = .ok (.ifCond .eq 29, 3) := dk_153 0 29 (dk_at dksX1_lateShare_3 0 rfl rfl)
theorem dX1_lateShare_71 : decode cX1_lateShare 71 = .ok (.aload 5, 2) := dk_25 5 (dk_at dksX1_lateShare_3 3 rfl rfl)
theorem dX1_lateShare_73 : decode cX1_lateShare 73 = .ok (.invokeinterface 110 1, 5) := by decide +kernel
theorem dX1_lateShare_78 : decode cX1_lateShare 78 = .ok (.checkcast 202, 3) := dk_192 0 202 (dk_at dksX1_lateShare_3 10 rfl rfl)
theorem dX1_lateShare_81 : decode cX1_lateShare 81 = .ok (.astore 6, 2) := dk_58 6 (dk_at dksX1_lateShare_3 13 rfl rfl)
theorem dX1_lateShare_83 : decode cX1_lateShare 83 = .ok (.aload 6, 2) := dk_25 6 (dk_at dksX1_lateShare_3 15 rfl rfl)
theorem dX1_lateShare_85 : decode cX1_lateShare 85 = .ok (.invokevirtual 244, 3) := dk_182 0 244 (dk_at dksX1_lateShare_3 17 rfl rfl)
theorem dX1_lateShare_88 : decode cX1_lateShare 88 = .ok (.ifCond .eq 6, 3) := dk_153 0 6 (dk_at dksX1_lateShare_3 20 rfl rfl)
theorem dX1_lateShare_91 : decode cX1_lateShare 91 = .ok (.iinc 1 1, 3) := dk_132 1 1 (dk_at dksX1_lateShare_4 0 rfl rfl)
theorem dX1_lateShare_94 : decode cX1_lateShare 94 = .ok (.goto (-33), 3) := dk_167 255 223 (dk_at dksX1_lateShare_4 3 rfl rfl)
theorem dX1_lateShare_97 : decode cX1_lateShare 97 = .ok (.iload_n 2, 1) := dk_28 (dk_at dksX1_lateShare_4 6 rfl rfl)
theorem dX1_lateShare_98 : decode cX1_lateShare 98 = .ok (.aload 4, 2) := dk_25 4 (dk_at dksX1_lateShare_4 7 rfl rfl)
theorem dX1_lateShare_100 : decode cX1_lateShare 100 = .ok (.getfield 74, 3) := dk_180 0 74 (dk_at dksX1_lateShare_4 9 rfl rfl)
theorem dX1_lateShare_103 : decode cX1_lateShare 103 = .ok (.getfield 189, 3) := dk_180 0 189 (dk_at dksX1_lateShare_4 12 rfl rfl)
theorem dX1_lateShare_106 : decode cX1_lateShare 106 = .ok (.invokevirtual 214, 3) := dk_182 0 214 (dk_at dksX1_lateShare_4 15 rfl rfl)
theorem dX1_lateShare_109 : decode cX1_lateShare 109 = .ok (.iadd, 1) := dk_96 (dk_at dksX1_lateShare_4 18 rfl rfl)
theorem dX1_lateShare_110 : decode cX1_lateShare 110 = .ok (.istore_n 2, 1) := dk_61 (dk_at dksX1_lateShare_4 19 rfl rfl)
theorem dX1_lateShare_111 : decode cX1_lateShare 111 = .ok (.goto (-99), 3) := dk_167 255 157 (dk_at dksX1_lateShare_4 20 rfl rfl)
theorem dX1_lateShare_114 : decode cX1_lateShare 114 = .ok (.iload_n 2, 1) := dk_28 (dk_at dksX1_lateShare_4 23 rfl rfl)
theorem dX1_lateShare_115 : decode cX1_lateShare 115 = .ok (.ifCond .ne 7, 3) := dk_154 0 7 (dk_at dksX1_lateShare_5 0 rfl rfl)
theorem dX1_lateShare_118 : decode cX1_lateShare 118 = .ok (.fconst 0, 1) := dk_11 (dk_at dksX1_lateShare_5 3 rfl rfl)
theorem dX1_lateShare_119 : decode cX1_lateShare 119 = .ok (.goto 8, 3) := dk_167 0 8 (dk_at dksX1_lateShare_5 4 rfl rfl)
theorem dX1_lateShare_122 : decode cX1_lateShare 122 = .ok (.iload_n 1, 1) := dk_27 (dk_at dksX1_lateShare_5 7 rfl rfl)
theorem dX1_lateShare_123 : decode cX1_lateShare 123 = .ok (.i2f, 1) := dk_134 (dk_at dksX1_lateShare_5 8 rfl rfl)
theorem dX1_lateShare_124 : decode cX1_lateShare 124 = .ok (.iload_n 2, 1) := dk_28 (dk_at dksX1_lateShare_5 9 rfl rfl)
theorem dX1_lateShare_125 : decode cX1_lateShare 125 = .ok (.i2f, 1) := dk_134 (dk_at dksX1_lateShare_5 10 rfl rfl)
theorem dX1_lateShare_126 : decode cX1_lateShare 126 = .ok (.fdiv, 1) := dk_110 (dk_at dksX1_lateShare_5 11 rfl rfl)
theorem dX1_lateShare_127 : decode cX1_lateShare 127 = .ok (.freturn, 1) := dk_174 (dk_at dksX1_lateShare_5 12 rfl rfl)
abbrev cX1_addPerson : ByteArray := prog_1_method_10_code
def yX1_addPerson : MethodName := ⟨RX1, "addPerson", "(I)I"⟩
def dkwX1_addPerson_2 : List UInt8 := [183, 0, 85, 182, 0, 88, 87, 42, 180, 0, 34, 182, 0, 57, 4, 100, 172]
abbrev dktX1_addPerson_2 : List UInt8 := dkwX1_addPerson_2 ++ []
def dkwX1_addPerson_1 : List UInt8 := [167, 0, 4, 3, 184, 0, 82, 42, 180, 0, 34, 187, 0, 68, 89, 42, 42, 180, 0, 34, 182, 0, 57, 27]
abbrev dktX1_addPerson_1 : List UInt8 := dkwX1_addPerson_1 ++ dktX1_addPerson_2
def dkwX1_addPerson_0 : List UInt8 := [27, 3, 8, 184, 0, 1, 184, 0, 78, 42, 180, 0, 34, 182, 0, 57, 16, 16, 162, 0, 7, 4]
abbrev dktX1_addPerson_0 : List UInt8 := dkwX1_addPerson_0 ++ dktX1_addPerson_1
theorem dksX1_addPerson_0 : cX1_addPerson.data.toList.drop 0 = dktX1_addPerson_0 := by decide +kernel
theorem dksX1_addPerson_1 : cX1_addPerson.data.toList.drop 22 = dktX1_addPerson_1 := dk_seg dksX1_addPerson_0 22 rfl rfl
theorem dksX1_addPerson_2 : cX1_addPerson.data.toList.drop 46 = dktX1_addPerson_2 := dk_seg dksX1_addPerson_1 24 rfl rfl
theorem dX1_addPerson_0 : decode cX1_addPerson 0 = .ok (.iload_n 1, 1) := dk_27 (dk_at dksX1_addPerson_0 0 rfl rfl)
theorem dX1_addPerson_1 : decode cX1_addPerson 1 = .ok (.iconst 0, 1) := dk_3 (dk_at dksX1_addPerson_0 1 rfl rfl)
theorem dX1_addPerson_2 : decode cX1_addPerson 2 = .ok (.iconst 5, 1) := dk_8 (dk_at dksX1_addPerson_0 2 rfl rfl)
theorem dX1_addPerson_3 : decode cX1_addPerson 3 = .ok (.invokestatic 1, 3) := dk_184 0 1 (dk_at dksX1_addPerson_0 3 rfl rfl)
theorem dX1_addPerson_6 : decode cX1_addPerson 6 = .ok (.invokestatic 78, 3) := dk_184 0 78 (dk_at dksX1_addPerson_0 6 rfl rfl)
theorem dX1_addPerson_9 : decode cX1_addPerson 9 = .ok (.aload_n 0, 1) := dk_42 (dk_at dksX1_addPerson_0 9 rfl rfl)
theorem dX1_addPerson_10 : decode cX1_addPerson 10 = .ok (.getfield 34, 3) := dk_180 0 34 (dk_at dksX1_addPerson_0 10 rfl rfl)
theorem dX1_addPerson_13 : decode cX1_addPerson 13 = .ok (.invokevirtual 57, 3) := dk_182 0 57 (dk_at dksX1_addPerson_0 13 rfl rfl)
theorem dX1_addPerson_16 : decode cX1_addPerson 16 = .ok (.bipush 16, 2) := dk_16 16 (dk_at dksX1_addPerson_0 16 rfl rfl)
theorem dX1_addPerson_18 : decode cX1_addPerson 18 = .ok (.if_icmp .ge 7, 3) := dk_162 0 7 (dk_at dksX1_addPerson_0 18 rfl rfl)
theorem dX1_addPerson_21 : decode cX1_addPerson 21 = .ok (.iconst 1, 1) := dk_4 (dk_at dksX1_addPerson_0 21 rfl rfl)
theorem dX1_addPerson_22 : decode cX1_addPerson 22 = .ok (.goto 4, 3) := dk_167 0 4 (dk_at dksX1_addPerson_1 0 rfl rfl)
theorem dX1_addPerson_25 : decode cX1_addPerson 25 = .ok (.iconst 0, 1) := dk_3 (dk_at dksX1_addPerson_1 3 rfl rfl)
theorem dX1_addPerson_26 : decode cX1_addPerson 26 = .ok (.invokestatic 82, 3) := dk_184 0 82 (dk_at dksX1_addPerson_1 4 rfl rfl)
theorem dX1_addPerson_29 : decode cX1_addPerson 29 = .ok (.aload_n 0, 1) := dk_42 (dk_at dksX1_addPerson_1 7 rfl rfl)
theorem dX1_addPerson_30 : decode cX1_addPerson 30 = .ok (.getfield 34, 3) := dk_180 0 34 (dk_at dksX1_addPerson_1 8 rfl rfl)
theorem dX1_addPerson_33 : decode cX1_addPerson 33 = .ok (.new 68, 3) := dk_187 0 68 (dk_at dksX1_addPerson_1 11 rfl rfl)
theorem dX1_addPerson_36 : decode cX1_addPerson 36 = .ok (.dup, 1) := dk_89 (dk_at dksX1_addPerson_1 14 rfl rfl)
theorem dX1_addPerson_37 : decode cX1_addPerson 37 = .ok (.aload_n 0, 1) := dk_42 (dk_at dksX1_addPerson_1 15 rfl rfl)
theorem dX1_addPerson_38 : decode cX1_addPerson 38 = .ok (.aload_n 0, 1) := dk_42 (dk_at dksX1_addPerson_1 16 rfl rfl)
theorem dX1_addPerson_39 : decode cX1_addPerson 39 = .ok (.getfield 34, 3) := dk_180 0 34 (dk_at dksX1_addPerson_1 17 rfl rfl)
theorem dX1_addPerson_42 : decode cX1_addPerson 42 = .ok (.invokevirtual 57, 3) := dk_182 0 57 (dk_at dksX1_addPerson_1 20 rfl rfl)
theorem dX1_addPerson_45 : decode cX1_addPerson 45 = .ok (.iload_n 1, 1) := dk_27 (dk_at dksX1_addPerson_1 23 rfl rfl)
theorem dX1_addPerson_46 : decode cX1_addPerson 46 = .ok (.invokespecial 85, 3) := dk_183 0 85 (dk_at dksX1_addPerson_2 0 rfl rfl)
theorem dX1_addPerson_49 : decode cX1_addPerson 49 = .ok (.invokevirtual 88, 3) := dk_182 0 88 (dk_at dksX1_addPerson_2 3 rfl rfl)
theorem dX1_addPerson_52 : decode cX1_addPerson 52 = .ok (.pop, 1) := dk_87 (dk_at dksX1_addPerson_2 6 rfl rfl)
theorem dX1_addPerson_53 : decode cX1_addPerson 53 = .ok (.aload_n 0, 1) := dk_42 (dk_at dksX1_addPerson_2 7 rfl rfl)
theorem dX1_addPerson_54 : decode cX1_addPerson 54 = .ok (.getfield 34, 3) := dk_180 0 34 (dk_at dksX1_addPerson_2 8 rfl rfl)
theorem dX1_addPerson_57 : decode cX1_addPerson 57 = .ok (.invokevirtual 57, 3) := dk_182 0 57 (dk_at dksX1_addPerson_2 11 rfl rfl)
theorem dX1_addPerson_60 : decode cX1_addPerson 60 = .ok (.iconst 1, 1) := dk_4 (dk_at dksX1_addPerson_2 14 rfl rfl)
theorem dX1_addPerson_61 : decode cX1_addPerson 61 = .ok (.isub, 1) := dk_100 (dk_at dksX1_addPerson_2 15 rfl rfl)
theorem dX1_addPerson_62 : decode cX1_addPerson 62 = .ok (.ireturn, 1) := dk_172 (dk_at dksX1_addPerson_2 16 rfl rfl)
abbrev cX1_in : ByteArray := prog_1_method_1_code
def yX1_in : MethodName := ⟨RX1, "in", "(III)Z"⟩
def dkwX1_in_0 : List UInt8 := [26, 27, 161, 0, 12, 26, 28, 163, 0, 7, 4, 167, 0, 4, 3, 172]
abbrev dktX1_in_0 : List UInt8 := dkwX1_in_0 ++ []
theorem dksX1_in_0 : cX1_in.data.toList.drop 0 = dktX1_in_0 := by decide +kernel
theorem dX1_in_0 : decode cX1_in 0 = .ok (.iload_n 0, 1) := dk_26 (dk_at dksX1_in_0 0 rfl rfl)
theorem dX1_in_1 : decode cX1_in 1 = .ok (.iload_n 1, 1) := dk_27 (dk_at dksX1_in_0 1 rfl rfl)
theorem dX1_in_2 : decode cX1_in 2 = .ok (.if_icmp .lt 12, 3) := dk_161 0 12 (dk_at dksX1_in_0 2 rfl rfl)
theorem dX1_in_5 : decode cX1_in 5 = .ok (.iload_n 0, 1) := dk_26 (dk_at dksX1_in_0 5 rfl rfl)
theorem dX1_in_6 : decode cX1_in 6 = .ok (.iload_n 2, 1) := dk_28 (dk_at dksX1_in_0 6 rfl rfl)
theorem dX1_in_7 : decode cX1_in 7 = .ok (.if_icmp .gt 7, 3) := dk_163 0 7 (dk_at dksX1_in_0 7 rfl rfl)
theorem dX1_in_10 : decode cX1_in 10 = .ok (.iconst 1, 1) := dk_4 (dk_at dksX1_in_0 10 rfl rfl)
theorem dX1_in_11 : decode cX1_in 11 = .ok (.goto 4, 3) := dk_167 0 4 (dk_at dksX1_in_0 11 rfl rfl)
theorem dX1_in_14 : decode cX1_in 14 = .ok (.iconst 0, 1) := dk_3 (dk_at dksX1_in_0 14 rfl rfl)
theorem dX1_in_15 : decode cX1_in 15 = .ok (.ireturn, 1) := dk_172 (dk_at dksX1_in_0 15 rfl rfl)
abbrev cX1_argument : ByteArray := prog_1_method_3_code
def yX1_argument : MethodName := ⟨RX1, "argument", "(Z)V"⟩
def dkwX1_argument_0 : List UInt8 := [26, 154, 0, 11, 187, 0, 13, 89, 183, 0, 15, 191, 177]
abbrev dktX1_argument_0 : List UInt8 := dkwX1_argument_0 ++ []
theorem dksX1_argument_0 : cX1_argument.data.toList.drop 0 = dktX1_argument_0 := by decide +kernel
theorem dX1_argument_0 : decode cX1_argument 0 = .ok (.iload_n 0, 1) := dk_26 (dk_at dksX1_argument_0 0 rfl rfl)
theorem dX1_argument_1 : decode cX1_argument 1 = .ok (.ifCond .ne 11, 3) := dk_154 0 11 (dk_at dksX1_argument_0 1 rfl rfl)
theorem dX1_argument_4 : decode cX1_argument 4 = .ok (.new 13, 3) := dk_187 0 13 (dk_at dksX1_argument_0 4 rfl rfl)
theorem dX1_argument_7 : decode cX1_argument 7 = .ok (.dup, 1) := dk_89 (dk_at dksX1_argument_0 7 rfl rfl)
theorem dX1_argument_8 : decode cX1_argument 8 = .ok (.invokespecial 15, 3) := dk_183 0 15 (dk_at dksX1_argument_0 8 rfl rfl)
theorem dX1_argument_11 : decode cX1_argument 11 = .ok (.athrow, 1) := dk_191 (dk_at dksX1_argument_0 11 rfl rfl)
theorem dX1_argument_12 : decode cX1_argument 12 = .ok (.return_, 1) := dk_177 (dk_at dksX1_argument_0 12 rfl rfl)
abbrev cX1_state : ByteArray := prog_1_method_4_code
def yX1_state : MethodName := ⟨RX1, "state", "(Z)V"⟩
def dkwX1_state_0 : List UInt8 := [26, 154, 0, 11, 187, 0, 16, 89, 183, 0, 18, 191, 177]
abbrev dktX1_state_0 : List UInt8 := dkwX1_state_0 ++ []
theorem dksX1_state_0 : cX1_state.data.toList.drop 0 = dktX1_state_0 := by decide +kernel
theorem dX1_state_0 : decode cX1_state 0 = .ok (.iload_n 0, 1) := dk_26 (dk_at dksX1_state_0 0 rfl rfl)
theorem dX1_state_1 : decode cX1_state 1 = .ok (.ifCond .ne 11, 3) := dk_154 0 11 (dk_at dksX1_state_0 1 rfl rfl)
theorem dX1_state_4 : decode cX1_state 4 = .ok (.new 16, 3) := dk_187 0 16 (dk_at dksX1_state_0 4 rfl rfl)
theorem dX1_state_7 : decode cX1_state 7 = .ok (.dup, 1) := dk_89 (dk_at dksX1_state_0 7 rfl rfl)
theorem dX1_state_8 : decode cX1_state 8 = .ok (.invokespecial 18, 3) := dk_183 0 18 (dk_at dksX1_state_0 8 rfl rfl)
theorem dX1_state_11 : decode cX1_state 11 = .ok (.athrow, 1) := dk_191 (dk_at dksX1_state_0 11 rfl rfl)
theorem dX1_state_12 : decode cX1_state 12 = .ok (.return_, 1) := dk_177 (dk_at dksX1_state_0 12 rfl rfl)
abbrev cX1_handIn : ByteArray := prog_1_method_11_code
def yX1_handIn : MethodName := ⟨RX1, "handIn", "(I)I"⟩
def dkwX1_handIn_1 : List UInt8 := [187, 0, 92, 89, 42, 44, 183, 0, 94, 181, 0, 74, 42, 182, 0, 97, 172]
abbrev dktX1_handIn_1 : List UInt8 := dkwX1_handIn_1 ++ []
def dkwX1_handIn_0 : List UInt8 := [42, 27, 182, 0, 70, 77, 44, 180, 0, 74, 199, 0, 7, 4, 167, 0, 4, 3, 184, 0, 82, 44]
abbrev dktX1_handIn_0 : List UInt8 := dkwX1_handIn_0 ++ dktX1_handIn_1
theorem dksX1_handIn_0 : cX1_handIn.data.toList.drop 0 = dktX1_handIn_0 := by decide +kernel
theorem dksX1_handIn_1 : cX1_handIn.data.toList.drop 22 = dktX1_handIn_1 := dk_seg dksX1_handIn_0 22 rfl rfl
theorem dX1_handIn_0 : decode cX1_handIn 0 = .ok (.aload_n 0, 1) := dk_42 (dk_at dksX1_handIn_0 0 rfl rfl)
theorem dX1_handIn_1 : decode cX1_handIn 1 = .ok (.iload_n 1, 1) := dk_27 (dk_at dksX1_handIn_0 1 rfl rfl)
theorem dX1_handIn_2 : decode cX1_handIn 2 = .ok (.invokevirtual 70, 3) := dk_182 0 70 (dk_at dksX1_handIn_0 2 rfl rfl)
theorem dX1_handIn_5 : decode cX1_handIn 5 = .ok (.astore_n 2, 1) := dk_77 (dk_at dksX1_handIn_0 5 rfl rfl)
theorem dX1_handIn_6 : decode cX1_handIn 6 = .ok (.aload_n 2, 1) := dk_44 (dk_at dksX1_handIn_0 6 rfl rfl)
theorem dX1_handIn_7 : decode cX1_handIn 7 = .ok (.getfield 74, 3) := dk_180 0 74 (dk_at dksX1_handIn_0 7 rfl rfl)
theorem dX1_handIn_10 : decode cX1_handIn 10 = .ok (.ifnonnull 7, 3) := dk_199 0 7 (dk_at dksX1_handIn_0 10 rfl rfl)
theorem dX1_handIn_13 : decode cX1_handIn 13 = .ok (.iconst 1, 1) := dk_4 (dk_at dksX1_handIn_0 13 rfl rfl)
theorem dX1_handIn_14 : decode cX1_handIn 14 = .ok (.goto 4, 3) := dk_167 0 4 (dk_at dksX1_handIn_0 14 rfl rfl)
theorem dX1_handIn_17 : decode cX1_handIn 17 = .ok (.iconst 0, 1) := dk_3 (dk_at dksX1_handIn_0 17 rfl rfl)
theorem dX1_handIn_18 : decode cX1_handIn 18 = .ok (.invokestatic 82, 3) := dk_184 0 82 (dk_at dksX1_handIn_0 18 rfl rfl)
theorem dX1_handIn_21 : decode cX1_handIn 21 = .ok (.aload_n 2, 1) := dk_44 (dk_at dksX1_handIn_0 21 rfl rfl)
theorem dX1_handIn_22 : decode cX1_handIn 22 = .ok (.new 92, 3) := dk_187 0 92 (dk_at dksX1_handIn_1 0 rfl rfl)
theorem dX1_handIn_25 : decode cX1_handIn 25 = .ok (.dup, 1) := dk_89 (dk_at dksX1_handIn_1 3 rfl rfl)
theorem dX1_handIn_26 : decode cX1_handIn 26 = .ok (.aload_n 0, 1) := dk_42 (dk_at dksX1_handIn_1 4 rfl rfl)
theorem dX1_handIn_27 : decode cX1_handIn 27 = .ok (.aload_n 2, 1) := dk_44 (dk_at dksX1_handIn_1 5 rfl rfl)
theorem dX1_handIn_28 : decode cX1_handIn 28 = .ok (.invokespecial 94, 3) := dk_183 0 94 (dk_at dksX1_handIn_1 6 rfl rfl)
theorem dX1_handIn_31 : decode cX1_handIn 31 = .ok (.putfield 74, 3) := dk_181 0 74 (dk_at dksX1_handIn_1 9 rfl rfl)
theorem dX1_handIn_34 : decode cX1_handIn 34 = .ok (.aload_n 0, 1) := dk_42 (dk_at dksX1_handIn_1 12 rfl rfl)
theorem dX1_handIn_35 : decode cX1_handIn 35 = .ok (.invokevirtual 97, 3) := dk_182 0 97 (dk_at dksX1_handIn_1 13 rfl rfl)
theorem dX1_handIn_38 : decode cX1_handIn 38 = .ok (.ireturn, 1) := dk_172 (dk_at dksX1_handIn_1 16 rfl rfl)
abbrev cX1_person : ByteArray := prog_1_method_8_code
def yX1_person : MethodName := ⟨RX1, "person", "(I)LPeerpanel$Person;"⟩
def dkwX1_person_0 : List UInt8 := [42, 180, 0, 34, 27, 42, 180, 0, 34, 182, 0, 57, 184, 0, 61, 182, 0, 64, 192, 0, 68, 176]
abbrev dktX1_person_0 : List UInt8 := dkwX1_person_0 ++ []
theorem dksX1_person_0 : cX1_person.data.toList.drop 0 = dktX1_person_0 := by decide +kernel
theorem dX1_person_0 : decode cX1_person 0 = .ok (.aload_n 0, 1) := dk_42 (dk_at dksX1_person_0 0 rfl rfl)
theorem dX1_person_1 : decode cX1_person 1 = .ok (.getfield 34, 3) := dk_180 0 34 (dk_at dksX1_person_0 1 rfl rfl)
theorem dX1_person_4 : decode cX1_person 4 = .ok (.iload_n 1, 1) := dk_27 (dk_at dksX1_person_0 4 rfl rfl)
theorem dX1_person_5 : decode cX1_person 5 = .ok (.aload_n 0, 1) := dk_42 (dk_at dksX1_person_0 5 rfl rfl)
theorem dX1_person_6 : decode cX1_person 6 = .ok (.getfield 34, 3) := dk_180 0 34 (dk_at dksX1_person_0 6 rfl rfl)
theorem dX1_person_9 : decode cX1_person 9 = .ok (.invokevirtual 57, 3) := dk_182 0 57 (dk_at dksX1_person_0 9 rfl rfl)
theorem dX1_person_12 : decode cX1_person 12 = .ok (.invokestatic 61, 3) := dk_184 0 61 (dk_at dksX1_person_0 12 rfl rfl)
theorem dX1_person_15 : decode cX1_person 15 = .ok (.invokevirtual 64, 3) := dk_182 0 64 (dk_at dksX1_person_0 15 rfl rfl)
theorem dX1_person_18 : decode cX1_person 18 = .ok (.checkcast 68, 3) := dk_192 0 68 (dk_at dksX1_person_0 18 rfl rfl)
theorem dX1_person_21 : decode cX1_person 21 = .ok (.areturn, 1) := dk_176 (dk_at dksX1_person_0 21 rfl rfl)
abbrev cX1_index : ByteArray := prog_1_method_2_code
def yX1_index : MethodName := ⟨RX1, "index", "(II)I"⟩
def dkwX1_index_0 : List UInt8 := [26, 3, 27, 4, 100, 184, 0, 1, 154, 0, 11, 187, 0, 7, 89, 183, 0, 9, 191, 26, 172]
abbrev dktX1_index_0 : List UInt8 := dkwX1_index_0 ++ []
theorem dksX1_index_0 : cX1_index.data.toList.drop 0 = dktX1_index_0 := by decide +kernel
theorem dX1_index_0 : decode cX1_index 0 = .ok (.iload_n 0, 1) := dk_26 (dk_at dksX1_index_0 0 rfl rfl)
theorem dX1_index_1 : decode cX1_index 1 = .ok (.iconst 0, 1) := dk_3 (dk_at dksX1_index_0 1 rfl rfl)
theorem dX1_index_2 : decode cX1_index 2 = .ok (.iload_n 1, 1) := dk_27 (dk_at dksX1_index_0 2 rfl rfl)
theorem dX1_index_3 : decode cX1_index 3 = .ok (.iconst 1, 1) := dk_4 (dk_at dksX1_index_0 3 rfl rfl)
theorem dX1_index_4 : decode cX1_index 4 = .ok (.isub, 1) := dk_100 (dk_at dksX1_index_0 4 rfl rfl)
theorem dX1_index_5 : decode cX1_index 5 = .ok (.invokestatic 1, 3) := dk_184 0 1 (dk_at dksX1_index_0 5 rfl rfl)
theorem dX1_index_8 : decode cX1_index 8 = .ok (.ifCond .ne 11, 3) := dk_154 0 11 (dk_at dksX1_index_0 8 rfl rfl)
theorem dX1_index_11 : decode cX1_index 11 = .ok (.new 7, 3) := dk_187 0 7 (dk_at dksX1_index_0 11 rfl rfl)
theorem dX1_index_14 : decode cX1_index 14 = .ok (.dup, 1) := dk_89 (dk_at dksX1_index_0 14 rfl rfl)
theorem dX1_index_15 : decode cX1_index 15 = .ok (.invokespecial 9, 3) := dk_183 0 9 (dk_at dksX1_index_0 15 rfl rfl)
theorem dX1_index_18 : decode cX1_index 18 = .ok (.athrow, 1) := dk_191 (dk_at dksX1_index_0 18 rfl rfl)
theorem dX1_index_19 : decode cX1_index 19 = .ok (.iload_n 0, 1) := dk_26 (dk_at dksX1_index_0 19 rfl rfl)
theorem dX1_index_20 : decode cX1_index 20 = .ok (.ireturn, 1) := dk_172 (dk_at dksX1_index_0 20 rfl rfl)
abbrev cX1_setDue : ByteArray := prog_1_method_12_code
def yX1_setDue : MethodName := ⟨RX1, "setDue", "(I)I"⟩
def dkwX1_setDue_0 : List UInt8 := [27, 3, 16, 99, 184, 0, 1, 184, 0, 78, 42, 180, 0, 38, 61, 42, 27, 181, 0, 38, 28, 172]
abbrev dktX1_setDue_0 : List UInt8 := dkwX1_setDue_0 ++ []
theorem dksX1_setDue_0 : cX1_setDue.data.toList.drop 0 = dktX1_setDue_0 := by decide +kernel
theorem dX1_setDue_0 : decode cX1_setDue 0 = .ok (.iload_n 1, 1) := dk_27 (dk_at dksX1_setDue_0 0 rfl rfl)
theorem dX1_setDue_1 : decode cX1_setDue 1 = .ok (.iconst 0, 1) := dk_3 (dk_at dksX1_setDue_0 1 rfl rfl)
theorem dX1_setDue_2 : decode cX1_setDue 2 = .ok (.bipush 99, 2) := dk_16 99 (dk_at dksX1_setDue_0 2 rfl rfl)
theorem dX1_setDue_4 : decode cX1_setDue 4 = .ok (.invokestatic 1, 3) := dk_184 0 1 (dk_at dksX1_setDue_0 4 rfl rfl)
theorem dX1_setDue_7 : decode cX1_setDue 7 = .ok (.invokestatic 78, 3) := dk_184 0 78 (dk_at dksX1_setDue_0 7 rfl rfl)
theorem dX1_setDue_10 : decode cX1_setDue 10 = .ok (.aload_n 0, 1) := dk_42 (dk_at dksX1_setDue_0 10 rfl rfl)
theorem dX1_setDue_11 : decode cX1_setDue 11 = .ok (.getfield 38, 3) := dk_180 0 38 (dk_at dksX1_setDue_0 11 rfl rfl)
theorem dX1_setDue_14 : decode cX1_setDue 14 = .ok (.istore_n 2, 1) := dk_61 (dk_at dksX1_setDue_0 14 rfl rfl)
theorem dX1_setDue_15 : decode cX1_setDue 15 = .ok (.aload_n 0, 1) := dk_42 (dk_at dksX1_setDue_0 15 rfl rfl)
theorem dX1_setDue_16 : decode cX1_setDue 16 = .ok (.iload_n 1, 1) := dk_27 (dk_at dksX1_setDue_0 16 rfl rfl)
theorem dX1_setDue_17 : decode cX1_setDue 17 = .ok (.putfield 38, 3) := dk_181 0 38 (dk_at dksX1_setDue_0 17 rfl rfl)
theorem dX1_setDue_20 : decode cX1_setDue 20 = .ok (.iload_n 2, 1) := dk_28 (dk_at dksX1_setDue_0 20 rfl rfl)
theorem dX1_setDue_21 : decode cX1_setDue 21 = .ok (.ireturn, 1) := dk_172 (dk_at dksX1_setDue_0 21 rfl rfl)
abbrev cX1_setTolerance : ByteArray := prog_1_method_13_code
def yX1_setTolerance : MethodName := ⟨RX1, "setTolerance", "(I)I"⟩
def dkwX1_setTolerance_0 : List UInt8 := [27, 3, 16, 100, 184, 0, 1, 184, 0, 78, 42, 180, 0, 42, 61, 42, 27, 181, 0, 42, 28, 172]
abbrev dktX1_setTolerance_0 : List UInt8 := dkwX1_setTolerance_0 ++ []
theorem dksX1_setTolerance_0 : cX1_setTolerance.data.toList.drop 0 = dktX1_setTolerance_0 := by decide +kernel
theorem dX1_setTolerance_0 : decode cX1_setTolerance 0 = .ok (.iload_n 1, 1) := dk_27 (dk_at dksX1_setTolerance_0 0 rfl rfl)
theorem dX1_setTolerance_1 : decode cX1_setTolerance 1 = .ok (.iconst 0, 1) := dk_3 (dk_at dksX1_setTolerance_0 1 rfl rfl)
theorem dX1_setTolerance_2 : decode cX1_setTolerance 2 = .ok (.bipush 100, 2) := dk_16 100 (dk_at dksX1_setTolerance_0 2 rfl rfl)
theorem dX1_setTolerance_4 : decode cX1_setTolerance 4 = .ok (.invokestatic 1, 3) := dk_184 0 1 (dk_at dksX1_setTolerance_0 4 rfl rfl)
theorem dX1_setTolerance_7 : decode cX1_setTolerance 7 = .ok (.invokestatic 78, 3) := dk_184 0 78 (dk_at dksX1_setTolerance_0 7 rfl rfl)
theorem dX1_setTolerance_10 : decode cX1_setTolerance 10 = .ok (.aload_n 0, 1) := dk_42 (dk_at dksX1_setTolerance_0 10 rfl rfl)
theorem dX1_setTolerance_11 : decode cX1_setTolerance 11 = .ok (.getfield 42, 3) := dk_180 0 42 (dk_at dksX1_setTolerance_0 11 rfl rfl)
theorem dX1_setTolerance_14 : decode cX1_setTolerance 14 = .ok (.istore_n 2, 1) := dk_61 (dk_at dksX1_setTolerance_0 14 rfl rfl)
theorem dX1_setTolerance_15 : decode cX1_setTolerance 15 = .ok (.aload_n 0, 1) := dk_42 (dk_at dksX1_setTolerance_0 15 rfl rfl)
theorem dX1_setTolerance_16 : decode cX1_setTolerance 16 = .ok (.iload_n 1, 1) := dk_27 (dk_at dksX1_setTolerance_0 16 rfl rfl)
theorem dX1_setTolerance_17 : decode cX1_setTolerance 17 = .ok (.putfield 42, 3) := dk_181 0 42 (dk_at dksX1_setTolerance_0 17 rfl rfl)
theorem dX1_setTolerance_20 : decode cX1_setTolerance 20 = .ok (.iload_n 2, 1) := dk_28 (dk_at dksX1_setTolerance_0 20 rfl rfl)
theorem dX1_setTolerance_21 : decode cX1_setTolerance 21 = .ok (.ireturn, 1) := dk_172 (dk_at dksX1_setTolerance_0 21 rfl rfl)
abbrev cX1_share : ByteArray := prog_1_method_15_code
def yX1_share : MethodName := ⟨RX1, "share", "(I)I"⟩
def dkwX1_share_5 : List UInt8 := [132, 3, 1, 167, 255, 152, 28, 172]
abbrev dktX1_share_5 : List UInt8 := dkwX1_share_5 ++ []
def dkwX1_share_4 : List UInt8 := [199, 0, 6, 167, 255, 188, 25, 5, 180, 0, 74, 25, 6, 182, 0, 136, 132, 2, 1, 167, 255, 172]
abbrev dktX1_share_4 : List UInt8 := dkwX1_share_4 ++ dktX1_share_5
def dkwX1_share_3 : List UInt8 := [27, 161, 0, 6, 167, 255, 211, 42, 25, 5, 180, 0, 74, 42, 180, 0, 49, 182, 0, 132, 58, 6, 25, 6]
abbrev dktX1_share_3 : List UInt8 := dkwX1_share_3 ++ dktX1_share_4
def dkwX1_share_2 : List UInt8 := [192, 0, 68, 58, 5, 25, 5, 180, 0, 74, 198, 255, 229, 25, 5, 180, 0, 74, 180, 0, 123, 184, 0, 126]
abbrev dktX1_share_2 : List UInt8 := dkwX1_share_2 ++ dktX1_share_3
def dkwX1_share_1 : List UInt8 := [182, 0, 100, 58, 4, 25, 4, 185, 0, 104, 1, 0, 153, 0, 80, 25, 4, 185, 0, 110, 1, 0]
abbrev dktX1_share_1 : List UInt8 := dkwX1_share_1 ++ dktX1_share_2
def dkwX1_share_0 : List UInt8 := [27, 4, 8, 184, 0, 1, 184, 0, 78, 3, 61, 3, 62, 29, 27, 162, 0, 105, 42, 180, 0, 34]
abbrev dktX1_share_0 : List UInt8 := dkwX1_share_0 ++ dktX1_share_1
theorem dksX1_share_0 : cX1_share.data.toList.drop 0 = dktX1_share_0 := by decide +kernel
theorem dksX1_share_1 : cX1_share.data.toList.drop 22 = dktX1_share_1 := dk_seg dksX1_share_0 22 rfl rfl
theorem dksX1_share_2 : cX1_share.data.toList.drop 44 = dktX1_share_2 := dk_seg dksX1_share_1 22 rfl rfl
theorem dksX1_share_3 : cX1_share.data.toList.drop 68 = dktX1_share_3 := dk_seg dksX1_share_2 24 rfl rfl
theorem dksX1_share_4 : cX1_share.data.toList.drop 92 = dktX1_share_4 := dk_seg dksX1_share_3 24 rfl rfl
theorem dksX1_share_5 : cX1_share.data.toList.drop 114 = dktX1_share_5 := dk_seg dksX1_share_4 22 rfl rfl
theorem dX1_share_0 : decode cX1_share 0 = .ok (.iload_n 1, 1) := dk_27 (dk_at dksX1_share_0 0 rfl rfl)
theorem dX1_share_1 : decode cX1_share 1 = .ok (.iconst 1, 1) := dk_4 (dk_at dksX1_share_0 1 rfl rfl)
theorem dX1_share_2 : decode cX1_share 2 = .ok (.iconst 5, 1) := dk_8 (dk_at dksX1_share_0 2 rfl rfl)
theorem dX1_share_3 : decode cX1_share 3 = .ok (.invokestatic 1, 3) := dk_184 0 1 (dk_at dksX1_share_0 3 rfl rfl)
theorem dX1_share_6 : decode cX1_share 6 = .ok (.invokestatic 78, 3) := dk_184 0 78 (dk_at dksX1_share_0 6 rfl rfl)
theorem dX1_share_9 : decode cX1_share 9 = .ok (.iconst 0, 1) := dk_3 (dk_at dksX1_share_0 9 rfl rfl)
theorem dX1_share_10 : decode cX1_share 10 = .ok (.istore_n 2, 1) := dk_61 (dk_at dksX1_share_0 10 rfl rfl)
theorem dX1_share_11 : decode cX1_share 11 = .ok (.iconst 0, 1) := dk_3 (dk_at dksX1_share_0 11 rfl rfl)
theorem dX1_share_12 : decode cX1_share 12 = .ok (.istore_n 3, 1) := dk_62 (dk_at dksX1_share_0 12 rfl rfl)
theorem dX1_share_13 : decode cX1_share 13 = .ok (.iload_n 3, 1) := dk_29 (dk_at dksX1_share_0 13 rfl rfl)
theorem dX1_share_14 : decode cX1_share 14 = .ok (.iload_n 1, 1) := dk_27 (dk_at dksX1_share_0 14 rfl rfl)
theorem dX1_share_15 : decode cX1_share 15 = .ok (.if_icmp .ge 105, 3) := dk_162 0 105 (dk_at dksX1_share_0 15 rfl rfl)
theorem dX1_share_18 : decode cX1_share 18 = .ok (.aload_n 0, 1) := dk_42 (dk_at dksX1_share_0 18 rfl rfl)
theorem dX1_share_19 : decode cX1_share 19 = .ok (.getfield 34, 3) := dk_180 0 34 (dk_at dksX1_share_0 19 rfl rfl)
theorem dX1_share_22 : decode cX1_share 22 = .ok (.invokevirtual 100, 3) := dk_182 0 100 (dk_at dksX1_share_1 0 rfl rfl)
theorem dX1_share_25 : decode cX1_share 25 = .ok (.astore 4, 2) := dk_58 4 (dk_at dksX1_share_1 3 rfl rfl)
theorem dX1_share_27 : decode cX1_share 27 = .ok (.aload 4, 2) := dk_25 4 (dk_at dksX1_share_1 5 rfl rfl)
theorem dX1_share_29 : decode cX1_share 29 = .ok (.invokeinterface 104 1, 5) := by decide +kernel
theorem dX1_share_34 : decode cX1_share 34 = .ok (.ifCond .eq 80, 3) := dk_153 0 80 (dk_at dksX1_share_1 12 rfl rfl)
theorem dX1_share_37 : decode cX1_share 37 = .ok (.aload 4, 2) := dk_25 4 (dk_at dksX1_share_1 15 rfl rfl)
theorem dX1_share_39 : decode cX1_share 39 = .ok (.invokeinterface 110 1, 5) := by decide +kernel
theorem dX1_share_44 : decode cX1_share 44 = .ok (.checkcast 68, 3) := dk_192 0 68 (dk_at dksX1_share_2 0 rfl rfl)
theorem dX1_share_47 : decode cX1_share 47 = .ok (.astore 5, 2) := dk_58 5 (dk_at dksX1_share_2 3 rfl rfl)
theorem dX1_share_49 : decode cX1_share 49 = .ok (.aload 5, 2) := dk_25 5 (dk_at dksX1_share_2 5 rfl rfl)
theorem dX1_share_51 : decode cX1_share 51 = .ok (.getfield 74, 3) := dk_180 0 74 (dk_at dksX1_share_2 7 rfl rfl)
theorem dX1_share_54 : decode cX1_share 54 = .ok (.ifnull (-27), 3) := dk_198 255 229 (dk_at dksX1_share_2 10 rfl rfl)
theorem dX1_share_57 : decode cX1_share 57 = .ok (.aload 5, 2) := dk_25 5 (dk_at dksX1_share_2 13 rfl rfl)
theorem dX1_share_59 : decode cX1_share 59 = .ok (.getfield 74, 3) := dk_180 0 74 (dk_at dksX1_share_2 15 rfl rfl)
theorem dX1_share_62 : decode cX1_share 62 = .ok (.getfield 123, 3) := dk_180 0 123 (dk_at dksX1_share_2 18 rfl rfl)
theorem dX1_share_65 : decode cX1_share 65 = .ok (.invokestatic 126, 3) := dk_184 0 126 (dk_at dksX1_share_2 21 rfl rfl)
theorem dX1_share_68 : decode cX1_share 68 = .ok (.iload_n 1, 1) := dk_27 (dk_at dksX1_share_3 0 rfl rfl)
theorem dX1_share_69 : decode cX1_share 69 = .ok (.if_icmp .lt 6, 3) := dk_161 0 6 (dk_at dksX1_share_3 1 rfl rfl)
theorem dX1_share_72 : decode cX1_share 72 = .ok (.goto (-45), 3) := dk_167 255 211 (dk_at dksX1_share_3 4 rfl rfl)
theorem dX1_share_75 : decode cX1_share 75 = .ok (.aload_n 0, 1) := dk_42 (dk_at dksX1_share_3 7 rfl rfl)
theorem dX1_share_76 : decode cX1_share 76 = .ok (.aload 5, 2) := dk_25 5 (dk_at dksX1_share_3 8 rfl rfl)
theorem dX1_share_78 : decode cX1_share 78 = .ok (.getfield 74, 3) := dk_180 0 74 (dk_at dksX1_share_3 10 rfl rfl)
theorem dX1_share_81 : decode cX1_share 81 = .ok (.aload_n 0, 1) := dk_42 (dk_at dksX1_share_3 13 rfl rfl)
theorem dX1_share_82 : decode cX1_share 82 = .ok (.getfield 49, 3) := dk_180 0 49 (dk_at dksX1_share_3 14 rfl rfl)
theorem dX1_share_85 : decode cX1_share 85 = .ok (.invokevirtual 132, 3) := dk_182 0 132 (dk_at dksX1_share_3 17 rfl rfl)
theorem dX1_share_88 : decode cX1_share 88 = .ok (.astore 6, 2) := dk_58 6 (dk_at dksX1_share_3 20 rfl rfl)
theorem dX1_share_90 : decode cX1_share 90 = .ok (.aload 6, 2) := dk_25 6 (dk_at dksX1_share_3 22 rfl rfl)
theorem dX1_share_92 : decode cX1_share 92 = .ok (.ifnonnull 6, 3) := dk_199 0 6 (dk_at dksX1_share_4 0 rfl rfl)
theorem dX1_share_95 : decode cX1_share 95 = .ok (.goto (-68), 3) := dk_167 255 188 (dk_at dksX1_share_4 3 rfl rfl)
theorem dX1_share_98 : decode cX1_share 98 = .ok (.aload 5, 2) := dk_25 5 (dk_at dksX1_share_4 6 rfl rfl)
theorem dX1_share_100 : decode cX1_share 100 = .ok (.getfield 74, 3) := dk_180 0 74 (dk_at dksX1_share_4 8 rfl rfl)
theorem dX1_share_103 : decode cX1_share 103 = .ok (.aload 6, 2) := dk_25 6 (dk_at dksX1_share_4 11 rfl rfl)
theorem dX1_share_105 : decode cX1_share 105 = .ok (.invokevirtual 136, 3) := dk_182 0 136 (dk_at dksX1_share_4 13 rfl rfl)
theorem dX1_share_108 : decode cX1_share 108 = .ok (.iinc 2 1, 3) := dk_132 2 1 (dk_at dksX1_share_4 16 rfl rfl)
theorem dX1_share_111 : decode cX1_share 111 = .ok (.goto (-84), 3) := dk_167 255 172 (dk_at dksX1_share_4 19 rfl rfl)
theorem dX1_share_114 : decode cX1_share 114 = .ok (.iinc 3 1, 3) := dk_132 3 1 (dk_at dksX1_share_5 0 rfl rfl)
theorem dX1_share_117 : decode cX1_share 117 = .ok (.goto (-104), 3) := dk_167 255 152 (dk_at dksX1_share_5 3 rfl rfl)
theorem dX1_share_120 : decode cX1_share 120 = .ok (.iload_n 2, 1) := dk_28 (dk_at dksX1_share_5 6 rfl rfl)
theorem dX1_share_121 : decode cX1_share 121 = .ok (.ireturn, 1) := dk_172 (dk_at dksX1_share_5 7 rfl rfl)
abbrev cX1_choose : ByteArray := prog_1_method_14_code
def yX1_choose : MethodName := ⟨RX1, "choose", "(LPeerpanel$Work;LPeerpanel$Ahead;)LPeerpanel$Person;"⟩
def dkwX1_choose_2 : List UInt8 := [25, 5, 45, 185, 0, 118, 3, 0, 153, 0, 6, 25, 5, 78, 167, 255, 206, 45, 176]
abbrev dktX1_choose_2 : List UInt8 := dkwX1_choose_2 ++ []
def dkwX1_choose_1 : List UInt8 := [185, 0, 110, 1, 0, 192, 0, 68, 58, 5, 43, 25, 5, 182, 0, 114, 153, 0, 22, 45, 198, 0, 15, 44]
abbrev dktX1_choose_1 : List UInt8 := dkwX1_choose_1 ++ dktX1_choose_2
def dkwX1_choose_0 : List UInt8 := [1, 78, 42, 180, 0, 34, 182, 0, 100, 58, 4, 25, 4, 185, 0, 104, 1, 0, 153, 0, 46, 25, 4]
abbrev dktX1_choose_0 : List UInt8 := dkwX1_choose_0 ++ dktX1_choose_1
theorem dksX1_choose_0 : cX1_choose.data.toList.drop 0 = dktX1_choose_0 := by decide +kernel
theorem dksX1_choose_1 : cX1_choose.data.toList.drop 23 = dktX1_choose_1 := dk_seg dksX1_choose_0 23 rfl rfl
theorem dksX1_choose_2 : cX1_choose.data.toList.drop 47 = dktX1_choose_2 := dk_seg dksX1_choose_1 24 rfl rfl
theorem dX1_choose_0 : decode cX1_choose 0 = .ok (.aconst_null, 1) := dk_1 (dk_at dksX1_choose_0 0 rfl rfl)
theorem dX1_choose_1 : decode cX1_choose 1 = .ok (.astore_n 3, 1) := dk_78 (dk_at dksX1_choose_0 1 rfl rfl)
theorem dX1_choose_2 : decode cX1_choose 2 = .ok (.aload_n 0, 1) := dk_42 (dk_at dksX1_choose_0 2 rfl rfl)
theorem dX1_choose_3 : decode cX1_choose 3 = .ok (.getfield 34, 3) := dk_180 0 34 (dk_at dksX1_choose_0 3 rfl rfl)
theorem dX1_choose_6 : decode cX1_choose 6 = .ok (.invokevirtual 100, 3) := dk_182 0 100 (dk_at dksX1_choose_0 6 rfl rfl)
theorem dX1_choose_9 : decode cX1_choose 9 = .ok (.astore 4, 2) := dk_58 4 (dk_at dksX1_choose_0 9 rfl rfl)
theorem dX1_choose_11 : decode cX1_choose 11 = .ok (.aload 4, 2) := dk_25 4 (dk_at dksX1_choose_0 11 rfl rfl)
theorem dX1_choose_13 : decode cX1_choose 13 = .ok (.invokeinterface 104 1, 5) := by decide +kernel
theorem dX1_choose_18 : decode cX1_choose 18 = .ok (.ifCond .eq 46, 3) := dk_153 0 46 (dk_at dksX1_choose_0 18 rfl rfl)
theorem dX1_choose_21 : decode cX1_choose 21 = .ok (.aload 4, 2) := dk_25 4 (dk_at dksX1_choose_0 21 rfl rfl)
theorem dX1_choose_23 : decode cX1_choose 23 = .ok (.invokeinterface 110 1, 5) := by decide +kernel
theorem dX1_choose_28 : decode cX1_choose 28 = .ok (.checkcast 68, 3) := dk_192 0 68 (dk_at dksX1_choose_1 5 rfl rfl)
theorem dX1_choose_31 : decode cX1_choose 31 = .ok (.astore 5, 2) := dk_58 5 (dk_at dksX1_choose_1 8 rfl rfl)
theorem dX1_choose_33 : decode cX1_choose 33 = .ok (.aload_n 1, 1) := dk_43 (dk_at dksX1_choose_1 10 rfl rfl)
theorem dX1_choose_34 : decode cX1_choose 34 = .ok (.aload 5, 2) := dk_25 5 (dk_at dksX1_choose_1 11 rfl rfl)
theorem dX1_choose_36 : decode cX1_choose 36 = .ok (.invokevirtual 114, 3) := dk_182 0 114 (dk_at dksX1_choose_1 13 rfl rfl)
theorem dX1_choose_39 : decode cX1_choose 39 = .ok (.ifCond .eq 22, 3) := dk_153 0 22 (dk_at dksX1_choose_1 16 rfl rfl)
theorem dX1_choose_42 : decode cX1_choose 42 = .ok (.aload_n 3, 1) := dk_45 (dk_at dksX1_choose_1 19 rfl rfl)
theorem dX1_choose_43 : decode cX1_choose 43 = .ok (.ifnull 15, 3) := dk_198 0 15 (dk_at dksX1_choose_1 20 rfl rfl)
theorem dX1_choose_46 : decode cX1_choose 46 = .ok (.aload_n 2, 1) := dk_44 (dk_at dksX1_choose_1 23 rfl rfl)
theorem dX1_choose_47 : decode cX1_choose 47 = .ok (.aload 5, 2) := dk_25 5 (dk_at dksX1_choose_2 0 rfl rfl)
theorem dX1_choose_49 : decode cX1_choose 49 = .ok (.aload_n 3, 1) := dk_45 (dk_at dksX1_choose_2 2 rfl rfl)
theorem dX1_choose_50 : decode cX1_choose 50 = .ok (.invokeinterface 118 3, 5) := by decide +kernel
theorem dX1_choose_55 : decode cX1_choose 55 = .ok (.ifCond .eq 6, 3) := dk_153 0 6 (dk_at dksX1_choose_2 8 rfl rfl)
theorem dX1_choose_58 : decode cX1_choose 58 = .ok (.aload 5, 2) := dk_25 5 (dk_at dksX1_choose_2 11 rfl rfl)
theorem dX1_choose_60 : decode cX1_choose 60 = .ok (.astore_n 3, 1) := dk_78 (dk_at dksX1_choose_2 13 rfl rfl)
theorem dX1_choose_61 : decode cX1_choose 61 = .ok (.goto (-50), 3) := dk_167 255 206 (dk_at dksX1_choose_2 14 rfl rfl)
theorem dX1_choose_64 : decode cX1_choose 64 = .ok (.aload_n 3, 1) := dk_45 (dk_at dksX1_choose_2 17 rfl rfl)
theorem dX1_choose_65 : decode cX1_choose 65 = .ok (.areturn, 1) := dk_176 (dk_at dksX1_choose_2 18 rfl rfl)
abbrev cX1_readersOf : ByteArray := prog_1_method_18_code
def yX1_readersOf : MethodName := ⟨RX1, "readersOf", "(I)I"⟩
def dkwX1_readersOf_0 : List UInt8 := [42, 27, 182, 0, 139, 180, 0, 123, 172]
abbrev dktX1_readersOf_0 : List UInt8 := dkwX1_readersOf_0 ++ []
theorem dksX1_readersOf_0 : cX1_readersOf.data.toList.drop 0 = dktX1_readersOf_0 := by decide +kernel
theorem dX1_readersOf_0 : decode cX1_readersOf 0 = .ok (.aload_n 0, 1) := dk_42 (dk_at dksX1_readersOf_0 0 rfl rfl)
theorem dX1_readersOf_1 : decode cX1_readersOf 1 = .ok (.iload_n 1, 1) := dk_27 (dk_at dksX1_readersOf_0 1 rfl rfl)
theorem dX1_readersOf_2 : decode cX1_readersOf 2 = .ok (.invokevirtual 139, 3) := dk_182 0 139 (dk_at dksX1_readersOf_0 2 rfl rfl)
theorem dX1_readersOf_5 : decode cX1_readersOf 5 = .ok (.getfield 123, 3) := dk_180 0 123 (dk_at dksX1_readersOf_0 5 rfl rfl)
theorem dX1_readersOf_8 : decode cX1_readersOf 8 = .ok (.ireturn, 1) := dk_172 (dk_at dksX1_readersOf_0 8 rfl rfl)
abbrev cX1_work : ByteArray := prog_1_method_9_code
def yX1_work : MethodName := ⟨RX1, "work", "(I)LPeerpanel$Work;"⟩
def dkwX1_work_0 : List UInt8 := [42, 27, 182, 0, 70, 180, 0, 74, 77, 44, 199, 0, 11, 187, 0, 7, 89, 183, 0, 9, 191, 44, 176]
abbrev dktX1_work_0 : List UInt8 := dkwX1_work_0 ++ []
theorem dksX1_work_0 : cX1_work.data.toList.drop 0 = dktX1_work_0 := by decide +kernel
theorem dX1_work_0 : decode cX1_work 0 = .ok (.aload_n 0, 1) := dk_42 (dk_at dksX1_work_0 0 rfl rfl)
theorem dX1_work_1 : decode cX1_work 1 = .ok (.iload_n 1, 1) := dk_27 (dk_at dksX1_work_0 1 rfl rfl)
theorem dX1_work_2 : decode cX1_work 2 = .ok (.invokevirtual 70, 3) := dk_182 0 70 (dk_at dksX1_work_0 2 rfl rfl)
theorem dX1_work_5 : decode cX1_work 5 = .ok (.getfield 74, 3) := dk_180 0 74 (dk_at dksX1_work_0 5 rfl rfl)
theorem dX1_work_8 : decode cX1_work 8 = .ok (.astore_n 2, 1) := dk_77 (dk_at dksX1_work_0 8 rfl rfl)
theorem dX1_work_9 : decode cX1_work 9 = .ok (.aload_n 2, 1) := dk_44 (dk_at dksX1_work_0 9 rfl rfl)
theorem dX1_work_10 : decode cX1_work 10 = .ok (.ifnonnull 11, 3) := dk_199 0 11 (dk_at dksX1_work_0 10 rfl rfl)
theorem dX1_work_13 : decode cX1_work 13 = .ok (.new 7, 3) := dk_187 0 7 (dk_at dksX1_work_0 13 rfl rfl)
theorem dX1_work_16 : decode cX1_work 16 = .ok (.dup, 1) := dk_89 (dk_at dksX1_work_0 16 rfl rfl)
theorem dX1_work_17 : decode cX1_work 17 = .ok (.invokespecial 9, 3) := dk_183 0 9 (dk_at dksX1_work_0 17 rfl rfl)
theorem dX1_work_20 : decode cX1_work 20 = .ok (.athrow, 1) := dk_191 (dk_at dksX1_work_0 20 rfl rfl)
theorem dX1_work_21 : decode cX1_work 21 = .ok (.aload_n 2, 1) := dk_44 (dk_at dksX1_work_0 21 rfl rfl)
theorem dX1_work_22 : decode cX1_work 22 = .ok (.areturn, 1) := dk_176 (dk_at dksX1_work_0 22 rfl rfl)
abbrev cX1_mayRead : ByteArray := prog_1_method_19_code
def yX1_mayRead : MethodName := ⟨RX1, "mayRead", "(I)I"⟩
def dkwX1_mayRead_2 : List UInt8 := [29, 4, 25, 5, 180, 0, 142, 120, 128, 62, 167, 255, 215, 29, 172]
abbrev dktX1_mayRead_2 : List UInt8 := dkwX1_mayRead_2 ++ []
def dkwX1_mayRead_1 : List UInt8 := [153, 0, 37, 25, 4, 185, 0, 110, 1, 0, 192, 0, 68, 58, 5, 44, 25, 5, 182, 0, 114, 153, 0, 13]
abbrev dktX1_mayRead_1 : List UInt8 := dkwX1_mayRead_1 ++ dktX1_mayRead_2
def dkwX1_mayRead_0 : List UInt8 := [42, 27, 182, 0, 139, 77, 3, 62, 42, 180, 0, 34, 182, 0, 100, 58, 4, 25, 4, 185, 0, 104, 1, 0]
abbrev dktX1_mayRead_0 : List UInt8 := dkwX1_mayRead_0 ++ dktX1_mayRead_1
theorem dksX1_mayRead_0 : cX1_mayRead.data.toList.drop 0 = dktX1_mayRead_0 := by decide +kernel
theorem dksX1_mayRead_1 : cX1_mayRead.data.toList.drop 24 = dktX1_mayRead_1 := dk_seg dksX1_mayRead_0 24 rfl rfl
theorem dksX1_mayRead_2 : cX1_mayRead.data.toList.drop 48 = dktX1_mayRead_2 := dk_seg dksX1_mayRead_1 24 rfl rfl
theorem dX1_mayRead_0 : decode cX1_mayRead 0 = .ok (.aload_n 0, 1) := dk_42 (dk_at dksX1_mayRead_0 0 rfl rfl)
theorem dX1_mayRead_1 : decode cX1_mayRead 1 = .ok (.iload_n 1, 1) := dk_27 (dk_at dksX1_mayRead_0 1 rfl rfl)
theorem dX1_mayRead_2 : decode cX1_mayRead 2 = .ok (.invokevirtual 139, 3) := dk_182 0 139 (dk_at dksX1_mayRead_0 2 rfl rfl)
theorem dX1_mayRead_5 : decode cX1_mayRead 5 = .ok (.astore_n 2, 1) := dk_77 (dk_at dksX1_mayRead_0 5 rfl rfl)
theorem dX1_mayRead_6 : decode cX1_mayRead 6 = .ok (.iconst 0, 1) := dk_3 (dk_at dksX1_mayRead_0 6 rfl rfl)
theorem dX1_mayRead_7 : decode cX1_mayRead 7 = .ok (.istore_n 3, 1) := dk_62 (dk_at dksX1_mayRead_0 7 rfl rfl)
theorem dX1_mayRead_8 : decode cX1_mayRead 8 = .ok (.aload_n 0, 1) := dk_42 (dk_at dksX1_mayRead_0 8 rfl rfl)
theorem dX1_mayRead_9 : decode cX1_mayRead 9 = .ok (.getfield 34, 3) := dk_180 0 34 (dk_at dksX1_mayRead_0 9 rfl rfl)
theorem dX1_mayRead_12 : decode cX1_mayRead 12 = .ok (.invokevirtual 100, 3) := dk_182 0 100 (dk_at dksX1_mayRead_0 12 rfl rfl)
theorem dX1_mayRead_15 : decode cX1_mayRead 15 = .ok (.astore 4, 2) := dk_58 4 (dk_at dksX1_mayRead_0 15 rfl rfl)
theorem dX1_mayRead_17 : decode cX1_mayRead 17 = .ok (.aload 4, 2) := dk_25 4 (dk_at dksX1_mayRead_0 17 rfl rfl)
theorem dX1_mayRead_19 : decode cX1_mayRead 19 = .ok (.invokeinterface 104 1, 5) := by decide +kernel
theorem dX1_mayRead_24 : decode cX1_mayRead 24 = .ok (.ifCond .eq 37, 3) := dk_153 0 37 (dk_at dksX1_mayRead_1 0 rfl rfl)
theorem dX1_mayRead_27 : decode cX1_mayRead 27 = .ok (.aload 4, 2) := dk_25 4 (dk_at dksX1_mayRead_1 3 rfl rfl)
theorem dX1_mayRead_29 : decode cX1_mayRead 29 = .ok (.invokeinterface 110 1, 5) := by decide +kernel
theorem dX1_mayRead_34 : decode cX1_mayRead 34 = .ok (.checkcast 68, 3) := dk_192 0 68 (dk_at dksX1_mayRead_1 10 rfl rfl)
theorem dX1_mayRead_37 : decode cX1_mayRead 37 = .ok (.astore 5, 2) := dk_58 5 (dk_at dksX1_mayRead_1 13 rfl rfl)
theorem dX1_mayRead_39 : decode cX1_mayRead 39 = .ok (.aload_n 2, 1) := dk_44 (dk_at dksX1_mayRead_1 15 rfl rfl)
theorem dX1_mayRead_40 : decode cX1_mayRead 40 = .ok (.aload 5, 2) := dk_25 5 (dk_at dksX1_mayRead_1 16 rfl rfl)
theorem dX1_mayRead_42 : decode cX1_mayRead 42 = .ok (.invokevirtual 114, 3) := dk_182 0 114 (dk_at dksX1_mayRead_1 18 rfl rfl)
theorem dX1_mayRead_45 : decode cX1_mayRead 45 = .ok (.ifCond .eq 13, 3) := dk_153 0 13 (dk_at dksX1_mayRead_1 21 rfl rfl)
theorem dX1_mayRead_48 : decode cX1_mayRead 48 = .ok (.iload_n 3, 1) := dk_29 (dk_at dksX1_mayRead_2 0 rfl rfl)
theorem dX1_mayRead_49 : decode cX1_mayRead 49 = .ok (.iconst 1, 1) := dk_4 (dk_at dksX1_mayRead_2 1 rfl rfl)
theorem dX1_mayRead_50 : decode cX1_mayRead 50 = .ok (.aload 5, 2) := dk_25 5 (dk_at dksX1_mayRead_2 2 rfl rfl)
theorem dX1_mayRead_52 : decode cX1_mayRead 52 = .ok (.getfield 142, 3) := dk_180 0 142 (dk_at dksX1_mayRead_2 4 rfl rfl)
theorem dX1_mayRead_55 : decode cX1_mayRead 55 = .ok (.ishl, 1) := dk_120 (dk_at dksX1_mayRead_2 7 rfl rfl)
theorem dX1_mayRead_56 : decode cX1_mayRead 56 = .ok (.ior, 1) := dk_128 (dk_at dksX1_mayRead_2 8 rfl rfl)
theorem dX1_mayRead_57 : decode cX1_mayRead 57 = .ok (.istore_n 3, 1) := dk_62 (dk_at dksX1_mayRead_2 9 rfl rfl)
theorem dX1_mayRead_58 : decode cX1_mayRead 58 = .ok (.goto (-41), 3) := dk_167 255 215 (dk_at dksX1_mayRead_2 10 rfl rfl)
theorem dX1_mayRead_61 : decode cX1_mayRead 61 = .ok (.iload_n 3, 1) := dk_29 (dk_at dksX1_mayRead_2 13 rfl rfl)
theorem dX1_mayRead_62 : decode cX1_mayRead 62 = .ok (.ireturn, 1) := dk_172 (dk_at dksX1_mayRead_2 14 rfl rfl)
abbrev cX1_loadOf : ByteArray := prog_1_method_20_code
def yX1_loadOf : MethodName := ⟨RX1, "loadOf", "(I)I"⟩
def dkwX1_loadOf_0 : List UInt8 := [42, 27, 182, 0, 70, 180, 0, 145, 172]
abbrev dktX1_loadOf_0 : List UInt8 := dkwX1_loadOf_0 ++ []
theorem dksX1_loadOf_0 : cX1_loadOf.data.toList.drop 0 = dktX1_loadOf_0 := by decide +kernel
theorem dX1_loadOf_0 : decode cX1_loadOf 0 = .ok (.aload_n 0, 1) := dk_42 (dk_at dksX1_loadOf_0 0 rfl rfl)
theorem dX1_loadOf_1 : decode cX1_loadOf 1 = .ok (.iload_n 1, 1) := dk_27 (dk_at dksX1_loadOf_0 1 rfl rfl)
theorem dX1_loadOf_2 : decode cX1_loadOf 2 = .ok (.invokevirtual 70, 3) := dk_182 0 70 (dk_at dksX1_loadOf_0 2 rfl rfl)
theorem dX1_loadOf_5 : decode cX1_loadOf 5 = .ok (.getfield 145, 3) := dk_180 0 145 (dk_at dksX1_loadOf_0 5 rfl rfl)
theorem dX1_loadOf_8 : decode cX1_loadOf 8 = .ok (.ireturn, 1) := dk_172 (dk_at dksX1_loadOf_0 8 rfl rfl)
abbrev cX1_possible : ByteArray := prog_1_method_21_code
def yX1_possible : MethodName := ⟨RX1, "possible", "(II)I"⟩
def dkwX1_possible_4 : List UInt8 := [132, 6, 1, 167, 255, 217, 132, 5, 1, 167, 255, 196, 21, 4, 172]
abbrev dktX1_possible_4 : List UInt8 := dkwX1_possible_4 ++ []
def dkwX1_possible_3 : List UInt8 := [182, 0, 64, 192, 0, 68, 180, 0, 74, 198, 0, 21, 45, 21, 5, 182, 0, 153, 153, 0, 6, 132, 4, 1]
abbrev dktX1_possible_3 : List UInt8 := dkwX1_possible_3 ++ dktX1_possible_4
def dkwX1_possible_2 : List UInt8 := [180, 0, 34, 182, 0, 57, 162, 0, 54, 3, 54, 6, 21, 6, 27, 162, 0, 39, 42, 180, 0, 34, 21, 5]
abbrev dktX1_possible_2 : List UInt8 := dkwX1_possible_2 ++ dktX1_possible_3
def dkwX1_possible_1 : List UInt8 := [184, 0, 78, 187, 0, 148, 89, 42, 28, 183, 0, 150, 78, 3, 54, 4, 3, 54, 5, 21, 5, 42]
abbrev dktX1_possible_1 : List UInt8 := dkwX1_possible_1 ++ dktX1_possible_2
def dkwX1_possible_0 : List UInt8 := [27, 4, 8, 184, 0, 1, 153, 0, 17, 28, 4, 16, 16, 184, 0, 1, 153, 0, 7, 4, 167, 0, 4, 3]
abbrev dktX1_possible_0 : List UInt8 := dkwX1_possible_0 ++ dktX1_possible_1
theorem dksX1_possible_0 : cX1_possible.data.toList.drop 0 = dktX1_possible_0 := by decide +kernel
theorem dksX1_possible_1 : cX1_possible.data.toList.drop 24 = dktX1_possible_1 := dk_seg dksX1_possible_0 24 rfl rfl
theorem dksX1_possible_2 : cX1_possible.data.toList.drop 46 = dktX1_possible_2 := dk_seg dksX1_possible_1 22 rfl rfl
theorem dksX1_possible_3 : cX1_possible.data.toList.drop 70 = dktX1_possible_3 := dk_seg dksX1_possible_2 24 rfl rfl
theorem dksX1_possible_4 : cX1_possible.data.toList.drop 94 = dktX1_possible_4 := dk_seg dksX1_possible_3 24 rfl rfl
theorem dX1_possible_0 : decode cX1_possible 0 = .ok (.iload_n 1, 1) := dk_27 (dk_at dksX1_possible_0 0 rfl rfl)
theorem dX1_possible_1 : decode cX1_possible 1 = .ok (.iconst 1, 1) := dk_4 (dk_at dksX1_possible_0 1 rfl rfl)
theorem dX1_possible_2 : decode cX1_possible 2 = .ok (.iconst 5, 1) := dk_8 (dk_at dksX1_possible_0 2 rfl rfl)
theorem dX1_possible_3 : decode cX1_possible 3 = .ok (.invokestatic 1, 3) := dk_184 0 1 (dk_at dksX1_possible_0 3 rfl rfl)
theorem dX1_possible_6 : decode cX1_possible 6 = .ok (.ifCond .eq 17, 3) := dk_153 0 17 (dk_at dksX1_possible_0 6 rfl rfl)
theorem dX1_possible_9 : decode cX1_possible 9 = .ok (.iload_n 2, 1) := dk_28 (dk_at dksX1_possible_0 9 rfl rfl)
theorem dX1_possible_10 : decode cX1_possible 10 = .ok (.iconst 1, 1) := dk_4 (dk_at dksX1_possible_0 10 rfl rfl)
theorem dX1_possible_11 : decode cX1_possible 11 = .ok (.bipush 16, 2) := dk_16 16 (dk_at dksX1_possible_0 11 rfl rfl)
theorem dX1_possible_13 : decode cX1_possible 13 = .ok (.invokestatic 1, 3) := dk_184 0 1 (dk_at dksX1_possible_0 13 rfl rfl)
theorem dX1_possible_16 : decode cX1_possible 16 = .ok (.ifCond .eq 7, 3) := dk_153 0 7 (dk_at dksX1_possible_0 16 rfl rfl)
theorem dX1_possible_19 : decode cX1_possible 19 = .ok (.iconst 1, 1) := dk_4 (dk_at dksX1_possible_0 19 rfl rfl)
theorem dX1_possible_20 : decode cX1_possible 20 = .ok (.goto 4, 3) := dk_167 0 4 (dk_at dksX1_possible_0 20 rfl rfl)
theorem dX1_possible_23 : decode cX1_possible 23 = .ok (.iconst 0, 1) := dk_3 (dk_at dksX1_possible_0 23 rfl rfl)
theorem dX1_possible_24 : decode cX1_possible 24 = .ok (.invokestatic 78, 3) := dk_184 0 78 (dk_at dksX1_possible_1 0 rfl rfl)
theorem dX1_possible_27 : decode cX1_possible 27 = .ok (.new 148, 3) := dk_187 0 148 (dk_at dksX1_possible_1 3 rfl rfl)
theorem dX1_possible_30 : decode cX1_possible 30 = .ok (.dup, 1) := dk_89 (dk_at dksX1_possible_1 6 rfl rfl)
theorem dX1_possible_31 : decode cX1_possible 31 = .ok (.aload_n 0, 1) := dk_42 (dk_at dksX1_possible_1 7 rfl rfl)
theorem dX1_possible_32 : decode cX1_possible 32 = .ok (.iload_n 2, 1) := dk_28 (dk_at dksX1_possible_1 8 rfl rfl)
theorem dX1_possible_33 : decode cX1_possible 33 = .ok (.invokespecial 150, 3) := dk_183 0 150 (dk_at dksX1_possible_1 9 rfl rfl)
theorem dX1_possible_36 : decode cX1_possible 36 = .ok (.astore_n 3, 1) := dk_78 (dk_at dksX1_possible_1 12 rfl rfl)
theorem dX1_possible_37 : decode cX1_possible 37 = .ok (.iconst 0, 1) := dk_3 (dk_at dksX1_possible_1 13 rfl rfl)
theorem dX1_possible_38 : decode cX1_possible 38 = .ok (.istore 4, 2) := dk_54 4 (dk_at dksX1_possible_1 14 rfl rfl)
theorem dX1_possible_40 : decode cX1_possible 40 = .ok (.iconst 0, 1) := dk_3 (dk_at dksX1_possible_1 16 rfl rfl)
theorem dX1_possible_41 : decode cX1_possible 41 = .ok (.istore 5, 2) := dk_54 5 (dk_at dksX1_possible_1 17 rfl rfl)
theorem dX1_possible_43 : decode cX1_possible 43 = .ok (.iload 5, 2) := dk_21 5 (dk_at dksX1_possible_1 19 rfl rfl)
theorem dX1_possible_45 : decode cX1_possible 45 = .ok (.aload_n 0, 1) := dk_42 (dk_at dksX1_possible_1 21 rfl rfl)
theorem dX1_possible_46 : decode cX1_possible 46 = .ok (.getfield 34, 3) := dk_180 0 34 (dk_at dksX1_possible_2 0 rfl rfl)
theorem dX1_possible_49 : decode cX1_possible 49 = .ok (.invokevirtual 57, 3) := dk_182 0 57 (dk_at dksX1_possible_2 3 rfl rfl)
theorem dX1_possible_52 : decode cX1_possible 52 = .ok (.if_icmp .ge 54, 3) := dk_162 0 54 (dk_at dksX1_possible_2 6 rfl rfl)
theorem dX1_possible_55 : decode cX1_possible 55 = .ok (.iconst 0, 1) := dk_3 (dk_at dksX1_possible_2 9 rfl rfl)
theorem dX1_possible_56 : decode cX1_possible 56 = .ok (.istore 6, 2) := dk_54 6 (dk_at dksX1_possible_2 10 rfl rfl)
theorem dX1_possible_58 : decode cX1_possible 58 = .ok (.iload 6, 2) := dk_21 6 (dk_at dksX1_possible_2 12 rfl rfl)
theorem dX1_possible_60 : decode cX1_possible 60 = .ok (.iload_n 1, 1) := dk_27 (dk_at dksX1_possible_2 14 rfl rfl)
theorem dX1_possible_61 : decode cX1_possible 61 = .ok (.if_icmp .ge 39, 3) := dk_162 0 39 (dk_at dksX1_possible_2 15 rfl rfl)
theorem dX1_possible_64 : decode cX1_possible 64 = .ok (.aload_n 0, 1) := dk_42 (dk_at dksX1_possible_2 18 rfl rfl)
theorem dX1_possible_65 : decode cX1_possible 65 = .ok (.getfield 34, 3) := dk_180 0 34 (dk_at dksX1_possible_2 19 rfl rfl)
theorem dX1_possible_68 : decode cX1_possible 68 = .ok (.iload 5, 2) := dk_21 5 (dk_at dksX1_possible_2 22 rfl rfl)
theorem dX1_possible_70 : decode cX1_possible 70 = .ok (.invokevirtual 64, 3) := dk_182 0 64 (dk_at dksX1_possible_3 0 rfl rfl)
theorem dX1_possible_73 : decode cX1_possible 73 = .ok (.checkcast 68, 3) := dk_192 0 68 (dk_at dksX1_possible_3 3 rfl rfl)
theorem dX1_possible_76 : decode cX1_possible 76 = .ok (.getfield 74, 3) := dk_180 0 74 (dk_at dksX1_possible_3 6 rfl rfl)
theorem dX1_possible_79 : decode cX1_possible 79 = .ok (.ifnull 21, 3) := dk_198 0 21 (dk_at dksX1_possible_3 9 rfl rfl)
theorem dX1_possible_82 : decode cX1_possible 82 = .ok (.aload_n 3, 1) := dk_45 (dk_at dksX1_possible_3 12 rfl rfl)
theorem dX1_possible_83 : decode cX1_possible 83 = .ok (.iload 5, 2) := dk_21 5 (dk_at dksX1_possible_3 13 rfl rfl)
theorem dX1_possible_85 : decode cX1_possible 85 = .ok (.invokevirtual 153, 3) := dk_182 0 153 (dk_at dksX1_possible_3 15 rfl rfl)
theorem dX1_possible_88 : decode cX1_possible 88 = .ok (.ifCond .eq 6, 3) := dk_153 0 6 (dk_at dksX1_possible_3 18 rfl rfl)
theorem dX1_possible_91 : decode cX1_possible 91 = .ok (.iinc 4 1, 3) := dk_132 4 1 (dk_at dksX1_possible_3 21 rfl rfl)
theorem dX1_possible_94 : decode cX1_possible 94 = .ok (.iinc 6 1, 3) := dk_132 6 1 (dk_at dksX1_possible_4 0 rfl rfl)
theorem dX1_possible_97 : decode cX1_possible 97 = .ok (.goto (-39), 3) := dk_167 255 217 (dk_at dksX1_possible_4 3 rfl rfl)
theorem dX1_possible_100 : decode cX1_possible 100 = .ok (.iinc 5 1, 3) := dk_132 5 1 (dk_at dksX1_possible_4 6 rfl rfl)
theorem dX1_possible_103 : decode cX1_possible 103 = .ok (.goto (-60), 3) := dk_167 255 196 (dk_at dksX1_possible_4 9 rfl rfl)
theorem dX1_possible_106 : decode cX1_possible 106 = .ok (.iload 4, 2) := dk_21 4 (dk_at dksX1_possible_4 12 rfl rfl)
theorem dX1_possible_108 : decode cX1_possible 108 = .ok (.ireturn, 1) := dk_172 (dk_at dksX1_possible_4 14 rfl rfl)
abbrev cX1_calibrate : ByteArray := prog_1_method_22_code
def yX1_calibrate : MethodName := ⟨RX1, "calibrate", "(III)I"⟩
def dkwX1_calibrate_4 : List UInt8 := [180, 0, 169, 172]
abbrev dktX1_calibrate_4 : List UInt8 := dkwX1_calibrate_4 ++ []
def dkwX1_calibrate_3 : List UInt8 := [25, 4, 89, 180, 0, 157, 4, 96, 181, 0, 157, 25, 4, 25, 4, 182, 0, 166, 181, 0, 169, 25, 4]
abbrev dktX1_calibrate_3 : List UInt8 := dkwX1_calibrate_3 ++ dktX1_calibrate_4
def dkwX1_calibrate_2 : List UInt8 := [167, 0, 4, 3, 184, 0, 82, 25, 4, 89, 180, 0, 160, 28, 29, 100, 184, 0, 163, 96, 181, 0, 160]
abbrev dktX1_calibrate_2 : List UInt8 := dkwX1_calibrate_2 ++ dktX1_calibrate_3
def dkwX1_calibrate_1 : List UInt8 := [153, 0, 7, 4, 167, 0, 4, 3, 184, 0, 78, 25, 4, 180, 0, 157, 16, 8, 162, 0, 7, 4]
abbrev dktX1_calibrate_1 : List UInt8 := dkwX1_calibrate_1 ++ dktX1_calibrate_2
def dkwX1_calibrate_0 : List UInt8 := [42, 27, 182, 0, 70, 58, 4, 28, 3, 16, 100, 184, 0, 1, 153, 0, 17, 29, 3, 16, 100, 184, 0, 1]
abbrev dktX1_calibrate_0 : List UInt8 := dkwX1_calibrate_0 ++ dktX1_calibrate_1
theorem dksX1_calibrate_0 : cX1_calibrate.data.toList.drop 0 = dktX1_calibrate_0 := by decide +kernel
theorem dksX1_calibrate_1 : cX1_calibrate.data.toList.drop 24 = dktX1_calibrate_1 := dk_seg dksX1_calibrate_0 24 rfl rfl
theorem dksX1_calibrate_2 : cX1_calibrate.data.toList.drop 46 = dktX1_calibrate_2 := dk_seg dksX1_calibrate_1 22 rfl rfl
theorem dksX1_calibrate_3 : cX1_calibrate.data.toList.drop 69 = dktX1_calibrate_3 := dk_seg dksX1_calibrate_2 23 rfl rfl
theorem dksX1_calibrate_4 : cX1_calibrate.data.toList.drop 92 = dktX1_calibrate_4 := dk_seg dksX1_calibrate_3 23 rfl rfl
theorem dX1_calibrate_0 : decode cX1_calibrate 0 = .ok (.aload_n 0, 1) := dk_42 (dk_at dksX1_calibrate_0 0 rfl rfl)
theorem dX1_calibrate_1 : decode cX1_calibrate 1 = .ok (.iload_n 1, 1) := dk_27 (dk_at dksX1_calibrate_0 1 rfl rfl)
theorem dX1_calibrate_2 : decode cX1_calibrate 2 = .ok (.invokevirtual 70, 3) := dk_182 0 70 (dk_at dksX1_calibrate_0 2 rfl rfl)
theorem dX1_calibrate_5 : decode cX1_calibrate 5 = .ok (.astore 4, 2) := dk_58 4 (dk_at dksX1_calibrate_0 5 rfl rfl)
theorem dX1_calibrate_7 : decode cX1_calibrate 7 = .ok (.iload_n 2, 1) := dk_28 (dk_at dksX1_calibrate_0 7 rfl rfl)
theorem dX1_calibrate_8 : decode cX1_calibrate 8 = .ok (.iconst 0, 1) := dk_3 (dk_at dksX1_calibrate_0 8 rfl rfl)
theorem dX1_calibrate_9 : decode cX1_calibrate 9 = .ok (.bipush 100, 2) := dk_16 100 (dk_at dksX1_calibrate_0 9 rfl rfl)
theorem dX1_calibrate_11 : decode cX1_calibrate 11 = .ok (.invokestatic 1, 3) := dk_184 0 1 (dk_at dksX1_calibrate_0 11 rfl rfl)
theorem dX1_calibrate_14 : decode cX1_calibrate 14 = .ok (.ifCond .eq 17, 3) := dk_153 0 17 (dk_at dksX1_calibrate_0 14 rfl rfl)
theorem dX1_calibrate_17 : decode cX1_calibrate 17 = .ok (.iload_n 3, 1) := dk_29 (dk_at dksX1_calibrate_0 17 rfl rfl)
theorem dX1_calibrate_18 : decode cX1_calibrate 18 = .ok (.iconst 0, 1) := dk_3 (dk_at dksX1_calibrate_0 18 rfl rfl)
theorem dX1_calibrate_19 : decode cX1_calibrate 19 = .ok (.bipush 100, 2) := dk_16 100 (dk_at dksX1_calibrate_0 19 rfl rfl)
theorem dX1_calibrate_21 : decode cX1_calibrate 21 = .ok (.invokestatic 1, 3) := dk_184 0 1 (dk_at dksX1_calibrate_0 21 rfl rfl)
theorem dX1_calibrate_24 : decode cX1_calibrate 24 = .ok (.ifCond .eq 7, 3) := dk_153 0 7 (dk_at dksX1_calibrate_1 0 rfl rfl)
theorem dX1_calibrate_27 : decode cX1_calibrate 27 = .ok (.iconst 1, 1) := dk_4 (dk_at dksX1_calibrate_1 3 rfl rfl)
theorem dX1_calibrate_28 : decode cX1_calibrate 28 = .ok (.goto 4, 3) := dk_167 0 4 (dk_at dksX1_calibrate_1 4 rfl rfl)
theorem dX1_calibrate_31 : decode cX1_calibrate 31 = .ok (.iconst 0, 1) := dk_3 (dk_at dksX1_calibrate_1 7 rfl rfl)
theorem dX1_calibrate_32 : decode cX1_calibrate 32 = .ok (.invokestatic 78, 3) := dk_184 0 78 (dk_at dksX1_calibrate_1 8 rfl rfl)
theorem dX1_calibrate_35 : decode cX1_calibrate 35 = .ok (.aload 4, 2) := dk_25 4 (dk_at dksX1_calibrate_1 11 rfl rfl)
theorem dX1_calibrate_37 : decode cX1_calibrate 37 = .ok (.getfield 157, 3) := dk_180 0 157 (dk_at dksX1_calibrate_1 13 rfl rfl)
theorem dX1_calibrate_40 : decode cX1_calibrate 40 = .ok (.bipush 8, 2) := dk_16 8 (dk_at dksX1_calibrate_1 16 rfl rfl)
theorem dX1_calibrate_42 : decode cX1_calibrate 42 = .ok (.if_icmp .ge 7, 3) := dk_162 0 7 (dk_at dksX1_calibrate_1 18 rfl rfl)
theorem dX1_calibrate_45 : decode cX1_calibrate 45 = .ok (.iconst 1, 1) := dk_4 (dk_at dksX1_calibrate_1 21 rfl rfl)
theorem dX1_calibrate_46 : decode cX1_calibrate 46 = .ok (.goto 4, 3) := dk_167 0 4 (dk_at dksX1_calibrate_2 0 rfl rfl)
theorem dX1_calibrate_49 : decode cX1_calibrate 49 = .ok (.iconst 0, 1) := dk_3 (dk_at dksX1_calibrate_2 3 rfl rfl)
theorem dX1_calibrate_50 : decode cX1_calibrate 50 = .ok (.invokestatic 82, 3) := dk_184 0 82 (dk_at dksX1_calibrate_2 4 rfl rfl)
theorem dX1_calibrate_53 : decode cX1_calibrate 53 = .ok (.aload 4, 2) := dk_25 4 (dk_at dksX1_calibrate_2 7 rfl rfl)
theorem dX1_calibrate_55 : decode cX1_calibrate 55 = .ok (.dup, 1) := dk_89 (dk_at dksX1_calibrate_2 9 rfl rfl)
theorem dX1_calibrate_56 : decode cX1_calibrate 56 = .ok (.getfield 160, 3) := dk_180 0 160 (dk_at dksX1_calibrate_2 10 rfl rfl)
theorem dX1_calibrate_59 : decode cX1_calibrate 59 = .ok (.iload_n 2, 1) := dk_28 (dk_at dksX1_calibrate_2 13 rfl rfl)
theorem dX1_calibrate_60 : decode cX1_calibrate 60 = .ok (.iload_n 3, 1) := dk_29 (dk_at dksX1_calibrate_2 14 rfl rfl)
theorem dX1_calibrate_61 : decode cX1_calibrate 61 = .ok (.isub, 1) := dk_100 (dk_at dksX1_calibrate_2 15 rfl rfl)
theorem dX1_calibrate_62 : decode cX1_calibrate 62 = .ok (.invokestatic 163, 3) := dk_184 0 163 (dk_at dksX1_calibrate_2 16 rfl rfl)
theorem dX1_calibrate_65 : decode cX1_calibrate 65 = .ok (.iadd, 1) := dk_96 (dk_at dksX1_calibrate_2 19 rfl rfl)
theorem dX1_calibrate_66 : decode cX1_calibrate 66 = .ok (.putfield 160, 3) := dk_181 0 160 (dk_at dksX1_calibrate_2 20 rfl rfl)
theorem dX1_calibrate_69 : decode cX1_calibrate 69 = .ok (.aload 4, 2) := dk_25 4 (dk_at dksX1_calibrate_3 0 rfl rfl)
theorem dX1_calibrate_71 : decode cX1_calibrate 71 = .ok (.dup, 1) := dk_89 (dk_at dksX1_calibrate_3 2 rfl rfl)
theorem dX1_calibrate_72 : decode cX1_calibrate 72 = .ok (.getfield 157, 3) := dk_180 0 157 (dk_at dksX1_calibrate_3 3 rfl rfl)
theorem dX1_calibrate_75 : decode cX1_calibrate 75 = .ok (.iconst 1, 1) := dk_4 (dk_at dksX1_calibrate_3 6 rfl rfl)
theorem dX1_calibrate_76 : decode cX1_calibrate 76 = .ok (.iadd, 1) := dk_96 (dk_at dksX1_calibrate_3 7 rfl rfl)
theorem dX1_calibrate_77 : decode cX1_calibrate 77 = .ok (.putfield 157, 3) := dk_181 0 157 (dk_at dksX1_calibrate_3 8 rfl rfl)
theorem dX1_calibrate_80 : decode cX1_calibrate 80 = .ok (.aload 4, 2) := dk_25 4 (dk_at dksX1_calibrate_3 11 rfl rfl)
theorem dX1_calibrate_82 : decode cX1_calibrate 82 = .ok (.aload 4, 2) := dk_25 4 (dk_at dksX1_calibrate_3 13 rfl rfl)
theorem dX1_calibrate_84 : decode cX1_calibrate 84 = .ok (.invokevirtual 166, 3) := dk_182 0 166 (dk_at dksX1_calibrate_3 15 rfl rfl)
theorem dX1_calibrate_87 : decode cX1_calibrate 87 = .ok (.putfield 169, 3) := dk_181 0 169 (dk_at dksX1_calibrate_3 18 rfl rfl)
theorem dX1_calibrate_90 : decode cX1_calibrate 90 = .ok (.aload 4, 2) := dk_25 4 (dk_at dksX1_calibrate_3 21 rfl rfl)
theorem dX1_calibrate_92 : decode cX1_calibrate 92 = .ok (.getfield 169, 3) := dk_180 0 169 (dk_at dksX1_calibrate_4 0 rfl rfl)
theorem dX1_calibrate_95 : decode cX1_calibrate 95 = .ok (.ireturn, 1) := dk_172 (dk_at dksX1_calibrate_4 3 rfl rfl)
abbrev cX1_weightOf : ByteArray := prog_1_method_23_code
def yX1_weightOf : MethodName := ⟨RX1, "weightOf", "(I)I"⟩
def dkwX1_weightOf_0 : List UInt8 := [42, 27, 182, 0, 70, 180, 0, 169, 172]
abbrev dktX1_weightOf_0 : List UInt8 := dkwX1_weightOf_0 ++ []
theorem dksX1_weightOf_0 : cX1_weightOf.data.toList.drop 0 = dktX1_weightOf_0 := by decide +kernel
theorem dX1_weightOf_0 : decode cX1_weightOf 0 = .ok (.aload_n 0, 1) := dk_42 (dk_at dksX1_weightOf_0 0 rfl rfl)
theorem dX1_weightOf_1 : decode cX1_weightOf 1 = .ok (.iload_n 1, 1) := dk_27 (dk_at dksX1_weightOf_0 1 rfl rfl)
theorem dX1_weightOf_2 : decode cX1_weightOf 2 = .ok (.invokevirtual 70, 3) := dk_182 0 70 (dk_at dksX1_weightOf_0 2 rfl rfl)
theorem dX1_weightOf_5 : decode cX1_weightOf 5 = .ok (.getfield 169, 3) := dk_180 0 169 (dk_at dksX1_weightOf_0 5 rfl rfl)
theorem dX1_weightOf_8 : decode cX1_weightOf 8 = .ok (.ireturn, 1) := dk_172 (dk_at dksX1_weightOf_0 8 rfl rfl)
abbrev cX1_settle : ByteArray := prog_1_method_26_code
def yX1_settle : MethodName := ⟨RX1, "settle", "(I)I"⟩
def dkwX1_settle_3 : List UInt8 := [167, 255, 224, 42, 25, 4, 182, 0, 183, 154, 0, 5, 28, 172, 132, 2, 1, 167, 255, 183, 27, 172]
abbrev dktX1_settle_3 : List UInt8 := dkwX1_settle_3 ++ []
def dkwX1_settle_2 : List UInt8 := [21, 5, 42, 180, 0, 34, 21, 5, 182, 0, 64, 192, 0, 68, 45, 182, 0, 179, 79, 132, 5, 1]
abbrev dktX1_settle_2 : List UInt8 := dkwX1_settle_2 ++ dktX1_settle_3
def dkwX1_settle_1 : List UInt8 := [180, 0, 34, 182, 0, 57, 188, 10, 58, 4, 3, 54, 5, 21, 5, 25, 4, 190, 162, 0, 30, 25, 4]
abbrev dktX1_settle_1 : List UInt8 := dkwX1_settle_1 ++ dktX1_settle_2
def dkwX1_settle_0 : List UInt8 := [27, 4, 16, 20, 184, 0, 1, 184, 0, 78, 3, 61, 28, 27, 162, 0, 74, 42, 182, 0, 175, 78, 42]
abbrev dktX1_settle_0 : List UInt8 := dkwX1_settle_0 ++ dktX1_settle_1
theorem dksX1_settle_0 : cX1_settle.data.toList.drop 0 = dktX1_settle_0 := by decide +kernel
theorem dksX1_settle_1 : cX1_settle.data.toList.drop 23 = dktX1_settle_1 := dk_seg dksX1_settle_0 23 rfl rfl
theorem dksX1_settle_2 : cX1_settle.data.toList.drop 46 = dktX1_settle_2 := dk_seg dksX1_settle_1 23 rfl rfl
theorem dksX1_settle_3 : cX1_settle.data.toList.drop 68 = dktX1_settle_3 := dk_seg dksX1_settle_2 22 rfl rfl
theorem dX1_settle_0 : decode cX1_settle 0 = .ok (.iload_n 1, 1) := dk_27 (dk_at dksX1_settle_0 0 rfl rfl)
theorem dX1_settle_1 : decode cX1_settle 1 = .ok (.iconst 1, 1) := dk_4 (dk_at dksX1_settle_0 1 rfl rfl)
theorem dX1_settle_2 : decode cX1_settle 2 = .ok (.bipush 20, 2) := dk_16 20 (dk_at dksX1_settle_0 2 rfl rfl)
theorem dX1_settle_4 : decode cX1_settle 4 = .ok (.invokestatic 1, 3) := dk_184 0 1 (dk_at dksX1_settle_0 4 rfl rfl)
theorem dX1_settle_7 : decode cX1_settle 7 = .ok (.invokestatic 78, 3) := dk_184 0 78 (dk_at dksX1_settle_0 7 rfl rfl)
theorem dX1_settle_10 : decode cX1_settle 10 = .ok (.iconst 0, 1) := dk_3 (dk_at dksX1_settle_0 10 rfl rfl)
theorem dX1_settle_11 : decode cX1_settle 11 = .ok (.istore_n 2, 1) := dk_61 (dk_at dksX1_settle_0 11 rfl rfl)
theorem dX1_settle_12 : decode cX1_settle 12 = .ok (.iload_n 2, 1) := dk_28 (dk_at dksX1_settle_0 12 rfl rfl)
theorem dX1_settle_13 : decode cX1_settle 13 = .ok (.iload_n 1, 1) := dk_27 (dk_at dksX1_settle_0 13 rfl rfl)
theorem dX1_settle_14 : decode cX1_settle 14 = .ok (.if_icmp .ge 74, 3) := dk_162 0 74 (dk_at dksX1_settle_0 14 rfl rfl)
theorem dX1_settle_17 : decode cX1_settle 17 = .ok (.aload_n 0, 1) := dk_42 (dk_at dksX1_settle_0 17 rfl rfl)
theorem dX1_settle_18 : decode cX1_settle 18 = .ok (.invokevirtual 175, 3) := dk_182 0 175 (dk_at dksX1_settle_0 18 rfl rfl)
theorem dX1_settle_21 : decode cX1_settle 21 = .ok (.astore_n 3, 1) := dk_78 (dk_at dksX1_settle_0 21 rfl rfl)
theorem dX1_settle_22 : decode cX1_settle 22 = .ok (.aload_n 0, 1) := dk_42 (dk_at dksX1_settle_0 22 rfl rfl)
theorem dX1_settle_23 : decode cX1_settle 23 = .ok (.getfield 34, 3) := dk_180 0 34 (dk_at dksX1_settle_1 0 rfl rfl)
theorem dX1_settle_26 : decode cX1_settle 26 = .ok (.invokevirtual 57, 3) := dk_182 0 57 (dk_at dksX1_settle_1 3 rfl rfl)
theorem dX1_settle_29 : decode cX1_settle 29 = .ok (.newarray .int, 2) := dk_188_10 (dk_at dksX1_settle_1 6 rfl rfl)
theorem dX1_settle_31 : decode cX1_settle 31 = .ok (.astore 4, 2) := dk_58 4 (dk_at dksX1_settle_1 8 rfl rfl)
theorem dX1_settle_33 : decode cX1_settle 33 = .ok (.iconst 0, 1) := dk_3 (dk_at dksX1_settle_1 10 rfl rfl)
theorem dX1_settle_34 : decode cX1_settle 34 = .ok (.istore 5, 2) := dk_54 5 (dk_at dksX1_settle_1 11 rfl rfl)
theorem dX1_settle_36 : decode cX1_settle 36 = .ok (.iload 5, 2) := dk_21 5 (dk_at dksX1_settle_1 13 rfl rfl)
theorem dX1_settle_38 : decode cX1_settle 38 = .ok (.aload 4, 2) := dk_25 4 (dk_at dksX1_settle_1 15 rfl rfl)
theorem dX1_settle_40 : decode cX1_settle 40 = .ok (.arraylength, 1) := dk_190 (dk_at dksX1_settle_1 17 rfl rfl)
theorem dX1_settle_41 : decode cX1_settle 41 = .ok (.if_icmp .ge 30, 3) := dk_162 0 30 (dk_at dksX1_settle_1 18 rfl rfl)
theorem dX1_settle_44 : decode cX1_settle 44 = .ok (.aload 4, 2) := dk_25 4 (dk_at dksX1_settle_1 21 rfl rfl)
theorem dX1_settle_46 : decode cX1_settle 46 = .ok (.iload 5, 2) := dk_21 5 (dk_at dksX1_settle_2 0 rfl rfl)
theorem dX1_settle_48 : decode cX1_settle 48 = .ok (.aload_n 0, 1) := dk_42 (dk_at dksX1_settle_2 2 rfl rfl)
theorem dX1_settle_49 : decode cX1_settle 49 = .ok (.getfield 34, 3) := dk_180 0 34 (dk_at dksX1_settle_2 3 rfl rfl)
theorem dX1_settle_52 : decode cX1_settle 52 = .ok (.iload 5, 2) := dk_21 5 (dk_at dksX1_settle_2 6 rfl rfl)
theorem dX1_settle_54 : decode cX1_settle 54 = .ok (.invokevirtual 64, 3) := dk_182 0 64 (dk_at dksX1_settle_2 8 rfl rfl)
theorem dX1_settle_57 : decode cX1_settle 57 = .ok (.checkcast 68, 3) := dk_192 0 68 (dk_at dksX1_settle_2 11 rfl rfl)
theorem dX1_settle_60 : decode cX1_settle 60 = .ok (.aload_n 3, 1) := dk_45 (dk_at dksX1_settle_2 14 rfl rfl)
theorem dX1_settle_61 : decode cX1_settle 61 = .ok (.invokevirtual 179, 3) := dk_182 0 179 (dk_at dksX1_settle_2 15 rfl rfl)
theorem dX1_settle_64 : decode cX1_settle 64 = .ok (.iastore, 1) := dk_79 (dk_at dksX1_settle_2 18 rfl rfl)
theorem dX1_settle_65 : decode cX1_settle 65 = .ok (.iinc 5 1, 3) := dk_132 5 1 (dk_at dksX1_settle_2 19 rfl rfl)
theorem dX1_settle_68 : decode cX1_settle 68 = .ok (.goto (-32), 3) := dk_167 255 224 (dk_at dksX1_settle_3 0 rfl rfl)
theorem dX1_settle_71 : decode cX1_settle 71 = .ok (.aload_n 0, 1) := dk_42 (dk_at dksX1_settle_3 3 rfl rfl)
theorem dX1_settle_72 : decode cX1_settle 72 = .ok (.aload 4, 2) := dk_25 4 (dk_at dksX1_settle_3 4 rfl rfl)
theorem dX1_settle_74 : decode cX1_settle 74 = .ok (.invokevirtual 183, 3) := dk_182 0 183 (dk_at dksX1_settle_3 6 rfl rfl)
theorem dX1_settle_77 : decode cX1_settle 77 = .ok (.ifCond .ne 5, 3) := dk_154 0 5 (dk_at dksX1_settle_3 9 rfl rfl)
theorem dX1_settle_80 : decode cX1_settle 80 = .ok (.iload_n 2, 1) := dk_28 (dk_at dksX1_settle_3 12 rfl rfl)
theorem dX1_settle_81 : decode cX1_settle 81 = .ok (.ireturn, 1) := dk_172 (dk_at dksX1_settle_3 13 rfl rfl)
theorem dX1_settle_82 : decode cX1_settle 82 = .ok (.iinc 2 1, 3) := dk_132 2 1 (dk_at dksX1_settle_3 14 rfl rfl)
theorem dX1_settle_85 : decode cX1_settle 85 = .ok (.goto (-73), 3) := dk_167 255 183 (dk_at dksX1_settle_3 17 rfl rfl)
theorem dX1_settle_88 : decode cX1_settle 88 = .ok (.iload_n 1, 1) := dk_27 (dk_at dksX1_settle_3 20 rfl rfl)
theorem dX1_settle_89 : decode cX1_settle 89 = .ok (.ireturn, 1) := dk_172 (dk_at dksX1_settle_3 21 rfl rfl)
abbrev cX1_review : ByteArray := prog_1_method_28_code
def yX1_review : MethodName := ⟨RX1, "review", "(IIII)I"⟩
def dkwX1_review_5 : List UInt8 := [192, 0, 202, 58, 7, 25, 6, 180, 0, 189, 182, 0, 214, 172]
abbrev dktX1_review_5 : List UInt8 := dkwX1_review_5 ++ []
def dkwX1_review_4 : List UInt8 := [21, 4, 25, 6, 180, 0, 204, 27, 160, 0, 7, 4, 167, 0, 4, 3, 183, 0, 207, 182, 0, 210]
abbrev dktX1_review_4 : List UInt8 := dkwX1_review_4 ++ dktX1_review_5
def dkwX1_review_3 : List UInt8 := [167, 0, 4, 3, 184, 0, 82, 25, 6, 180, 0, 189, 27, 184, 0, 193, 187, 0, 202, 89, 42, 25, 5, 29]
abbrev dktX1_review_3 : List UInt8 := dkwX1_review_3 ++ dktX1_review_4
def dkwX1_review_2 : List UInt8 := [182, 0, 186, 153, 0, 22, 25, 6, 180, 0, 189, 27, 184, 0, 193, 182, 0, 197, 154, 0, 7, 4]
abbrev dktX1_review_2 : List UInt8 := dkwX1_review_2 ++ dktX1_review_3
def dkwX1_review_1 : List UInt8 := [21, 4, 3, 16, 99, 184, 0, 1, 153, 0, 7, 4, 167, 0, 4, 3, 184, 0, 78, 25, 6, 25, 5]
abbrev dktX1_review_1 : List UInt8 := dkwX1_review_1 ++ dktX1_review_2
def dkwX1_review_0 : List UInt8 := [42, 27, 182, 0, 70, 58, 5, 42, 28, 182, 0, 139, 58, 6, 29, 3, 16, 100, 184, 0, 1, 153, 0, 18]
abbrev dktX1_review_0 : List UInt8 := dkwX1_review_0 ++ dktX1_review_1
theorem dksX1_review_0 : cX1_review.data.toList.drop 0 = dktX1_review_0 := by decide +kernel
theorem dksX1_review_1 : cX1_review.data.toList.drop 24 = dktX1_review_1 := dk_seg dksX1_review_0 24 rfl rfl
theorem dksX1_review_2 : cX1_review.data.toList.drop 47 = dktX1_review_2 := dk_seg dksX1_review_1 23 rfl rfl
theorem dksX1_review_3 : cX1_review.data.toList.drop 69 = dktX1_review_3 := dk_seg dksX1_review_2 22 rfl rfl
theorem dksX1_review_4 : cX1_review.data.toList.drop 93 = dktX1_review_4 := dk_seg dksX1_review_3 24 rfl rfl
theorem dksX1_review_5 : cX1_review.data.toList.drop 115 = dktX1_review_5 := dk_seg dksX1_review_4 22 rfl rfl
theorem dX1_review_0 : decode cX1_review 0 = .ok (.aload_n 0, 1) := dk_42 (dk_at dksX1_review_0 0 rfl rfl)
theorem dX1_review_1 : decode cX1_review 1 = .ok (.iload_n 1, 1) := dk_27 (dk_at dksX1_review_0 1 rfl rfl)
theorem dX1_review_2 : decode cX1_review 2 = .ok (.invokevirtual 70, 3) := dk_182 0 70 (dk_at dksX1_review_0 2 rfl rfl)
theorem dX1_review_5 : decode cX1_review 5 = .ok (.astore 5, 2) := dk_58 5 (dk_at dksX1_review_0 5 rfl rfl)
theorem dX1_review_7 : decode cX1_review 7 = .ok (.aload_n 0, 1) := dk_42 (dk_at dksX1_review_0 7 rfl rfl)
theorem dX1_review_8 : decode cX1_review 8 = .ok (.iload_n 2, 1) := dk_28 (dk_at dksX1_review_0 8 rfl rfl)
theorem dX1_review_9 : decode cX1_review 9 = .ok (.invokevirtual 139, 3) := dk_182 0 139 (dk_at dksX1_review_0 9 rfl rfl)
theorem dX1_review_12 : decode cX1_review 12 = .ok (.astore 6, 2) := dk_58 6 (dk_at dksX1_review_0 12 rfl rfl)
theorem dX1_review_14 : decode cX1_review 14 = .ok (.iload_n 3, 1) := dk_29 (dk_at dksX1_review_0 14 rfl rfl)
theorem dX1_review_15 : decode cX1_review 15 = .ok (.iconst 0, 1) := dk_3 (dk_at dksX1_review_0 15 rfl rfl)
theorem dX1_review_16 : decode cX1_review 16 = .ok (.bipush 100, 2) := dk_16 100 (dk_at dksX1_review_0 16 rfl rfl)
theorem dX1_review_18 : decode cX1_review 18 = .ok (.invokestatic 1, 3) := dk_184 0 1 (dk_at dksX1_review_0 18 rfl rfl)
theorem dX1_review_21 : decode cX1_review 21 = .ok (.ifCond .eq 18, 3) := dk_153 0 18 (dk_at dksX1_review_0 21 rfl rfl)
theorem dX1_review_24 : decode cX1_review 24 = .ok (.iload 4, 2) := dk_21 4 (dk_at dksX1_review_1 0 rfl rfl)
theorem dX1_review_26 : decode cX1_review 26 = .ok (.iconst 0, 1) := dk_3 (dk_at dksX1_review_1 2 rfl rfl)
theorem dX1_review_27 : decode cX1_review 27 = .ok (.bipush 99, 2) := dk_16 99 (dk_at dksX1_review_1 3 rfl rfl)
theorem dX1_review_29 : decode cX1_review 29 = .ok (.invokestatic 1, 3) := dk_184 0 1 (dk_at dksX1_review_1 5 rfl rfl)
theorem dX1_review_32 : decode cX1_review 32 = .ok (.ifCond .eq 7, 3) := dk_153 0 7 (dk_at dksX1_review_1 8 rfl rfl)
theorem dX1_review_35 : decode cX1_review 35 = .ok (.iconst 1, 1) := dk_4 (dk_at dksX1_review_1 11 rfl rfl)
theorem dX1_review_36 : decode cX1_review 36 = .ok (.goto 4, 3) := dk_167 0 4 (dk_at dksX1_review_1 12 rfl rfl)
theorem dX1_review_39 : decode cX1_review 39 = .ok (.iconst 0, 1) := dk_3 (dk_at dksX1_review_1 15 rfl rfl)
theorem dX1_review_40 : decode cX1_review 40 = .ok (.invokestatic 78, 3) := dk_184 0 78 (dk_at dksX1_review_1 16 rfl rfl)
theorem dX1_review_43 : decode cX1_review 43 = .ok (.aload 6, 2) := dk_25 6 (dk_at dksX1_review_1 19 rfl rfl)
theorem dX1_review_45 : decode cX1_review 45 = .ok (.aload 5, 2) := dk_25 5 (dk_at dksX1_review_1 21 rfl rfl)
theorem dX1_review_47 : decode cX1_review 47 = .ok (.invokevirtual 186, 3) := dk_182 0 186 (dk_at dksX1_review_2 0 rfl rfl)
theorem dX1_review_50 : decode cX1_review 50 = .ok (.ifCond .eq 22, 3) := dk_153 0 22 (dk_at dksX1_review_2 3 rfl rfl)
theorem dX1_review_53 : decode cX1_review 53 = .ok (.aload 6, 2) := dk_25 6 (dk_at dksX1_review_2 6 rfl rfl)
theorem dX1_review_55 : decode cX1_review 55 = .ok (.getfield 189, 3) := dk_180 0 189 (dk_at dksX1_review_2 8 rfl rfl)
theorem dX1_review_58 : decode cX1_review 58 = .ok (.iload_n 1, 1) := dk_27 (dk_at dksX1_review_2 11 rfl rfl)
theorem dX1_review_59 : decode cX1_review 59 = .ok (.invokestatic 193, 3) := dk_184 0 193 (dk_at dksX1_review_2 12 rfl rfl)
theorem dX1_review_62 : decode cX1_review 62 = .ok (.invokevirtual 197, 3) := dk_182 0 197 (dk_at dksX1_review_2 15 rfl rfl)
theorem dX1_review_65 : decode cX1_review 65 = .ok (.ifCond .ne 7, 3) := dk_154 0 7 (dk_at dksX1_review_2 18 rfl rfl)
theorem dX1_review_68 : decode cX1_review 68 = .ok (.iconst 1, 1) := dk_4 (dk_at dksX1_review_2 21 rfl rfl)
theorem dX1_review_69 : decode cX1_review 69 = .ok (.goto 4, 3) := dk_167 0 4 (dk_at dksX1_review_3 0 rfl rfl)
theorem dX1_review_72 : decode cX1_review 72 = .ok (.iconst 0, 1) := dk_3 (dk_at dksX1_review_3 3 rfl rfl)
theorem dX1_review_73 : decode cX1_review 73 = .ok (.invokestatic 82, 3) := dk_184 0 82 (dk_at dksX1_review_3 4 rfl rfl)
theorem dX1_review_76 : decode cX1_review 76 = .ok (.aload 6, 2) := dk_25 6 (dk_at dksX1_review_3 7 rfl rfl)
theorem dX1_review_78 : decode cX1_review 78 = .ok (.getfield 189, 3) := dk_180 0 189 (dk_at dksX1_review_3 9 rfl rfl)
theorem dX1_review_81 : decode cX1_review 81 = .ok (.iload_n 1, 1) := dk_27 (dk_at dksX1_review_3 12 rfl rfl)
theorem dX1_review_82 : decode cX1_review 82 = .ok (.invokestatic 193, 3) := dk_184 0 193 (dk_at dksX1_review_3 13 rfl rfl)
theorem dX1_review_85 : decode cX1_review 85 = .ok (.new 202, 3) := dk_187 0 202 (dk_at dksX1_review_3 16 rfl rfl)
theorem dX1_review_88 : decode cX1_review 88 = .ok (.dup, 1) := dk_89 (dk_at dksX1_review_3 19 rfl rfl)
theorem dX1_review_89 : decode cX1_review 89 = .ok (.aload_n 0, 1) := dk_42 (dk_at dksX1_review_3 20 rfl rfl)
theorem dX1_review_90 : decode cX1_review 90 = .ok (.aload 5, 2) := dk_25 5 (dk_at dksX1_review_3 21 rfl rfl)
theorem dX1_review_92 : decode cX1_review 92 = .ok (.iload_n 3, 1) := dk_29 (dk_at dksX1_review_3 23 rfl rfl)
theorem dX1_review_93 : decode cX1_review 93 = .ok (.iload 4, 2) := dk_21 4 (dk_at dksX1_review_4 0 rfl rfl)
theorem dX1_review_95 : decode cX1_review 95 = .ok (.aload 6, 2) := dk_25 6 (dk_at dksX1_review_4 2 rfl rfl)
theorem dX1_review_97 : decode cX1_review 97 = .ok (.getfield 204, 3) := dk_180 0 204 (dk_at dksX1_review_4 4 rfl rfl)
theorem dX1_review_100 : decode cX1_review 100 = .ok (.iload_n 1, 1) := dk_27 (dk_at dksX1_review_4 7 rfl rfl)
theorem dX1_review_101 : decode cX1_review 101 = .ok (.if_icmp .ne 7, 3) := dk_160 0 7 (dk_at dksX1_review_4 8 rfl rfl)
theorem dX1_review_104 : decode cX1_review 104 = .ok (.iconst 1, 1) := dk_4 (dk_at dksX1_review_4 11 rfl rfl)
theorem dX1_review_105 : decode cX1_review 105 = .ok (.goto 4, 3) := dk_167 0 4 (dk_at dksX1_review_4 12 rfl rfl)
theorem dX1_review_108 : decode cX1_review 108 = .ok (.iconst 0, 1) := dk_3 (dk_at dksX1_review_4 15 rfl rfl)
theorem dX1_review_109 : decode cX1_review 109 = .ok (.invokespecial 207, 3) := dk_183 0 207 (dk_at dksX1_review_4 16 rfl rfl)
theorem dX1_review_112 : decode cX1_review 112 = .ok (.invokevirtual 210, 3) := dk_182 0 210 (dk_at dksX1_review_4 19 rfl rfl)
theorem dX1_review_115 : decode cX1_review 115 = .ok (.checkcast 202, 3) := dk_192 0 202 (dk_at dksX1_review_5 0 rfl rfl)
theorem dX1_review_118 : decode cX1_review 118 = .ok (.astore 7, 2) := dk_58 7 (dk_at dksX1_review_5 3 rfl rfl)
theorem dX1_review_120 : decode cX1_review 120 = .ok (.aload 6, 2) := dk_25 6 (dk_at dksX1_review_5 5 rfl rfl)
theorem dX1_review_122 : decode cX1_review 122 = .ok (.getfield 189, 3) := dk_180 0 189 (dk_at dksX1_review_5 7 rfl rfl)
theorem dX1_review_125 : decode cX1_review 125 = .ok (.invokevirtual 214, 3) := dk_182 0 214 (dk_at dksX1_review_5 10 rfl rfl)
theorem dX1_review_128 : decode cX1_review 128 = .ok (.ireturn, 1) := dk_172 (dk_at dksX1_review_5 13 rfl rfl)
abbrev cX1_reviews : ByteArray := prog_1_method_29_code
def yX1_reviews : MethodName := ⟨RX1, "reviews", "(I)I"⟩
def dkwX1_reviews_0 : List UInt8 := [42, 27, 182, 0, 139, 180, 0, 189, 182, 0, 214, 172]
abbrev dktX1_reviews_0 : List UInt8 := dkwX1_reviews_0 ++ []
theorem dksX1_reviews_0 : cX1_reviews.data.toList.drop 0 = dktX1_reviews_0 := by decide +kernel
theorem dX1_reviews_0 : decode cX1_reviews 0 = .ok (.aload_n 0, 1) := dk_42 (dk_at dksX1_reviews_0 0 rfl rfl)
theorem dX1_reviews_1 : decode cX1_reviews 1 = .ok (.iload_n 1, 1) := dk_27 (dk_at dksX1_reviews_0 1 rfl rfl)
theorem dX1_reviews_2 : decode cX1_reviews 2 = .ok (.invokevirtual 139, 3) := dk_182 0 139 (dk_at dksX1_reviews_0 2 rfl rfl)
theorem dX1_reviews_5 : decode cX1_reviews 5 = .ok (.getfield 189, 3) := dk_180 0 189 (dk_at dksX1_reviews_0 5 rfl rfl)
theorem dX1_reviews_8 : decode cX1_reviews 8 = .ok (.invokevirtual 214, 3) := dk_182 0 214 (dk_at dksX1_reviews_0 8 rfl rfl)
theorem dX1_reviews_11 : decode cX1_reviews 11 = .ok (.ireturn, 1) := dk_172 (dk_at dksX1_reviews_0 11 rfl rfl)
abbrev cX1_countsOf : ByteArray := prog_1_method_30_code
def yX1_countsOf : MethodName := ⟨RX1, "countsOf", "(II)I"⟩
def dkwX1_countsOf_1 : List UInt8 := [192, 0, 202, 58, 4, 25, 4, 199, 0, 7, 3, 167, 0, 8, 25, 4, 182, 0, 218, 172]
abbrev dktX1_countsOf_1 : List UInt8 := dkwX1_countsOf_1 ++ []
def dkwX1_countsOf_0 : List UInt8 := [42, 27, 182, 0, 70, 78, 42, 28, 182, 0, 139, 180, 0, 189, 45, 180, 0, 142, 184, 0, 193, 182, 0, 215]
abbrev dktX1_countsOf_0 : List UInt8 := dkwX1_countsOf_0 ++ dktX1_countsOf_1
theorem dksX1_countsOf_0 : cX1_countsOf.data.toList.drop 0 = dktX1_countsOf_0 := by decide +kernel
theorem dksX1_countsOf_1 : cX1_countsOf.data.toList.drop 24 = dktX1_countsOf_1 := dk_seg dksX1_countsOf_0 24 rfl rfl
theorem dX1_countsOf_0 : decode cX1_countsOf 0 = .ok (.aload_n 0, 1) := dk_42 (dk_at dksX1_countsOf_0 0 rfl rfl)
theorem dX1_countsOf_1 : decode cX1_countsOf 1 = .ok (.iload_n 1, 1) := dk_27 (dk_at dksX1_countsOf_0 1 rfl rfl)
theorem dX1_countsOf_2 : decode cX1_countsOf 2 = .ok (.invokevirtual 70, 3) := dk_182 0 70 (dk_at dksX1_countsOf_0 2 rfl rfl)
theorem dX1_countsOf_5 : decode cX1_countsOf 5 = .ok (.astore_n 3, 1) := dk_78 (dk_at dksX1_countsOf_0 5 rfl rfl)
theorem dX1_countsOf_6 : decode cX1_countsOf 6 = .ok (.aload_n 0, 1) := dk_42 (dk_at dksX1_countsOf_0 6 rfl rfl)
theorem dX1_countsOf_7 : decode cX1_countsOf 7 = .ok (.iload_n 2, 1) := dk_28 (dk_at dksX1_countsOf_0 7 rfl rfl)
theorem dX1_countsOf_8 : decode cX1_countsOf 8 = .ok (.invokevirtual 139, 3) := dk_182 0 139 (dk_at dksX1_countsOf_0 8 rfl rfl)
theorem dX1_countsOf_11 : decode cX1_countsOf 11 = .ok (.getfield 189, 3) := dk_180 0 189 (dk_at dksX1_countsOf_0 11 rfl rfl)
theorem dX1_countsOf_14 : decode cX1_countsOf 14 = .ok (.aload_n 3, 1) := dk_45 (dk_at dksX1_countsOf_0 14 rfl rfl)
theorem dX1_countsOf_15 : decode cX1_countsOf 15 = .ok (.getfield 142, 3) := dk_180 0 142 (dk_at dksX1_countsOf_0 15 rfl rfl)
theorem dX1_countsOf_18 : decode cX1_countsOf 18 = .ok (.invokestatic 193, 3) := dk_184 0 193 (dk_at dksX1_countsOf_0 18 rfl rfl)
theorem dX1_countsOf_21 : decode cX1_countsOf 21 = .ok (.invokevirtual 215, 3) := dk_182 0 215 (dk_at dksX1_countsOf_0 21 rfl rfl)
theorem dX1_countsOf_24 : decode cX1_countsOf 24 = .ok (.checkcast 202, 3) := dk_192 0 202 (dk_at dksX1_countsOf_1 0 rfl rfl)
theorem dX1_countsOf_27 : decode cX1_countsOf 27 = .ok (.astore 4, 2) := dk_58 4 (dk_at dksX1_countsOf_1 3 rfl rfl)
theorem dX1_countsOf_29 : decode cX1_countsOf 29 = .ok (.aload 4, 2) := dk_25 4 (dk_at dksX1_countsOf_1 5 rfl rfl)
theorem dX1_countsOf_31 : decode cX1_countsOf 31 = .ok (.ifnonnull 7, 3) := dk_199 0 7 (dk_at dksX1_countsOf_1 7 rfl rfl)
theorem dX1_countsOf_34 : decode cX1_countsOf 34 = .ok (.iconst 0, 1) := dk_3 (dk_at dksX1_countsOf_1 10 rfl rfl)
theorem dX1_countsOf_35 : decode cX1_countsOf 35 = .ok (.goto 8, 3) := dk_167 0 8 (dk_at dksX1_countsOf_1 11 rfl rfl)
theorem dX1_countsOf_38 : decode cX1_countsOf 38 = .ok (.aload 4, 2) := dk_25 4 (dk_at dksX1_countsOf_1 14 rfl rfl)
theorem dX1_countsOf_40 : decode cX1_countsOf 40 = .ok (.invokevirtual 218, 3) := dk_182 0 218 (dk_at dksX1_countsOf_1 16 rfl rfl)
theorem dX1_countsOf_43 : decode cX1_countsOf 43 = .ok (.ireturn, 1) := dk_172 (dk_at dksX1_countsOf_1 19 rfl rfl)
abbrev cX1_outliers : ByteArray := prog_1_method_31_code
def yX1_outliers : MethodName := ⟨RX1, "outliers", "(I)I"⟩
def dkwX1_outliers_0 : List UInt8 := [42, 27, 182, 0, 139, 182, 0, 221, 172]
abbrev dktX1_outliers_0 : List UInt8 := dkwX1_outliers_0 ++ []
theorem dksX1_outliers_0 : cX1_outliers.data.toList.drop 0 = dktX1_outliers_0 := by decide +kernel
theorem dX1_outliers_0 : decode cX1_outliers 0 = .ok (.aload_n 0, 1) := dk_42 (dk_at dksX1_outliers_0 0 rfl rfl)
theorem dX1_outliers_1 : decode cX1_outliers 1 = .ok (.iload_n 1, 1) := dk_27 (dk_at dksX1_outliers_0 1 rfl rfl)
theorem dX1_outliers_2 : decode cX1_outliers 2 = .ok (.invokevirtual 139, 3) := dk_182 0 139 (dk_at dksX1_outliers_0 2 rfl rfl)
theorem dX1_outliers_5 : decode cX1_outliers 5 = .ok (.invokevirtual 221, 3) := dk_182 0 221 (dk_at dksX1_outliers_0 5 rfl rfl)
theorem dX1_outliers_8 : decode cX1_outliers 8 = .ok (.ireturn, 1) := dk_172 (dk_at dksX1_outliers_0 8 rfl rfl)
abbrev cX1_markOf : ByteArray := prog_1_method_32_code
def yX1_markOf : MethodName := ⟨RX1, "markOf", "(I)I"⟩
def dkwX1_markOf_0 : List UInt8 := [42, 27, 182, 0, 139, 182, 0, 172, 61, 28, 2, 159, 0, 7, 4, 167, 0, 4, 3, 184, 0, 224, 28, 172]
abbrev dktX1_markOf_0 : List UInt8 := dkwX1_markOf_0 ++ []
theorem dksX1_markOf_0 : cX1_markOf.data.toList.drop 0 = dktX1_markOf_0 := by decide +kernel
theorem dX1_markOf_0 : decode cX1_markOf 0 = .ok (.aload_n 0, 1) := dk_42 (dk_at dksX1_markOf_0 0 rfl rfl)
theorem dX1_markOf_1 : decode cX1_markOf 1 = .ok (.iload_n 1, 1) := dk_27 (dk_at dksX1_markOf_0 1 rfl rfl)
theorem dX1_markOf_2 : decode cX1_markOf 2 = .ok (.invokevirtual 139, 3) := dk_182 0 139 (dk_at dksX1_markOf_0 2 rfl rfl)
theorem dX1_markOf_5 : decode cX1_markOf 5 = .ok (.invokevirtual 172, 3) := dk_182 0 172 (dk_at dksX1_markOf_0 5 rfl rfl)
theorem dX1_markOf_8 : decode cX1_markOf 8 = .ok (.istore_n 2, 1) := dk_61 (dk_at dksX1_markOf_0 8 rfl rfl)
theorem dX1_markOf_9 : decode cX1_markOf 9 = .ok (.iload_n 2, 1) := dk_28 (dk_at dksX1_markOf_0 9 rfl rfl)
theorem dX1_markOf_10 : decode cX1_markOf 10 = .ok (.iconst (-1), 1) := dk_2 (dk_at dksX1_markOf_0 10 rfl rfl)
theorem dX1_markOf_11 : decode cX1_markOf 11 = .ok (.if_icmp .eq 7, 3) := dk_159 0 7 (dk_at dksX1_markOf_0 11 rfl rfl)
theorem dX1_markOf_14 : decode cX1_markOf 14 = .ok (.iconst 1, 1) := dk_4 (dk_at dksX1_markOf_0 14 rfl rfl)
theorem dX1_markOf_15 : decode cX1_markOf 15 = .ok (.goto 4, 3) := dk_167 0 4 (dk_at dksX1_markOf_0 15 rfl rfl)
theorem dX1_markOf_18 : decode cX1_markOf 18 = .ok (.iconst 0, 1) := dk_3 (dk_at dksX1_markOf_0 18 rfl rfl)
theorem dX1_markOf_19 : decode cX1_markOf 19 = .ok (.invokestatic 224, 3) := dk_184 0 224 (dk_at dksX1_markOf_0 19 rfl rfl)
theorem dX1_markOf_22 : decode cX1_markOf 22 = .ok (.iload_n 2, 1) := dk_28 (dk_at dksX1_markOf_0 22 rfl rfl)
theorem dX1_markOf_23 : decode cX1_markOf 23 = .ok (.ireturn, 1) := dk_172 (dk_at dksX1_markOf_0 23 rfl rfl)
abbrev cX1_element : ByteArray := prog_1_method_5_code
def yX1_element : MethodName := ⟨RX1, "element", "(Z)V"⟩
def dkwX1_element_0 : List UInt8 := [26, 154, 0, 11, 187, 0, 19, 89, 183, 0, 21, 191, 177]
abbrev dktX1_element_0 : List UInt8 := dkwX1_element_0 ++ []
theorem dksX1_element_0 : cX1_element.data.toList.drop 0 = dktX1_element_0 := by decide +kernel
theorem dX1_element_0 : decode cX1_element 0 = .ok (.iload_n 0, 1) := dk_26 (dk_at dksX1_element_0 0 rfl rfl)
theorem dX1_element_1 : decode cX1_element 1 = .ok (.ifCond .ne 11, 3) := dk_154 0 11 (dk_at dksX1_element_0 1 rfl rfl)
theorem dX1_element_4 : decode cX1_element 4 = .ok (.new 19, 3) := dk_187 0 19 (dk_at dksX1_element_0 4 rfl rfl)
theorem dX1_element_7 : decode cX1_element 7 = .ok (.dup, 1) := dk_89 (dk_at dksX1_element_0 7 rfl rfl)
theorem dX1_element_8 : decode cX1_element 8 = .ok (.invokespecial 21, 3) := dk_183 0 21 (dk_at dksX1_element_0 8 rfl rfl)
theorem dX1_element_11 : decode cX1_element 11 = .ok (.athrow, 1) := dk_191 (dk_at dksX1_element_0 11 rfl rfl)
theorem dX1_element_12 : decode cX1_element 12 = .ok (.return_, 1) := dk_177 (dk_at dksX1_element_0 12 rfl rfl)
abbrev cX1_placeOf : ByteArray := prog_1_method_33_code
def yX1_placeOf : MethodName := ⟨RX1, "placeOf", "(I)I"⟩
def dkwX1_placeOf_2 : List UInt8 := [167, 255, 230, 29, 172]
abbrev dktX1_placeOf_2 : List UInt8 := dkwX1_placeOf_2 ++ []
def dkwX1_placeOf_1 : List UInt8 := [21, 5, 162, 0, 25, 25, 4, 21, 6, 46, 54, 7, 21, 7, 28, 164, 0, 6, 132, 3, 1, 132, 6, 1]
abbrev dktX1_placeOf_1 : List UInt8 := dkwX1_placeOf_1 ++ dktX1_placeOf_2
def dkwX1_placeOf_0 : List UInt8 := [42, 27, 182, 0, 227, 61, 4, 62, 42, 182, 0, 175, 58, 4, 25, 4, 190, 54, 5, 3, 54, 6, 21, 6]
abbrev dktX1_placeOf_0 : List UInt8 := dkwX1_placeOf_0 ++ dktX1_placeOf_1
theorem dksX1_placeOf_0 : cX1_placeOf.data.toList.drop 0 = dktX1_placeOf_0 := by decide +kernel
theorem dksX1_placeOf_1 : cX1_placeOf.data.toList.drop 24 = dktX1_placeOf_1 := dk_seg dksX1_placeOf_0 24 rfl rfl
theorem dksX1_placeOf_2 : cX1_placeOf.data.toList.drop 48 = dktX1_placeOf_2 := dk_seg dksX1_placeOf_1 24 rfl rfl
theorem dX1_placeOf_0 : decode cX1_placeOf 0 = .ok (.aload_n 0, 1) := dk_42 (dk_at dksX1_placeOf_0 0 rfl rfl)
theorem dX1_placeOf_1 : decode cX1_placeOf 1 = .ok (.iload_n 1, 1) := dk_27 (dk_at dksX1_placeOf_0 1 rfl rfl)
theorem dX1_placeOf_2 : decode cX1_placeOf 2 = .ok (.invokevirtual 227, 3) := dk_182 0 227 (dk_at dksX1_placeOf_0 2 rfl rfl)
theorem dX1_placeOf_5 : decode cX1_placeOf 5 = .ok (.istore_n 2, 1) := dk_61 (dk_at dksX1_placeOf_0 5 rfl rfl)
theorem dX1_placeOf_6 : decode cX1_placeOf 6 = .ok (.iconst 1, 1) := dk_4 (dk_at dksX1_placeOf_0 6 rfl rfl)
theorem dX1_placeOf_7 : decode cX1_placeOf 7 = .ok (.istore_n 3, 1) := dk_62 (dk_at dksX1_placeOf_0 7 rfl rfl)
theorem dX1_placeOf_8 : decode cX1_placeOf 8 = .ok (.aload_n 0, 1) := dk_42 (dk_at dksX1_placeOf_0 8 rfl rfl)
theorem dX1_placeOf_9 : decode cX1_placeOf 9 = .ok (.invokevirtual 175, 3) := dk_182 0 175 (dk_at dksX1_placeOf_0 9 rfl rfl)
theorem dX1_placeOf_12 : decode cX1_placeOf 12 = .ok (.astore 4, 2) := dk_58 4 (dk_at dksX1_placeOf_0 12 rfl rfl)
theorem dX1_placeOf_14 : decode cX1_placeOf 14 = .ok (.aload 4, 2) := dk_25 4 (dk_at dksX1_placeOf_0 14 rfl rfl)
theorem dX1_placeOf_16 : decode cX1_placeOf 16 = .ok (.arraylength, 1) := dk_190 (dk_at dksX1_placeOf_0 16 rfl rfl)
theorem dX1_placeOf_17 : decode cX1_placeOf 17 = .ok (.istore 5, 2) := dk_54 5 (dk_at dksX1_placeOf_0 17 rfl rfl)
theorem dX1_placeOf_19 : decode cX1_placeOf 19 = .ok (.iconst 0, 1) := dk_3 (dk_at dksX1_placeOf_0 19 rfl rfl)
theorem dX1_placeOf_20 : decode cX1_placeOf 20 = .ok (.istore 6, 2) := dk_54 6 (dk_at dksX1_placeOf_0 20 rfl rfl)
theorem dX1_placeOf_22 : decode cX1_placeOf 22 = .ok (.iload 6, 2) := dk_21 6 (dk_at dksX1_placeOf_0 22 rfl rfl)
theorem dX1_placeOf_24 : decode cX1_placeOf 24 = .ok (.iload 5, 2) := dk_21 5 (dk_at dksX1_placeOf_1 0 rfl rfl)
theorem dX1_placeOf_26 : decode cX1_placeOf 26 = .ok (.if_icmp .ge 25, 3) := dk_162 0 25 (dk_at dksX1_placeOf_1 2 rfl rfl)
theorem dX1_placeOf_29 : decode cX1_placeOf 29 = .ok (.aload 4, 2) := dk_25 4 (dk_at dksX1_placeOf_1 5 rfl rfl)
theorem dX1_placeOf_31 : decode cX1_placeOf 31 = .ok (.iload 6, 2) := dk_21 6 (dk_at dksX1_placeOf_1 7 rfl rfl)
theorem dX1_placeOf_33 : decode cX1_placeOf 33 = .ok (.iaload, 1) := dk_46 (dk_at dksX1_placeOf_1 9 rfl rfl)
theorem dX1_placeOf_34 : decode cX1_placeOf 34 = .ok (.istore 7, 2) := dk_54 7 (dk_at dksX1_placeOf_1 10 rfl rfl)
theorem dX1_placeOf_36 : decode cX1_placeOf 36 = .ok (.iload 7, 2) := dk_21 7 (dk_at dksX1_placeOf_1 12 rfl rfl)
theorem dX1_placeOf_38 : decode cX1_placeOf 38 = .ok (.iload_n 2, 1) := dk_28 (dk_at dksX1_placeOf_1 14 rfl rfl)
theorem dX1_placeOf_39 : decode cX1_placeOf 39 = .ok (.if_icmp .le 6, 3) := dk_164 0 6 (dk_at dksX1_placeOf_1 15 rfl rfl)
theorem dX1_placeOf_42 : decode cX1_placeOf 42 = .ok (.iinc 3 1, 3) := dk_132 3 1 (dk_at dksX1_placeOf_1 18 rfl rfl)
theorem dX1_placeOf_45 : decode cX1_placeOf 45 = .ok (.iinc 6 1, 3) := dk_132 6 1 (dk_at dksX1_placeOf_1 21 rfl rfl)
theorem dX1_placeOf_48 : decode cX1_placeOf 48 = .ok (.goto (-26), 3) := dk_167 255 230 (dk_at dksX1_placeOf_2 0 rfl rfl)
theorem dX1_placeOf_51 : decode cX1_placeOf 51 = .ok (.iload_n 3, 1) := dk_29 (dk_at dksX1_placeOf_2 3 rfl rfl)
theorem dX1_placeOf_52 : decode cX1_placeOf 52 = .ok (.ireturn, 1) := dk_172 (dk_at dksX1_placeOf_2 4 rfl rfl)
abbrev cX1_gradeOf : ByteArray := prog_1_method_34_code
def yX1_gradeOf : MethodName := ⟨RX1, "gradeOf", "(I)I"⟩
def dkwX1_gradeOf_1 : List UInt8 := [182, 0, 172, 184, 0, 22, 62, 7, 29, 104, 16, 10, 44, 180, 0, 169, 104, 96, 8, 108, 172]
abbrev dktX1_gradeOf_1 : List UInt8 := dkwX1_gradeOf_1 ++ []
def dkwX1_gradeOf_0 : List UInt8 := [42, 27, 182, 0, 70, 77, 44, 180, 0, 74, 199, 0, 7, 3, 167, 0, 14, 3, 44, 180, 0, 74]
abbrev dktX1_gradeOf_0 : List UInt8 := dkwX1_gradeOf_0 ++ dktX1_gradeOf_1
theorem dksX1_gradeOf_0 : cX1_gradeOf.data.toList.drop 0 = dktX1_gradeOf_0 := by decide +kernel
theorem dksX1_gradeOf_1 : cX1_gradeOf.data.toList.drop 22 = dktX1_gradeOf_1 := dk_seg dksX1_gradeOf_0 22 rfl rfl
theorem dX1_gradeOf_0 : decode cX1_gradeOf 0 = .ok (.aload_n 0, 1) := dk_42 (dk_at dksX1_gradeOf_0 0 rfl rfl)
theorem dX1_gradeOf_1 : decode cX1_gradeOf 1 = .ok (.iload_n 1, 1) := dk_27 (dk_at dksX1_gradeOf_0 1 rfl rfl)
theorem dX1_gradeOf_2 : decode cX1_gradeOf 2 = .ok (.invokevirtual 70, 3) := dk_182 0 70 (dk_at dksX1_gradeOf_0 2 rfl rfl)
theorem dX1_gradeOf_5 : decode cX1_gradeOf 5 = .ok (.astore_n 2, 1) := dk_77 (dk_at dksX1_gradeOf_0 5 rfl rfl)
theorem dX1_gradeOf_6 : decode cX1_gradeOf 6 = .ok (.aload_n 2, 1) := dk_44 (dk_at dksX1_gradeOf_0 6 rfl rfl)
theorem dX1_gradeOf_7 : decode cX1_gradeOf 7 = .ok (.getfield 74, 3) := dk_180 0 74 (dk_at dksX1_gradeOf_0 7 rfl rfl)
theorem dX1_gradeOf_10 : decode cX1_gradeOf 10 = .ok (.ifnonnull 7, 3) := dk_199 0 7 (dk_at dksX1_gradeOf_0 10 rfl rfl)
theorem dX1_gradeOf_13 : decode cX1_gradeOf 13 = .ok (.iconst 0, 1) := dk_3 (dk_at dksX1_gradeOf_0 13 rfl rfl)
theorem dX1_gradeOf_14 : decode cX1_gradeOf 14 = .ok (.goto 14, 3) := dk_167 0 14 (dk_at dksX1_gradeOf_0 14 rfl rfl)
theorem dX1_gradeOf_17 : decode cX1_gradeOf 17 = .ok (.iconst 0, 1) := dk_3 (dk_at dksX1_gradeOf_0 17 rfl rfl)
theorem dX1_gradeOf_18 : decode cX1_gradeOf 18 = .ok (.aload_n 2, 1) := dk_44 (dk_at dksX1_gradeOf_0 18 rfl rfl)
theorem dX1_gradeOf_19 : decode cX1_gradeOf 19 = .ok (.getfield 74, 3) := dk_180 0 74 (dk_at dksX1_gradeOf_0 19 rfl rfl)
theorem dX1_gradeOf_22 : decode cX1_gradeOf 22 = .ok (.invokevirtual 172, 3) := dk_182 0 172 (dk_at dksX1_gradeOf_1 0 rfl rfl)
theorem dX1_gradeOf_25 : decode cX1_gradeOf 25 = .ok (.invokestatic 22, 3) := dk_184 0 22 (dk_at dksX1_gradeOf_1 3 rfl rfl)
theorem dX1_gradeOf_28 : decode cX1_gradeOf 28 = .ok (.istore_n 3, 1) := dk_62 (dk_at dksX1_gradeOf_1 6 rfl rfl)
theorem dX1_gradeOf_29 : decode cX1_gradeOf 29 = .ok (.iconst 4, 1) := dk_7 (dk_at dksX1_gradeOf_1 7 rfl rfl)
theorem dX1_gradeOf_30 : decode cX1_gradeOf 30 = .ok (.iload_n 3, 1) := dk_29 (dk_at dksX1_gradeOf_1 8 rfl rfl)
theorem dX1_gradeOf_31 : decode cX1_gradeOf 31 = .ok (.imul, 1) := dk_104 (dk_at dksX1_gradeOf_1 9 rfl rfl)
theorem dX1_gradeOf_32 : decode cX1_gradeOf 32 = .ok (.bipush 10, 2) := dk_16 10 (dk_at dksX1_gradeOf_1 10 rfl rfl)
theorem dX1_gradeOf_34 : decode cX1_gradeOf 34 = .ok (.aload_n 2, 1) := dk_44 (dk_at dksX1_gradeOf_1 12 rfl rfl)
theorem dX1_gradeOf_35 : decode cX1_gradeOf 35 = .ok (.getfield 169, 3) := dk_180 0 169 (dk_at dksX1_gradeOf_1 13 rfl rfl)
theorem dX1_gradeOf_38 : decode cX1_gradeOf 38 = .ok (.imul, 1) := dk_104 (dk_at dksX1_gradeOf_1 16 rfl rfl)
theorem dX1_gradeOf_39 : decode cX1_gradeOf 39 = .ok (.iadd, 1) := dk_96 (dk_at dksX1_gradeOf_1 17 rfl rfl)
theorem dX1_gradeOf_40 : decode cX1_gradeOf 40 = .ok (.iconst 5, 1) := dk_8 (dk_at dksX1_gradeOf_1 18 rfl rfl)
theorem dX1_gradeOf_41 : decode cX1_gradeOf 41 = .ok (.idiv, 1) := dk_108 (dk_at dksX1_gradeOf_1 19 rfl rfl)
theorem dX1_gradeOf_42 : decode cX1_gradeOf 42 = .ok (.ireturn, 1) := dk_172 (dk_at dksX1_gradeOf_1 20 rfl rfl)
abbrev cX1_missing : ByteArray := prog_1_method_35_code
def yX1_missing : MethodName := ⟨RX1, "missing", "(I)I"⟩
def dkwX1_missing_3 : List UInt8 := [25, 4, 180, 0, 74, 180, 0, 189, 182, 0, 214, 100, 96, 61, 167, 255, 194, 28, 172]
abbrev dktX1_missing_3 : List UInt8 := dkwX1_missing_3 ++ []
def dkwX1_missing_2 : List UInt8 := [198, 0, 37, 27, 42, 180, 0, 38, 164, 0, 29, 28, 25, 4, 180, 0, 74, 180, 0, 123, 184, 0, 126]
abbrev dktX1_missing_2 : List UInt8 := dkwX1_missing_2 ++ dktX1_missing_3
def dkwX1_missing_1 : List UInt8 := [185, 0, 104, 1, 0, 153, 0, 59, 45, 185, 0, 110, 1, 0, 192, 0, 68, 58, 4, 25, 4, 180, 0, 74]
abbrev dktX1_missing_1 : List UInt8 := dkwX1_missing_1 ++ dktX1_missing_2
def dkwX1_missing_0 : List UInt8 := [27, 3, 16, 99, 184, 0, 1, 184, 0, 78, 3, 61, 42, 180, 0, 34, 182, 0, 100, 78, 45]
abbrev dktX1_missing_0 : List UInt8 := dkwX1_missing_0 ++ dktX1_missing_1
theorem dksX1_missing_0 : cX1_missing.data.toList.drop 0 = dktX1_missing_0 := by decide +kernel
theorem dksX1_missing_1 : cX1_missing.data.toList.drop 21 = dktX1_missing_1 := dk_seg dksX1_missing_0 21 rfl rfl
theorem dksX1_missing_2 : cX1_missing.data.toList.drop 45 = dktX1_missing_2 := dk_seg dksX1_missing_1 24 rfl rfl
theorem dksX1_missing_3 : cX1_missing.data.toList.drop 68 = dktX1_missing_3 := dk_seg dksX1_missing_2 23 rfl rfl
theorem dX1_missing_0 : decode cX1_missing 0 = .ok (.iload_n 1, 1) := dk_27 (dk_at dksX1_missing_0 0 rfl rfl)
theorem dX1_missing_1 : decode cX1_missing 1 = .ok (.iconst 0, 1) := dk_3 (dk_at dksX1_missing_0 1 rfl rfl)
theorem dX1_missing_2 : decode cX1_missing 2 = .ok (.bipush 99, 2) := dk_16 99 (dk_at dksX1_missing_0 2 rfl rfl)
theorem dX1_missing_4 : decode cX1_missing 4 = .ok (.invokestatic 1, 3) := dk_184 0 1 (dk_at dksX1_missing_0 4 rfl rfl)
theorem dX1_missing_7 : decode cX1_missing 7 = .ok (.invokestatic 78, 3) := dk_184 0 78 (dk_at dksX1_missing_0 7 rfl rfl)
theorem dX1_missing_10 : decode cX1_missing 10 = .ok (.iconst 0, 1) := dk_3 (dk_at dksX1_missing_0 10 rfl rfl)
theorem dX1_missing_11 : decode cX1_missing 11 = .ok (.istore_n 2, 1) := dk_61 (dk_at dksX1_missing_0 11 rfl rfl)
theorem dX1_missing_12 : decode cX1_missing 12 = .ok (.aload_n 0, 1) := dk_42 (dk_at dksX1_missing_0 12 rfl rfl)
theorem dX1_missing_13 : decode cX1_missing 13 = .ok (.getfield 34, 3) := dk_180 0 34 (dk_at dksX1_missing_0 13 rfl rfl)
theorem dX1_missing_16 : decode cX1_missing 16 = .ok (.invokevirtual 100, 3) := dk_182 0 100 (dk_at dksX1_missing_0 16 rfl rfl)
theorem dX1_missing_19 : decode cX1_missing 19 = .ok (.astore_n 3, 1) := dk_78 (dk_at dksX1_missing_0 19 rfl rfl)
theorem dX1_missing_20 : decode cX1_missing 20 = .ok (.aload_n 3, 1) := dk_45 (dk_at dksX1_missing_0 20 rfl rfl)
theorem dX1_missing_21 : decode cX1_missing 21 = .ok (.invokeinterface 104 1, 5) := by decide +kernel
theorem dX1_missing_26 : decode cX1_missing 26 = .ok (.ifCond .eq 59, 3) := dk_153 0 59 (dk_at dksX1_missing_1 5 rfl rfl)
theorem dX1_missing_29 : decode cX1_missing 29 = .ok (.aload_n 3, 1) := dk_45 (dk_at dksX1_missing_1 8 rfl rfl)
theorem dX1_missing_30 : decode cX1_missing 30 = .ok (.invokeinterface 110 1, 5) := by decide +kernel
theorem dX1_missing_35 : decode cX1_missing 35 = .ok (.checkcast 68, 3) := dk_192 0 68 (dk_at dksX1_missing_1 14 rfl rfl)
theorem dX1_missing_38 : decode cX1_missing 38 = .ok (.astore 4, 2) := dk_58 4 (dk_at dksX1_missing_1 17 rfl rfl)
theorem dX1_missing_40 : decode cX1_missing 40 = .ok (.aload 4, 2) := dk_25 4 (dk_at dksX1_missing_1 19 rfl rfl)
theorem dX1_missing_42 : decode cX1_missing 42 = .ok (.getfield 74, 3) := dk_180 0 74 (dk_at dksX1_missing_1 21 rfl rfl)
theorem dX1_missing_45 : decode cX1_missing 45 = .ok (.ifnull 37, 3) := dk_198 0 37 (dk_at dksX1_missing_2 0 rfl rfl)
theorem dX1_missing_48 : decode cX1_missing 48 = .ok (.iload_n 1, 1) := dk_27 (dk_at dksX1_missing_2 3 rfl rfl)
theorem dX1_missing_49 : decode cX1_missing 49 = .ok (.aload_n 0, 1) := dk_42 (dk_at dksX1_missing_2 4 rfl rfl)
theorem dX1_missing_50 : decode cX1_missing 50 = .ok (.getfield 38, 3) := dk_180 0 38 (dk_at dksX1_missing_2 5 rfl rfl)
theorem dX1_missing_53 : decode cX1_missing 53 = .ok (.if_icmp .le 29, 3) := dk_164 0 29 (dk_at dksX1_missing_2 8 rfl rfl)
theorem dX1_missing_56 : decode cX1_missing 56 = .ok (.iload_n 2, 1) := dk_28 (dk_at dksX1_missing_2 11 rfl rfl)
theorem dX1_missing_57 : decode cX1_missing 57 = .ok (.aload 4, 2) := dk_25 4 (dk_at dksX1_missing_2 12 rfl rfl)
theorem dX1_missing_59 : decode cX1_missing 59 = .ok (.getfield 74, 3) := dk_180 0 74 (dk_at dksX1_missing_2 14 rfl rfl)
theorem dX1_missing_62 : decode cX1_missing 62 = .ok (.getfield 123, 3) := dk_180 0 123 (dk_at dksX1_missing_2 17 rfl rfl)
theorem dX1_missing_65 : decode cX1_missing 65 = .ok (.invokestatic 126, 3) := dk_184 0 126 (dk_at dksX1_missing_2 20 rfl rfl)
theorem dX1_missing_68 : decode cX1_missing 68 = .ok (.aload 4, 2) := dk_25 4 (dk_at dksX1_missing_3 0 rfl rfl)
theorem dX1_missing_70 : decode cX1_missing 70 = .ok (.getfield 74, 3) := dk_180 0 74 (dk_at dksX1_missing_3 2 rfl rfl)
theorem dX1_missing_73 : decode cX1_missing 73 = .ok (.getfield 189, 3) := dk_180 0 189 (dk_at dksX1_missing_3 5 rfl rfl)
theorem dX1_missing_76 : decode cX1_missing 76 = .ok (.invokevirtual 214, 3) := dk_182 0 214 (dk_at dksX1_missing_3 8 rfl rfl)
theorem dX1_missing_79 : decode cX1_missing 79 = .ok (.isub, 1) := dk_100 (dk_at dksX1_missing_3 11 rfl rfl)
theorem dX1_missing_80 : decode cX1_missing 80 = .ok (.iadd, 1) := dk_96 (dk_at dksX1_missing_3 12 rfl rfl)
theorem dX1_missing_81 : decode cX1_missing 81 = .ok (.istore_n 2, 1) := dk_61 (dk_at dksX1_missing_3 13 rfl rfl)
theorem dX1_missing_82 : decode cX1_missing 82 = .ok (.goto (-62), 3) := dk_167 255 194 (dk_at dksX1_missing_3 14 rfl rfl)
theorem dX1_missing_85 : decode cX1_missing 85 = .ok (.iload_n 2, 1) := dk_28 (dk_at dksX1_missing_3 17 rfl rfl)
theorem dX1_missing_86 : decode cX1_missing 86 = .ok (.ireturn, 1) := dk_172 (dk_at dksX1_missing_3 18 rfl rfl)
abbrev cX1_replace : ByteArray := prog_1_method_36_code
def yX1_replace : MethodName := ⟨RX1, "replace", "(III)I"⟩
def dkwX1_replace_4 : List UInt8 := [25, 6, 182, 0, 136, 25, 6, 180, 0, 142, 172]
abbrev dktX1_replace_4 : List UInt8 := dkwX1_replace_4 ++ []
def dkwX1_replace_3 : List UInt8 := [182, 0, 230, 42, 25, 5, 42, 180, 0, 49, 182, 0, 132, 58, 6, 25, 6, 199, 0, 5, 2, 172, 25, 5]
abbrev dktX1_replace_3 : List UInt8 := dkwX1_replace_3 ++ dktX1_replace_4
def dkwX1_replace_2 : List UInt8 := [154, 0, 15, 29, 42, 180, 0, 38, 164, 0, 7, 4, 167, 0, 4, 3, 184, 0, 82, 25, 5, 25, 4]
abbrev dktX1_replace_2 : List UInt8 := dkwX1_replace_2 ++ dktX1_replace_3
def dkwX1_replace_1 : List UInt8 := [25, 5, 25, 4, 182, 0, 186, 153, 0, 30, 25, 5, 180, 0, 189, 27, 184, 0, 193, 182, 0, 197]
abbrev dktX1_replace_1 : List UInt8 := dkwX1_replace_1 ++ dktX1_replace_2
def dkwX1_replace_0 : List UInt8 := [42, 27, 182, 0, 70, 58, 4, 42, 28, 182, 0, 139, 58, 5, 29, 3, 16, 99, 184, 0, 1, 184, 0, 78]
abbrev dktX1_replace_0 : List UInt8 := dkwX1_replace_0 ++ dktX1_replace_1
theorem dksX1_replace_0 : cX1_replace.data.toList.drop 0 = dktX1_replace_0 := by decide +kernel
theorem dksX1_replace_1 : cX1_replace.data.toList.drop 24 = dktX1_replace_1 := dk_seg dksX1_replace_0 24 rfl rfl
theorem dksX1_replace_2 : cX1_replace.data.toList.drop 46 = dktX1_replace_2 := dk_seg dksX1_replace_1 22 rfl rfl
theorem dksX1_replace_3 : cX1_replace.data.toList.drop 69 = dktX1_replace_3 := dk_seg dksX1_replace_2 23 rfl rfl
theorem dksX1_replace_4 : cX1_replace.data.toList.drop 93 = dktX1_replace_4 := dk_seg dksX1_replace_3 24 rfl rfl
theorem dX1_replace_0 : decode cX1_replace 0 = .ok (.aload_n 0, 1) := dk_42 (dk_at dksX1_replace_0 0 rfl rfl)
theorem dX1_replace_1 : decode cX1_replace 1 = .ok (.iload_n 1, 1) := dk_27 (dk_at dksX1_replace_0 1 rfl rfl)
theorem dX1_replace_2 : decode cX1_replace 2 = .ok (.invokevirtual 70, 3) := dk_182 0 70 (dk_at dksX1_replace_0 2 rfl rfl)
theorem dX1_replace_5 : decode cX1_replace 5 = .ok (.astore 4, 2) := dk_58 4 (dk_at dksX1_replace_0 5 rfl rfl)
theorem dX1_replace_7 : decode cX1_replace 7 = .ok (.aload_n 0, 1) := dk_42 (dk_at dksX1_replace_0 7 rfl rfl)
theorem dX1_replace_8 : decode cX1_replace 8 = .ok (.iload_n 2, 1) := dk_28 (dk_at dksX1_replace_0 8 rfl rfl)
theorem dX1_replace_9 : decode cX1_replace 9 = .ok (.invokevirtual 139, 3) := dk_182 0 139 (dk_at dksX1_replace_0 9 rfl rfl)
theorem dX1_replace_12 : decode cX1_replace 12 = .ok (.astore 5, 2) := dk_58 5 (dk_at dksX1_replace_0 12 rfl rfl)
theorem dX1_replace_14 : decode cX1_replace 14 = .ok (.iload_n 3, 1) := dk_29 (dk_at dksX1_replace_0 14 rfl rfl)
theorem dX1_replace_15 : decode cX1_replace 15 = .ok (.iconst 0, 1) := dk_3 (dk_at dksX1_replace_0 15 rfl rfl)
theorem dX1_replace_16 : decode cX1_replace 16 = .ok (.bipush 99, 2) := dk_16 99 (dk_at dksX1_replace_0 16 rfl rfl)
theorem dX1_replace_18 : decode cX1_replace 18 = .ok (.invokestatic 1, 3) := dk_184 0 1 (dk_at dksX1_replace_0 18 rfl rfl)
theorem dX1_replace_21 : decode cX1_replace 21 = .ok (.invokestatic 78, 3) := dk_184 0 78 (dk_at dksX1_replace_0 21 rfl rfl)
theorem dX1_replace_24 : decode cX1_replace 24 = .ok (.aload 5, 2) := dk_25 5 (dk_at dksX1_replace_1 0 rfl rfl)
theorem dX1_replace_26 : decode cX1_replace 26 = .ok (.aload 4, 2) := dk_25 4 (dk_at dksX1_replace_1 2 rfl rfl)
theorem dX1_replace_28 : decode cX1_replace 28 = .ok (.invokevirtual 186, 3) := dk_182 0 186 (dk_at dksX1_replace_1 4 rfl rfl)
theorem dX1_replace_31 : decode cX1_replace 31 = .ok (.ifCond .eq 30, 3) := dk_153 0 30 (dk_at dksX1_replace_1 7 rfl rfl)
theorem dX1_replace_34 : decode cX1_replace 34 = .ok (.aload 5, 2) := dk_25 5 (dk_at dksX1_replace_1 10 rfl rfl)
theorem dX1_replace_36 : decode cX1_replace 36 = .ok (.getfield 189, 3) := dk_180 0 189 (dk_at dksX1_replace_1 12 rfl rfl)
theorem dX1_replace_39 : decode cX1_replace 39 = .ok (.iload_n 1, 1) := dk_27 (dk_at dksX1_replace_1 15 rfl rfl)
theorem dX1_replace_40 : decode cX1_replace 40 = .ok (.invokestatic 193, 3) := dk_184 0 193 (dk_at dksX1_replace_1 16 rfl rfl)
theorem dX1_replace_43 : decode cX1_replace 43 = .ok (.invokevirtual 197, 3) := dk_182 0 197 (dk_at dksX1_replace_1 19 rfl rfl)
theorem dX1_replace_46 : decode cX1_replace 46 = .ok (.ifCond .ne 15, 3) := dk_154 0 15 (dk_at dksX1_replace_2 0 rfl rfl)
theorem dX1_replace_49 : decode cX1_replace 49 = .ok (.iload_n 3, 1) := dk_29 (dk_at dksX1_replace_2 3 rfl rfl)
theorem dX1_replace_50 : decode cX1_replace 50 = .ok (.aload_n 0, 1) := dk_42 (dk_at dksX1_replace_2 4 rfl rfl)
theorem dX1_replace_51 : decode cX1_replace 51 = .ok (.getfield 38, 3) := dk_180 0 38 (dk_at dksX1_replace_2 5 rfl rfl)
theorem dX1_replace_54 : decode cX1_replace 54 = .ok (.if_icmp .le 7, 3) := dk_164 0 7 (dk_at dksX1_replace_2 8 rfl rfl)
theorem dX1_replace_57 : decode cX1_replace 57 = .ok (.iconst 1, 1) := dk_4 (dk_at dksX1_replace_2 11 rfl rfl)
theorem dX1_replace_58 : decode cX1_replace 58 = .ok (.goto 4, 3) := dk_167 0 4 (dk_at dksX1_replace_2 12 rfl rfl)
theorem dX1_replace_61 : decode cX1_replace 61 = .ok (.iconst 0, 1) := dk_3 (dk_at dksX1_replace_2 15 rfl rfl)
theorem dX1_replace_62 : decode cX1_replace 62 = .ok (.invokestatic 82, 3) := dk_184 0 82 (dk_at dksX1_replace_2 16 rfl rfl)
theorem dX1_replace_65 : decode cX1_replace 65 = .ok (.aload 5, 2) := dk_25 5 (dk_at dksX1_replace_2 19 rfl rfl)
theorem dX1_replace_67 : decode cX1_replace 67 = .ok (.aload 4, 2) := dk_25 4 (dk_at dksX1_replace_2 21 rfl rfl)
theorem dX1_replace_69 : decode cX1_replace 69 = .ok (.invokevirtual 230, 3) := dk_182 0 230 (dk_at dksX1_replace_3 0 rfl rfl)
theorem dX1_replace_72 : decode cX1_replace 72 = .ok (.aload_n 0, 1) := dk_42 (dk_at dksX1_replace_3 3 rfl rfl)
theorem dX1_replace_73 : decode cX1_replace 73 = .ok (.aload 5, 2) := dk_25 5 (dk_at dksX1_replace_3 4 rfl rfl)
theorem dX1_replace_75 : decode cX1_replace 75 = .ok (.aload_n 0, 1) := dk_42 (dk_at dksX1_replace_3 6 rfl rfl)
theorem dX1_replace_76 : decode cX1_replace 76 = .ok (.getfield 49, 3) := dk_180 0 49 (dk_at dksX1_replace_3 7 rfl rfl)
theorem dX1_replace_79 : decode cX1_replace 79 = .ok (.invokevirtual 132, 3) := dk_182 0 132 (dk_at dksX1_replace_3 10 rfl rfl)
theorem dX1_replace_82 : decode cX1_replace 82 = .ok (.astore 6, 2) := dk_58 6 (dk_at dksX1_replace_3 13 rfl rfl)
theorem dX1_replace_84 : decode cX1_replace 84 = .ok (.aload 6, 2) := dk_25 6 (dk_at dksX1_replace_3 15 rfl rfl)
theorem dX1_replace_86 : decode cX1_replace 86 = .ok (.ifnonnull 5, 3) := dk_199 0 5 (dk_at dksX1_replace_3 17 rfl rfl)
theorem dX1_replace_89 : decode cX1_replace 89 = .ok (.iconst (-1), 1) := dk_2 (dk_at dksX1_replace_3 20 rfl rfl)
theorem dX1_replace_90 : decode cX1_replace 90 = .ok (.ireturn, 1) := dk_172 (dk_at dksX1_replace_3 21 rfl rfl)
theorem dX1_replace_91 : decode cX1_replace 91 = .ok (.aload 5, 2) := dk_25 5 (dk_at dksX1_replace_3 22 rfl rfl)
theorem dX1_replace_93 : decode cX1_replace 93 = .ok (.aload 6, 2) := dk_25 6 (dk_at dksX1_replace_4 0 rfl rfl)
theorem dX1_replace_95 : decode cX1_replace 95 = .ok (.invokevirtual 136, 3) := dk_182 0 136 (dk_at dksX1_replace_4 2 rfl rfl)
theorem dX1_replace_98 : decode cX1_replace 98 = .ok (.aload 6, 2) := dk_25 6 (dk_at dksX1_replace_4 5 rfl rfl)
theorem dX1_replace_100 : decode cX1_replace 100 = .ok (.getfield 142, 3) := dk_180 0 142 (dk_at dksX1_replace_4 7 rfl rfl)
theorem dX1_replace_103 : decode cX1_replace 103 = .ok (.ireturn, 1) := dk_172 (dk_at dksX1_replace_4 10 rfl rfl)
abbrev cX1_appeal : ByteArray := prog_1_method_37_code
def yX1_appeal : MethodName := ⟨RX1, "appeal", "(I)I"⟩
def dkwX1_appeal_3 : List UInt8 := [182, 0, 136, 45, 180, 0, 142, 172]
abbrev dktX1_appeal_3 : List UInt8 := dkwX1_appeal_3 ++ []
def dkwX1_appeal_2 : List UInt8 := [167, 0, 4, 3, 184, 0, 224, 44, 4, 181, 0, 233, 44, 45, 180, 0, 142, 181, 0, 204, 44, 45]
abbrev dktX1_appeal_2 : List UInt8 := dkwX1_appeal_2 ++ dktX1_appeal_3
def dkwX1_appeal_1 : List UInt8 := [167, 0, 4, 3, 184, 0, 82, 42, 44, 42, 180, 0, 54, 182, 0, 132, 78, 45, 198, 0, 7, 4]
abbrev dktX1_appeal_1 : List UInt8 := dkwX1_appeal_1 ++ dktX1_appeal_2
def dkwX1_appeal_0 : List UInt8 := [42, 27, 182, 0, 139, 77, 44, 180, 0, 233, 154, 0, 15, 44, 182, 0, 172, 2, 159, 0, 7, 4]
abbrev dktX1_appeal_0 : List UInt8 := dkwX1_appeal_0 ++ dktX1_appeal_1
theorem dksX1_appeal_0 : cX1_appeal.data.toList.drop 0 = dktX1_appeal_0 := by decide +kernel
theorem dksX1_appeal_1 : cX1_appeal.data.toList.drop 22 = dktX1_appeal_1 := dk_seg dksX1_appeal_0 22 rfl rfl
theorem dksX1_appeal_2 : cX1_appeal.data.toList.drop 44 = dktX1_appeal_2 := dk_seg dksX1_appeal_1 22 rfl rfl
theorem dksX1_appeal_3 : cX1_appeal.data.toList.drop 66 = dktX1_appeal_3 := dk_seg dksX1_appeal_2 22 rfl rfl
theorem dX1_appeal_0 : decode cX1_appeal 0 = .ok (.aload_n 0, 1) := dk_42 (dk_at dksX1_appeal_0 0 rfl rfl)
theorem dX1_appeal_1 : decode cX1_appeal 1 = .ok (.iload_n 1, 1) := dk_27 (dk_at dksX1_appeal_0 1 rfl rfl)
theorem dX1_appeal_2 : decode cX1_appeal 2 = .ok (.invokevirtual 139, 3) := dk_182 0 139 (dk_at dksX1_appeal_0 2 rfl rfl)
theorem dX1_appeal_5 : decode cX1_appeal 5 = .ok (.astore_n 2, 1) := dk_77 (dk_at dksX1_appeal_0 5 rfl rfl)
theorem dX1_appeal_6 : decode cX1_appeal 6 = .ok (.aload_n 2, 1) := dk_44 (dk_at dksX1_appeal_0 6 rfl rfl)
theorem dX1_appeal_7 : decode cX1_appeal 7 = .ok (.getfield 233, 3) := dk_180 0 233 (dk_at dksX1_appeal_0 7 rfl rfl)
theorem dX1_appeal_10 : decode cX1_appeal 10 = .ok (.ifCond .ne 15, 3) := dk_154 0 15 (dk_at dksX1_appeal_0 10 rfl rfl)
theorem dX1_appeal_13 : decode cX1_appeal 13 = .ok (.aload_n 2, 1) := dk_44 (dk_at dksX1_appeal_0 13 rfl rfl)
theorem dX1_appeal_14 : decode cX1_appeal 14 = .ok (.invokevirtual 172, 3) := dk_182 0 172 (dk_at dksX1_appeal_0 14 rfl rfl)
theorem dX1_appeal_17 : decode cX1_appeal 17 = .ok (.iconst (-1), 1) := dk_2 (dk_at dksX1_appeal_0 17 rfl rfl)
theorem dX1_appeal_18 : decode cX1_appeal 18 = .ok (.if_icmp .eq 7, 3) := dk_159 0 7 (dk_at dksX1_appeal_0 18 rfl rfl)
theorem dX1_appeal_21 : decode cX1_appeal 21 = .ok (.iconst 1, 1) := dk_4 (dk_at dksX1_appeal_0 21 rfl rfl)
theorem dX1_appeal_22 : decode cX1_appeal 22 = .ok (.goto 4, 3) := dk_167 0 4 (dk_at dksX1_appeal_1 0 rfl rfl)
theorem dX1_appeal_25 : decode cX1_appeal 25 = .ok (.iconst 0, 1) := dk_3 (dk_at dksX1_appeal_1 3 rfl rfl)
theorem dX1_appeal_26 : decode cX1_appeal 26 = .ok (.invokestatic 82, 3) := dk_184 0 82 (dk_at dksX1_appeal_1 4 rfl rfl)
theorem dX1_appeal_29 : decode cX1_appeal 29 = .ok (.aload_n 0, 1) := dk_42 (dk_at dksX1_appeal_1 7 rfl rfl)
theorem dX1_appeal_30 : decode cX1_appeal 30 = .ok (.aload_n 2, 1) := dk_44 (dk_at dksX1_appeal_1 8 rfl rfl)
theorem dX1_appeal_31 : decode cX1_appeal 31 = .ok (.aload_n 0, 1) := dk_42 (dk_at dksX1_appeal_1 9 rfl rfl)
theorem dX1_appeal_32 : decode cX1_appeal 32 = .ok (.getfield 54, 3) := dk_180 0 54 (dk_at dksX1_appeal_1 10 rfl rfl)
theorem dX1_appeal_35 : decode cX1_appeal 35 = .ok (.invokevirtual 132, 3) := dk_182 0 132 (dk_at dksX1_appeal_1 13 rfl rfl)
theorem dX1_appeal_38 : decode cX1_appeal 38 = .ok (.astore_n 3, 1) := dk_78 (dk_at dksX1_appeal_1 16 rfl rfl)
theorem dX1_appeal_39 : decode cX1_appeal 39 = .ok (.aload_n 3, 1) := dk_45 (dk_at dksX1_appeal_1 17 rfl rfl)
theorem dX1_appeal_40 : decode cX1_appeal 40 = .ok (.ifnull 7, 3) := dk_198 0 7 (dk_at dksX1_appeal_1 18 rfl rfl)
theorem dX1_appeal_43 : decode cX1_appeal 43 = .ok (.iconst 1, 1) := dk_4 (dk_at dksX1_appeal_1 21 rfl rfl)
theorem dX1_appeal_44 : decode cX1_appeal 44 = .ok (.goto 4, 3) := dk_167 0 4 (dk_at dksX1_appeal_2 0 rfl rfl)
theorem dX1_appeal_47 : decode cX1_appeal 47 = .ok (.iconst 0, 1) := dk_3 (dk_at dksX1_appeal_2 3 rfl rfl)
theorem dX1_appeal_48 : decode cX1_appeal 48 = .ok (.invokestatic 224, 3) := dk_184 0 224 (dk_at dksX1_appeal_2 4 rfl rfl)
theorem dX1_appeal_51 : decode cX1_appeal 51 = .ok (.aload_n 2, 1) := dk_44 (dk_at dksX1_appeal_2 7 rfl rfl)
theorem dX1_appeal_52 : decode cX1_appeal 52 = .ok (.iconst 1, 1) := dk_4 (dk_at dksX1_appeal_2 8 rfl rfl)
theorem dX1_appeal_53 : decode cX1_appeal 53 = .ok (.putfield 233, 3) := dk_181 0 233 (dk_at dksX1_appeal_2 9 rfl rfl)
theorem dX1_appeal_56 : decode cX1_appeal 56 = .ok (.aload_n 2, 1) := dk_44 (dk_at dksX1_appeal_2 12 rfl rfl)
theorem dX1_appeal_57 : decode cX1_appeal 57 = .ok (.aload_n 3, 1) := dk_45 (dk_at dksX1_appeal_2 13 rfl rfl)
theorem dX1_appeal_58 : decode cX1_appeal 58 = .ok (.getfield 142, 3) := dk_180 0 142 (dk_at dksX1_appeal_2 14 rfl rfl)
theorem dX1_appeal_61 : decode cX1_appeal 61 = .ok (.putfield 204, 3) := dk_181 0 204 (dk_at dksX1_appeal_2 17 rfl rfl)
theorem dX1_appeal_64 : decode cX1_appeal 64 = .ok (.aload_n 2, 1) := dk_44 (dk_at dksX1_appeal_2 20 rfl rfl)
theorem dX1_appeal_65 : decode cX1_appeal 65 = .ok (.aload_n 3, 1) := dk_45 (dk_at dksX1_appeal_2 21 rfl rfl)
theorem dX1_appeal_66 : decode cX1_appeal 66 = .ok (.invokevirtual 136, 3) := dk_182 0 136 (dk_at dksX1_appeal_3 0 rfl rfl)
theorem dX1_appeal_69 : decode cX1_appeal 69 = .ok (.aload_n 3, 1) := dk_45 (dk_at dksX1_appeal_3 3 rfl rfl)
theorem dX1_appeal_70 : decode cX1_appeal 70 = .ok (.getfield 142, 3) := dk_180 0 142 (dk_at dksX1_appeal_3 4 rfl rfl)
theorem dX1_appeal_73 : decode cX1_appeal 73 = .ok (.ireturn, 1) := dk_172 (dk_at dksX1_appeal_3 7 rfl rfl)
theorem q46 : (Jvm.Cond.initialized "Peerpanel") ∈ lw_all := lw_g (lw_at lw_m1 1 rfl) rfl
theorem q81 : (Jvm.Cond.instantiable "Peerpanel" (5 : Nat)) ∈ lw_all := lw_g (lw_at lw_m1 36 rfl) rfl
theorem q83 : (Jvm.Cond.instanceMethod ({ cls := "Peerpanel", name := "<init>", desc := "()V" } : Jvm.MethodName)) ∈ lw_all := lw_g (lw_at lw_m1 38 rfl) rfl
theorem q84 : (Jvm.Cond.code ({ cls := "Peerpanel", name := "<init>", desc := "()V" } : Jvm.MethodName) prog_1_method_7_code (1 : Nat) (Option.none : Option Jvm.ClassFile.FieldType)) ∈ lw_all := lw_g (lw_at lw_m1 39 rfl) rfl
theorem q85 : (Jvm.Cond.methodLink "Peerpanel" (28 : Nat) ({ cls := "java/lang/Object", name := "<init>", desc := "()V" } : Jvm.MethodName)) ∈ lw_all := lw_g (lw_at lw_m1 40 rfl) rfl
theorem q88 : (Jvm.Cond.classLink "Peerpanel" (31 : Nat) "java/util/ArrayList") ∈ lw_all := lw_g (lw_at lw_m1 43 rfl) rfl
theorem q90 : (Jvm.Cond.methodLink "Peerpanel" (33 : Nat) ({ cls := "java/util/ArrayList", name := "<init>", desc := "()V" } : Jvm.MethodName)) ∈ lw_all := lw_g (lw_at lw_m1 45 rfl) rfl
theorem q117 : (Jvm.Cond.static ({ cls := "Peerpanel", name := "lambda$new$0", desc := "(LPeerpanel$Person;LPeerpanel$Person;)Z" } : Jvm.MethodName)) ∈ lw_all := lw_g (lw_at lw_m1 72 rfl) rfl
theorem q118 : (Jvm.Cond.code ({ cls := "Peerpanel", name := "lambda$new$0", desc := "(LPeerpanel$Person;LPeerpanel$Person;)Z" } : Jvm.MethodName) prog_1_method_41_code (2 : Nat) (Option.some Jvm.ClassFile.FieldType.boolean)) ∈ lw_all := lw_g (lw_at lw_m1 73 rfl) rfl
theorem q119 : (Jvm.Cond.static ({ cls := "Peerpanel", name := "lambda$new$1", desc := "(LPeerpanel$Person;LPeerpanel$Person;)Z" } : Jvm.MethodName)) ∈ lw_all := lw_g (lw_at lw_m1 74 rfl) rfl
theorem q120 : (Jvm.Cond.code ({ cls := "Peerpanel", name := "lambda$new$1", desc := "(LPeerpanel$Person;LPeerpanel$Person;)Z" } : Jvm.MethodName) prog_1_method_40_code (2 : Nat) (Option.some Jvm.ClassFile.FieldType.boolean)) ∈ lw_all := lw_g (lw_at lw_m1 75 rfl) rfl
theorem q123 : (Jvm.Cond.fieldLink "Peerpanel" (34 : Nat) "Peerpanel" "people" "Ljava/util/ArrayList;") ∈ lw_all := lw_g (lw_at lw_m1 78 rfl) rfl
theorem q125 : (Jvm.Cond.fieldLink "Peerpanel" (38 : Nat) "Peerpanel" "due" "I") ∈ lw_all := lw_g (lw_at lw_m1 80 rfl) rfl
theorem q126 : (Jvm.Cond.fieldLink "Peerpanel" (42 : Nat) "Peerpanel" "tolerance" "I") ∈ lw_all := lw_g (lw_at lw_m1 81 rfl) rfl
theorem q128 : (Jvm.Cond.fieldLink "Peerpanel" (49 : Nat) "Peerpanel" "byLoad" "LPeerpanel$Ahead;") ∈ lw_all := lw_g (lw_at lw_m1 83 rfl) rfl
theorem q129 : (Jvm.Cond.fieldLink "Peerpanel" (54 : Nat) "Peerpanel" "byWeight" "LPeerpanel$Ahead;") ∈ lw_all := lw_g (lw_at lw_m1 84 rfl) rfl
theorem q130 : (Jvm.Cond.laysFinal "Peerpanel" "Peerpanel" "people" "Ljava/util/ArrayList;") ∈ lw_all := lw_g (lw_at lw_m1 85 rfl) rfl
theorem q131 : (Jvm.Cond.soleField "Peerpanel" "people") ∈ lw_all := lw_g (lw_at lw_m1 86 rfl) rfl
theorem q132 : (Jvm.Cond.lays "Peerpanel" "Peerpanel" "due" "I") ∈ lw_all := lw_g (lw_at lw_m1 87 rfl) rfl
theorem q133 : (Jvm.Cond.soleField "Peerpanel" "due") ∈ lw_all := lw_g (lw_at lw_m1 88 rfl) rfl
theorem q134 : (Jvm.Cond.lays "Peerpanel" "Peerpanel" "tolerance" "I") ∈ lw_all := lw_g (lw_at lw_m1 89 rfl) rfl
theorem q135 : (Jvm.Cond.soleField "Peerpanel" "tolerance") ∈ lw_all := lw_g (lw_at lw_m1 90 rfl) rfl
theorem q136 : (Jvm.Cond.laysFinal "Peerpanel" "Peerpanel" "byLoad" "LPeerpanel$Ahead;") ∈ lw_all := lw_g (lw_at lw_m1 91 rfl) rfl
theorem q137 : (Jvm.Cond.soleField "Peerpanel" "byLoad") ∈ lw_all := lw_g (lw_at lw_m1 92 rfl) rfl
theorem q138 : (Jvm.Cond.laysFinal "Peerpanel" "Peerpanel" "byWeight" "LPeerpanel$Ahead;") ∈ lw_all := lw_g (lw_at lw_m1 93 rfl) rfl
theorem q139 : (Jvm.Cond.soleField "Peerpanel" "byWeight") ∈ lw_all := lw_g (lw_at lw_m1 94 rfl) rfl
theorem q140 : (Jvm.Cond.superclass "Peerpanel" "java/lang/Object") ∈ lw_all := lw_g (lw_at lw_m1 95 rfl) rfl
theorem q142 : (Jvm.Cond.instanceMethod ({ cls := "Peerpanel", name := "people", desc := "()I" } : Jvm.MethodName)) ∈ lw_all := lw_g (lw_at lw_m1 97 rfl) rfl
theorem q143 : (Jvm.Cond.selects "Peerpanel" ({ cls := "Peerpanel", name := "people", desc := "()I" } : Jvm.MethodName) ({ cls := "Peerpanel", name := "people", desc := "()I" } : Jvm.MethodName)) ∈ lw_all := lw_g (lw_at lw_m1 98 rfl) rfl
theorem q144 : (Jvm.Cond.code ({ cls := "Peerpanel", name := "people", desc := "()I" } : Jvm.MethodName) prog_1_method_16_code (1 : Nat) (Option.some Jvm.ClassFile.FieldType.int)) ∈ lw_all := lw_g (lw_at lw_m1 99 rfl) rfl
theorem q145 : (Jvm.Cond.methodLink "Peerpanel" (57 : Nat) ({ cls := "java/util/ArrayList", name := "size", desc := "()I" } : Jvm.MethodName)) ∈ lw_all := lw_g (lw_at lw_m1 100 rfl) rfl
theorem q150 : (Jvm.Cond.instanceMethod ({ cls := "Peerpanel", name := "works", desc := "()I" } : Jvm.MethodName)) ∈ lw_all := lw_g (lw_at lw_m1 105 rfl) rfl
theorem q151 : (Jvm.Cond.selects "Peerpanel" ({ cls := "Peerpanel", name := "works", desc := "()I" } : Jvm.MethodName) ({ cls := "Peerpanel", name := "works", desc := "()I" } : Jvm.MethodName)) ∈ lw_all := lw_g (lw_at lw_m1 106 rfl) rfl
theorem q152 : (Jvm.Cond.code ({ cls := "Peerpanel", name := "works", desc := "()I" } : Jvm.MethodName) prog_1_method_17_code (4 : Nat) (Option.some Jvm.ClassFile.FieldType.int)) ∈ lw_all := lw_g (lw_at lw_m1 107 rfl) rfl
theorem q153 : (Jvm.Cond.methodLink "Peerpanel" (100 : Nat) ({ cls := "java/util/ArrayList", name := "iterator", desc := "()Ljava/util/Iterator;" } : Jvm.MethodName)) ∈ lw_all := lw_g (lw_at lw_m1 108 rfl) rfl
theorem q176 : (Jvm.Cond.interfaceEntry "Peerpanel" (104 : Nat)) ∈ lw_tbl := lw_at lw_m1 131 rfl
theorem q177 : (Jvm.Cond.methodLink "Peerpanel" (104 : Nat) ({ cls := "java/util/Iterator", name := "hasNext", desc := "()Z" } : Jvm.MethodName)) ∈ lw_all := lw_g (lw_at lw_m1 132 rfl) rfl
theorem q192 : (Jvm.Cond.interfaceEntry "Peerpanel" (110 : Nat)) ∈ lw_tbl := lw_at lw_m1 147 rfl
theorem q193 : (Jvm.Cond.methodLink "Peerpanel" (110 : Nat) ({ cls := "java/util/Iterator", name := "next", desc := "()Ljava/lang/Object;" } : Jvm.MethodName)) ∈ lw_all := lw_g (lw_at lw_m1 148 rfl) rfl
theorem q287 : (Jvm.Cond.classLink "Peerpanel" (68 : Nat) "Peerpanel$Person") ∈ lw_all := lw_g (lw_at lw_m2 2 rfl) rfl
theorem q289 : (Jvm.Cond.instanceMethod ({ cls := "Peerpanel", name := "plain", desc := "()I" } : Jvm.MethodName)) ∈ lw_all := lw_g (lw_at lw_m2 4 rfl) rfl
theorem q290 : (Jvm.Cond.selects "Peerpanel" ({ cls := "Peerpanel", name := "plain", desc := "()I" } : Jvm.MethodName) ({ cls := "Peerpanel", name := "plain", desc := "()I" } : Jvm.MethodName)) ∈ lw_all := lw_g (lw_at lw_m2 5 rfl) rfl
theorem q291 : (Jvm.Cond.code ({ cls := "Peerpanel", name := "plain", desc := "()I" } : Jvm.MethodName) prog_1_method_27_code (3 : Nat) (Option.some Jvm.ClassFile.FieldType.int)) ∈ lw_all := lw_g (lw_at lw_m2 6 rfl) rfl
theorem q292 : (Jvm.Cond.methodLink "Peerpanel" (64 : Nat) ({ cls := "java/util/ArrayList", name := "get", desc := "(I)Ljava/lang/Object;" } : Jvm.MethodName)) ∈ lw_all := lw_g (lw_at lw_m2 7 rfl) rfl
theorem q306 : (Jvm.Cond.methodLink "Peerpanel" (166 : Nat) ({ cls := "Peerpanel$Person", name := "plainWeight", desc := "()I" } : Jvm.MethodName)) ∈ lw_all := lw_g (lw_at lw_m2 21 rfl) rfl
theorem q311 : (Jvm.Cond.static ({ cls := "Peerpanel", name := "weightBy", desc := "(III)I" } : Jvm.MethodName)) ∈ lw_all := lw_g (lw_at lw_m2 26 rfl) rfl
theorem q312 : (Jvm.Cond.code ({ cls := "Peerpanel", name := "weightBy", desc := "(III)I" } : Jvm.MethodName) prog_1_method_6_code (3 : Nat) (Option.some Jvm.ClassFile.FieldType.int)) ∈ lw_all := lw_g (lw_at lw_m2 27 rfl) rfl
theorem q313 : (Jvm.Cond.methodLink "Peerpanel" (22 : Nat) ({ cls := "java/lang/Math", name := "max", desc := "(II)I" } : Jvm.MethodName)) ∈ lw_all := lw_g (lw_at lw_m2 28 rfl) rfl
theorem q316 : (Jvm.Cond.methodLink "Peerpanel" (183 : Nat) ({ cls := "Peerpanel", name := "become", desc := "([I)I" } : Jvm.MethodName)) ∈ lw_all := lw_g (lw_at lw_m2 31 rfl) rfl
theorem q317 : (Jvm.Cond.privateMethod ({ cls := "Peerpanel", name := "become", desc := "([I)I" } : Jvm.MethodName)) ∈ lw_tbl := lw_at lw_m2 32 rfl
theorem q318 : (Jvm.Cond.instanceMethod ({ cls := "Peerpanel", name := "become", desc := "([I)I" } : Jvm.MethodName)) ∈ lw_all := lw_g (lw_at lw_m2 33 rfl) rfl
theorem q319 : (Jvm.Cond.code ({ cls := "Peerpanel", name := "become", desc := "([I)I" } : Jvm.MethodName) prog_1_method_24_code (4 : Nat) (Option.some Jvm.ClassFile.FieldType.int)) ∈ lw_all := lw_g (lw_at lw_m2 34 rfl) rfl
theorem q322 : (Jvm.Cond.instanceMethod ({ cls := "Peerpanel", name := "meanMark", desc := "()D" } : Jvm.MethodName)) ∈ lw_all := lw_g (lw_at lw_m2 37 rfl) rfl
theorem q323 : (Jvm.Cond.selects "Peerpanel" ({ cls := "Peerpanel", name := "meanMark", desc := "()D" } : Jvm.MethodName) ({ cls := "Peerpanel", name := "meanMark", desc := "()D" } : Jvm.MethodName)) ∈ lw_all := lw_g (lw_at lw_m2 38 rfl) rfl
theorem q324 : (Jvm.Cond.code ({ cls := "Peerpanel", name := "meanMark", desc := "()D" } : Jvm.MethodName) prog_1_method_38_code (7 : Nat) (Option.some Jvm.ClassFile.FieldType.double)) ∈ lw_all := lw_g (lw_at lw_m2 39 rfl) rfl
theorem q325 : (Jvm.Cond.methodLink "Peerpanel" (175 : Nat) ({ cls := "Peerpanel", name := "marks", desc := "()[I" } : Jvm.MethodName)) ∈ lw_all := lw_g (lw_at lw_m2 40 rfl) rfl
theorem q326 : (Jvm.Cond.privateMethod ({ cls := "Peerpanel", name := "marks", desc := "()[I" } : Jvm.MethodName)) ∈ lw_tbl := lw_at lw_m2 41 rfl
theorem q327 : (Jvm.Cond.instanceMethod ({ cls := "Peerpanel", name := "marks", desc := "()[I" } : Jvm.MethodName)) ∈ lw_all := lw_g (lw_at lw_m2 42 rfl) rfl
theorem q328 : (Jvm.Cond.code ({ cls := "Peerpanel", name := "marks", desc := "()[I" } : Jvm.MethodName) prog_1_method_25_code (3 : Nat) (Option.some (Jvm.ClassFile.FieldType.array Jvm.ClassFile.FieldType.int))) ∈ lw_all := lw_g (lw_at lw_m2 43 rfl) rfl
theorem q329 : (Jvm.Cond.methodLink "Peerpanel" (172 : Nat) ({ cls := "Peerpanel$Work", name := "mark", desc := "()I" } : Jvm.MethodName)) ∈ lw_all := lw_g (lw_at lw_m2 44 rfl) rfl
theorem q439 : (Jvm.Cond.instanceMethod ({ cls := "Peerpanel", name := "lateShare", desc := "()F" } : Jvm.MethodName)) ∈ lw_all := lw_g (lw_at lw_m2 154 rfl) rfl
theorem q440 : (Jvm.Cond.selects "Peerpanel" ({ cls := "Peerpanel", name := "lateShare", desc := "()F" } : Jvm.MethodName) ({ cls := "Peerpanel", name := "lateShare", desc := "()F" } : Jvm.MethodName)) ∈ lw_all := lw_g (lw_at lw_m2 155 rfl) rfl
theorem q441 : (Jvm.Cond.code ({ cls := "Peerpanel", name := "lateShare", desc := "()F" } : Jvm.MethodName) prog_1_method_39_code (7 : Nat) (Option.some Jvm.ClassFile.FieldType.float)) ∈ lw_all := lw_g (lw_at lw_m2 156 rfl) rfl
theorem q442 : (Jvm.Cond.methodLink "Peerpanel" (237 : Nat) ({ cls := "java/util/TreeMap", name := "values", desc := "()Ljava/util/Collection;" } : Jvm.MethodName)) ∈ lw_all := lw_g (lw_at lw_m2 157 rfl) rfl
theorem q443 : (Jvm.Cond.interfaceEntry "Peerpanel" (241 : Nat)) ∈ lw_tbl := lw_at lw_m2 158 rfl
theorem q444 : (Jvm.Cond.methodLink "Peerpanel" (241 : Nat) ({ cls := "java/util/Collection", name := "iterator", desc := "()Ljava/util/Iterator;" } : Jvm.MethodName)) ∈ lw_all := lw_g (lw_at lw_m2 159 rfl) rfl
theorem q445 : (Jvm.Cond.classLink "Peerpanel" (202 : Nat) "Peerpanel$Review") ∈ lw_all := lw_g (lw_at lw_m2 160 rfl) rfl
theorem q446 : (Jvm.Cond.methodLink "Peerpanel" (244 : Nat) ({ cls := "Peerpanel$Review", name := "isLate", desc := "()Z" } : Jvm.MethodName)) ∈ lw_all := lw_g (lw_at lw_m2 161 rfl) rfl
theorem q447 : (Jvm.Cond.methodLink "Peerpanel" (214 : Nat) ({ cls := "java/util/TreeMap", name := "size", desc := "()I" } : Jvm.MethodName)) ∈ lw_all := lw_g (lw_at lw_m2 162 rfl) rfl
theorem q454 : (Jvm.Cond.instanceMethod ({ cls := "Peerpanel", name := "addPerson", desc := "(I)I" } : Jvm.MethodName)) ∈ lw_all := lw_g (lw_at lw_m2 169 rfl) rfl
theorem q455 : (Jvm.Cond.selects "Peerpanel" ({ cls := "Peerpanel", name := "addPerson", desc := "(I)I" } : Jvm.MethodName) ({ cls := "Peerpanel", name := "addPerson", desc := "(I)I" } : Jvm.MethodName)) ∈ lw_all := lw_g (lw_at lw_m2 170 rfl) rfl
theorem q456 : (Jvm.Cond.code ({ cls := "Peerpanel", name := "addPerson", desc := "(I)I" } : Jvm.MethodName) prog_1_method_10_code (2 : Nat) (Option.some Jvm.ClassFile.FieldType.int)) ∈ lw_all := lw_g (lw_at lw_m2 171 rfl) rfl
theorem q457 : (Jvm.Cond.methodLink "Peerpanel" (1 : Nat) ({ cls := "Peerpanel", name := "in", desc := "(III)Z" } : Jvm.MethodName)) ∈ lw_all := lw_g (lw_at lw_m2 172 rfl) rfl
theorem q458 : (Jvm.Cond.static ({ cls := "Peerpanel", name := "in", desc := "(III)Z" } : Jvm.MethodName)) ∈ lw_all := lw_g (lw_at lw_m2 173 rfl) rfl
theorem q459 : (Jvm.Cond.code ({ cls := "Peerpanel", name := "in", desc := "(III)Z" } : Jvm.MethodName) prog_1_method_1_code (3 : Nat) (Option.some Jvm.ClassFile.FieldType.boolean)) ∈ lw_all := lw_g (lw_at lw_m2 174 rfl) rfl
theorem q460 : (Jvm.Cond.methodLink "Peerpanel" (78 : Nat) ({ cls := "Peerpanel", name := "argument", desc := "(Z)V" } : Jvm.MethodName)) ∈ lw_all := lw_g (lw_at lw_m2 175 rfl) rfl
theorem q461 : (Jvm.Cond.static ({ cls := "Peerpanel", name := "argument", desc := "(Z)V" } : Jvm.MethodName)) ∈ lw_all := lw_g (lw_at lw_m2 176 rfl) rfl
theorem q462 : (Jvm.Cond.code ({ cls := "Peerpanel", name := "argument", desc := "(Z)V" } : Jvm.MethodName) prog_1_method_3_code (1 : Nat) (Option.none : Option Jvm.ClassFile.FieldType)) ∈ lw_all := lw_g (lw_at lw_m2 177 rfl) rfl
theorem q463 : (Jvm.Cond.classLink "Peerpanel" (13 : Nat) "java/lang/IllegalArgumentException") ∈ lw_all := lw_g (lw_at lw_m2 178 rfl) rfl
theorem q472 : (Jvm.Cond.methodLink "Peerpanel" (15 : Nat) ({ cls := "java/lang/IllegalArgumentException", name := "<init>", desc := "()V" } : Jvm.MethodName)) ∈ lw_all := lw_g (lw_at lw_m2 187 rfl) rfl
theorem q478 : (Jvm.Cond.methodLink "Peerpanel" (82 : Nat) ({ cls := "Peerpanel", name := "state", desc := "(Z)V" } : Jvm.MethodName)) ∈ lw_all := lw_g (lw_at lw_m2 193 rfl) rfl
theorem q479 : (Jvm.Cond.static ({ cls := "Peerpanel", name := "state", desc := "(Z)V" } : Jvm.MethodName)) ∈ lw_all := lw_g (lw_at lw_m2 194 rfl) rfl
theorem q480 : (Jvm.Cond.code ({ cls := "Peerpanel", name := "state", desc := "(Z)V" } : Jvm.MethodName) prog_1_method_4_code (1 : Nat) (Option.none : Option Jvm.ClassFile.FieldType)) ∈ lw_all := lw_g (lw_at lw_m2 195 rfl) rfl
theorem q481 : (Jvm.Cond.classLink "Peerpanel" (16 : Nat) "java/lang/IllegalStateException") ∈ lw_all := lw_g (lw_at lw_m2 196 rfl) rfl
theorem q490 : (Jvm.Cond.methodLink "Peerpanel" (18 : Nat) ({ cls := "java/lang/IllegalStateException", name := "<init>", desc := "()V" } : Jvm.MethodName)) ∈ lw_all := lw_g (lw_at lw_m2 205 rfl) rfl
theorem q497 : (Jvm.Cond.methodLink "Peerpanel" (85 : Nat) ({ cls := "Peerpanel$Person", name := "<init>", desc := "(LPeerpanel;II)V" } : Jvm.MethodName)) ∈ lw_all := lw_g (lw_at lw_m2 212 rfl) rfl
theorem q503 : (Jvm.Cond.fieldLinkNest "Peerpanel" (142 : Nat) "Peerpanel$Person" "number" "I" "Peerpanel") ∈ lw_tbl := lw_at lw_m2 218 rfl
theorem q509 : (Jvm.Cond.fieldLinkNest "Peerpanel" (169 : Nat) "Peerpanel$Person" "weight" "I" "Peerpanel") ∈ lw_tbl := lw_at lw_m2 224 rfl
theorem q511 : (Jvm.Cond.fieldLinkNest "Peerpanel" (145 : Nat) "Peerpanel$Person" "load" "I" "Peerpanel") ∈ lw_tbl := lw_at lw_m2 226 rfl
theorem q513 : (Jvm.Cond.fieldLinkNest "Peerpanel" (160 : Nat) "Peerpanel$Person" "errors" "I" "Peerpanel") ∈ lw_tbl := lw_at lw_m2 228 rfl
theorem q515 : (Jvm.Cond.fieldLinkNest "Peerpanel" (157 : Nat) "Peerpanel$Person" "calibrations" "I" "Peerpanel") ∈ lw_tbl := lw_at lw_m2 230 rfl
theorem q517 : (Jvm.Cond.fieldLinkNest "Peerpanel" (74 : Nat) "Peerpanel$Person" "work" "LPeerpanel$Work;" "Peerpanel") ∈ lw_tbl := lw_at lw_m2 232 rfl
theorem q536 : (Jvm.Cond.methodLink "Peerpanel" (88 : Nat) ({ cls := "java/util/ArrayList", name := "add", desc := "(Ljava/lang/Object;)Z" } : Jvm.MethodName)) ∈ lw_all := lw_g (lw_at lw_m3 11 rfl) rfl
theorem q566 : (Jvm.Cond.selects "Peerpanel" ({ cls := "java/lang/Object", name := "getClass", desc := "()Ljava/lang/Class;" } : Jvm.MethodName) ({ cls := "java/lang/Object", name := "getClass", desc := "()Ljava/lang/Class;" } : Jvm.MethodName)) ∈ lw_all := lw_g (lw_at lw_m3 41 rfl) rfl
theorem q636 : (Jvm.Cond.instanceMethod ({ cls := "Peerpanel", name := "handIn", desc := "(I)I" } : Jvm.MethodName)) ∈ lw_all := lw_g (lw_at lw_m3 111 rfl) rfl
theorem q637 : (Jvm.Cond.selects "Peerpanel" ({ cls := "Peerpanel", name := "handIn", desc := "(I)I" } : Jvm.MethodName) ({ cls := "Peerpanel", name := "handIn", desc := "(I)I" } : Jvm.MethodName)) ∈ lw_all := lw_g (lw_at lw_m3 112 rfl) rfl
theorem q638 : (Jvm.Cond.code ({ cls := "Peerpanel", name := "handIn", desc := "(I)I" } : Jvm.MethodName) prog_1_method_11_code (3 : Nat) (Option.some Jvm.ClassFile.FieldType.int)) ∈ lw_all := lw_g (lw_at lw_m3 113 rfl) rfl
theorem q639 : (Jvm.Cond.methodLink "Peerpanel" (70 : Nat) ({ cls := "Peerpanel", name := "person", desc := "(I)LPeerpanel$Person;" } : Jvm.MethodName)) ∈ lw_all := lw_g (lw_at lw_m3 114 rfl) rfl
theorem q640 : (Jvm.Cond.privateMethod ({ cls := "Peerpanel", name := "person", desc := "(I)LPeerpanel$Person;" } : Jvm.MethodName)) ∈ lw_tbl := lw_at lw_m3 115 rfl
theorem q641 : (Jvm.Cond.instanceMethod ({ cls := "Peerpanel", name := "person", desc := "(I)LPeerpanel$Person;" } : Jvm.MethodName)) ∈ lw_all := lw_g (lw_at lw_m3 116 rfl) rfl
theorem q642 : (Jvm.Cond.code ({ cls := "Peerpanel", name := "person", desc := "(I)LPeerpanel$Person;" } : Jvm.MethodName) prog_1_method_8_code (2 : Nat) (Option.some (Jvm.ClassFile.FieldType.object "Peerpanel$Person"))) ∈ lw_all := lw_g (lw_at lw_m3 117 rfl) rfl
theorem q643 : (Jvm.Cond.methodLink "Peerpanel" (61 : Nat) ({ cls := "Peerpanel", name := "index", desc := "(II)I" } : Jvm.MethodName)) ∈ lw_all := lw_g (lw_at lw_m3 118 rfl) rfl
theorem q644 : (Jvm.Cond.static ({ cls := "Peerpanel", name := "index", desc := "(II)I" } : Jvm.MethodName)) ∈ lw_all := lw_g (lw_at lw_m3 119 rfl) rfl
theorem q645 : (Jvm.Cond.code ({ cls := "Peerpanel", name := "index", desc := "(II)I" } : Jvm.MethodName) prog_1_method_2_code (2 : Nat) (Option.some Jvm.ClassFile.FieldType.int)) ∈ lw_all := lw_g (lw_at lw_m3 120 rfl) rfl
theorem q646 : (Jvm.Cond.classLink "Peerpanel" (7 : Nat) "java/lang/IndexOutOfBoundsException") ∈ lw_all := lw_g (lw_at lw_m3 121 rfl) rfl
theorem q655 : (Jvm.Cond.methodLink "Peerpanel" (9 : Nat) ({ cls := "java/lang/IndexOutOfBoundsException", name := "<init>", desc := "()V" } : Jvm.MethodName)) ∈ lw_all := lw_g (lw_at lw_m3 130 rfl) rfl
theorem q661 : (Jvm.Cond.classLink "Peerpanel" (92 : Nat) "Peerpanel$Work") ∈ lw_all := lw_g (lw_at lw_m3 136 rfl) rfl
theorem q662 : (Jvm.Cond.methodLink "Peerpanel" (94 : Nat) ({ cls := "Peerpanel$Work", name := "<init>", desc := "(LPeerpanel;LPeerpanel$Person;)V" } : Jvm.MethodName)) ∈ lw_all := lw_g (lw_at lw_m3 137 rfl) rfl
theorem q704 : (Jvm.Cond.fieldLinkNest "Peerpanel" (189 : Nat) "Peerpanel$Work" "reviews" "Ljava/util/TreeMap;" "Peerpanel") ∈ lw_tbl := lw_at lw_m3 179 rfl
theorem q706 : (Jvm.Cond.fieldLinkNest "Peerpanel" (123 : Nat) "Peerpanel$Work" "readers" "I" "Peerpanel") ∈ lw_tbl := lw_at lw_m3 181 rfl
theorem q709 : (Jvm.Cond.fieldLinkNest "Peerpanel" (204 : Nat) "Peerpanel$Work" "appealReader" "I" "Peerpanel") ∈ lw_tbl := lw_at lw_m3 184 rfl
theorem q710 : (Jvm.Cond.fieldLinkNest "Peerpanel" (233 : Nat) "Peerpanel$Work" "hadAppeal" "Z" "Peerpanel") ∈ lw_tbl := lw_at lw_m3 185 rfl
theorem q727 : (Jvm.Cond.methodLink "Peerpanel" (97 : Nat) ({ cls := "Peerpanel", name := "works", desc := "()I" } : Jvm.MethodName)) ∈ lw_all := lw_g (lw_at lw_m3 202 rfl) rfl
theorem q732 : (Jvm.Cond.instanceMethod ({ cls := "Peerpanel", name := "setDue", desc := "(I)I" } : Jvm.MethodName)) ∈ lw_all := lw_g (lw_at lw_m3 207 rfl) rfl
theorem q733 : (Jvm.Cond.selects "Peerpanel" ({ cls := "Peerpanel", name := "setDue", desc := "(I)I" } : Jvm.MethodName) ({ cls := "Peerpanel", name := "setDue", desc := "(I)I" } : Jvm.MethodName)) ∈ lw_all := lw_g (lw_at lw_m3 208 rfl) rfl
theorem q734 : (Jvm.Cond.code ({ cls := "Peerpanel", name := "setDue", desc := "(I)I" } : Jvm.MethodName) prog_1_method_12_code (3 : Nat) (Option.some Jvm.ClassFile.FieldType.int)) ∈ lw_all := lw_g (lw_at lw_m3 209 rfl) rfl
theorem q739 : (Jvm.Cond.instanceMethod ({ cls := "Peerpanel", name := "setTolerance", desc := "(I)I" } : Jvm.MethodName)) ∈ lw_all := lw_g (lw_at lw_m3 214 rfl) rfl
theorem q740 : (Jvm.Cond.selects "Peerpanel" ({ cls := "Peerpanel", name := "setTolerance", desc := "(I)I" } : Jvm.MethodName) ({ cls := "Peerpanel", name := "setTolerance", desc := "(I)I" } : Jvm.MethodName)) ∈ lw_all := lw_g (lw_at lw_m3 215 rfl) rfl
theorem q741 : (Jvm.Cond.code ({ cls := "Peerpanel", name := "setTolerance", desc := "(I)I" } : Jvm.MethodName) prog_1_method_13_code (3 : Nat) (Option.some Jvm.ClassFile.FieldType.int)) ∈ lw_all := lw_g (lw_at lw_m3 216 rfl) rfl
theorem q746 : (Jvm.Cond.instanceMethod ({ cls := "Peerpanel", name := "share", desc := "(I)I" } : Jvm.MethodName)) ∈ lw_all := lw_g (lw_at lw_m3 221 rfl) rfl
theorem q747 : (Jvm.Cond.selects "Peerpanel" ({ cls := "Peerpanel", name := "share", desc := "(I)I" } : Jvm.MethodName) ({ cls := "Peerpanel", name := "share", desc := "(I)I" } : Jvm.MethodName)) ∈ lw_all := lw_g (lw_at lw_m3 222 rfl) rfl
theorem q748 : (Jvm.Cond.code ({ cls := "Peerpanel", name := "share", desc := "(I)I" } : Jvm.MethodName) prog_1_method_15_code (7 : Nat) (Option.some Jvm.ClassFile.FieldType.int)) ∈ lw_all := lw_g (lw_at lw_m3 223 rfl) rfl
theorem q749 : (Jvm.Cond.methodLink "Peerpanel" (126 : Nat) ({ cls := "java/lang/Integer", name := "bitCount", desc := "(I)I" } : Jvm.MethodName)) ∈ lw_all := lw_g (lw_at lw_m3 224 rfl) rfl
theorem q755 : (Jvm.Cond.methodLink "Peerpanel" (132 : Nat) ({ cls := "Peerpanel", name := "choose", desc := "(LPeerpanel$Work;LPeerpanel$Ahead;)LPeerpanel$Person;" } : Jvm.MethodName)) ∈ lw_all := lw_g (lw_at lw_m3 230 rfl) rfl
theorem q756 : (Jvm.Cond.privateMethod ({ cls := "Peerpanel", name := "choose", desc := "(LPeerpanel$Work;LPeerpanel$Ahead;)LPeerpanel$Person;" } : Jvm.MethodName)) ∈ lw_tbl := lw_at lw_m3 231 rfl
theorem q757 : (Jvm.Cond.instanceMethod ({ cls := "Peerpanel", name := "choose", desc := "(LPeerpanel$Work;LPeerpanel$Ahead;)LPeerpanel$Person;" } : Jvm.MethodName)) ∈ lw_all := lw_g (lw_at lw_m3 232 rfl) rfl
theorem q758 : (Jvm.Cond.code ({ cls := "Peerpanel", name := "choose", desc := "(LPeerpanel$Work;LPeerpanel$Ahead;)LPeerpanel$Person;" } : Jvm.MethodName) prog_1_method_14_code (6 : Nat) (Option.some (Jvm.ClassFile.FieldType.object "Peerpanel$Person"))) ∈ lw_all := lw_g (lw_at lw_m3 233 rfl) rfl
theorem q759 : (Jvm.Cond.methodLink "Peerpanel" (114 : Nat) ({ cls := "Peerpanel$Work", name := "isOpenTo", desc := "(LPeerpanel$Person;)Z" } : Jvm.MethodName)) ∈ lw_all := lw_g (lw_at lw_m3 234 rfl) rfl
theorem q763 : (Jvm.Cond.interfaceEntry "Peerpanel" (118 : Nat)) ∈ lw_tbl := lw_at lw_m3 238 rfl
theorem q764 : (Jvm.Cond.methodLink "Peerpanel" (118 : Nat) ({ cls := "Peerpanel$Ahead", name := "is", desc := "(LPeerpanel$Person;LPeerpanel$Person;)Z" } : Jvm.MethodName)) ∈ lw_all := lw_g (lw_at lw_m3 239 rfl) rfl
theorem q767 : (Jvm.Cond.methodLink "Peerpanel" (136 : Nat) ({ cls := "Peerpanel$Work", name := "add", desc := "(LPeerpanel$Person;)V" } : Jvm.MethodName)) ∈ lw_all := lw_g (lw_at lw_m4 2 rfl) rfl
theorem q775 : (Jvm.Cond.instanceMethod ({ cls := "Peerpanel", name := "readersOf", desc := "(I)I" } : Jvm.MethodName)) ∈ lw_all := lw_g (lw_at lw_m4 10 rfl) rfl
theorem q776 : (Jvm.Cond.selects "Peerpanel" ({ cls := "Peerpanel", name := "readersOf", desc := "(I)I" } : Jvm.MethodName) ({ cls := "Peerpanel", name := "readersOf", desc := "(I)I" } : Jvm.MethodName)) ∈ lw_all := lw_g (lw_at lw_m4 11 rfl) rfl
theorem q777 : (Jvm.Cond.code ({ cls := "Peerpanel", name := "readersOf", desc := "(I)I" } : Jvm.MethodName) prog_1_method_18_code (2 : Nat) (Option.some Jvm.ClassFile.FieldType.int)) ∈ lw_all := lw_g (lw_at lw_m4 12 rfl) rfl
theorem q778 : (Jvm.Cond.methodLink "Peerpanel" (139 : Nat) ({ cls := "Peerpanel", name := "work", desc := "(I)LPeerpanel$Work;" } : Jvm.MethodName)) ∈ lw_all := lw_g (lw_at lw_m4 13 rfl) rfl
theorem q779 : (Jvm.Cond.privateMethod ({ cls := "Peerpanel", name := "work", desc := "(I)LPeerpanel$Work;" } : Jvm.MethodName)) ∈ lw_tbl := lw_at lw_m4 14 rfl
theorem q780 : (Jvm.Cond.instanceMethod ({ cls := "Peerpanel", name := "work", desc := "(I)LPeerpanel$Work;" } : Jvm.MethodName)) ∈ lw_all := lw_g (lw_at lw_m4 15 rfl) rfl
theorem q781 : (Jvm.Cond.code ({ cls := "Peerpanel", name := "work", desc := "(I)LPeerpanel$Work;" } : Jvm.MethodName) prog_1_method_9_code (3 : Nat) (Option.some (Jvm.ClassFile.FieldType.object "Peerpanel$Work"))) ∈ lw_all := lw_g (lw_at lw_m4 16 rfl) rfl
theorem q786 : (Jvm.Cond.instanceMethod ({ cls := "Peerpanel", name := "mayRead", desc := "(I)I" } : Jvm.MethodName)) ∈ lw_all := lw_g (lw_at lw_m4 21 rfl) rfl
theorem q787 : (Jvm.Cond.selects "Peerpanel" ({ cls := "Peerpanel", name := "mayRead", desc := "(I)I" } : Jvm.MethodName) ({ cls := "Peerpanel", name := "mayRead", desc := "(I)I" } : Jvm.MethodName)) ∈ lw_all := lw_g (lw_at lw_m4 22 rfl) rfl
theorem q788 : (Jvm.Cond.code ({ cls := "Peerpanel", name := "mayRead", desc := "(I)I" } : Jvm.MethodName) prog_1_method_19_code (6 : Nat) (Option.some Jvm.ClassFile.FieldType.int)) ∈ lw_all := lw_g (lw_at lw_m4 23 rfl) rfl
theorem q793 : (Jvm.Cond.instanceMethod ({ cls := "Peerpanel", name := "loadOf", desc := "(I)I" } : Jvm.MethodName)) ∈ lw_all := lw_g (lw_at lw_m4 28 rfl) rfl
theorem q794 : (Jvm.Cond.selects "Peerpanel" ({ cls := "Peerpanel", name := "loadOf", desc := "(I)I" } : Jvm.MethodName) ({ cls := "Peerpanel", name := "loadOf", desc := "(I)I" } : Jvm.MethodName)) ∈ lw_all := lw_g (lw_at lw_m4 29 rfl) rfl
theorem q795 : (Jvm.Cond.code ({ cls := "Peerpanel", name := "loadOf", desc := "(I)I" } : Jvm.MethodName) prog_1_method_20_code (2 : Nat) (Option.some Jvm.ClassFile.FieldType.int)) ∈ lw_all := lw_g (lw_at lw_m4 30 rfl) rfl
theorem q800 : (Jvm.Cond.instanceMethod ({ cls := "Peerpanel", name := "possible", desc := "(II)I" } : Jvm.MethodName)) ∈ lw_all := lw_g (lw_at lw_m4 35 rfl) rfl
theorem q801 : (Jvm.Cond.selects "Peerpanel" ({ cls := "Peerpanel", name := "possible", desc := "(II)I" } : Jvm.MethodName) ({ cls := "Peerpanel", name := "possible", desc := "(II)I" } : Jvm.MethodName)) ∈ lw_all := lw_g (lw_at lw_m4 36 rfl) rfl
theorem q802 : (Jvm.Cond.code ({ cls := "Peerpanel", name := "possible", desc := "(II)I" } : Jvm.MethodName) prog_1_method_21_code (7 : Nat) (Option.some Jvm.ClassFile.FieldType.int)) ∈ lw_all := lw_g (lw_at lw_m4 37 rfl) rfl
theorem q803 : (Jvm.Cond.classLink "Peerpanel" (148 : Nat) "Peerpanel$Flow") ∈ lw_all := lw_g (lw_at lw_m4 38 rfl) rfl
theorem q805 : (Jvm.Cond.methodLink "Peerpanel" (150 : Nat) ({ cls := "Peerpanel$Flow", name := "<init>", desc := "(LPeerpanel;I)V" } : Jvm.MethodName)) ∈ lw_all := lw_g (lw_at lw_m4 40 rfl) rfl
theorem q825 : (Jvm.Cond.methodLink "Peerpanel" (153 : Nat) ({ cls := "Peerpanel$Flow", name := "give", desc := "(I)Z" } : Jvm.MethodName)) ∈ lw_all := lw_g (lw_at lw_m4 60 rfl) rfl
theorem q848 : (Jvm.Cond.instanceMethod ({ cls := "Peerpanel", name := "calibrate", desc := "(III)I" } : Jvm.MethodName)) ∈ lw_all := lw_g (lw_at lw_m4 83 rfl) rfl
theorem q849 : (Jvm.Cond.selects "Peerpanel" ({ cls := "Peerpanel", name := "calibrate", desc := "(III)I" } : Jvm.MethodName) ({ cls := "Peerpanel", name := "calibrate", desc := "(III)I" } : Jvm.MethodName)) ∈ lw_all := lw_g (lw_at lw_m4 84 rfl) rfl
theorem q850 : (Jvm.Cond.code ({ cls := "Peerpanel", name := "calibrate", desc := "(III)I" } : Jvm.MethodName) prog_1_method_22_code (5 : Nat) (Option.some Jvm.ClassFile.FieldType.int)) ∈ lw_all := lw_g (lw_at lw_m4 85 rfl) rfl
theorem q851 : (Jvm.Cond.methodLink "Peerpanel" (163 : Nat) ({ cls := "java/lang/Math", name := "abs", desc := "(I)I" } : Jvm.MethodName)) ∈ lw_all := lw_g (lw_at lw_m4 86 rfl) rfl
theorem q856 : (Jvm.Cond.instanceMethod ({ cls := "Peerpanel", name := "weightOf", desc := "(I)I" } : Jvm.MethodName)) ∈ lw_all := lw_g (lw_at lw_m4 91 rfl) rfl
theorem q857 : (Jvm.Cond.selects "Peerpanel" ({ cls := "Peerpanel", name := "weightOf", desc := "(I)I" } : Jvm.MethodName) ({ cls := "Peerpanel", name := "weightOf", desc := "(I)I" } : Jvm.MethodName)) ∈ lw_all := lw_g (lw_at lw_m4 92 rfl) rfl
theorem q858 : (Jvm.Cond.code ({ cls := "Peerpanel", name := "weightOf", desc := "(I)I" } : Jvm.MethodName) prog_1_method_23_code (2 : Nat) (Option.some Jvm.ClassFile.FieldType.int)) ∈ lw_all := lw_g (lw_at lw_m4 93 rfl) rfl
theorem q863 : (Jvm.Cond.instanceMethod ({ cls := "Peerpanel", name := "settle", desc := "(I)I" } : Jvm.MethodName)) ∈ lw_all := lw_g (lw_at lw_m4 98 rfl) rfl
theorem q864 : (Jvm.Cond.selects "Peerpanel" ({ cls := "Peerpanel", name := "settle", desc := "(I)I" } : Jvm.MethodName) ({ cls := "Peerpanel", name := "settle", desc := "(I)I" } : Jvm.MethodName)) ∈ lw_all := lw_g (lw_at lw_m4 99 rfl) rfl
theorem q865 : (Jvm.Cond.code ({ cls := "Peerpanel", name := "settle", desc := "(I)I" } : Jvm.MethodName) prog_1_method_26_code (6 : Nat) (Option.some Jvm.ClassFile.FieldType.int)) ∈ lw_all := lw_g (lw_at lw_m4 100 rfl) rfl
theorem q866 : (Jvm.Cond.methodLink "Peerpanel" (179 : Nat) ({ cls := "Peerpanel$Person", name := "nextWeight", desc := "([I)I" } : Jvm.MethodName)) ∈ lw_all := lw_g (lw_at lw_m4 101 rfl) rfl
theorem q942 : (Jvm.Cond.instanceMethod ({ cls := "Peerpanel", name := "review", desc := "(IIII)I" } : Jvm.MethodName)) ∈ lw_all := lw_g (lw_at lw_m4 177 rfl) rfl
theorem q943 : (Jvm.Cond.selects "Peerpanel" ({ cls := "Peerpanel", name := "review", desc := "(IIII)I" } : Jvm.MethodName) ({ cls := "Peerpanel", name := "review", desc := "(IIII)I" } : Jvm.MethodName)) ∈ lw_all := lw_g (lw_at lw_m4 178 rfl) rfl
theorem q944 : (Jvm.Cond.code ({ cls := "Peerpanel", name := "review", desc := "(IIII)I" } : Jvm.MethodName) prog_1_method_28_code (8 : Nat) (Option.some Jvm.ClassFile.FieldType.int)) ∈ lw_all := lw_g (lw_at lw_m4 179 rfl) rfl
theorem q945 : (Jvm.Cond.methodLink "Peerpanel" (186 : Nat) ({ cls := "Peerpanel$Work", name := "hasReader", desc := "(LPeerpanel$Person;)Z" } : Jvm.MethodName)) ∈ lw_all := lw_g (lw_at lw_m4 180 rfl) rfl
theorem q949 : (Jvm.Cond.methodLink "Peerpanel" (193 : Nat) ({ cls := "java/lang/Integer", name := "valueOf", desc := "(I)Ljava/lang/Integer;" } : Jvm.MethodName)) ∈ lw_all := lw_g (lw_at lw_m4 184 rfl) rfl
theorem q950 : (Jvm.Cond.methodLink "Peerpanel" (197 : Nat) ({ cls := "java/util/TreeMap", name := "containsKey", desc := "(Ljava/lang/Object;)Z" } : Jvm.MethodName)) ∈ lw_all := lw_g (lw_at lw_m4 185 rfl) rfl
theorem q955 : (Jvm.Cond.methodLink "Peerpanel" (207 : Nat) ({ cls := "Peerpanel$Review", name := "<init>", desc := "(LPeerpanel;LPeerpanel$Person;IIZ)V" } : Jvm.MethodName)) ∈ lw_all := lw_g (lw_at lw_m4 190 rfl) rfl
theorem q978 : (Jvm.Cond.methodLink "Peerpanel" (210 : Nat) ({ cls := "java/util/TreeMap", name := "put", desc := "(Ljava/lang/Object;Ljava/lang/Object;)Ljava/lang/Object;" } : Jvm.MethodName)) ∈ lw_all := lw_g (lw_at lw_m4 213 rfl) rfl
theorem q1059 : (Jvm.Cond.instanceMethod ({ cls := "Peerpanel", name := "reviews", desc := "(I)I" } : Jvm.MethodName)) ∈ lw_all := lw_g (lw_at lw_m5 54 rfl) rfl
theorem q1060 : (Jvm.Cond.selects "Peerpanel" ({ cls := "Peerpanel", name := "reviews", desc := "(I)I" } : Jvm.MethodName) ({ cls := "Peerpanel", name := "reviews", desc := "(I)I" } : Jvm.MethodName)) ∈ lw_all := lw_g (lw_at lw_m5 55 rfl) rfl
theorem q1061 : (Jvm.Cond.code ({ cls := "Peerpanel", name := "reviews", desc := "(I)I" } : Jvm.MethodName) prog_1_method_29_code (2 : Nat) (Option.some Jvm.ClassFile.FieldType.int)) ∈ lw_all := lw_g (lw_at lw_m5 56 rfl) rfl
theorem q1066 : (Jvm.Cond.instanceMethod ({ cls := "Peerpanel", name := "countsOf", desc := "(II)I" } : Jvm.MethodName)) ∈ lw_all := lw_g (lw_at lw_m5 61 rfl) rfl
theorem q1067 : (Jvm.Cond.selects "Peerpanel" ({ cls := "Peerpanel", name := "countsOf", desc := "(II)I" } : Jvm.MethodName) ({ cls := "Peerpanel", name := "countsOf", desc := "(II)I" } : Jvm.MethodName)) ∈ lw_all := lw_g (lw_at lw_m5 62 rfl) rfl
theorem q1068 : (Jvm.Cond.code ({ cls := "Peerpanel", name := "countsOf", desc := "(II)I" } : Jvm.MethodName) prog_1_method_30_code (5 : Nat) (Option.some Jvm.ClassFile.FieldType.int)) ∈ lw_all := lw_g (lw_at lw_m5 63 rfl) rfl
theorem q1069 : (Jvm.Cond.methodLink "Peerpanel" (215 : Nat) ({ cls := "java/util/TreeMap", name := "get", desc := "(Ljava/lang/Object;)Ljava/lang/Object;" } : Jvm.MethodName)) ∈ lw_all := lw_g (lw_at lw_m5 64 rfl) rfl
theorem q1070 : (Jvm.Cond.methodLink "Peerpanel" (218 : Nat) ({ cls := "Peerpanel$Review", name := "counts", desc := "()I" } : Jvm.MethodName)) ∈ lw_all := lw_g (lw_at lw_m5 65 rfl) rfl
theorem q1075 : (Jvm.Cond.instanceMethod ({ cls := "Peerpanel", name := "outliers", desc := "(I)I" } : Jvm.MethodName)) ∈ lw_all := lw_g (lw_at lw_m5 70 rfl) rfl
theorem q1076 : (Jvm.Cond.selects "Peerpanel" ({ cls := "Peerpanel", name := "outliers", desc := "(I)I" } : Jvm.MethodName) ({ cls := "Peerpanel", name := "outliers", desc := "(I)I" } : Jvm.MethodName)) ∈ lw_all := lw_g (lw_at lw_m5 71 rfl) rfl
theorem q1077 : (Jvm.Cond.code ({ cls := "Peerpanel", name := "outliers", desc := "(I)I" } : Jvm.MethodName) prog_1_method_31_code (2 : Nat) (Option.some Jvm.ClassFile.FieldType.int)) ∈ lw_all := lw_g (lw_at lw_m5 72 rfl) rfl
theorem q1078 : (Jvm.Cond.methodLink "Peerpanel" (221 : Nat) ({ cls := "Peerpanel$Work", name := "outlying", desc := "()I" } : Jvm.MethodName)) ∈ lw_all := lw_g (lw_at lw_m5 73 rfl) rfl
theorem q1087 : (Jvm.Cond.instanceMethod ({ cls := "Peerpanel", name := "markOf", desc := "(I)I" } : Jvm.MethodName)) ∈ lw_all := lw_g (lw_at lw_m5 82 rfl) rfl
theorem q1088 : (Jvm.Cond.selects "Peerpanel" ({ cls := "Peerpanel", name := "markOf", desc := "(I)I" } : Jvm.MethodName) ({ cls := "Peerpanel", name := "markOf", desc := "(I)I" } : Jvm.MethodName)) ∈ lw_all := lw_g (lw_at lw_m5 83 rfl) rfl
theorem q1089 : (Jvm.Cond.code ({ cls := "Peerpanel", name := "markOf", desc := "(I)I" } : Jvm.MethodName) prog_1_method_32_code (3 : Nat) (Option.some Jvm.ClassFile.FieldType.int)) ∈ lw_all := lw_g (lw_at lw_m5 84 rfl) rfl
theorem q1090 : (Jvm.Cond.methodLink "Peerpanel" (224 : Nat) ({ cls := "Peerpanel", name := "element", desc := "(Z)V" } : Jvm.MethodName)) ∈ lw_all := lw_g (lw_at lw_m5 85 rfl) rfl
theorem q1091 : (Jvm.Cond.static ({ cls := "Peerpanel", name := "element", desc := "(Z)V" } : Jvm.MethodName)) ∈ lw_all := lw_g (lw_at lw_m5 86 rfl) rfl
theorem q1092 : (Jvm.Cond.code ({ cls := "Peerpanel", name := "element", desc := "(Z)V" } : Jvm.MethodName) prog_1_method_5_code (1 : Nat) (Option.none : Option Jvm.ClassFile.FieldType)) ∈ lw_all := lw_g (lw_at lw_m5 87 rfl) rfl
theorem q1093 : (Jvm.Cond.classLink "Peerpanel" (19 : Nat) "java/util/NoSuchElementException") ∈ lw_all := lw_g (lw_at lw_m5 88 rfl) rfl
theorem q1094 : (Jvm.Cond.methodLink "Peerpanel" (21 : Nat) ({ cls := "java/util/NoSuchElementException", name := "<init>", desc := "()V" } : Jvm.MethodName)) ∈ lw_all := lw_g (lw_at lw_m5 89 rfl) rfl
theorem q1099 : (Jvm.Cond.instanceMethod ({ cls := "Peerpanel", name := "placeOf", desc := "(I)I" } : Jvm.MethodName)) ∈ lw_all := lw_g (lw_at lw_m5 94 rfl) rfl
theorem q1100 : (Jvm.Cond.selects "Peerpanel" ({ cls := "Peerpanel", name := "placeOf", desc := "(I)I" } : Jvm.MethodName) ({ cls := "Peerpanel", name := "placeOf", desc := "(I)I" } : Jvm.MethodName)) ∈ lw_all := lw_g (lw_at lw_m5 95 rfl) rfl
theorem q1101 : (Jvm.Cond.code ({ cls := "Peerpanel", name := "placeOf", desc := "(I)I" } : Jvm.MethodName) prog_1_method_33_code (8 : Nat) (Option.some Jvm.ClassFile.FieldType.int)) ∈ lw_all := lw_g (lw_at lw_m5 96 rfl) rfl
theorem q1102 : (Jvm.Cond.methodLink "Peerpanel" (227 : Nat) ({ cls := "Peerpanel", name := "markOf", desc := "(I)I" } : Jvm.MethodName)) ∈ lw_all := lw_g (lw_at lw_m5 97 rfl) rfl
theorem q1107 : (Jvm.Cond.instanceMethod ({ cls := "Peerpanel", name := "gradeOf", desc := "(I)I" } : Jvm.MethodName)) ∈ lw_all := lw_g (lw_at lw_m5 102 rfl) rfl
theorem q1108 : (Jvm.Cond.selects "Peerpanel" ({ cls := "Peerpanel", name := "gradeOf", desc := "(I)I" } : Jvm.MethodName) ({ cls := "Peerpanel", name := "gradeOf", desc := "(I)I" } : Jvm.MethodName)) ∈ lw_all := lw_g (lw_at lw_m5 103 rfl) rfl
theorem q1109 : (Jvm.Cond.code ({ cls := "Peerpanel", name := "gradeOf", desc := "(I)I" } : Jvm.MethodName) prog_1_method_34_code (4 : Nat) (Option.some Jvm.ClassFile.FieldType.int)) ∈ lw_all := lw_g (lw_at lw_m5 104 rfl) rfl
theorem q1114 : (Jvm.Cond.instanceMethod ({ cls := "Peerpanel", name := "missing", desc := "(I)I" } : Jvm.MethodName)) ∈ lw_all := lw_g (lw_at lw_m5 109 rfl) rfl
theorem q1115 : (Jvm.Cond.selects "Peerpanel" ({ cls := "Peerpanel", name := "missing", desc := "(I)I" } : Jvm.MethodName) ({ cls := "Peerpanel", name := "missing", desc := "(I)I" } : Jvm.MethodName)) ∈ lw_all := lw_g (lw_at lw_m5 110 rfl) rfl
theorem q1116 : (Jvm.Cond.code ({ cls := "Peerpanel", name := "missing", desc := "(I)I" } : Jvm.MethodName) prog_1_method_35_code (5 : Nat) (Option.some Jvm.ClassFile.FieldType.int)) ∈ lw_all := lw_g (lw_at lw_m5 111 rfl) rfl
theorem q1121 : (Jvm.Cond.instanceMethod ({ cls := "Peerpanel", name := "replace", desc := "(III)I" } : Jvm.MethodName)) ∈ lw_all := lw_g (lw_at lw_m5 116 rfl) rfl
theorem q1122 : (Jvm.Cond.selects "Peerpanel" ({ cls := "Peerpanel", name := "replace", desc := "(III)I" } : Jvm.MethodName) ({ cls := "Peerpanel", name := "replace", desc := "(III)I" } : Jvm.MethodName)) ∈ lw_all := lw_g (lw_at lw_m5 117 rfl) rfl
theorem q1123 : (Jvm.Cond.code ({ cls := "Peerpanel", name := "replace", desc := "(III)I" } : Jvm.MethodName) prog_1_method_36_code (7 : Nat) (Option.some Jvm.ClassFile.FieldType.int)) ∈ lw_all := lw_g (lw_at lw_m5 118 rfl) rfl
theorem q1124 : (Jvm.Cond.methodLink "Peerpanel" (230 : Nat) ({ cls := "Peerpanel$Work", name := "drop", desc := "(LPeerpanel$Person;)V" } : Jvm.MethodName)) ∈ lw_all := lw_g (lw_at lw_m5 119 rfl) rfl
theorem q1132 : (Jvm.Cond.instanceMethod ({ cls := "Peerpanel", name := "appeal", desc := "(I)I" } : Jvm.MethodName)) ∈ lw_all := lw_g (lw_at lw_m5 127 rfl) rfl
theorem q1133 : (Jvm.Cond.selects "Peerpanel" ({ cls := "Peerpanel", name := "appeal", desc := "(I)I" } : Jvm.MethodName) ({ cls := "Peerpanel", name := "appeal", desc := "(I)I" } : Jvm.MethodName)) ∈ lw_all := lw_g (lw_at lw_m5 128 rfl) rfl
theorem q1134 : (Jvm.Cond.code ({ cls := "Peerpanel", name := "appeal", desc := "(I)I" } : Jvm.MethodName) prog_1_method_37_code (4 : Nat) (Option.some Jvm.ClassFile.FieldType.int)) ∈ lw_all := lw_g (lw_at lw_m5 129 rfl) rfl
theorem q1429 : (Jvm.Cond.castable "Peerpanel" "java/lang/Object") ∈ lw_tbl := lw_at lw_m6 184 rfl
theorem in_X1 : ∀ w ∈ wsX10, w ∈ lw_all := lw_in wsX10 [130, 132, 134, 136, 138] (by decide +kernel) (by decide +kernel)
