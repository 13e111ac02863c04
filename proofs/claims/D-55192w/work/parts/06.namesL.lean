/-! WillowPrintersLaw -/
set_option maxRecDepth 100000
def RX0 : String := "WillowPrintersLaw"
abbrev cX0_sheets : ByteArray := method_3_code
def yX0_sheets : MethodName := ⟨RX0, "sheets", "(LWillowPrinters;I[J)I"⟩
def dkwX0_sheets_0 : List UInt8 := [44, 3, 42, 27, 182, 0, 7, 133, 80, 167, 0, 9, 78, 4, 172, 78, 5, 172, 3, 172]
abbrev dktX0_sheets_0 : List UInt8 := dkwX0_sheets_0 ++ []
theorem dksX0_sheets_0 : cX0_sheets.data.toList.drop 0 = dktX0_sheets_0 := by decide +kernel
theorem dX0_sheets_0 : decode cX0_sheets 0 = .ok (.aload_n 2, 1) := dk_44 (dk_at dksX0_sheets_0 0 rfl rfl)
theorem dX0_sheets_1 : decode cX0_sheets 1 = .ok (.iconst 0, 1) := dk_3 (dk_at dksX0_sheets_0 1 rfl rfl)
theorem dX0_sheets_2 : decode cX0_sheets 2 = .ok (.aload_n 0, 1) := dk_42 (dk_at dksX0_sheets_0 2 rfl rfl)
theorem dX0_sheets_3 : decode cX0_sheets 3 = .ok (.iload_n 1, 1) := dk_27 (dk_at dksX0_sheets_0 3 rfl rfl)
theorem dX0_sheets_4 : decode cX0_sheets 4 = .ok (.invokevirtual 7, 3) := dk_182 0 7 (dk_at dksX0_sheets_0 4 rfl rfl)
theorem dX0_sheets_7 : decode cX0_sheets 7 = .ok (.i2l, 1) := dk_133 (dk_at dksX0_sheets_0 7 rfl rfl)
theorem dX0_sheets_8 : decode cX0_sheets 8 = .ok (.lastore, 1) := dk_80 (dk_at dksX0_sheets_0 8 rfl rfl)
theorem dX0_sheets_9 : decode cX0_sheets 9 = .ok (.goto 9, 3) := dk_167 0 9 (dk_at dksX0_sheets_0 9 rfl rfl)
theorem dX0_sheets_12 : decode cX0_sheets 12 = .ok (.astore_n 3, 1) := dk_78 (dk_at dksX0_sheets_0 12 rfl rfl)
theorem dX0_sheets_13 : decode cX0_sheets 13 = .ok (.iconst 1, 1) := dk_4 (dk_at dksX0_sheets_0 13 rfl rfl)
theorem dX0_sheets_14 : decode cX0_sheets 14 = .ok (.ireturn, 1) := dk_172 (dk_at dksX0_sheets_0 14 rfl rfl)
theorem dX0_sheets_15 : decode cX0_sheets 15 = .ok (.astore_n 3, 1) := dk_78 (dk_at dksX0_sheets_0 15 rfl rfl)
theorem dX0_sheets_16 : decode cX0_sheets 16 = .ok (.iconst 2, 1) := dk_5 (dk_at dksX0_sheets_0 16 rfl rfl)
theorem dX0_sheets_17 : decode cX0_sheets 17 = .ok (.ireturn, 1) := dk_172 (dk_at dksX0_sheets_0 17 rfl rfl)
theorem dX0_sheets_18 : decode cX0_sheets 18 = .ok (.iconst 0, 1) := dk_3 (dk_at dksX0_sheets_0 18 rfl rfl)
theorem dX0_sheets_19 : decode cX0_sheets 19 = .ok (.ireturn, 1) := dk_172 (dk_at dksX0_sheets_0 19 rfl rfl)
abbrev cX0_damp : ByteArray := method_4_code
def yX0_damp : MethodName := ⟨RX0, "damp", "(LWillowPrinters;I[J)I"⟩
def dkwX0_damp_0 : List UInt8 := [44, 3, 42, 27, 182, 0, 17, 133, 80, 167, 0, 6, 78, 4, 172, 3, 172]
abbrev dktX0_damp_0 : List UInt8 := dkwX0_damp_0 ++ []
theorem dksX0_damp_0 : cX0_damp.data.toList.drop 0 = dktX0_damp_0 := by decide +kernel
theorem dX0_damp_0 : decode cX0_damp 0 = .ok (.aload_n 2, 1) := dk_44 (dk_at dksX0_damp_0 0 rfl rfl)
theorem dX0_damp_1 : decode cX0_damp 1 = .ok (.iconst 0, 1) := dk_3 (dk_at dksX0_damp_0 1 rfl rfl)
theorem dX0_damp_2 : decode cX0_damp 2 = .ok (.aload_n 0, 1) := dk_42 (dk_at dksX0_damp_0 2 rfl rfl)
theorem dX0_damp_3 : decode cX0_damp 3 = .ok (.iload_n 1, 1) := dk_27 (dk_at dksX0_damp_0 3 rfl rfl)
theorem dX0_damp_4 : decode cX0_damp 4 = .ok (.invokevirtual 17, 3) := dk_182 0 17 (dk_at dksX0_damp_0 4 rfl rfl)
theorem dX0_damp_7 : decode cX0_damp 7 = .ok (.i2l, 1) := dk_133 (dk_at dksX0_damp_0 7 rfl rfl)
theorem dX0_damp_8 : decode cX0_damp 8 = .ok (.lastore, 1) := dk_80 (dk_at dksX0_damp_0 8 rfl rfl)
theorem dX0_damp_9 : decode cX0_damp 9 = .ok (.goto 6, 3) := dk_167 0 6 (dk_at dksX0_damp_0 9 rfl rfl)
theorem dX0_damp_12 : decode cX0_damp 12 = .ok (.astore_n 3, 1) := dk_78 (dk_at dksX0_damp_0 12 rfl rfl)
theorem dX0_damp_13 : decode cX0_damp 13 = .ok (.iconst 1, 1) := dk_4 (dk_at dksX0_damp_0 13 rfl rfl)
theorem dX0_damp_14 : decode cX0_damp 14 = .ok (.ireturn, 1) := dk_172 (dk_at dksX0_damp_0 14 rfl rfl)
theorem dX0_damp_15 : decode cX0_damp 15 = .ok (.iconst 0, 1) := dk_3 (dk_at dksX0_damp_0 15 rfl rfl)
theorem dX0_damp_16 : decode cX0_damp 16 = .ok (.ireturn, 1) := dk_172 (dk_at dksX0_damp_0 16 rfl rfl)
abbrev cX0_copper : ByteArray := method_5_code
def yX0_copper : MethodName := ⟨RX0, "copper", "(LWillowPrinters;I[J)I"⟩
def dkwX0_copper_0 : List UInt8 := [44, 3, 42, 27, 182, 0, 20, 133, 80, 167, 0, 9, 78, 4, 172, 78, 5, 172, 3, 172]
abbrev dktX0_copper_0 : List UInt8 := dkwX0_copper_0 ++ []
theorem dksX0_copper_0 : cX0_copper.data.toList.drop 0 = dktX0_copper_0 := by decide +kernel
theorem dX0_copper_0 : decode cX0_copper 0 = .ok (.aload_n 2, 1) := dk_44 (dk_at dksX0_copper_0 0 rfl rfl)
theorem dX0_copper_1 : decode cX0_copper 1 = .ok (.iconst 0, 1) := dk_3 (dk_at dksX0_copper_0 1 rfl rfl)
theorem dX0_copper_2 : decode cX0_copper 2 = .ok (.aload_n 0, 1) := dk_42 (dk_at dksX0_copper_0 2 rfl rfl)
theorem dX0_copper_3 : decode cX0_copper 3 = .ok (.iload_n 1, 1) := dk_27 (dk_at dksX0_copper_0 3 rfl rfl)
theorem dX0_copper_4 : decode cX0_copper 4 = .ok (.invokevirtual 20, 3) := dk_182 0 20 (dk_at dksX0_copper_0 4 rfl rfl)
theorem dX0_copper_7 : decode cX0_copper 7 = .ok (.i2l, 1) := dk_133 (dk_at dksX0_copper_0 7 rfl rfl)
theorem dX0_copper_8 : decode cX0_copper 8 = .ok (.lastore, 1) := dk_80 (dk_at dksX0_copper_0 8 rfl rfl)
theorem dX0_copper_9 : decode cX0_copper 9 = .ok (.goto 9, 3) := dk_167 0 9 (dk_at dksX0_copper_0 9 rfl rfl)
theorem dX0_copper_12 : decode cX0_copper 12 = .ok (.astore_n 3, 1) := dk_78 (dk_at dksX0_copper_0 12 rfl rfl)
theorem dX0_copper_13 : decode cX0_copper 13 = .ok (.iconst 1, 1) := dk_4 (dk_at dksX0_copper_0 13 rfl rfl)
theorem dX0_copper_14 : decode cX0_copper 14 = .ok (.ireturn, 1) := dk_172 (dk_at dksX0_copper_0 14 rfl rfl)
theorem dX0_copper_15 : decode cX0_copper 15 = .ok (.astore_n 3, 1) := dk_78 (dk_at dksX0_copper_0 15 rfl rfl)
theorem dX0_copper_16 : decode cX0_copper 16 = .ok (.iconst 2, 1) := dk_5 (dk_at dksX0_copper_0 16 rfl rfl)
theorem dX0_copper_17 : decode cX0_copper 17 = .ok (.ireturn, 1) := dk_172 (dk_at dksX0_copper_0 17 rfl rfl)
theorem dX0_copper_18 : decode cX0_copper 18 = .ok (.iconst 0, 1) := dk_3 (dk_at dksX0_copper_0 18 rfl rfl)
theorem dX0_copper_19 : decode cX0_copper 19 = .ok (.ireturn, 1) := dk_172 (dk_at dksX0_copper_0 19 rfl rfl)
abbrev cX0_copperOf : ByteArray := method_6_code
def yX0_copperOf : MethodName := ⟨RX0, "copperOf", "(LWillowPrinters;II[J)I"⟩
def dkwX0_copperOf_0 : List UInt8 := [45, 3, 42, 27, 28, 182, 0, 25, 133, 80, 167, 0, 11, 58, 4, 4, 172, 58, 4, 5, 172, 3, 172]
abbrev dktX0_copperOf_0 : List UInt8 := dkwX0_copperOf_0 ++ []
theorem dksX0_copperOf_0 : cX0_copperOf.data.toList.drop 0 = dktX0_copperOf_0 := by decide +kernel
theorem dX0_copperOf_0 : decode cX0_copperOf 0 = .ok (.aload_n 3, 1) := dk_45 (dk_at dksX0_copperOf_0 0 rfl rfl)
theorem dX0_copperOf_1 : decode cX0_copperOf 1 = .ok (.iconst 0, 1) := dk_3 (dk_at dksX0_copperOf_0 1 rfl rfl)
theorem dX0_copperOf_2 : decode cX0_copperOf 2 = .ok (.aload_n 0, 1) := dk_42 (dk_at dksX0_copperOf_0 2 rfl rfl)
theorem dX0_copperOf_3 : decode cX0_copperOf 3 = .ok (.iload_n 1, 1) := dk_27 (dk_at dksX0_copperOf_0 3 rfl rfl)
theorem dX0_copperOf_4 : decode cX0_copperOf 4 = .ok (.iload_n 2, 1) := dk_28 (dk_at dksX0_copperOf_0 4 rfl rfl)
theorem dX0_copperOf_5 : decode cX0_copperOf 5 = .ok (.invokevirtual 25, 3) := dk_182 0 25 (dk_at dksX0_copperOf_0 5 rfl rfl)
theorem dX0_copperOf_8 : decode cX0_copperOf 8 = .ok (.i2l, 1) := dk_133 (dk_at dksX0_copperOf_0 8 rfl rfl)
theorem dX0_copperOf_9 : decode cX0_copperOf 9 = .ok (.lastore, 1) := dk_80 (dk_at dksX0_copperOf_0 9 rfl rfl)
theorem dX0_copperOf_10 : decode cX0_copperOf 10 = .ok (.goto 11, 3) := dk_167 0 11 (dk_at dksX0_copperOf_0 10 rfl rfl)
theorem dX0_copperOf_13 : decode cX0_copperOf 13 = .ok (.astore 4, 2) := dk_58 4 (dk_at dksX0_copperOf_0 13 rfl rfl)
theorem dX0_copperOf_15 : decode cX0_copperOf 15 = .ok (.iconst 1, 1) := dk_4 (dk_at dksX0_copperOf_0 15 rfl rfl)
theorem dX0_copperOf_16 : decode cX0_copperOf 16 = .ok (.ireturn, 1) := dk_172 (dk_at dksX0_copperOf_0 16 rfl rfl)
theorem dX0_copperOf_17 : decode cX0_copperOf 17 = .ok (.astore 4, 2) := dk_58 4 (dk_at dksX0_copperOf_0 17 rfl rfl)
theorem dX0_copperOf_19 : decode cX0_copperOf 19 = .ok (.iconst 2, 1) := dk_5 (dk_at dksX0_copperOf_0 19 rfl rfl)
theorem dX0_copperOf_20 : decode cX0_copperOf 20 = .ok (.ireturn, 1) := dk_172 (dk_at dksX0_copperOf_0 20 rfl rfl)
theorem dX0_copperOf_21 : decode cX0_copperOf 21 = .ok (.iconst 0, 1) := dk_3 (dk_at dksX0_copperOf_0 21 rfl rfl)
theorem dX0_copperOf_22 : decode cX0_copperOf 22 = .ok (.ireturn, 1) := dk_172 (dk_at dksX0_copperOf_0 22 rfl rfl)
abbrev cX0_wellAgain : ByteArray := method_7_code
def yX0_wellAgain : MethodName := ⟨RX0, "wellAgain", "(LWillowPrinters;I[J)I"⟩
def dkwX0_wellAgain_0 : List UInt8 := [44, 3, 42, 27, 182, 0, 31, 133, 80, 167, 0, 6, 78, 4, 172, 3, 172]
abbrev dktX0_wellAgain_0 : List UInt8 := dkwX0_wellAgain_0 ++ []
theorem dksX0_wellAgain_0 : cX0_wellAgain.data.toList.drop 0 = dktX0_wellAgain_0 := by decide +kernel
theorem dX0_wellAgain_0 : decode cX0_wellAgain 0 = .ok (.aload_n 2, 1) := dk_44 (dk_at dksX0_wellAgain_0 0 rfl rfl)
theorem dX0_wellAgain_1 : decode cX0_wellAgain 1 = .ok (.iconst 0, 1) := dk_3 (dk_at dksX0_wellAgain_0 1 rfl rfl)
theorem dX0_wellAgain_2 : decode cX0_wellAgain 2 = .ok (.aload_n 0, 1) := dk_42 (dk_at dksX0_wellAgain_0 2 rfl rfl)
theorem dX0_wellAgain_3 : decode cX0_wellAgain 3 = .ok (.iload_n 1, 1) := dk_27 (dk_at dksX0_wellAgain_0 3 rfl rfl)
theorem dX0_wellAgain_4 : decode cX0_wellAgain 4 = .ok (.invokevirtual 31, 3) := dk_182 0 31 (dk_at dksX0_wellAgain_0 4 rfl rfl)
theorem dX0_wellAgain_7 : decode cX0_wellAgain 7 = .ok (.i2l, 1) := dk_133 (dk_at dksX0_wellAgain_0 7 rfl rfl)
theorem dX0_wellAgain_8 : decode cX0_wellAgain 8 = .ok (.lastore, 1) := dk_80 (dk_at dksX0_wellAgain_0 8 rfl rfl)
theorem dX0_wellAgain_9 : decode cX0_wellAgain 9 = .ok (.goto 6, 3) := dk_167 0 6 (dk_at dksX0_wellAgain_0 9 rfl rfl)
theorem dX0_wellAgain_12 : decode cX0_wellAgain 12 = .ok (.astore_n 3, 1) := dk_78 (dk_at dksX0_wellAgain_0 12 rfl rfl)
theorem dX0_wellAgain_13 : decode cX0_wellAgain 13 = .ok (.iconst 1, 1) := dk_4 (dk_at dksX0_wellAgain_0 13 rfl rfl)
theorem dX0_wellAgain_14 : decode cX0_wellAgain 14 = .ok (.ireturn, 1) := dk_172 (dk_at dksX0_wellAgain_0 14 rfl rfl)
theorem dX0_wellAgain_15 : decode cX0_wellAgain 15 = .ok (.iconst 0, 1) := dk_3 (dk_at dksX0_wellAgain_0 15 rfl rfl)
theorem dX0_wellAgain_16 : decode cX0_wellAgain 16 = .ok (.ireturn, 1) := dk_172 (dk_at dksX0_wellAgain_0 16 rfl rfl)
abbrev cX0_bestCopper : ByteArray := method_8_code
def yX0_bestCopper : MethodName := ⟨RX0, "bestCopper", "(LWillowPrinters;I[J)I"⟩
def dkwX0_bestCopper_0 : List UInt8 := [44, 3, 42, 27, 182, 0, 34, 133, 80, 167, 0, 9, 78, 4, 172, 78, 5, 172, 3, 172]
abbrev dktX0_bestCopper_0 : List UInt8 := dkwX0_bestCopper_0 ++ []
theorem dksX0_bestCopper_0 : cX0_bestCopper.data.toList.drop 0 = dktX0_bestCopper_0 := by decide +kernel
theorem dX0_bestCopper_0 : decode cX0_bestCopper 0 = .ok (.aload_n 2, 1) := dk_44 (dk_at dksX0_bestCopper_0 0 rfl rfl)
theorem dX0_bestCopper_1 : decode cX0_bestCopper 1 = .ok (.iconst 0, 1) := dk_3 (dk_at dksX0_bestCopper_0 1 rfl rfl)
theorem dX0_bestCopper_2 : decode cX0_bestCopper 2 = .ok (.aload_n 0, 1) := dk_42 (dk_at dksX0_bestCopper_0 2 rfl rfl)
theorem dX0_bestCopper_3 : decode cX0_bestCopper 3 = .ok (.iload_n 1, 1) := dk_27 (dk_at dksX0_bestCopper_0 3 rfl rfl)
theorem dX0_bestCopper_4 : decode cX0_bestCopper 4 = .ok (.invokevirtual 34, 3) := dk_182 0 34 (dk_at dksX0_bestCopper_0 4 rfl rfl)
theorem dX0_bestCopper_7 : decode cX0_bestCopper 7 = .ok (.i2l, 1) := dk_133 (dk_at dksX0_bestCopper_0 7 rfl rfl)
theorem dX0_bestCopper_8 : decode cX0_bestCopper 8 = .ok (.lastore, 1) := dk_80 (dk_at dksX0_bestCopper_0 8 rfl rfl)
theorem dX0_bestCopper_9 : decode cX0_bestCopper 9 = .ok (.goto 9, 3) := dk_167 0 9 (dk_at dksX0_bestCopper_0 9 rfl rfl)
theorem dX0_bestCopper_12 : decode cX0_bestCopper 12 = .ok (.astore_n 3, 1) := dk_78 (dk_at dksX0_bestCopper_0 12 rfl rfl)
theorem dX0_bestCopper_13 : decode cX0_bestCopper 13 = .ok (.iconst 1, 1) := dk_4 (dk_at dksX0_bestCopper_0 13 rfl rfl)
theorem dX0_bestCopper_14 : decode cX0_bestCopper 14 = .ok (.ireturn, 1) := dk_172 (dk_at dksX0_bestCopper_0 14 rfl rfl)
theorem dX0_bestCopper_15 : decode cX0_bestCopper 15 = .ok (.astore_n 3, 1) := dk_78 (dk_at dksX0_bestCopper_0 15 rfl rfl)
theorem dX0_bestCopper_16 : decode cX0_bestCopper 16 = .ok (.iconst 2, 1) := dk_5 (dk_at dksX0_bestCopper_0 16 rfl rfl)
theorem dX0_bestCopper_17 : decode cX0_bestCopper 17 = .ok (.ireturn, 1) := dk_172 (dk_at dksX0_bestCopper_0 17 rfl rfl)
theorem dX0_bestCopper_18 : decode cX0_bestCopper 18 = .ok (.iconst 0, 1) := dk_3 (dk_at dksX0_bestCopper_0 18 rfl rfl)
theorem dX0_bestCopper_19 : decode cX0_bestCopper 19 = .ok (.ireturn, 1) := dk_172 (dk_at dksX0_bestCopper_0 19 rfl rfl)
abbrev cX0_lot : ByteArray := method_9_code
def yX0_lot : MethodName := ⟨RX0, "lot", "(LWillowPrinters;I[J)I"⟩
def dkwX0_lot_0 : List UInt8 := [44, 3, 42, 27, 182, 0, 39, 133, 80, 167, 0, 12, 78, 4, 172, 78, 5, 172, 78, 6, 172, 3, 172]
abbrev dktX0_lot_0 : List UInt8 := dkwX0_lot_0 ++ []
theorem dksX0_lot_0 : cX0_lot.data.toList.drop 0 = dktX0_lot_0 := by decide +kernel
theorem dX0_lot_0 : decode cX0_lot 0 = .ok (.aload_n 2, 1) := dk_44 (dk_at dksX0_lot_0 0 rfl rfl)
theorem dX0_lot_1 : decode cX0_lot 1 = .ok (.iconst 0, 1) := dk_3 (dk_at dksX0_lot_0 1 rfl rfl)
theorem dX0_lot_2 : decode cX0_lot 2 = .ok (.aload_n 0, 1) := dk_42 (dk_at dksX0_lot_0 2 rfl rfl)
theorem dX0_lot_3 : decode cX0_lot 3 = .ok (.iload_n 1, 1) := dk_27 (dk_at dksX0_lot_0 3 rfl rfl)
theorem dX0_lot_4 : decode cX0_lot 4 = .ok (.invokevirtual 39, 3) := dk_182 0 39 (dk_at dksX0_lot_0 4 rfl rfl)
theorem dX0_lot_7 : decode cX0_lot 7 = .ok (.i2l, 1) := dk_133 (dk_at dksX0_lot_0 7 rfl rfl)
theorem dX0_lot_8 : decode cX0_lot 8 = .ok (.lastore, 1) := dk_80 (dk_at dksX0_lot_0 8 rfl rfl)
theorem dX0_lot_9 : decode cX0_lot 9 = .ok (.goto 12, 3) := dk_167 0 12 (dk_at dksX0_lot_0 9 rfl rfl)
theorem dX0_lot_12 : decode cX0_lot 12 = .ok (.astore_n 3, 1) := dk_78 (dk_at dksX0_lot_0 12 rfl rfl)
theorem dX0_lot_13 : decode cX0_lot 13 = .ok (.iconst 1, 1) := dk_4 (dk_at dksX0_lot_0 13 rfl rfl)
theorem dX0_lot_14 : decode cX0_lot 14 = .ok (.ireturn, 1) := dk_172 (dk_at dksX0_lot_0 14 rfl rfl)
theorem dX0_lot_15 : decode cX0_lot 15 = .ok (.astore_n 3, 1) := dk_78 (dk_at dksX0_lot_0 15 rfl rfl)
theorem dX0_lot_16 : decode cX0_lot 16 = .ok (.iconst 2, 1) := dk_5 (dk_at dksX0_lot_0 16 rfl rfl)
theorem dX0_lot_17 : decode cX0_lot 17 = .ok (.ireturn, 1) := dk_172 (dk_at dksX0_lot_0 17 rfl rfl)
theorem dX0_lot_18 : decode cX0_lot 18 = .ok (.astore_n 3, 1) := dk_78 (dk_at dksX0_lot_0 18 rfl rfl)
theorem dX0_lot_19 : decode cX0_lot 19 = .ok (.iconst 3, 1) := dk_6 (dk_at dksX0_lot_0 19 rfl rfl)
theorem dX0_lot_20 : decode cX0_lot 20 = .ok (.ireturn, 1) := dk_172 (dk_at dksX0_lot_0 20 rfl rfl)
theorem dX0_lot_21 : decode cX0_lot 21 = .ok (.iconst 0, 1) := dk_3 (dk_at dksX0_lot_0 21 rfl rfl)
theorem dX0_lot_22 : decode cX0_lot 22 = .ok (.ireturn, 1) := dk_172 (dk_at dksX0_lot_0 22 rfl rfl)
abbrev cX0_lotOf : ByteArray := method_10_code
def yX0_lotOf : MethodName := ⟨RX0, "lotOf", "(LWillowPrinters;II[J)I"⟩
def dkwX0_lotOf_0 : List UInt8 := [45, 3, 42, 27, 28, 182, 0, 42, 133, 80, 167, 0, 11, 58, 4, 4, 172, 58, 4, 5, 172, 3, 172]
abbrev dktX0_lotOf_0 : List UInt8 := dkwX0_lotOf_0 ++ []
theorem dksX0_lotOf_0 : cX0_lotOf.data.toList.drop 0 = dktX0_lotOf_0 := by decide +kernel
theorem dX0_lotOf_0 : decode cX0_lotOf 0 = .ok (.aload_n 3, 1) := dk_45 (dk_at dksX0_lotOf_0 0 rfl rfl)
theorem dX0_lotOf_1 : decode cX0_lotOf 1 = .ok (.iconst 0, 1) := dk_3 (dk_at dksX0_lotOf_0 1 rfl rfl)
theorem dX0_lotOf_2 : decode cX0_lotOf 2 = .ok (.aload_n 0, 1) := dk_42 (dk_at dksX0_lotOf_0 2 rfl rfl)
theorem dX0_lotOf_3 : decode cX0_lotOf 3 = .ok (.iload_n 1, 1) := dk_27 (dk_at dksX0_lotOf_0 3 rfl rfl)
theorem dX0_lotOf_4 : decode cX0_lotOf 4 = .ok (.iload_n 2, 1) := dk_28 (dk_at dksX0_lotOf_0 4 rfl rfl)
theorem dX0_lotOf_5 : decode cX0_lotOf 5 = .ok (.invokevirtual 42, 3) := dk_182 0 42 (dk_at dksX0_lotOf_0 5 rfl rfl)
theorem dX0_lotOf_8 : decode cX0_lotOf 8 = .ok (.i2l, 1) := dk_133 (dk_at dksX0_lotOf_0 8 rfl rfl)
theorem dX0_lotOf_9 : decode cX0_lotOf 9 = .ok (.lastore, 1) := dk_80 (dk_at dksX0_lotOf_0 9 rfl rfl)
theorem dX0_lotOf_10 : decode cX0_lotOf 10 = .ok (.goto 11, 3) := dk_167 0 11 (dk_at dksX0_lotOf_0 10 rfl rfl)
theorem dX0_lotOf_13 : decode cX0_lotOf 13 = .ok (.astore 4, 2) := dk_58 4 (dk_at dksX0_lotOf_0 13 rfl rfl)
theorem dX0_lotOf_15 : decode cX0_lotOf 15 = .ok (.iconst 1, 1) := dk_4 (dk_at dksX0_lotOf_0 15 rfl rfl)
theorem dX0_lotOf_16 : decode cX0_lotOf 16 = .ok (.ireturn, 1) := dk_172 (dk_at dksX0_lotOf_0 16 rfl rfl)
theorem dX0_lotOf_17 : decode cX0_lotOf 17 = .ok (.astore 4, 2) := dk_58 4 (dk_at dksX0_lotOf_0 17 rfl rfl)
theorem dX0_lotOf_19 : decode cX0_lotOf 19 = .ok (.iconst 2, 1) := dk_5 (dk_at dksX0_lotOf_0 19 rfl rfl)
theorem dX0_lotOf_20 : decode cX0_lotOf 20 = .ok (.ireturn, 1) := dk_172 (dk_at dksX0_lotOf_0 20 rfl rfl)
theorem dX0_lotOf_21 : decode cX0_lotOf 21 = .ok (.iconst 0, 1) := dk_3 (dk_at dksX0_lotOf_0 21 rfl rfl)
theorem dX0_lotOf_22 : decode cX0_lotOf 22 = .ok (.ireturn, 1) := dk_172 (dk_at dksX0_lotOf_0 22 rfl rfl)
abbrev cX0_print : ByteArray := method_11_code
def yX0_print : MethodName := ⟨RX0, "print", "(LWillowPrinters;II[J)I"⟩
def dkwX0_print_0 : List UInt8 := [45, 3, 42, 27, 28, 182, 0, 45, 133, 80, 167, 0, 11, 58, 4, 4, 172, 58, 4, 5, 172, 3, 172]
abbrev dktX0_print_0 : List UInt8 := dkwX0_print_0 ++ []
theorem dksX0_print_0 : cX0_print.data.toList.drop 0 = dktX0_print_0 := by decide +kernel
theorem dX0_print_0 : decode cX0_print 0 = .ok (.aload_n 3, 1) := dk_45 (dk_at dksX0_print_0 0 rfl rfl)
theorem dX0_print_1 : decode cX0_print 1 = .ok (.iconst 0, 1) := dk_3 (dk_at dksX0_print_0 1 rfl rfl)
theorem dX0_print_2 : decode cX0_print 2 = .ok (.aload_n 0, 1) := dk_42 (dk_at dksX0_print_0 2 rfl rfl)
theorem dX0_print_3 : decode cX0_print 3 = .ok (.iload_n 1, 1) := dk_27 (dk_at dksX0_print_0 3 rfl rfl)
theorem dX0_print_4 : decode cX0_print 4 = .ok (.iload_n 2, 1) := dk_28 (dk_at dksX0_print_0 4 rfl rfl)
theorem dX0_print_5 : decode cX0_print 5 = .ok (.invokevirtual 45, 3) := dk_182 0 45 (dk_at dksX0_print_0 5 rfl rfl)
theorem dX0_print_8 : decode cX0_print 8 = .ok (.i2l, 1) := dk_133 (dk_at dksX0_print_0 8 rfl rfl)
theorem dX0_print_9 : decode cX0_print 9 = .ok (.lastore, 1) := dk_80 (dk_at dksX0_print_0 9 rfl rfl)
theorem dX0_print_10 : decode cX0_print 10 = .ok (.goto 11, 3) := dk_167 0 11 (dk_at dksX0_print_0 10 rfl rfl)
theorem dX0_print_13 : decode cX0_print 13 = .ok (.astore 4, 2) := dk_58 4 (dk_at dksX0_print_0 13 rfl rfl)
theorem dX0_print_15 : decode cX0_print 15 = .ok (.iconst 1, 1) := dk_4 (dk_at dksX0_print_0 15 rfl rfl)
theorem dX0_print_16 : decode cX0_print 16 = .ok (.ireturn, 1) := dk_172 (dk_at dksX0_print_0 16 rfl rfl)
theorem dX0_print_17 : decode cX0_print 17 = .ok (.astore 4, 2) := dk_58 4 (dk_at dksX0_print_0 17 rfl rfl)
theorem dX0_print_19 : decode cX0_print 19 = .ok (.iconst 2, 1) := dk_5 (dk_at dksX0_print_0 19 rfl rfl)
theorem dX0_print_20 : decode cX0_print 20 = .ok (.ireturn, 1) := dk_172 (dk_at dksX0_print_0 20 rfl rfl)
theorem dX0_print_21 : decode cX0_print 21 = .ok (.iconst 0, 1) := dk_3 (dk_at dksX0_print_0 21 rfl rfl)
theorem dX0_print_22 : decode cX0_print 22 = .ok (.ireturn, 1) := dk_172 (dk_at dksX0_print_0 22 rfl rfl)
abbrev cX0_kiln : ByteArray := method_12_code
def yX0_kiln : MethodName := ⟨RX0, "kiln", "(LWillowPrinters;I[J)I"⟩
def dkwX0_kiln_0 : List UInt8 := [44, 3, 42, 27, 182, 0, 48, 133, 80, 167, 0, 9, 78, 4, 172, 78, 5, 172, 3, 172]
abbrev dktX0_kiln_0 : List UInt8 := dkwX0_kiln_0 ++ []
theorem dksX0_kiln_0 : cX0_kiln.data.toList.drop 0 = dktX0_kiln_0 := by decide +kernel
theorem dX0_kiln_0 : decode cX0_kiln 0 = .ok (.aload_n 2, 1) := dk_44 (dk_at dksX0_kiln_0 0 rfl rfl)
theorem dX0_kiln_1 : decode cX0_kiln 1 = .ok (.iconst 0, 1) := dk_3 (dk_at dksX0_kiln_0 1 rfl rfl)
theorem dX0_kiln_2 : decode cX0_kiln 2 = .ok (.aload_n 0, 1) := dk_42 (dk_at dksX0_kiln_0 2 rfl rfl)
theorem dX0_kiln_3 : decode cX0_kiln 3 = .ok (.iload_n 1, 1) := dk_27 (dk_at dksX0_kiln_0 3 rfl rfl)
theorem dX0_kiln_4 : decode cX0_kiln 4 = .ok (.invokevirtual 48, 3) := dk_182 0 48 (dk_at dksX0_kiln_0 4 rfl rfl)
theorem dX0_kiln_7 : decode cX0_kiln 7 = .ok (.i2l, 1) := dk_133 (dk_at dksX0_kiln_0 7 rfl rfl)
theorem dX0_kiln_8 : decode cX0_kiln 8 = .ok (.lastore, 1) := dk_80 (dk_at dksX0_kiln_0 8 rfl rfl)
theorem dX0_kiln_9 : decode cX0_kiln 9 = .ok (.goto 9, 3) := dk_167 0 9 (dk_at dksX0_kiln_0 9 rfl rfl)
theorem dX0_kiln_12 : decode cX0_kiln 12 = .ok (.astore_n 3, 1) := dk_78 (dk_at dksX0_kiln_0 12 rfl rfl)
theorem dX0_kiln_13 : decode cX0_kiln 13 = .ok (.iconst 1, 1) := dk_4 (dk_at dksX0_kiln_0 13 rfl rfl)
theorem dX0_kiln_14 : decode cX0_kiln 14 = .ok (.ireturn, 1) := dk_172 (dk_at dksX0_kiln_0 14 rfl rfl)
theorem dX0_kiln_15 : decode cX0_kiln 15 = .ok (.astore_n 3, 1) := dk_78 (dk_at dksX0_kiln_0 15 rfl rfl)
theorem dX0_kiln_16 : decode cX0_kiln 16 = .ok (.iconst 2, 1) := dk_5 (dk_at dksX0_kiln_0 16 rfl rfl)
theorem dX0_kiln_17 : decode cX0_kiln 17 = .ok (.ireturn, 1) := dk_172 (dk_at dksX0_kiln_0 17 rfl rfl)
theorem dX0_kiln_18 : decode cX0_kiln 18 = .ok (.iconst 0, 1) := dk_3 (dk_at dksX0_kiln_0 18 rfl rfl)
theorem dX0_kiln_19 : decode cX0_kiln 19 = .ok (.ireturn, 1) := dk_172 (dk_at dksX0_kiln_0 19 rfl rfl)
abbrev cX0_kilnOf : ByteArray := method_13_code
def yX0_kilnOf : MethodName := ⟨RX0, "kilnOf", "(LWillowPrinters;II[J)I"⟩
def dkwX0_kilnOf_0 : List UInt8 := [45, 3, 42, 27, 28, 182, 0, 51, 133, 80, 167, 0, 11, 58, 4, 4, 172, 58, 4, 5, 172, 3, 172]
abbrev dktX0_kilnOf_0 : List UInt8 := dkwX0_kilnOf_0 ++ []
theorem dksX0_kilnOf_0 : cX0_kilnOf.data.toList.drop 0 = dktX0_kilnOf_0 := by decide +kernel
theorem dX0_kilnOf_0 : decode cX0_kilnOf 0 = .ok (.aload_n 3, 1) := dk_45 (dk_at dksX0_kilnOf_0 0 rfl rfl)
theorem dX0_kilnOf_1 : decode cX0_kilnOf 1 = .ok (.iconst 0, 1) := dk_3 (dk_at dksX0_kilnOf_0 1 rfl rfl)
theorem dX0_kilnOf_2 : decode cX0_kilnOf 2 = .ok (.aload_n 0, 1) := dk_42 (dk_at dksX0_kilnOf_0 2 rfl rfl)
theorem dX0_kilnOf_3 : decode cX0_kilnOf 3 = .ok (.iload_n 1, 1) := dk_27 (dk_at dksX0_kilnOf_0 3 rfl rfl)
theorem dX0_kilnOf_4 : decode cX0_kilnOf 4 = .ok (.iload_n 2, 1) := dk_28 (dk_at dksX0_kilnOf_0 4 rfl rfl)
theorem dX0_kilnOf_5 : decode cX0_kilnOf 5 = .ok (.invokevirtual 51, 3) := dk_182 0 51 (dk_at dksX0_kilnOf_0 5 rfl rfl)
theorem dX0_kilnOf_8 : decode cX0_kilnOf 8 = .ok (.i2l, 1) := dk_133 (dk_at dksX0_kilnOf_0 8 rfl rfl)
theorem dX0_kilnOf_9 : decode cX0_kilnOf 9 = .ok (.lastore, 1) := dk_80 (dk_at dksX0_kilnOf_0 9 rfl rfl)
theorem dX0_kilnOf_10 : decode cX0_kilnOf 10 = .ok (.goto 11, 3) := dk_167 0 11 (dk_at dksX0_kilnOf_0 10 rfl rfl)
theorem dX0_kilnOf_13 : decode cX0_kilnOf 13 = .ok (.astore 4, 2) := dk_58 4 (dk_at dksX0_kilnOf_0 13 rfl rfl)
theorem dX0_kilnOf_15 : decode cX0_kilnOf 15 = .ok (.iconst 1, 1) := dk_4 (dk_at dksX0_kilnOf_0 15 rfl rfl)
theorem dX0_kilnOf_16 : decode cX0_kilnOf 16 = .ok (.ireturn, 1) := dk_172 (dk_at dksX0_kilnOf_0 16 rfl rfl)
theorem dX0_kilnOf_17 : decode cX0_kilnOf 17 = .ok (.astore 4, 2) := dk_58 4 (dk_at dksX0_kilnOf_0 17 rfl rfl)
theorem dX0_kilnOf_19 : decode cX0_kilnOf 19 = .ok (.iconst 2, 1) := dk_5 (dk_at dksX0_kilnOf_0 19 rfl rfl)
theorem dX0_kilnOf_20 : decode cX0_kilnOf 20 = .ok (.ireturn, 1) := dk_172 (dk_at dksX0_kilnOf_0 20 rfl rfl)
theorem dX0_kilnOf_21 : decode cX0_kilnOf 21 = .ok (.iconst 0, 1) := dk_3 (dk_at dksX0_kilnOf_0 21 rfl rfl)
theorem dX0_kilnOf_22 : decode cX0_kilnOf 22 = .ok (.ireturn, 1) := dk_172 (dk_at dksX0_kilnOf_0 22 rfl rfl)
abbrev cX0_fire : ByteArray := method_14_code
def yX0_fire : MethodName := ⟨RX0, "fire", "(LWillowPrinters;III[J)I"⟩
def dkwX0_fire_1 : List UInt8 := [58, 5, 6, 172, 3, 172]
abbrev dktX0_fire_1 : List UInt8 := dkwX0_fire_1 ++ []
def dkwX0_fire_0 : List UInt8 := [25, 4, 3, 42, 27, 28, 29, 182, 0, 54, 133, 80, 167, 0, 15, 58, 5, 4, 172, 58, 5, 5, 172]
abbrev dktX0_fire_0 : List UInt8 := dkwX0_fire_0 ++ dktX0_fire_1
theorem dksX0_fire_0 : cX0_fire.data.toList.drop 0 = dktX0_fire_0 := by decide +kernel
theorem dksX0_fire_1 : cX0_fire.data.toList.drop 23 = dktX0_fire_1 := dk_seg dksX0_fire_0 23 rfl rfl
theorem dX0_fire_0 : decode cX0_fire 0 = .ok (.aload 4, 2) := dk_25 4 (dk_at dksX0_fire_0 0 rfl rfl)
theorem dX0_fire_2 : decode cX0_fire 2 = .ok (.iconst 0, 1) := dk_3 (dk_at dksX0_fire_0 2 rfl rfl)
theorem dX0_fire_3 : decode cX0_fire 3 = .ok (.aload_n 0, 1) := dk_42 (dk_at dksX0_fire_0 3 rfl rfl)
theorem dX0_fire_4 : decode cX0_fire 4 = .ok (.iload_n 1, 1) := dk_27 (dk_at dksX0_fire_0 4 rfl rfl)
theorem dX0_fire_5 : decode cX0_fire 5 = .ok (.iload_n 2, 1) := dk_28 (dk_at dksX0_fire_0 5 rfl rfl)
theorem dX0_fire_6 : decode cX0_fire 6 = .ok (.iload_n 3, 1) := dk_29 (dk_at dksX0_fire_0 6 rfl rfl)
theorem dX0_fire_7 : decode cX0_fire 7 = .ok (.invokevirtual 54, 3) := dk_182 0 54 (dk_at dksX0_fire_0 7 rfl rfl)
theorem dX0_fire_10 : decode cX0_fire 10 = .ok (.i2l, 1) := dk_133 (dk_at dksX0_fire_0 10 rfl rfl)
theorem dX0_fire_11 : decode cX0_fire 11 = .ok (.lastore, 1) := dk_80 (dk_at dksX0_fire_0 11 rfl rfl)
theorem dX0_fire_12 : decode cX0_fire 12 = .ok (.goto 15, 3) := dk_167 0 15 (dk_at dksX0_fire_0 12 rfl rfl)
theorem dX0_fire_15 : decode cX0_fire 15 = .ok (.astore 5, 2) := dk_58 5 (dk_at dksX0_fire_0 15 rfl rfl)
theorem dX0_fire_17 : decode cX0_fire 17 = .ok (.iconst 1, 1) := dk_4 (dk_at dksX0_fire_0 17 rfl rfl)
theorem dX0_fire_18 : decode cX0_fire 18 = .ok (.ireturn, 1) := dk_172 (dk_at dksX0_fire_0 18 rfl rfl)
theorem dX0_fire_19 : decode cX0_fire 19 = .ok (.astore 5, 2) := dk_58 5 (dk_at dksX0_fire_0 19 rfl rfl)
theorem dX0_fire_21 : decode cX0_fire 21 = .ok (.iconst 2, 1) := dk_5 (dk_at dksX0_fire_0 21 rfl rfl)
theorem dX0_fire_22 : decode cX0_fire 22 = .ok (.ireturn, 1) := dk_172 (dk_at dksX0_fire_0 22 rfl rfl)
theorem dX0_fire_23 : decode cX0_fire 23 = .ok (.astore 5, 2) := dk_58 5 (dk_at dksX0_fire_1 0 rfl rfl)
theorem dX0_fire_25 : decode cX0_fire 25 = .ok (.iconst 3, 1) := dk_6 (dk_at dksX0_fire_1 2 rfl rfl)
theorem dX0_fire_26 : decode cX0_fire 26 = .ok (.ireturn, 1) := dk_172 (dk_at dksX0_fire_1 3 rfl rfl)
theorem dX0_fire_27 : decode cX0_fire 27 = .ok (.iconst 0, 1) := dk_3 (dk_at dksX0_fire_1 4 rfl rfl)
theorem dX0_fire_28 : decode cX0_fire 28 = .ok (.ireturn, 1) := dk_172 (dk_at dksX0_fire_1 5 rfl rfl)
abbrev cX0_wouldChip : ByteArray := method_15_code
def yX0_wouldChip : MethodName := ⟨RX0, "wouldChip", "(LWillowPrinters;II[J)I"⟩
def dkwX0_wouldChip_0 : List UInt8 := [45, 3, 42, 27, 28, 182, 0, 58, 133, 80, 167, 0, 11, 58, 4, 4, 172, 58, 4, 5, 172, 3, 172]
abbrev dktX0_wouldChip_0 : List UInt8 := dkwX0_wouldChip_0 ++ []
theorem dksX0_wouldChip_0 : cX0_wouldChip.data.toList.drop 0 = dktX0_wouldChip_0 := by decide +kernel
theorem dX0_wouldChip_0 : decode cX0_wouldChip 0 = .ok (.aload_n 3, 1) := dk_45 (dk_at dksX0_wouldChip_0 0 rfl rfl)
theorem dX0_wouldChip_1 : decode cX0_wouldChip 1 = .ok (.iconst 0, 1) := dk_3 (dk_at dksX0_wouldChip_0 1 rfl rfl)
theorem dX0_wouldChip_2 : decode cX0_wouldChip 2 = .ok (.aload_n 0, 1) := dk_42 (dk_at dksX0_wouldChip_0 2 rfl rfl)
theorem dX0_wouldChip_3 : decode cX0_wouldChip 3 = .ok (.iload_n 1, 1) := dk_27 (dk_at dksX0_wouldChip_0 3 rfl rfl)
theorem dX0_wouldChip_4 : decode cX0_wouldChip 4 = .ok (.iload_n 2, 1) := dk_28 (dk_at dksX0_wouldChip_0 4 rfl rfl)
theorem dX0_wouldChip_5 : decode cX0_wouldChip 5 = .ok (.invokevirtual 58, 3) := dk_182 0 58 (dk_at dksX0_wouldChip_0 5 rfl rfl)
theorem dX0_wouldChip_8 : decode cX0_wouldChip 8 = .ok (.i2l, 1) := dk_133 (dk_at dksX0_wouldChip_0 8 rfl rfl)
theorem dX0_wouldChip_9 : decode cX0_wouldChip 9 = .ok (.lastore, 1) := dk_80 (dk_at dksX0_wouldChip_0 9 rfl rfl)
theorem dX0_wouldChip_10 : decode cX0_wouldChip 10 = .ok (.goto 11, 3) := dk_167 0 11 (dk_at dksX0_wouldChip_0 10 rfl rfl)
theorem dX0_wouldChip_13 : decode cX0_wouldChip 13 = .ok (.astore 4, 2) := dk_58 4 (dk_at dksX0_wouldChip_0 13 rfl rfl)
theorem dX0_wouldChip_15 : decode cX0_wouldChip 15 = .ok (.iconst 1, 1) := dk_4 (dk_at dksX0_wouldChip_0 15 rfl rfl)
theorem dX0_wouldChip_16 : decode cX0_wouldChip 16 = .ok (.ireturn, 1) := dk_172 (dk_at dksX0_wouldChip_0 16 rfl rfl)
theorem dX0_wouldChip_17 : decode cX0_wouldChip 17 = .ok (.astore 4, 2) := dk_58 4 (dk_at dksX0_wouldChip_0 17 rfl rfl)
theorem dX0_wouldChip_19 : decode cX0_wouldChip 19 = .ok (.iconst 2, 1) := dk_5 (dk_at dksX0_wouldChip_0 19 rfl rfl)
theorem dX0_wouldChip_20 : decode cX0_wouldChip 20 = .ok (.ireturn, 1) := dk_172 (dk_at dksX0_wouldChip_0 20 rfl rfl)
theorem dX0_wouldChip_21 : decode cX0_wouldChip 21 = .ok (.iconst 0, 1) := dk_3 (dk_at dksX0_wouldChip_0 21 rfl rfl)
theorem dX0_wouldChip_22 : decode cX0_wouldChip 22 = .ok (.ireturn, 1) := dk_172 (dk_at dksX0_wouldChip_0 22 rfl rfl)
abbrev cX0_firstDone : ByteArray := method_16_code
def yX0_firstDone : MethodName := ⟨RX0, "firstDone", "(LWillowPrinters;[J)I"⟩
def dkwX0_firstDone_0 : List UInt8 := [43, 3, 42, 182, 0, 61, 133, 80, 167, 0, 6, 77, 4, 172, 3, 172]
abbrev dktX0_firstDone_0 : List UInt8 := dkwX0_firstDone_0 ++ []
theorem dksX0_firstDone_0 : cX0_firstDone.data.toList.drop 0 = dktX0_firstDone_0 := by decide +kernel
theorem dX0_firstDone_0 : decode cX0_firstDone 0 = .ok (.aload_n 1, 1) := dk_43 (dk_at dksX0_firstDone_0 0 rfl rfl)
theorem dX0_firstDone_1 : decode cX0_firstDone 1 = .ok (.iconst 0, 1) := dk_3 (dk_at dksX0_firstDone_0 1 rfl rfl)
theorem dX0_firstDone_2 : decode cX0_firstDone 2 = .ok (.aload_n 0, 1) := dk_42 (dk_at dksX0_firstDone_0 2 rfl rfl)
theorem dX0_firstDone_3 : decode cX0_firstDone 3 = .ok (.invokevirtual 61, 3) := dk_182 0 61 (dk_at dksX0_firstDone_0 3 rfl rfl)
theorem dX0_firstDone_6 : decode cX0_firstDone 6 = .ok (.i2l, 1) := dk_133 (dk_at dksX0_firstDone_0 6 rfl rfl)
theorem dX0_firstDone_7 : decode cX0_firstDone 7 = .ok (.lastore, 1) := dk_80 (dk_at dksX0_firstDone_0 7 rfl rfl)
theorem dX0_firstDone_8 : decode cX0_firstDone 8 = .ok (.goto 6, 3) := dk_167 0 6 (dk_at dksX0_firstDone_0 8 rfl rfl)
theorem dX0_firstDone_11 : decode cX0_firstDone 11 = .ok (.astore_n 2, 1) := dk_77 (dk_at dksX0_firstDone_0 11 rfl rfl)
theorem dX0_firstDone_12 : decode cX0_firstDone 12 = .ok (.iconst 1, 1) := dk_4 (dk_at dksX0_firstDone_0 12 rfl rfl)
theorem dX0_firstDone_13 : decode cX0_firstDone 13 = .ok (.ireturn, 1) := dk_172 (dk_at dksX0_firstDone_0 13 rfl rfl)
theorem dX0_firstDone_14 : decode cX0_firstDone 14 = .ok (.iconst 0, 1) := dk_3 (dk_at dksX0_firstDone_0 14 rfl rfl)
theorem dX0_firstDone_15 : decode cX0_firstDone 15 = .ok (.ireturn, 1) := dk_172 (dk_at dksX0_firstDone_0 15 rfl rfl)
abbrev cX0_crate : ByteArray := method_17_code
def yX0_crate : MethodName := ⟨RX0, "crate", "(LWillowPrinters;I[J)I"⟩
def dkwX0_crate_0 : List UInt8 := [44, 3, 42, 27, 182, 0, 65, 133, 80, 167, 0, 9, 78, 4, 172, 78, 5, 172, 3, 172]
abbrev dktX0_crate_0 : List UInt8 := dkwX0_crate_0 ++ []
theorem dksX0_crate_0 : cX0_crate.data.toList.drop 0 = dktX0_crate_0 := by decide +kernel
theorem dX0_crate_0 : decode cX0_crate 0 = .ok (.aload_n 2, 1) := dk_44 (dk_at dksX0_crate_0 0 rfl rfl)
theorem dX0_crate_1 : decode cX0_crate 1 = .ok (.iconst 0, 1) := dk_3 (dk_at dksX0_crate_0 1 rfl rfl)
theorem dX0_crate_2 : decode cX0_crate 2 = .ok (.aload_n 0, 1) := dk_42 (dk_at dksX0_crate_0 2 rfl rfl)
theorem dX0_crate_3 : decode cX0_crate 3 = .ok (.iload_n 1, 1) := dk_27 (dk_at dksX0_crate_0 3 rfl rfl)
theorem dX0_crate_4 : decode cX0_crate 4 = .ok (.invokevirtual 65, 3) := dk_182 0 65 (dk_at dksX0_crate_0 4 rfl rfl)
theorem dX0_crate_7 : decode cX0_crate 7 = .ok (.i2l, 1) := dk_133 (dk_at dksX0_crate_0 7 rfl rfl)
theorem dX0_crate_8 : decode cX0_crate 8 = .ok (.lastore, 1) := dk_80 (dk_at dksX0_crate_0 8 rfl rfl)
theorem dX0_crate_9 : decode cX0_crate 9 = .ok (.goto 9, 3) := dk_167 0 9 (dk_at dksX0_crate_0 9 rfl rfl)
theorem dX0_crate_12 : decode cX0_crate 12 = .ok (.astore_n 3, 1) := dk_78 (dk_at dksX0_crate_0 12 rfl rfl)
theorem dX0_crate_13 : decode cX0_crate 13 = .ok (.iconst 1, 1) := dk_4 (dk_at dksX0_crate_0 13 rfl rfl)
theorem dX0_crate_14 : decode cX0_crate 14 = .ok (.ireturn, 1) := dk_172 (dk_at dksX0_crate_0 14 rfl rfl)
theorem dX0_crate_15 : decode cX0_crate 15 = .ok (.astore_n 3, 1) := dk_78 (dk_at dksX0_crate_0 15 rfl rfl)
theorem dX0_crate_16 : decode cX0_crate 16 = .ok (.iconst 2, 1) := dk_5 (dk_at dksX0_crate_0 16 rfl rfl)
theorem dX0_crate_17 : decode cX0_crate 17 = .ok (.ireturn, 1) := dk_172 (dk_at dksX0_crate_0 17 rfl rfl)
theorem dX0_crate_18 : decode cX0_crate 18 = .ok (.iconst 0, 1) := dk_3 (dk_at dksX0_crate_0 18 rfl rfl)
theorem dX0_crate_19 : decode cX0_crate 19 = .ok (.ireturn, 1) := dk_172 (dk_at dksX0_crate_0 19 rfl rfl)
abbrev cX0_crateOf : ByteArray := method_18_code
def yX0_crateOf : MethodName := ⟨RX0, "crateOf", "(LWillowPrinters;II[J)I"⟩
def dkwX0_crateOf_0 : List UInt8 := [45, 3, 42, 27, 28, 182, 0, 68, 133, 80, 167, 0, 11, 58, 4, 4, 172, 58, 4, 5, 172, 3, 172]
abbrev dktX0_crateOf_0 : List UInt8 := dkwX0_crateOf_0 ++ []
theorem dksX0_crateOf_0 : cX0_crateOf.data.toList.drop 0 = dktX0_crateOf_0 := by decide +kernel
theorem dX0_crateOf_0 : decode cX0_crateOf 0 = .ok (.aload_n 3, 1) := dk_45 (dk_at dksX0_crateOf_0 0 rfl rfl)
theorem dX0_crateOf_1 : decode cX0_crateOf 1 = .ok (.iconst 0, 1) := dk_3 (dk_at dksX0_crateOf_0 1 rfl rfl)
theorem dX0_crateOf_2 : decode cX0_crateOf 2 = .ok (.aload_n 0, 1) := dk_42 (dk_at dksX0_crateOf_0 2 rfl rfl)
theorem dX0_crateOf_3 : decode cX0_crateOf 3 = .ok (.iload_n 1, 1) := dk_27 (dk_at dksX0_crateOf_0 3 rfl rfl)
theorem dX0_crateOf_4 : decode cX0_crateOf 4 = .ok (.iload_n 2, 1) := dk_28 (dk_at dksX0_crateOf_0 4 rfl rfl)
theorem dX0_crateOf_5 : decode cX0_crateOf 5 = .ok (.invokevirtual 68, 3) := dk_182 0 68 (dk_at dksX0_crateOf_0 5 rfl rfl)
theorem dX0_crateOf_8 : decode cX0_crateOf 8 = .ok (.i2l, 1) := dk_133 (dk_at dksX0_crateOf_0 8 rfl rfl)
theorem dX0_crateOf_9 : decode cX0_crateOf 9 = .ok (.lastore, 1) := dk_80 (dk_at dksX0_crateOf_0 9 rfl rfl)
theorem dX0_crateOf_10 : decode cX0_crateOf 10 = .ok (.goto 11, 3) := dk_167 0 11 (dk_at dksX0_crateOf_0 10 rfl rfl)
theorem dX0_crateOf_13 : decode cX0_crateOf 13 = .ok (.astore 4, 2) := dk_58 4 (dk_at dksX0_crateOf_0 13 rfl rfl)
theorem dX0_crateOf_15 : decode cX0_crateOf 15 = .ok (.iconst 1, 1) := dk_4 (dk_at dksX0_crateOf_0 15 rfl rfl)
theorem dX0_crateOf_16 : decode cX0_crateOf 16 = .ok (.ireturn, 1) := dk_172 (dk_at dksX0_crateOf_0 16 rfl rfl)
theorem dX0_crateOf_17 : decode cX0_crateOf 17 = .ok (.astore 4, 2) := dk_58 4 (dk_at dksX0_crateOf_0 17 rfl rfl)
theorem dX0_crateOf_19 : decode cX0_crateOf 19 = .ok (.iconst 2, 1) := dk_5 (dk_at dksX0_crateOf_0 19 rfl rfl)
theorem dX0_crateOf_20 : decode cX0_crateOf 20 = .ok (.ireturn, 1) := dk_172 (dk_at dksX0_crateOf_0 20 rfl rfl)
theorem dX0_crateOf_21 : decode cX0_crateOf 21 = .ok (.iconst 0, 1) := dk_3 (dk_at dksX0_crateOf_0 21 rfl rfl)
theorem dX0_crateOf_22 : decode cX0_crateOf 22 = .ok (.ireturn, 1) := dk_172 (dk_at dksX0_crateOf_0 22 rfl rfl)
abbrev cX0_straw : ByteArray := method_19_code
def yX0_straw : MethodName := ⟨RX0, "straw", "(LWillowPrinters;II[J)I"⟩
def dkwX0_straw_1 : List UInt8 := [172, 3, 172]
abbrev dktX0_straw_1 : List UInt8 := dkwX0_straw_1 ++ []
def dkwX0_straw_0 : List UInt8 := [45, 3, 42, 27, 28, 182, 0, 71, 133, 80, 167, 0, 15, 58, 4, 4, 172, 58, 4, 5, 172, 58, 4, 6]
abbrev dktX0_straw_0 : List UInt8 := dkwX0_straw_0 ++ dktX0_straw_1
theorem dksX0_straw_0 : cX0_straw.data.toList.drop 0 = dktX0_straw_0 := by decide +kernel
theorem dksX0_straw_1 : cX0_straw.data.toList.drop 24 = dktX0_straw_1 := dk_seg dksX0_straw_0 24 rfl rfl
theorem dX0_straw_0 : decode cX0_straw 0 = .ok (.aload_n 3, 1) := dk_45 (dk_at dksX0_straw_0 0 rfl rfl)
theorem dX0_straw_1 : decode cX0_straw 1 = .ok (.iconst 0, 1) := dk_3 (dk_at dksX0_straw_0 1 rfl rfl)
theorem dX0_straw_2 : decode cX0_straw 2 = .ok (.aload_n 0, 1) := dk_42 (dk_at dksX0_straw_0 2 rfl rfl)
theorem dX0_straw_3 : decode cX0_straw 3 = .ok (.iload_n 1, 1) := dk_27 (dk_at dksX0_straw_0 3 rfl rfl)
theorem dX0_straw_4 : decode cX0_straw 4 = .ok (.iload_n 2, 1) := dk_28 (dk_at dksX0_straw_0 4 rfl rfl)
theorem dX0_straw_5 : decode cX0_straw 5 = .ok (.invokevirtual 71, 3) := dk_182 0 71 (dk_at dksX0_straw_0 5 rfl rfl)
theorem dX0_straw_8 : decode cX0_straw 8 = .ok (.i2l, 1) := dk_133 (dk_at dksX0_straw_0 8 rfl rfl)
theorem dX0_straw_9 : decode cX0_straw 9 = .ok (.lastore, 1) := dk_80 (dk_at dksX0_straw_0 9 rfl rfl)
theorem dX0_straw_10 : decode cX0_straw 10 = .ok (.goto 15, 3) := dk_167 0 15 (dk_at dksX0_straw_0 10 rfl rfl)
theorem dX0_straw_13 : decode cX0_straw 13 = .ok (.astore 4, 2) := dk_58 4 (dk_at dksX0_straw_0 13 rfl rfl)
theorem dX0_straw_15 : decode cX0_straw 15 = .ok (.iconst 1, 1) := dk_4 (dk_at dksX0_straw_0 15 rfl rfl)
theorem dX0_straw_16 : decode cX0_straw 16 = .ok (.ireturn, 1) := dk_172 (dk_at dksX0_straw_0 16 rfl rfl)
theorem dX0_straw_17 : decode cX0_straw 17 = .ok (.astore 4, 2) := dk_58 4 (dk_at dksX0_straw_0 17 rfl rfl)
theorem dX0_straw_19 : decode cX0_straw 19 = .ok (.iconst 2, 1) := dk_5 (dk_at dksX0_straw_0 19 rfl rfl)
theorem dX0_straw_20 : decode cX0_straw 20 = .ok (.ireturn, 1) := dk_172 (dk_at dksX0_straw_0 20 rfl rfl)
theorem dX0_straw_21 : decode cX0_straw 21 = .ok (.astore 4, 2) := dk_58 4 (dk_at dksX0_straw_0 21 rfl rfl)
theorem dX0_straw_23 : decode cX0_straw 23 = .ok (.iconst 3, 1) := dk_6 (dk_at dksX0_straw_0 23 rfl rfl)
theorem dX0_straw_24 : decode cX0_straw 24 = .ok (.ireturn, 1) := dk_172 (dk_at dksX0_straw_1 0 rfl rfl)
theorem dX0_straw_25 : decode cX0_straw 25 = .ok (.iconst 0, 1) := dk_3 (dk_at dksX0_straw_1 1 rfl rfl)
theorem dX0_straw_26 : decode cX0_straw 26 = .ok (.ireturn, 1) := dk_172 (dk_at dksX0_straw_1 2 rfl rfl)
abbrev cX0_pack : ByteArray := method_20_code
def yX0_pack : MethodName := ⟨RX0, "pack", "(LWillowPrinters;III[J)I"⟩
def dkwX0_pack_1 : List UInt8 := [58, 5, 6, 172, 3, 172]
abbrev dktX0_pack_1 : List UInt8 := dkwX0_pack_1 ++ []
def dkwX0_pack_0 : List UInt8 := [25, 4, 3, 42, 27, 28, 29, 182, 0, 74, 133, 80, 167, 0, 15, 58, 5, 4, 172, 58, 5, 5, 172]
abbrev dktX0_pack_0 : List UInt8 := dkwX0_pack_0 ++ dktX0_pack_1
theorem dksX0_pack_0 : cX0_pack.data.toList.drop 0 = dktX0_pack_0 := by decide +kernel
theorem dksX0_pack_1 : cX0_pack.data.toList.drop 23 = dktX0_pack_1 := dk_seg dksX0_pack_0 23 rfl rfl
theorem dX0_pack_0 : decode cX0_pack 0 = .ok (.aload 4, 2) := dk_25 4 (dk_at dksX0_pack_0 0 rfl rfl)
theorem dX0_pack_2 : decode cX0_pack 2 = .ok (.iconst 0, 1) := dk_3 (dk_at dksX0_pack_0 2 rfl rfl)
theorem dX0_pack_3 : decode cX0_pack 3 = .ok (.aload_n 0, 1) := dk_42 (dk_at dksX0_pack_0 3 rfl rfl)
theorem dX0_pack_4 : decode cX0_pack 4 = .ok (.iload_n 1, 1) := dk_27 (dk_at dksX0_pack_0 4 rfl rfl)
theorem dX0_pack_5 : decode cX0_pack 5 = .ok (.iload_n 2, 1) := dk_28 (dk_at dksX0_pack_0 5 rfl rfl)
theorem dX0_pack_6 : decode cX0_pack 6 = .ok (.iload_n 3, 1) := dk_29 (dk_at dksX0_pack_0 6 rfl rfl)
theorem dX0_pack_7 : decode cX0_pack 7 = .ok (.invokevirtual 74, 3) := dk_182 0 74 (dk_at dksX0_pack_0 7 rfl rfl)
theorem dX0_pack_10 : decode cX0_pack 10 = .ok (.i2l, 1) := dk_133 (dk_at dksX0_pack_0 10 rfl rfl)
theorem dX0_pack_11 : decode cX0_pack 11 = .ok (.lastore, 1) := dk_80 (dk_at dksX0_pack_0 11 rfl rfl)
theorem dX0_pack_12 : decode cX0_pack 12 = .ok (.goto 15, 3) := dk_167 0 15 (dk_at dksX0_pack_0 12 rfl rfl)
theorem dX0_pack_15 : decode cX0_pack 15 = .ok (.astore 5, 2) := dk_58 5 (dk_at dksX0_pack_0 15 rfl rfl)
theorem dX0_pack_17 : decode cX0_pack 17 = .ok (.iconst 1, 1) := dk_4 (dk_at dksX0_pack_0 17 rfl rfl)
theorem dX0_pack_18 : decode cX0_pack 18 = .ok (.ireturn, 1) := dk_172 (dk_at dksX0_pack_0 18 rfl rfl)
theorem dX0_pack_19 : decode cX0_pack 19 = .ok (.astore 5, 2) := dk_58 5 (dk_at dksX0_pack_0 19 rfl rfl)
theorem dX0_pack_21 : decode cX0_pack 21 = .ok (.iconst 2, 1) := dk_5 (dk_at dksX0_pack_0 21 rfl rfl)
theorem dX0_pack_22 : decode cX0_pack 22 = .ok (.ireturn, 1) := dk_172 (dk_at dksX0_pack_0 22 rfl rfl)
theorem dX0_pack_23 : decode cX0_pack 23 = .ok (.astore 5, 2) := dk_58 5 (dk_at dksX0_pack_1 0 rfl rfl)
theorem dX0_pack_25 : decode cX0_pack 25 = .ok (.iconst 3, 1) := dk_6 (dk_at dksX0_pack_1 2 rfl rfl)
theorem dX0_pack_26 : decode cX0_pack 26 = .ok (.ireturn, 1) := dk_172 (dk_at dksX0_pack_1 3 rfl rfl)
theorem dX0_pack_27 : decode cX0_pack 27 = .ok (.iconst 0, 1) := dk_3 (dk_at dksX0_pack_1 4 rfl rfl)
theorem dX0_pack_28 : decode cX0_pack 28 = .ok (.ireturn, 1) := dk_172 (dk_at dksX0_pack_1 5 rfl rfl)
abbrev cX0_carry : ByteArray := method_21_code
def yX0_carry : MethodName := ⟨RX0, "carry", "(LWillowPrinters;I[J)I"⟩
def dkwX0_carry_0 : List UInt8 := [44, 3, 42, 27, 182, 0, 77, 133, 80, 167, 0, 9, 78, 4, 172, 78, 5, 172, 3, 172]
abbrev dktX0_carry_0 : List UInt8 := dkwX0_carry_0 ++ []
theorem dksX0_carry_0 : cX0_carry.data.toList.drop 0 = dktX0_carry_0 := by decide +kernel
theorem dX0_carry_0 : decode cX0_carry 0 = .ok (.aload_n 2, 1) := dk_44 (dk_at dksX0_carry_0 0 rfl rfl)
theorem dX0_carry_1 : decode cX0_carry 1 = .ok (.iconst 0, 1) := dk_3 (dk_at dksX0_carry_0 1 rfl rfl)
theorem dX0_carry_2 : decode cX0_carry 2 = .ok (.aload_n 0, 1) := dk_42 (dk_at dksX0_carry_0 2 rfl rfl)
theorem dX0_carry_3 : decode cX0_carry 3 = .ok (.iload_n 1, 1) := dk_27 (dk_at dksX0_carry_0 3 rfl rfl)
theorem dX0_carry_4 : decode cX0_carry 4 = .ok (.invokevirtual 77, 3) := dk_182 0 77 (dk_at dksX0_carry_0 4 rfl rfl)
theorem dX0_carry_7 : decode cX0_carry 7 = .ok (.i2l, 1) := dk_133 (dk_at dksX0_carry_0 7 rfl rfl)
theorem dX0_carry_8 : decode cX0_carry 8 = .ok (.lastore, 1) := dk_80 (dk_at dksX0_carry_0 8 rfl rfl)
theorem dX0_carry_9 : decode cX0_carry 9 = .ok (.goto 9, 3) := dk_167 0 9 (dk_at dksX0_carry_0 9 rfl rfl)
theorem dX0_carry_12 : decode cX0_carry 12 = .ok (.astore_n 3, 1) := dk_78 (dk_at dksX0_carry_0 12 rfl rfl)
theorem dX0_carry_13 : decode cX0_carry 13 = .ok (.iconst 1, 1) := dk_4 (dk_at dksX0_carry_0 13 rfl rfl)
theorem dX0_carry_14 : decode cX0_carry 14 = .ok (.ireturn, 1) := dk_172 (dk_at dksX0_carry_0 14 rfl rfl)
theorem dX0_carry_15 : decode cX0_carry 15 = .ok (.astore_n 3, 1) := dk_78 (dk_at dksX0_carry_0 15 rfl rfl)
theorem dX0_carry_16 : decode cX0_carry 16 = .ok (.iconst 2, 1) := dk_5 (dk_at dksX0_carry_0 16 rfl rfl)
theorem dX0_carry_17 : decode cX0_carry 17 = .ok (.ireturn, 1) := dk_172 (dk_at dksX0_carry_0 17 rfl rfl)
theorem dX0_carry_18 : decode cX0_carry 18 = .ok (.iconst 0, 1) := dk_3 (dk_at dksX0_carry_0 18 rfl rfl)
theorem dX0_carry_19 : decode cX0_carry 19 = .ok (.ireturn, 1) := dk_172 (dk_at dksX0_carry_0 19 rfl rfl)
abbrev cX0_sell : ByteArray := method_22_code
def yX0_sell : MethodName := ⟨RX0, "sell", "(LWillowPrinters;[J)I"⟩
def dkwX0_sell_0 : List UInt8 := [43, 3, 42, 182, 0, 80, 133, 80, 167, 0, 6, 77, 4, 172, 3, 172]
abbrev dktX0_sell_0 : List UInt8 := dkwX0_sell_0 ++ []
theorem dksX0_sell_0 : cX0_sell.data.toList.drop 0 = dktX0_sell_0 := by decide +kernel
theorem dX0_sell_0 : decode cX0_sell 0 = .ok (.aload_n 1, 1) := dk_43 (dk_at dksX0_sell_0 0 rfl rfl)
theorem dX0_sell_1 : decode cX0_sell 1 = .ok (.iconst 0, 1) := dk_3 (dk_at dksX0_sell_0 1 rfl rfl)
theorem dX0_sell_2 : decode cX0_sell 2 = .ok (.aload_n 0, 1) := dk_42 (dk_at dksX0_sell_0 2 rfl rfl)
theorem dX0_sell_3 : decode cX0_sell 3 = .ok (.invokevirtual 80, 3) := dk_182 0 80 (dk_at dksX0_sell_0 3 rfl rfl)
theorem dX0_sell_6 : decode cX0_sell 6 = .ok (.i2l, 1) := dk_133 (dk_at dksX0_sell_0 6 rfl rfl)
theorem dX0_sell_7 : decode cX0_sell 7 = .ok (.lastore, 1) := dk_80 (dk_at dksX0_sell_0 7 rfl rfl)
theorem dX0_sell_8 : decode cX0_sell 8 = .ok (.goto 6, 3) := dk_167 0 6 (dk_at dksX0_sell_0 8 rfl rfl)
theorem dX0_sell_11 : decode cX0_sell 11 = .ok (.astore_n 2, 1) := dk_77 (dk_at dksX0_sell_0 11 rfl rfl)
theorem dX0_sell_12 : decode cX0_sell 12 = .ok (.iconst 1, 1) := dk_4 (dk_at dksX0_sell_0 12 rfl rfl)
theorem dX0_sell_13 : decode cX0_sell 13 = .ok (.ireturn, 1) := dk_172 (dk_at dksX0_sell_0 13 rfl rfl)
theorem dX0_sell_14 : decode cX0_sell 14 = .ok (.iconst 0, 1) := dk_3 (dk_at dksX0_sell_0 14 rfl rfl)
theorem dX0_sell_15 : decode cX0_sell 15 = .ok (.ireturn, 1) := dk_172 (dk_at dksX0_sell_0 15 rfl rfl)
abbrev cX0_pass : ByteArray := method_23_code
def yX0_pass : MethodName := ⟨RX0, "pass", "(LWillowPrinters;I[J)I"⟩
def dkwX0_pass_0 : List UInt8 := [44, 3, 42, 27, 182, 0, 83, 133, 80, 167, 0, 6, 78, 4, 172, 3, 172]
abbrev dktX0_pass_0 : List UInt8 := dkwX0_pass_0 ++ []
theorem dksX0_pass_0 : cX0_pass.data.toList.drop 0 = dktX0_pass_0 := by decide +kernel
theorem dX0_pass_0 : decode cX0_pass 0 = .ok (.aload_n 2, 1) := dk_44 (dk_at dksX0_pass_0 0 rfl rfl)
theorem dX0_pass_1 : decode cX0_pass 1 = .ok (.iconst 0, 1) := dk_3 (dk_at dksX0_pass_0 1 rfl rfl)
theorem dX0_pass_2 : decode cX0_pass 2 = .ok (.aload_n 0, 1) := dk_42 (dk_at dksX0_pass_0 2 rfl rfl)
theorem dX0_pass_3 : decode cX0_pass 3 = .ok (.iload_n 1, 1) := dk_27 (dk_at dksX0_pass_0 3 rfl rfl)
theorem dX0_pass_4 : decode cX0_pass 4 = .ok (.invokevirtual 83, 3) := dk_182 0 83 (dk_at dksX0_pass_0 4 rfl rfl)
theorem dX0_pass_7 : decode cX0_pass 7 = .ok (.i2l, 1) := dk_133 (dk_at dksX0_pass_0 7 rfl rfl)
theorem dX0_pass_8 : decode cX0_pass 8 = .ok (.lastore, 1) := dk_80 (dk_at dksX0_pass_0 8 rfl rfl)
theorem dX0_pass_9 : decode cX0_pass 9 = .ok (.goto 6, 3) := dk_167 0 6 (dk_at dksX0_pass_0 9 rfl rfl)
theorem dX0_pass_12 : decode cX0_pass 12 = .ok (.astore_n 3, 1) := dk_78 (dk_at dksX0_pass_0 12 rfl rfl)
theorem dX0_pass_13 : decode cX0_pass 13 = .ok (.iconst 1, 1) := dk_4 (dk_at dksX0_pass_0 13 rfl rfl)
theorem dX0_pass_14 : decode cX0_pass 14 = .ok (.ireturn, 1) := dk_172 (dk_at dksX0_pass_0 14 rfl rfl)
theorem dX0_pass_15 : decode cX0_pass 15 = .ok (.iconst 0, 1) := dk_3 (dk_at dksX0_pass_0 15 rfl rfl)
theorem dX0_pass_16 : decode cX0_pass 16 = .ok (.ireturn, 1) := dk_172 (dk_at dksX0_pass_0 16 rfl rfl)
abbrev cX0_line : ByteArray := method_24_code
def yX0_line : MethodName := ⟨RX0, "line", "(LWillowPrinters;I[J)I"⟩
def dkwX0_line_0 : List UInt8 := [44, 3, 42, 27, 182, 0, 86, 133, 80, 167, 0, 6, 78, 4, 172, 3, 172]
abbrev dktX0_line_0 : List UInt8 := dkwX0_line_0 ++ []
theorem dksX0_line_0 : cX0_line.data.toList.drop 0 = dktX0_line_0 := by decide +kernel
theorem dX0_line_0 : decode cX0_line 0 = .ok (.aload_n 2, 1) := dk_44 (dk_at dksX0_line_0 0 rfl rfl)
theorem dX0_line_1 : decode cX0_line 1 = .ok (.iconst 0, 1) := dk_3 (dk_at dksX0_line_0 1 rfl rfl)
theorem dX0_line_2 : decode cX0_line 2 = .ok (.aload_n 0, 1) := dk_42 (dk_at dksX0_line_0 2 rfl rfl)
theorem dX0_line_3 : decode cX0_line 3 = .ok (.iload_n 1, 1) := dk_27 (dk_at dksX0_line_0 3 rfl rfl)
theorem dX0_line_4 : decode cX0_line 4 = .ok (.invokevirtual 86, 3) := dk_182 0 86 (dk_at dksX0_line_0 4 rfl rfl)
theorem dX0_line_7 : decode cX0_line 7 = .ok (.i2l, 1) := dk_133 (dk_at dksX0_line_0 7 rfl rfl)
theorem dX0_line_8 : decode cX0_line 8 = .ok (.lastore, 1) := dk_80 (dk_at dksX0_line_0 8 rfl rfl)
theorem dX0_line_9 : decode cX0_line 9 = .ok (.goto 6, 3) := dk_167 0 6 (dk_at dksX0_line_0 9 rfl rfl)
theorem dX0_line_12 : decode cX0_line 12 = .ok (.astore_n 3, 1) := dk_78 (dk_at dksX0_line_0 12 rfl rfl)
theorem dX0_line_13 : decode cX0_line 13 = .ok (.iconst 1, 1) := dk_4 (dk_at dksX0_line_0 13 rfl rfl)
theorem dX0_line_14 : decode cX0_line 14 = .ok (.ireturn, 1) := dk_172 (dk_at dksX0_line_0 14 rfl rfl)
theorem dX0_line_15 : decode cX0_line 15 = .ok (.iconst 0, 1) := dk_3 (dk_at dksX0_line_0 15 rfl rfl)
theorem dX0_line_16 : decode cX0_line 16 = .ok (.ireturn, 1) := dk_172 (dk_at dksX0_line_0 16 rfl rfl)
abbrev cX0_crateLine : ByteArray := method_25_code
def yX0_crateLine : MethodName := ⟨RX0, "crateLine", "(LWillowPrinters;I[J)I"⟩
def dkwX0_crateLine_0 : List UInt8 := [44, 3, 42, 27, 182, 0, 89, 133, 80, 167, 0, 6, 78, 4, 172, 3, 172]
abbrev dktX0_crateLine_0 : List UInt8 := dkwX0_crateLine_0 ++ []
theorem dksX0_crateLine_0 : cX0_crateLine.data.toList.drop 0 = dktX0_crateLine_0 := by decide +kernel
theorem dX0_crateLine_0 : decode cX0_crateLine 0 = .ok (.aload_n 2, 1) := dk_44 (dk_at dksX0_crateLine_0 0 rfl rfl)
theorem dX0_crateLine_1 : decode cX0_crateLine 1 = .ok (.iconst 0, 1) := dk_3 (dk_at dksX0_crateLine_0 1 rfl rfl)
theorem dX0_crateLine_2 : decode cX0_crateLine 2 = .ok (.aload_n 0, 1) := dk_42 (dk_at dksX0_crateLine_0 2 rfl rfl)
theorem dX0_crateLine_3 : decode cX0_crateLine 3 = .ok (.iload_n 1, 1) := dk_27 (dk_at dksX0_crateLine_0 3 rfl rfl)
theorem dX0_crateLine_4 : decode cX0_crateLine 4 = .ok (.invokevirtual 89, 3) := dk_182 0 89 (dk_at dksX0_crateLine_0 4 rfl rfl)
theorem dX0_crateLine_7 : decode cX0_crateLine 7 = .ok (.i2l, 1) := dk_133 (dk_at dksX0_crateLine_0 7 rfl rfl)
theorem dX0_crateLine_8 : decode cX0_crateLine 8 = .ok (.lastore, 1) := dk_80 (dk_at dksX0_crateLine_0 8 rfl rfl)
theorem dX0_crateLine_9 : decode cX0_crateLine 9 = .ok (.goto 6, 3) := dk_167 0 6 (dk_at dksX0_crateLine_0 9 rfl rfl)
theorem dX0_crateLine_12 : decode cX0_crateLine 12 = .ok (.astore_n 3, 1) := dk_78 (dk_at dksX0_crateLine_0 12 rfl rfl)
theorem dX0_crateLine_13 : decode cX0_crateLine 13 = .ok (.iconst 1, 1) := dk_4 (dk_at dksX0_crateLine_0 13 rfl rfl)
theorem dX0_crateLine_14 : decode cX0_crateLine 14 = .ok (.ireturn, 1) := dk_172 (dk_at dksX0_crateLine_0 14 rfl rfl)
theorem dX0_crateLine_15 : decode cX0_crateLine 15 = .ok (.iconst 0, 1) := dk_3 (dk_at dksX0_crateLine_0 15 rfl rfl)
theorem dX0_crateLine_16 : decode cX0_crateLine 16 = .ok (.ireturn, 1) := dk_172 (dk_at dksX0_crateLine_0 16 rfl rfl)
abbrev cX0_character : ByteArray := method_26_code
def yX0_character : MethodName := ⟨RX0, "character", "(LWillowPrinters;I[J)I"⟩
def dkwX0_character_0 : List UInt8 := [44, 3, 42, 27, 182, 0, 92, 133, 80, 167, 0, 6, 78, 4, 172, 3, 172]
abbrev dktX0_character_0 : List UInt8 := dkwX0_character_0 ++ []
theorem dksX0_character_0 : cX0_character.data.toList.drop 0 = dktX0_character_0 := by decide +kernel
theorem dX0_character_0 : decode cX0_character 0 = .ok (.aload_n 2, 1) := dk_44 (dk_at dksX0_character_0 0 rfl rfl)
theorem dX0_character_1 : decode cX0_character 1 = .ok (.iconst 0, 1) := dk_3 (dk_at dksX0_character_0 1 rfl rfl)
theorem dX0_character_2 : decode cX0_character 2 = .ok (.aload_n 0, 1) := dk_42 (dk_at dksX0_character_0 2 rfl rfl)
theorem dX0_character_3 : decode cX0_character 3 = .ok (.iload_n 1, 1) := dk_27 (dk_at dksX0_character_0 3 rfl rfl)
theorem dX0_character_4 : decode cX0_character 4 = .ok (.invokevirtual 92, 3) := dk_182 0 92 (dk_at dksX0_character_0 4 rfl rfl)
theorem dX0_character_7 : decode cX0_character 7 = .ok (.i2l, 1) := dk_133 (dk_at dksX0_character_0 7 rfl rfl)
theorem dX0_character_8 : decode cX0_character 8 = .ok (.lastore, 1) := dk_80 (dk_at dksX0_character_0 8 rfl rfl)
theorem dX0_character_9 : decode cX0_character 9 = .ok (.goto 6, 3) := dk_167 0 6 (dk_at dksX0_character_0 9 rfl rfl)
theorem dX0_character_12 : decode cX0_character 12 = .ok (.astore_n 3, 1) := dk_78 (dk_at dksX0_character_0 12 rfl rfl)
theorem dX0_character_13 : decode cX0_character 13 = .ok (.iconst 1, 1) := dk_4 (dk_at dksX0_character_0 13 rfl rfl)
theorem dX0_character_14 : decode cX0_character 14 = .ok (.ireturn, 1) := dk_172 (dk_at dksX0_character_0 14 rfl rfl)
theorem dX0_character_15 : decode cX0_character 15 = .ok (.iconst 0, 1) := dk_3 (dk_at dksX0_character_0 15 rfl rfl)
theorem dX0_character_16 : decode cX0_character 16 = .ok (.ireturn, 1) := dk_172 (dk_at dksX0_character_0 16 rfl rfl)
abbrev cX0_refusal : ByteArray := method_27_code
def yX0_refusal : MethodName := ⟨RX0, "refusal", "(LWillowPrinters;Z[J)I"⟩
def dkwX0_refusal_0 : List UInt8 := [44, 3, 42, 27, 182, 0, 96, 133, 80, 167, 0, 6, 78, 4, 172, 3, 172]
abbrev dktX0_refusal_0 : List UInt8 := dkwX0_refusal_0 ++ []
theorem dksX0_refusal_0 : cX0_refusal.data.toList.drop 0 = dktX0_refusal_0 := by decide +kernel
theorem dX0_refusal_0 : decode cX0_refusal 0 = .ok (.aload_n 2, 1) := dk_44 (dk_at dksX0_refusal_0 0 rfl rfl)
theorem dX0_refusal_1 : decode cX0_refusal 1 = .ok (.iconst 0, 1) := dk_3 (dk_at dksX0_refusal_0 1 rfl rfl)
theorem dX0_refusal_2 : decode cX0_refusal 2 = .ok (.aload_n 0, 1) := dk_42 (dk_at dksX0_refusal_0 2 rfl rfl)
theorem dX0_refusal_3 : decode cX0_refusal 3 = .ok (.iload_n 1, 1) := dk_27 (dk_at dksX0_refusal_0 3 rfl rfl)
theorem dX0_refusal_4 : decode cX0_refusal 4 = .ok (.invokevirtual 96, 3) := dk_182 0 96 (dk_at dksX0_refusal_0 4 rfl rfl)
theorem dX0_refusal_7 : decode cX0_refusal 7 = .ok (.i2l, 1) := dk_133 (dk_at dksX0_refusal_0 7 rfl rfl)
theorem dX0_refusal_8 : decode cX0_refusal 8 = .ok (.lastore, 1) := dk_80 (dk_at dksX0_refusal_0 8 rfl rfl)
theorem dX0_refusal_9 : decode cX0_refusal 9 = .ok (.goto 6, 3) := dk_167 0 6 (dk_at dksX0_refusal_0 9 rfl rfl)
theorem dX0_refusal_12 : decode cX0_refusal 12 = .ok (.astore_n 3, 1) := dk_78 (dk_at dksX0_refusal_0 12 rfl rfl)
theorem dX0_refusal_13 : decode cX0_refusal 13 = .ok (.iconst 1, 1) := dk_4 (dk_at dksX0_refusal_0 13 rfl rfl)
theorem dX0_refusal_14 : decode cX0_refusal 14 = .ok (.ireturn, 1) := dk_172 (dk_at dksX0_refusal_0 14 rfl rfl)
theorem dX0_refusal_15 : decode cX0_refusal 15 = .ok (.iconst 0, 1) := dk_3 (dk_at dksX0_refusal_0 15 rfl rfl)
theorem dX0_refusal_16 : decode cX0_refusal 16 = .ok (.ireturn, 1) := dk_172 (dk_at dksX0_refusal_0 16 rfl rfl)
abbrev cX0_account : ByteArray := method_28_code
def yX0_account : MethodName := ⟨RX0, "account", "(LWillowPrinters;I[J)I"⟩
def dkwX0_account_0 : List UInt8 := [44, 3, 42, 27, 182, 0, 100, 133, 80, 167, 0, 6, 78, 4, 172, 3, 172]
abbrev dktX0_account_0 : List UInt8 := dkwX0_account_0 ++ []
theorem dksX0_account_0 : cX0_account.data.toList.drop 0 = dktX0_account_0 := by decide +kernel
theorem dX0_account_0 : decode cX0_account 0 = .ok (.aload_n 2, 1) := dk_44 (dk_at dksX0_account_0 0 rfl rfl)
theorem dX0_account_1 : decode cX0_account 1 = .ok (.iconst 0, 1) := dk_3 (dk_at dksX0_account_0 1 rfl rfl)
theorem dX0_account_2 : decode cX0_account 2 = .ok (.aload_n 0, 1) := dk_42 (dk_at dksX0_account_0 2 rfl rfl)
theorem dX0_account_3 : decode cX0_account 3 = .ok (.iload_n 1, 1) := dk_27 (dk_at dksX0_account_0 3 rfl rfl)
theorem dX0_account_4 : decode cX0_account 4 = .ok (.invokevirtual 100, 3) := dk_182 0 100 (dk_at dksX0_account_0 4 rfl rfl)
theorem dX0_account_7 : decode cX0_account 7 = .ok (.i2l, 1) := dk_133 (dk_at dksX0_account_0 7 rfl rfl)
theorem dX0_account_8 : decode cX0_account 8 = .ok (.lastore, 1) := dk_80 (dk_at dksX0_account_0 8 rfl rfl)
theorem dX0_account_9 : decode cX0_account 9 = .ok (.goto 6, 3) := dk_167 0 6 (dk_at dksX0_account_0 9 rfl rfl)
theorem dX0_account_12 : decode cX0_account 12 = .ok (.astore_n 3, 1) := dk_78 (dk_at dksX0_account_0 12 rfl rfl)
theorem dX0_account_13 : decode cX0_account 13 = .ok (.iconst 1, 1) := dk_4 (dk_at dksX0_account_0 13 rfl rfl)
theorem dX0_account_14 : decode cX0_account 14 = .ok (.ireturn, 1) := dk_172 (dk_at dksX0_account_0 14 rfl rfl)
theorem dX0_account_15 : decode cX0_account 15 = .ok (.iconst 0, 1) := dk_3 (dk_at dksX0_account_0 15 rfl rfl)
theorem dX0_account_16 : decode cX0_account 16 = .ok (.ireturn, 1) := dk_172 (dk_at dksX0_account_0 16 rfl rfl)
abbrev cX0_meanWell : ByteArray := method_29_code
def yX0_meanWell : MethodName := ⟨RX0, "meanWell", "(LWillowPrinters;[D)I"⟩
def dkwX0_meanWell_0 : List UInt8 := [43, 3, 42, 182, 0, 103, 82, 167, 0, 6, 77, 4, 172, 3, 172]
abbrev dktX0_meanWell_0 : List UInt8 := dkwX0_meanWell_0 ++ []
theorem dksX0_meanWell_0 : cX0_meanWell.data.toList.drop 0 = dktX0_meanWell_0 := by decide +kernel
theorem dX0_meanWell_0 : decode cX0_meanWell 0 = .ok (.aload_n 1, 1) := dk_43 (dk_at dksX0_meanWell_0 0 rfl rfl)
theorem dX0_meanWell_1 : decode cX0_meanWell 1 = .ok (.iconst 0, 1) := dk_3 (dk_at dksX0_meanWell_0 1 rfl rfl)
theorem dX0_meanWell_2 : decode cX0_meanWell 2 = .ok (.aload_n 0, 1) := dk_42 (dk_at dksX0_meanWell_0 2 rfl rfl)
theorem dX0_meanWell_3 : decode cX0_meanWell 3 = .ok (.invokevirtual 103, 3) := dk_182 0 103 (dk_at dksX0_meanWell_0 3 rfl rfl)
theorem dX0_meanWell_6 : decode cX0_meanWell 6 = .ok (.dastore, 1) := dk_82 (dk_at dksX0_meanWell_0 6 rfl rfl)
theorem dX0_meanWell_7 : decode cX0_meanWell 7 = .ok (.goto 6, 3) := dk_167 0 6 (dk_at dksX0_meanWell_0 7 rfl rfl)
theorem dX0_meanWell_10 : decode cX0_meanWell 10 = .ok (.astore_n 2, 1) := dk_77 (dk_at dksX0_meanWell_0 10 rfl rfl)
theorem dX0_meanWell_11 : decode cX0_meanWell 11 = .ok (.iconst 1, 1) := dk_4 (dk_at dksX0_meanWell_0 11 rfl rfl)
theorem dX0_meanWell_12 : decode cX0_meanWell 12 = .ok (.ireturn, 1) := dk_172 (dk_at dksX0_meanWell_0 12 rfl rfl)
theorem dX0_meanWell_13 : decode cX0_meanWell 13 = .ok (.iconst 0, 1) := dk_3 (dk_at dksX0_meanWell_0 13 rfl rfl)
theorem dX0_meanWell_14 : decode cX0_meanWell 14 = .ok (.ireturn, 1) := dk_172 (dk_at dksX0_meanWell_0 14 rfl rfl)
abbrev cX0_secondShare : ByteArray := method_30_code
def yX0_secondShare : MethodName := ⟨RX0, "secondShare", "(LWillowPrinters;[D)I"⟩
def dkwX0_secondShare_0 : List UInt8 := [43, 3, 42, 182, 0, 109, 141, 82, 167, 0, 6, 77, 4, 172, 3, 172]
abbrev dktX0_secondShare_0 : List UInt8 := dkwX0_secondShare_0 ++ []
theorem dksX0_secondShare_0 : cX0_secondShare.data.toList.drop 0 = dktX0_secondShare_0 := by decide +kernel
theorem dX0_secondShare_0 : decode cX0_secondShare 0 = .ok (.aload_n 1, 1) := dk_43 (dk_at dksX0_secondShare_0 0 rfl rfl)
theorem dX0_secondShare_1 : decode cX0_secondShare 1 = .ok (.iconst 0, 1) := dk_3 (dk_at dksX0_secondShare_0 1 rfl rfl)
theorem dX0_secondShare_2 : decode cX0_secondShare 2 = .ok (.aload_n 0, 1) := dk_42 (dk_at dksX0_secondShare_0 2 rfl rfl)
theorem dX0_secondShare_3 : decode cX0_secondShare 3 = .ok (.invokevirtual 109, 3) := dk_182 0 109 (dk_at dksX0_secondShare_0 3 rfl rfl)
theorem dX0_secondShare_6 : decode cX0_secondShare 6 = .ok (.f2d, 1) := dk_141 (dk_at dksX0_secondShare_0 6 rfl rfl)
theorem dX0_secondShare_7 : decode cX0_secondShare 7 = .ok (.dastore, 1) := dk_82 (dk_at dksX0_secondShare_0 7 rfl rfl)
theorem dX0_secondShare_8 : decode cX0_secondShare 8 = .ok (.goto 6, 3) := dk_167 0 6 (dk_at dksX0_secondShare_0 8 rfl rfl)
theorem dX0_secondShare_11 : decode cX0_secondShare 11 = .ok (.astore_n 2, 1) := dk_77 (dk_at dksX0_secondShare_0 11 rfl rfl)
theorem dX0_secondShare_12 : decode cX0_secondShare 12 = .ok (.iconst 1, 1) := dk_4 (dk_at dksX0_secondShare_0 12 rfl rfl)
theorem dX0_secondShare_13 : decode cX0_secondShare 13 = .ok (.ireturn, 1) := dk_172 (dk_at dksX0_secondShare_0 13 rfl rfl)
theorem dX0_secondShare_14 : decode cX0_secondShare 14 = .ok (.iconst 0, 1) := dk_3 (dk_at dksX0_secondShare_0 14 rfl rfl)
theorem dX0_secondShare_15 : decode cX0_secondShare 15 = .ok (.ireturn, 1) := dk_172 (dk_at dksX0_secondShare_0 15 rfl rfl)
abbrev cX0_append : ByteArray := method_31_code
def yX0_append : MethodName := ⟨RX0, "append", "(LWillowPrinters;I[J)I"⟩
def dkwX0_append_0 : List UInt8 := [44, 3, 42, 27, 182, 0, 113, 133, 80, 167, 0, 9, 78, 4, 172, 78, 5, 172, 3, 172]
abbrev dktX0_append_0 : List UInt8 := dkwX0_append_0 ++ []
theorem dksX0_append_0 : cX0_append.data.toList.drop 0 = dktX0_append_0 := by decide +kernel
theorem dX0_append_0 : decode cX0_append 0 = .ok (.aload_n 2, 1) := dk_44 (dk_at dksX0_append_0 0 rfl rfl)
theorem dX0_append_1 : decode cX0_append 1 = .ok (.iconst 0, 1) := dk_3 (dk_at dksX0_append_0 1 rfl rfl)
theorem dX0_append_2 : decode cX0_append 2 = .ok (.aload_n 0, 1) := dk_42 (dk_at dksX0_append_0 2 rfl rfl)
theorem dX0_append_3 : decode cX0_append 3 = .ok (.iload_n 1, 1) := dk_27 (dk_at dksX0_append_0 3 rfl rfl)
theorem dX0_append_4 : decode cX0_append 4 = .ok (.invokevirtual 113, 3) := dk_182 0 113 (dk_at dksX0_append_0 4 rfl rfl)
theorem dX0_append_7 : decode cX0_append 7 = .ok (.i2l, 1) := dk_133 (dk_at dksX0_append_0 7 rfl rfl)
theorem dX0_append_8 : decode cX0_append 8 = .ok (.lastore, 1) := dk_80 (dk_at dksX0_append_0 8 rfl rfl)
theorem dX0_append_9 : decode cX0_append 9 = .ok (.goto 9, 3) := dk_167 0 9 (dk_at dksX0_append_0 9 rfl rfl)
theorem dX0_append_12 : decode cX0_append 12 = .ok (.astore_n 3, 1) := dk_78 (dk_at dksX0_append_0 12 rfl rfl)
theorem dX0_append_13 : decode cX0_append 13 = .ok (.iconst 1, 1) := dk_4 (dk_at dksX0_append_0 13 rfl rfl)
theorem dX0_append_14 : decode cX0_append 14 = .ok (.ireturn, 1) := dk_172 (dk_at dksX0_append_0 14 rfl rfl)
theorem dX0_append_15 : decode cX0_append 15 = .ok (.astore_n 3, 1) := dk_78 (dk_at dksX0_append_0 15 rfl rfl)
theorem dX0_append_16 : decode cX0_append 16 = .ok (.iconst 2, 1) := dk_5 (dk_at dksX0_append_0 16 rfl rfl)
theorem dX0_append_17 : decode cX0_append 17 = .ok (.ireturn, 1) := dk_172 (dk_at dksX0_append_0 17 rfl rfl)
theorem dX0_append_18 : decode cX0_append 18 = .ok (.iconst 0, 1) := dk_3 (dk_at dksX0_append_0 18 rfl rfl)
theorem dX0_append_19 : decode cX0_append 19 = .ok (.ireturn, 1) := dk_172 (dk_at dksX0_append_0 19 rfl rfl)
abbrev cX0_read : ByteArray := method_32_code
def yX0_read : MethodName := ⟨RX0, "read", "(LWillowPrinters;[J)I"⟩
def dkwX0_read_0 : List UInt8 := [43, 3, 42, 182, 0, 116, 133, 80, 167, 0, 9, 77, 4, 172, 77, 5, 172, 3, 172]
abbrev dktX0_read_0 : List UInt8 := dkwX0_read_0 ++ []
theorem dksX0_read_0 : cX0_read.data.toList.drop 0 = dktX0_read_0 := by decide +kernel
theorem dX0_read_0 : decode cX0_read 0 = .ok (.aload_n 1, 1) := dk_43 (dk_at dksX0_read_0 0 rfl rfl)
theorem dX0_read_1 : decode cX0_read 1 = .ok (.iconst 0, 1) := dk_3 (dk_at dksX0_read_0 1 rfl rfl)
theorem dX0_read_2 : decode cX0_read 2 = .ok (.aload_n 0, 1) := dk_42 (dk_at dksX0_read_0 2 rfl rfl)
theorem dX0_read_3 : decode cX0_read 3 = .ok (.invokevirtual 116, 3) := dk_182 0 116 (dk_at dksX0_read_0 3 rfl rfl)
theorem dX0_read_6 : decode cX0_read 6 = .ok (.i2l, 1) := dk_133 (dk_at dksX0_read_0 6 rfl rfl)
theorem dX0_read_7 : decode cX0_read 7 = .ok (.lastore, 1) := dk_80 (dk_at dksX0_read_0 7 rfl rfl)
theorem dX0_read_8 : decode cX0_read 8 = .ok (.goto 9, 3) := dk_167 0 9 (dk_at dksX0_read_0 8 rfl rfl)
theorem dX0_read_11 : decode cX0_read 11 = .ok (.astore_n 2, 1) := dk_77 (dk_at dksX0_read_0 11 rfl rfl)
theorem dX0_read_12 : decode cX0_read 12 = .ok (.iconst 1, 1) := dk_4 (dk_at dksX0_read_0 12 rfl rfl)
theorem dX0_read_13 : decode cX0_read 13 = .ok (.ireturn, 1) := dk_172 (dk_at dksX0_read_0 13 rfl rfl)
theorem dX0_read_14 : decode cX0_read 14 = .ok (.astore_n 2, 1) := dk_77 (dk_at dksX0_read_0 14 rfl rfl)
theorem dX0_read_15 : decode cX0_read 15 = .ok (.iconst 2, 1) := dk_5 (dk_at dksX0_read_0 15 rfl rfl)
theorem dX0_read_16 : decode cX0_read 16 = .ok (.ireturn, 1) := dk_172 (dk_at dksX0_read_0 16 rfl rfl)
theorem dX0_read_17 : decode cX0_read 17 = .ok (.iconst 0, 1) := dk_3 (dk_at dksX0_read_0 17 rfl rfl)
theorem dX0_read_18 : decode cX0_read 18 = .ok (.ireturn, 1) := dk_172 (dk_at dksX0_read_0 18 rfl rfl)
abbrev cX0_errorPosition : ByteArray := method_33_code
def yX0_errorPosition : MethodName := ⟨RX0, "errorPosition", "(LWillowPrinters;[J)I"⟩
def dkwX0_errorPosition_0 : List UInt8 := [43, 3, 42, 182, 0, 119, 133, 80, 167, 0, 6, 77, 4, 172, 3, 172]
abbrev dktX0_errorPosition_0 : List UInt8 := dkwX0_errorPosition_0 ++ []
theorem dksX0_errorPosition_0 : cX0_errorPosition.data.toList.drop 0 = dktX0_errorPosition_0 := by decide +kernel
theorem dX0_errorPosition_0 : decode cX0_errorPosition 0 = .ok (.aload_n 1, 1) := dk_43 (dk_at dksX0_errorPosition_0 0 rfl rfl)
theorem dX0_errorPosition_1 : decode cX0_errorPosition 1 = .ok (.iconst 0, 1) := dk_3 (dk_at dksX0_errorPosition_0 1 rfl rfl)
theorem dX0_errorPosition_2 : decode cX0_errorPosition 2 = .ok (.aload_n 0, 1) := dk_42 (dk_at dksX0_errorPosition_0 2 rfl rfl)
theorem dX0_errorPosition_3 : decode cX0_errorPosition 3 = .ok (.invokevirtual 119, 3) := dk_182 0 119 (dk_at dksX0_errorPosition_0 3 rfl rfl)
theorem dX0_errorPosition_6 : decode cX0_errorPosition 6 = .ok (.i2l, 1) := dk_133 (dk_at dksX0_errorPosition_0 6 rfl rfl)
theorem dX0_errorPosition_7 : decode cX0_errorPosition 7 = .ok (.lastore, 1) := dk_80 (dk_at dksX0_errorPosition_0 7 rfl rfl)
theorem dX0_errorPosition_8 : decode cX0_errorPosition 8 = .ok (.goto 6, 3) := dk_167 0 6 (dk_at dksX0_errorPosition_0 8 rfl rfl)
theorem dX0_errorPosition_11 : decode cX0_errorPosition 11 = .ok (.astore_n 2, 1) := dk_77 (dk_at dksX0_errorPosition_0 11 rfl rfl)
theorem dX0_errorPosition_12 : decode cX0_errorPosition 12 = .ok (.iconst 1, 1) := dk_4 (dk_at dksX0_errorPosition_0 12 rfl rfl)
theorem dX0_errorPosition_13 : decode cX0_errorPosition 13 = .ok (.ireturn, 1) := dk_172 (dk_at dksX0_errorPosition_0 13 rfl rfl)
theorem dX0_errorPosition_14 : decode cX0_errorPosition 14 = .ok (.iconst 0, 1) := dk_3 (dk_at dksX0_errorPosition_0 14 rfl rfl)
theorem dX0_errorPosition_15 : decode cX0_errorPosition 15 = .ok (.ireturn, 1) := dk_172 (dk_at dksX0_errorPosition_0 15 rfl rfl)
abbrev cX0_refusedItem : ByteArray := method_34_code
def yX0_refusedItem : MethodName := ⟨RX0, "refusedItem", "(LWillowPrinters;[J)I"⟩
def dkwX0_refusedItem_0 : List UInt8 := [43, 3, 42, 182, 0, 122, 133, 80, 167, 0, 6, 77, 4, 172, 3, 172]
abbrev dktX0_refusedItem_0 : List UInt8 := dkwX0_refusedItem_0 ++ []
theorem dksX0_refusedItem_0 : cX0_refusedItem.data.toList.drop 0 = dktX0_refusedItem_0 := by decide +kernel
theorem dX0_refusedItem_0 : decode cX0_refusedItem 0 = .ok (.aload_n 1, 1) := dk_43 (dk_at dksX0_refusedItem_0 0 rfl rfl)
theorem dX0_refusedItem_1 : decode cX0_refusedItem 1 = .ok (.iconst 0, 1) := dk_3 (dk_at dksX0_refusedItem_0 1 rfl rfl)
theorem dX0_refusedItem_2 : decode cX0_refusedItem 2 = .ok (.aload_n 0, 1) := dk_42 (dk_at dksX0_refusedItem_0 2 rfl rfl)
theorem dX0_refusedItem_3 : decode cX0_refusedItem 3 = .ok (.invokevirtual 122, 3) := dk_182 0 122 (dk_at dksX0_refusedItem_0 3 rfl rfl)
theorem dX0_refusedItem_6 : decode cX0_refusedItem 6 = .ok (.i2l, 1) := dk_133 (dk_at dksX0_refusedItem_0 6 rfl rfl)
theorem dX0_refusedItem_7 : decode cX0_refusedItem 7 = .ok (.lastore, 1) := dk_80 (dk_at dksX0_refusedItem_0 7 rfl rfl)
theorem dX0_refusedItem_8 : decode cX0_refusedItem 8 = .ok (.goto 6, 3) := dk_167 0 6 (dk_at dksX0_refusedItem_0 8 rfl rfl)
theorem dX0_refusedItem_11 : decode cX0_refusedItem 11 = .ok (.astore_n 2, 1) := dk_77 (dk_at dksX0_refusedItem_0 11 rfl rfl)
theorem dX0_refusedItem_12 : decode cX0_refusedItem 12 = .ok (.iconst 1, 1) := dk_4 (dk_at dksX0_refusedItem_0 12 rfl rfl)
theorem dX0_refusedItem_13 : decode cX0_refusedItem 13 = .ok (.ireturn, 1) := dk_172 (dk_at dksX0_refusedItem_0 13 rfl rfl)
theorem dX0_refusedItem_14 : decode cX0_refusedItem 14 = .ok (.iconst 0, 1) := dk_3 (dk_at dksX0_refusedItem_0 14 rfl rfl)
theorem dX0_refusedItem_15 : decode cX0_refusedItem 15 = .ok (.ireturn, 1) := dk_172 (dk_at dksX0_refusedItem_0 15 rfl rfl)
abbrev cX0_undo : ByteArray := method_35_code
def yX0_undo : MethodName := ⟨RX0, "undo", "(LWillowPrinters;[J)I"⟩
def dkwX0_undo_0 : List UInt8 := [43, 3, 42, 182, 0, 125, 133, 80, 167, 0, 6, 77, 4, 172, 3, 172]
abbrev dktX0_undo_0 : List UInt8 := dkwX0_undo_0 ++ []
theorem dksX0_undo_0 : cX0_undo.data.toList.drop 0 = dktX0_undo_0 := by decide +kernel
theorem dX0_undo_0 : decode cX0_undo 0 = .ok (.aload_n 1, 1) := dk_43 (dk_at dksX0_undo_0 0 rfl rfl)
theorem dX0_undo_1 : decode cX0_undo 1 = .ok (.iconst 0, 1) := dk_3 (dk_at dksX0_undo_0 1 rfl rfl)
theorem dX0_undo_2 : decode cX0_undo 2 = .ok (.aload_n 0, 1) := dk_42 (dk_at dksX0_undo_0 2 rfl rfl)
theorem dX0_undo_3 : decode cX0_undo 3 = .ok (.invokevirtual 125, 3) := dk_182 0 125 (dk_at dksX0_undo_0 3 rfl rfl)
theorem dX0_undo_6 : decode cX0_undo 6 = .ok (.i2l, 1) := dk_133 (dk_at dksX0_undo_0 6 rfl rfl)
theorem dX0_undo_7 : decode cX0_undo 7 = .ok (.lastore, 1) := dk_80 (dk_at dksX0_undo_0 7 rfl rfl)
theorem dX0_undo_8 : decode cX0_undo 8 = .ok (.goto 6, 3) := dk_167 0 6 (dk_at dksX0_undo_0 8 rfl rfl)
theorem dX0_undo_11 : decode cX0_undo 11 = .ok (.astore_n 2, 1) := dk_77 (dk_at dksX0_undo_0 11 rfl rfl)
theorem dX0_undo_12 : decode cX0_undo 12 = .ok (.iconst 1, 1) := dk_4 (dk_at dksX0_undo_0 12 rfl rfl)
theorem dX0_undo_13 : decode cX0_undo 13 = .ok (.ireturn, 1) := dk_172 (dk_at dksX0_undo_0 13 rfl rfl)
theorem dX0_undo_14 : decode cX0_undo 14 = .ok (.iconst 0, 1) := dk_3 (dk_at dksX0_undo_0 14 rfl rfl)
theorem dX0_undo_15 : decode cX0_undo 15 = .ok (.ireturn, 1) := dk_172 (dk_at dksX0_undo_0 15 rfl rfl)
abbrev cX0_restore : ByteArray := method_36_code
def yX0_restore : MethodName := ⟨RX0, "restore", "(LWillowPrinters;[J)I"⟩
def dkwX0_restore_0 : List UInt8 := [43, 3, 42, 182, 0, 128, 133, 80, 167, 0, 6, 77, 4, 172, 3, 172]
abbrev dktX0_restore_0 : List UInt8 := dkwX0_restore_0 ++ []
theorem dksX0_restore_0 : cX0_restore.data.toList.drop 0 = dktX0_restore_0 := by decide +kernel
theorem dX0_restore_0 : decode cX0_restore 0 = .ok (.aload_n 1, 1) := dk_43 (dk_at dksX0_restore_0 0 rfl rfl)
theorem dX0_restore_1 : decode cX0_restore 1 = .ok (.iconst 0, 1) := dk_3 (dk_at dksX0_restore_0 1 rfl rfl)
theorem dX0_restore_2 : decode cX0_restore 2 = .ok (.aload_n 0, 1) := dk_42 (dk_at dksX0_restore_0 2 rfl rfl)
theorem dX0_restore_3 : decode cX0_restore 3 = .ok (.invokevirtual 128, 3) := dk_182 0 128 (dk_at dksX0_restore_0 3 rfl rfl)
theorem dX0_restore_6 : decode cX0_restore 6 = .ok (.i2l, 1) := dk_133 (dk_at dksX0_restore_0 6 rfl rfl)
theorem dX0_restore_7 : decode cX0_restore 7 = .ok (.lastore, 1) := dk_80 (dk_at dksX0_restore_0 7 rfl rfl)
theorem dX0_restore_8 : decode cX0_restore 8 = .ok (.goto 6, 3) := dk_167 0 6 (dk_at dksX0_restore_0 8 rfl rfl)
theorem dX0_restore_11 : decode cX0_restore 11 = .ok (.astore_n 2, 1) := dk_77 (dk_at dksX0_restore_0 11 rfl rfl)
theorem dX0_restore_12 : decode cX0_restore 12 = .ok (.iconst 1, 1) := dk_4 (dk_at dksX0_restore_0 12 rfl rfl)
theorem dX0_restore_13 : decode cX0_restore 13 = .ok (.ireturn, 1) := dk_172 (dk_at dksX0_restore_0 13 rfl rfl)
theorem dX0_restore_14 : decode cX0_restore 14 = .ok (.iconst 0, 1) := dk_3 (dk_at dksX0_restore_0 14 rfl rfl)
theorem dX0_restore_15 : decode cX0_restore 15 = .ok (.ireturn, 1) := dk_172 (dk_at dksX0_restore_0 15 rfl rfl)
theorem q54 : (Jvm.Cond.initialized "WillowPrintersLaw") ∈ lw_all := lw_g (lw_at lw_m1 0 rfl) rfl
theorem q99 : (Jvm.Cond.classLink "WillowPrintersLaw" (8 : Nat) "WillowPrinters") ∈ lw_all := lw_g (lw_at lw_m1 45 rfl) rfl
theorem q101 : (Jvm.Cond.methodLink "WillowPrintersLaw" (131 : Nat) ({ cls := "WillowPrinters", name := "<init>", desc := "()V" } : Jvm.MethodName)) ∈ lw_all := lw_g (lw_at lw_m1 47 rfl) rfl
theorem q564 : (Jvm.Cond.methodLink "WillowPrintersLaw" (135 : Nat) ({ cls := "WillowPrinters", name := "clear", desc := "()I" } : Jvm.MethodName)) ∈ lw_all := lw_g (lw_at lw_m3 30 rfl) rfl
theorem q575 : (Jvm.Cond.methodLink "WillowPrintersLaw" (227 : Nat) ({ cls := "WillowPrinters", name := "platesAgain", desc := "()I" } : Jvm.MethodName)) ∈ lw_all := lw_g (lw_at lw_m3 41 rfl) rfl
theorem q616 : (Jvm.Cond.methodLink "WillowPrintersLaw" (253 : Nat) ({ cls := "WillowPrinters", name := "snapshot", desc := "()I" } : Jvm.MethodName)) ∈ lw_all := lw_g (lw_at lw_m3 82 rfl) rfl
theorem q620 : (Jvm.Cond.methodLink "WillowPrintersLaw" (139 : Nat) ({ cls := "WillowPrintersLaw", name := "sheets", desc := "(LWillowPrinters;I[J)I" } : Jvm.MethodName)) ∈ lw_all := lw_g (lw_at lw_m3 86 rfl) rfl
theorem q621 : (Jvm.Cond.static ({ cls := "WillowPrintersLaw", name := "sheets", desc := "(LWillowPrinters;I[J)I" } : Jvm.MethodName)) ∈ lw_all := lw_g (lw_at lw_m3 87 rfl) rfl
theorem q622 : (Jvm.Cond.codeWith ({ cls := "WillowPrintersLaw", name := "sheets", desc := "(LWillowPrinters;I[J)I" } : Jvm.MethodName) method_3_code (4 : Nat) (Option.some Jvm.ClassFile.FieldType.int) [((0 : Nat), (9 : Nat), (12 : Nat), (13 : Nat)), ((0 : Nat), (9 : Nat), (15 : Nat), (15 : Nat))]) ∈ lw_all := lw_g (lw_at lw_m3 88 rfl) rfl
theorem q623 : (Jvm.Cond.classLink "WillowPrintersLaw" (13 : Nat) "java/lang/IllegalArgumentException") ∈ lw_all := lw_g (lw_at lw_m3 89 rfl) rfl
theorem q624 : (Jvm.Cond.classLink "WillowPrintersLaw" (15 : Nat) "java/lang/UnsupportedOperationException") ∈ lw_all := lw_g (lw_at lw_m3 90 rfl) rfl
theorem q625 : (Jvm.Cond.methodLink "WillowPrintersLaw" (7 : Nat) ({ cls := "WillowPrinters", name := "sheets", desc := "(I)I" } : Jvm.MethodName)) ∈ lw_all := lw_g (lw_at lw_m3 91 rfl) rfl
theorem q1020 : (Jvm.Cond.methodLink "WillowPrintersLaw" (148 : Nat) ({ cls := "WillowPrintersLaw", name := "damp", desc := "(LWillowPrinters;I[J)I" } : Jvm.MethodName)) ∈ lw_all := lw_g (lw_at lw_m5 6 rfl) rfl
theorem q1021 : (Jvm.Cond.static ({ cls := "WillowPrintersLaw", name := "damp", desc := "(LWillowPrinters;I[J)I" } : Jvm.MethodName)) ∈ lw_all := lw_g (lw_at lw_m5 7 rfl) rfl
theorem q1022 : (Jvm.Cond.codeWith ({ cls := "WillowPrintersLaw", name := "damp", desc := "(LWillowPrinters;I[J)I" } : Jvm.MethodName) method_4_code (4 : Nat) (Option.some Jvm.ClassFile.FieldType.int) [((0 : Nat), (9 : Nat), (12 : Nat), (13 : Nat))]) ∈ lw_all := lw_g (lw_at lw_m5 8 rfl) rfl
theorem q1023 : (Jvm.Cond.methodLink "WillowPrintersLaw" (17 : Nat) ({ cls := "WillowPrinters", name := "damp", desc := "(I)I" } : Jvm.MethodName)) ∈ lw_all := lw_g (lw_at lw_m5 9 rfl) rfl
theorem q1034 : (Jvm.Cond.methodLink "WillowPrintersLaw" (151 : Nat) ({ cls := "WillowPrintersLaw", name := "copper", desc := "(LWillowPrinters;I[J)I" } : Jvm.MethodName)) ∈ lw_all := lw_g (lw_at lw_m5 20 rfl) rfl
theorem q1035 : (Jvm.Cond.static ({ cls := "WillowPrintersLaw", name := "copper", desc := "(LWillowPrinters;I[J)I" } : Jvm.MethodName)) ∈ lw_all := lw_g (lw_at lw_m5 21 rfl) rfl
theorem q1036 : (Jvm.Cond.codeWith ({ cls := "WillowPrintersLaw", name := "copper", desc := "(LWillowPrinters;I[J)I" } : Jvm.MethodName) method_5_code (4 : Nat) (Option.some Jvm.ClassFile.FieldType.int) [((0 : Nat), (9 : Nat), (12 : Nat), (13 : Nat)), ((0 : Nat), (9 : Nat), (15 : Nat), (23 : Nat))]) ∈ lw_all := lw_g (lw_at lw_m5 22 rfl) rfl
theorem q1037 : (Jvm.Cond.classLink "WillowPrintersLaw" (23 : Nat) "java/lang/IllegalStateException") ∈ lw_all := lw_g (lw_at lw_m5 23 rfl) rfl
theorem q1038 : (Jvm.Cond.methodLink "WillowPrintersLaw" (20 : Nat) ({ cls := "WillowPrinters", name := "copper", desc := "(I)I" } : Jvm.MethodName)) ∈ lw_all := lw_g (lw_at lw_m5 24 rfl) rfl
theorem q1061 : (Jvm.Cond.methodLink "WillowPrintersLaw" (154 : Nat) ({ cls := "WillowPrintersLaw", name := "copperOf", desc := "(LWillowPrinters;II[J)I" } : Jvm.MethodName)) ∈ lw_all := lw_g (lw_at lw_m5 47 rfl) rfl
theorem q1062 : (Jvm.Cond.static ({ cls := "WillowPrintersLaw", name := "copperOf", desc := "(LWillowPrinters;II[J)I" } : Jvm.MethodName)) ∈ lw_all := lw_g (lw_at lw_m5 48 rfl) rfl
theorem q1063 : (Jvm.Cond.codeWith ({ cls := "WillowPrintersLaw", name := "copperOf", desc := "(LWillowPrinters;II[J)I" } : Jvm.MethodName) method_6_code (5 : Nat) (Option.some Jvm.ClassFile.FieldType.int) [((0 : Nat), (10 : Nat), (13 : Nat), (29 : Nat)), ((0 : Nat), (10 : Nat), (17 : Nat), (13 : Nat))]) ∈ lw_all := lw_g (lw_at lw_m5 49 rfl) rfl
theorem q1064 : (Jvm.Cond.classLink "WillowPrintersLaw" (29 : Nat) "java/lang/IndexOutOfBoundsException") ∈ lw_all := lw_g (lw_at lw_m5 50 rfl) rfl
theorem q1083 : (Jvm.Cond.methodLink "WillowPrintersLaw" (25 : Nat) ({ cls := "WillowPrinters", name := "copperOf", desc := "(II)I" } : Jvm.MethodName)) ∈ lw_all := lw_g (lw_at lw_m5 69 rfl) rfl
theorem q1121 : (Jvm.Cond.methodLink "WillowPrintersLaw" (158 : Nat) ({ cls := "WillowPrintersLaw", name := "wellAgain", desc := "(LWillowPrinters;I[J)I" } : Jvm.MethodName)) ∈ lw_all := lw_g (lw_at lw_m5 107 rfl) rfl
theorem q1122 : (Jvm.Cond.static ({ cls := "WillowPrintersLaw", name := "wellAgain", desc := "(LWillowPrinters;I[J)I" } : Jvm.MethodName)) ∈ lw_all := lw_g (lw_at lw_m5 108 rfl) rfl
theorem q1123 : (Jvm.Cond.codeWith ({ cls := "WillowPrintersLaw", name := "wellAgain", desc := "(LWillowPrinters;I[J)I" } : Jvm.MethodName) method_7_code (4 : Nat) (Option.some Jvm.ClassFile.FieldType.int) [((0 : Nat), (9 : Nat), (12 : Nat), (29 : Nat))]) ∈ lw_all := lw_g (lw_at lw_m5 109 rfl) rfl
theorem q1124 : (Jvm.Cond.methodLink "WillowPrintersLaw" (31 : Nat) ({ cls := "WillowPrinters", name := "wellAgain", desc := "(I)I" } : Jvm.MethodName)) ∈ lw_all := lw_g (lw_at lw_m5 110 rfl) rfl
theorem q1133 : (Jvm.Cond.methodLink "WillowPrintersLaw" (161 : Nat) ({ cls := "WillowPrintersLaw", name := "bestCopper", desc := "(LWillowPrinters;I[J)I" } : Jvm.MethodName)) ∈ lw_all := lw_g (lw_at lw_m5 119 rfl) rfl
theorem q1134 : (Jvm.Cond.static ({ cls := "WillowPrintersLaw", name := "bestCopper", desc := "(LWillowPrinters;I[J)I" } : Jvm.MethodName)) ∈ lw_all := lw_g (lw_at lw_m5 120 rfl) rfl
theorem q1135 : (Jvm.Cond.codeWith ({ cls := "WillowPrintersLaw", name := "bestCopper", desc := "(LWillowPrinters;I[J)I" } : Jvm.MethodName) method_8_code (4 : Nat) (Option.some Jvm.ClassFile.FieldType.int) [((0 : Nat), (9 : Nat), (12 : Nat), (29 : Nat)), ((0 : Nat), (9 : Nat), (15 : Nat), (37 : Nat))]) ∈ lw_all := lw_g (lw_at lw_m5 121 rfl) rfl
theorem q1136 : (Jvm.Cond.classLink "WillowPrintersLaw" (37 : Nat) "java/util/NoSuchElementException") ∈ lw_all := lw_g (lw_at lw_m5 122 rfl) rfl
theorem q1137 : (Jvm.Cond.methodLink "WillowPrintersLaw" (34 : Nat) ({ cls := "WillowPrinters", name := "bestCopper", desc := "(I)I" } : Jvm.MethodName)) ∈ lw_all := lw_g (lw_at lw_m5 123 rfl) rfl
theorem q1163 : (Jvm.Cond.methodLink "WillowPrintersLaw" (164 : Nat) ({ cls := "WillowPrintersLaw", name := "lot", desc := "(LWillowPrinters;I[J)I" } : Jvm.MethodName)) ∈ lw_all := lw_g (lw_at lw_m5 149 rfl) rfl
theorem q1164 : (Jvm.Cond.static ({ cls := "WillowPrintersLaw", name := "lot", desc := "(LWillowPrinters;I[J)I" } : Jvm.MethodName)) ∈ lw_all := lw_g (lw_at lw_m5 150 rfl) rfl
theorem q1165 : (Jvm.Cond.codeWith ({ cls := "WillowPrintersLaw", name := "lot", desc := "(LWillowPrinters;I[J)I" } : Jvm.MethodName) method_9_code (4 : Nat) (Option.some Jvm.ClassFile.FieldType.int) [((0 : Nat), (9 : Nat), (12 : Nat), (13 : Nat)), ((0 : Nat), (9 : Nat), (15 : Nat), (23 : Nat)), ((0 : Nat), (9 : Nat), (18 : Nat), (15 : Nat))]) ∈ lw_all := lw_g (lw_at lw_m5 151 rfl) rfl
theorem q1166 : (Jvm.Cond.methodLink "WillowPrintersLaw" (39 : Nat) ({ cls := "WillowPrinters", name := "lot", desc := "(I)I" } : Jvm.MethodName)) ∈ lw_all := lw_g (lw_at lw_m5 152 rfl) rfl
theorem q1178 : (Jvm.Cond.methodLink "WillowPrintersLaw" (167 : Nat) ({ cls := "WillowPrintersLaw", name := "lotOf", desc := "(LWillowPrinters;II[J)I" } : Jvm.MethodName)) ∈ lw_all := lw_g (lw_at lw_m5 164 rfl) rfl
theorem q1179 : (Jvm.Cond.static ({ cls := "WillowPrintersLaw", name := "lotOf", desc := "(LWillowPrinters;II[J)I" } : Jvm.MethodName)) ∈ lw_all := lw_g (lw_at lw_m5 165 rfl) rfl
theorem q1180 : (Jvm.Cond.codeWith ({ cls := "WillowPrintersLaw", name := "lotOf", desc := "(LWillowPrinters;II[J)I" } : Jvm.MethodName) method_10_code (5 : Nat) (Option.some Jvm.ClassFile.FieldType.int) [((0 : Nat), (10 : Nat), (13 : Nat), (29 : Nat)), ((0 : Nat), (10 : Nat), (17 : Nat), (13 : Nat))]) ∈ lw_all := lw_g (lw_at lw_m5 166 rfl) rfl
theorem q1181 : (Jvm.Cond.methodLink "WillowPrintersLaw" (42 : Nat) ({ cls := "WillowPrinters", name := "lotOf", desc := "(II)I" } : Jvm.MethodName)) ∈ lw_all := lw_g (lw_at lw_m5 167 rfl) rfl
theorem q1267 : (Jvm.Cond.methodLink "WillowPrintersLaw" (170 : Nat) ({ cls := "WillowPrintersLaw", name := "print", desc := "(LWillowPrinters;II[J)I" } : Jvm.MethodName)) ∈ lw_all := lw_g (lw_at lw_m6 13 rfl) rfl
theorem q1268 : (Jvm.Cond.static ({ cls := "WillowPrintersLaw", name := "print", desc := "(LWillowPrinters;II[J)I" } : Jvm.MethodName)) ∈ lw_all := lw_g (lw_at lw_m6 14 rfl) rfl
theorem q1269 : (Jvm.Cond.codeWith ({ cls := "WillowPrintersLaw", name := "print", desc := "(LWillowPrinters;II[J)I" } : Jvm.MethodName) method_11_code (5 : Nat) (Option.some Jvm.ClassFile.FieldType.int) [((0 : Nat), (10 : Nat), (13 : Nat), (29 : Nat)), ((0 : Nat), (10 : Nat), (17 : Nat), (15 : Nat))]) ∈ lw_all := lw_g (lw_at lw_m6 15 rfl) rfl
theorem q1270 : (Jvm.Cond.methodLink "WillowPrintersLaw" (45 : Nat) ({ cls := "WillowPrinters", name := "print", desc := "(II)I" } : Jvm.MethodName)) ∈ lw_all := lw_g (lw_at lw_m6 16 rfl) rfl
theorem q1306 : (Jvm.Cond.methodLink "WillowPrintersLaw" (173 : Nat) ({ cls := "WillowPrintersLaw", name := "kiln", desc := "(LWillowPrinters;I[J)I" } : Jvm.MethodName)) ∈ lw_all := lw_g (lw_at lw_m6 52 rfl) rfl
theorem q1307 : (Jvm.Cond.static ({ cls := "WillowPrintersLaw", name := "kiln", desc := "(LWillowPrinters;I[J)I" } : Jvm.MethodName)) ∈ lw_all := lw_g (lw_at lw_m6 53 rfl) rfl
theorem q1308 : (Jvm.Cond.codeWith ({ cls := "WillowPrintersLaw", name := "kiln", desc := "(LWillowPrinters;I[J)I" } : Jvm.MethodName) method_12_code (4 : Nat) (Option.some Jvm.ClassFile.FieldType.int) [((0 : Nat), (9 : Nat), (12 : Nat), (13 : Nat)), ((0 : Nat), (9 : Nat), (15 : Nat), (23 : Nat))]) ∈ lw_all := lw_g (lw_at lw_m6 54 rfl) rfl
theorem q1309 : (Jvm.Cond.methodLink "WillowPrintersLaw" (48 : Nat) ({ cls := "WillowPrinters", name := "kiln", desc := "(I)I" } : Jvm.MethodName)) ∈ lw_all := lw_g (lw_at lw_m6 55 rfl) rfl
theorem q1322 : (Jvm.Cond.methodLink "WillowPrintersLaw" (176 : Nat) ({ cls := "WillowPrintersLaw", name := "kilnOf", desc := "(LWillowPrinters;II[J)I" } : Jvm.MethodName)) ∈ lw_all := lw_g (lw_at lw_m6 68 rfl) rfl
theorem q1323 : (Jvm.Cond.static ({ cls := "WillowPrintersLaw", name := "kilnOf", desc := "(LWillowPrinters;II[J)I" } : Jvm.MethodName)) ∈ lw_all := lw_g (lw_at lw_m6 69 rfl) rfl
theorem q1324 : (Jvm.Cond.codeWith ({ cls := "WillowPrintersLaw", name := "kilnOf", desc := "(LWillowPrinters;II[J)I" } : Jvm.MethodName) method_13_code (5 : Nat) (Option.some Jvm.ClassFile.FieldType.int) [((0 : Nat), (10 : Nat), (13 : Nat), (29 : Nat)), ((0 : Nat), (10 : Nat), (17 : Nat), (13 : Nat))]) ∈ lw_all := lw_g (lw_at lw_m6 70 rfl) rfl
theorem q1325 : (Jvm.Cond.methodLink "WillowPrintersLaw" (51 : Nat) ({ cls := "WillowPrinters", name := "kilnOf", desc := "(II)I" } : Jvm.MethodName)) ∈ lw_all := lw_g (lw_at lw_m6 71 rfl) rfl
theorem q1338 : (Jvm.Cond.methodLink "WillowPrintersLaw" (179 : Nat) ({ cls := "WillowPrintersLaw", name := "fire", desc := "(LWillowPrinters;III[J)I" } : Jvm.MethodName)) ∈ lw_all := lw_g (lw_at lw_m6 84 rfl) rfl
theorem q1339 : (Jvm.Cond.static ({ cls := "WillowPrintersLaw", name := "fire", desc := "(LWillowPrinters;III[J)I" } : Jvm.MethodName)) ∈ lw_all := lw_g (lw_at lw_m6 85 rfl) rfl
theorem q1340 : (Jvm.Cond.codeWith ({ cls := "WillowPrintersLaw", name := "fire", desc := "(LWillowPrinters;III[J)I" } : Jvm.MethodName) method_14_code (6 : Nat) (Option.some Jvm.ClassFile.FieldType.int) [((0 : Nat), (12 : Nat), (15 : Nat), (29 : Nat)), ((0 : Nat), (12 : Nat), (19 : Nat), (13 : Nat)), ((0 : Nat), (12 : Nat), (23 : Nat), (15 : Nat))]) ∈ lw_all := lw_g (lw_at lw_m6 86 rfl) rfl
theorem q1341 : (Jvm.Cond.methodLink "WillowPrintersLaw" (54 : Nat) ({ cls := "WillowPrinters", name := "fire", desc := "(III)I" } : Jvm.MethodName)) ∈ lw_all := lw_g (lw_at lw_m6 87 rfl) rfl
theorem q1384 : (Jvm.Cond.methodLink "WillowPrintersLaw" (183 : Nat) ({ cls := "WillowPrintersLaw", name := "wouldChip", desc := "(LWillowPrinters;II[J)I" } : Jvm.MethodName)) ∈ lw_all := lw_g (lw_at lw_m6 130 rfl) rfl
theorem q1385 : (Jvm.Cond.static ({ cls := "WillowPrintersLaw", name := "wouldChip", desc := "(LWillowPrinters;II[J)I" } : Jvm.MethodName)) ∈ lw_all := lw_g (lw_at lw_m6 131 rfl) rfl
theorem q1386 : (Jvm.Cond.codeWith ({ cls := "WillowPrintersLaw", name := "wouldChip", desc := "(LWillowPrinters;II[J)I" } : Jvm.MethodName) method_15_code (5 : Nat) (Option.some Jvm.ClassFile.FieldType.int) [((0 : Nat), (10 : Nat), (13 : Nat), (29 : Nat)), ((0 : Nat), (10 : Nat), (17 : Nat), (13 : Nat))]) ∈ lw_all := lw_g (lw_at lw_m6 132 rfl) rfl
theorem q1387 : (Jvm.Cond.methodLink "WillowPrintersLaw" (58 : Nat) ({ cls := "WillowPrinters", name := "wouldChip", desc := "(II)I" } : Jvm.MethodName)) ∈ lw_all := lw_g (lw_at lw_m6 133 rfl) rfl
theorem q1398 : (Jvm.Cond.methodLink "WillowPrintersLaw" (186 : Nat) ({ cls := "WillowPrintersLaw", name := "firstDone", desc := "(LWillowPrinters;[J)I" } : Jvm.MethodName)) ∈ lw_all := lw_g (lw_at lw_m6 144 rfl) rfl
theorem q1399 : (Jvm.Cond.static ({ cls := "WillowPrintersLaw", name := "firstDone", desc := "(LWillowPrinters;[J)I" } : Jvm.MethodName)) ∈ lw_all := lw_g (lw_at lw_m6 145 rfl) rfl
theorem q1400 : (Jvm.Cond.codeWith ({ cls := "WillowPrintersLaw", name := "firstDone", desc := "(LWillowPrinters;[J)I" } : Jvm.MethodName) method_16_code (3 : Nat) (Option.some Jvm.ClassFile.FieldType.int) [((0 : Nat), (8 : Nat), (11 : Nat), (37 : Nat))]) ∈ lw_all := lw_g (lw_at lw_m6 146 rfl) rfl
theorem q1401 : (Jvm.Cond.methodLink "WillowPrintersLaw" (61 : Nat) ({ cls := "WillowPrinters", name := "firstDone", desc := "()I" } : Jvm.MethodName)) ∈ lw_all := lw_g (lw_at lw_m6 147 rfl) rfl
theorem q1411 : (Jvm.Cond.methodLink "WillowPrintersLaw" (190 : Nat) ({ cls := "WillowPrintersLaw", name := "crate", desc := "(LWillowPrinters;I[J)I" } : Jvm.MethodName)) ∈ lw_all := lw_g (lw_at lw_m6 157 rfl) rfl
theorem q1412 : (Jvm.Cond.static ({ cls := "WillowPrintersLaw", name := "crate", desc := "(LWillowPrinters;I[J)I" } : Jvm.MethodName)) ∈ lw_all := lw_g (lw_at lw_m6 158 rfl) rfl
theorem q1413 : (Jvm.Cond.codeWith ({ cls := "WillowPrintersLaw", name := "crate", desc := "(LWillowPrinters;I[J)I" } : Jvm.MethodName) method_17_code (4 : Nat) (Option.some Jvm.ClassFile.FieldType.int) [((0 : Nat), (9 : Nat), (12 : Nat), (13 : Nat)), ((0 : Nat), (9 : Nat), (15 : Nat), (23 : Nat))]) ∈ lw_all := lw_g (lw_at lw_m6 159 rfl) rfl
theorem q1414 : (Jvm.Cond.methodLink "WillowPrintersLaw" (65 : Nat) ({ cls := "WillowPrinters", name := "crate", desc := "(I)I" } : Jvm.MethodName)) ∈ lw_all := lw_g (lw_at lw_m6 160 rfl) rfl
theorem q1426 : (Jvm.Cond.methodLink "WillowPrintersLaw" (193 : Nat) ({ cls := "WillowPrintersLaw", name := "crateOf", desc := "(LWillowPrinters;II[J)I" } : Jvm.MethodName)) ∈ lw_all := lw_g (lw_at lw_m6 172 rfl) rfl
theorem q1427 : (Jvm.Cond.static ({ cls := "WillowPrintersLaw", name := "crateOf", desc := "(LWillowPrinters;II[J)I" } : Jvm.MethodName)) ∈ lw_all := lw_g (lw_at lw_m6 173 rfl) rfl
theorem q1428 : (Jvm.Cond.codeWith ({ cls := "WillowPrintersLaw", name := "crateOf", desc := "(LWillowPrinters;II[J)I" } : Jvm.MethodName) method_18_code (5 : Nat) (Option.some Jvm.ClassFile.FieldType.int) [((0 : Nat), (10 : Nat), (13 : Nat), (29 : Nat)), ((0 : Nat), (10 : Nat), (17 : Nat), (13 : Nat))]) ∈ lw_all := lw_g (lw_at lw_m6 174 rfl) rfl
theorem q1429 : (Jvm.Cond.methodLink "WillowPrintersLaw" (68 : Nat) ({ cls := "WillowPrinters", name := "crateOf", desc := "(II)I" } : Jvm.MethodName)) ∈ lw_all := lw_g (lw_at lw_m6 175 rfl) rfl
theorem q1447 : (Jvm.Cond.methodLink "WillowPrintersLaw" (196 : Nat) ({ cls := "WillowPrintersLaw", name := "straw", desc := "(LWillowPrinters;II[J)I" } : Jvm.MethodName)) ∈ lw_all := lw_g (lw_at lw_m6 193 rfl) rfl
theorem q1448 : (Jvm.Cond.static ({ cls := "WillowPrintersLaw", name := "straw", desc := "(LWillowPrinters;II[J)I" } : Jvm.MethodName)) ∈ lw_all := lw_g (lw_at lw_m6 194 rfl) rfl
theorem q1449 : (Jvm.Cond.codeWith ({ cls := "WillowPrintersLaw", name := "straw", desc := "(LWillowPrinters;II[J)I" } : Jvm.MethodName) method_19_code (5 : Nat) (Option.some Jvm.ClassFile.FieldType.int) [((0 : Nat), (10 : Nat), (13 : Nat), (29 : Nat)), ((0 : Nat), (10 : Nat), (17 : Nat), (13 : Nat)), ((0 : Nat), (10 : Nat), (21 : Nat), (15 : Nat))]) ∈ lw_all := lw_g (lw_at lw_m6 195 rfl) rfl
theorem q1450 : (Jvm.Cond.methodLink "WillowPrintersLaw" (71 : Nat) ({ cls := "WillowPrinters", name := "straw", desc := "(II)I" } : Jvm.MethodName)) ∈ lw_all := lw_g (lw_at lw_m6 196 rfl) rfl
theorem q1461 : (Jvm.Cond.methodLink "WillowPrintersLaw" (199 : Nat) ({ cls := "WillowPrintersLaw", name := "pack", desc := "(LWillowPrinters;III[J)I" } : Jvm.MethodName)) ∈ lw_all := lw_g (lw_at lw_m6 207 rfl) rfl
theorem q1462 : (Jvm.Cond.static ({ cls := "WillowPrintersLaw", name := "pack", desc := "(LWillowPrinters;III[J)I" } : Jvm.MethodName)) ∈ lw_all := lw_g (lw_at lw_m6 208 rfl) rfl
theorem q1463 : (Jvm.Cond.codeWith ({ cls := "WillowPrintersLaw", name := "pack", desc := "(LWillowPrinters;III[J)I" } : Jvm.MethodName) method_20_code (6 : Nat) (Option.some Jvm.ClassFile.FieldType.int) [((0 : Nat), (12 : Nat), (15 : Nat), (29 : Nat)), ((0 : Nat), (12 : Nat), (19 : Nat), (13 : Nat)), ((0 : Nat), (12 : Nat), (23 : Nat), (15 : Nat))]) ∈ lw_all := lw_g (lw_at lw_m6 209 rfl) rfl
theorem q1464 : (Jvm.Cond.methodLink "WillowPrintersLaw" (74 : Nat) ({ cls := "WillowPrinters", name := "pack", desc := "(III)I" } : Jvm.MethodName)) ∈ lw_all := lw_g (lw_at lw_m6 210 rfl) rfl
theorem q1475 : (Jvm.Cond.methodLink "WillowPrintersLaw" (202 : Nat) ({ cls := "WillowPrintersLaw", name := "carry", desc := "(LWillowPrinters;I[J)I" } : Jvm.MethodName)) ∈ lw_all := lw_g (lw_at lw_m6 221 rfl) rfl
theorem q1476 : (Jvm.Cond.static ({ cls := "WillowPrintersLaw", name := "carry", desc := "(LWillowPrinters;I[J)I" } : Jvm.MethodName)) ∈ lw_all := lw_g (lw_at lw_m6 222 rfl) rfl
theorem q1477 : (Jvm.Cond.codeWith ({ cls := "WillowPrintersLaw", name := "carry", desc := "(LWillowPrinters;I[J)I" } : Jvm.MethodName) method_21_code (4 : Nat) (Option.some Jvm.ClassFile.FieldType.int) [((0 : Nat), (9 : Nat), (12 : Nat), (29 : Nat)), ((0 : Nat), (9 : Nat), (15 : Nat), (15 : Nat))]) ∈ lw_all := lw_g (lw_at lw_m6 223 rfl) rfl
theorem q1478 : (Jvm.Cond.methodLink "WillowPrintersLaw" (77 : Nat) ({ cls := "WillowPrinters", name := "carry", desc := "(I)I" } : Jvm.MethodName)) ∈ lw_all := lw_g (lw_at lw_m6 224 rfl) rfl
theorem q1494 : (Jvm.Cond.methodLink "WillowPrintersLaw" (205 : Nat) ({ cls := "WillowPrintersLaw", name := "sell", desc := "(LWillowPrinters;[J)I" } : Jvm.MethodName)) ∈ lw_all := lw_g (lw_at lw_m7 0 rfl) rfl
theorem q1495 : (Jvm.Cond.static ({ cls := "WillowPrintersLaw", name := "sell", desc := "(LWillowPrinters;[J)I" } : Jvm.MethodName)) ∈ lw_all := lw_g (lw_at lw_m7 1 rfl) rfl
theorem q1496 : (Jvm.Cond.codeWith ({ cls := "WillowPrintersLaw", name := "sell", desc := "(LWillowPrinters;[J)I" } : Jvm.MethodName) method_22_code (3 : Nat) (Option.some Jvm.ClassFile.FieldType.int) [((0 : Nat), (8 : Nat), (11 : Nat), (15 : Nat))]) ∈ lw_all := lw_g (lw_at lw_m7 2 rfl) rfl
theorem q1497 : (Jvm.Cond.methodLink "WillowPrintersLaw" (80 : Nat) ({ cls := "WillowPrinters", name := "sell", desc := "()I" } : Jvm.MethodName)) ∈ lw_all := lw_g (lw_at lw_m7 3 rfl) rfl
theorem q1507 : (Jvm.Cond.methodLink "WillowPrintersLaw" (208 : Nat) ({ cls := "WillowPrintersLaw", name := "pass", desc := "(LWillowPrinters;I[J)I" } : Jvm.MethodName)) ∈ lw_all := lw_g (lw_at lw_m7 13 rfl) rfl
theorem q1508 : (Jvm.Cond.static ({ cls := "WillowPrintersLaw", name := "pass", desc := "(LWillowPrinters;I[J)I" } : Jvm.MethodName)) ∈ lw_all := lw_g (lw_at lw_m7 14 rfl) rfl
theorem q1509 : (Jvm.Cond.codeWith ({ cls := "WillowPrintersLaw", name := "pass", desc := "(LWillowPrinters;I[J)I" } : Jvm.MethodName) method_23_code (4 : Nat) (Option.some Jvm.ClassFile.FieldType.int) [((0 : Nat), (9 : Nat), (12 : Nat), (13 : Nat))]) ∈ lw_all := lw_g (lw_at lw_m7 15 rfl) rfl
theorem q1510 : (Jvm.Cond.methodLink "WillowPrintersLaw" (83 : Nat) ({ cls := "WillowPrinters", name := "pass", desc := "(I)I" } : Jvm.MethodName)) ∈ lw_all := lw_g (lw_at lw_m7 16 rfl) rfl
theorem q1551 : (Jvm.Cond.methodLink "WillowPrintersLaw" (211 : Nat) ({ cls := "WillowPrintersLaw", name := "line", desc := "(LWillowPrinters;I[J)I" } : Jvm.MethodName)) ∈ lw_all := lw_g (lw_at lw_m7 57 rfl) rfl
theorem q1552 : (Jvm.Cond.static ({ cls := "WillowPrintersLaw", name := "line", desc := "(LWillowPrinters;I[J)I" } : Jvm.MethodName)) ∈ lw_all := lw_g (lw_at lw_m7 58 rfl) rfl
theorem q1553 : (Jvm.Cond.codeWith ({ cls := "WillowPrintersLaw", name := "line", desc := "(LWillowPrinters;I[J)I" } : Jvm.MethodName) method_24_code (4 : Nat) (Option.some Jvm.ClassFile.FieldType.int) [((0 : Nat), (9 : Nat), (12 : Nat), (29 : Nat))]) ∈ lw_all := lw_g (lw_at lw_m7 59 rfl) rfl
theorem q1554 : (Jvm.Cond.methodLink "WillowPrintersLaw" (86 : Nat) ({ cls := "WillowPrinters", name := "line", desc := "(I)I" } : Jvm.MethodName)) ∈ lw_all := lw_g (lw_at lw_m7 60 rfl) rfl
theorem q1613 : (Jvm.Cond.methodLink "WillowPrintersLaw" (214 : Nat) ({ cls := "WillowPrintersLaw", name := "crateLine", desc := "(LWillowPrinters;I[J)I" } : Jvm.MethodName)) ∈ lw_all := lw_g (lw_at lw_m7 119 rfl) rfl
theorem q1614 : (Jvm.Cond.static ({ cls := "WillowPrintersLaw", name := "crateLine", desc := "(LWillowPrinters;I[J)I" } : Jvm.MethodName)) ∈ lw_all := lw_g (lw_at lw_m7 120 rfl) rfl
theorem q1615 : (Jvm.Cond.codeWith ({ cls := "WillowPrintersLaw", name := "crateLine", desc := "(LWillowPrinters;I[J)I" } : Jvm.MethodName) method_25_code (4 : Nat) (Option.some Jvm.ClassFile.FieldType.int) [((0 : Nat), (9 : Nat), (12 : Nat), (29 : Nat))]) ∈ lw_all := lw_g (lw_at lw_m7 121 rfl) rfl
theorem q1616 : (Jvm.Cond.methodLink "WillowPrintersLaw" (89 : Nat) ({ cls := "WillowPrinters", name := "crateLine", desc := "(I)I" } : Jvm.MethodName)) ∈ lw_all := lw_g (lw_at lw_m7 122 rfl) rfl
theorem q1628 : (Jvm.Cond.methodLink "WillowPrintersLaw" (217 : Nat) ({ cls := "WillowPrintersLaw", name := "character", desc := "(LWillowPrinters;I[J)I" } : Jvm.MethodName)) ∈ lw_all := lw_g (lw_at lw_m7 134 rfl) rfl
theorem q1629 : (Jvm.Cond.static ({ cls := "WillowPrintersLaw", name := "character", desc := "(LWillowPrinters;I[J)I" } : Jvm.MethodName)) ∈ lw_all := lw_g (lw_at lw_m7 135 rfl) rfl
theorem q1630 : (Jvm.Cond.codeWith ({ cls := "WillowPrintersLaw", name := "character", desc := "(LWillowPrinters;I[J)I" } : Jvm.MethodName) method_26_code (4 : Nat) (Option.some Jvm.ClassFile.FieldType.int) [((0 : Nat), (9 : Nat), (12 : Nat), (29 : Nat))]) ∈ lw_all := lw_g (lw_at lw_m7 136 rfl) rfl
theorem q1631 : (Jvm.Cond.methodLink "WillowPrintersLaw" (92 : Nat) ({ cls := "WillowPrinters", name := "character", desc := "(I)C" } : Jvm.MethodName)) ∈ lw_all := lw_g (lw_at lw_m7 137 rfl) rfl
theorem q1651 : (Jvm.Cond.methodLink "WillowPrintersLaw" (220 : Nat) ({ cls := "WillowPrintersLaw", name := "refusal", desc := "(LWillowPrinters;Z[J)I" } : Jvm.MethodName)) ∈ lw_all := lw_g (lw_at lw_m7 157 rfl) rfl
theorem q1652 : (Jvm.Cond.static ({ cls := "WillowPrintersLaw", name := "refusal", desc := "(LWillowPrinters;Z[J)I" } : Jvm.MethodName)) ∈ lw_all := lw_g (lw_at lw_m7 158 rfl) rfl
theorem q1653 : (Jvm.Cond.codeWith ({ cls := "WillowPrintersLaw", name := "refusal", desc := "(LWillowPrinters;Z[J)I" } : Jvm.MethodName) method_27_code (4 : Nat) (Option.some Jvm.ClassFile.FieldType.int) [((0 : Nat), (9 : Nat), (12 : Nat), (23 : Nat))]) ∈ lw_all := lw_g (lw_at lw_m7 159 rfl) rfl
theorem q1654 : (Jvm.Cond.methodLink "WillowPrintersLaw" (96 : Nat) ({ cls := "WillowPrinters", name := "refusal", desc := "(Z)I" } : Jvm.MethodName)) ∈ lw_all := lw_g (lw_at lw_m7 160 rfl) rfl
theorem q1659 : (Jvm.Cond.methodLink "WillowPrintersLaw" (224 : Nat) ({ cls := "WillowPrintersLaw", name := "account", desc := "(LWillowPrinters;I[J)I" } : Jvm.MethodName)) ∈ lw_all := lw_g (lw_at lw_m7 165 rfl) rfl
theorem q1660 : (Jvm.Cond.static ({ cls := "WillowPrintersLaw", name := "account", desc := "(LWillowPrinters;I[J)I" } : Jvm.MethodName)) ∈ lw_all := lw_g (lw_at lw_m7 166 rfl) rfl
theorem q1661 : (Jvm.Cond.codeWith ({ cls := "WillowPrintersLaw", name := "account", desc := "(LWillowPrinters;I[J)I" } : Jvm.MethodName) method_28_code (4 : Nat) (Option.some Jvm.ClassFile.FieldType.int) [((0 : Nat), (9 : Nat), (12 : Nat), (13 : Nat))]) ∈ lw_all := lw_g (lw_at lw_m7 167 rfl) rfl
theorem q1662 : (Jvm.Cond.methodLink "WillowPrintersLaw" (100 : Nat) ({ cls := "WillowPrinters", name := "account", desc := "(I)I" } : Jvm.MethodName)) ∈ lw_all := lw_g (lw_at lw_m7 168 rfl) rfl
theorem q1690 : (Jvm.Cond.methodLink "WillowPrintersLaw" (231 : Nat) ({ cls := "WillowPrintersLaw", name := "meanWell", desc := "(LWillowPrinters;[D)I" } : Jvm.MethodName)) ∈ lw_all := lw_g (lw_at lw_m7 196 rfl) rfl
theorem q1691 : (Jvm.Cond.static ({ cls := "WillowPrintersLaw", name := "meanWell", desc := "(LWillowPrinters;[D)I" } : Jvm.MethodName)) ∈ lw_all := lw_g (lw_at lw_m7 197 rfl) rfl
theorem q1692 : (Jvm.Cond.codeWith ({ cls := "WillowPrintersLaw", name := "meanWell", desc := "(LWillowPrinters;[D)I" } : Jvm.MethodName) method_29_code (3 : Nat) (Option.some Jvm.ClassFile.FieldType.int) [((0 : Nat), (7 : Nat), (10 : Nat), (107 : Nat))]) ∈ lw_all := lw_g (lw_at lw_m7 198 rfl) rfl
theorem q1693 : (Jvm.Cond.classLink "WillowPrintersLaw" (107 : Nat) "java/lang/ArithmeticException") ∈ lw_all := lw_g (lw_at lw_m7 199 rfl) rfl
theorem q1707 : (Jvm.Cond.methodLink "WillowPrintersLaw" (103 : Nat) ({ cls := "WillowPrinters", name := "meanWell", desc := "()D" } : Jvm.MethodName)) ∈ lw_all := lw_g (lw_at lw_m7 213 rfl) rfl
theorem q1725 : (Jvm.Cond.methodLink "WillowPrintersLaw" (235 : Nat) ({ cls := "WillowPrintersLaw", name := "secondShare", desc := "(LWillowPrinters;[D)I" } : Jvm.MethodName)) ∈ lw_all := lw_g (lw_at lw_m7 231 rfl) rfl
theorem q1726 : (Jvm.Cond.static ({ cls := "WillowPrintersLaw", name := "secondShare", desc := "(LWillowPrinters;[D)I" } : Jvm.MethodName)) ∈ lw_all := lw_g (lw_at lw_m7 232 rfl) rfl
theorem q1727 : (Jvm.Cond.codeWith ({ cls := "WillowPrintersLaw", name := "secondShare", desc := "(LWillowPrinters;[D)I" } : Jvm.MethodName) method_30_code (3 : Nat) (Option.some Jvm.ClassFile.FieldType.int) [((0 : Nat), (8 : Nat), (11 : Nat), (107 : Nat))]) ∈ lw_all := lw_g (lw_at lw_m7 233 rfl) rfl
theorem q1728 : (Jvm.Cond.methodLink "WillowPrintersLaw" (109 : Nat) ({ cls := "WillowPrinters", name := "secondShare", desc := "()F" } : Jvm.MethodName)) ∈ lw_all := lw_g (lw_at lw_m7 234 rfl) rfl
theorem q1732 : (Jvm.Cond.methodLink "WillowPrintersLaw" (238 : Nat) ({ cls := "WillowPrintersLaw", name := "append", desc := "(LWillowPrinters;I[J)I" } : Jvm.MethodName)) ∈ lw_all := lw_g (lw_at lw_m7 238 rfl) rfl
theorem q1733 : (Jvm.Cond.static ({ cls := "WillowPrintersLaw", name := "append", desc := "(LWillowPrinters;I[J)I" } : Jvm.MethodName)) ∈ lw_all := lw_g (lw_at lw_m7 239 rfl) rfl
theorem q1734 : (Jvm.Cond.codeWith ({ cls := "WillowPrintersLaw", name := "append", desc := "(LWillowPrinters;I[J)I" } : Jvm.MethodName) method_31_code (4 : Nat) (Option.some Jvm.ClassFile.FieldType.int) [((0 : Nat), (9 : Nat), (12 : Nat), (13 : Nat)), ((0 : Nat), (9 : Nat), (15 : Nat), (23 : Nat))]) ∈ lw_all := lw_g (lw_at lw_m8 0 rfl) rfl
theorem q1735 : (Jvm.Cond.methodLink "WillowPrintersLaw" (113 : Nat) ({ cls := "WillowPrinters", name := "append", desc := "(I)I" } : Jvm.MethodName)) ∈ lw_all := lw_g (lw_at lw_m8 1 rfl) rfl
theorem q1742 : (Jvm.Cond.methodLink "WillowPrintersLaw" (241 : Nat) ({ cls := "WillowPrintersLaw", name := "read", desc := "(LWillowPrinters;[J)I" } : Jvm.MethodName)) ∈ lw_all := lw_g (lw_at lw_m8 8 rfl) rfl
theorem q1743 : (Jvm.Cond.static ({ cls := "WillowPrintersLaw", name := "read", desc := "(LWillowPrinters;[J)I" } : Jvm.MethodName)) ∈ lw_all := lw_g (lw_at lw_m8 9 rfl) rfl
theorem q1744 : (Jvm.Cond.codeWith ({ cls := "WillowPrintersLaw", name := "read", desc := "(LWillowPrinters;[J)I" } : Jvm.MethodName) method_32_code (3 : Nat) (Option.some Jvm.ClassFile.FieldType.int) [((0 : Nat), (8 : Nat), (11 : Nat), (13 : Nat)), ((0 : Nat), (8 : Nat), (14 : Nat), (15 : Nat))]) ∈ lw_all := lw_g (lw_at lw_m8 10 rfl) rfl
theorem q1745 : (Jvm.Cond.methodLink "WillowPrintersLaw" (116 : Nat) ({ cls := "WillowPrinters", name := "read", desc := "()I" } : Jvm.MethodName)) ∈ lw_all := lw_g (lw_at lw_m8 11 rfl) rfl
theorem q1880 : (Jvm.Cond.methodLink "WillowPrintersLaw" (244 : Nat) ({ cls := "WillowPrintersLaw", name := "errorPosition", desc := "(LWillowPrinters;[J)I" } : Jvm.MethodName)) ∈ lw_all := lw_g (lw_at lw_m8 146 rfl) rfl
theorem q1881 : (Jvm.Cond.static ({ cls := "WillowPrintersLaw", name := "errorPosition", desc := "(LWillowPrinters;[J)I" } : Jvm.MethodName)) ∈ lw_all := lw_g (lw_at lw_m8 147 rfl) rfl
theorem q1882 : (Jvm.Cond.codeWith ({ cls := "WillowPrintersLaw", name := "errorPosition", desc := "(LWillowPrinters;[J)I" } : Jvm.MethodName) method_33_code (3 : Nat) (Option.some Jvm.ClassFile.FieldType.int) [((0 : Nat), (8 : Nat), (11 : Nat), (37 : Nat))]) ∈ lw_all := lw_g (lw_at lw_m8 148 rfl) rfl
theorem q1883 : (Jvm.Cond.methodLink "WillowPrintersLaw" (119 : Nat) ({ cls := "WillowPrinters", name := "errorPosition", desc := "()I" } : Jvm.MethodName)) ∈ lw_all := lw_g (lw_at lw_m8 149 rfl) rfl
theorem q1887 : (Jvm.Cond.methodLink "WillowPrintersLaw" (247 : Nat) ({ cls := "WillowPrintersLaw", name := "refusedItem", desc := "(LWillowPrinters;[J)I" } : Jvm.MethodName)) ∈ lw_all := lw_g (lw_at lw_m8 153 rfl) rfl
theorem q1888 : (Jvm.Cond.static ({ cls := "WillowPrintersLaw", name := "refusedItem", desc := "(LWillowPrinters;[J)I" } : Jvm.MethodName)) ∈ lw_all := lw_g (lw_at lw_m8 154 rfl) rfl
theorem q1889 : (Jvm.Cond.codeWith ({ cls := "WillowPrintersLaw", name := "refusedItem", desc := "(LWillowPrinters;[J)I" } : Jvm.MethodName) method_34_code (3 : Nat) (Option.some Jvm.ClassFile.FieldType.int) [((0 : Nat), (8 : Nat), (11 : Nat), (37 : Nat))]) ∈ lw_all := lw_g (lw_at lw_m8 155 rfl) rfl
theorem q1890 : (Jvm.Cond.methodLink "WillowPrintersLaw" (122 : Nat) ({ cls := "WillowPrinters", name := "refusedItem", desc := "()I" } : Jvm.MethodName)) ∈ lw_all := lw_g (lw_at lw_m8 156 rfl) rfl
theorem q1894 : (Jvm.Cond.methodLink "WillowPrintersLaw" (250 : Nat) ({ cls := "WillowPrintersLaw", name := "undo", desc := "(LWillowPrinters;[J)I" } : Jvm.MethodName)) ∈ lw_all := lw_g (lw_at lw_m8 160 rfl) rfl
theorem q1895 : (Jvm.Cond.static ({ cls := "WillowPrintersLaw", name := "undo", desc := "(LWillowPrinters;[J)I" } : Jvm.MethodName)) ∈ lw_all := lw_g (lw_at lw_m8 161 rfl) rfl
theorem q1896 : (Jvm.Cond.codeWith ({ cls := "WillowPrintersLaw", name := "undo", desc := "(LWillowPrinters;[J)I" } : Jvm.MethodName) method_35_code (3 : Nat) (Option.some Jvm.ClassFile.FieldType.int) [((0 : Nat), (8 : Nat), (11 : Nat), (23 : Nat))]) ∈ lw_all := lw_g (lw_at lw_m8 162 rfl) rfl
theorem q1897 : (Jvm.Cond.methodLink "WillowPrintersLaw" (125 : Nat) ({ cls := "WillowPrinters", name := "undo", desc := "()I" } : Jvm.MethodName)) ∈ lw_all := lw_g (lw_at lw_m8 163 rfl) rfl
theorem q1916 : (Jvm.Cond.methodLink "WillowPrintersLaw" (257 : Nat) ({ cls := "WillowPrintersLaw", name := "restore", desc := "(LWillowPrinters;[J)I" } : Jvm.MethodName)) ∈ lw_all := lw_g (lw_at lw_m8 182 rfl) rfl
theorem q1917 : (Jvm.Cond.static ({ cls := "WillowPrintersLaw", name := "restore", desc := "(LWillowPrinters;[J)I" } : Jvm.MethodName)) ∈ lw_all := lw_g (lw_at lw_m8 183 rfl) rfl
theorem q1918 : (Jvm.Cond.codeWith ({ cls := "WillowPrintersLaw", name := "restore", desc := "(LWillowPrinters;[J)I" } : Jvm.MethodName) method_36_code (3 : Nat) (Option.some Jvm.ClassFile.FieldType.int) [((0 : Nat), (8 : Nat), (11 : Nat), (23 : Nat))]) ∈ lw_all := lw_g (lw_at lw_m8 184 rfl) rfl
theorem q1919 : (Jvm.Cond.methodLink "WillowPrintersLaw" (128 : Nat) ({ cls := "WillowPrinters", name := "restore", desc := "()I" } : Jvm.MethodName)) ∈ lw_all := lw_g (lw_at lw_m8 185 rfl) rfl
theorem q1923 : (Jvm.Cond.classLink "WillowPrintersLaw" (132 : Nat) "WillowPrintersModel") ∈ lw_all := lw_g (lw_at lw_m8 189 rfl) rfl
theorem q1925 : (Jvm.Cond.methodLink "WillowPrintersLaw" (134 : Nat) ({ cls := "WillowPrintersModel", name := "<init>", desc := "()V" } : Jvm.MethodName)) ∈ lw_all := lw_g (lw_at lw_m8 191 rfl) rfl
theorem q1993 : (Jvm.Cond.methodLink "WillowPrintersLaw" (145 : Nat) ({ cls := "WillowPrintersModel", name := "thrown", desc := "()I" } : Jvm.MethodName)) ∈ lw_all := lw_g (lw_at lw_m9 19 rfl) rfl
theorem q1997 : (Jvm.Cond.methodLink "WillowPrintersLaw" (138 : Nat) ({ cls := "WillowPrintersModel", name := "clear", desc := "()I" } : Jvm.MethodName)) ∈ lw_all := lw_g (lw_at lw_m9 23 rfl) rfl
theorem q2001 : (Jvm.Cond.methodLink "WillowPrintersLaw" (144 : Nat) ({ cls := "WillowPrintersModel", name := "sheets", desc := "(I)I" } : Jvm.MethodName)) ∈ lw_all := lw_g (lw_at lw_m9 27 rfl) rfl
theorem q2027 : (Jvm.Cond.methodLink "WillowPrintersLaw" (150 : Nat) ({ cls := "WillowPrintersModel", name := "damp", desc := "(I)I" } : Jvm.MethodName)) ∈ lw_all := lw_g (lw_at lw_m9 53 rfl) rfl
theorem q2031 : (Jvm.Cond.methodLink "WillowPrintersLaw" (153 : Nat) ({ cls := "WillowPrintersModel", name := "copper", desc := "(I)I" } : Jvm.MethodName)) ∈ lw_all := lw_g (lw_at lw_m9 57 rfl) rfl
theorem q2035 : (Jvm.Cond.methodLink "WillowPrintersLaw" (157 : Nat) ({ cls := "WillowPrintersModel", name := "copperOf", desc := "(II)I" } : Jvm.MethodName)) ∈ lw_all := lw_g (lw_at lw_m9 61 rfl) rfl
theorem q2057 : (Jvm.Cond.methodLink "WillowPrintersLaw" (160 : Nat) ({ cls := "WillowPrintersModel", name := "wellAgain", desc := "(I)I" } : Jvm.MethodName)) ∈ lw_all := lw_g (lw_at lw_m9 83 rfl) rfl
theorem q2061 : (Jvm.Cond.methodLink "WillowPrintersLaw" (163 : Nat) ({ cls := "WillowPrintersModel", name := "bestCopper", desc := "(I)I" } : Jvm.MethodName)) ∈ lw_all := lw_g (lw_at lw_m9 87 rfl) rfl
theorem q2073 : (Jvm.Cond.methodLink "WillowPrintersLaw" (166 : Nat) ({ cls := "WillowPrintersModel", name := "lot", desc := "(I)I" } : Jvm.MethodName)) ∈ lw_all := lw_g (lw_at lw_m9 99 rfl) rfl
theorem q2081 : (Jvm.Cond.methodLink "WillowPrintersLaw" (169 : Nat) ({ cls := "WillowPrintersModel", name := "lotOf", desc := "(II)I" } : Jvm.MethodName)) ∈ lw_all := lw_g (lw_at lw_m9 107 rfl) rfl
theorem q2089 : (Jvm.Cond.methodLink "WillowPrintersLaw" (172 : Nat) ({ cls := "WillowPrintersModel", name := "print", desc := "(II)I" } : Jvm.MethodName)) ∈ lw_all := lw_g (lw_at lw_m9 115 rfl) rfl
theorem q2093 : (Jvm.Cond.methodLink "WillowPrintersLaw" (175 : Nat) ({ cls := "WillowPrintersModel", name := "kiln", desc := "(I)I" } : Jvm.MethodName)) ∈ lw_all := lw_g (lw_at lw_m9 119 rfl) rfl
theorem q2101 : (Jvm.Cond.methodLink "WillowPrintersLaw" (178 : Nat) ({ cls := "WillowPrintersModel", name := "kilnOf", desc := "(II)I" } : Jvm.MethodName)) ∈ lw_all := lw_g (lw_at lw_m9 127 rfl) rfl
theorem q2109 : (Jvm.Cond.methodLink "WillowPrintersLaw" (182 : Nat) ({ cls := "WillowPrintersModel", name := "fire", desc := "(III)I" } : Jvm.MethodName)) ∈ lw_all := lw_g (lw_at lw_m9 135 rfl) rfl
theorem q2113 : (Jvm.Cond.methodLink "WillowPrintersLaw" (185 : Nat) ({ cls := "WillowPrintersModel", name := "wouldChip", desc := "(II)I" } : Jvm.MethodName)) ∈ lw_all := lw_g (lw_at lw_m9 139 rfl) rfl
theorem q2121 : (Jvm.Cond.methodLink "WillowPrintersLaw" (189 : Nat) ({ cls := "WillowPrintersModel", name := "firstDone", desc := "()I" } : Jvm.MethodName)) ∈ lw_all := lw_g (lw_at lw_m9 147 rfl) rfl
theorem q2125 : (Jvm.Cond.methodLink "WillowPrintersLaw" (192 : Nat) ({ cls := "WillowPrintersModel", name := "crate", desc := "(I)I" } : Jvm.MethodName)) ∈ lw_all := lw_g (lw_at lw_m9 151 rfl) rfl
theorem q2133 : (Jvm.Cond.methodLink "WillowPrintersLaw" (195 : Nat) ({ cls := "WillowPrintersModel", name := "crateOf", desc := "(II)I" } : Jvm.MethodName)) ∈ lw_all := lw_g (lw_at lw_m9 159 rfl) rfl
theorem q2153 : (Jvm.Cond.methodLink "WillowPrintersLaw" (198 : Nat) ({ cls := "WillowPrintersModel", name := "straw", desc := "(II)I" } : Jvm.MethodName)) ∈ lw_all := lw_g (lw_at lw_m9 179 rfl) rfl
theorem q2157 : (Jvm.Cond.methodLink "WillowPrintersLaw" (201 : Nat) ({ cls := "WillowPrintersModel", name := "pack", desc := "(III)I" } : Jvm.MethodName)) ∈ lw_all := lw_g (lw_at lw_m9 183 rfl) rfl
theorem q2161 : (Jvm.Cond.methodLink "WillowPrintersLaw" (204 : Nat) ({ cls := "WillowPrintersModel", name := "carry", desc := "(I)I" } : Jvm.MethodName)) ∈ lw_all := lw_g (lw_at lw_m9 187 rfl) rfl
theorem q2169 : (Jvm.Cond.methodLink "WillowPrintersLaw" (207 : Nat) ({ cls := "WillowPrintersModel", name := "sell", desc := "()I" } : Jvm.MethodName)) ∈ lw_all := lw_g (lw_at lw_m9 195 rfl) rfl
theorem q2173 : (Jvm.Cond.methodLink "WillowPrintersLaw" (210 : Nat) ({ cls := "WillowPrintersModel", name := "pass", desc := "(I)I" } : Jvm.MethodName)) ∈ lw_all := lw_g (lw_at lw_m9 199 rfl) rfl
theorem q2185 : (Jvm.Cond.methodLink "WillowPrintersLaw" (213 : Nat) ({ cls := "WillowPrintersModel", name := "line", desc := "(I)I" } : Jvm.MethodName)) ∈ lw_all := lw_g (lw_at lw_m9 211 rfl) rfl
theorem q2209 : (Jvm.Cond.methodLink "WillowPrintersLaw" (216 : Nat) ({ cls := "WillowPrintersModel", name := "crateLine", desc := "(I)I" } : Jvm.MethodName)) ∈ lw_all := lw_g (lw_at lw_m9 235 rfl) rfl
theorem q2213 : (Jvm.Cond.methodLink "WillowPrintersLaw" (219 : Nat) ({ cls := "WillowPrintersModel", name := "character", desc := "(I)C" } : Jvm.MethodName)) ∈ lw_all := lw_g (lw_at lw_m9 239 rfl) rfl
theorem q2217 : (Jvm.Cond.methodLink "WillowPrintersLaw" (223 : Nat) ({ cls := "WillowPrintersModel", name := "refusal", desc := "(Z)I" } : Jvm.MethodName)) ∈ lw_all := lw_g (lw_at lw_m10 3 rfl) rfl
theorem q2221 : (Jvm.Cond.methodLink "WillowPrintersLaw" (226 : Nat) ({ cls := "WillowPrintersModel", name := "account", desc := "(I)I" } : Jvm.MethodName)) ∈ lw_all := lw_g (lw_at lw_m10 7 rfl) rfl
theorem q2237 : (Jvm.Cond.methodLink "WillowPrintersLaw" (230 : Nat) ({ cls := "WillowPrintersModel", name := "platesAgain", desc := "()I" } : Jvm.MethodName)) ∈ lw_all := lw_g (lw_at lw_m10 23 rfl) rfl
theorem q2241 : (Jvm.Cond.methodLink "WillowPrintersLaw" (234 : Nat) ({ cls := "WillowPrintersModel", name := "meanWell", desc := "()D" } : Jvm.MethodName)) ∈ lw_all := lw_g (lw_at lw_m10 27 rfl) rfl
theorem q2245 : (Jvm.Cond.methodLink "WillowPrintersLaw" (237 : Nat) ({ cls := "WillowPrintersModel", name := "secondShare", desc := "()F" } : Jvm.MethodName)) ∈ lw_all := lw_g (lw_at lw_m10 31 rfl) rfl
theorem q2249 : (Jvm.Cond.methodLink "WillowPrintersLaw" (240 : Nat) ({ cls := "WillowPrintersModel", name := "append", desc := "(I)I" } : Jvm.MethodName)) ∈ lw_all := lw_g (lw_at lw_m10 35 rfl) rfl
theorem q2253 : (Jvm.Cond.methodLink "WillowPrintersLaw" (243 : Nat) ({ cls := "WillowPrintersModel", name := "read", desc := "()I" } : Jvm.MethodName)) ∈ lw_all := lw_g (lw_at lw_m10 39 rfl) rfl
theorem q2293 : (Jvm.Cond.methodLink "WillowPrintersLaw" (246 : Nat) ({ cls := "WillowPrintersModel", name := "errorPosition", desc := "()I" } : Jvm.MethodName)) ∈ lw_all := lw_g (lw_at lw_m10 79 rfl) rfl
theorem q2297 : (Jvm.Cond.methodLink "WillowPrintersLaw" (249 : Nat) ({ cls := "WillowPrintersModel", name := "refusedItem", desc := "()I" } : Jvm.MethodName)) ∈ lw_all := lw_g (lw_at lw_m10 83 rfl) rfl
theorem q2301 : (Jvm.Cond.methodLink "WillowPrintersLaw" (252 : Nat) ({ cls := "WillowPrintersModel", name := "undo", desc := "()I" } : Jvm.MethodName)) ∈ lw_all := lw_g (lw_at lw_m10 87 rfl) rfl
theorem q2305 : (Jvm.Cond.methodLink "WillowPrintersLaw" (256 : Nat) ({ cls := "WillowPrintersModel", name := "snapshot", desc := "()I" } : Jvm.MethodName)) ∈ lw_all := lw_g (lw_at lw_m10 91 rfl) rfl
theorem q2309 : (Jvm.Cond.methodLink "WillowPrintersLaw" (259 : Nat) ({ cls := "WillowPrintersModel", name := "restore", desc := "()I" } : Jvm.MethodName)) ∈ lw_all := lw_g (lw_at lw_m10 95 rfl) rfl

/-! the law's own entry -/
set_option maxRecDepth 100000
abbrev cL_law : ByteArray := code
def dkwL_law_90 : List UInt8 := [4, 172]
abbrev dktL_law_90 : List UInt8 := dkwL_law_90 ++ []
def dkwL_law_89 : List UInt8 := [154, 0, 15, 45, 3, 47, 21, 7, 133, 148, 153, 0, 5, 3, 172, 167, 0, 3, 132, 5, 4, 167, 247, 95]
abbrev dktL_law_89 : List UInt8 := dkwL_law_89 ++ dktL_law_90
def dkwL_law_88 : List UInt8 := [184, 1, 1, 54, 6, 44, 182, 1, 3, 54, 7, 44, 182, 0, 145, 21, 6, 159, 0, 5, 3, 172, 21, 6]
abbrev dktL_law_88 : List UInt8 := dkwL_law_88 ++ dktL_law_89
def dkwL_law_87 : List UInt8 := [148, 153, 0, 5, 3, 172, 167, 0, 60, 43, 182, 0, 253, 44, 182, 1, 0, 159, 0, 49, 3, 172, 43, 45]
abbrev dktL_law_87 : List UInt8 := dkwL_law_87 ++ dktL_law_88
def dkwL_law_86 : List UInt8 := [54, 7, 44, 182, 0, 145, 21, 6, 159, 0, 5, 3, 172, 21, 6, 154, 0, 15, 45, 3, 47, 21, 7, 133]
abbrev dktL_law_86 : List UInt8 := dkwL_law_86 ++ dktL_law_87
def dkwL_law_85 : List UInt8 := [21, 7, 133, 148, 153, 0, 5, 3, 172, 167, 0, 104, 43, 45, 184, 0, 250, 54, 6, 44, 182, 0, 252]
abbrev dktL_law_85 : List UInt8 := dkwL_law_85 ++ dktL_law_86
def dkwL_law_84 : List UInt8 := [182, 0, 249, 54, 7, 44, 182, 0, 145, 21, 6, 159, 0, 5, 3, 172, 21, 6, 154, 0, 15, 45, 3, 47]
abbrev dktL_law_84 : List UInt8 := dkwL_law_84 ++ dktL_law_85
def dkwL_law_83 : List UInt8 := [45, 3, 47, 21, 7, 133, 148, 153, 0, 5, 3, 172, 167, 0, 148, 43, 45, 184, 0, 247, 54, 6, 44]
abbrev dktL_law_83 : List UInt8 := dkwL_law_83 ++ dktL_law_84
def dkwL_law_82 : List UInt8 := [54, 6, 44, 182, 0, 246, 54, 7, 44, 182, 0, 145, 21, 6, 159, 0, 5, 3, 172, 21, 6, 154, 0, 15]
abbrev dktL_law_82 : List UInt8 := dkwL_law_82 ++ dktL_law_83
def dkwL_law_81 : List UInt8 := [154, 0, 15, 45, 3, 47, 21, 7, 133, 148, 153, 0, 5, 3, 172, 167, 0, 192, 43, 45, 184, 0, 244]
abbrev dktL_law_81 : List UInt8 := dkwL_law_81 ++ dktL_law_82
def dkwL_law_80 : List UInt8 := [184, 0, 241, 54, 6, 44, 182, 0, 243, 54, 7, 44, 182, 0, 145, 21, 6, 159, 0, 5, 3, 172, 21, 6]
abbrev dktL_law_80 : List UInt8 := dkwL_law_80 ++ dktL_law_81
def dkwL_law_79 : List UInt8 := [21, 6, 154, 0, 15, 45, 3, 47, 21, 7, 133, 148, 153, 0, 5, 3, 172, 167, 0, 236, 43, 45]
abbrev dktL_law_79 : List UInt8 := dkwL_law_79 ++ dktL_law_80
def dkwL_law_78 : List UInt8 := [44, 42, 21, 5, 4, 96, 46, 182, 0, 240, 54, 7, 44, 182, 0, 145, 21, 6, 159, 0, 5, 3, 172]
abbrev dktL_law_78 : List UInt8 := dkwL_law_78 ++ dktL_law_79
def dkwL_law_77 : List UInt8 := [23, 7, 149, 154, 0, 5, 3, 172, 167, 1, 36, 43, 42, 21, 5, 4, 96, 46, 45, 184, 0, 238, 54, 6]
abbrev dktL_law_77 : List UInt8 := dkwL_law_77 ++ dktL_law_78
def dkwL_law_76 : List UInt8 := [3, 49, 23, 7, 141, 151, 153, 0, 25, 25, 4, 3, 49, 25, 4, 3, 49, 151, 153, 0, 11, 23, 7]
abbrev dktL_law_76 : List UInt8 := dkwL_law_76 ++ dktL_law_77
def dkwL_law_75 : List UInt8 := [44, 182, 0, 237, 56, 7, 44, 182, 0, 145, 21, 6, 159, 0, 5, 3, 172, 21, 6, 154, 0, 36, 25, 4]
abbrev dktL_law_75 : List UInt8 := dkwL_law_75 ++ dktL_law_76
def dkwL_law_74 : List UInt8 := [153, 0, 11, 24, 7, 24, 7, 151, 154, 0, 5, 3, 172, 167, 1, 102, 43, 25, 4, 184, 0, 235, 54, 6]
abbrev dktL_law_74 : List UInt8 := dkwL_law_74 ++ dktL_law_75
def dkwL_law_73 : List UInt8 := [154, 0, 35, 25, 4, 3, 49, 24, 7, 151, 153, 0, 25, 25, 4, 3, 49, 25, 4, 3, 49, 151]
abbrev dktL_law_73 : List UInt8 := dkwL_law_73 ++ dktL_law_74
def dkwL_law_72 : List UInt8 := [184, 0, 231, 54, 6, 44, 182, 0, 234, 57, 7, 44, 182, 0, 145, 21, 6, 159, 0, 5, 3, 172, 21, 6]
abbrev dktL_law_72 : List UInt8 := dkwL_law_72 ++ dktL_law_73
def dkwL_law_71 : List UInt8 := [153, 0, 5, 3, 172, 167, 1, 180, 43, 182, 0, 227, 44, 182, 0, 230, 159, 1, 169, 3, 172, 43, 25, 4]
abbrev dktL_law_71 : List UInt8 := dkwL_law_71 ++ dktL_law_72
def dkwL_law_70 : List UInt8 := [182, 0, 145, 21, 6, 159, 0, 5, 3, 172, 21, 6, 154, 0, 15, 45, 3, 47, 21, 7, 133, 148]
abbrev dktL_law_70 : List UInt8 := dkwL_law_70 ++ dktL_law_71
def dkwL_law_69 : List UInt8 := [21, 5, 4, 96, 46, 45, 184, 0, 224, 54, 6, 44, 42, 21, 5, 4, 96, 46, 182, 0, 226, 54, 7, 44]
abbrev dktL_law_69 : List UInt8 := dkwL_law_69 ++ dktL_law_70
def dkwL_law_68 : List UInt8 := [3, 172, 21, 6, 154, 0, 15, 45, 3, 47, 21, 7, 133, 148, 153, 0, 5, 3, 172, 167, 1, 236, 43, 42]
abbrev dktL_law_68 : List UInt8 := dkwL_law_68 ++ dktL_law_69
def dkwL_law_67 : List UInt8 := [96, 46, 153, 0, 7, 4, 167, 0, 4, 3, 182, 0, 223, 54, 7, 44, 182, 0, 145, 21, 6, 159, 0, 5]
abbrev dktL_law_67 : List UInt8 := dkwL_law_67 ++ dktL_law_68
def dkwL_law_66 : List UInt8 := [21, 5, 4, 96, 46, 153, 0, 7, 4, 167, 0, 4, 3, 45, 184, 0, 220, 54, 6, 44, 42, 21, 5, 4]
abbrev dktL_law_66 : List UInt8 := dkwL_law_66 ++ dktL_law_67
def dkwL_law_65 : List UInt8 := [172, 21, 6, 154, 0, 15, 45, 3, 47, 21, 7, 133, 148, 153, 0, 5, 3, 172, 167, 2, 52, 43, 42]
abbrev dktL_law_65 : List UInt8 := dkwL_law_65 ++ dktL_law_66
def dkwL_law_64 : List UInt8 := [54, 6, 44, 42, 21, 5, 4, 96, 46, 182, 0, 219, 54, 7, 44, 182, 0, 145, 21, 6, 159, 0, 5, 3]
abbrev dktL_law_64 : List UInt8 := dkwL_law_64 ++ dktL_law_65
def dkwL_law_63 : List UInt8 := [21, 7, 133, 148, 153, 0, 5, 3, 172, 167, 2, 108, 43, 42, 21, 5, 4, 96, 46, 45, 184, 0, 217]
abbrev dktL_law_63 : List UInt8 := dkwL_law_63 ++ dktL_law_64
def dkwL_law_62 : List UInt8 := [182, 0, 216, 54, 7, 44, 182, 0, 145, 21, 6, 159, 0, 5, 3, 172, 21, 6, 154, 0, 15, 45, 3, 47]
abbrev dktL_law_62 : List UInt8 := dkwL_law_62 ++ dktL_law_63
def dkwL_law_61 : List UInt8 := [167, 2, 164, 43, 42, 21, 5, 4, 96, 46, 45, 184, 0, 214, 54, 6, 44, 42, 21, 5, 4, 96, 46]
abbrev dktL_law_61 : List UInt8 := dkwL_law_61 ++ dktL_law_62
def dkwL_law_60 : List UInt8 := [21, 6, 159, 0, 5, 3, 172, 21, 6, 154, 0, 15, 45, 3, 47, 21, 7, 133, 148, 153, 0, 5, 3, 172]
abbrev dktL_law_60 : List UInt8 := dkwL_law_60 ++ dktL_law_61
def dkwL_law_59 : List UInt8 := [46, 45, 184, 0, 211, 54, 6, 44, 42, 21, 5, 4, 96, 46, 182, 0, 213, 54, 7, 44, 182, 0, 145]
abbrev dktL_law_59 : List UInt8 := dkwL_law_59 ++ dktL_law_60
def dkwL_law_58 : List UInt8 := [154, 0, 15, 45, 3, 47, 21, 7, 133, 148, 153, 0, 5, 3, 172, 167, 2, 220, 43, 42, 21, 5, 4, 96]
abbrev dktL_law_58 : List UInt8 := dkwL_law_58 ++ dktL_law_59
def dkwL_law_57 : List UInt8 := [21, 5, 4, 96, 46, 182, 0, 210, 54, 7, 44, 182, 0, 145, 21, 6, 159, 0, 5, 3, 172, 21, 6]
abbrev dktL_law_57 : List UInt8 := dkwL_law_57 ++ dktL_law_58
def dkwL_law_56 : List UInt8 := [153, 0, 5, 3, 172, 167, 3, 20, 43, 42, 21, 5, 4, 96, 46, 45, 184, 0, 208, 54, 6, 44, 42]
abbrev dktL_law_56 : List UInt8 := dkwL_law_56 ++ dktL_law_57
def dkwL_law_55 : List UInt8 := [182, 0, 145, 21, 6, 159, 0, 5, 3, 172, 21, 6, 154, 0, 15, 45, 3, 47, 21, 7, 133, 148]
abbrev dktL_law_55 : List UInt8 := dkwL_law_55 ++ dktL_law_56
def dkwL_law_54 : List UInt8 := [153, 0, 5, 3, 172, 167, 3, 64, 43, 45, 184, 0, 205, 54, 6, 44, 182, 0, 207, 54, 7, 44]
abbrev dktL_law_54 : List UInt8 := dkwL_law_54 ++ dktL_law_55
def dkwL_law_53 : List UInt8 := [182, 0, 145, 21, 6, 159, 0, 5, 3, 172, 21, 6, 154, 0, 15, 45, 3, 47, 21, 7, 133, 148]
abbrev dktL_law_53 : List UInt8 := dkwL_law_53 ++ dktL_law_54
def dkwL_law_52 : List UInt8 := [4, 96, 46, 45, 184, 0, 202, 54, 6, 44, 42, 21, 5, 4, 96, 46, 182, 0, 204, 54, 7, 44]
abbrev dktL_law_52 : List UInt8 := dkwL_law_52 ++ dktL_law_53
def dkwL_law_51 : List UInt8 := [21, 6, 154, 0, 15, 45, 3, 47, 21, 7, 133, 148, 153, 0, 5, 3, 172, 167, 3, 120, 43, 42, 21, 5]
abbrev dktL_law_51 : List UInt8 := dkwL_law_51 ++ dktL_law_52
def dkwL_law_50 : List UInt8 := [96, 46, 42, 21, 5, 6, 96, 46, 182, 0, 201, 54, 7, 44, 182, 0, 145, 21, 6, 159, 0, 5, 3, 172]
abbrev dktL_law_50 : List UInt8 := dkwL_law_50 ++ dktL_law_51
def dkwL_law_49 : List UInt8 := [46, 42, 21, 5, 6, 96, 46, 45, 184, 0, 199, 54, 6, 44, 42, 21, 5, 4, 96, 46, 42, 21, 5, 5]
abbrev dktL_law_49 : List UInt8 := dkwL_law_49 ++ dktL_law_50
def dkwL_law_48 : List UInt8 := [21, 7, 133, 148, 153, 0, 5, 3, 172, 167, 3, 200, 43, 42, 21, 5, 4, 96, 46, 42, 21, 5, 5, 96]
abbrev dktL_law_48 : List UInt8 := dkwL_law_48 ++ dktL_law_49
def dkwL_law_47 : List UInt8 := [182, 0, 198, 54, 7, 44, 182, 0, 145, 21, 6, 159, 0, 5, 3, 172, 21, 6, 154, 0, 15, 45, 3, 47]
abbrev dktL_law_47 : List UInt8 := dkwL_law_47 ++ dktL_law_48
def dkwL_law_46 : List UInt8 := [5, 96, 46, 45, 184, 0, 196, 54, 6, 44, 42, 21, 5, 4, 96, 46, 42, 21, 5, 5, 96, 46]
abbrev dktL_law_46 : List UInt8 := dkwL_law_46 ++ dktL_law_47
def dkwL_law_45 : List UInt8 := [3, 47, 21, 7, 133, 148, 153, 0, 5, 3, 172, 167, 4, 12, 43, 42, 21, 5, 4, 96, 46, 42, 21, 5]
abbrev dktL_law_45 : List UInt8 := dkwL_law_45 ++ dktL_law_46
def dkwL_law_44 : List UInt8 := [96, 46, 182, 0, 195, 54, 7, 44, 182, 0, 145, 21, 6, 159, 0, 5, 3, 172, 21, 6, 154, 0, 15, 45]
abbrev dktL_law_44 : List UInt8 := dkwL_law_44 ++ dktL_law_45
def dkwL_law_43 : List UInt8 := [46, 42, 21, 5, 5, 96, 46, 45, 184, 0, 193, 54, 6, 44, 42, 21, 5, 4, 96, 46, 42, 21, 5, 5]
abbrev dktL_law_43 : List UInt8 := dkwL_law_43 ++ dktL_law_44
def dkwL_law_42 : List UInt8 := [154, 0, 15, 45, 3, 47, 21, 7, 133, 148, 153, 0, 5, 3, 172, 167, 4, 80, 43, 42, 21, 5, 4, 96]
abbrev dktL_law_42 : List UInt8 := dkwL_law_42 ++ dktL_law_43
def dkwL_law_41 : List UInt8 := [21, 5, 4, 96, 46, 182, 0, 192, 54, 7, 44, 182, 0, 145, 21, 6, 159, 0, 5, 3, 172, 21, 6]
abbrev dktL_law_41 : List UInt8 := dkwL_law_41 ++ dktL_law_42
def dkwL_law_40 : List UInt8 := [153, 0, 5, 3, 172, 167, 4, 136, 43, 42, 21, 5, 4, 96, 46, 45, 184, 0, 190, 54, 6, 44, 42]
abbrev dktL_law_40 : List UInt8 := dkwL_law_40 ++ dktL_law_41
def dkwL_law_39 : List UInt8 := [182, 0, 145, 21, 6, 159, 0, 5, 3, 172, 21, 6, 154, 0, 15, 45, 3, 47, 21, 7, 133, 148]
abbrev dktL_law_39 : List UInt8 := dkwL_law_39 ++ dktL_law_40
def dkwL_law_38 : List UInt8 := [148, 153, 0, 5, 3, 172, 167, 4, 180, 43, 45, 184, 0, 186, 54, 6, 44, 182, 0, 189, 54, 7, 44]
abbrev dktL_law_38 : List UInt8 := dkwL_law_38 ++ dktL_law_39
def dkwL_law_37 : List UInt8 := [54, 7, 44, 182, 0, 145, 21, 6, 159, 0, 5, 3, 172, 21, 6, 154, 0, 15, 45, 3, 47, 21, 7, 133]
abbrev dktL_law_37 : List UInt8 := dkwL_law_37 ++ dktL_law_38
def dkwL_law_36 : List UInt8 := [46, 45, 184, 0, 183, 54, 6, 44, 42, 21, 5, 4, 96, 46, 42, 21, 5, 5, 96, 46, 182, 0, 185]
abbrev dktL_law_36 : List UInt8 := dkwL_law_36 ++ dktL_law_37
def dkwL_law_35 : List UInt8 := [21, 7, 133, 148, 153, 0, 5, 3, 172, 167, 4, 248, 43, 42, 21, 5, 4, 96, 46, 42, 21, 5, 5, 96]
abbrev dktL_law_35 : List UInt8 := dkwL_law_35 ++ dktL_law_36
def dkwL_law_34 : List UInt8 := [182, 0, 182, 54, 7, 44, 182, 0, 145, 21, 6, 159, 0, 5, 3, 172, 21, 6, 154, 0, 15, 45, 3, 47]
abbrev dktL_law_34 : List UInt8 := dkwL_law_34 ++ dktL_law_35
def dkwL_law_33 : List UInt8 := [184, 0, 179, 54, 6, 44, 42, 21, 5, 4, 96, 46, 42, 21, 5, 5, 96, 46, 42, 21, 5, 6, 96, 46]
abbrev dktL_law_33 : List UInt8 := dkwL_law_33 ++ dktL_law_34
def dkwL_law_32 : List UInt8 := [167, 5, 72, 43, 42, 21, 5, 4, 96, 46, 42, 21, 5, 5, 96, 46, 42, 21, 5, 6, 96, 46, 45]
abbrev dktL_law_32 : List UInt8 := dkwL_law_32 ++ dktL_law_33
def dkwL_law_31 : List UInt8 := [159, 0, 5, 3, 172, 21, 6, 154, 0, 15, 45, 3, 47, 21, 7, 133, 148, 153, 0, 5, 3, 172]
abbrev dktL_law_31 : List UInt8 := dkwL_law_31 ++ dktL_law_32
def dkwL_law_30 : List UInt8 := [21, 5, 4, 96, 46, 42, 21, 5, 5, 96, 46, 182, 0, 178, 54, 7, 44, 182, 0, 145, 21, 6]
abbrev dktL_law_30 : List UInt8 := dkwL_law_30 ++ dktL_law_31
def dkwL_law_29 : List UInt8 := [167, 5, 140, 43, 42, 21, 5, 4, 96, 46, 42, 21, 5, 5, 96, 46, 45, 184, 0, 176, 54, 6, 44, 42]
abbrev dktL_law_29 : List UInt8 := dkwL_law_29 ++ dktL_law_30
def dkwL_law_28 : List UInt8 := [159, 0, 5, 3, 172, 21, 6, 154, 0, 15, 45, 3, 47, 21, 7, 133, 148, 153, 0, 5, 3, 172]
abbrev dktL_law_28 : List UInt8 := dkwL_law_28 ++ dktL_law_29
def dkwL_law_27 : List UInt8 := [184, 0, 173, 54, 6, 44, 42, 21, 5, 4, 96, 46, 182, 0, 175, 54, 7, 44, 182, 0, 145, 21, 6]
abbrev dktL_law_27 : List UInt8 := dkwL_law_27 ++ dktL_law_28
def dkwL_law_26 : List UInt8 := [3, 47, 21, 7, 133, 148, 153, 0, 5, 3, 172, 167, 5, 196, 43, 42, 21, 5, 4, 96, 46, 45]
abbrev dktL_law_26 : List UInt8 := dkwL_law_26 ++ dktL_law_27
def dkwL_law_25 : List UInt8 := [96, 46, 182, 0, 172, 54, 7, 44, 182, 0, 145, 21, 6, 159, 0, 5, 3, 172, 21, 6, 154, 0, 15, 45]
abbrev dktL_law_25 : List UInt8 := dkwL_law_25 ++ dktL_law_26
def dkwL_law_24 : List UInt8 := [46, 42, 21, 5, 5, 96, 46, 45, 184, 0, 170, 54, 6, 44, 42, 21, 5, 4, 96, 46, 42, 21, 5, 5]
abbrev dktL_law_24 : List UInt8 := dkwL_law_24 ++ dktL_law_25
def dkwL_law_23 : List UInt8 := [154, 0, 15, 45, 3, 47, 21, 7, 133, 148, 153, 0, 5, 3, 172, 167, 6, 8, 43, 42, 21, 5, 4, 96]
abbrev dktL_law_23 : List UInt8 := dkwL_law_23 ++ dktL_law_24
def dkwL_law_22 : List UInt8 := [42, 21, 5, 5, 96, 46, 182, 0, 169, 54, 7, 44, 182, 0, 145, 21, 6, 159, 0, 5, 3, 172, 21, 6]
abbrev dktL_law_22 : List UInt8 := dkwL_law_22 ++ dktL_law_23
def dkwL_law_21 : List UInt8 := [21, 5, 4, 96, 46, 42, 21, 5, 5, 96, 46, 45, 184, 0, 167, 54, 6, 44, 42, 21, 5, 4, 96, 46]
abbrev dktL_law_21 : List UInt8 := dkwL_law_21 ++ dktL_law_22
def dkwL_law_20 : List UInt8 := [172, 21, 6, 154, 0, 15, 45, 3, 47, 21, 7, 133, 148, 153, 0, 5, 3, 172, 167, 6, 76, 43, 42]
abbrev dktL_law_20 : List UInt8 := dkwL_law_20 ++ dktL_law_21
def dkwL_law_19 : List UInt8 := [54, 6, 44, 42, 21, 5, 4, 96, 46, 182, 0, 166, 54, 7, 44, 182, 0, 145, 21, 6, 159, 0, 5, 3]
abbrev dktL_law_19 : List UInt8 := dkwL_law_19 ++ dktL_law_20
def dkwL_law_18 : List UInt8 := [21, 7, 133, 148, 153, 0, 5, 3, 172, 167, 6, 132, 43, 42, 21, 5, 4, 96, 46, 45, 184, 0, 164]
abbrev dktL_law_18 : List UInt8 := dkwL_law_18 ++ dktL_law_19
def dkwL_law_17 : List UInt8 := [182, 0, 163, 54, 7, 44, 182, 0, 145, 21, 6, 159, 0, 5, 3, 172, 21, 6, 154, 0, 15, 45, 3, 47]
abbrev dktL_law_17 : List UInt8 := dkwL_law_17 ++ dktL_law_18
def dkwL_law_16 : List UInt8 := [167, 6, 188, 43, 42, 21, 5, 4, 96, 46, 45, 184, 0, 161, 54, 6, 44, 42, 21, 5, 4, 96, 46]
abbrev dktL_law_16 : List UInt8 := dkwL_law_16 ++ dktL_law_17
def dkwL_law_15 : List UInt8 := [159, 0, 5, 3, 172, 21, 6, 154, 0, 15, 45, 3, 47, 21, 7, 133, 148, 153, 0, 5, 3, 172]
abbrev dktL_law_15 : List UInt8 := dkwL_law_15 ++ dktL_law_16
def dkwL_law_14 : List UInt8 := [184, 0, 158, 54, 6, 44, 42, 21, 5, 4, 96, 46, 182, 0, 160, 54, 7, 44, 182, 0, 145, 21, 6]
abbrev dktL_law_14 : List UInt8 := dkwL_law_14 ++ dktL_law_15
def dkwL_law_13 : List UInt8 := [3, 47, 21, 7, 133, 148, 153, 0, 5, 3, 172, 167, 6, 244, 43, 42, 21, 5, 4, 96, 46, 45]
abbrev dktL_law_13 : List UInt8 := dkwL_law_13 ++ dktL_law_14
def dkwL_law_12 : List UInt8 := [96, 46, 182, 0, 157, 54, 7, 44, 182, 0, 145, 21, 6, 159, 0, 5, 3, 172, 21, 6, 154, 0, 15, 45]
abbrev dktL_law_12 : List UInt8 := dkwL_law_12 ++ dktL_law_13
def dkwL_law_11 : List UInt8 := [46, 42, 21, 5, 5, 96, 46, 45, 184, 0, 154, 54, 6, 44, 42, 21, 5, 4, 96, 46, 42, 21, 5, 5]
abbrev dktL_law_11 : List UInt8 := dkwL_law_11 ++ dktL_law_12
def dkwL_law_10 : List UInt8 := [154, 0, 15, 45, 3, 47, 21, 7, 133, 148, 153, 0, 5, 3, 172, 167, 7, 56, 43, 42, 21, 5, 4, 96]
abbrev dktL_law_10 : List UInt8 := dkwL_law_10 ++ dktL_law_11
def dkwL_law_9 : List UInt8 := [21, 5, 4, 96, 46, 182, 0, 153, 54, 7, 44, 182, 0, 145, 21, 6, 159, 0, 5, 3, 172, 21, 6]
abbrev dktL_law_9 : List UInt8 := dkwL_law_9 ++ dktL_law_10
def dkwL_law_8 : List UInt8 := [153, 0, 5, 3, 172, 167, 7, 112, 43, 42, 21, 5, 4, 96, 46, 45, 184, 0, 151, 54, 6, 44, 42]
abbrev dktL_law_8 : List UInt8 := dkwL_law_8 ++ dktL_law_9
def dkwL_law_7 : List UInt8 := [182, 0, 145, 21, 6, 159, 0, 5, 3, 172, 21, 6, 154, 0, 15, 45, 3, 47, 21, 7, 133, 148]
abbrev dktL_law_7 : List UInt8 := dkwL_law_7 ++ dktL_law_8
def dkwL_law_6 : List UInt8 := [21, 5, 4, 96, 46, 45, 184, 0, 148, 54, 6, 44, 42, 21, 5, 4, 96, 46, 182, 0, 150, 54, 7, 44]
abbrev dktL_law_6 : List UInt8 := dkwL_law_6 ++ dktL_law_7
def dkwL_law_5 : List UInt8 := [172, 21, 6, 154, 0, 15, 45, 3, 47, 21, 7, 133, 148, 153, 0, 5, 3, 172, 167, 7, 168, 43, 42]
abbrev dktL_law_5 : List UInt8 := dkwL_law_5 ++ dktL_law_6
def dkwL_law_4 : List UInt8 := [54, 6, 44, 42, 21, 5, 4, 96, 46, 182, 0, 144, 54, 7, 44, 182, 0, 145, 21, 6, 159, 0, 5, 3]
abbrev dktL_law_4 : List UInt8 := dkwL_law_4 ++ dktL_law_5
def dkwL_law_3 : List UInt8 := [43, 182, 0, 135, 44, 182, 0, 138, 159, 7, 226, 3, 172, 43, 42, 21, 5, 4, 96, 46, 45, 184, 0, 139]
abbrev dktL_law_3 : List UInt8 := dkwL_law_3 ++ dktL_law_4
def dkwL_law_2 : List UInt8 := [170, 0, 0, 0, 0, 0, 8, 142, 0, 0, 0, 0, 0, 0, 0, 36, 0, 0, 0, 164, 0, 0, 0, 177, 0, 0, 0, 233, 0, 0, 1, 33, 0, 0, 1, 89, 0, 0, 1, 157, 0, 0, 1, 213, 0, 0, 2, 13, 0, 0, 2, 69, 0, 0, 2, 137, 0, 0, 2, 205, 0, 0, 3, 5, 0, 0, 3, 73, 0, 0, 3, 153, 0, 0, 3, 221, 0, 0, 4, 9, 0, 0, 4, 65, 0, 0, 4, 133, 0, 0, 4, 201, 0, 0, 5, 25, 0, 0, 5, 81, 0, 0, 5, 125, 0, 0, 5, 181, 0, 0, 5, 237, 0, 0, 6, 37, 0, 0, 6, 93, 0, 0, 6, 165, 0, 0, 6, 221, 0, 0, 6, 234, 0, 0, 7, 43, 0, 0, 7, 109, 0, 0, 7, 165, 0, 0, 7, 209, 0, 0, 7, 253, 0, 0, 8, 41, 0, 0, 8, 85, 0, 0, 8, 98]
abbrev dktL_law_2 : List UInt8 := dkwL_law_2 ++ dktL_law_3
def dkwL_law_1 : List UInt8 := [58, 4, 3, 54, 5, 21, 5, 42, 190, 7, 100, 163, 8, 158, 42, 21, 5, 46, 16, 63, 126]
abbrev dktL_law_1 : List UInt8 := dkwL_law_1 ++ dktL_law_2
def dkwL_law_0 : List UInt8 := [187, 0, 8, 89, 183, 0, 131, 76, 187, 0, 132, 89, 183, 0, 134, 77, 4, 188, 11, 78, 4, 188, 7]
abbrev dktL_law_0 : List UInt8 := dkwL_law_0 ++ dktL_law_1
theorem dksL_law_0 : cL_law.data.toList.drop 0 = dktL_law_0 := by decide +kernel
theorem dksL_law_1 : cL_law.data.toList.drop 23 = dktL_law_1 := dk_seg dksL_law_0 23 rfl rfl
theorem dksL_law_2 : cL_law.data.toList.drop 44 = dktL_law_2 := dk_seg dksL_law_1 21 rfl rfl
theorem dksL_law_3 : cL_law.data.toList.drop 208 = dktL_law_3 := dk_seg dksL_law_2 164 rfl rfl
theorem dksL_law_4 : cL_law.data.toList.drop 232 = dktL_law_4 := dk_seg dksL_law_3 24 rfl rfl
theorem dksL_law_5 : cL_law.data.toList.drop 256 = dktL_law_5 := dk_seg dksL_law_4 24 rfl rfl
theorem dksL_law_6 : cL_law.data.toList.drop 279 = dktL_law_6 := dk_seg dksL_law_5 23 rfl rfl
theorem dksL_law_7 : cL_law.data.toList.drop 303 = dktL_law_7 := dk_seg dksL_law_6 24 rfl rfl
theorem dksL_law_8 : cL_law.data.toList.drop 325 = dktL_law_8 := dk_seg dksL_law_7 22 rfl rfl
theorem dksL_law_9 : cL_law.data.toList.drop 348 = dktL_law_9 := dk_seg dksL_law_8 23 rfl rfl
theorem dksL_law_10 : cL_law.data.toList.drop 371 = dktL_law_10 := dk_seg dksL_law_9 23 rfl rfl
theorem dksL_law_11 : cL_law.data.toList.drop 395 = dktL_law_11 := dk_seg dksL_law_10 24 rfl rfl
theorem dksL_law_12 : cL_law.data.toList.drop 419 = dktL_law_12 := dk_seg dksL_law_11 24 rfl rfl
theorem dksL_law_13 : cL_law.data.toList.drop 443 = dktL_law_13 := dk_seg dksL_law_12 24 rfl rfl
theorem dksL_law_14 : cL_law.data.toList.drop 465 = dktL_law_14 := dk_seg dksL_law_13 22 rfl rfl
theorem dksL_law_15 : cL_law.data.toList.drop 488 = dktL_law_15 := dk_seg dksL_law_14 23 rfl rfl
theorem dksL_law_16 : cL_law.data.toList.drop 510 = dktL_law_16 := dk_seg dksL_law_15 22 rfl rfl
theorem dksL_law_17 : cL_law.data.toList.drop 533 = dktL_law_17 := dk_seg dksL_law_16 23 rfl rfl
theorem dksL_law_18 : cL_law.data.toList.drop 557 = dktL_law_18 := dk_seg dksL_law_17 24 rfl rfl
theorem dksL_law_19 : cL_law.data.toList.drop 580 = dktL_law_19 := dk_seg dksL_law_18 23 rfl rfl
theorem dksL_law_20 : cL_law.data.toList.drop 604 = dktL_law_20 := dk_seg dksL_law_19 24 rfl rfl
theorem dksL_law_21 : cL_law.data.toList.drop 627 = dktL_law_21 := dk_seg dksL_law_20 23 rfl rfl
theorem dksL_law_22 : cL_law.data.toList.drop 651 = dktL_law_22 := dk_seg dksL_law_21 24 rfl rfl
theorem dksL_law_23 : cL_law.data.toList.drop 675 = dktL_law_23 := dk_seg dksL_law_22 24 rfl rfl
theorem dksL_law_24 : cL_law.data.toList.drop 699 = dktL_law_24 := dk_seg dksL_law_23 24 rfl rfl
theorem dksL_law_25 : cL_law.data.toList.drop 723 = dktL_law_25 := dk_seg dksL_law_24 24 rfl rfl
theorem dksL_law_26 : cL_law.data.toList.drop 747 = dktL_law_26 := dk_seg dksL_law_25 24 rfl rfl
theorem dksL_law_27 : cL_law.data.toList.drop 769 = dktL_law_27 := dk_seg dksL_law_26 22 rfl rfl
theorem dksL_law_28 : cL_law.data.toList.drop 792 = dktL_law_28 := dk_seg dksL_law_27 23 rfl rfl
theorem dksL_law_29 : cL_law.data.toList.drop 814 = dktL_law_29 := dk_seg dksL_law_28 22 rfl rfl
theorem dksL_law_30 : cL_law.data.toList.drop 838 = dktL_law_30 := dk_seg dksL_law_29 24 rfl rfl
theorem dksL_law_31 : cL_law.data.toList.drop 860 = dktL_law_31 := dk_seg dksL_law_30 22 rfl rfl
theorem dksL_law_32 : cL_law.data.toList.drop 882 = dktL_law_32 := dk_seg dksL_law_31 22 rfl rfl
theorem dksL_law_33 : cL_law.data.toList.drop 905 = dktL_law_33 := dk_seg dksL_law_32 23 rfl rfl
theorem dksL_law_34 : cL_law.data.toList.drop 929 = dktL_law_34 := dk_seg dksL_law_33 24 rfl rfl
theorem dksL_law_35 : cL_law.data.toList.drop 953 = dktL_law_35 := dk_seg dksL_law_34 24 rfl rfl
theorem dksL_law_36 : cL_law.data.toList.drop 977 = dktL_law_36 := dk_seg dksL_law_35 24 rfl rfl
theorem dksL_law_37 : cL_law.data.toList.drop 1000 = dktL_law_37 := dk_seg dksL_law_36 23 rfl rfl
theorem dksL_law_38 : cL_law.data.toList.drop 1024 = dktL_law_38 := dk_seg dksL_law_37 24 rfl rfl
theorem dksL_law_39 : cL_law.data.toList.drop 1047 = dktL_law_39 := dk_seg dksL_law_38 23 rfl rfl
theorem dksL_law_40 : cL_law.data.toList.drop 1069 = dktL_law_40 := dk_seg dksL_law_39 22 rfl rfl
theorem dksL_law_41 : cL_law.data.toList.drop 1092 = dktL_law_41 := dk_seg dksL_law_40 23 rfl rfl
theorem dksL_law_42 : cL_law.data.toList.drop 1115 = dktL_law_42 := dk_seg dksL_law_41 23 rfl rfl
theorem dksL_law_43 : cL_law.data.toList.drop 1139 = dktL_law_43 := dk_seg dksL_law_42 24 rfl rfl
theorem dksL_law_44 : cL_law.data.toList.drop 1163 = dktL_law_44 := dk_seg dksL_law_43 24 rfl rfl
theorem dksL_law_45 : cL_law.data.toList.drop 1187 = dktL_law_45 := dk_seg dksL_law_44 24 rfl rfl
theorem dksL_law_46 : cL_law.data.toList.drop 1211 = dktL_law_46 := dk_seg dksL_law_45 24 rfl rfl
theorem dksL_law_47 : cL_law.data.toList.drop 1233 = dktL_law_47 := dk_seg dksL_law_46 22 rfl rfl
theorem dksL_law_48 : cL_law.data.toList.drop 1257 = dktL_law_48 := dk_seg dksL_law_47 24 rfl rfl
theorem dksL_law_49 : cL_law.data.toList.drop 1281 = dktL_law_49 := dk_seg dksL_law_48 24 rfl rfl
theorem dksL_law_50 : cL_law.data.toList.drop 1305 = dktL_law_50 := dk_seg dksL_law_49 24 rfl rfl
theorem dksL_law_51 : cL_law.data.toList.drop 1329 = dktL_law_51 := dk_seg dksL_law_50 24 rfl rfl
theorem dksL_law_52 : cL_law.data.toList.drop 1353 = dktL_law_52 := dk_seg dksL_law_51 24 rfl rfl
theorem dksL_law_53 : cL_law.data.toList.drop 1375 = dktL_law_53 := dk_seg dksL_law_52 22 rfl rfl
theorem dksL_law_54 : cL_law.data.toList.drop 1397 = dktL_law_54 := dk_seg dksL_law_53 22 rfl rfl
theorem dksL_law_55 : cL_law.data.toList.drop 1419 = dktL_law_55 := dk_seg dksL_law_54 22 rfl rfl
theorem dksL_law_56 : cL_law.data.toList.drop 1441 = dktL_law_56 := dk_seg dksL_law_55 22 rfl rfl
theorem dksL_law_57 : cL_law.data.toList.drop 1464 = dktL_law_57 := dk_seg dksL_law_56 23 rfl rfl
theorem dksL_law_58 : cL_law.data.toList.drop 1487 = dktL_law_58 := dk_seg dksL_law_57 23 rfl rfl
theorem dksL_law_59 : cL_law.data.toList.drop 1511 = dktL_law_59 := dk_seg dksL_law_58 24 rfl rfl
theorem dksL_law_60 : cL_law.data.toList.drop 1534 = dktL_law_60 := dk_seg dksL_law_59 23 rfl rfl
theorem dksL_law_61 : cL_law.data.toList.drop 1558 = dktL_law_61 := dk_seg dksL_law_60 24 rfl rfl
theorem dksL_law_62 : cL_law.data.toList.drop 1581 = dktL_law_62 := dk_seg dksL_law_61 23 rfl rfl
theorem dksL_law_63 : cL_law.data.toList.drop 1605 = dktL_law_63 := dk_seg dksL_law_62 24 rfl rfl
theorem dksL_law_64 : cL_law.data.toList.drop 1628 = dktL_law_64 := dk_seg dksL_law_63 23 rfl rfl
theorem dksL_law_65 : cL_law.data.toList.drop 1652 = dktL_law_65 := dk_seg dksL_law_64 24 rfl rfl
theorem dksL_law_66 : cL_law.data.toList.drop 1675 = dktL_law_66 := dk_seg dksL_law_65 23 rfl rfl
theorem dksL_law_67 : cL_law.data.toList.drop 1699 = dktL_law_67 := dk_seg dksL_law_66 24 rfl rfl
theorem dksL_law_68 : cL_law.data.toList.drop 1723 = dktL_law_68 := dk_seg dksL_law_67 24 rfl rfl
theorem dksL_law_69 : cL_law.data.toList.drop 1747 = dktL_law_69 := dk_seg dksL_law_68 24 rfl rfl
theorem dksL_law_70 : cL_law.data.toList.drop 1771 = dktL_law_70 := dk_seg dksL_law_69 24 rfl rfl
theorem dksL_law_71 : cL_law.data.toList.drop 1793 = dktL_law_71 := dk_seg dksL_law_70 22 rfl rfl
theorem dksL_law_72 : cL_law.data.toList.drop 1817 = dktL_law_72 := dk_seg dksL_law_71 24 rfl rfl
theorem dksL_law_73 : cL_law.data.toList.drop 1841 = dktL_law_73 := dk_seg dksL_law_72 24 rfl rfl
theorem dksL_law_74 : cL_law.data.toList.drop 1863 = dktL_law_74 := dk_seg dksL_law_73 22 rfl rfl
theorem dksL_law_75 : cL_law.data.toList.drop 1887 = dktL_law_75 := dk_seg dksL_law_74 24 rfl rfl
theorem dksL_law_76 : cL_law.data.toList.drop 1911 = dktL_law_76 := dk_seg dksL_law_75 24 rfl rfl
theorem dksL_law_77 : cL_law.data.toList.drop 1934 = dktL_law_77 := dk_seg dksL_law_76 23 rfl rfl
theorem dksL_law_78 : cL_law.data.toList.drop 1958 = dktL_law_78 := dk_seg dksL_law_77 24 rfl rfl
theorem dksL_law_79 : cL_law.data.toList.drop 1981 = dktL_law_79 := dk_seg dksL_law_78 23 rfl rfl
theorem dksL_law_80 : cL_law.data.toList.drop 2003 = dktL_law_80 := dk_seg dksL_law_79 22 rfl rfl
theorem dksL_law_81 : cL_law.data.toList.drop 2027 = dktL_law_81 := dk_seg dksL_law_80 24 rfl rfl
theorem dksL_law_82 : cL_law.data.toList.drop 2050 = dktL_law_82 := dk_seg dksL_law_81 23 rfl rfl
theorem dksL_law_83 : cL_law.data.toList.drop 2074 = dktL_law_83 := dk_seg dksL_law_82 24 rfl rfl
theorem dksL_law_84 : cL_law.data.toList.drop 2097 = dktL_law_84 := dk_seg dksL_law_83 23 rfl rfl
theorem dksL_law_85 : cL_law.data.toList.drop 2121 = dktL_law_85 := dk_seg dksL_law_84 24 rfl rfl
theorem dksL_law_86 : cL_law.data.toList.drop 2144 = dktL_law_86 := dk_seg dksL_law_85 23 rfl rfl
theorem dksL_law_87 : cL_law.data.toList.drop 2168 = dktL_law_87 := dk_seg dksL_law_86 24 rfl rfl
theorem dksL_law_88 : cL_law.data.toList.drop 2192 = dktL_law_88 := dk_seg dksL_law_87 24 rfl rfl
theorem dksL_law_89 : cL_law.data.toList.drop 2216 = dktL_law_89 := dk_seg dksL_law_88 24 rfl rfl
theorem dksL_law_90 : cL_law.data.toList.drop 2240 = dktL_law_90 := dk_seg dksL_law_89 24 rfl rfl
theorem dL_law_0 : decode cL_law 0 = .ok (.new 8, 3) := dk_187 0 8 (dk_at dksL_law_0 0 rfl rfl)
theorem dL_law_3 : decode cL_law 3 = .ok (.dup, 1) := dk_89 (dk_at dksL_law_0 3 rfl rfl)
theorem dL_law_4 : decode cL_law 4 = .ok (.invokespecial 131, 3) := dk_183 0 131 (dk_at dksL_law_0 4 rfl rfl)
theorem dL_law_7 : decode cL_law 7 = .ok (.astore_n 1, 1) := dk_76 (dk_at dksL_law_0 7 rfl rfl)
theorem dL_law_8 : decode cL_law 8 = .ok (.new 132, 3) := dk_187 0 132 (dk_at dksL_law_0 8 rfl rfl)
theorem dL_law_11 : decode cL_law 11 = .ok (.dup, 1) := dk_89 (dk_at dksL_law_0 11 rfl rfl)
theorem dL_law_12 : decode cL_law 12 = .ok (.invokespecial 134, 3) := dk_183 0 134 (dk_at dksL_law_0 12 rfl rfl)
theorem dL_law_15 : decode cL_law 15 = .ok (.astore_n 2, 1) := dk_77 (dk_at dksL_law_0 15 rfl rfl)
theorem dL_law_16 : decode cL_law 16 = .ok (.iconst 1, 1) := dk_4 (dk_at dksL_law_0 16 rfl rfl)
theorem dL_law_17 : decode cL_law 17 = .ok (.newarray .long, 2) := dk_188_11 (dk_at dksL_law_0 17 rfl rfl)
theorem dL_law_19 : decode cL_law 19 = .ok (.astore_n 3, 1) := dk_78 (dk_at dksL_law_0 19 rfl rfl)
theorem dL_law_20 : decode cL_law 20 = .ok (.iconst 1, 1) := dk_4 (dk_at dksL_law_0 20 rfl rfl)
theorem dL_law_21 : decode cL_law 21 = .ok (.newarray .double, 2) := dk_188_7 (dk_at dksL_law_0 21 rfl rfl)
theorem dL_law_23 : decode cL_law 23 = .ok (.astore 4, 2) := dk_58 4 (dk_at dksL_law_1 0 rfl rfl)
theorem dL_law_25 : decode cL_law 25 = .ok (.iconst 0, 1) := dk_3 (dk_at dksL_law_1 2 rfl rfl)
theorem dL_law_26 : decode cL_law 26 = .ok (.istore 5, 2) := dk_54 5 (dk_at dksL_law_1 3 rfl rfl)
theorem dL_law_28 : decode cL_law 28 = .ok (.iload 5, 2) := dk_21 5 (dk_at dksL_law_1 5 rfl rfl)
theorem dL_law_30 : decode cL_law 30 = .ok (.aload_n 0, 1) := dk_42 (dk_at dksL_law_1 7 rfl rfl)
theorem dL_law_31 : decode cL_law 31 = .ok (.arraylength, 1) := dk_190 (dk_at dksL_law_1 8 rfl rfl)
theorem dL_law_32 : decode cL_law 32 = .ok (.iconst 4, 1) := dk_7 (dk_at dksL_law_1 9 rfl rfl)
theorem dL_law_33 : decode cL_law 33 = .ok (.isub, 1) := dk_100 (dk_at dksL_law_1 10 rfl rfl)
theorem dL_law_34 : decode cL_law 34 = .ok (.if_icmp .gt 2206, 3) := dk_163 8 158 (dk_at dksL_law_1 11 rfl rfl)
theorem dL_law_37 : decode cL_law 37 = .ok (.aload_n 0, 1) := dk_42 (dk_at dksL_law_1 14 rfl rfl)
theorem dL_law_38 : decode cL_law 38 = .ok (.iload 5, 2) := dk_21 5 (dk_at dksL_law_1 15 rfl rfl)
theorem dL_law_40 : decode cL_law 40 = .ok (.iaload, 1) := dk_46 (dk_at dksL_law_1 17 rfl rfl)
theorem dL_law_41 : decode cL_law 41 = .ok (.bipush 63, 2) := dk_16 63 (dk_at dksL_law_1 18 rfl rfl)
theorem dL_law_43 : decode cL_law 43 = .ok (.iand, 1) := dk_126 (dk_at dksL_law_1 20 rfl rfl)
theorem dL_law_44 : decode cL_law 44 = .ok (.tableswitch 2190 0 36 #[164, 177, 233, 289, 345, 413, 469, 525, 581, 649, 717, 773, 841, 921, 989, 1033, 1089, 1157, 1225, 1305, 1361, 1405, 1461, 1517, 1573, 1629, 1701, 1757, 1770, 1835, 1901, 1957, 2001, 2045, 2089, 2133, 2146], 164) := by decide +kernel
theorem dL_law_208 : decode cL_law 208 = .ok (.aload_n 1, 1) := dk_43 (dk_at dksL_law_3 0 rfl rfl)
theorem dL_law_209 : decode cL_law 209 = .ok (.invokevirtual 135, 3) := dk_182 0 135 (dk_at dksL_law_3 1 rfl rfl)
theorem dL_law_212 : decode cL_law 212 = .ok (.aload_n 2, 1) := dk_44 (dk_at dksL_law_3 4 rfl rfl)
theorem dL_law_213 : decode cL_law 213 = .ok (.invokevirtual 138, 3) := dk_182 0 138 (dk_at dksL_law_3 5 rfl rfl)
theorem dL_law_216 : decode cL_law 216 = .ok (.if_icmp .eq 2018, 3) := dk_159 7 226 (dk_at dksL_law_3 8 rfl rfl)
theorem dL_law_219 : decode cL_law 219 = .ok (.iconst 0, 1) := dk_3 (dk_at dksL_law_3 11 rfl rfl)
theorem dL_law_220 : decode cL_law 220 = .ok (.ireturn, 1) := dk_172 (dk_at dksL_law_3 12 rfl rfl)
theorem dL_law_221 : decode cL_law 221 = .ok (.aload_n 1, 1) := dk_43 (dk_at dksL_law_3 13 rfl rfl)
theorem dL_law_222 : decode cL_law 222 = .ok (.aload_n 0, 1) := dk_42 (dk_at dksL_law_3 14 rfl rfl)
theorem dL_law_223 : decode cL_law 223 = .ok (.iload 5, 2) := dk_21 5 (dk_at dksL_law_3 15 rfl rfl)
theorem dL_law_225 : decode cL_law 225 = .ok (.iconst 1, 1) := dk_4 (dk_at dksL_law_3 17 rfl rfl)
theorem dL_law_226 : decode cL_law 226 = .ok (.iadd, 1) := dk_96 (dk_at dksL_law_3 18 rfl rfl)
theorem dL_law_227 : decode cL_law 227 = .ok (.iaload, 1) := dk_46 (dk_at dksL_law_3 19 rfl rfl)
theorem dL_law_228 : decode cL_law 228 = .ok (.aload_n 3, 1) := dk_45 (dk_at dksL_law_3 20 rfl rfl)
theorem dL_law_229 : decode cL_law 229 = .ok (.invokestatic 139, 3) := dk_184 0 139 (dk_at dksL_law_3 21 rfl rfl)
theorem dL_law_232 : decode cL_law 232 = .ok (.istore 6, 2) := dk_54 6 (dk_at dksL_law_4 0 rfl rfl)
theorem dL_law_234 : decode cL_law 234 = .ok (.aload_n 2, 1) := dk_44 (dk_at dksL_law_4 2 rfl rfl)
theorem dL_law_235 : decode cL_law 235 = .ok (.aload_n 0, 1) := dk_42 (dk_at dksL_law_4 3 rfl rfl)
theorem dL_law_236 : decode cL_law 236 = .ok (.iload 5, 2) := dk_21 5 (dk_at dksL_law_4 4 rfl rfl)
theorem dL_law_238 : decode cL_law 238 = .ok (.iconst 1, 1) := dk_4 (dk_at dksL_law_4 6 rfl rfl)
theorem dL_law_239 : decode cL_law 239 = .ok (.iadd, 1) := dk_96 (dk_at dksL_law_4 7 rfl rfl)
theorem dL_law_240 : decode cL_law 240 = .ok (.iaload, 1) := dk_46 (dk_at dksL_law_4 8 rfl rfl)
theorem dL_law_241 : decode cL_law 241 = .ok (.invokevirtual 144, 3) := dk_182 0 144 (dk_at dksL_law_4 9 rfl rfl)
theorem dL_law_244 : decode cL_law 244 = .ok (.istore 7, 2) := dk_54 7 (dk_at dksL_law_4 12 rfl rfl)
theorem dL_law_246 : decode cL_law 246 = .ok (.aload_n 2, 1) := dk_44 (dk_at dksL_law_4 14 rfl rfl)
theorem dL_law_247 : decode cL_law 247 = .ok (.invokevirtual 145, 3) := dk_182 0 145 (dk_at dksL_law_4 15 rfl rfl)
theorem dL_law_250 : decode cL_law 250 = .ok (.iload 6, 2) := dk_21 6 (dk_at dksL_law_4 18 rfl rfl)
theorem dL_law_252 : decode cL_law 252 = .ok (.if_icmp .eq 5, 3) := dk_159 0 5 (dk_at dksL_law_4 20 rfl rfl)
theorem dL_law_255 : decode cL_law 255 = .ok (.iconst 0, 1) := dk_3 (dk_at dksL_law_4 23 rfl rfl)
theorem dL_law_256 : decode cL_law 256 = .ok (.ireturn, 1) := dk_172 (dk_at dksL_law_5 0 rfl rfl)
theorem dL_law_257 : decode cL_law 257 = .ok (.iload 6, 2) := dk_21 6 (dk_at dksL_law_5 1 rfl rfl)
theorem dL_law_259 : decode cL_law 259 = .ok (.ifCond .ne 15, 3) := dk_154 0 15 (dk_at dksL_law_5 3 rfl rfl)
theorem dL_law_262 : decode cL_law 262 = .ok (.aload_n 3, 1) := dk_45 (dk_at dksL_law_5 6 rfl rfl)
theorem dL_law_263 : decode cL_law 263 = .ok (.iconst 0, 1) := dk_3 (dk_at dksL_law_5 7 rfl rfl)
theorem dL_law_264 : decode cL_law 264 = .ok (.laload, 1) := dk_47 (dk_at dksL_law_5 8 rfl rfl)
theorem dL_law_265 : decode cL_law 265 = .ok (.iload 7, 2) := dk_21 7 (dk_at dksL_law_5 9 rfl rfl)
theorem dL_law_267 : decode cL_law 267 = .ok (.i2l, 1) := dk_133 (dk_at dksL_law_5 11 rfl rfl)
theorem dL_law_268 : decode cL_law 268 = .ok (.lcmp, 1) := dk_148 (dk_at dksL_law_5 12 rfl rfl)
theorem dL_law_269 : decode cL_law 269 = .ok (.ifCond .eq 5, 3) := dk_153 0 5 (dk_at dksL_law_5 13 rfl rfl)
theorem dL_law_272 : decode cL_law 272 = .ok (.iconst 0, 1) := dk_3 (dk_at dksL_law_5 16 rfl rfl)
theorem dL_law_273 : decode cL_law 273 = .ok (.ireturn, 1) := dk_172 (dk_at dksL_law_5 17 rfl rfl)
theorem dL_law_274 : decode cL_law 274 = .ok (.goto 1960, 3) := dk_167 7 168 (dk_at dksL_law_5 18 rfl rfl)
theorem dL_law_277 : decode cL_law 277 = .ok (.aload_n 1, 1) := dk_43 (dk_at dksL_law_5 21 rfl rfl)
theorem dL_law_278 : decode cL_law 278 = .ok (.aload_n 0, 1) := dk_42 (dk_at dksL_law_5 22 rfl rfl)
theorem dL_law_279 : decode cL_law 279 = .ok (.iload 5, 2) := dk_21 5 (dk_at dksL_law_6 0 rfl rfl)
theorem dL_law_281 : decode cL_law 281 = .ok (.iconst 1, 1) := dk_4 (dk_at dksL_law_6 2 rfl rfl)
theorem dL_law_282 : decode cL_law 282 = .ok (.iadd, 1) := dk_96 (dk_at dksL_law_6 3 rfl rfl)
theorem dL_law_283 : decode cL_law 283 = .ok (.iaload, 1) := dk_46 (dk_at dksL_law_6 4 rfl rfl)
theorem dL_law_284 : decode cL_law 284 = .ok (.aload_n 3, 1) := dk_45 (dk_at dksL_law_6 5 rfl rfl)
theorem dL_law_285 : decode cL_law 285 = .ok (.invokestatic 148, 3) := dk_184 0 148 (dk_at dksL_law_6 6 rfl rfl)
theorem dL_law_288 : decode cL_law 288 = .ok (.istore 6, 2) := dk_54 6 (dk_at dksL_law_6 9 rfl rfl)
theorem dL_law_290 : decode cL_law 290 = .ok (.aload_n 2, 1) := dk_44 (dk_at dksL_law_6 11 rfl rfl)
theorem dL_law_291 : decode cL_law 291 = .ok (.aload_n 0, 1) := dk_42 (dk_at dksL_law_6 12 rfl rfl)
theorem dL_law_292 : decode cL_law 292 = .ok (.iload 5, 2) := dk_21 5 (dk_at dksL_law_6 13 rfl rfl)
theorem dL_law_294 : decode cL_law 294 = .ok (.iconst 1, 1) := dk_4 (dk_at dksL_law_6 15 rfl rfl)
theorem dL_law_295 : decode cL_law 295 = .ok (.iadd, 1) := dk_96 (dk_at dksL_law_6 16 rfl rfl)
theorem dL_law_296 : decode cL_law 296 = .ok (.iaload, 1) := dk_46 (dk_at dksL_law_6 17 rfl rfl)
theorem dL_law_297 : decode cL_law 297 = .ok (.invokevirtual 150, 3) := dk_182 0 150 (dk_at dksL_law_6 18 rfl rfl)
theorem dL_law_300 : decode cL_law 300 = .ok (.istore 7, 2) := dk_54 7 (dk_at dksL_law_6 21 rfl rfl)
theorem dL_law_302 : decode cL_law 302 = .ok (.aload_n 2, 1) := dk_44 (dk_at dksL_law_6 23 rfl rfl)
theorem dL_law_303 : decode cL_law 303 = .ok (.invokevirtual 145, 3) := dk_182 0 145 (dk_at dksL_law_7 0 rfl rfl)
theorem dL_law_306 : decode cL_law 306 = .ok (.iload 6, 2) := dk_21 6 (dk_at dksL_law_7 3 rfl rfl)
theorem dL_law_308 : decode cL_law 308 = .ok (.if_icmp .eq 5, 3) := dk_159 0 5 (dk_at dksL_law_7 5 rfl rfl)
theorem dL_law_311 : decode cL_law 311 = .ok (.iconst 0, 1) := dk_3 (dk_at dksL_law_7 8 rfl rfl)
theorem dL_law_312 : decode cL_law 312 = .ok (.ireturn, 1) := dk_172 (dk_at dksL_law_7 9 rfl rfl)
theorem dL_law_313 : decode cL_law 313 = .ok (.iload 6, 2) := dk_21 6 (dk_at dksL_law_7 10 rfl rfl)
theorem dL_law_315 : decode cL_law 315 = .ok (.ifCond .ne 15, 3) := dk_154 0 15 (dk_at dksL_law_7 12 rfl rfl)
theorem dL_law_318 : decode cL_law 318 = .ok (.aload_n 3, 1) := dk_45 (dk_at dksL_law_7 15 rfl rfl)
theorem dL_law_319 : decode cL_law 319 = .ok (.iconst 0, 1) := dk_3 (dk_at dksL_law_7 16 rfl rfl)
theorem dL_law_320 : decode cL_law 320 = .ok (.laload, 1) := dk_47 (dk_at dksL_law_7 17 rfl rfl)
theorem dL_law_321 : decode cL_law 321 = .ok (.iload 7, 2) := dk_21 7 (dk_at dksL_law_7 18 rfl rfl)
theorem dL_law_323 : decode cL_law 323 = .ok (.i2l, 1) := dk_133 (dk_at dksL_law_7 20 rfl rfl)
theorem dL_law_324 : decode cL_law 324 = .ok (.lcmp, 1) := dk_148 (dk_at dksL_law_7 21 rfl rfl)
theorem dL_law_325 : decode cL_law 325 = .ok (.ifCond .eq 5, 3) := dk_153 0 5 (dk_at dksL_law_8 0 rfl rfl)
theorem dL_law_328 : decode cL_law 328 = .ok (.iconst 0, 1) := dk_3 (dk_at dksL_law_8 3 rfl rfl)
theorem dL_law_329 : decode cL_law 329 = .ok (.ireturn, 1) := dk_172 (dk_at dksL_law_8 4 rfl rfl)
theorem dL_law_330 : decode cL_law 330 = .ok (.goto 1904, 3) := dk_167 7 112 (dk_at dksL_law_8 5 rfl rfl)
theorem dL_law_333 : decode cL_law 333 = .ok (.aload_n 1, 1) := dk_43 (dk_at dksL_law_8 8 rfl rfl)
theorem dL_law_334 : decode cL_law 334 = .ok (.aload_n 0, 1) := dk_42 (dk_at dksL_law_8 9 rfl rfl)
theorem dL_law_335 : decode cL_law 335 = .ok (.iload 5, 2) := dk_21 5 (dk_at dksL_law_8 10 rfl rfl)
theorem dL_law_337 : decode cL_law 337 = .ok (.iconst 1, 1) := dk_4 (dk_at dksL_law_8 12 rfl rfl)
theorem dL_law_338 : decode cL_law 338 = .ok (.iadd, 1) := dk_96 (dk_at dksL_law_8 13 rfl rfl)
theorem dL_law_339 : decode cL_law 339 = .ok (.iaload, 1) := dk_46 (dk_at dksL_law_8 14 rfl rfl)
theorem dL_law_340 : decode cL_law 340 = .ok (.aload_n 3, 1) := dk_45 (dk_at dksL_law_8 15 rfl rfl)
theorem dL_law_341 : decode cL_law 341 = .ok (.invokestatic 151, 3) := dk_184 0 151 (dk_at dksL_law_8 16 rfl rfl)
theorem dL_law_344 : decode cL_law 344 = .ok (.istore 6, 2) := dk_54 6 (dk_at dksL_law_8 19 rfl rfl)
theorem dL_law_346 : decode cL_law 346 = .ok (.aload_n 2, 1) := dk_44 (dk_at dksL_law_8 21 rfl rfl)
theorem dL_law_347 : decode cL_law 347 = .ok (.aload_n 0, 1) := dk_42 (dk_at dksL_law_8 22 rfl rfl)
theorem dL_law_348 : decode cL_law 348 = .ok (.iload 5, 2) := dk_21 5 (dk_at dksL_law_9 0 rfl rfl)
theorem dL_law_350 : decode cL_law 350 = .ok (.iconst 1, 1) := dk_4 (dk_at dksL_law_9 2 rfl rfl)
theorem dL_law_351 : decode cL_law 351 = .ok (.iadd, 1) := dk_96 (dk_at dksL_law_9 3 rfl rfl)
theorem dL_law_352 : decode cL_law 352 = .ok (.iaload, 1) := dk_46 (dk_at dksL_law_9 4 rfl rfl)
theorem dL_law_353 : decode cL_law 353 = .ok (.invokevirtual 153, 3) := dk_182 0 153 (dk_at dksL_law_9 5 rfl rfl)
theorem dL_law_356 : decode cL_law 356 = .ok (.istore 7, 2) := dk_54 7 (dk_at dksL_law_9 8 rfl rfl)
theorem dL_law_358 : decode cL_law 358 = .ok (.aload_n 2, 1) := dk_44 (dk_at dksL_law_9 10 rfl rfl)
theorem dL_law_359 : decode cL_law 359 = .ok (.invokevirtual 145, 3) := dk_182 0 145 (dk_at dksL_law_9 11 rfl rfl)
theorem dL_law_362 : decode cL_law 362 = .ok (.iload 6, 2) := dk_21 6 (dk_at dksL_law_9 14 rfl rfl)
theorem dL_law_364 : decode cL_law 364 = .ok (.if_icmp .eq 5, 3) := dk_159 0 5 (dk_at dksL_law_9 16 rfl rfl)
theorem dL_law_367 : decode cL_law 367 = .ok (.iconst 0, 1) := dk_3 (dk_at dksL_law_9 19 rfl rfl)
theorem dL_law_368 : decode cL_law 368 = .ok (.ireturn, 1) := dk_172 (dk_at dksL_law_9 20 rfl rfl)
theorem dL_law_369 : decode cL_law 369 = .ok (.iload 6, 2) := dk_21 6 (dk_at dksL_law_9 21 rfl rfl)
theorem dL_law_371 : decode cL_law 371 = .ok (.ifCond .ne 15, 3) := dk_154 0 15 (dk_at dksL_law_10 0 rfl rfl)
theorem dL_law_374 : decode cL_law 374 = .ok (.aload_n 3, 1) := dk_45 (dk_at dksL_law_10 3 rfl rfl)
theorem dL_law_375 : decode cL_law 375 = .ok (.iconst 0, 1) := dk_3 (dk_at dksL_law_10 4 rfl rfl)
theorem dL_law_376 : decode cL_law 376 = .ok (.laload, 1) := dk_47 (dk_at dksL_law_10 5 rfl rfl)
theorem dL_law_377 : decode cL_law 377 = .ok (.iload 7, 2) := dk_21 7 (dk_at dksL_law_10 6 rfl rfl)
theorem dL_law_379 : decode cL_law 379 = .ok (.i2l, 1) := dk_133 (dk_at dksL_law_10 8 rfl rfl)
theorem dL_law_380 : decode cL_law 380 = .ok (.lcmp, 1) := dk_148 (dk_at dksL_law_10 9 rfl rfl)
theorem dL_law_381 : decode cL_law 381 = .ok (.ifCond .eq 5, 3) := dk_153 0 5 (dk_at dksL_law_10 10 rfl rfl)
theorem dL_law_384 : decode cL_law 384 = .ok (.iconst 0, 1) := dk_3 (dk_at dksL_law_10 13 rfl rfl)
theorem dL_law_385 : decode cL_law 385 = .ok (.ireturn, 1) := dk_172 (dk_at dksL_law_10 14 rfl rfl)
theorem dL_law_386 : decode cL_law 386 = .ok (.goto 1848, 3) := dk_167 7 56 (dk_at dksL_law_10 15 rfl rfl)
theorem dL_law_389 : decode cL_law 389 = .ok (.aload_n 1, 1) := dk_43 (dk_at dksL_law_10 18 rfl rfl)
theorem dL_law_390 : decode cL_law 390 = .ok (.aload_n 0, 1) := dk_42 (dk_at dksL_law_10 19 rfl rfl)
theorem dL_law_391 : decode cL_law 391 = .ok (.iload 5, 2) := dk_21 5 (dk_at dksL_law_10 20 rfl rfl)
theorem dL_law_393 : decode cL_law 393 = .ok (.iconst 1, 1) := dk_4 (dk_at dksL_law_10 22 rfl rfl)
theorem dL_law_394 : decode cL_law 394 = .ok (.iadd, 1) := dk_96 (dk_at dksL_law_10 23 rfl rfl)
theorem dL_law_395 : decode cL_law 395 = .ok (.iaload, 1) := dk_46 (dk_at dksL_law_11 0 rfl rfl)
theorem dL_law_396 : decode cL_law 396 = .ok (.aload_n 0, 1) := dk_42 (dk_at dksL_law_11 1 rfl rfl)
theorem dL_law_397 : decode cL_law 397 = .ok (.iload 5, 2) := dk_21 5 (dk_at dksL_law_11 2 rfl rfl)
theorem dL_law_399 : decode cL_law 399 = .ok (.iconst 2, 1) := dk_5 (dk_at dksL_law_11 4 rfl rfl)
theorem dL_law_400 : decode cL_law 400 = .ok (.iadd, 1) := dk_96 (dk_at dksL_law_11 5 rfl rfl)
theorem dL_law_401 : decode cL_law 401 = .ok (.iaload, 1) := dk_46 (dk_at dksL_law_11 6 rfl rfl)
theorem dL_law_402 : decode cL_law 402 = .ok (.aload_n 3, 1) := dk_45 (dk_at dksL_law_11 7 rfl rfl)
theorem dL_law_403 : decode cL_law 403 = .ok (.invokestatic 154, 3) := dk_184 0 154 (dk_at dksL_law_11 8 rfl rfl)
theorem dL_law_406 : decode cL_law 406 = .ok (.istore 6, 2) := dk_54 6 (dk_at dksL_law_11 11 rfl rfl)
theorem dL_law_408 : decode cL_law 408 = .ok (.aload_n 2, 1) := dk_44 (dk_at dksL_law_11 13 rfl rfl)
theorem dL_law_409 : decode cL_law 409 = .ok (.aload_n 0, 1) := dk_42 (dk_at dksL_law_11 14 rfl rfl)
theorem dL_law_410 : decode cL_law 410 = .ok (.iload 5, 2) := dk_21 5 (dk_at dksL_law_11 15 rfl rfl)
theorem dL_law_412 : decode cL_law 412 = .ok (.iconst 1, 1) := dk_4 (dk_at dksL_law_11 17 rfl rfl)
theorem dL_law_413 : decode cL_law 413 = .ok (.iadd, 1) := dk_96 (dk_at dksL_law_11 18 rfl rfl)
theorem dL_law_414 : decode cL_law 414 = .ok (.iaload, 1) := dk_46 (dk_at dksL_law_11 19 rfl rfl)
theorem dL_law_415 : decode cL_law 415 = .ok (.aload_n 0, 1) := dk_42 (dk_at dksL_law_11 20 rfl rfl)
theorem dL_law_416 : decode cL_law 416 = .ok (.iload 5, 2) := dk_21 5 (dk_at dksL_law_11 21 rfl rfl)
theorem dL_law_418 : decode cL_law 418 = .ok (.iconst 2, 1) := dk_5 (dk_at dksL_law_11 23 rfl rfl)
theorem dL_law_419 : decode cL_law 419 = .ok (.iadd, 1) := dk_96 (dk_at dksL_law_12 0 rfl rfl)
theorem dL_law_420 : decode cL_law 420 = .ok (.iaload, 1) := dk_46 (dk_at dksL_law_12 1 rfl rfl)
theorem dL_law_421 : decode cL_law 421 = .ok (.invokevirtual 157, 3) := dk_182 0 157 (dk_at dksL_law_12 2 rfl rfl)
theorem dL_law_424 : decode cL_law 424 = .ok (.istore 7, 2) := dk_54 7 (dk_at dksL_law_12 5 rfl rfl)
theorem dL_law_426 : decode cL_law 426 = .ok (.aload_n 2, 1) := dk_44 (dk_at dksL_law_12 7 rfl rfl)
theorem dL_law_427 : decode cL_law 427 = .ok (.invokevirtual 145, 3) := dk_182 0 145 (dk_at dksL_law_12 8 rfl rfl)
theorem dL_law_430 : decode cL_law 430 = .ok (.iload 6, 2) := dk_21 6 (dk_at dksL_law_12 11 rfl rfl)
theorem dL_law_432 : decode cL_law 432 = .ok (.if_icmp .eq 5, 3) := dk_159 0 5 (dk_at dksL_law_12 13 rfl rfl)
theorem dL_law_435 : decode cL_law 435 = .ok (.iconst 0, 1) := dk_3 (dk_at dksL_law_12 16 rfl rfl)
theorem dL_law_436 : decode cL_law 436 = .ok (.ireturn, 1) := dk_172 (dk_at dksL_law_12 17 rfl rfl)
theorem dL_law_437 : decode cL_law 437 = .ok (.iload 6, 2) := dk_21 6 (dk_at dksL_law_12 18 rfl rfl)
theorem dL_law_439 : decode cL_law 439 = .ok (.ifCond .ne 15, 3) := dk_154 0 15 (dk_at dksL_law_12 20 rfl rfl)
theorem dL_law_442 : decode cL_law 442 = .ok (.aload_n 3, 1) := dk_45 (dk_at dksL_law_12 23 rfl rfl)
theorem dL_law_443 : decode cL_law 443 = .ok (.iconst 0, 1) := dk_3 (dk_at dksL_law_13 0 rfl rfl)
theorem dL_law_444 : decode cL_law 444 = .ok (.laload, 1) := dk_47 (dk_at dksL_law_13 1 rfl rfl)
theorem dL_law_445 : decode cL_law 445 = .ok (.iload 7, 2) := dk_21 7 (dk_at dksL_law_13 2 rfl rfl)
theorem dL_law_447 : decode cL_law 447 = .ok (.i2l, 1) := dk_133 (dk_at dksL_law_13 4 rfl rfl)
theorem dL_law_448 : decode cL_law 448 = .ok (.lcmp, 1) := dk_148 (dk_at dksL_law_13 5 rfl rfl)
theorem dL_law_449 : decode cL_law 449 = .ok (.ifCond .eq 5, 3) := dk_153 0 5 (dk_at dksL_law_13 6 rfl rfl)
theorem dL_law_452 : decode cL_law 452 = .ok (.iconst 0, 1) := dk_3 (dk_at dksL_law_13 9 rfl rfl)
theorem dL_law_453 : decode cL_law 453 = .ok (.ireturn, 1) := dk_172 (dk_at dksL_law_13 10 rfl rfl)
theorem dL_law_454 : decode cL_law 454 = .ok (.goto 1780, 3) := dk_167 6 244 (dk_at dksL_law_13 11 rfl rfl)
theorem dL_law_457 : decode cL_law 457 = .ok (.aload_n 1, 1) := dk_43 (dk_at dksL_law_13 14 rfl rfl)
theorem dL_law_458 : decode cL_law 458 = .ok (.aload_n 0, 1) := dk_42 (dk_at dksL_law_13 15 rfl rfl)
theorem dL_law_459 : decode cL_law 459 = .ok (.iload 5, 2) := dk_21 5 (dk_at dksL_law_13 16 rfl rfl)
theorem dL_law_461 : decode cL_law 461 = .ok (.iconst 1, 1) := dk_4 (dk_at dksL_law_13 18 rfl rfl)
theorem dL_law_462 : decode cL_law 462 = .ok (.iadd, 1) := dk_96 (dk_at dksL_law_13 19 rfl rfl)
theorem dL_law_463 : decode cL_law 463 = .ok (.iaload, 1) := dk_46 (dk_at dksL_law_13 20 rfl rfl)
theorem dL_law_464 : decode cL_law 464 = .ok (.aload_n 3, 1) := dk_45 (dk_at dksL_law_13 21 rfl rfl)
theorem dL_law_465 : decode cL_law 465 = .ok (.invokestatic 158, 3) := dk_184 0 158 (dk_at dksL_law_14 0 rfl rfl)
theorem dL_law_468 : decode cL_law 468 = .ok (.istore 6, 2) := dk_54 6 (dk_at dksL_law_14 3 rfl rfl)
theorem dL_law_470 : decode cL_law 470 = .ok (.aload_n 2, 1) := dk_44 (dk_at dksL_law_14 5 rfl rfl)
theorem dL_law_471 : decode cL_law 471 = .ok (.aload_n 0, 1) := dk_42 (dk_at dksL_law_14 6 rfl rfl)
theorem dL_law_472 : decode cL_law 472 = .ok (.iload 5, 2) := dk_21 5 (dk_at dksL_law_14 7 rfl rfl)
theorem dL_law_474 : decode cL_law 474 = .ok (.iconst 1, 1) := dk_4 (dk_at dksL_law_14 9 rfl rfl)
theorem dL_law_475 : decode cL_law 475 = .ok (.iadd, 1) := dk_96 (dk_at dksL_law_14 10 rfl rfl)
theorem dL_law_476 : decode cL_law 476 = .ok (.iaload, 1) := dk_46 (dk_at dksL_law_14 11 rfl rfl)
theorem dL_law_477 : decode cL_law 477 = .ok (.invokevirtual 160, 3) := dk_182 0 160 (dk_at dksL_law_14 12 rfl rfl)
theorem dL_law_480 : decode cL_law 480 = .ok (.istore 7, 2) := dk_54 7 (dk_at dksL_law_14 15 rfl rfl)
theorem dL_law_482 : decode cL_law 482 = .ok (.aload_n 2, 1) := dk_44 (dk_at dksL_law_14 17 rfl rfl)
theorem dL_law_483 : decode cL_law 483 = .ok (.invokevirtual 145, 3) := dk_182 0 145 (dk_at dksL_law_14 18 rfl rfl)
theorem dL_law_486 : decode cL_law 486 = .ok (.iload 6, 2) := dk_21 6 (dk_at dksL_law_14 21 rfl rfl)
theorem dL_law_488 : decode cL_law 488 = .ok (.if_icmp .eq 5, 3) := dk_159 0 5 (dk_at dksL_law_15 0 rfl rfl)
theorem dL_law_491 : decode cL_law 491 = .ok (.iconst 0, 1) := dk_3 (dk_at dksL_law_15 3 rfl rfl)
theorem dL_law_492 : decode cL_law 492 = .ok (.ireturn, 1) := dk_172 (dk_at dksL_law_15 4 rfl rfl)
theorem dL_law_493 : decode cL_law 493 = .ok (.iload 6, 2) := dk_21 6 (dk_at dksL_law_15 5 rfl rfl)
theorem dL_law_495 : decode cL_law 495 = .ok (.ifCond .ne 15, 3) := dk_154 0 15 (dk_at dksL_law_15 7 rfl rfl)
theorem dL_law_498 : decode cL_law 498 = .ok (.aload_n 3, 1) := dk_45 (dk_at dksL_law_15 10 rfl rfl)
theorem dL_law_499 : decode cL_law 499 = .ok (.iconst 0, 1) := dk_3 (dk_at dksL_law_15 11 rfl rfl)
theorem dL_law_500 : decode cL_law 500 = .ok (.laload, 1) := dk_47 (dk_at dksL_law_15 12 rfl rfl)
theorem dL_law_501 : decode cL_law 501 = .ok (.iload 7, 2) := dk_21 7 (dk_at dksL_law_15 13 rfl rfl)
theorem dL_law_503 : decode cL_law 503 = .ok (.i2l, 1) := dk_133 (dk_at dksL_law_15 15 rfl rfl)
theorem dL_law_504 : decode cL_law 504 = .ok (.lcmp, 1) := dk_148 (dk_at dksL_law_15 16 rfl rfl)
theorem dL_law_505 : decode cL_law 505 = .ok (.ifCond .eq 5, 3) := dk_153 0 5 (dk_at dksL_law_15 17 rfl rfl)
theorem dL_law_508 : decode cL_law 508 = .ok (.iconst 0, 1) := dk_3 (dk_at dksL_law_15 20 rfl rfl)
theorem dL_law_509 : decode cL_law 509 = .ok (.ireturn, 1) := dk_172 (dk_at dksL_law_15 21 rfl rfl)
theorem dL_law_510 : decode cL_law 510 = .ok (.goto 1724, 3) := dk_167 6 188 (dk_at dksL_law_16 0 rfl rfl)
theorem dL_law_513 : decode cL_law 513 = .ok (.aload_n 1, 1) := dk_43 (dk_at dksL_law_16 3 rfl rfl)
theorem dL_law_514 : decode cL_law 514 = .ok (.aload_n 0, 1) := dk_42 (dk_at dksL_law_16 4 rfl rfl)
theorem dL_law_515 : decode cL_law 515 = .ok (.iload 5, 2) := dk_21 5 (dk_at dksL_law_16 5 rfl rfl)
theorem dL_law_517 : decode cL_law 517 = .ok (.iconst 1, 1) := dk_4 (dk_at dksL_law_16 7 rfl rfl)
theorem dL_law_518 : decode cL_law 518 = .ok (.iadd, 1) := dk_96 (dk_at dksL_law_16 8 rfl rfl)
theorem dL_law_519 : decode cL_law 519 = .ok (.iaload, 1) := dk_46 (dk_at dksL_law_16 9 rfl rfl)
theorem dL_law_520 : decode cL_law 520 = .ok (.aload_n 3, 1) := dk_45 (dk_at dksL_law_16 10 rfl rfl)
theorem dL_law_521 : decode cL_law 521 = .ok (.invokestatic 161, 3) := dk_184 0 161 (dk_at dksL_law_16 11 rfl rfl)
theorem dL_law_524 : decode cL_law 524 = .ok (.istore 6, 2) := dk_54 6 (dk_at dksL_law_16 14 rfl rfl)
theorem dL_law_526 : decode cL_law 526 = .ok (.aload_n 2, 1) := dk_44 (dk_at dksL_law_16 16 rfl rfl)
theorem dL_law_527 : decode cL_law 527 = .ok (.aload_n 0, 1) := dk_42 (dk_at dksL_law_16 17 rfl rfl)
theorem dL_law_528 : decode cL_law 528 = .ok (.iload 5, 2) := dk_21 5 (dk_at dksL_law_16 18 rfl rfl)
theorem dL_law_530 : decode cL_law 530 = .ok (.iconst 1, 1) := dk_4 (dk_at dksL_law_16 20 rfl rfl)
theorem dL_law_531 : decode cL_law 531 = .ok (.iadd, 1) := dk_96 (dk_at dksL_law_16 21 rfl rfl)
theorem dL_law_532 : decode cL_law 532 = .ok (.iaload, 1) := dk_46 (dk_at dksL_law_16 22 rfl rfl)
theorem dL_law_533 : decode cL_law 533 = .ok (.invokevirtual 163, 3) := dk_182 0 163 (dk_at dksL_law_17 0 rfl rfl)
theorem dL_law_536 : decode cL_law 536 = .ok (.istore 7, 2) := dk_54 7 (dk_at dksL_law_17 3 rfl rfl)
theorem dL_law_538 : decode cL_law 538 = .ok (.aload_n 2, 1) := dk_44 (dk_at dksL_law_17 5 rfl rfl)
theorem dL_law_539 : decode cL_law 539 = .ok (.invokevirtual 145, 3) := dk_182 0 145 (dk_at dksL_law_17 6 rfl rfl)
theorem dL_law_542 : decode cL_law 542 = .ok (.iload 6, 2) := dk_21 6 (dk_at dksL_law_17 9 rfl rfl)
theorem dL_law_544 : decode cL_law 544 = .ok (.if_icmp .eq 5, 3) := dk_159 0 5 (dk_at dksL_law_17 11 rfl rfl)
theorem dL_law_547 : decode cL_law 547 = .ok (.iconst 0, 1) := dk_3 (dk_at dksL_law_17 14 rfl rfl)
theorem dL_law_548 : decode cL_law 548 = .ok (.ireturn, 1) := dk_172 (dk_at dksL_law_17 15 rfl rfl)
theorem dL_law_549 : decode cL_law 549 = .ok (.iload 6, 2) := dk_21 6 (dk_at dksL_law_17 16 rfl rfl)
theorem dL_law_551 : decode cL_law 551 = .ok (.ifCond .ne 15, 3) := dk_154 0 15 (dk_at dksL_law_17 18 rfl rfl)
theorem dL_law_554 : decode cL_law 554 = .ok (.aload_n 3, 1) := dk_45 (dk_at dksL_law_17 21 rfl rfl)
theorem dL_law_555 : decode cL_law 555 = .ok (.iconst 0, 1) := dk_3 (dk_at dksL_law_17 22 rfl rfl)
theorem dL_law_556 : decode cL_law 556 = .ok (.laload, 1) := dk_47 (dk_at dksL_law_17 23 rfl rfl)
theorem dL_law_557 : decode cL_law 557 = .ok (.iload 7, 2) := dk_21 7 (dk_at dksL_law_18 0 rfl rfl)
theorem dL_law_559 : decode cL_law 559 = .ok (.i2l, 1) := dk_133 (dk_at dksL_law_18 2 rfl rfl)
theorem dL_law_560 : decode cL_law 560 = .ok (.lcmp, 1) := dk_148 (dk_at dksL_law_18 3 rfl rfl)
theorem dL_law_561 : decode cL_law 561 = .ok (.ifCond .eq 5, 3) := dk_153 0 5 (dk_at dksL_law_18 4 rfl rfl)
theorem dL_law_564 : decode cL_law 564 = .ok (.iconst 0, 1) := dk_3 (dk_at dksL_law_18 7 rfl rfl)
theorem dL_law_565 : decode cL_law 565 = .ok (.ireturn, 1) := dk_172 (dk_at dksL_law_18 8 rfl rfl)
theorem dL_law_566 : decode cL_law 566 = .ok (.goto 1668, 3) := dk_167 6 132 (dk_at dksL_law_18 9 rfl rfl)
theorem dL_law_569 : decode cL_law 569 = .ok (.aload_n 1, 1) := dk_43 (dk_at dksL_law_18 12 rfl rfl)
theorem dL_law_570 : decode cL_law 570 = .ok (.aload_n 0, 1) := dk_42 (dk_at dksL_law_18 13 rfl rfl)
theorem dL_law_571 : decode cL_law 571 = .ok (.iload 5, 2) := dk_21 5 (dk_at dksL_law_18 14 rfl rfl)
theorem dL_law_573 : decode cL_law 573 = .ok (.iconst 1, 1) := dk_4 (dk_at dksL_law_18 16 rfl rfl)
theorem dL_law_574 : decode cL_law 574 = .ok (.iadd, 1) := dk_96 (dk_at dksL_law_18 17 rfl rfl)
theorem dL_law_575 : decode cL_law 575 = .ok (.iaload, 1) := dk_46 (dk_at dksL_law_18 18 rfl rfl)
theorem dL_law_576 : decode cL_law 576 = .ok (.aload_n 3, 1) := dk_45 (dk_at dksL_law_18 19 rfl rfl)
theorem dL_law_577 : decode cL_law 577 = .ok (.invokestatic 164, 3) := dk_184 0 164 (dk_at dksL_law_18 20 rfl rfl)
theorem dL_law_580 : decode cL_law 580 = .ok (.istore 6, 2) := dk_54 6 (dk_at dksL_law_19 0 rfl rfl)
theorem dL_law_582 : decode cL_law 582 = .ok (.aload_n 2, 1) := dk_44 (dk_at dksL_law_19 2 rfl rfl)
theorem dL_law_583 : decode cL_law 583 = .ok (.aload_n 0, 1) := dk_42 (dk_at dksL_law_19 3 rfl rfl)
theorem dL_law_584 : decode cL_law 584 = .ok (.iload 5, 2) := dk_21 5 (dk_at dksL_law_19 4 rfl rfl)
theorem dL_law_586 : decode cL_law 586 = .ok (.iconst 1, 1) := dk_4 (dk_at dksL_law_19 6 rfl rfl)
theorem dL_law_587 : decode cL_law 587 = .ok (.iadd, 1) := dk_96 (dk_at dksL_law_19 7 rfl rfl)
theorem dL_law_588 : decode cL_law 588 = .ok (.iaload, 1) := dk_46 (dk_at dksL_law_19 8 rfl rfl)
theorem dL_law_589 : decode cL_law 589 = .ok (.invokevirtual 166, 3) := dk_182 0 166 (dk_at dksL_law_19 9 rfl rfl)
theorem dL_law_592 : decode cL_law 592 = .ok (.istore 7, 2) := dk_54 7 (dk_at dksL_law_19 12 rfl rfl)
theorem dL_law_594 : decode cL_law 594 = .ok (.aload_n 2, 1) := dk_44 (dk_at dksL_law_19 14 rfl rfl)
theorem dL_law_595 : decode cL_law 595 = .ok (.invokevirtual 145, 3) := dk_182 0 145 (dk_at dksL_law_19 15 rfl rfl)
theorem dL_law_598 : decode cL_law 598 = .ok (.iload 6, 2) := dk_21 6 (dk_at dksL_law_19 18 rfl rfl)
theorem dL_law_600 : decode cL_law 600 = .ok (.if_icmp .eq 5, 3) := dk_159 0 5 (dk_at dksL_law_19 20 rfl rfl)
theorem dL_law_603 : decode cL_law 603 = .ok (.iconst 0, 1) := dk_3 (dk_at dksL_law_19 23 rfl rfl)
theorem dL_law_604 : decode cL_law 604 = .ok (.ireturn, 1) := dk_172 (dk_at dksL_law_20 0 rfl rfl)
theorem dL_law_605 : decode cL_law 605 = .ok (.iload 6, 2) := dk_21 6 (dk_at dksL_law_20 1 rfl rfl)
theorem dL_law_607 : decode cL_law 607 = .ok (.ifCond .ne 15, 3) := dk_154 0 15 (dk_at dksL_law_20 3 rfl rfl)
theorem dL_law_610 : decode cL_law 610 = .ok (.aload_n 3, 1) := dk_45 (dk_at dksL_law_20 6 rfl rfl)
theorem dL_law_611 : decode cL_law 611 = .ok (.iconst 0, 1) := dk_3 (dk_at dksL_law_20 7 rfl rfl)
theorem dL_law_612 : decode cL_law 612 = .ok (.laload, 1) := dk_47 (dk_at dksL_law_20 8 rfl rfl)
theorem dL_law_613 : decode cL_law 613 = .ok (.iload 7, 2) := dk_21 7 (dk_at dksL_law_20 9 rfl rfl)
theorem dL_law_615 : decode cL_law 615 = .ok (.i2l, 1) := dk_133 (dk_at dksL_law_20 11 rfl rfl)
theorem dL_law_616 : decode cL_law 616 = .ok (.lcmp, 1) := dk_148 (dk_at dksL_law_20 12 rfl rfl)
theorem dL_law_617 : decode cL_law 617 = .ok (.ifCond .eq 5, 3) := dk_153 0 5 (dk_at dksL_law_20 13 rfl rfl)
theorem dL_law_620 : decode cL_law 620 = .ok (.iconst 0, 1) := dk_3 (dk_at dksL_law_20 16 rfl rfl)
theorem dL_law_621 : decode cL_law 621 = .ok (.ireturn, 1) := dk_172 (dk_at dksL_law_20 17 rfl rfl)
theorem dL_law_622 : decode cL_law 622 = .ok (.goto 1612, 3) := dk_167 6 76 (dk_at dksL_law_20 18 rfl rfl)
theorem dL_law_625 : decode cL_law 625 = .ok (.aload_n 1, 1) := dk_43 (dk_at dksL_law_20 21 rfl rfl)
theorem dL_law_626 : decode cL_law 626 = .ok (.aload_n 0, 1) := dk_42 (dk_at dksL_law_20 22 rfl rfl)
theorem dL_law_627 : decode cL_law 627 = .ok (.iload 5, 2) := dk_21 5 (dk_at dksL_law_21 0 rfl rfl)
theorem dL_law_629 : decode cL_law 629 = .ok (.iconst 1, 1) := dk_4 (dk_at dksL_law_21 2 rfl rfl)
theorem dL_law_630 : decode cL_law 630 = .ok (.iadd, 1) := dk_96 (dk_at dksL_law_21 3 rfl rfl)
theorem dL_law_631 : decode cL_law 631 = .ok (.iaload, 1) := dk_46 (dk_at dksL_law_21 4 rfl rfl)
theorem dL_law_632 : decode cL_law 632 = .ok (.aload_n 0, 1) := dk_42 (dk_at dksL_law_21 5 rfl rfl)
theorem dL_law_633 : decode cL_law 633 = .ok (.iload 5, 2) := dk_21 5 (dk_at dksL_law_21 6 rfl rfl)
theorem dL_law_635 : decode cL_law 635 = .ok (.iconst 2, 1) := dk_5 (dk_at dksL_law_21 8 rfl rfl)
theorem dL_law_636 : decode cL_law 636 = .ok (.iadd, 1) := dk_96 (dk_at dksL_law_21 9 rfl rfl)
theorem dL_law_637 : decode cL_law 637 = .ok (.iaload, 1) := dk_46 (dk_at dksL_law_21 10 rfl rfl)
theorem dL_law_638 : decode cL_law 638 = .ok (.aload_n 3, 1) := dk_45 (dk_at dksL_law_21 11 rfl rfl)
theorem dL_law_639 : decode cL_law 639 = .ok (.invokestatic 167, 3) := dk_184 0 167 (dk_at dksL_law_21 12 rfl rfl)
theorem dL_law_642 : decode cL_law 642 = .ok (.istore 6, 2) := dk_54 6 (dk_at dksL_law_21 15 rfl rfl)
theorem dL_law_644 : decode cL_law 644 = .ok (.aload_n 2, 1) := dk_44 (dk_at dksL_law_21 17 rfl rfl)
theorem dL_law_645 : decode cL_law 645 = .ok (.aload_n 0, 1) := dk_42 (dk_at dksL_law_21 18 rfl rfl)
theorem dL_law_646 : decode cL_law 646 = .ok (.iload 5, 2) := dk_21 5 (dk_at dksL_law_21 19 rfl rfl)
theorem dL_law_648 : decode cL_law 648 = .ok (.iconst 1, 1) := dk_4 (dk_at dksL_law_21 21 rfl rfl)
theorem dL_law_649 : decode cL_law 649 = .ok (.iadd, 1) := dk_96 (dk_at dksL_law_21 22 rfl rfl)
theorem dL_law_650 : decode cL_law 650 = .ok (.iaload, 1) := dk_46 (dk_at dksL_law_21 23 rfl rfl)
theorem dL_law_651 : decode cL_law 651 = .ok (.aload_n 0, 1) := dk_42 (dk_at dksL_law_22 0 rfl rfl)
theorem dL_law_652 : decode cL_law 652 = .ok (.iload 5, 2) := dk_21 5 (dk_at dksL_law_22 1 rfl rfl)
theorem dL_law_654 : decode cL_law 654 = .ok (.iconst 2, 1) := dk_5 (dk_at dksL_law_22 3 rfl rfl)
theorem dL_law_655 : decode cL_law 655 = .ok (.iadd, 1) := dk_96 (dk_at dksL_law_22 4 rfl rfl)
theorem dL_law_656 : decode cL_law 656 = .ok (.iaload, 1) := dk_46 (dk_at dksL_law_22 5 rfl rfl)
theorem dL_law_657 : decode cL_law 657 = .ok (.invokevirtual 169, 3) := dk_182 0 169 (dk_at dksL_law_22 6 rfl rfl)
theorem dL_law_660 : decode cL_law 660 = .ok (.istore 7, 2) := dk_54 7 (dk_at dksL_law_22 9 rfl rfl)
theorem dL_law_662 : decode cL_law 662 = .ok (.aload_n 2, 1) := dk_44 (dk_at dksL_law_22 11 rfl rfl)
theorem dL_law_663 : decode cL_law 663 = .ok (.invokevirtual 145, 3) := dk_182 0 145 (dk_at dksL_law_22 12 rfl rfl)
theorem dL_law_666 : decode cL_law 666 = .ok (.iload 6, 2) := dk_21 6 (dk_at dksL_law_22 15 rfl rfl)
theorem dL_law_668 : decode cL_law 668 = .ok (.if_icmp .eq 5, 3) := dk_159 0 5 (dk_at dksL_law_22 17 rfl rfl)
theorem dL_law_671 : decode cL_law 671 = .ok (.iconst 0, 1) := dk_3 (dk_at dksL_law_22 20 rfl rfl)
theorem dL_law_672 : decode cL_law 672 = .ok (.ireturn, 1) := dk_172 (dk_at dksL_law_22 21 rfl rfl)
theorem dL_law_673 : decode cL_law 673 = .ok (.iload 6, 2) := dk_21 6 (dk_at dksL_law_22 22 rfl rfl)
theorem dL_law_675 : decode cL_law 675 = .ok (.ifCond .ne 15, 3) := dk_154 0 15 (dk_at dksL_law_23 0 rfl rfl)
theorem dL_law_678 : decode cL_law 678 = .ok (.aload_n 3, 1) := dk_45 (dk_at dksL_law_23 3 rfl rfl)
theorem dL_law_679 : decode cL_law 679 = .ok (.iconst 0, 1) := dk_3 (dk_at dksL_law_23 4 rfl rfl)
theorem dL_law_680 : decode cL_law 680 = .ok (.laload, 1) := dk_47 (dk_at dksL_law_23 5 rfl rfl)
theorem dL_law_681 : decode cL_law 681 = .ok (.iload 7, 2) := dk_21 7 (dk_at dksL_law_23 6 rfl rfl)
theorem dL_law_683 : decode cL_law 683 = .ok (.i2l, 1) := dk_133 (dk_at dksL_law_23 8 rfl rfl)
theorem dL_law_684 : decode cL_law 684 = .ok (.lcmp, 1) := dk_148 (dk_at dksL_law_23 9 rfl rfl)
theorem dL_law_685 : decode cL_law 685 = .ok (.ifCond .eq 5, 3) := dk_153 0 5 (dk_at dksL_law_23 10 rfl rfl)
theorem dL_law_688 : decode cL_law 688 = .ok (.iconst 0, 1) := dk_3 (dk_at dksL_law_23 13 rfl rfl)
theorem dL_law_689 : decode cL_law 689 = .ok (.ireturn, 1) := dk_172 (dk_at dksL_law_23 14 rfl rfl)
theorem dL_law_690 : decode cL_law 690 = .ok (.goto 1544, 3) := dk_167 6 8 (dk_at dksL_law_23 15 rfl rfl)
theorem dL_law_693 : decode cL_law 693 = .ok (.aload_n 1, 1) := dk_43 (dk_at dksL_law_23 18 rfl rfl)
theorem dL_law_694 : decode cL_law 694 = .ok (.aload_n 0, 1) := dk_42 (dk_at dksL_law_23 19 rfl rfl)
theorem dL_law_695 : decode cL_law 695 = .ok (.iload 5, 2) := dk_21 5 (dk_at dksL_law_23 20 rfl rfl)
theorem dL_law_697 : decode cL_law 697 = .ok (.iconst 1, 1) := dk_4 (dk_at dksL_law_23 22 rfl rfl)
theorem dL_law_698 : decode cL_law 698 = .ok (.iadd, 1) := dk_96 (dk_at dksL_law_23 23 rfl rfl)
theorem dL_law_699 : decode cL_law 699 = .ok (.iaload, 1) := dk_46 (dk_at dksL_law_24 0 rfl rfl)
theorem dL_law_700 : decode cL_law 700 = .ok (.aload_n 0, 1) := dk_42 (dk_at dksL_law_24 1 rfl rfl)
theorem dL_law_701 : decode cL_law 701 = .ok (.iload 5, 2) := dk_21 5 (dk_at dksL_law_24 2 rfl rfl)
theorem dL_law_703 : decode cL_law 703 = .ok (.iconst 2, 1) := dk_5 (dk_at dksL_law_24 4 rfl rfl)
theorem dL_law_704 : decode cL_law 704 = .ok (.iadd, 1) := dk_96 (dk_at dksL_law_24 5 rfl rfl)
theorem dL_law_705 : decode cL_law 705 = .ok (.iaload, 1) := dk_46 (dk_at dksL_law_24 6 rfl rfl)
theorem dL_law_706 : decode cL_law 706 = .ok (.aload_n 3, 1) := dk_45 (dk_at dksL_law_24 7 rfl rfl)
theorem dL_law_707 : decode cL_law 707 = .ok (.invokestatic 170, 3) := dk_184 0 170 (dk_at dksL_law_24 8 rfl rfl)
theorem dL_law_710 : decode cL_law 710 = .ok (.istore 6, 2) := dk_54 6 (dk_at dksL_law_24 11 rfl rfl)
theorem dL_law_712 : decode cL_law 712 = .ok (.aload_n 2, 1) := dk_44 (dk_at dksL_law_24 13 rfl rfl)
theorem dL_law_713 : decode cL_law 713 = .ok (.aload_n 0, 1) := dk_42 (dk_at dksL_law_24 14 rfl rfl)
theorem dL_law_714 : decode cL_law 714 = .ok (.iload 5, 2) := dk_21 5 (dk_at dksL_law_24 15 rfl rfl)
theorem dL_law_716 : decode cL_law 716 = .ok (.iconst 1, 1) := dk_4 (dk_at dksL_law_24 17 rfl rfl)
theorem dL_law_717 : decode cL_law 717 = .ok (.iadd, 1) := dk_96 (dk_at dksL_law_24 18 rfl rfl)
theorem dL_law_718 : decode cL_law 718 = .ok (.iaload, 1) := dk_46 (dk_at dksL_law_24 19 rfl rfl)
theorem dL_law_719 : decode cL_law 719 = .ok (.aload_n 0, 1) := dk_42 (dk_at dksL_law_24 20 rfl rfl)
theorem dL_law_720 : decode cL_law 720 = .ok (.iload 5, 2) := dk_21 5 (dk_at dksL_law_24 21 rfl rfl)
theorem dL_law_722 : decode cL_law 722 = .ok (.iconst 2, 1) := dk_5 (dk_at dksL_law_24 23 rfl rfl)
theorem dL_law_723 : decode cL_law 723 = .ok (.iadd, 1) := dk_96 (dk_at dksL_law_25 0 rfl rfl)
theorem dL_law_724 : decode cL_law 724 = .ok (.iaload, 1) := dk_46 (dk_at dksL_law_25 1 rfl rfl)
theorem dL_law_725 : decode cL_law 725 = .ok (.invokevirtual 172, 3) := dk_182 0 172 (dk_at dksL_law_25 2 rfl rfl)
theorem dL_law_728 : decode cL_law 728 = .ok (.istore 7, 2) := dk_54 7 (dk_at dksL_law_25 5 rfl rfl)
theorem dL_law_730 : decode cL_law 730 = .ok (.aload_n 2, 1) := dk_44 (dk_at dksL_law_25 7 rfl rfl)
theorem dL_law_731 : decode cL_law 731 = .ok (.invokevirtual 145, 3) := dk_182 0 145 (dk_at dksL_law_25 8 rfl rfl)
theorem dL_law_734 : decode cL_law 734 = .ok (.iload 6, 2) := dk_21 6 (dk_at dksL_law_25 11 rfl rfl)
theorem dL_law_736 : decode cL_law 736 = .ok (.if_icmp .eq 5, 3) := dk_159 0 5 (dk_at dksL_law_25 13 rfl rfl)
theorem dL_law_739 : decode cL_law 739 = .ok (.iconst 0, 1) := dk_3 (dk_at dksL_law_25 16 rfl rfl)
theorem dL_law_740 : decode cL_law 740 = .ok (.ireturn, 1) := dk_172 (dk_at dksL_law_25 17 rfl rfl)
theorem dL_law_741 : decode cL_law 741 = .ok (.iload 6, 2) := dk_21 6 (dk_at dksL_law_25 18 rfl rfl)
theorem dL_law_743 : decode cL_law 743 = .ok (.ifCond .ne 15, 3) := dk_154 0 15 (dk_at dksL_law_25 20 rfl rfl)
theorem dL_law_746 : decode cL_law 746 = .ok (.aload_n 3, 1) := dk_45 (dk_at dksL_law_25 23 rfl rfl)
theorem dL_law_747 : decode cL_law 747 = .ok (.iconst 0, 1) := dk_3 (dk_at dksL_law_26 0 rfl rfl)
theorem dL_law_748 : decode cL_law 748 = .ok (.laload, 1) := dk_47 (dk_at dksL_law_26 1 rfl rfl)
theorem dL_law_749 : decode cL_law 749 = .ok (.iload 7, 2) := dk_21 7 (dk_at dksL_law_26 2 rfl rfl)
theorem dL_law_751 : decode cL_law 751 = .ok (.i2l, 1) := dk_133 (dk_at dksL_law_26 4 rfl rfl)
theorem dL_law_752 : decode cL_law 752 = .ok (.lcmp, 1) := dk_148 (dk_at dksL_law_26 5 rfl rfl)
theorem dL_law_753 : decode cL_law 753 = .ok (.ifCond .eq 5, 3) := dk_153 0 5 (dk_at dksL_law_26 6 rfl rfl)
theorem dL_law_756 : decode cL_law 756 = .ok (.iconst 0, 1) := dk_3 (dk_at dksL_law_26 9 rfl rfl)
theorem dL_law_757 : decode cL_law 757 = .ok (.ireturn, 1) := dk_172 (dk_at dksL_law_26 10 rfl rfl)
theorem dL_law_758 : decode cL_law 758 = .ok (.goto 1476, 3) := dk_167 5 196 (dk_at dksL_law_26 11 rfl rfl)
theorem dL_law_761 : decode cL_law 761 = .ok (.aload_n 1, 1) := dk_43 (dk_at dksL_law_26 14 rfl rfl)
theorem dL_law_762 : decode cL_law 762 = .ok (.aload_n 0, 1) := dk_42 (dk_at dksL_law_26 15 rfl rfl)
theorem dL_law_763 : decode cL_law 763 = .ok (.iload 5, 2) := dk_21 5 (dk_at dksL_law_26 16 rfl rfl)
theorem dL_law_765 : decode cL_law 765 = .ok (.iconst 1, 1) := dk_4 (dk_at dksL_law_26 18 rfl rfl)
theorem dL_law_766 : decode cL_law 766 = .ok (.iadd, 1) := dk_96 (dk_at dksL_law_26 19 rfl rfl)
theorem dL_law_767 : decode cL_law 767 = .ok (.iaload, 1) := dk_46 (dk_at dksL_law_26 20 rfl rfl)
theorem dL_law_768 : decode cL_law 768 = .ok (.aload_n 3, 1) := dk_45 (dk_at dksL_law_26 21 rfl rfl)
theorem dL_law_769 : decode cL_law 769 = .ok (.invokestatic 173, 3) := dk_184 0 173 (dk_at dksL_law_27 0 rfl rfl)
theorem dL_law_772 : decode cL_law 772 = .ok (.istore 6, 2) := dk_54 6 (dk_at dksL_law_27 3 rfl rfl)
theorem dL_law_774 : decode cL_law 774 = .ok (.aload_n 2, 1) := dk_44 (dk_at dksL_law_27 5 rfl rfl)
theorem dL_law_775 : decode cL_law 775 = .ok (.aload_n 0, 1) := dk_42 (dk_at dksL_law_27 6 rfl rfl)
theorem dL_law_776 : decode cL_law 776 = .ok (.iload 5, 2) := dk_21 5 (dk_at dksL_law_27 7 rfl rfl)
theorem dL_law_778 : decode cL_law 778 = .ok (.iconst 1, 1) := dk_4 (dk_at dksL_law_27 9 rfl rfl)
theorem dL_law_779 : decode cL_law 779 = .ok (.iadd, 1) := dk_96 (dk_at dksL_law_27 10 rfl rfl)
theorem dL_law_780 : decode cL_law 780 = .ok (.iaload, 1) := dk_46 (dk_at dksL_law_27 11 rfl rfl)
theorem dL_law_781 : decode cL_law 781 = .ok (.invokevirtual 175, 3) := dk_182 0 175 (dk_at dksL_law_27 12 rfl rfl)
theorem dL_law_784 : decode cL_law 784 = .ok (.istore 7, 2) := dk_54 7 (dk_at dksL_law_27 15 rfl rfl)
theorem dL_law_786 : decode cL_law 786 = .ok (.aload_n 2, 1) := dk_44 (dk_at dksL_law_27 17 rfl rfl)
theorem dL_law_787 : decode cL_law 787 = .ok (.invokevirtual 145, 3) := dk_182 0 145 (dk_at dksL_law_27 18 rfl rfl)
theorem dL_law_790 : decode cL_law 790 = .ok (.iload 6, 2) := dk_21 6 (dk_at dksL_law_27 21 rfl rfl)
theorem dL_law_792 : decode cL_law 792 = .ok (.if_icmp .eq 5, 3) := dk_159 0 5 (dk_at dksL_law_28 0 rfl rfl)
theorem dL_law_795 : decode cL_law 795 = .ok (.iconst 0, 1) := dk_3 (dk_at dksL_law_28 3 rfl rfl)
theorem dL_law_796 : decode cL_law 796 = .ok (.ireturn, 1) := dk_172 (dk_at dksL_law_28 4 rfl rfl)
theorem dL_law_797 : decode cL_law 797 = .ok (.iload 6, 2) := dk_21 6 (dk_at dksL_law_28 5 rfl rfl)
theorem dL_law_799 : decode cL_law 799 = .ok (.ifCond .ne 15, 3) := dk_154 0 15 (dk_at dksL_law_28 7 rfl rfl)
theorem dL_law_802 : decode cL_law 802 = .ok (.aload_n 3, 1) := dk_45 (dk_at dksL_law_28 10 rfl rfl)
theorem dL_law_803 : decode cL_law 803 = .ok (.iconst 0, 1) := dk_3 (dk_at dksL_law_28 11 rfl rfl)
theorem dL_law_804 : decode cL_law 804 = .ok (.laload, 1) := dk_47 (dk_at dksL_law_28 12 rfl rfl)
theorem dL_law_805 : decode cL_law 805 = .ok (.iload 7, 2) := dk_21 7 (dk_at dksL_law_28 13 rfl rfl)
theorem dL_law_807 : decode cL_law 807 = .ok (.i2l, 1) := dk_133 (dk_at dksL_law_28 15 rfl rfl)
theorem dL_law_808 : decode cL_law 808 = .ok (.lcmp, 1) := dk_148 (dk_at dksL_law_28 16 rfl rfl)
theorem dL_law_809 : decode cL_law 809 = .ok (.ifCond .eq 5, 3) := dk_153 0 5 (dk_at dksL_law_28 17 rfl rfl)
theorem dL_law_812 : decode cL_law 812 = .ok (.iconst 0, 1) := dk_3 (dk_at dksL_law_28 20 rfl rfl)
theorem dL_law_813 : decode cL_law 813 = .ok (.ireturn, 1) := dk_172 (dk_at dksL_law_28 21 rfl rfl)
theorem dL_law_814 : decode cL_law 814 = .ok (.goto 1420, 3) := dk_167 5 140 (dk_at dksL_law_29 0 rfl rfl)
theorem dL_law_817 : decode cL_law 817 = .ok (.aload_n 1, 1) := dk_43 (dk_at dksL_law_29 3 rfl rfl)
theorem dL_law_818 : decode cL_law 818 = .ok (.aload_n 0, 1) := dk_42 (dk_at dksL_law_29 4 rfl rfl)
theorem dL_law_819 : decode cL_law 819 = .ok (.iload 5, 2) := dk_21 5 (dk_at dksL_law_29 5 rfl rfl)
theorem dL_law_821 : decode cL_law 821 = .ok (.iconst 1, 1) := dk_4 (dk_at dksL_law_29 7 rfl rfl)
theorem dL_law_822 : decode cL_law 822 = .ok (.iadd, 1) := dk_96 (dk_at dksL_law_29 8 rfl rfl)
theorem dL_law_823 : decode cL_law 823 = .ok (.iaload, 1) := dk_46 (dk_at dksL_law_29 9 rfl rfl)
theorem dL_law_824 : decode cL_law 824 = .ok (.aload_n 0, 1) := dk_42 (dk_at dksL_law_29 10 rfl rfl)
theorem dL_law_825 : decode cL_law 825 = .ok (.iload 5, 2) := dk_21 5 (dk_at dksL_law_29 11 rfl rfl)
theorem dL_law_827 : decode cL_law 827 = .ok (.iconst 2, 1) := dk_5 (dk_at dksL_law_29 13 rfl rfl)
theorem dL_law_828 : decode cL_law 828 = .ok (.iadd, 1) := dk_96 (dk_at dksL_law_29 14 rfl rfl)
theorem dL_law_829 : decode cL_law 829 = .ok (.iaload, 1) := dk_46 (dk_at dksL_law_29 15 rfl rfl)
theorem dL_law_830 : decode cL_law 830 = .ok (.aload_n 3, 1) := dk_45 (dk_at dksL_law_29 16 rfl rfl)
theorem dL_law_831 : decode cL_law 831 = .ok (.invokestatic 176, 3) := dk_184 0 176 (dk_at dksL_law_29 17 rfl rfl)
theorem dL_law_834 : decode cL_law 834 = .ok (.istore 6, 2) := dk_54 6 (dk_at dksL_law_29 20 rfl rfl)
theorem dL_law_836 : decode cL_law 836 = .ok (.aload_n 2, 1) := dk_44 (dk_at dksL_law_29 22 rfl rfl)
theorem dL_law_837 : decode cL_law 837 = .ok (.aload_n 0, 1) := dk_42 (dk_at dksL_law_29 23 rfl rfl)
theorem dL_law_838 : decode cL_law 838 = .ok (.iload 5, 2) := dk_21 5 (dk_at dksL_law_30 0 rfl rfl)
theorem dL_law_840 : decode cL_law 840 = .ok (.iconst 1, 1) := dk_4 (dk_at dksL_law_30 2 rfl rfl)
theorem dL_law_841 : decode cL_law 841 = .ok (.iadd, 1) := dk_96 (dk_at dksL_law_30 3 rfl rfl)
theorem dL_law_842 : decode cL_law 842 = .ok (.iaload, 1) := dk_46 (dk_at dksL_law_30 4 rfl rfl)
theorem dL_law_843 : decode cL_law 843 = .ok (.aload_n 0, 1) := dk_42 (dk_at dksL_law_30 5 rfl rfl)
theorem dL_law_844 : decode cL_law 844 = .ok (.iload 5, 2) := dk_21 5 (dk_at dksL_law_30 6 rfl rfl)
theorem dL_law_846 : decode cL_law 846 = .ok (.iconst 2, 1) := dk_5 (dk_at dksL_law_30 8 rfl rfl)
theorem dL_law_847 : decode cL_law 847 = .ok (.iadd, 1) := dk_96 (dk_at dksL_law_30 9 rfl rfl)
theorem dL_law_848 : decode cL_law 848 = .ok (.iaload, 1) := dk_46 (dk_at dksL_law_30 10 rfl rfl)
theorem dL_law_849 : decode cL_law 849 = .ok (.invokevirtual 178, 3) := dk_182 0 178 (dk_at dksL_law_30 11 rfl rfl)
theorem dL_law_852 : decode cL_law 852 = .ok (.istore 7, 2) := dk_54 7 (dk_at dksL_law_30 14 rfl rfl)
theorem dL_law_854 : decode cL_law 854 = .ok (.aload_n 2, 1) := dk_44 (dk_at dksL_law_30 16 rfl rfl)
theorem dL_law_855 : decode cL_law 855 = .ok (.invokevirtual 145, 3) := dk_182 0 145 (dk_at dksL_law_30 17 rfl rfl)
theorem dL_law_858 : decode cL_law 858 = .ok (.iload 6, 2) := dk_21 6 (dk_at dksL_law_30 20 rfl rfl)
theorem dL_law_860 : decode cL_law 860 = .ok (.if_icmp .eq 5, 3) := dk_159 0 5 (dk_at dksL_law_31 0 rfl rfl)
theorem dL_law_863 : decode cL_law 863 = .ok (.iconst 0, 1) := dk_3 (dk_at dksL_law_31 3 rfl rfl)
theorem dL_law_864 : decode cL_law 864 = .ok (.ireturn, 1) := dk_172 (dk_at dksL_law_31 4 rfl rfl)
theorem dL_law_865 : decode cL_law 865 = .ok (.iload 6, 2) := dk_21 6 (dk_at dksL_law_31 5 rfl rfl)
theorem dL_law_867 : decode cL_law 867 = .ok (.ifCond .ne 15, 3) := dk_154 0 15 (dk_at dksL_law_31 7 rfl rfl)
theorem dL_law_870 : decode cL_law 870 = .ok (.aload_n 3, 1) := dk_45 (dk_at dksL_law_31 10 rfl rfl)
theorem dL_law_871 : decode cL_law 871 = .ok (.iconst 0, 1) := dk_3 (dk_at dksL_law_31 11 rfl rfl)
theorem dL_law_872 : decode cL_law 872 = .ok (.laload, 1) := dk_47 (dk_at dksL_law_31 12 rfl rfl)
theorem dL_law_873 : decode cL_law 873 = .ok (.iload 7, 2) := dk_21 7 (dk_at dksL_law_31 13 rfl rfl)
theorem dL_law_875 : decode cL_law 875 = .ok (.i2l, 1) := dk_133 (dk_at dksL_law_31 15 rfl rfl)
theorem dL_law_876 : decode cL_law 876 = .ok (.lcmp, 1) := dk_148 (dk_at dksL_law_31 16 rfl rfl)
theorem dL_law_877 : decode cL_law 877 = .ok (.ifCond .eq 5, 3) := dk_153 0 5 (dk_at dksL_law_31 17 rfl rfl)
theorem dL_law_880 : decode cL_law 880 = .ok (.iconst 0, 1) := dk_3 (dk_at dksL_law_31 20 rfl rfl)
theorem dL_law_881 : decode cL_law 881 = .ok (.ireturn, 1) := dk_172 (dk_at dksL_law_31 21 rfl rfl)
theorem dL_law_882 : decode cL_law 882 = .ok (.goto 1352, 3) := dk_167 5 72 (dk_at dksL_law_32 0 rfl rfl)
theorem dL_law_885 : decode cL_law 885 = .ok (.aload_n 1, 1) := dk_43 (dk_at dksL_law_32 3 rfl rfl)
theorem dL_law_886 : decode cL_law 886 = .ok (.aload_n 0, 1) := dk_42 (dk_at dksL_law_32 4 rfl rfl)
theorem dL_law_887 : decode cL_law 887 = .ok (.iload 5, 2) := dk_21 5 (dk_at dksL_law_32 5 rfl rfl)
theorem dL_law_889 : decode cL_law 889 = .ok (.iconst 1, 1) := dk_4 (dk_at dksL_law_32 7 rfl rfl)
theorem dL_law_890 : decode cL_law 890 = .ok (.iadd, 1) := dk_96 (dk_at dksL_law_32 8 rfl rfl)
theorem dL_law_891 : decode cL_law 891 = .ok (.iaload, 1) := dk_46 (dk_at dksL_law_32 9 rfl rfl)
theorem dL_law_892 : decode cL_law 892 = .ok (.aload_n 0, 1) := dk_42 (dk_at dksL_law_32 10 rfl rfl)
theorem dL_law_893 : decode cL_law 893 = .ok (.iload 5, 2) := dk_21 5 (dk_at dksL_law_32 11 rfl rfl)
theorem dL_law_895 : decode cL_law 895 = .ok (.iconst 2, 1) := dk_5 (dk_at dksL_law_32 13 rfl rfl)
theorem dL_law_896 : decode cL_law 896 = .ok (.iadd, 1) := dk_96 (dk_at dksL_law_32 14 rfl rfl)
theorem dL_law_897 : decode cL_law 897 = .ok (.iaload, 1) := dk_46 (dk_at dksL_law_32 15 rfl rfl)
theorem dL_law_898 : decode cL_law 898 = .ok (.aload_n 0, 1) := dk_42 (dk_at dksL_law_32 16 rfl rfl)
theorem dL_law_899 : decode cL_law 899 = .ok (.iload 5, 2) := dk_21 5 (dk_at dksL_law_32 17 rfl rfl)
theorem dL_law_901 : decode cL_law 901 = .ok (.iconst 3, 1) := dk_6 (dk_at dksL_law_32 19 rfl rfl)
theorem dL_law_902 : decode cL_law 902 = .ok (.iadd, 1) := dk_96 (dk_at dksL_law_32 20 rfl rfl)
theorem dL_law_903 : decode cL_law 903 = .ok (.iaload, 1) := dk_46 (dk_at dksL_law_32 21 rfl rfl)
theorem dL_law_904 : decode cL_law 904 = .ok (.aload_n 3, 1) := dk_45 (dk_at dksL_law_32 22 rfl rfl)
theorem dL_law_905 : decode cL_law 905 = .ok (.invokestatic 179, 3) := dk_184 0 179 (dk_at dksL_law_33 0 rfl rfl)
theorem dL_law_908 : decode cL_law 908 = .ok (.istore 6, 2) := dk_54 6 (dk_at dksL_law_33 3 rfl rfl)
theorem dL_law_910 : decode cL_law 910 = .ok (.aload_n 2, 1) := dk_44 (dk_at dksL_law_33 5 rfl rfl)
theorem dL_law_911 : decode cL_law 911 = .ok (.aload_n 0, 1) := dk_42 (dk_at dksL_law_33 6 rfl rfl)
theorem dL_law_912 : decode cL_law 912 = .ok (.iload 5, 2) := dk_21 5 (dk_at dksL_law_33 7 rfl rfl)
theorem dL_law_914 : decode cL_law 914 = .ok (.iconst 1, 1) := dk_4 (dk_at dksL_law_33 9 rfl rfl)
theorem dL_law_915 : decode cL_law 915 = .ok (.iadd, 1) := dk_96 (dk_at dksL_law_33 10 rfl rfl)
theorem dL_law_916 : decode cL_law 916 = .ok (.iaload, 1) := dk_46 (dk_at dksL_law_33 11 rfl rfl)
theorem dL_law_917 : decode cL_law 917 = .ok (.aload_n 0, 1) := dk_42 (dk_at dksL_law_33 12 rfl rfl)
theorem dL_law_918 : decode cL_law 918 = .ok (.iload 5, 2) := dk_21 5 (dk_at dksL_law_33 13 rfl rfl)
theorem dL_law_920 : decode cL_law 920 = .ok (.iconst 2, 1) := dk_5 (dk_at dksL_law_33 15 rfl rfl)
theorem dL_law_921 : decode cL_law 921 = .ok (.iadd, 1) := dk_96 (dk_at dksL_law_33 16 rfl rfl)
theorem dL_law_922 : decode cL_law 922 = .ok (.iaload, 1) := dk_46 (dk_at dksL_law_33 17 rfl rfl)
theorem dL_law_923 : decode cL_law 923 = .ok (.aload_n 0, 1) := dk_42 (dk_at dksL_law_33 18 rfl rfl)
theorem dL_law_924 : decode cL_law 924 = .ok (.iload 5, 2) := dk_21 5 (dk_at dksL_law_33 19 rfl rfl)
theorem dL_law_926 : decode cL_law 926 = .ok (.iconst 3, 1) := dk_6 (dk_at dksL_law_33 21 rfl rfl)
theorem dL_law_927 : decode cL_law 927 = .ok (.iadd, 1) := dk_96 (dk_at dksL_law_33 22 rfl rfl)
theorem dL_law_928 : decode cL_law 928 = .ok (.iaload, 1) := dk_46 (dk_at dksL_law_33 23 rfl rfl)
theorem dL_law_929 : decode cL_law 929 = .ok (.invokevirtual 182, 3) := dk_182 0 182 (dk_at dksL_law_34 0 rfl rfl)
theorem dL_law_932 : decode cL_law 932 = .ok (.istore 7, 2) := dk_54 7 (dk_at dksL_law_34 3 rfl rfl)
theorem dL_law_934 : decode cL_law 934 = .ok (.aload_n 2, 1) := dk_44 (dk_at dksL_law_34 5 rfl rfl)
theorem dL_law_935 : decode cL_law 935 = .ok (.invokevirtual 145, 3) := dk_182 0 145 (dk_at dksL_law_34 6 rfl rfl)
theorem dL_law_938 : decode cL_law 938 = .ok (.iload 6, 2) := dk_21 6 (dk_at dksL_law_34 9 rfl rfl)
theorem dL_law_940 : decode cL_law 940 = .ok (.if_icmp .eq 5, 3) := dk_159 0 5 (dk_at dksL_law_34 11 rfl rfl)
theorem dL_law_943 : decode cL_law 943 = .ok (.iconst 0, 1) := dk_3 (dk_at dksL_law_34 14 rfl rfl)
theorem dL_law_944 : decode cL_law 944 = .ok (.ireturn, 1) := dk_172 (dk_at dksL_law_34 15 rfl rfl)
theorem dL_law_945 : decode cL_law 945 = .ok (.iload 6, 2) := dk_21 6 (dk_at dksL_law_34 16 rfl rfl)
theorem dL_law_947 : decode cL_law 947 = .ok (.ifCond .ne 15, 3) := dk_154 0 15 (dk_at dksL_law_34 18 rfl rfl)
theorem dL_law_950 : decode cL_law 950 = .ok (.aload_n 3, 1) := dk_45 (dk_at dksL_law_34 21 rfl rfl)
theorem dL_law_951 : decode cL_law 951 = .ok (.iconst 0, 1) := dk_3 (dk_at dksL_law_34 22 rfl rfl)
theorem dL_law_952 : decode cL_law 952 = .ok (.laload, 1) := dk_47 (dk_at dksL_law_34 23 rfl rfl)
theorem dL_law_953 : decode cL_law 953 = .ok (.iload 7, 2) := dk_21 7 (dk_at dksL_law_35 0 rfl rfl)
theorem dL_law_955 : decode cL_law 955 = .ok (.i2l, 1) := dk_133 (dk_at dksL_law_35 2 rfl rfl)
theorem dL_law_956 : decode cL_law 956 = .ok (.lcmp, 1) := dk_148 (dk_at dksL_law_35 3 rfl rfl)
theorem dL_law_957 : decode cL_law 957 = .ok (.ifCond .eq 5, 3) := dk_153 0 5 (dk_at dksL_law_35 4 rfl rfl)
theorem dL_law_960 : decode cL_law 960 = .ok (.iconst 0, 1) := dk_3 (dk_at dksL_law_35 7 rfl rfl)
theorem dL_law_961 : decode cL_law 961 = .ok (.ireturn, 1) := dk_172 (dk_at dksL_law_35 8 rfl rfl)
theorem dL_law_962 : decode cL_law 962 = .ok (.goto 1272, 3) := dk_167 4 248 (dk_at dksL_law_35 9 rfl rfl)
theorem dL_law_965 : decode cL_law 965 = .ok (.aload_n 1, 1) := dk_43 (dk_at dksL_law_35 12 rfl rfl)
theorem dL_law_966 : decode cL_law 966 = .ok (.aload_n 0, 1) := dk_42 (dk_at dksL_law_35 13 rfl rfl)
theorem dL_law_967 : decode cL_law 967 = .ok (.iload 5, 2) := dk_21 5 (dk_at dksL_law_35 14 rfl rfl)
theorem dL_law_969 : decode cL_law 969 = .ok (.iconst 1, 1) := dk_4 (dk_at dksL_law_35 16 rfl rfl)
theorem dL_law_970 : decode cL_law 970 = .ok (.iadd, 1) := dk_96 (dk_at dksL_law_35 17 rfl rfl)
theorem dL_law_971 : decode cL_law 971 = .ok (.iaload, 1) := dk_46 (dk_at dksL_law_35 18 rfl rfl)
theorem dL_law_972 : decode cL_law 972 = .ok (.aload_n 0, 1) := dk_42 (dk_at dksL_law_35 19 rfl rfl)
theorem dL_law_973 : decode cL_law 973 = .ok (.iload 5, 2) := dk_21 5 (dk_at dksL_law_35 20 rfl rfl)
theorem dL_law_975 : decode cL_law 975 = .ok (.iconst 2, 1) := dk_5 (dk_at dksL_law_35 22 rfl rfl)
theorem dL_law_976 : decode cL_law 976 = .ok (.iadd, 1) := dk_96 (dk_at dksL_law_35 23 rfl rfl)
theorem dL_law_977 : decode cL_law 977 = .ok (.iaload, 1) := dk_46 (dk_at dksL_law_36 0 rfl rfl)
theorem dL_law_978 : decode cL_law 978 = .ok (.aload_n 3, 1) := dk_45 (dk_at dksL_law_36 1 rfl rfl)
theorem dL_law_979 : decode cL_law 979 = .ok (.invokestatic 183, 3) := dk_184 0 183 (dk_at dksL_law_36 2 rfl rfl)
theorem dL_law_982 : decode cL_law 982 = .ok (.istore 6, 2) := dk_54 6 (dk_at dksL_law_36 5 rfl rfl)
theorem dL_law_984 : decode cL_law 984 = .ok (.aload_n 2, 1) := dk_44 (dk_at dksL_law_36 7 rfl rfl)
theorem dL_law_985 : decode cL_law 985 = .ok (.aload_n 0, 1) := dk_42 (dk_at dksL_law_36 8 rfl rfl)
theorem dL_law_986 : decode cL_law 986 = .ok (.iload 5, 2) := dk_21 5 (dk_at dksL_law_36 9 rfl rfl)
theorem dL_law_988 : decode cL_law 988 = .ok (.iconst 1, 1) := dk_4 (dk_at dksL_law_36 11 rfl rfl)
theorem dL_law_989 : decode cL_law 989 = .ok (.iadd, 1) := dk_96 (dk_at dksL_law_36 12 rfl rfl)
theorem dL_law_990 : decode cL_law 990 = .ok (.iaload, 1) := dk_46 (dk_at dksL_law_36 13 rfl rfl)
theorem dL_law_991 : decode cL_law 991 = .ok (.aload_n 0, 1) := dk_42 (dk_at dksL_law_36 14 rfl rfl)
theorem dL_law_992 : decode cL_law 992 = .ok (.iload 5, 2) := dk_21 5 (dk_at dksL_law_36 15 rfl rfl)
theorem dL_law_994 : decode cL_law 994 = .ok (.iconst 2, 1) := dk_5 (dk_at dksL_law_36 17 rfl rfl)
theorem dL_law_995 : decode cL_law 995 = .ok (.iadd, 1) := dk_96 (dk_at dksL_law_36 18 rfl rfl)
theorem dL_law_996 : decode cL_law 996 = .ok (.iaload, 1) := dk_46 (dk_at dksL_law_36 19 rfl rfl)
theorem dL_law_997 : decode cL_law 997 = .ok (.invokevirtual 185, 3) := dk_182 0 185 (dk_at dksL_law_36 20 rfl rfl)
theorem dL_law_1000 : decode cL_law 1000 = .ok (.istore 7, 2) := dk_54 7 (dk_at dksL_law_37 0 rfl rfl)
theorem dL_law_1002 : decode cL_law 1002 = .ok (.aload_n 2, 1) := dk_44 (dk_at dksL_law_37 2 rfl rfl)
theorem dL_law_1003 : decode cL_law 1003 = .ok (.invokevirtual 145, 3) := dk_182 0 145 (dk_at dksL_law_37 3 rfl rfl)
theorem dL_law_1006 : decode cL_law 1006 = .ok (.iload 6, 2) := dk_21 6 (dk_at dksL_law_37 6 rfl rfl)
theorem dL_law_1008 : decode cL_law 1008 = .ok (.if_icmp .eq 5, 3) := dk_159 0 5 (dk_at dksL_law_37 8 rfl rfl)
theorem dL_law_1011 : decode cL_law 1011 = .ok (.iconst 0, 1) := dk_3 (dk_at dksL_law_37 11 rfl rfl)
theorem dL_law_1012 : decode cL_law 1012 = .ok (.ireturn, 1) := dk_172 (dk_at dksL_law_37 12 rfl rfl)
theorem dL_law_1013 : decode cL_law 1013 = .ok (.iload 6, 2) := dk_21 6 (dk_at dksL_law_37 13 rfl rfl)
theorem dL_law_1015 : decode cL_law 1015 = .ok (.ifCond .ne 15, 3) := dk_154 0 15 (dk_at dksL_law_37 15 rfl rfl)
theorem dL_law_1018 : decode cL_law 1018 = .ok (.aload_n 3, 1) := dk_45 (dk_at dksL_law_37 18 rfl rfl)
theorem dL_law_1019 : decode cL_law 1019 = .ok (.iconst 0, 1) := dk_3 (dk_at dksL_law_37 19 rfl rfl)
theorem dL_law_1020 : decode cL_law 1020 = .ok (.laload, 1) := dk_47 (dk_at dksL_law_37 20 rfl rfl)
theorem dL_law_1021 : decode cL_law 1021 = .ok (.iload 7, 2) := dk_21 7 (dk_at dksL_law_37 21 rfl rfl)
theorem dL_law_1023 : decode cL_law 1023 = .ok (.i2l, 1) := dk_133 (dk_at dksL_law_37 23 rfl rfl)
theorem dL_law_1024 : decode cL_law 1024 = .ok (.lcmp, 1) := dk_148 (dk_at dksL_law_38 0 rfl rfl)
theorem dL_law_1025 : decode cL_law 1025 = .ok (.ifCond .eq 5, 3) := dk_153 0 5 (dk_at dksL_law_38 1 rfl rfl)
theorem dL_law_1028 : decode cL_law 1028 = .ok (.iconst 0, 1) := dk_3 (dk_at dksL_law_38 4 rfl rfl)
theorem dL_law_1029 : decode cL_law 1029 = .ok (.ireturn, 1) := dk_172 (dk_at dksL_law_38 5 rfl rfl)
theorem dL_law_1030 : decode cL_law 1030 = .ok (.goto 1204, 3) := dk_167 4 180 (dk_at dksL_law_38 6 rfl rfl)
theorem dL_law_1033 : decode cL_law 1033 = .ok (.aload_n 1, 1) := dk_43 (dk_at dksL_law_38 9 rfl rfl)
theorem dL_law_1034 : decode cL_law 1034 = .ok (.aload_n 3, 1) := dk_45 (dk_at dksL_law_38 10 rfl rfl)
theorem dL_law_1035 : decode cL_law 1035 = .ok (.invokestatic 186, 3) := dk_184 0 186 (dk_at dksL_law_38 11 rfl rfl)
theorem dL_law_1038 : decode cL_law 1038 = .ok (.istore 6, 2) := dk_54 6 (dk_at dksL_law_38 14 rfl rfl)
theorem dL_law_1040 : decode cL_law 1040 = .ok (.aload_n 2, 1) := dk_44 (dk_at dksL_law_38 16 rfl rfl)
theorem dL_law_1041 : decode cL_law 1041 = .ok (.invokevirtual 189, 3) := dk_182 0 189 (dk_at dksL_law_38 17 rfl rfl)
theorem dL_law_1044 : decode cL_law 1044 = .ok (.istore 7, 2) := dk_54 7 (dk_at dksL_law_38 20 rfl rfl)
theorem dL_law_1046 : decode cL_law 1046 = .ok (.aload_n 2, 1) := dk_44 (dk_at dksL_law_38 22 rfl rfl)
theorem dL_law_1047 : decode cL_law 1047 = .ok (.invokevirtual 145, 3) := dk_182 0 145 (dk_at dksL_law_39 0 rfl rfl)
theorem dL_law_1050 : decode cL_law 1050 = .ok (.iload 6, 2) := dk_21 6 (dk_at dksL_law_39 3 rfl rfl)
theorem dL_law_1052 : decode cL_law 1052 = .ok (.if_icmp .eq 5, 3) := dk_159 0 5 (dk_at dksL_law_39 5 rfl rfl)
theorem dL_law_1055 : decode cL_law 1055 = .ok (.iconst 0, 1) := dk_3 (dk_at dksL_law_39 8 rfl rfl)
theorem dL_law_1056 : decode cL_law 1056 = .ok (.ireturn, 1) := dk_172 (dk_at dksL_law_39 9 rfl rfl)
theorem dL_law_1057 : decode cL_law 1057 = .ok (.iload 6, 2) := dk_21 6 (dk_at dksL_law_39 10 rfl rfl)
theorem dL_law_1059 : decode cL_law 1059 = .ok (.ifCond .ne 15, 3) := dk_154 0 15 (dk_at dksL_law_39 12 rfl rfl)
theorem dL_law_1062 : decode cL_law 1062 = .ok (.aload_n 3, 1) := dk_45 (dk_at dksL_law_39 15 rfl rfl)
theorem dL_law_1063 : decode cL_law 1063 = .ok (.iconst 0, 1) := dk_3 (dk_at dksL_law_39 16 rfl rfl)
theorem dL_law_1064 : decode cL_law 1064 = .ok (.laload, 1) := dk_47 (dk_at dksL_law_39 17 rfl rfl)
theorem dL_law_1065 : decode cL_law 1065 = .ok (.iload 7, 2) := dk_21 7 (dk_at dksL_law_39 18 rfl rfl)
theorem dL_law_1067 : decode cL_law 1067 = .ok (.i2l, 1) := dk_133 (dk_at dksL_law_39 20 rfl rfl)
theorem dL_law_1068 : decode cL_law 1068 = .ok (.lcmp, 1) := dk_148 (dk_at dksL_law_39 21 rfl rfl)
theorem dL_law_1069 : decode cL_law 1069 = .ok (.ifCond .eq 5, 3) := dk_153 0 5 (dk_at dksL_law_40 0 rfl rfl)
theorem dL_law_1072 : decode cL_law 1072 = .ok (.iconst 0, 1) := dk_3 (dk_at dksL_law_40 3 rfl rfl)
theorem dL_law_1073 : decode cL_law 1073 = .ok (.ireturn, 1) := dk_172 (dk_at dksL_law_40 4 rfl rfl)
theorem dL_law_1074 : decode cL_law 1074 = .ok (.goto 1160, 3) := dk_167 4 136 (dk_at dksL_law_40 5 rfl rfl)
theorem dL_law_1077 : decode cL_law 1077 = .ok (.aload_n 1, 1) := dk_43 (dk_at dksL_law_40 8 rfl rfl)
theorem dL_law_1078 : decode cL_law 1078 = .ok (.aload_n 0, 1) := dk_42 (dk_at dksL_law_40 9 rfl rfl)
theorem dL_law_1079 : decode cL_law 1079 = .ok (.iload 5, 2) := dk_21 5 (dk_at dksL_law_40 10 rfl rfl)
theorem dL_law_1081 : decode cL_law 1081 = .ok (.iconst 1, 1) := dk_4 (dk_at dksL_law_40 12 rfl rfl)
theorem dL_law_1082 : decode cL_law 1082 = .ok (.iadd, 1) := dk_96 (dk_at dksL_law_40 13 rfl rfl)
theorem dL_law_1083 : decode cL_law 1083 = .ok (.iaload, 1) := dk_46 (dk_at dksL_law_40 14 rfl rfl)
theorem dL_law_1084 : decode cL_law 1084 = .ok (.aload_n 3, 1) := dk_45 (dk_at dksL_law_40 15 rfl rfl)
theorem dL_law_1085 : decode cL_law 1085 = .ok (.invokestatic 190, 3) := dk_184 0 190 (dk_at dksL_law_40 16 rfl rfl)
theorem dL_law_1088 : decode cL_law 1088 = .ok (.istore 6, 2) := dk_54 6 (dk_at dksL_law_40 19 rfl rfl)
theorem dL_law_1090 : decode cL_law 1090 = .ok (.aload_n 2, 1) := dk_44 (dk_at dksL_law_40 21 rfl rfl)
theorem dL_law_1091 : decode cL_law 1091 = .ok (.aload_n 0, 1) := dk_42 (dk_at dksL_law_40 22 rfl rfl)
theorem dL_law_1092 : decode cL_law 1092 = .ok (.iload 5, 2) := dk_21 5 (dk_at dksL_law_41 0 rfl rfl)
theorem dL_law_1094 : decode cL_law 1094 = .ok (.iconst 1, 1) := dk_4 (dk_at dksL_law_41 2 rfl rfl)
theorem dL_law_1095 : decode cL_law 1095 = .ok (.iadd, 1) := dk_96 (dk_at dksL_law_41 3 rfl rfl)
theorem dL_law_1096 : decode cL_law 1096 = .ok (.iaload, 1) := dk_46 (dk_at dksL_law_41 4 rfl rfl)
theorem dL_law_1097 : decode cL_law 1097 = .ok (.invokevirtual 192, 3) := dk_182 0 192 (dk_at dksL_law_41 5 rfl rfl)
theorem dL_law_1100 : decode cL_law 1100 = .ok (.istore 7, 2) := dk_54 7 (dk_at dksL_law_41 8 rfl rfl)
theorem dL_law_1102 : decode cL_law 1102 = .ok (.aload_n 2, 1) := dk_44 (dk_at dksL_law_41 10 rfl rfl)
theorem dL_law_1103 : decode cL_law 1103 = .ok (.invokevirtual 145, 3) := dk_182 0 145 (dk_at dksL_law_41 11 rfl rfl)
theorem dL_law_1106 : decode cL_law 1106 = .ok (.iload 6, 2) := dk_21 6 (dk_at dksL_law_41 14 rfl rfl)
theorem dL_law_1108 : decode cL_law 1108 = .ok (.if_icmp .eq 5, 3) := dk_159 0 5 (dk_at dksL_law_41 16 rfl rfl)
theorem dL_law_1111 : decode cL_law 1111 = .ok (.iconst 0, 1) := dk_3 (dk_at dksL_law_41 19 rfl rfl)
theorem dL_law_1112 : decode cL_law 1112 = .ok (.ireturn, 1) := dk_172 (dk_at dksL_law_41 20 rfl rfl)
theorem dL_law_1113 : decode cL_law 1113 = .ok (.iload 6, 2) := dk_21 6 (dk_at dksL_law_41 21 rfl rfl)
theorem dL_law_1115 : decode cL_law 1115 = .ok (.ifCond .ne 15, 3) := dk_154 0 15 (dk_at dksL_law_42 0 rfl rfl)
theorem dL_law_1118 : decode cL_law 1118 = .ok (.aload_n 3, 1) := dk_45 (dk_at dksL_law_42 3 rfl rfl)
theorem dL_law_1119 : decode cL_law 1119 = .ok (.iconst 0, 1) := dk_3 (dk_at dksL_law_42 4 rfl rfl)
theorem dL_law_1120 : decode cL_law 1120 = .ok (.laload, 1) := dk_47 (dk_at dksL_law_42 5 rfl rfl)
theorem dL_law_1121 : decode cL_law 1121 = .ok (.iload 7, 2) := dk_21 7 (dk_at dksL_law_42 6 rfl rfl)
theorem dL_law_1123 : decode cL_law 1123 = .ok (.i2l, 1) := dk_133 (dk_at dksL_law_42 8 rfl rfl)
theorem dL_law_1124 : decode cL_law 1124 = .ok (.lcmp, 1) := dk_148 (dk_at dksL_law_42 9 rfl rfl)
theorem dL_law_1125 : decode cL_law 1125 = .ok (.ifCond .eq 5, 3) := dk_153 0 5 (dk_at dksL_law_42 10 rfl rfl)
theorem dL_law_1128 : decode cL_law 1128 = .ok (.iconst 0, 1) := dk_3 (dk_at dksL_law_42 13 rfl rfl)
theorem dL_law_1129 : decode cL_law 1129 = .ok (.ireturn, 1) := dk_172 (dk_at dksL_law_42 14 rfl rfl)
theorem dL_law_1130 : decode cL_law 1130 = .ok (.goto 1104, 3) := dk_167 4 80 (dk_at dksL_law_42 15 rfl rfl)
theorem dL_law_1133 : decode cL_law 1133 = .ok (.aload_n 1, 1) := dk_43 (dk_at dksL_law_42 18 rfl rfl)
theorem dL_law_1134 : decode cL_law 1134 = .ok (.aload_n 0, 1) := dk_42 (dk_at dksL_law_42 19 rfl rfl)
theorem dL_law_1135 : decode cL_law 1135 = .ok (.iload 5, 2) := dk_21 5 (dk_at dksL_law_42 20 rfl rfl)
theorem dL_law_1137 : decode cL_law 1137 = .ok (.iconst 1, 1) := dk_4 (dk_at dksL_law_42 22 rfl rfl)
theorem dL_law_1138 : decode cL_law 1138 = .ok (.iadd, 1) := dk_96 (dk_at dksL_law_42 23 rfl rfl)
theorem dL_law_1139 : decode cL_law 1139 = .ok (.iaload, 1) := dk_46 (dk_at dksL_law_43 0 rfl rfl)
theorem dL_law_1140 : decode cL_law 1140 = .ok (.aload_n 0, 1) := dk_42 (dk_at dksL_law_43 1 rfl rfl)
theorem dL_law_1141 : decode cL_law 1141 = .ok (.iload 5, 2) := dk_21 5 (dk_at dksL_law_43 2 rfl rfl)
theorem dL_law_1143 : decode cL_law 1143 = .ok (.iconst 2, 1) := dk_5 (dk_at dksL_law_43 4 rfl rfl)
theorem dL_law_1144 : decode cL_law 1144 = .ok (.iadd, 1) := dk_96 (dk_at dksL_law_43 5 rfl rfl)
theorem dL_law_1145 : decode cL_law 1145 = .ok (.iaload, 1) := dk_46 (dk_at dksL_law_43 6 rfl rfl)
theorem dL_law_1146 : decode cL_law 1146 = .ok (.aload_n 3, 1) := dk_45 (dk_at dksL_law_43 7 rfl rfl)
theorem dL_law_1147 : decode cL_law 1147 = .ok (.invokestatic 193, 3) := dk_184 0 193 (dk_at dksL_law_43 8 rfl rfl)
theorem dL_law_1150 : decode cL_law 1150 = .ok (.istore 6, 2) := dk_54 6 (dk_at dksL_law_43 11 rfl rfl)
theorem dL_law_1152 : decode cL_law 1152 = .ok (.aload_n 2, 1) := dk_44 (dk_at dksL_law_43 13 rfl rfl)
theorem dL_law_1153 : decode cL_law 1153 = .ok (.aload_n 0, 1) := dk_42 (dk_at dksL_law_43 14 rfl rfl)
theorem dL_law_1154 : decode cL_law 1154 = .ok (.iload 5, 2) := dk_21 5 (dk_at dksL_law_43 15 rfl rfl)
theorem dL_law_1156 : decode cL_law 1156 = .ok (.iconst 1, 1) := dk_4 (dk_at dksL_law_43 17 rfl rfl)
theorem dL_law_1157 : decode cL_law 1157 = .ok (.iadd, 1) := dk_96 (dk_at dksL_law_43 18 rfl rfl)
theorem dL_law_1158 : decode cL_law 1158 = .ok (.iaload, 1) := dk_46 (dk_at dksL_law_43 19 rfl rfl)
theorem dL_law_1159 : decode cL_law 1159 = .ok (.aload_n 0, 1) := dk_42 (dk_at dksL_law_43 20 rfl rfl)
theorem dL_law_1160 : decode cL_law 1160 = .ok (.iload 5, 2) := dk_21 5 (dk_at dksL_law_43 21 rfl rfl)
theorem dL_law_1162 : decode cL_law 1162 = .ok (.iconst 2, 1) := dk_5 (dk_at dksL_law_43 23 rfl rfl)
theorem dL_law_1163 : decode cL_law 1163 = .ok (.iadd, 1) := dk_96 (dk_at dksL_law_44 0 rfl rfl)
theorem dL_law_1164 : decode cL_law 1164 = .ok (.iaload, 1) := dk_46 (dk_at dksL_law_44 1 rfl rfl)
theorem dL_law_1165 : decode cL_law 1165 = .ok (.invokevirtual 195, 3) := dk_182 0 195 (dk_at dksL_law_44 2 rfl rfl)
theorem dL_law_1168 : decode cL_law 1168 = .ok (.istore 7, 2) := dk_54 7 (dk_at dksL_law_44 5 rfl rfl)
theorem dL_law_1170 : decode cL_law 1170 = .ok (.aload_n 2, 1) := dk_44 (dk_at dksL_law_44 7 rfl rfl)
theorem dL_law_1171 : decode cL_law 1171 = .ok (.invokevirtual 145, 3) := dk_182 0 145 (dk_at dksL_law_44 8 rfl rfl)
theorem dL_law_1174 : decode cL_law 1174 = .ok (.iload 6, 2) := dk_21 6 (dk_at dksL_law_44 11 rfl rfl)
theorem dL_law_1176 : decode cL_law 1176 = .ok (.if_icmp .eq 5, 3) := dk_159 0 5 (dk_at dksL_law_44 13 rfl rfl)
theorem dL_law_1179 : decode cL_law 1179 = .ok (.iconst 0, 1) := dk_3 (dk_at dksL_law_44 16 rfl rfl)
theorem dL_law_1180 : decode cL_law 1180 = .ok (.ireturn, 1) := dk_172 (dk_at dksL_law_44 17 rfl rfl)
theorem dL_law_1181 : decode cL_law 1181 = .ok (.iload 6, 2) := dk_21 6 (dk_at dksL_law_44 18 rfl rfl)
theorem dL_law_1183 : decode cL_law 1183 = .ok (.ifCond .ne 15, 3) := dk_154 0 15 (dk_at dksL_law_44 20 rfl rfl)
theorem dL_law_1186 : decode cL_law 1186 = .ok (.aload_n 3, 1) := dk_45 (dk_at dksL_law_44 23 rfl rfl)
theorem dL_law_1187 : decode cL_law 1187 = .ok (.iconst 0, 1) := dk_3 (dk_at dksL_law_45 0 rfl rfl)
theorem dL_law_1188 : decode cL_law 1188 = .ok (.laload, 1) := dk_47 (dk_at dksL_law_45 1 rfl rfl)
theorem dL_law_1189 : decode cL_law 1189 = .ok (.iload 7, 2) := dk_21 7 (dk_at dksL_law_45 2 rfl rfl)
theorem dL_law_1191 : decode cL_law 1191 = .ok (.i2l, 1) := dk_133 (dk_at dksL_law_45 4 rfl rfl)
theorem dL_law_1192 : decode cL_law 1192 = .ok (.lcmp, 1) := dk_148 (dk_at dksL_law_45 5 rfl rfl)
theorem dL_law_1193 : decode cL_law 1193 = .ok (.ifCond .eq 5, 3) := dk_153 0 5 (dk_at dksL_law_45 6 rfl rfl)
theorem dL_law_1196 : decode cL_law 1196 = .ok (.iconst 0, 1) := dk_3 (dk_at dksL_law_45 9 rfl rfl)
theorem dL_law_1197 : decode cL_law 1197 = .ok (.ireturn, 1) := dk_172 (dk_at dksL_law_45 10 rfl rfl)
theorem dL_law_1198 : decode cL_law 1198 = .ok (.goto 1036, 3) := dk_167 4 12 (dk_at dksL_law_45 11 rfl rfl)
theorem dL_law_1201 : decode cL_law 1201 = .ok (.aload_n 1, 1) := dk_43 (dk_at dksL_law_45 14 rfl rfl)
theorem dL_law_1202 : decode cL_law 1202 = .ok (.aload_n 0, 1) := dk_42 (dk_at dksL_law_45 15 rfl rfl)
theorem dL_law_1203 : decode cL_law 1203 = .ok (.iload 5, 2) := dk_21 5 (dk_at dksL_law_45 16 rfl rfl)
theorem dL_law_1205 : decode cL_law 1205 = .ok (.iconst 1, 1) := dk_4 (dk_at dksL_law_45 18 rfl rfl)
theorem dL_law_1206 : decode cL_law 1206 = .ok (.iadd, 1) := dk_96 (dk_at dksL_law_45 19 rfl rfl)
theorem dL_law_1207 : decode cL_law 1207 = .ok (.iaload, 1) := dk_46 (dk_at dksL_law_45 20 rfl rfl)
theorem dL_law_1208 : decode cL_law 1208 = .ok (.aload_n 0, 1) := dk_42 (dk_at dksL_law_45 21 rfl rfl)
theorem dL_law_1209 : decode cL_law 1209 = .ok (.iload 5, 2) := dk_21 5 (dk_at dksL_law_45 22 rfl rfl)
theorem dL_law_1211 : decode cL_law 1211 = .ok (.iconst 2, 1) := dk_5 (dk_at dksL_law_46 0 rfl rfl)
theorem dL_law_1212 : decode cL_law 1212 = .ok (.iadd, 1) := dk_96 (dk_at dksL_law_46 1 rfl rfl)
theorem dL_law_1213 : decode cL_law 1213 = .ok (.iaload, 1) := dk_46 (dk_at dksL_law_46 2 rfl rfl)
theorem dL_law_1214 : decode cL_law 1214 = .ok (.aload_n 3, 1) := dk_45 (dk_at dksL_law_46 3 rfl rfl)
theorem dL_law_1215 : decode cL_law 1215 = .ok (.invokestatic 196, 3) := dk_184 0 196 (dk_at dksL_law_46 4 rfl rfl)
theorem dL_law_1218 : decode cL_law 1218 = .ok (.istore 6, 2) := dk_54 6 (dk_at dksL_law_46 7 rfl rfl)
theorem dL_law_1220 : decode cL_law 1220 = .ok (.aload_n 2, 1) := dk_44 (dk_at dksL_law_46 9 rfl rfl)
theorem dL_law_1221 : decode cL_law 1221 = .ok (.aload_n 0, 1) := dk_42 (dk_at dksL_law_46 10 rfl rfl)
theorem dL_law_1222 : decode cL_law 1222 = .ok (.iload 5, 2) := dk_21 5 (dk_at dksL_law_46 11 rfl rfl)
theorem dL_law_1224 : decode cL_law 1224 = .ok (.iconst 1, 1) := dk_4 (dk_at dksL_law_46 13 rfl rfl)
theorem dL_law_1225 : decode cL_law 1225 = .ok (.iadd, 1) := dk_96 (dk_at dksL_law_46 14 rfl rfl)
theorem dL_law_1226 : decode cL_law 1226 = .ok (.iaload, 1) := dk_46 (dk_at dksL_law_46 15 rfl rfl)
theorem dL_law_1227 : decode cL_law 1227 = .ok (.aload_n 0, 1) := dk_42 (dk_at dksL_law_46 16 rfl rfl)
theorem dL_law_1228 : decode cL_law 1228 = .ok (.iload 5, 2) := dk_21 5 (dk_at dksL_law_46 17 rfl rfl)
theorem dL_law_1230 : decode cL_law 1230 = .ok (.iconst 2, 1) := dk_5 (dk_at dksL_law_46 19 rfl rfl)
theorem dL_law_1231 : decode cL_law 1231 = .ok (.iadd, 1) := dk_96 (dk_at dksL_law_46 20 rfl rfl)
theorem dL_law_1232 : decode cL_law 1232 = .ok (.iaload, 1) := dk_46 (dk_at dksL_law_46 21 rfl rfl)
theorem dL_law_1233 : decode cL_law 1233 = .ok (.invokevirtual 198, 3) := dk_182 0 198 (dk_at dksL_law_47 0 rfl rfl)
theorem dL_law_1236 : decode cL_law 1236 = .ok (.istore 7, 2) := dk_54 7 (dk_at dksL_law_47 3 rfl rfl)
theorem dL_law_1238 : decode cL_law 1238 = .ok (.aload_n 2, 1) := dk_44 (dk_at dksL_law_47 5 rfl rfl)
theorem dL_law_1239 : decode cL_law 1239 = .ok (.invokevirtual 145, 3) := dk_182 0 145 (dk_at dksL_law_47 6 rfl rfl)
theorem dL_law_1242 : decode cL_law 1242 = .ok (.iload 6, 2) := dk_21 6 (dk_at dksL_law_47 9 rfl rfl)
theorem dL_law_1244 : decode cL_law 1244 = .ok (.if_icmp .eq 5, 3) := dk_159 0 5 (dk_at dksL_law_47 11 rfl rfl)
theorem dL_law_1247 : decode cL_law 1247 = .ok (.iconst 0, 1) := dk_3 (dk_at dksL_law_47 14 rfl rfl)
theorem dL_law_1248 : decode cL_law 1248 = .ok (.ireturn, 1) := dk_172 (dk_at dksL_law_47 15 rfl rfl)
theorem dL_law_1249 : decode cL_law 1249 = .ok (.iload 6, 2) := dk_21 6 (dk_at dksL_law_47 16 rfl rfl)
theorem dL_law_1251 : decode cL_law 1251 = .ok (.ifCond .ne 15, 3) := dk_154 0 15 (dk_at dksL_law_47 18 rfl rfl)
theorem dL_law_1254 : decode cL_law 1254 = .ok (.aload_n 3, 1) := dk_45 (dk_at dksL_law_47 21 rfl rfl)
theorem dL_law_1255 : decode cL_law 1255 = .ok (.iconst 0, 1) := dk_3 (dk_at dksL_law_47 22 rfl rfl)
theorem dL_law_1256 : decode cL_law 1256 = .ok (.laload, 1) := dk_47 (dk_at dksL_law_47 23 rfl rfl)
theorem dL_law_1257 : decode cL_law 1257 = .ok (.iload 7, 2) := dk_21 7 (dk_at dksL_law_48 0 rfl rfl)
theorem dL_law_1259 : decode cL_law 1259 = .ok (.i2l, 1) := dk_133 (dk_at dksL_law_48 2 rfl rfl)
theorem dL_law_1260 : decode cL_law 1260 = .ok (.lcmp, 1) := dk_148 (dk_at dksL_law_48 3 rfl rfl)
theorem dL_law_1261 : decode cL_law 1261 = .ok (.ifCond .eq 5, 3) := dk_153 0 5 (dk_at dksL_law_48 4 rfl rfl)
theorem dL_law_1264 : decode cL_law 1264 = .ok (.iconst 0, 1) := dk_3 (dk_at dksL_law_48 7 rfl rfl)
theorem dL_law_1265 : decode cL_law 1265 = .ok (.ireturn, 1) := dk_172 (dk_at dksL_law_48 8 rfl rfl)
theorem dL_law_1266 : decode cL_law 1266 = .ok (.goto 968, 3) := dk_167 3 200 (dk_at dksL_law_48 9 rfl rfl)
theorem dL_law_1269 : decode cL_law 1269 = .ok (.aload_n 1, 1) := dk_43 (dk_at dksL_law_48 12 rfl rfl)
theorem dL_law_1270 : decode cL_law 1270 = .ok (.aload_n 0, 1) := dk_42 (dk_at dksL_law_48 13 rfl rfl)
theorem dL_law_1271 : decode cL_law 1271 = .ok (.iload 5, 2) := dk_21 5 (dk_at dksL_law_48 14 rfl rfl)
theorem dL_law_1273 : decode cL_law 1273 = .ok (.iconst 1, 1) := dk_4 (dk_at dksL_law_48 16 rfl rfl)
theorem dL_law_1274 : decode cL_law 1274 = .ok (.iadd, 1) := dk_96 (dk_at dksL_law_48 17 rfl rfl)
theorem dL_law_1275 : decode cL_law 1275 = .ok (.iaload, 1) := dk_46 (dk_at dksL_law_48 18 rfl rfl)
theorem dL_law_1276 : decode cL_law 1276 = .ok (.aload_n 0, 1) := dk_42 (dk_at dksL_law_48 19 rfl rfl)
theorem dL_law_1277 : decode cL_law 1277 = .ok (.iload 5, 2) := dk_21 5 (dk_at dksL_law_48 20 rfl rfl)
theorem dL_law_1279 : decode cL_law 1279 = .ok (.iconst 2, 1) := dk_5 (dk_at dksL_law_48 22 rfl rfl)
theorem dL_law_1280 : decode cL_law 1280 = .ok (.iadd, 1) := dk_96 (dk_at dksL_law_48 23 rfl rfl)
theorem dL_law_1281 : decode cL_law 1281 = .ok (.iaload, 1) := dk_46 (dk_at dksL_law_49 0 rfl rfl)
theorem dL_law_1282 : decode cL_law 1282 = .ok (.aload_n 0, 1) := dk_42 (dk_at dksL_law_49 1 rfl rfl)
theorem dL_law_1283 : decode cL_law 1283 = .ok (.iload 5, 2) := dk_21 5 (dk_at dksL_law_49 2 rfl rfl)
theorem dL_law_1285 : decode cL_law 1285 = .ok (.iconst 3, 1) := dk_6 (dk_at dksL_law_49 4 rfl rfl)
theorem dL_law_1286 : decode cL_law 1286 = .ok (.iadd, 1) := dk_96 (dk_at dksL_law_49 5 rfl rfl)
theorem dL_law_1287 : decode cL_law 1287 = .ok (.iaload, 1) := dk_46 (dk_at dksL_law_49 6 rfl rfl)
theorem dL_law_1288 : decode cL_law 1288 = .ok (.aload_n 3, 1) := dk_45 (dk_at dksL_law_49 7 rfl rfl)
theorem dL_law_1289 : decode cL_law 1289 = .ok (.invokestatic 199, 3) := dk_184 0 199 (dk_at dksL_law_49 8 rfl rfl)
theorem dL_law_1292 : decode cL_law 1292 = .ok (.istore 6, 2) := dk_54 6 (dk_at dksL_law_49 11 rfl rfl)
theorem dL_law_1294 : decode cL_law 1294 = .ok (.aload_n 2, 1) := dk_44 (dk_at dksL_law_49 13 rfl rfl)
theorem dL_law_1295 : decode cL_law 1295 = .ok (.aload_n 0, 1) := dk_42 (dk_at dksL_law_49 14 rfl rfl)
theorem dL_law_1296 : decode cL_law 1296 = .ok (.iload 5, 2) := dk_21 5 (dk_at dksL_law_49 15 rfl rfl)
theorem dL_law_1298 : decode cL_law 1298 = .ok (.iconst 1, 1) := dk_4 (dk_at dksL_law_49 17 rfl rfl)
theorem dL_law_1299 : decode cL_law 1299 = .ok (.iadd, 1) := dk_96 (dk_at dksL_law_49 18 rfl rfl)
theorem dL_law_1300 : decode cL_law 1300 = .ok (.iaload, 1) := dk_46 (dk_at dksL_law_49 19 rfl rfl)
theorem dL_law_1301 : decode cL_law 1301 = .ok (.aload_n 0, 1) := dk_42 (dk_at dksL_law_49 20 rfl rfl)
theorem dL_law_1302 : decode cL_law 1302 = .ok (.iload 5, 2) := dk_21 5 (dk_at dksL_law_49 21 rfl rfl)
theorem dL_law_1304 : decode cL_law 1304 = .ok (.iconst 2, 1) := dk_5 (dk_at dksL_law_49 23 rfl rfl)
theorem dL_law_1305 : decode cL_law 1305 = .ok (.iadd, 1) := dk_96 (dk_at dksL_law_50 0 rfl rfl)
theorem dL_law_1306 : decode cL_law 1306 = .ok (.iaload, 1) := dk_46 (dk_at dksL_law_50 1 rfl rfl)
theorem dL_law_1307 : decode cL_law 1307 = .ok (.aload_n 0, 1) := dk_42 (dk_at dksL_law_50 2 rfl rfl)
theorem dL_law_1308 : decode cL_law 1308 = .ok (.iload 5, 2) := dk_21 5 (dk_at dksL_law_50 3 rfl rfl)
theorem dL_law_1310 : decode cL_law 1310 = .ok (.iconst 3, 1) := dk_6 (dk_at dksL_law_50 5 rfl rfl)
theorem dL_law_1311 : decode cL_law 1311 = .ok (.iadd, 1) := dk_96 (dk_at dksL_law_50 6 rfl rfl)
theorem dL_law_1312 : decode cL_law 1312 = .ok (.iaload, 1) := dk_46 (dk_at dksL_law_50 7 rfl rfl)
theorem dL_law_1313 : decode cL_law 1313 = .ok (.invokevirtual 201, 3) := dk_182 0 201 (dk_at dksL_law_50 8 rfl rfl)
theorem dL_law_1316 : decode cL_law 1316 = .ok (.istore 7, 2) := dk_54 7 (dk_at dksL_law_50 11 rfl rfl)
theorem dL_law_1318 : decode cL_law 1318 = .ok (.aload_n 2, 1) := dk_44 (dk_at dksL_law_50 13 rfl rfl)
theorem dL_law_1319 : decode cL_law 1319 = .ok (.invokevirtual 145, 3) := dk_182 0 145 (dk_at dksL_law_50 14 rfl rfl)
theorem dL_law_1322 : decode cL_law 1322 = .ok (.iload 6, 2) := dk_21 6 (dk_at dksL_law_50 17 rfl rfl)
theorem dL_law_1324 : decode cL_law 1324 = .ok (.if_icmp .eq 5, 3) := dk_159 0 5 (dk_at dksL_law_50 19 rfl rfl)
theorem dL_law_1327 : decode cL_law 1327 = .ok (.iconst 0, 1) := dk_3 (dk_at dksL_law_50 22 rfl rfl)
theorem dL_law_1328 : decode cL_law 1328 = .ok (.ireturn, 1) := dk_172 (dk_at dksL_law_50 23 rfl rfl)
theorem dL_law_1329 : decode cL_law 1329 = .ok (.iload 6, 2) := dk_21 6 (dk_at dksL_law_51 0 rfl rfl)
theorem dL_law_1331 : decode cL_law 1331 = .ok (.ifCond .ne 15, 3) := dk_154 0 15 (dk_at dksL_law_51 2 rfl rfl)
theorem dL_law_1334 : decode cL_law 1334 = .ok (.aload_n 3, 1) := dk_45 (dk_at dksL_law_51 5 rfl rfl)
theorem dL_law_1335 : decode cL_law 1335 = .ok (.iconst 0, 1) := dk_3 (dk_at dksL_law_51 6 rfl rfl)
theorem dL_law_1336 : decode cL_law 1336 = .ok (.laload, 1) := dk_47 (dk_at dksL_law_51 7 rfl rfl)
theorem dL_law_1337 : decode cL_law 1337 = .ok (.iload 7, 2) := dk_21 7 (dk_at dksL_law_51 8 rfl rfl)
theorem dL_law_1339 : decode cL_law 1339 = .ok (.i2l, 1) := dk_133 (dk_at dksL_law_51 10 rfl rfl)
theorem dL_law_1340 : decode cL_law 1340 = .ok (.lcmp, 1) := dk_148 (dk_at dksL_law_51 11 rfl rfl)
theorem dL_law_1341 : decode cL_law 1341 = .ok (.ifCond .eq 5, 3) := dk_153 0 5 (dk_at dksL_law_51 12 rfl rfl)
theorem dL_law_1344 : decode cL_law 1344 = .ok (.iconst 0, 1) := dk_3 (dk_at dksL_law_51 15 rfl rfl)
theorem dL_law_1345 : decode cL_law 1345 = .ok (.ireturn, 1) := dk_172 (dk_at dksL_law_51 16 rfl rfl)
theorem dL_law_1346 : decode cL_law 1346 = .ok (.goto 888, 3) := dk_167 3 120 (dk_at dksL_law_51 17 rfl rfl)
theorem dL_law_1349 : decode cL_law 1349 = .ok (.aload_n 1, 1) := dk_43 (dk_at dksL_law_51 20 rfl rfl)
theorem dL_law_1350 : decode cL_law 1350 = .ok (.aload_n 0, 1) := dk_42 (dk_at dksL_law_51 21 rfl rfl)
theorem dL_law_1351 : decode cL_law 1351 = .ok (.iload 5, 2) := dk_21 5 (dk_at dksL_law_51 22 rfl rfl)
theorem dL_law_1353 : decode cL_law 1353 = .ok (.iconst 1, 1) := dk_4 (dk_at dksL_law_52 0 rfl rfl)
theorem dL_law_1354 : decode cL_law 1354 = .ok (.iadd, 1) := dk_96 (dk_at dksL_law_52 1 rfl rfl)
theorem dL_law_1355 : decode cL_law 1355 = .ok (.iaload, 1) := dk_46 (dk_at dksL_law_52 2 rfl rfl)
theorem dL_law_1356 : decode cL_law 1356 = .ok (.aload_n 3, 1) := dk_45 (dk_at dksL_law_52 3 rfl rfl)
theorem dL_law_1357 : decode cL_law 1357 = .ok (.invokestatic 202, 3) := dk_184 0 202 (dk_at dksL_law_52 4 rfl rfl)
theorem dL_law_1360 : decode cL_law 1360 = .ok (.istore 6, 2) := dk_54 6 (dk_at dksL_law_52 7 rfl rfl)
theorem dL_law_1362 : decode cL_law 1362 = .ok (.aload_n 2, 1) := dk_44 (dk_at dksL_law_52 9 rfl rfl)
theorem dL_law_1363 : decode cL_law 1363 = .ok (.aload_n 0, 1) := dk_42 (dk_at dksL_law_52 10 rfl rfl)
theorem dL_law_1364 : decode cL_law 1364 = .ok (.iload 5, 2) := dk_21 5 (dk_at dksL_law_52 11 rfl rfl)
theorem dL_law_1366 : decode cL_law 1366 = .ok (.iconst 1, 1) := dk_4 (dk_at dksL_law_52 13 rfl rfl)
theorem dL_law_1367 : decode cL_law 1367 = .ok (.iadd, 1) := dk_96 (dk_at dksL_law_52 14 rfl rfl)
theorem dL_law_1368 : decode cL_law 1368 = .ok (.iaload, 1) := dk_46 (dk_at dksL_law_52 15 rfl rfl)
theorem dL_law_1369 : decode cL_law 1369 = .ok (.invokevirtual 204, 3) := dk_182 0 204 (dk_at dksL_law_52 16 rfl rfl)
theorem dL_law_1372 : decode cL_law 1372 = .ok (.istore 7, 2) := dk_54 7 (dk_at dksL_law_52 19 rfl rfl)
theorem dL_law_1374 : decode cL_law 1374 = .ok (.aload_n 2, 1) := dk_44 (dk_at dksL_law_52 21 rfl rfl)
theorem dL_law_1375 : decode cL_law 1375 = .ok (.invokevirtual 145, 3) := dk_182 0 145 (dk_at dksL_law_53 0 rfl rfl)
theorem dL_law_1378 : decode cL_law 1378 = .ok (.iload 6, 2) := dk_21 6 (dk_at dksL_law_53 3 rfl rfl)
theorem dL_law_1380 : decode cL_law 1380 = .ok (.if_icmp .eq 5, 3) := dk_159 0 5 (dk_at dksL_law_53 5 rfl rfl)
theorem dL_law_1383 : decode cL_law 1383 = .ok (.iconst 0, 1) := dk_3 (dk_at dksL_law_53 8 rfl rfl)
theorem dL_law_1384 : decode cL_law 1384 = .ok (.ireturn, 1) := dk_172 (dk_at dksL_law_53 9 rfl rfl)
theorem dL_law_1385 : decode cL_law 1385 = .ok (.iload 6, 2) := dk_21 6 (dk_at dksL_law_53 10 rfl rfl)
theorem dL_law_1387 : decode cL_law 1387 = .ok (.ifCond .ne 15, 3) := dk_154 0 15 (dk_at dksL_law_53 12 rfl rfl)
theorem dL_law_1390 : decode cL_law 1390 = .ok (.aload_n 3, 1) := dk_45 (dk_at dksL_law_53 15 rfl rfl)
theorem dL_law_1391 : decode cL_law 1391 = .ok (.iconst 0, 1) := dk_3 (dk_at dksL_law_53 16 rfl rfl)
theorem dL_law_1392 : decode cL_law 1392 = .ok (.laload, 1) := dk_47 (dk_at dksL_law_53 17 rfl rfl)
theorem dL_law_1393 : decode cL_law 1393 = .ok (.iload 7, 2) := dk_21 7 (dk_at dksL_law_53 18 rfl rfl)
theorem dL_law_1395 : decode cL_law 1395 = .ok (.i2l, 1) := dk_133 (dk_at dksL_law_53 20 rfl rfl)
theorem dL_law_1396 : decode cL_law 1396 = .ok (.lcmp, 1) := dk_148 (dk_at dksL_law_53 21 rfl rfl)
theorem dL_law_1397 : decode cL_law 1397 = .ok (.ifCond .eq 5, 3) := dk_153 0 5 (dk_at dksL_law_54 0 rfl rfl)
theorem dL_law_1400 : decode cL_law 1400 = .ok (.iconst 0, 1) := dk_3 (dk_at dksL_law_54 3 rfl rfl)
theorem dL_law_1401 : decode cL_law 1401 = .ok (.ireturn, 1) := dk_172 (dk_at dksL_law_54 4 rfl rfl)
theorem dL_law_1402 : decode cL_law 1402 = .ok (.goto 832, 3) := dk_167 3 64 (dk_at dksL_law_54 5 rfl rfl)
theorem dL_law_1405 : decode cL_law 1405 = .ok (.aload_n 1, 1) := dk_43 (dk_at dksL_law_54 8 rfl rfl)
theorem dL_law_1406 : decode cL_law 1406 = .ok (.aload_n 3, 1) := dk_45 (dk_at dksL_law_54 9 rfl rfl)
theorem dL_law_1407 : decode cL_law 1407 = .ok (.invokestatic 205, 3) := dk_184 0 205 (dk_at dksL_law_54 10 rfl rfl)
theorem dL_law_1410 : decode cL_law 1410 = .ok (.istore 6, 2) := dk_54 6 (dk_at dksL_law_54 13 rfl rfl)
theorem dL_law_1412 : decode cL_law 1412 = .ok (.aload_n 2, 1) := dk_44 (dk_at dksL_law_54 15 rfl rfl)
theorem dL_law_1413 : decode cL_law 1413 = .ok (.invokevirtual 207, 3) := dk_182 0 207 (dk_at dksL_law_54 16 rfl rfl)
theorem dL_law_1416 : decode cL_law 1416 = .ok (.istore 7, 2) := dk_54 7 (dk_at dksL_law_54 19 rfl rfl)
theorem dL_law_1418 : decode cL_law 1418 = .ok (.aload_n 2, 1) := dk_44 (dk_at dksL_law_54 21 rfl rfl)
theorem dL_law_1419 : decode cL_law 1419 = .ok (.invokevirtual 145, 3) := dk_182 0 145 (dk_at dksL_law_55 0 rfl rfl)
theorem dL_law_1422 : decode cL_law 1422 = .ok (.iload 6, 2) := dk_21 6 (dk_at dksL_law_55 3 rfl rfl)
theorem dL_law_1424 : decode cL_law 1424 = .ok (.if_icmp .eq 5, 3) := dk_159 0 5 (dk_at dksL_law_55 5 rfl rfl)
theorem dL_law_1427 : decode cL_law 1427 = .ok (.iconst 0, 1) := dk_3 (dk_at dksL_law_55 8 rfl rfl)
theorem dL_law_1428 : decode cL_law 1428 = .ok (.ireturn, 1) := dk_172 (dk_at dksL_law_55 9 rfl rfl)
theorem dL_law_1429 : decode cL_law 1429 = .ok (.iload 6, 2) := dk_21 6 (dk_at dksL_law_55 10 rfl rfl)
theorem dL_law_1431 : decode cL_law 1431 = .ok (.ifCond .ne 15, 3) := dk_154 0 15 (dk_at dksL_law_55 12 rfl rfl)
theorem dL_law_1434 : decode cL_law 1434 = .ok (.aload_n 3, 1) := dk_45 (dk_at dksL_law_55 15 rfl rfl)
theorem dL_law_1435 : decode cL_law 1435 = .ok (.iconst 0, 1) := dk_3 (dk_at dksL_law_55 16 rfl rfl)
theorem dL_law_1436 : decode cL_law 1436 = .ok (.laload, 1) := dk_47 (dk_at dksL_law_55 17 rfl rfl)
theorem dL_law_1437 : decode cL_law 1437 = .ok (.iload 7, 2) := dk_21 7 (dk_at dksL_law_55 18 rfl rfl)
theorem dL_law_1439 : decode cL_law 1439 = .ok (.i2l, 1) := dk_133 (dk_at dksL_law_55 20 rfl rfl)
theorem dL_law_1440 : decode cL_law 1440 = .ok (.lcmp, 1) := dk_148 (dk_at dksL_law_55 21 rfl rfl)
theorem dL_law_1441 : decode cL_law 1441 = .ok (.ifCond .eq 5, 3) := dk_153 0 5 (dk_at dksL_law_56 0 rfl rfl)
theorem dL_law_1444 : decode cL_law 1444 = .ok (.iconst 0, 1) := dk_3 (dk_at dksL_law_56 3 rfl rfl)
theorem dL_law_1445 : decode cL_law 1445 = .ok (.ireturn, 1) := dk_172 (dk_at dksL_law_56 4 rfl rfl)
theorem dL_law_1446 : decode cL_law 1446 = .ok (.goto 788, 3) := dk_167 3 20 (dk_at dksL_law_56 5 rfl rfl)
theorem dL_law_1449 : decode cL_law 1449 = .ok (.aload_n 1, 1) := dk_43 (dk_at dksL_law_56 8 rfl rfl)
theorem dL_law_1450 : decode cL_law 1450 = .ok (.aload_n 0, 1) := dk_42 (dk_at dksL_law_56 9 rfl rfl)
theorem dL_law_1451 : decode cL_law 1451 = .ok (.iload 5, 2) := dk_21 5 (dk_at dksL_law_56 10 rfl rfl)
theorem dL_law_1453 : decode cL_law 1453 = .ok (.iconst 1, 1) := dk_4 (dk_at dksL_law_56 12 rfl rfl)
theorem dL_law_1454 : decode cL_law 1454 = .ok (.iadd, 1) := dk_96 (dk_at dksL_law_56 13 rfl rfl)
theorem dL_law_1455 : decode cL_law 1455 = .ok (.iaload, 1) := dk_46 (dk_at dksL_law_56 14 rfl rfl)
theorem dL_law_1456 : decode cL_law 1456 = .ok (.aload_n 3, 1) := dk_45 (dk_at dksL_law_56 15 rfl rfl)
theorem dL_law_1457 : decode cL_law 1457 = .ok (.invokestatic 208, 3) := dk_184 0 208 (dk_at dksL_law_56 16 rfl rfl)
theorem dL_law_1460 : decode cL_law 1460 = .ok (.istore 6, 2) := dk_54 6 (dk_at dksL_law_56 19 rfl rfl)
theorem dL_law_1462 : decode cL_law 1462 = .ok (.aload_n 2, 1) := dk_44 (dk_at dksL_law_56 21 rfl rfl)
theorem dL_law_1463 : decode cL_law 1463 = .ok (.aload_n 0, 1) := dk_42 (dk_at dksL_law_56 22 rfl rfl)
theorem dL_law_1464 : decode cL_law 1464 = .ok (.iload 5, 2) := dk_21 5 (dk_at dksL_law_57 0 rfl rfl)
theorem dL_law_1466 : decode cL_law 1466 = .ok (.iconst 1, 1) := dk_4 (dk_at dksL_law_57 2 rfl rfl)
theorem dL_law_1467 : decode cL_law 1467 = .ok (.iadd, 1) := dk_96 (dk_at dksL_law_57 3 rfl rfl)
theorem dL_law_1468 : decode cL_law 1468 = .ok (.iaload, 1) := dk_46 (dk_at dksL_law_57 4 rfl rfl)
theorem dL_law_1469 : decode cL_law 1469 = .ok (.invokevirtual 210, 3) := dk_182 0 210 (dk_at dksL_law_57 5 rfl rfl)
theorem dL_law_1472 : decode cL_law 1472 = .ok (.istore 7, 2) := dk_54 7 (dk_at dksL_law_57 8 rfl rfl)
theorem dL_law_1474 : decode cL_law 1474 = .ok (.aload_n 2, 1) := dk_44 (dk_at dksL_law_57 10 rfl rfl)
theorem dL_law_1475 : decode cL_law 1475 = .ok (.invokevirtual 145, 3) := dk_182 0 145 (dk_at dksL_law_57 11 rfl rfl)
theorem dL_law_1478 : decode cL_law 1478 = .ok (.iload 6, 2) := dk_21 6 (dk_at dksL_law_57 14 rfl rfl)
theorem dL_law_1480 : decode cL_law 1480 = .ok (.if_icmp .eq 5, 3) := dk_159 0 5 (dk_at dksL_law_57 16 rfl rfl)
theorem dL_law_1483 : decode cL_law 1483 = .ok (.iconst 0, 1) := dk_3 (dk_at dksL_law_57 19 rfl rfl)
theorem dL_law_1484 : decode cL_law 1484 = .ok (.ireturn, 1) := dk_172 (dk_at dksL_law_57 20 rfl rfl)
theorem dL_law_1485 : decode cL_law 1485 = .ok (.iload 6, 2) := dk_21 6 (dk_at dksL_law_57 21 rfl rfl)
theorem dL_law_1487 : decode cL_law 1487 = .ok (.ifCond .ne 15, 3) := dk_154 0 15 (dk_at dksL_law_58 0 rfl rfl)
theorem dL_law_1490 : decode cL_law 1490 = .ok (.aload_n 3, 1) := dk_45 (dk_at dksL_law_58 3 rfl rfl)
theorem dL_law_1491 : decode cL_law 1491 = .ok (.iconst 0, 1) := dk_3 (dk_at dksL_law_58 4 rfl rfl)
theorem dL_law_1492 : decode cL_law 1492 = .ok (.laload, 1) := dk_47 (dk_at dksL_law_58 5 rfl rfl)
theorem dL_law_1493 : decode cL_law 1493 = .ok (.iload 7, 2) := dk_21 7 (dk_at dksL_law_58 6 rfl rfl)
theorem dL_law_1495 : decode cL_law 1495 = .ok (.i2l, 1) := dk_133 (dk_at dksL_law_58 8 rfl rfl)
theorem dL_law_1496 : decode cL_law 1496 = .ok (.lcmp, 1) := dk_148 (dk_at dksL_law_58 9 rfl rfl)
theorem dL_law_1497 : decode cL_law 1497 = .ok (.ifCond .eq 5, 3) := dk_153 0 5 (dk_at dksL_law_58 10 rfl rfl)
theorem dL_law_1500 : decode cL_law 1500 = .ok (.iconst 0, 1) := dk_3 (dk_at dksL_law_58 13 rfl rfl)
theorem dL_law_1501 : decode cL_law 1501 = .ok (.ireturn, 1) := dk_172 (dk_at dksL_law_58 14 rfl rfl)
theorem dL_law_1502 : decode cL_law 1502 = .ok (.goto 732, 3) := dk_167 2 220 (dk_at dksL_law_58 15 rfl rfl)
theorem dL_law_1505 : decode cL_law 1505 = .ok (.aload_n 1, 1) := dk_43 (dk_at dksL_law_58 18 rfl rfl)
theorem dL_law_1506 : decode cL_law 1506 = .ok (.aload_n 0, 1) := dk_42 (dk_at dksL_law_58 19 rfl rfl)
theorem dL_law_1507 : decode cL_law 1507 = .ok (.iload 5, 2) := dk_21 5 (dk_at dksL_law_58 20 rfl rfl)
theorem dL_law_1509 : decode cL_law 1509 = .ok (.iconst 1, 1) := dk_4 (dk_at dksL_law_58 22 rfl rfl)
theorem dL_law_1510 : decode cL_law 1510 = .ok (.iadd, 1) := dk_96 (dk_at dksL_law_58 23 rfl rfl)
theorem dL_law_1511 : decode cL_law 1511 = .ok (.iaload, 1) := dk_46 (dk_at dksL_law_59 0 rfl rfl)
theorem dL_law_1512 : decode cL_law 1512 = .ok (.aload_n 3, 1) := dk_45 (dk_at dksL_law_59 1 rfl rfl)
theorem dL_law_1513 : decode cL_law 1513 = .ok (.invokestatic 211, 3) := dk_184 0 211 (dk_at dksL_law_59 2 rfl rfl)
theorem dL_law_1516 : decode cL_law 1516 = .ok (.istore 6, 2) := dk_54 6 (dk_at dksL_law_59 5 rfl rfl)
theorem dL_law_1518 : decode cL_law 1518 = .ok (.aload_n 2, 1) := dk_44 (dk_at dksL_law_59 7 rfl rfl)
theorem dL_law_1519 : decode cL_law 1519 = .ok (.aload_n 0, 1) := dk_42 (dk_at dksL_law_59 8 rfl rfl)
theorem dL_law_1520 : decode cL_law 1520 = .ok (.iload 5, 2) := dk_21 5 (dk_at dksL_law_59 9 rfl rfl)
theorem dL_law_1522 : decode cL_law 1522 = .ok (.iconst 1, 1) := dk_4 (dk_at dksL_law_59 11 rfl rfl)
theorem dL_law_1523 : decode cL_law 1523 = .ok (.iadd, 1) := dk_96 (dk_at dksL_law_59 12 rfl rfl)
theorem dL_law_1524 : decode cL_law 1524 = .ok (.iaload, 1) := dk_46 (dk_at dksL_law_59 13 rfl rfl)
theorem dL_law_1525 : decode cL_law 1525 = .ok (.invokevirtual 213, 3) := dk_182 0 213 (dk_at dksL_law_59 14 rfl rfl)
theorem dL_law_1528 : decode cL_law 1528 = .ok (.istore 7, 2) := dk_54 7 (dk_at dksL_law_59 17 rfl rfl)
theorem dL_law_1530 : decode cL_law 1530 = .ok (.aload_n 2, 1) := dk_44 (dk_at dksL_law_59 19 rfl rfl)
theorem dL_law_1531 : decode cL_law 1531 = .ok (.invokevirtual 145, 3) := dk_182 0 145 (dk_at dksL_law_59 20 rfl rfl)
theorem dL_law_1534 : decode cL_law 1534 = .ok (.iload 6, 2) := dk_21 6 (dk_at dksL_law_60 0 rfl rfl)
theorem dL_law_1536 : decode cL_law 1536 = .ok (.if_icmp .eq 5, 3) := dk_159 0 5 (dk_at dksL_law_60 2 rfl rfl)
theorem dL_law_1539 : decode cL_law 1539 = .ok (.iconst 0, 1) := dk_3 (dk_at dksL_law_60 5 rfl rfl)
theorem dL_law_1540 : decode cL_law 1540 = .ok (.ireturn, 1) := dk_172 (dk_at dksL_law_60 6 rfl rfl)
theorem dL_law_1541 : decode cL_law 1541 = .ok (.iload 6, 2) := dk_21 6 (dk_at dksL_law_60 7 rfl rfl)
theorem dL_law_1543 : decode cL_law 1543 = .ok (.ifCond .ne 15, 3) := dk_154 0 15 (dk_at dksL_law_60 9 rfl rfl)
theorem dL_law_1546 : decode cL_law 1546 = .ok (.aload_n 3, 1) := dk_45 (dk_at dksL_law_60 12 rfl rfl)
theorem dL_law_1547 : decode cL_law 1547 = .ok (.iconst 0, 1) := dk_3 (dk_at dksL_law_60 13 rfl rfl)
theorem dL_law_1548 : decode cL_law 1548 = .ok (.laload, 1) := dk_47 (dk_at dksL_law_60 14 rfl rfl)
theorem dL_law_1549 : decode cL_law 1549 = .ok (.iload 7, 2) := dk_21 7 (dk_at dksL_law_60 15 rfl rfl)
theorem dL_law_1551 : decode cL_law 1551 = .ok (.i2l, 1) := dk_133 (dk_at dksL_law_60 17 rfl rfl)
theorem dL_law_1552 : decode cL_law 1552 = .ok (.lcmp, 1) := dk_148 (dk_at dksL_law_60 18 rfl rfl)
theorem dL_law_1553 : decode cL_law 1553 = .ok (.ifCond .eq 5, 3) := dk_153 0 5 (dk_at dksL_law_60 19 rfl rfl)
theorem dL_law_1556 : decode cL_law 1556 = .ok (.iconst 0, 1) := dk_3 (dk_at dksL_law_60 22 rfl rfl)
theorem dL_law_1557 : decode cL_law 1557 = .ok (.ireturn, 1) := dk_172 (dk_at dksL_law_60 23 rfl rfl)
theorem dL_law_1558 : decode cL_law 1558 = .ok (.goto 676, 3) := dk_167 2 164 (dk_at dksL_law_61 0 rfl rfl)
theorem dL_law_1561 : decode cL_law 1561 = .ok (.aload_n 1, 1) := dk_43 (dk_at dksL_law_61 3 rfl rfl)
theorem dL_law_1562 : decode cL_law 1562 = .ok (.aload_n 0, 1) := dk_42 (dk_at dksL_law_61 4 rfl rfl)
theorem dL_law_1563 : decode cL_law 1563 = .ok (.iload 5, 2) := dk_21 5 (dk_at dksL_law_61 5 rfl rfl)
theorem dL_law_1565 : decode cL_law 1565 = .ok (.iconst 1, 1) := dk_4 (dk_at dksL_law_61 7 rfl rfl)
theorem dL_law_1566 : decode cL_law 1566 = .ok (.iadd, 1) := dk_96 (dk_at dksL_law_61 8 rfl rfl)
theorem dL_law_1567 : decode cL_law 1567 = .ok (.iaload, 1) := dk_46 (dk_at dksL_law_61 9 rfl rfl)
theorem dL_law_1568 : decode cL_law 1568 = .ok (.aload_n 3, 1) := dk_45 (dk_at dksL_law_61 10 rfl rfl)
theorem dL_law_1569 : decode cL_law 1569 = .ok (.invokestatic 214, 3) := dk_184 0 214 (dk_at dksL_law_61 11 rfl rfl)
theorem dL_law_1572 : decode cL_law 1572 = .ok (.istore 6, 2) := dk_54 6 (dk_at dksL_law_61 14 rfl rfl)
theorem dL_law_1574 : decode cL_law 1574 = .ok (.aload_n 2, 1) := dk_44 (dk_at dksL_law_61 16 rfl rfl)
theorem dL_law_1575 : decode cL_law 1575 = .ok (.aload_n 0, 1) := dk_42 (dk_at dksL_law_61 17 rfl rfl)
theorem dL_law_1576 : decode cL_law 1576 = .ok (.iload 5, 2) := dk_21 5 (dk_at dksL_law_61 18 rfl rfl)
theorem dL_law_1578 : decode cL_law 1578 = .ok (.iconst 1, 1) := dk_4 (dk_at dksL_law_61 20 rfl rfl)
theorem dL_law_1579 : decode cL_law 1579 = .ok (.iadd, 1) := dk_96 (dk_at dksL_law_61 21 rfl rfl)
theorem dL_law_1580 : decode cL_law 1580 = .ok (.iaload, 1) := dk_46 (dk_at dksL_law_61 22 rfl rfl)
theorem dL_law_1581 : decode cL_law 1581 = .ok (.invokevirtual 216, 3) := dk_182 0 216 (dk_at dksL_law_62 0 rfl rfl)
theorem dL_law_1584 : decode cL_law 1584 = .ok (.istore 7, 2) := dk_54 7 (dk_at dksL_law_62 3 rfl rfl)
theorem dL_law_1586 : decode cL_law 1586 = .ok (.aload_n 2, 1) := dk_44 (dk_at dksL_law_62 5 rfl rfl)
theorem dL_law_1587 : decode cL_law 1587 = .ok (.invokevirtual 145, 3) := dk_182 0 145 (dk_at dksL_law_62 6 rfl rfl)
theorem dL_law_1590 : decode cL_law 1590 = .ok (.iload 6, 2) := dk_21 6 (dk_at dksL_law_62 9 rfl rfl)
theorem dL_law_1592 : decode cL_law 1592 = .ok (.if_icmp .eq 5, 3) := dk_159 0 5 (dk_at dksL_law_62 11 rfl rfl)
theorem dL_law_1595 : decode cL_law 1595 = .ok (.iconst 0, 1) := dk_3 (dk_at dksL_law_62 14 rfl rfl)
theorem dL_law_1596 : decode cL_law 1596 = .ok (.ireturn, 1) := dk_172 (dk_at dksL_law_62 15 rfl rfl)
theorem dL_law_1597 : decode cL_law 1597 = .ok (.iload 6, 2) := dk_21 6 (dk_at dksL_law_62 16 rfl rfl)
theorem dL_law_1599 : decode cL_law 1599 = .ok (.ifCond .ne 15, 3) := dk_154 0 15 (dk_at dksL_law_62 18 rfl rfl)
theorem dL_law_1602 : decode cL_law 1602 = .ok (.aload_n 3, 1) := dk_45 (dk_at dksL_law_62 21 rfl rfl)
theorem dL_law_1603 : decode cL_law 1603 = .ok (.iconst 0, 1) := dk_3 (dk_at dksL_law_62 22 rfl rfl)
theorem dL_law_1604 : decode cL_law 1604 = .ok (.laload, 1) := dk_47 (dk_at dksL_law_62 23 rfl rfl)
theorem dL_law_1605 : decode cL_law 1605 = .ok (.iload 7, 2) := dk_21 7 (dk_at dksL_law_63 0 rfl rfl)
theorem dL_law_1607 : decode cL_law 1607 = .ok (.i2l, 1) := dk_133 (dk_at dksL_law_63 2 rfl rfl)
theorem dL_law_1608 : decode cL_law 1608 = .ok (.lcmp, 1) := dk_148 (dk_at dksL_law_63 3 rfl rfl)
theorem dL_law_1609 : decode cL_law 1609 = .ok (.ifCond .eq 5, 3) := dk_153 0 5 (dk_at dksL_law_63 4 rfl rfl)
theorem dL_law_1612 : decode cL_law 1612 = .ok (.iconst 0, 1) := dk_3 (dk_at dksL_law_63 7 rfl rfl)
theorem dL_law_1613 : decode cL_law 1613 = .ok (.ireturn, 1) := dk_172 (dk_at dksL_law_63 8 rfl rfl)
theorem dL_law_1614 : decode cL_law 1614 = .ok (.goto 620, 3) := dk_167 2 108 (dk_at dksL_law_63 9 rfl rfl)
theorem dL_law_1617 : decode cL_law 1617 = .ok (.aload_n 1, 1) := dk_43 (dk_at dksL_law_63 12 rfl rfl)
theorem dL_law_1618 : decode cL_law 1618 = .ok (.aload_n 0, 1) := dk_42 (dk_at dksL_law_63 13 rfl rfl)
theorem dL_law_1619 : decode cL_law 1619 = .ok (.iload 5, 2) := dk_21 5 (dk_at dksL_law_63 14 rfl rfl)
theorem dL_law_1621 : decode cL_law 1621 = .ok (.iconst 1, 1) := dk_4 (dk_at dksL_law_63 16 rfl rfl)
theorem dL_law_1622 : decode cL_law 1622 = .ok (.iadd, 1) := dk_96 (dk_at dksL_law_63 17 rfl rfl)
theorem dL_law_1623 : decode cL_law 1623 = .ok (.iaload, 1) := dk_46 (dk_at dksL_law_63 18 rfl rfl)
theorem dL_law_1624 : decode cL_law 1624 = .ok (.aload_n 3, 1) := dk_45 (dk_at dksL_law_63 19 rfl rfl)
theorem dL_law_1625 : decode cL_law 1625 = .ok (.invokestatic 217, 3) := dk_184 0 217 (dk_at dksL_law_63 20 rfl rfl)
theorem dL_law_1628 : decode cL_law 1628 = .ok (.istore 6, 2) := dk_54 6 (dk_at dksL_law_64 0 rfl rfl)
theorem dL_law_1630 : decode cL_law 1630 = .ok (.aload_n 2, 1) := dk_44 (dk_at dksL_law_64 2 rfl rfl)
theorem dL_law_1631 : decode cL_law 1631 = .ok (.aload_n 0, 1) := dk_42 (dk_at dksL_law_64 3 rfl rfl)
theorem dL_law_1632 : decode cL_law 1632 = .ok (.iload 5, 2) := dk_21 5 (dk_at dksL_law_64 4 rfl rfl)
theorem dL_law_1634 : decode cL_law 1634 = .ok (.iconst 1, 1) := dk_4 (dk_at dksL_law_64 6 rfl rfl)
theorem dL_law_1635 : decode cL_law 1635 = .ok (.iadd, 1) := dk_96 (dk_at dksL_law_64 7 rfl rfl)
theorem dL_law_1636 : decode cL_law 1636 = .ok (.iaload, 1) := dk_46 (dk_at dksL_law_64 8 rfl rfl)
theorem dL_law_1637 : decode cL_law 1637 = .ok (.invokevirtual 219, 3) := dk_182 0 219 (dk_at dksL_law_64 9 rfl rfl)
theorem dL_law_1640 : decode cL_law 1640 = .ok (.istore 7, 2) := dk_54 7 (dk_at dksL_law_64 12 rfl rfl)
theorem dL_law_1642 : decode cL_law 1642 = .ok (.aload_n 2, 1) := dk_44 (dk_at dksL_law_64 14 rfl rfl)
theorem dL_law_1643 : decode cL_law 1643 = .ok (.invokevirtual 145, 3) := dk_182 0 145 (dk_at dksL_law_64 15 rfl rfl)
theorem dL_law_1646 : decode cL_law 1646 = .ok (.iload 6, 2) := dk_21 6 (dk_at dksL_law_64 18 rfl rfl)
theorem dL_law_1648 : decode cL_law 1648 = .ok (.if_icmp .eq 5, 3) := dk_159 0 5 (dk_at dksL_law_64 20 rfl rfl)
theorem dL_law_1651 : decode cL_law 1651 = .ok (.iconst 0, 1) := dk_3 (dk_at dksL_law_64 23 rfl rfl)
theorem dL_law_1652 : decode cL_law 1652 = .ok (.ireturn, 1) := dk_172 (dk_at dksL_law_65 0 rfl rfl)
theorem dL_law_1653 : decode cL_law 1653 = .ok (.iload 6, 2) := dk_21 6 (dk_at dksL_law_65 1 rfl rfl)
theorem dL_law_1655 : decode cL_law 1655 = .ok (.ifCond .ne 15, 3) := dk_154 0 15 (dk_at dksL_law_65 3 rfl rfl)
theorem dL_law_1658 : decode cL_law 1658 = .ok (.aload_n 3, 1) := dk_45 (dk_at dksL_law_65 6 rfl rfl)
theorem dL_law_1659 : decode cL_law 1659 = .ok (.iconst 0, 1) := dk_3 (dk_at dksL_law_65 7 rfl rfl)
theorem dL_law_1660 : decode cL_law 1660 = .ok (.laload, 1) := dk_47 (dk_at dksL_law_65 8 rfl rfl)
theorem dL_law_1661 : decode cL_law 1661 = .ok (.iload 7, 2) := dk_21 7 (dk_at dksL_law_65 9 rfl rfl)
theorem dL_law_1663 : decode cL_law 1663 = .ok (.i2l, 1) := dk_133 (dk_at dksL_law_65 11 rfl rfl)
theorem dL_law_1664 : decode cL_law 1664 = .ok (.lcmp, 1) := dk_148 (dk_at dksL_law_65 12 rfl rfl)
theorem dL_law_1665 : decode cL_law 1665 = .ok (.ifCond .eq 5, 3) := dk_153 0 5 (dk_at dksL_law_65 13 rfl rfl)
theorem dL_law_1668 : decode cL_law 1668 = .ok (.iconst 0, 1) := dk_3 (dk_at dksL_law_65 16 rfl rfl)
theorem dL_law_1669 : decode cL_law 1669 = .ok (.ireturn, 1) := dk_172 (dk_at dksL_law_65 17 rfl rfl)
theorem dL_law_1670 : decode cL_law 1670 = .ok (.goto 564, 3) := dk_167 2 52 (dk_at dksL_law_65 18 rfl rfl)
theorem dL_law_1673 : decode cL_law 1673 = .ok (.aload_n 1, 1) := dk_43 (dk_at dksL_law_65 21 rfl rfl)
theorem dL_law_1674 : decode cL_law 1674 = .ok (.aload_n 0, 1) := dk_42 (dk_at dksL_law_65 22 rfl rfl)
theorem dL_law_1675 : decode cL_law 1675 = .ok (.iload 5, 2) := dk_21 5 (dk_at dksL_law_66 0 rfl rfl)
theorem dL_law_1677 : decode cL_law 1677 = .ok (.iconst 1, 1) := dk_4 (dk_at dksL_law_66 2 rfl rfl)
theorem dL_law_1678 : decode cL_law 1678 = .ok (.iadd, 1) := dk_96 (dk_at dksL_law_66 3 rfl rfl)
theorem dL_law_1679 : decode cL_law 1679 = .ok (.iaload, 1) := dk_46 (dk_at dksL_law_66 4 rfl rfl)
theorem dL_law_1680 : decode cL_law 1680 = .ok (.ifCond .eq 7, 3) := dk_153 0 7 (dk_at dksL_law_66 5 rfl rfl)
theorem dL_law_1683 : decode cL_law 1683 = .ok (.iconst 1, 1) := dk_4 (dk_at dksL_law_66 8 rfl rfl)
theorem dL_law_1684 : decode cL_law 1684 = .ok (.goto 4, 3) := dk_167 0 4 (dk_at dksL_law_66 9 rfl rfl)
theorem dL_law_1687 : decode cL_law 1687 = .ok (.iconst 0, 1) := dk_3 (dk_at dksL_law_66 12 rfl rfl)
theorem dL_law_1688 : decode cL_law 1688 = .ok (.aload_n 3, 1) := dk_45 (dk_at dksL_law_66 13 rfl rfl)
theorem dL_law_1689 : decode cL_law 1689 = .ok (.invokestatic 220, 3) := dk_184 0 220 (dk_at dksL_law_66 14 rfl rfl)
theorem dL_law_1692 : decode cL_law 1692 = .ok (.istore 6, 2) := dk_54 6 (dk_at dksL_law_66 17 rfl rfl)
theorem dL_law_1694 : decode cL_law 1694 = .ok (.aload_n 2, 1) := dk_44 (dk_at dksL_law_66 19 rfl rfl)
theorem dL_law_1695 : decode cL_law 1695 = .ok (.aload_n 0, 1) := dk_42 (dk_at dksL_law_66 20 rfl rfl)
theorem dL_law_1696 : decode cL_law 1696 = .ok (.iload 5, 2) := dk_21 5 (dk_at dksL_law_66 21 rfl rfl)
theorem dL_law_1698 : decode cL_law 1698 = .ok (.iconst 1, 1) := dk_4 (dk_at dksL_law_66 23 rfl rfl)
theorem dL_law_1699 : decode cL_law 1699 = .ok (.iadd, 1) := dk_96 (dk_at dksL_law_67 0 rfl rfl)
theorem dL_law_1700 : decode cL_law 1700 = .ok (.iaload, 1) := dk_46 (dk_at dksL_law_67 1 rfl rfl)
theorem dL_law_1701 : decode cL_law 1701 = .ok (.ifCond .eq 7, 3) := dk_153 0 7 (dk_at dksL_law_67 2 rfl rfl)
theorem dL_law_1704 : decode cL_law 1704 = .ok (.iconst 1, 1) := dk_4 (dk_at dksL_law_67 5 rfl rfl)
theorem dL_law_1705 : decode cL_law 1705 = .ok (.goto 4, 3) := dk_167 0 4 (dk_at dksL_law_67 6 rfl rfl)
theorem dL_law_1708 : decode cL_law 1708 = .ok (.iconst 0, 1) := dk_3 (dk_at dksL_law_67 9 rfl rfl)
theorem dL_law_1709 : decode cL_law 1709 = .ok (.invokevirtual 223, 3) := dk_182 0 223 (dk_at dksL_law_67 10 rfl rfl)
theorem dL_law_1712 : decode cL_law 1712 = .ok (.istore 7, 2) := dk_54 7 (dk_at dksL_law_67 13 rfl rfl)
theorem dL_law_1714 : decode cL_law 1714 = .ok (.aload_n 2, 1) := dk_44 (dk_at dksL_law_67 15 rfl rfl)
theorem dL_law_1715 : decode cL_law 1715 = .ok (.invokevirtual 145, 3) := dk_182 0 145 (dk_at dksL_law_67 16 rfl rfl)
theorem dL_law_1718 : decode cL_law 1718 = .ok (.iload 6, 2) := dk_21 6 (dk_at dksL_law_67 19 rfl rfl)
theorem dL_law_1720 : decode cL_law 1720 = .ok (.if_icmp .eq 5, 3) := dk_159 0 5 (dk_at dksL_law_67 21 rfl rfl)
theorem dL_law_1723 : decode cL_law 1723 = .ok (.iconst 0, 1) := dk_3 (dk_at dksL_law_68 0 rfl rfl)
theorem dL_law_1724 : decode cL_law 1724 = .ok (.ireturn, 1) := dk_172 (dk_at dksL_law_68 1 rfl rfl)
theorem dL_law_1725 : decode cL_law 1725 = .ok (.iload 6, 2) := dk_21 6 (dk_at dksL_law_68 2 rfl rfl)
theorem dL_law_1727 : decode cL_law 1727 = .ok (.ifCond .ne 15, 3) := dk_154 0 15 (dk_at dksL_law_68 4 rfl rfl)
theorem dL_law_1730 : decode cL_law 1730 = .ok (.aload_n 3, 1) := dk_45 (dk_at dksL_law_68 7 rfl rfl)
theorem dL_law_1731 : decode cL_law 1731 = .ok (.iconst 0, 1) := dk_3 (dk_at dksL_law_68 8 rfl rfl)
theorem dL_law_1732 : decode cL_law 1732 = .ok (.laload, 1) := dk_47 (dk_at dksL_law_68 9 rfl rfl)
theorem dL_law_1733 : decode cL_law 1733 = .ok (.iload 7, 2) := dk_21 7 (dk_at dksL_law_68 10 rfl rfl)
theorem dL_law_1735 : decode cL_law 1735 = .ok (.i2l, 1) := dk_133 (dk_at dksL_law_68 12 rfl rfl)
theorem dL_law_1736 : decode cL_law 1736 = .ok (.lcmp, 1) := dk_148 (dk_at dksL_law_68 13 rfl rfl)
theorem dL_law_1737 : decode cL_law 1737 = .ok (.ifCond .eq 5, 3) := dk_153 0 5 (dk_at dksL_law_68 14 rfl rfl)
theorem dL_law_1740 : decode cL_law 1740 = .ok (.iconst 0, 1) := dk_3 (dk_at dksL_law_68 17 rfl rfl)
theorem dL_law_1741 : decode cL_law 1741 = .ok (.ireturn, 1) := dk_172 (dk_at dksL_law_68 18 rfl rfl)
theorem dL_law_1742 : decode cL_law 1742 = .ok (.goto 492, 3) := dk_167 1 236 (dk_at dksL_law_68 19 rfl rfl)
theorem dL_law_1745 : decode cL_law 1745 = .ok (.aload_n 1, 1) := dk_43 (dk_at dksL_law_68 22 rfl rfl)
theorem dL_law_1746 : decode cL_law 1746 = .ok (.aload_n 0, 1) := dk_42 (dk_at dksL_law_68 23 rfl rfl)
theorem dL_law_1747 : decode cL_law 1747 = .ok (.iload 5, 2) := dk_21 5 (dk_at dksL_law_69 0 rfl rfl)
theorem dL_law_1749 : decode cL_law 1749 = .ok (.iconst 1, 1) := dk_4 (dk_at dksL_law_69 2 rfl rfl)
theorem dL_law_1750 : decode cL_law 1750 = .ok (.iadd, 1) := dk_96 (dk_at dksL_law_69 3 rfl rfl)
theorem dL_law_1751 : decode cL_law 1751 = .ok (.iaload, 1) := dk_46 (dk_at dksL_law_69 4 rfl rfl)
theorem dL_law_1752 : decode cL_law 1752 = .ok (.aload_n 3, 1) := dk_45 (dk_at dksL_law_69 5 rfl rfl)
theorem dL_law_1753 : decode cL_law 1753 = .ok (.invokestatic 224, 3) := dk_184 0 224 (dk_at dksL_law_69 6 rfl rfl)
theorem dL_law_1756 : decode cL_law 1756 = .ok (.istore 6, 2) := dk_54 6 (dk_at dksL_law_69 9 rfl rfl)
theorem dL_law_1758 : decode cL_law 1758 = .ok (.aload_n 2, 1) := dk_44 (dk_at dksL_law_69 11 rfl rfl)
theorem dL_law_1759 : decode cL_law 1759 = .ok (.aload_n 0, 1) := dk_42 (dk_at dksL_law_69 12 rfl rfl)
theorem dL_law_1760 : decode cL_law 1760 = .ok (.iload 5, 2) := dk_21 5 (dk_at dksL_law_69 13 rfl rfl)
theorem dL_law_1762 : decode cL_law 1762 = .ok (.iconst 1, 1) := dk_4 (dk_at dksL_law_69 15 rfl rfl)
theorem dL_law_1763 : decode cL_law 1763 = .ok (.iadd, 1) := dk_96 (dk_at dksL_law_69 16 rfl rfl)
theorem dL_law_1764 : decode cL_law 1764 = .ok (.iaload, 1) := dk_46 (dk_at dksL_law_69 17 rfl rfl)
theorem dL_law_1765 : decode cL_law 1765 = .ok (.invokevirtual 226, 3) := dk_182 0 226 (dk_at dksL_law_69 18 rfl rfl)
theorem dL_law_1768 : decode cL_law 1768 = .ok (.istore 7, 2) := dk_54 7 (dk_at dksL_law_69 21 rfl rfl)
theorem dL_law_1770 : decode cL_law 1770 = .ok (.aload_n 2, 1) := dk_44 (dk_at dksL_law_69 23 rfl rfl)
theorem dL_law_1771 : decode cL_law 1771 = .ok (.invokevirtual 145, 3) := dk_182 0 145 (dk_at dksL_law_70 0 rfl rfl)
theorem dL_law_1774 : decode cL_law 1774 = .ok (.iload 6, 2) := dk_21 6 (dk_at dksL_law_70 3 rfl rfl)
theorem dL_law_1776 : decode cL_law 1776 = .ok (.if_icmp .eq 5, 3) := dk_159 0 5 (dk_at dksL_law_70 5 rfl rfl)
theorem dL_law_1779 : decode cL_law 1779 = .ok (.iconst 0, 1) := dk_3 (dk_at dksL_law_70 8 rfl rfl)
theorem dL_law_1780 : decode cL_law 1780 = .ok (.ireturn, 1) := dk_172 (dk_at dksL_law_70 9 rfl rfl)
theorem dL_law_1781 : decode cL_law 1781 = .ok (.iload 6, 2) := dk_21 6 (dk_at dksL_law_70 10 rfl rfl)
theorem dL_law_1783 : decode cL_law 1783 = .ok (.ifCond .ne 15, 3) := dk_154 0 15 (dk_at dksL_law_70 12 rfl rfl)
theorem dL_law_1786 : decode cL_law 1786 = .ok (.aload_n 3, 1) := dk_45 (dk_at dksL_law_70 15 rfl rfl)
theorem dL_law_1787 : decode cL_law 1787 = .ok (.iconst 0, 1) := dk_3 (dk_at dksL_law_70 16 rfl rfl)
theorem dL_law_1788 : decode cL_law 1788 = .ok (.laload, 1) := dk_47 (dk_at dksL_law_70 17 rfl rfl)
theorem dL_law_1789 : decode cL_law 1789 = .ok (.iload 7, 2) := dk_21 7 (dk_at dksL_law_70 18 rfl rfl)
theorem dL_law_1791 : decode cL_law 1791 = .ok (.i2l, 1) := dk_133 (dk_at dksL_law_70 20 rfl rfl)
theorem dL_law_1792 : decode cL_law 1792 = .ok (.lcmp, 1) := dk_148 (dk_at dksL_law_70 21 rfl rfl)
theorem dL_law_1793 : decode cL_law 1793 = .ok (.ifCond .eq 5, 3) := dk_153 0 5 (dk_at dksL_law_71 0 rfl rfl)
theorem dL_law_1796 : decode cL_law 1796 = .ok (.iconst 0, 1) := dk_3 (dk_at dksL_law_71 3 rfl rfl)
theorem dL_law_1797 : decode cL_law 1797 = .ok (.ireturn, 1) := dk_172 (dk_at dksL_law_71 4 rfl rfl)
theorem dL_law_1798 : decode cL_law 1798 = .ok (.goto 436, 3) := dk_167 1 180 (dk_at dksL_law_71 5 rfl rfl)
theorem dL_law_1801 : decode cL_law 1801 = .ok (.aload_n 1, 1) := dk_43 (dk_at dksL_law_71 8 rfl rfl)
theorem dL_law_1802 : decode cL_law 1802 = .ok (.invokevirtual 227, 3) := dk_182 0 227 (dk_at dksL_law_71 9 rfl rfl)
theorem dL_law_1805 : decode cL_law 1805 = .ok (.aload_n 2, 1) := dk_44 (dk_at dksL_law_71 12 rfl rfl)
theorem dL_law_1806 : decode cL_law 1806 = .ok (.invokevirtual 230, 3) := dk_182 0 230 (dk_at dksL_law_71 13 rfl rfl)
theorem dL_law_1809 : decode cL_law 1809 = .ok (.if_icmp .eq 425, 3) := dk_159 1 169 (dk_at dksL_law_71 16 rfl rfl)
theorem dL_law_1812 : decode cL_law 1812 = .ok (.iconst 0, 1) := dk_3 (dk_at dksL_law_71 19 rfl rfl)
theorem dL_law_1813 : decode cL_law 1813 = .ok (.ireturn, 1) := dk_172 (dk_at dksL_law_71 20 rfl rfl)
theorem dL_law_1814 : decode cL_law 1814 = .ok (.aload_n 1, 1) := dk_43 (dk_at dksL_law_71 21 rfl rfl)
theorem dL_law_1815 : decode cL_law 1815 = .ok (.aload 4, 2) := dk_25 4 (dk_at dksL_law_71 22 rfl rfl)
theorem dL_law_1817 : decode cL_law 1817 = .ok (.invokestatic 231, 3) := dk_184 0 231 (dk_at dksL_law_72 0 rfl rfl)
theorem dL_law_1820 : decode cL_law 1820 = .ok (.istore 6, 2) := dk_54 6 (dk_at dksL_law_72 3 rfl rfl)
theorem dL_law_1822 : decode cL_law 1822 = .ok (.aload_n 2, 1) := dk_44 (dk_at dksL_law_72 5 rfl rfl)
theorem dL_law_1823 : decode cL_law 1823 = .ok (.invokevirtual 234, 3) := dk_182 0 234 (dk_at dksL_law_72 6 rfl rfl)
theorem dL_law_1826 : decode cL_law 1826 = .ok (.dstore 7, 2) := dk_57 7 (dk_at dksL_law_72 9 rfl rfl)
theorem dL_law_1828 : decode cL_law 1828 = .ok (.aload_n 2, 1) := dk_44 (dk_at dksL_law_72 11 rfl rfl)
theorem dL_law_1829 : decode cL_law 1829 = .ok (.invokevirtual 145, 3) := dk_182 0 145 (dk_at dksL_law_72 12 rfl rfl)
theorem dL_law_1832 : decode cL_law 1832 = .ok (.iload 6, 2) := dk_21 6 (dk_at dksL_law_72 15 rfl rfl)
theorem dL_law_1834 : decode cL_law 1834 = .ok (.if_icmp .eq 5, 3) := dk_159 0 5 (dk_at dksL_law_72 17 rfl rfl)
theorem dL_law_1837 : decode cL_law 1837 = .ok (.iconst 0, 1) := dk_3 (dk_at dksL_law_72 20 rfl rfl)
theorem dL_law_1838 : decode cL_law 1838 = .ok (.ireturn, 1) := dk_172 (dk_at dksL_law_72 21 rfl rfl)
theorem dL_law_1839 : decode cL_law 1839 = .ok (.iload 6, 2) := dk_21 6 (dk_at dksL_law_72 22 rfl rfl)
theorem dL_law_1841 : decode cL_law 1841 = .ok (.ifCond .ne 35, 3) := dk_154 0 35 (dk_at dksL_law_73 0 rfl rfl)
theorem dL_law_1844 : decode cL_law 1844 = .ok (.aload 4, 2) := dk_25 4 (dk_at dksL_law_73 3 rfl rfl)
theorem dL_law_1846 : decode cL_law 1846 = .ok (.iconst 0, 1) := dk_3 (dk_at dksL_law_73 5 rfl rfl)
theorem dL_law_1847 : decode cL_law 1847 = .ok (.daload, 1) := dk_49 (dk_at dksL_law_73 6 rfl rfl)
theorem dL_law_1848 : decode cL_law 1848 = .ok (.dload 7, 2) := dk_24 7 (dk_at dksL_law_73 7 rfl rfl)
theorem dL_law_1850 : decode cL_law 1850 = .ok (.dcmp .l, 1) := dk_151 (dk_at dksL_law_73 9 rfl rfl)
theorem dL_law_1851 : decode cL_law 1851 = .ok (.ifCond .eq 25, 3) := dk_153 0 25 (dk_at dksL_law_73 10 rfl rfl)
theorem dL_law_1854 : decode cL_law 1854 = .ok (.aload 4, 2) := dk_25 4 (dk_at dksL_law_73 13 rfl rfl)
theorem dL_law_1856 : decode cL_law 1856 = .ok (.iconst 0, 1) := dk_3 (dk_at dksL_law_73 15 rfl rfl)
theorem dL_law_1857 : decode cL_law 1857 = .ok (.daload, 1) := dk_49 (dk_at dksL_law_73 16 rfl rfl)
theorem dL_law_1858 : decode cL_law 1858 = .ok (.aload 4, 2) := dk_25 4 (dk_at dksL_law_73 17 rfl rfl)
theorem dL_law_1860 : decode cL_law 1860 = .ok (.iconst 0, 1) := dk_3 (dk_at dksL_law_73 19 rfl rfl)
theorem dL_law_1861 : decode cL_law 1861 = .ok (.daload, 1) := dk_49 (dk_at dksL_law_73 20 rfl rfl)
theorem dL_law_1862 : decode cL_law 1862 = .ok (.dcmp .l, 1) := dk_151 (dk_at dksL_law_73 21 rfl rfl)
theorem dL_law_1863 : decode cL_law 1863 = .ok (.ifCond .eq 11, 3) := dk_153 0 11 (dk_at dksL_law_74 0 rfl rfl)
theorem dL_law_1866 : decode cL_law 1866 = .ok (.dload 7, 2) := dk_24 7 (dk_at dksL_law_74 3 rfl rfl)
theorem dL_law_1868 : decode cL_law 1868 = .ok (.dload 7, 2) := dk_24 7 (dk_at dksL_law_74 5 rfl rfl)
theorem dL_law_1870 : decode cL_law 1870 = .ok (.dcmp .l, 1) := dk_151 (dk_at dksL_law_74 7 rfl rfl)
theorem dL_law_1871 : decode cL_law 1871 = .ok (.ifCond .ne 5, 3) := dk_154 0 5 (dk_at dksL_law_74 8 rfl rfl)
theorem dL_law_1874 : decode cL_law 1874 = .ok (.iconst 0, 1) := dk_3 (dk_at dksL_law_74 11 rfl rfl)
theorem dL_law_1875 : decode cL_law 1875 = .ok (.ireturn, 1) := dk_172 (dk_at dksL_law_74 12 rfl rfl)
theorem dL_law_1876 : decode cL_law 1876 = .ok (.goto 358, 3) := dk_167 1 102 (dk_at dksL_law_74 13 rfl rfl)
theorem dL_law_1879 : decode cL_law 1879 = .ok (.aload_n 1, 1) := dk_43 (dk_at dksL_law_74 16 rfl rfl)
theorem dL_law_1880 : decode cL_law 1880 = .ok (.aload 4, 2) := dk_25 4 (dk_at dksL_law_74 17 rfl rfl)
theorem dL_law_1882 : decode cL_law 1882 = .ok (.invokestatic 235, 3) := dk_184 0 235 (dk_at dksL_law_74 19 rfl rfl)
theorem dL_law_1885 : decode cL_law 1885 = .ok (.istore 6, 2) := dk_54 6 (dk_at dksL_law_74 22 rfl rfl)
theorem dL_law_1887 : decode cL_law 1887 = .ok (.aload_n 2, 1) := dk_44 (dk_at dksL_law_75 0 rfl rfl)
theorem dL_law_1888 : decode cL_law 1888 = .ok (.invokevirtual 237, 3) := dk_182 0 237 (dk_at dksL_law_75 1 rfl rfl)
theorem dL_law_1891 : decode cL_law 1891 = .ok (.fstore 7, 2) := dk_56 7 (dk_at dksL_law_75 4 rfl rfl)
theorem dL_law_1893 : decode cL_law 1893 = .ok (.aload_n 2, 1) := dk_44 (dk_at dksL_law_75 6 rfl rfl)
theorem dL_law_1894 : decode cL_law 1894 = .ok (.invokevirtual 145, 3) := dk_182 0 145 (dk_at dksL_law_75 7 rfl rfl)
theorem dL_law_1897 : decode cL_law 1897 = .ok (.iload 6, 2) := dk_21 6 (dk_at dksL_law_75 10 rfl rfl)
theorem dL_law_1899 : decode cL_law 1899 = .ok (.if_icmp .eq 5, 3) := dk_159 0 5 (dk_at dksL_law_75 12 rfl rfl)
theorem dL_law_1902 : decode cL_law 1902 = .ok (.iconst 0, 1) := dk_3 (dk_at dksL_law_75 15 rfl rfl)
theorem dL_law_1903 : decode cL_law 1903 = .ok (.ireturn, 1) := dk_172 (dk_at dksL_law_75 16 rfl rfl)
theorem dL_law_1904 : decode cL_law 1904 = .ok (.iload 6, 2) := dk_21 6 (dk_at dksL_law_75 17 rfl rfl)
theorem dL_law_1906 : decode cL_law 1906 = .ok (.ifCond .ne 36, 3) := dk_154 0 36 (dk_at dksL_law_75 19 rfl rfl)
theorem dL_law_1909 : decode cL_law 1909 = .ok (.aload 4, 2) := dk_25 4 (dk_at dksL_law_75 22 rfl rfl)
theorem dL_law_1911 : decode cL_law 1911 = .ok (.iconst 0, 1) := dk_3 (dk_at dksL_law_76 0 rfl rfl)
theorem dL_law_1912 : decode cL_law 1912 = .ok (.daload, 1) := dk_49 (dk_at dksL_law_76 1 rfl rfl)
theorem dL_law_1913 : decode cL_law 1913 = .ok (.fload 7, 2) := dk_23 7 (dk_at dksL_law_76 2 rfl rfl)
theorem dL_law_1915 : decode cL_law 1915 = .ok (.f2d, 1) := dk_141 (dk_at dksL_law_76 4 rfl rfl)
theorem dL_law_1916 : decode cL_law 1916 = .ok (.dcmp .l, 1) := dk_151 (dk_at dksL_law_76 5 rfl rfl)
theorem dL_law_1917 : decode cL_law 1917 = .ok (.ifCond .eq 25, 3) := dk_153 0 25 (dk_at dksL_law_76 6 rfl rfl)
theorem dL_law_1920 : decode cL_law 1920 = .ok (.aload 4, 2) := dk_25 4 (dk_at dksL_law_76 9 rfl rfl)
theorem dL_law_1922 : decode cL_law 1922 = .ok (.iconst 0, 1) := dk_3 (dk_at dksL_law_76 11 rfl rfl)
theorem dL_law_1923 : decode cL_law 1923 = .ok (.daload, 1) := dk_49 (dk_at dksL_law_76 12 rfl rfl)
theorem dL_law_1924 : decode cL_law 1924 = .ok (.aload 4, 2) := dk_25 4 (dk_at dksL_law_76 13 rfl rfl)
theorem dL_law_1926 : decode cL_law 1926 = .ok (.iconst 0, 1) := dk_3 (dk_at dksL_law_76 15 rfl rfl)
theorem dL_law_1927 : decode cL_law 1927 = .ok (.daload, 1) := dk_49 (dk_at dksL_law_76 16 rfl rfl)
theorem dL_law_1928 : decode cL_law 1928 = .ok (.dcmp .l, 1) := dk_151 (dk_at dksL_law_76 17 rfl rfl)
theorem dL_law_1929 : decode cL_law 1929 = .ok (.ifCond .eq 11, 3) := dk_153 0 11 (dk_at dksL_law_76 18 rfl rfl)
theorem dL_law_1932 : decode cL_law 1932 = .ok (.fload 7, 2) := dk_23 7 (dk_at dksL_law_76 21 rfl rfl)
theorem dL_law_1934 : decode cL_law 1934 = .ok (.fload 7, 2) := dk_23 7 (dk_at dksL_law_77 0 rfl rfl)
theorem dL_law_1936 : decode cL_law 1936 = .ok (.fcmp .l, 1) := dk_149 (dk_at dksL_law_77 2 rfl rfl)
theorem dL_law_1937 : decode cL_law 1937 = .ok (.ifCond .ne 5, 3) := dk_154 0 5 (dk_at dksL_law_77 3 rfl rfl)
theorem dL_law_1940 : decode cL_law 1940 = .ok (.iconst 0, 1) := dk_3 (dk_at dksL_law_77 6 rfl rfl)
theorem dL_law_1941 : decode cL_law 1941 = .ok (.ireturn, 1) := dk_172 (dk_at dksL_law_77 7 rfl rfl)
theorem dL_law_1942 : decode cL_law 1942 = .ok (.goto 292, 3) := dk_167 1 36 (dk_at dksL_law_77 8 rfl rfl)
theorem dL_law_1945 : decode cL_law 1945 = .ok (.aload_n 1, 1) := dk_43 (dk_at dksL_law_77 11 rfl rfl)
theorem dL_law_1946 : decode cL_law 1946 = .ok (.aload_n 0, 1) := dk_42 (dk_at dksL_law_77 12 rfl rfl)
theorem dL_law_1947 : decode cL_law 1947 = .ok (.iload 5, 2) := dk_21 5 (dk_at dksL_law_77 13 rfl rfl)
theorem dL_law_1949 : decode cL_law 1949 = .ok (.iconst 1, 1) := dk_4 (dk_at dksL_law_77 15 rfl rfl)
theorem dL_law_1950 : decode cL_law 1950 = .ok (.iadd, 1) := dk_96 (dk_at dksL_law_77 16 rfl rfl)
theorem dL_law_1951 : decode cL_law 1951 = .ok (.iaload, 1) := dk_46 (dk_at dksL_law_77 17 rfl rfl)
theorem dL_law_1952 : decode cL_law 1952 = .ok (.aload_n 3, 1) := dk_45 (dk_at dksL_law_77 18 rfl rfl)
theorem dL_law_1953 : decode cL_law 1953 = .ok (.invokestatic 238, 3) := dk_184 0 238 (dk_at dksL_law_77 19 rfl rfl)
theorem dL_law_1956 : decode cL_law 1956 = .ok (.istore 6, 2) := dk_54 6 (dk_at dksL_law_77 22 rfl rfl)
theorem dL_law_1958 : decode cL_law 1958 = .ok (.aload_n 2, 1) := dk_44 (dk_at dksL_law_78 0 rfl rfl)
theorem dL_law_1959 : decode cL_law 1959 = .ok (.aload_n 0, 1) := dk_42 (dk_at dksL_law_78 1 rfl rfl)
theorem dL_law_1960 : decode cL_law 1960 = .ok (.iload 5, 2) := dk_21 5 (dk_at dksL_law_78 2 rfl rfl)
theorem dL_law_1962 : decode cL_law 1962 = .ok (.iconst 1, 1) := dk_4 (dk_at dksL_law_78 4 rfl rfl)
theorem dL_law_1963 : decode cL_law 1963 = .ok (.iadd, 1) := dk_96 (dk_at dksL_law_78 5 rfl rfl)
theorem dL_law_1964 : decode cL_law 1964 = .ok (.iaload, 1) := dk_46 (dk_at dksL_law_78 6 rfl rfl)
theorem dL_law_1965 : decode cL_law 1965 = .ok (.invokevirtual 240, 3) := dk_182 0 240 (dk_at dksL_law_78 7 rfl rfl)
theorem dL_law_1968 : decode cL_law 1968 = .ok (.istore 7, 2) := dk_54 7 (dk_at dksL_law_78 10 rfl rfl)
theorem dL_law_1970 : decode cL_law 1970 = .ok (.aload_n 2, 1) := dk_44 (dk_at dksL_law_78 12 rfl rfl)
theorem dL_law_1971 : decode cL_law 1971 = .ok (.invokevirtual 145, 3) := dk_182 0 145 (dk_at dksL_law_78 13 rfl rfl)
theorem dL_law_1974 : decode cL_law 1974 = .ok (.iload 6, 2) := dk_21 6 (dk_at dksL_law_78 16 rfl rfl)
theorem dL_law_1976 : decode cL_law 1976 = .ok (.if_icmp .eq 5, 3) := dk_159 0 5 (dk_at dksL_law_78 18 rfl rfl)
theorem dL_law_1979 : decode cL_law 1979 = .ok (.iconst 0, 1) := dk_3 (dk_at dksL_law_78 21 rfl rfl)
theorem dL_law_1980 : decode cL_law 1980 = .ok (.ireturn, 1) := dk_172 (dk_at dksL_law_78 22 rfl rfl)
theorem dL_law_1981 : decode cL_law 1981 = .ok (.iload 6, 2) := dk_21 6 (dk_at dksL_law_79 0 rfl rfl)
theorem dL_law_1983 : decode cL_law 1983 = .ok (.ifCond .ne 15, 3) := dk_154 0 15 (dk_at dksL_law_79 2 rfl rfl)
theorem dL_law_1986 : decode cL_law 1986 = .ok (.aload_n 3, 1) := dk_45 (dk_at dksL_law_79 5 rfl rfl)
theorem dL_law_1987 : decode cL_law 1987 = .ok (.iconst 0, 1) := dk_3 (dk_at dksL_law_79 6 rfl rfl)
theorem dL_law_1988 : decode cL_law 1988 = .ok (.laload, 1) := dk_47 (dk_at dksL_law_79 7 rfl rfl)
theorem dL_law_1989 : decode cL_law 1989 = .ok (.iload 7, 2) := dk_21 7 (dk_at dksL_law_79 8 rfl rfl)
theorem dL_law_1991 : decode cL_law 1991 = .ok (.i2l, 1) := dk_133 (dk_at dksL_law_79 10 rfl rfl)
theorem dL_law_1992 : decode cL_law 1992 = .ok (.lcmp, 1) := dk_148 (dk_at dksL_law_79 11 rfl rfl)
theorem dL_law_1993 : decode cL_law 1993 = .ok (.ifCond .eq 5, 3) := dk_153 0 5 (dk_at dksL_law_79 12 rfl rfl)
theorem dL_law_1996 : decode cL_law 1996 = .ok (.iconst 0, 1) := dk_3 (dk_at dksL_law_79 15 rfl rfl)
theorem dL_law_1997 : decode cL_law 1997 = .ok (.ireturn, 1) := dk_172 (dk_at dksL_law_79 16 rfl rfl)
theorem dL_law_1998 : decode cL_law 1998 = .ok (.goto 236, 3) := dk_167 0 236 (dk_at dksL_law_79 17 rfl rfl)
theorem dL_law_2001 : decode cL_law 2001 = .ok (.aload_n 1, 1) := dk_43 (dk_at dksL_law_79 20 rfl rfl)
theorem dL_law_2002 : decode cL_law 2002 = .ok (.aload_n 3, 1) := dk_45 (dk_at dksL_law_79 21 rfl rfl)
theorem dL_law_2003 : decode cL_law 2003 = .ok (.invokestatic 241, 3) := dk_184 0 241 (dk_at dksL_law_80 0 rfl rfl)
theorem dL_law_2006 : decode cL_law 2006 = .ok (.istore 6, 2) := dk_54 6 (dk_at dksL_law_80 3 rfl rfl)
theorem dL_law_2008 : decode cL_law 2008 = .ok (.aload_n 2, 1) := dk_44 (dk_at dksL_law_80 5 rfl rfl)
theorem dL_law_2009 : decode cL_law 2009 = .ok (.invokevirtual 243, 3) := dk_182 0 243 (dk_at dksL_law_80 6 rfl rfl)
theorem dL_law_2012 : decode cL_law 2012 = .ok (.istore 7, 2) := dk_54 7 (dk_at dksL_law_80 9 rfl rfl)
theorem dL_law_2014 : decode cL_law 2014 = .ok (.aload_n 2, 1) := dk_44 (dk_at dksL_law_80 11 rfl rfl)
theorem dL_law_2015 : decode cL_law 2015 = .ok (.invokevirtual 145, 3) := dk_182 0 145 (dk_at dksL_law_80 12 rfl rfl)
theorem dL_law_2018 : decode cL_law 2018 = .ok (.iload 6, 2) := dk_21 6 (dk_at dksL_law_80 15 rfl rfl)
theorem dL_law_2020 : decode cL_law 2020 = .ok (.if_icmp .eq 5, 3) := dk_159 0 5 (dk_at dksL_law_80 17 rfl rfl)
theorem dL_law_2023 : decode cL_law 2023 = .ok (.iconst 0, 1) := dk_3 (dk_at dksL_law_80 20 rfl rfl)
theorem dL_law_2024 : decode cL_law 2024 = .ok (.ireturn, 1) := dk_172 (dk_at dksL_law_80 21 rfl rfl)
theorem dL_law_2025 : decode cL_law 2025 = .ok (.iload 6, 2) := dk_21 6 (dk_at dksL_law_80 22 rfl rfl)
theorem dL_law_2027 : decode cL_law 2027 = .ok (.ifCond .ne 15, 3) := dk_154 0 15 (dk_at dksL_law_81 0 rfl rfl)
theorem dL_law_2030 : decode cL_law 2030 = .ok (.aload_n 3, 1) := dk_45 (dk_at dksL_law_81 3 rfl rfl)
theorem dL_law_2031 : decode cL_law 2031 = .ok (.iconst 0, 1) := dk_3 (dk_at dksL_law_81 4 rfl rfl)
theorem dL_law_2032 : decode cL_law 2032 = .ok (.laload, 1) := dk_47 (dk_at dksL_law_81 5 rfl rfl)
theorem dL_law_2033 : decode cL_law 2033 = .ok (.iload 7, 2) := dk_21 7 (dk_at dksL_law_81 6 rfl rfl)
theorem dL_law_2035 : decode cL_law 2035 = .ok (.i2l, 1) := dk_133 (dk_at dksL_law_81 8 rfl rfl)
theorem dL_law_2036 : decode cL_law 2036 = .ok (.lcmp, 1) := dk_148 (dk_at dksL_law_81 9 rfl rfl)
theorem dL_law_2037 : decode cL_law 2037 = .ok (.ifCond .eq 5, 3) := dk_153 0 5 (dk_at dksL_law_81 10 rfl rfl)
theorem dL_law_2040 : decode cL_law 2040 = .ok (.iconst 0, 1) := dk_3 (dk_at dksL_law_81 13 rfl rfl)
theorem dL_law_2041 : decode cL_law 2041 = .ok (.ireturn, 1) := dk_172 (dk_at dksL_law_81 14 rfl rfl)
theorem dL_law_2042 : decode cL_law 2042 = .ok (.goto 192, 3) := dk_167 0 192 (dk_at dksL_law_81 15 rfl rfl)
theorem dL_law_2045 : decode cL_law 2045 = .ok (.aload_n 1, 1) := dk_43 (dk_at dksL_law_81 18 rfl rfl)
theorem dL_law_2046 : decode cL_law 2046 = .ok (.aload_n 3, 1) := dk_45 (dk_at dksL_law_81 19 rfl rfl)
theorem dL_law_2047 : decode cL_law 2047 = .ok (.invokestatic 244, 3) := dk_184 0 244 (dk_at dksL_law_81 20 rfl rfl)
theorem dL_law_2050 : decode cL_law 2050 = .ok (.istore 6, 2) := dk_54 6 (dk_at dksL_law_82 0 rfl rfl)
theorem dL_law_2052 : decode cL_law 2052 = .ok (.aload_n 2, 1) := dk_44 (dk_at dksL_law_82 2 rfl rfl)
theorem dL_law_2053 : decode cL_law 2053 = .ok (.invokevirtual 246, 3) := dk_182 0 246 (dk_at dksL_law_82 3 rfl rfl)
theorem dL_law_2056 : decode cL_law 2056 = .ok (.istore 7, 2) := dk_54 7 (dk_at dksL_law_82 6 rfl rfl)
theorem dL_law_2058 : decode cL_law 2058 = .ok (.aload_n 2, 1) := dk_44 (dk_at dksL_law_82 8 rfl rfl)
theorem dL_law_2059 : decode cL_law 2059 = .ok (.invokevirtual 145, 3) := dk_182 0 145 (dk_at dksL_law_82 9 rfl rfl)
theorem dL_law_2062 : decode cL_law 2062 = .ok (.iload 6, 2) := dk_21 6 (dk_at dksL_law_82 12 rfl rfl)
theorem dL_law_2064 : decode cL_law 2064 = .ok (.if_icmp .eq 5, 3) := dk_159 0 5 (dk_at dksL_law_82 14 rfl rfl)
theorem dL_law_2067 : decode cL_law 2067 = .ok (.iconst 0, 1) := dk_3 (dk_at dksL_law_82 17 rfl rfl)
theorem dL_law_2068 : decode cL_law 2068 = .ok (.ireturn, 1) := dk_172 (dk_at dksL_law_82 18 rfl rfl)
theorem dL_law_2069 : decode cL_law 2069 = .ok (.iload 6, 2) := dk_21 6 (dk_at dksL_law_82 19 rfl rfl)
theorem dL_law_2071 : decode cL_law 2071 = .ok (.ifCond .ne 15, 3) := dk_154 0 15 (dk_at dksL_law_82 21 rfl rfl)
theorem dL_law_2074 : decode cL_law 2074 = .ok (.aload_n 3, 1) := dk_45 (dk_at dksL_law_83 0 rfl rfl)
theorem dL_law_2075 : decode cL_law 2075 = .ok (.iconst 0, 1) := dk_3 (dk_at dksL_law_83 1 rfl rfl)
theorem dL_law_2076 : decode cL_law 2076 = .ok (.laload, 1) := dk_47 (dk_at dksL_law_83 2 rfl rfl)
theorem dL_law_2077 : decode cL_law 2077 = .ok (.iload 7, 2) := dk_21 7 (dk_at dksL_law_83 3 rfl rfl)
theorem dL_law_2079 : decode cL_law 2079 = .ok (.i2l, 1) := dk_133 (dk_at dksL_law_83 5 rfl rfl)
theorem dL_law_2080 : decode cL_law 2080 = .ok (.lcmp, 1) := dk_148 (dk_at dksL_law_83 6 rfl rfl)
theorem dL_law_2081 : decode cL_law 2081 = .ok (.ifCond .eq 5, 3) := dk_153 0 5 (dk_at dksL_law_83 7 rfl rfl)
theorem dL_law_2084 : decode cL_law 2084 = .ok (.iconst 0, 1) := dk_3 (dk_at dksL_law_83 10 rfl rfl)
theorem dL_law_2085 : decode cL_law 2085 = .ok (.ireturn, 1) := dk_172 (dk_at dksL_law_83 11 rfl rfl)
theorem dL_law_2086 : decode cL_law 2086 = .ok (.goto 148, 3) := dk_167 0 148 (dk_at dksL_law_83 12 rfl rfl)
theorem dL_law_2089 : decode cL_law 2089 = .ok (.aload_n 1, 1) := dk_43 (dk_at dksL_law_83 15 rfl rfl)
theorem dL_law_2090 : decode cL_law 2090 = .ok (.aload_n 3, 1) := dk_45 (dk_at dksL_law_83 16 rfl rfl)
theorem dL_law_2091 : decode cL_law 2091 = .ok (.invokestatic 247, 3) := dk_184 0 247 (dk_at dksL_law_83 17 rfl rfl)
theorem dL_law_2094 : decode cL_law 2094 = .ok (.istore 6, 2) := dk_54 6 (dk_at dksL_law_83 20 rfl rfl)
theorem dL_law_2096 : decode cL_law 2096 = .ok (.aload_n 2, 1) := dk_44 (dk_at dksL_law_83 22 rfl rfl)
theorem dL_law_2097 : decode cL_law 2097 = .ok (.invokevirtual 249, 3) := dk_182 0 249 (dk_at dksL_law_84 0 rfl rfl)
theorem dL_law_2100 : decode cL_law 2100 = .ok (.istore 7, 2) := dk_54 7 (dk_at dksL_law_84 3 rfl rfl)
theorem dL_law_2102 : decode cL_law 2102 = .ok (.aload_n 2, 1) := dk_44 (dk_at dksL_law_84 5 rfl rfl)
theorem dL_law_2103 : decode cL_law 2103 = .ok (.invokevirtual 145, 3) := dk_182 0 145 (dk_at dksL_law_84 6 rfl rfl)
theorem dL_law_2106 : decode cL_law 2106 = .ok (.iload 6, 2) := dk_21 6 (dk_at dksL_law_84 9 rfl rfl)
theorem dL_law_2108 : decode cL_law 2108 = .ok (.if_icmp .eq 5, 3) := dk_159 0 5 (dk_at dksL_law_84 11 rfl rfl)
theorem dL_law_2111 : decode cL_law 2111 = .ok (.iconst 0, 1) := dk_3 (dk_at dksL_law_84 14 rfl rfl)
theorem dL_law_2112 : decode cL_law 2112 = .ok (.ireturn, 1) := dk_172 (dk_at dksL_law_84 15 rfl rfl)
theorem dL_law_2113 : decode cL_law 2113 = .ok (.iload 6, 2) := dk_21 6 (dk_at dksL_law_84 16 rfl rfl)
theorem dL_law_2115 : decode cL_law 2115 = .ok (.ifCond .ne 15, 3) := dk_154 0 15 (dk_at dksL_law_84 18 rfl rfl)
theorem dL_law_2118 : decode cL_law 2118 = .ok (.aload_n 3, 1) := dk_45 (dk_at dksL_law_84 21 rfl rfl)
theorem dL_law_2119 : decode cL_law 2119 = .ok (.iconst 0, 1) := dk_3 (dk_at dksL_law_84 22 rfl rfl)
theorem dL_law_2120 : decode cL_law 2120 = .ok (.laload, 1) := dk_47 (dk_at dksL_law_84 23 rfl rfl)
theorem dL_law_2121 : decode cL_law 2121 = .ok (.iload 7, 2) := dk_21 7 (dk_at dksL_law_85 0 rfl rfl)
theorem dL_law_2123 : decode cL_law 2123 = .ok (.i2l, 1) := dk_133 (dk_at dksL_law_85 2 rfl rfl)
theorem dL_law_2124 : decode cL_law 2124 = .ok (.lcmp, 1) := dk_148 (dk_at dksL_law_85 3 rfl rfl)
theorem dL_law_2125 : decode cL_law 2125 = .ok (.ifCond .eq 5, 3) := dk_153 0 5 (dk_at dksL_law_85 4 rfl rfl)
theorem dL_law_2128 : decode cL_law 2128 = .ok (.iconst 0, 1) := dk_3 (dk_at dksL_law_85 7 rfl rfl)
theorem dL_law_2129 : decode cL_law 2129 = .ok (.ireturn, 1) := dk_172 (dk_at dksL_law_85 8 rfl rfl)
theorem dL_law_2130 : decode cL_law 2130 = .ok (.goto 104, 3) := dk_167 0 104 (dk_at dksL_law_85 9 rfl rfl)
theorem dL_law_2133 : decode cL_law 2133 = .ok (.aload_n 1, 1) := dk_43 (dk_at dksL_law_85 12 rfl rfl)
theorem dL_law_2134 : decode cL_law 2134 = .ok (.aload_n 3, 1) := dk_45 (dk_at dksL_law_85 13 rfl rfl)
theorem dL_law_2135 : decode cL_law 2135 = .ok (.invokestatic 250, 3) := dk_184 0 250 (dk_at dksL_law_85 14 rfl rfl)
theorem dL_law_2138 : decode cL_law 2138 = .ok (.istore 6, 2) := dk_54 6 (dk_at dksL_law_85 17 rfl rfl)
theorem dL_law_2140 : decode cL_law 2140 = .ok (.aload_n 2, 1) := dk_44 (dk_at dksL_law_85 19 rfl rfl)
theorem dL_law_2141 : decode cL_law 2141 = .ok (.invokevirtual 252, 3) := dk_182 0 252 (dk_at dksL_law_85 20 rfl rfl)
theorem dL_law_2144 : decode cL_law 2144 = .ok (.istore 7, 2) := dk_54 7 (dk_at dksL_law_86 0 rfl rfl)
theorem dL_law_2146 : decode cL_law 2146 = .ok (.aload_n 2, 1) := dk_44 (dk_at dksL_law_86 2 rfl rfl)
theorem dL_law_2147 : decode cL_law 2147 = .ok (.invokevirtual 145, 3) := dk_182 0 145 (dk_at dksL_law_86 3 rfl rfl)
theorem dL_law_2150 : decode cL_law 2150 = .ok (.iload 6, 2) := dk_21 6 (dk_at dksL_law_86 6 rfl rfl)
theorem dL_law_2152 : decode cL_law 2152 = .ok (.if_icmp .eq 5, 3) := dk_159 0 5 (dk_at dksL_law_86 8 rfl rfl)
theorem dL_law_2155 : decode cL_law 2155 = .ok (.iconst 0, 1) := dk_3 (dk_at dksL_law_86 11 rfl rfl)
theorem dL_law_2156 : decode cL_law 2156 = .ok (.ireturn, 1) := dk_172 (dk_at dksL_law_86 12 rfl rfl)
theorem dL_law_2157 : decode cL_law 2157 = .ok (.iload 6, 2) := dk_21 6 (dk_at dksL_law_86 13 rfl rfl)
theorem dL_law_2159 : decode cL_law 2159 = .ok (.ifCond .ne 15, 3) := dk_154 0 15 (dk_at dksL_law_86 15 rfl rfl)
theorem dL_law_2162 : decode cL_law 2162 = .ok (.aload_n 3, 1) := dk_45 (dk_at dksL_law_86 18 rfl rfl)
theorem dL_law_2163 : decode cL_law 2163 = .ok (.iconst 0, 1) := dk_3 (dk_at dksL_law_86 19 rfl rfl)
theorem dL_law_2164 : decode cL_law 2164 = .ok (.laload, 1) := dk_47 (dk_at dksL_law_86 20 rfl rfl)
theorem dL_law_2165 : decode cL_law 2165 = .ok (.iload 7, 2) := dk_21 7 (dk_at dksL_law_86 21 rfl rfl)
theorem dL_law_2167 : decode cL_law 2167 = .ok (.i2l, 1) := dk_133 (dk_at dksL_law_86 23 rfl rfl)
theorem dL_law_2168 : decode cL_law 2168 = .ok (.lcmp, 1) := dk_148 (dk_at dksL_law_87 0 rfl rfl)
theorem dL_law_2169 : decode cL_law 2169 = .ok (.ifCond .eq 5, 3) := dk_153 0 5 (dk_at dksL_law_87 1 rfl rfl)
theorem dL_law_2172 : decode cL_law 2172 = .ok (.iconst 0, 1) := dk_3 (dk_at dksL_law_87 4 rfl rfl)
theorem dL_law_2173 : decode cL_law 2173 = .ok (.ireturn, 1) := dk_172 (dk_at dksL_law_87 5 rfl rfl)
theorem dL_law_2174 : decode cL_law 2174 = .ok (.goto 60, 3) := dk_167 0 60 (dk_at dksL_law_87 6 rfl rfl)
theorem dL_law_2177 : decode cL_law 2177 = .ok (.aload_n 1, 1) := dk_43 (dk_at dksL_law_87 9 rfl rfl)
theorem dL_law_2178 : decode cL_law 2178 = .ok (.invokevirtual 253, 3) := dk_182 0 253 (dk_at dksL_law_87 10 rfl rfl)
theorem dL_law_2181 : decode cL_law 2181 = .ok (.aload_n 2, 1) := dk_44 (dk_at dksL_law_87 13 rfl rfl)
theorem dL_law_2182 : decode cL_law 2182 = .ok (.invokevirtual 256, 3) := dk_182 1 0 (dk_at dksL_law_87 14 rfl rfl)
theorem dL_law_2185 : decode cL_law 2185 = .ok (.if_icmp .eq 49, 3) := dk_159 0 49 (dk_at dksL_law_87 17 rfl rfl)
theorem dL_law_2188 : decode cL_law 2188 = .ok (.iconst 0, 1) := dk_3 (dk_at dksL_law_87 20 rfl rfl)
theorem dL_law_2189 : decode cL_law 2189 = .ok (.ireturn, 1) := dk_172 (dk_at dksL_law_87 21 rfl rfl)
theorem dL_law_2190 : decode cL_law 2190 = .ok (.aload_n 1, 1) := dk_43 (dk_at dksL_law_87 22 rfl rfl)
theorem dL_law_2191 : decode cL_law 2191 = .ok (.aload_n 3, 1) := dk_45 (dk_at dksL_law_87 23 rfl rfl)
theorem dL_law_2192 : decode cL_law 2192 = .ok (.invokestatic 257, 3) := dk_184 1 1 (dk_at dksL_law_88 0 rfl rfl)
theorem dL_law_2195 : decode cL_law 2195 = .ok (.istore 6, 2) := dk_54 6 (dk_at dksL_law_88 3 rfl rfl)
theorem dL_law_2197 : decode cL_law 2197 = .ok (.aload_n 2, 1) := dk_44 (dk_at dksL_law_88 5 rfl rfl)
theorem dL_law_2198 : decode cL_law 2198 = .ok (.invokevirtual 259, 3) := dk_182 1 3 (dk_at dksL_law_88 6 rfl rfl)
theorem dL_law_2201 : decode cL_law 2201 = .ok (.istore 7, 2) := dk_54 7 (dk_at dksL_law_88 9 rfl rfl)
theorem dL_law_2203 : decode cL_law 2203 = .ok (.aload_n 2, 1) := dk_44 (dk_at dksL_law_88 11 rfl rfl)
theorem dL_law_2204 : decode cL_law 2204 = .ok (.invokevirtual 145, 3) := dk_182 0 145 (dk_at dksL_law_88 12 rfl rfl)
theorem dL_law_2207 : decode cL_law 2207 = .ok (.iload 6, 2) := dk_21 6 (dk_at dksL_law_88 15 rfl rfl)
theorem dL_law_2209 : decode cL_law 2209 = .ok (.if_icmp .eq 5, 3) := dk_159 0 5 (dk_at dksL_law_88 17 rfl rfl)
theorem dL_law_2212 : decode cL_law 2212 = .ok (.iconst 0, 1) := dk_3 (dk_at dksL_law_88 20 rfl rfl)
theorem dL_law_2213 : decode cL_law 2213 = .ok (.ireturn, 1) := dk_172 (dk_at dksL_law_88 21 rfl rfl)
theorem dL_law_2214 : decode cL_law 2214 = .ok (.iload 6, 2) := dk_21 6 (dk_at dksL_law_88 22 rfl rfl)
theorem dL_law_2216 : decode cL_law 2216 = .ok (.ifCond .ne 15, 3) := dk_154 0 15 (dk_at dksL_law_89 0 rfl rfl)
theorem dL_law_2219 : decode cL_law 2219 = .ok (.aload_n 3, 1) := dk_45 (dk_at dksL_law_89 3 rfl rfl)
theorem dL_law_2220 : decode cL_law 2220 = .ok (.iconst 0, 1) := dk_3 (dk_at dksL_law_89 4 rfl rfl)
theorem dL_law_2221 : decode cL_law 2221 = .ok (.laload, 1) := dk_47 (dk_at dksL_law_89 5 rfl rfl)
theorem dL_law_2222 : decode cL_law 2222 = .ok (.iload 7, 2) := dk_21 7 (dk_at dksL_law_89 6 rfl rfl)
theorem dL_law_2224 : decode cL_law 2224 = .ok (.i2l, 1) := dk_133 (dk_at dksL_law_89 8 rfl rfl)
theorem dL_law_2225 : decode cL_law 2225 = .ok (.lcmp, 1) := dk_148 (dk_at dksL_law_89 9 rfl rfl)
theorem dL_law_2226 : decode cL_law 2226 = .ok (.ifCond .eq 5, 3) := dk_153 0 5 (dk_at dksL_law_89 10 rfl rfl)
theorem dL_law_2229 : decode cL_law 2229 = .ok (.iconst 0, 1) := dk_3 (dk_at dksL_law_89 13 rfl rfl)
theorem dL_law_2230 : decode cL_law 2230 = .ok (.ireturn, 1) := dk_172 (dk_at dksL_law_89 14 rfl rfl)
theorem dL_law_2231 : decode cL_law 2231 = .ok (.goto 3, 3) := dk_167 0 3 (dk_at dksL_law_89 15 rfl rfl)
theorem dL_law_2234 : decode cL_law 2234 = .ok (.iinc 5 4, 3) := dk_132 5 4 (dk_at dksL_law_89 18 rfl rfl)
theorem dL_law_2237 : decode cL_law 2237 = .ok (.goto (-2209), 3) := dk_167 247 95 (dk_at dksL_law_89 21 rfl rfl)
theorem dL_law_2240 : decode cL_law 2240 = .ok (.iconst 1, 1) := dk_4 (dk_at dksL_law_90 0 rfl rfl)
theorem dL_law_2241 : decode cL_law 2241 = .ok (.ireturn, 1) := dk_172 (dk_at dksL_law_90 1 rfl rfl)
