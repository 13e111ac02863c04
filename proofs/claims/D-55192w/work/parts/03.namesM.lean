/-! WillowPrintersModel -/
set_option maxRecDepth 100000
def RX3 : String := "WillowPrintersModel"
def TX3 : u_T := fun k => match k with
  | 0 => ("WillowPrintersModel", "g", "[I", true)
  | 1 => ("WillowPrintersModel", "kept", "[I", true)
  | 2 => ("WillowPrintersModel", "saved", "[I", true)
  | 3 => ("WillowPrintersModel", "before", "[I", true)
  | 4 => ("WillowPrintersModel", "isSaved", "Z", false)
  | 5 => ("WillowPrintersModel", "changes", "I", false)
  | 6 => ("WillowPrintersModel", "isWithin", "Z", false)
  | 7 => ("WillowPrintersModel", "code", "I", false)
  | 8 => ("WillowPrintersModel", "why", "I", false)
  | 9 => ("WillowPrintersModel", "detail", "I", false)
  | 10 => ("WillowPrintersModel", "input", "[I", true)
  | 11 => ("WillowPrintersModel", "length", "I", false)
  | 12 => ("WillowPrintersModel", "error", "I", false)
  | 13 => ("WillowPrintersModel", "item", "I", false)
  | 14 => ("WillowPrintersModel", "signs", "[C", true)
  | 15 => ("WillowPrintersModel", "signMany", "I", false)
  | 16 => ("WillowPrintersModel", "at", "I", false)
  | 17 => ("WillowPrintersModel", "told", "[I", true)
  | _ => ("WillowPrintersModel", "toldMany", "I", false)
def tyX3 : Nat → FieldType := fun k => match k with
  | 0 => .array .int
  | 1 => .array .int
  | 2 => .array .int
  | 3 => .array .int
  | 4 => .boolean
  | 5 => .int
  | 6 => .boolean
  | 7 => .int
  | 8 => .int
  | 9 => .int
  | 10 => .array .int
  | 11 => .int
  | 12 => .int
  | 13 => .int
  | 14 => .array .char
  | 15 => .int
  | 16 => .int
  | 17 => .array .int
  | _ => .int
abbrev wsX30 : List Cond := u_ws RX3 TX3 19
set_option maxRecDepth 100000 in
theorem nmX3 : ∀ a, a < 19 → ∀ b, b < 19 → a ≠ b → (TX3 a).2.1 ≠ (TX3 b).2.1 := by decide +kernel
set_option maxRecDepth 100000 in
theorem tyX3_ok : ∀ k, k < 19 → parseFieldDescriptor (TX3 k).2.2.1 = some (tyX3 k) := by decide +kernel
abbrev cX3_init : ByteArray := prog_24_method_1_code
def yX3_init : MethodName := ⟨RX3, "<init>", "()V"⟩
def dkwX3_init_3 : List UInt8 := [181, 0, 36, 42, 182, 0, 39, 177]
abbrev dktX3_init_3 : List UInt8 := dkwX3_init_3 ++ []
def dkwX3_init_2 : List UInt8 := [181, 0, 25, 42, 2, 181, 0, 29, 42, 16, 60, 188, 5, 181, 0, 32, 42, 17, 0, 128, 188, 10]
abbrev dktX3_init_2 : List UInt8 := dkwX3_init_2 ++ dktX3_init_3
def dkwX3_init_1 : List UInt8 := [188, 10, 181, 0, 16, 42, 16, 125, 188, 10, 181, 0, 19, 42, 16, 60, 188, 10, 181, 0, 22, 42, 2]
abbrev dktX3_init_1 : List UInt8 := dkwX3_init_1 ++ dktX3_init_2
def dkwX3_init_0 : List UInt8 := [42, 183, 0, 1, 42, 16, 125, 188, 10, 181, 0, 7, 42, 17, 3, 232, 188, 10, 181, 0, 13, 42, 16, 125]
abbrev dktX3_init_0 : List UInt8 := dkwX3_init_0 ++ dktX3_init_1
theorem dksX3_init_0 : cX3_init.data.toList.drop 0 = dktX3_init_0 := by decide +kernel
theorem dksX3_init_1 : cX3_init.data.toList.drop 24 = dktX3_init_1 := dk_seg dksX3_init_0 24 rfl rfl
theorem dksX3_init_2 : cX3_init.data.toList.drop 47 = dktX3_init_2 := dk_seg dksX3_init_1 23 rfl rfl
theorem dksX3_init_3 : cX3_init.data.toList.drop 69 = dktX3_init_3 := dk_seg dksX3_init_2 22 rfl rfl
theorem dX3_init_0 : decode cX3_init 0 = .ok (.aload_n 0, 1) := dk_42 (dk_at dksX3_init_0 0 rfl rfl)
theorem dX3_init_1 : decode cX3_init 1 = .ok (.invokespecial 1, 3) := dk_183 0 1 (dk_at dksX3_init_0 1 rfl rfl)
theorem dX3_init_4 : decode cX3_init 4 = .ok (.aload_n 0, 1) := dk_42 (dk_at dksX3_init_0 4 rfl rfl)
theorem dX3_init_5 : decode cX3_init 5 = .ok (.bipush 125, 2) := dk_16 125 (dk_at dksX3_init_0 5 rfl rfl)
theorem dX3_init_7 : decode cX3_init 7 = .ok (.newarray .int, 2) := dk_188_10 (dk_at dksX3_init_0 7 rfl rfl)
theorem dX3_init_9 : decode cX3_init 9 = .ok (.putfield 7, 3) := dk_181 0 7 (dk_at dksX3_init_0 9 rfl rfl)
theorem dX3_init_12 : decode cX3_init 12 = .ok (.aload_n 0, 1) := dk_42 (dk_at dksX3_init_0 12 rfl rfl)
theorem dX3_init_13 : decode cX3_init 13 = .ok (.sipush 1000, 3) := dk_17 3 232 (dk_at dksX3_init_0 13 rfl rfl)
theorem dX3_init_16 : decode cX3_init 16 = .ok (.newarray .int, 2) := dk_188_10 (dk_at dksX3_init_0 16 rfl rfl)
theorem dX3_init_18 : decode cX3_init 18 = .ok (.putfield 13, 3) := dk_181 0 13 (dk_at dksX3_init_0 18 rfl rfl)
theorem dX3_init_21 : decode cX3_init 21 = .ok (.aload_n 0, 1) := dk_42 (dk_at dksX3_init_0 21 rfl rfl)
theorem dX3_init_22 : decode cX3_init 22 = .ok (.bipush 125, 2) := dk_16 125 (dk_at dksX3_init_0 22 rfl rfl)
theorem dX3_init_24 : decode cX3_init 24 = .ok (.newarray .int, 2) := dk_188_10 (dk_at dksX3_init_1 0 rfl rfl)
theorem dX3_init_26 : decode cX3_init 26 = .ok (.putfield 16, 3) := dk_181 0 16 (dk_at dksX3_init_1 2 rfl rfl)
theorem dX3_init_29 : decode cX3_init 29 = .ok (.aload_n 0, 1) := dk_42 (dk_at dksX3_init_1 5 rfl rfl)
theorem dX3_init_30 : decode cX3_init 30 = .ok (.bipush 125, 2) := dk_16 125 (dk_at dksX3_init_1 6 rfl rfl)
theorem dX3_init_32 : decode cX3_init 32 = .ok (.newarray .int, 2) := dk_188_10 (dk_at dksX3_init_1 8 rfl rfl)
theorem dX3_init_34 : decode cX3_init 34 = .ok (.putfield 19, 3) := dk_181 0 19 (dk_at dksX3_init_1 10 rfl rfl)
theorem dX3_init_37 : decode cX3_init 37 = .ok (.aload_n 0, 1) := dk_42 (dk_at dksX3_init_1 13 rfl rfl)
theorem dX3_init_38 : decode cX3_init 38 = .ok (.bipush 60, 2) := dk_16 60 (dk_at dksX3_init_1 14 rfl rfl)
theorem dX3_init_40 : decode cX3_init 40 = .ok (.newarray .int, 2) := dk_188_10 (dk_at dksX3_init_1 16 rfl rfl)
theorem dX3_init_42 : decode cX3_init 42 = .ok (.putfield 22, 3) := dk_181 0 22 (dk_at dksX3_init_1 18 rfl rfl)
theorem dX3_init_45 : decode cX3_init 45 = .ok (.aload_n 0, 1) := dk_42 (dk_at dksX3_init_1 21 rfl rfl)
theorem dX3_init_46 : decode cX3_init 46 = .ok (.iconst (-1), 1) := dk_2 (dk_at dksX3_init_1 22 rfl rfl)
theorem dX3_init_47 : decode cX3_init 47 = .ok (.putfield 25, 3) := dk_181 0 25 (dk_at dksX3_init_2 0 rfl rfl)
theorem dX3_init_50 : decode cX3_init 50 = .ok (.aload_n 0, 1) := dk_42 (dk_at dksX3_init_2 3 rfl rfl)
theorem dX3_init_51 : decode cX3_init 51 = .ok (.iconst (-1), 1) := dk_2 (dk_at dksX3_init_2 4 rfl rfl)
theorem dX3_init_52 : decode cX3_init 52 = .ok (.putfield 29, 3) := dk_181 0 29 (dk_at dksX3_init_2 5 rfl rfl)
theorem dX3_init_55 : decode cX3_init 55 = .ok (.aload_n 0, 1) := dk_42 (dk_at dksX3_init_2 8 rfl rfl)
theorem dX3_init_56 : decode cX3_init 56 = .ok (.bipush 60, 2) := dk_16 60 (dk_at dksX3_init_2 9 rfl rfl)
theorem dX3_init_58 : decode cX3_init 58 = .ok (.newarray .char, 2) := dk_188_5 (dk_at dksX3_init_2 11 rfl rfl)
theorem dX3_init_60 : decode cX3_init 60 = .ok (.putfield 32, 3) := dk_181 0 32 (dk_at dksX3_init_2 13 rfl rfl)
theorem dX3_init_63 : decode cX3_init 63 = .ok (.aload_n 0, 1) := dk_42 (dk_at dksX3_init_2 16 rfl rfl)
theorem dX3_init_64 : decode cX3_init 64 = .ok (.sipush 128, 3) := dk_17 0 128 (dk_at dksX3_init_2 17 rfl rfl)
theorem dX3_init_67 : decode cX3_init 67 = .ok (.newarray .int, 2) := dk_188_10 (dk_at dksX3_init_2 20 rfl rfl)
theorem dX3_init_69 : decode cX3_init 69 = .ok (.putfield 36, 3) := dk_181 0 36 (dk_at dksX3_init_3 0 rfl rfl)
theorem dX3_init_72 : decode cX3_init 72 = .ok (.aload_n 0, 1) := dk_42 (dk_at dksX3_init_3 3 rfl rfl)
theorem dX3_init_73 : decode cX3_init 73 = .ok (.invokevirtual 39, 3) := dk_182 0 39 (dk_at dksX3_init_3 4 rfl rfl)
theorem dX3_init_76 : decode cX3_init 76 = .ok (.return_, 1) := dk_177 (dk_at dksX3_init_3 7 rfl rfl)
abbrev cX3_begins : ByteArray := prog_24_method_2_code
def yX3_begins : MethodName := ⟨RX3, "begins", "()V"⟩
def dkwX3_begins_2 : List UInt8 := [181, 0, 42, 177]
abbrev dktX3_begins_2 : List UInt8 := dkwX3_begins_2 ++ []
def dkwX3_begins_1 : List UInt8 := [180, 0, 7, 4, 8, 79, 42, 180, 0, 7, 5, 16, 40, 79, 42, 180, 0, 7, 6, 16, 60, 79, 42, 3]
abbrev dktX3_begins_1 : List UInt8 := dkwX3_begins_1 ++ dktX3_begins_2
def dkwX3_begins_0 : List UInt8 := [3, 60, 27, 16, 125, 162, 0, 16, 42, 180, 0, 7, 27, 3, 79, 132, 1, 1, 167, 255, 240, 42]
abbrev dktX3_begins_0 : List UInt8 := dkwX3_begins_0 ++ dktX3_begins_1
theorem dksX3_begins_0 : cX3_begins.data.toList.drop 0 = dktX3_begins_0 := by decide +kernel
theorem dksX3_begins_1 : cX3_begins.data.toList.drop 22 = dktX3_begins_1 := dk_seg dksX3_begins_0 22 rfl rfl
theorem dksX3_begins_2 : cX3_begins.data.toList.drop 46 = dktX3_begins_2 := dk_seg dksX3_begins_1 24 rfl rfl
theorem dX3_begins_0 : decode cX3_begins 0 = .ok (.iconst 0, 1) := dk_3 (dk_at dksX3_begins_0 0 rfl rfl)
theorem dX3_begins_1 : decode cX3_begins 1 = .ok (.istore_n 1, 1) := dk_60 (dk_at dksX3_begins_0 1 rfl rfl)
theorem dX3_begins_2 : decode cX3_begins 2 = .ok (.iload_n 1, 1) := dk_27 (dk_at dksX3_begins_0 2 rfl rfl)
theorem dX3_begins_3 : decode cX3_begins 3 = .ok (.bipush 125, 2) := dk_16 125 (dk_at dksX3_begins_0 3 rfl rfl)
theorem dX3_begins_5 : decode cX3_begins 5 = .ok (.if_icmp .ge 16, 3) := dk_162 0 16 (dk_at dksX3_begins_0 5 rfl rfl)
theorem dX3_begins_8 : decode cX3_begins 8 = .ok (.aload_n 0, 1) := dk_42 (dk_at dksX3_begins_0 8 rfl rfl)
theorem dX3_begins_9 : decode cX3_begins 9 = .ok (.getfield 7, 3) := dk_180 0 7 (dk_at dksX3_begins_0 9 rfl rfl)
theorem dX3_begins_12 : decode cX3_begins 12 = .ok (.iload_n 1, 1) := dk_27 (dk_at dksX3_begins_0 12 rfl rfl)
theorem dX3_begins_13 : decode cX3_begins 13 = .ok (.iconst 0, 1) := dk_3 (dk_at dksX3_begins_0 13 rfl rfl)
theorem dX3_begins_14 : decode cX3_begins 14 = .ok (.iastore, 1) := dk_79 (dk_at dksX3_begins_0 14 rfl rfl)
theorem dX3_begins_15 : decode cX3_begins 15 = .ok (.iinc 1 1, 3) := dk_132 1 1 (dk_at dksX3_begins_0 15 rfl rfl)
theorem dX3_begins_18 : decode cX3_begins 18 = .ok (.goto (-16), 3) := dk_167 255 240 (dk_at dksX3_begins_0 18 rfl rfl)
theorem dX3_begins_21 : decode cX3_begins 21 = .ok (.aload_n 0, 1) := dk_42 (dk_at dksX3_begins_0 21 rfl rfl)
theorem dX3_begins_22 : decode cX3_begins 22 = .ok (.getfield 7, 3) := dk_180 0 7 (dk_at dksX3_begins_1 0 rfl rfl)
theorem dX3_begins_25 : decode cX3_begins 25 = .ok (.iconst 1, 1) := dk_4 (dk_at dksX3_begins_1 3 rfl rfl)
theorem dX3_begins_26 : decode cX3_begins 26 = .ok (.iconst 5, 1) := dk_8 (dk_at dksX3_begins_1 4 rfl rfl)
theorem dX3_begins_27 : decode cX3_begins 27 = .ok (.iastore, 1) := dk_79 (dk_at dksX3_begins_1 5 rfl rfl)
theorem dX3_begins_28 : decode cX3_begins 28 = .ok (.aload_n 0, 1) := dk_42 (dk_at dksX3_begins_1 6 rfl rfl)
theorem dX3_begins_29 : decode cX3_begins 29 = .ok (.getfield 7, 3) := dk_180 0 7 (dk_at dksX3_begins_1 7 rfl rfl)
theorem dX3_begins_32 : decode cX3_begins 32 = .ok (.iconst 2, 1) := dk_5 (dk_at dksX3_begins_1 10 rfl rfl)
theorem dX3_begins_33 : decode cX3_begins 33 = .ok (.bipush 40, 2) := dk_16 40 (dk_at dksX3_begins_1 11 rfl rfl)
theorem dX3_begins_35 : decode cX3_begins 35 = .ok (.iastore, 1) := dk_79 (dk_at dksX3_begins_1 13 rfl rfl)
theorem dX3_begins_36 : decode cX3_begins 36 = .ok (.aload_n 0, 1) := dk_42 (dk_at dksX3_begins_1 14 rfl rfl)
theorem dX3_begins_37 : decode cX3_begins 37 = .ok (.getfield 7, 3) := dk_180 0 7 (dk_at dksX3_begins_1 15 rfl rfl)
theorem dX3_begins_40 : decode cX3_begins 40 = .ok (.iconst 3, 1) := dk_6 (dk_at dksX3_begins_1 18 rfl rfl)
theorem dX3_begins_41 : decode cX3_begins 41 = .ok (.bipush 60, 2) := dk_16 60 (dk_at dksX3_begins_1 19 rfl rfl)
theorem dX3_begins_43 : decode cX3_begins 43 = .ok (.iastore, 1) := dk_79 (dk_at dksX3_begins_1 21 rfl rfl)
theorem dX3_begins_44 : decode cX3_begins 44 = .ok (.aload_n 0, 1) := dk_42 (dk_at dksX3_begins_1 22 rfl rfl)
theorem dX3_begins_45 : decode cX3_begins 45 = .ok (.iconst 0, 1) := dk_3 (dk_at dksX3_begins_1 23 rfl rfl)
theorem dX3_begins_46 : decode cX3_begins 46 = .ok (.putfield 42, 3) := dk_181 0 42 (dk_at dksX3_begins_2 0 rfl rfl)
theorem dX3_begins_49 : decode cX3_begins 49 = .ok (.return_, 1) := dk_177 (dk_at dksX3_begins_2 3 rfl rfl)
abbrev cX3_thrown : ByteArray := prog_24_method_3_code
def yX3_thrown : MethodName := ⟨RX3, "thrown", "()I"⟩
theorem dX3_thrown_0 : decode cX3_thrown 0 = .ok (.aload_n 0, 1) := by decide +kernel
theorem dX3_thrown_1 : decode cX3_thrown 1 = .ok (.getfield 45, 3) := by decide +kernel
theorem dX3_thrown_4 : decode cX3_thrown 4 = .ok (.ireturn, 1) := by decide +kernel
abbrev cX3_clear : ByteArray := prog_24_method_24_code
def yX3_clear : MethodName := ⟨RX3, "clear", "()I"⟩
def dkwX3_clear_0 : List UInt8 := [42, 3, 181, 0, 45, 42, 180, 0, 7, 3, 46, 60, 42, 182, 0, 39, 27, 172]
abbrev dktX3_clear_0 : List UInt8 := dkwX3_clear_0 ++ []
theorem dksX3_clear_0 : cX3_clear.data.toList.drop 0 = dktX3_clear_0 := by decide +kernel
theorem dX3_clear_0 : decode cX3_clear 0 = .ok (.aload_n 0, 1) := dk_42 (dk_at dksX3_clear_0 0 rfl rfl)
theorem dX3_clear_1 : decode cX3_clear 1 = .ok (.iconst 0, 1) := dk_3 (dk_at dksX3_clear_0 1 rfl rfl)
theorem dX3_clear_2 : decode cX3_clear 2 = .ok (.putfield 45, 3) := dk_181 0 45 (dk_at dksX3_clear_0 2 rfl rfl)
theorem dX3_clear_5 : decode cX3_clear 5 = .ok (.aload_n 0, 1) := dk_42 (dk_at dksX3_clear_0 5 rfl rfl)
theorem dX3_clear_6 : decode cX3_clear 6 = .ok (.getfield 7, 3) := dk_180 0 7 (dk_at dksX3_clear_0 6 rfl rfl)
theorem dX3_clear_9 : decode cX3_clear 9 = .ok (.iconst 0, 1) := dk_3 (dk_at dksX3_clear_0 9 rfl rfl)
theorem dX3_clear_10 : decode cX3_clear 10 = .ok (.iaload, 1) := dk_46 (dk_at dksX3_clear_0 10 rfl rfl)
theorem dX3_clear_11 : decode cX3_clear 11 = .ok (.istore_n 1, 1) := dk_60 (dk_at dksX3_clear_0 11 rfl rfl)
theorem dX3_clear_12 : decode cX3_clear 12 = .ok (.aload_n 0, 1) := dk_42 (dk_at dksX3_clear_0 12 rfl rfl)
theorem dX3_clear_13 : decode cX3_clear 13 = .ok (.invokevirtual 39, 3) := dk_182 0 39 (dk_at dksX3_clear_0 13 rfl rfl)
theorem dX3_clear_16 : decode cX3_clear 16 = .ok (.iload_n 1, 1) := dk_27 (dk_at dksX3_clear_0 16 rfl rfl)
theorem dX3_clear_17 : decode cX3_clear 17 = .ok (.ireturn, 1) := dk_172 (dk_at dksX3_clear_0 17 rfl rfl)
abbrev cX3_sheets : ByteArray := prog_24_method_25_code
def yX3_sheets : MethodName := ⟨RX3, "sheets", "(I)I"⟩
def dkwX3_sheets_3 : List UInt8 := [180, 0, 7, 5, 92, 46, 27, 96, 79, 42, 180, 0, 7, 5, 46, 172]
abbrev dktX3_sheets_3 : List UInt8 := dkwX3_sheets_3 ++ []
def dkwX3_sheets_2 : List UInt8 := [180, 0, 7, 6, 46, 100, 182, 0, 70, 172, 42, 42, 180, 0, 7, 182, 0, 74, 42, 28, 182, 0, 78, 42]
abbrev dktX3_sheets_2 : List UInt8 := dkwX3_sheets_2 ++ dktX3_sheets_3
def dkwX3_sheets_1 : List UInt8 := [27, 7, 96, 8, 108, 61, 42, 180, 0, 7, 6, 46, 28, 162, 0, 19, 42, 5, 16, 6, 28, 42]
abbrev dktX3_sheets_1 : List UInt8 := dkwX3_sheets_1 ++ dktX3_sheets_2
def dkwX3_sheets_0 : List UInt8 := [42, 27, 4, 16, 50, 184, 0, 62, 153, 0, 7, 3, 167, 0, 4, 4, 182, 0, 66, 153, 0, 5, 3, 172]
abbrev dktX3_sheets_0 : List UInt8 := dkwX3_sheets_0 ++ dktX3_sheets_1
theorem dksX3_sheets_0 : cX3_sheets.data.toList.drop 0 = dktX3_sheets_0 := by decide +kernel
theorem dksX3_sheets_1 : cX3_sheets.data.toList.drop 24 = dktX3_sheets_1 := dk_seg dksX3_sheets_0 24 rfl rfl
theorem dksX3_sheets_2 : cX3_sheets.data.toList.drop 46 = dktX3_sheets_2 := dk_seg dksX3_sheets_1 22 rfl rfl
theorem dksX3_sheets_3 : cX3_sheets.data.toList.drop 70 = dktX3_sheets_3 := dk_seg dksX3_sheets_2 24 rfl rfl
theorem dX3_sheets_0 : decode cX3_sheets 0 = .ok (.aload_n 0, 1) := dk_42 (dk_at dksX3_sheets_0 0 rfl rfl)
theorem dX3_sheets_1 : decode cX3_sheets 1 = .ok (.iload_n 1, 1) := dk_27 (dk_at dksX3_sheets_0 1 rfl rfl)
theorem dX3_sheets_2 : decode cX3_sheets 2 = .ok (.iconst 1, 1) := dk_4 (dk_at dksX3_sheets_0 2 rfl rfl)
theorem dX3_sheets_3 : decode cX3_sheets 3 = .ok (.bipush 50, 2) := dk_16 50 (dk_at dksX3_sheets_0 3 rfl rfl)
theorem dX3_sheets_5 : decode cX3_sheets 5 = .ok (.invokestatic 62, 3) := dk_184 0 62 (dk_at dksX3_sheets_0 5 rfl rfl)
theorem dX3_sheets_8 : decode cX3_sheets 8 = .ok (.ifCond .eq 7, 3) := dk_153 0 7 (dk_at dksX3_sheets_0 8 rfl rfl)
theorem dX3_sheets_11 : decode cX3_sheets 11 = .ok (.iconst 0, 1) := dk_3 (dk_at dksX3_sheets_0 11 rfl rfl)
theorem dX3_sheets_12 : decode cX3_sheets 12 = .ok (.goto 4, 3) := dk_167 0 4 (dk_at dksX3_sheets_0 12 rfl rfl)
theorem dX3_sheets_15 : decode cX3_sheets 15 = .ok (.iconst 1, 1) := dk_4 (dk_at dksX3_sheets_0 15 rfl rfl)
theorem dX3_sheets_16 : decode cX3_sheets 16 = .ok (.invokevirtual 66, 3) := dk_182 0 66 (dk_at dksX3_sheets_0 16 rfl rfl)
theorem dX3_sheets_19 : decode cX3_sheets 19 = .ok (.ifCond .eq 5, 3) := dk_153 0 5 (dk_at dksX3_sheets_0 19 rfl rfl)
theorem dX3_sheets_22 : decode cX3_sheets 22 = .ok (.iconst 0, 1) := dk_3 (dk_at dksX3_sheets_0 22 rfl rfl)
theorem dX3_sheets_23 : decode cX3_sheets 23 = .ok (.ireturn, 1) := dk_172 (dk_at dksX3_sheets_0 23 rfl rfl)
theorem dX3_sheets_24 : decode cX3_sheets 24 = .ok (.iload_n 1, 1) := dk_27 (dk_at dksX3_sheets_1 0 rfl rfl)
theorem dX3_sheets_25 : decode cX3_sheets 25 = .ok (.iconst 4, 1) := dk_7 (dk_at dksX3_sheets_1 1 rfl rfl)
theorem dX3_sheets_26 : decode cX3_sheets 26 = .ok (.iadd, 1) := dk_96 (dk_at dksX3_sheets_1 2 rfl rfl)
theorem dX3_sheets_27 : decode cX3_sheets 27 = .ok (.iconst 5, 1) := dk_8 (dk_at dksX3_sheets_1 3 rfl rfl)
theorem dX3_sheets_28 : decode cX3_sheets 28 = .ok (.idiv, 1) := dk_108 (dk_at dksX3_sheets_1 4 rfl rfl)
theorem dX3_sheets_29 : decode cX3_sheets 29 = .ok (.istore_n 2, 1) := dk_61 (dk_at dksX3_sheets_1 5 rfl rfl)
theorem dX3_sheets_30 : decode cX3_sheets 30 = .ok (.aload_n 0, 1) := dk_42 (dk_at dksX3_sheets_1 6 rfl rfl)
theorem dX3_sheets_31 : decode cX3_sheets 31 = .ok (.getfield 7, 3) := dk_180 0 7 (dk_at dksX3_sheets_1 7 rfl rfl)
theorem dX3_sheets_34 : decode cX3_sheets 34 = .ok (.iconst 3, 1) := dk_6 (dk_at dksX3_sheets_1 10 rfl rfl)
theorem dX3_sheets_35 : decode cX3_sheets 35 = .ok (.iaload, 1) := dk_46 (dk_at dksX3_sheets_1 11 rfl rfl)
theorem dX3_sheets_36 : decode cX3_sheets 36 = .ok (.iload_n 2, 1) := dk_28 (dk_at dksX3_sheets_1 12 rfl rfl)
theorem dX3_sheets_37 : decode cX3_sheets 37 = .ok (.if_icmp .ge 19, 3) := dk_162 0 19 (dk_at dksX3_sheets_1 13 rfl rfl)
theorem dX3_sheets_40 : decode cX3_sheets 40 = .ok (.aload_n 0, 1) := dk_42 (dk_at dksX3_sheets_1 16 rfl rfl)
theorem dX3_sheets_41 : decode cX3_sheets 41 = .ok (.iconst 2, 1) := dk_5 (dk_at dksX3_sheets_1 17 rfl rfl)
theorem dX3_sheets_42 : decode cX3_sheets 42 = .ok (.bipush 6, 2) := dk_16 6 (dk_at dksX3_sheets_1 18 rfl rfl)
theorem dX3_sheets_44 : decode cX3_sheets 44 = .ok (.iload_n 2, 1) := dk_28 (dk_at dksX3_sheets_1 20 rfl rfl)
theorem dX3_sheets_45 : decode cX3_sheets 45 = .ok (.aload_n 0, 1) := dk_42 (dk_at dksX3_sheets_1 21 rfl rfl)
theorem dX3_sheets_46 : decode cX3_sheets 46 = .ok (.getfield 7, 3) := dk_180 0 7 (dk_at dksX3_sheets_2 0 rfl rfl)
theorem dX3_sheets_49 : decode cX3_sheets 49 = .ok (.iconst 3, 1) := dk_6 (dk_at dksX3_sheets_2 3 rfl rfl)
theorem dX3_sheets_50 : decode cX3_sheets 50 = .ok (.iaload, 1) := dk_46 (dk_at dksX3_sheets_2 4 rfl rfl)
theorem dX3_sheets_51 : decode cX3_sheets 51 = .ok (.isub, 1) := dk_100 (dk_at dksX3_sheets_2 5 rfl rfl)
theorem dX3_sheets_52 : decode cX3_sheets 52 = .ok (.invokevirtual 70, 3) := dk_182 0 70 (dk_at dksX3_sheets_2 6 rfl rfl)
theorem dX3_sheets_55 : decode cX3_sheets 55 = .ok (.ireturn, 1) := dk_172 (dk_at dksX3_sheets_2 9 rfl rfl)
theorem dX3_sheets_56 : decode cX3_sheets 56 = .ok (.aload_n 0, 1) := dk_42 (dk_at dksX3_sheets_2 10 rfl rfl)
theorem dX3_sheets_57 : decode cX3_sheets 57 = .ok (.aload_n 0, 1) := dk_42 (dk_at dksX3_sheets_2 11 rfl rfl)
theorem dX3_sheets_58 : decode cX3_sheets 58 = .ok (.getfield 7, 3) := dk_180 0 7 (dk_at dksX3_sheets_2 12 rfl rfl)
theorem dX3_sheets_61 : decode cX3_sheets 61 = .ok (.invokevirtual 74, 3) := dk_182 0 74 (dk_at dksX3_sheets_2 15 rfl rfl)
theorem dX3_sheets_64 : decode cX3_sheets 64 = .ok (.aload_n 0, 1) := dk_42 (dk_at dksX3_sheets_2 18 rfl rfl)
theorem dX3_sheets_65 : decode cX3_sheets 65 = .ok (.iload_n 2, 1) := dk_28 (dk_at dksX3_sheets_2 19 rfl rfl)
theorem dX3_sheets_66 : decode cX3_sheets 66 = .ok (.invokevirtual 78, 3) := dk_182 0 78 (dk_at dksX3_sheets_2 20 rfl rfl)
theorem dX3_sheets_69 : decode cX3_sheets 69 = .ok (.aload_n 0, 1) := dk_42 (dk_at dksX3_sheets_2 23 rfl rfl)
theorem dX3_sheets_70 : decode cX3_sheets 70 = .ok (.getfield 7, 3) := dk_180 0 7 (dk_at dksX3_sheets_3 0 rfl rfl)
theorem dX3_sheets_73 : decode cX3_sheets 73 = .ok (.iconst 2, 1) := dk_5 (dk_at dksX3_sheets_3 3 rfl rfl)
theorem dX3_sheets_74 : decode cX3_sheets 74 = .ok (.dup2, 1) := dk_92 (dk_at dksX3_sheets_3 4 rfl rfl)
theorem dX3_sheets_75 : decode cX3_sheets 75 = .ok (.iaload, 1) := dk_46 (dk_at dksX3_sheets_3 5 rfl rfl)
theorem dX3_sheets_76 : decode cX3_sheets 76 = .ok (.iload_n 1, 1) := dk_27 (dk_at dksX3_sheets_3 6 rfl rfl)
theorem dX3_sheets_77 : decode cX3_sheets 77 = .ok (.iadd, 1) := dk_96 (dk_at dksX3_sheets_3 7 rfl rfl)
theorem dX3_sheets_78 : decode cX3_sheets 78 = .ok (.iastore, 1) := dk_79 (dk_at dksX3_sheets_3 8 rfl rfl)
theorem dX3_sheets_79 : decode cX3_sheets 79 = .ok (.aload_n 0, 1) := dk_42 (dk_at dksX3_sheets_3 9 rfl rfl)
theorem dX3_sheets_80 : decode cX3_sheets 80 = .ok (.getfield 7, 3) := dk_180 0 7 (dk_at dksX3_sheets_3 10 rfl rfl)
theorem dX3_sheets_83 : decode cX3_sheets 83 = .ok (.iconst 2, 1) := dk_5 (dk_at dksX3_sheets_3 13 rfl rfl)
theorem dX3_sheets_84 : decode cX3_sheets 84 = .ok (.iaload, 1) := dk_46 (dk_at dksX3_sheets_3 14 rfl rfl)
theorem dX3_sheets_85 : decode cX3_sheets 85 = .ok (.ireturn, 1) := dk_172 (dk_at dksX3_sheets_3 15 rfl rfl)
abbrev cX3_in : ByteArray := prog_24_method_6_code
def yX3_in : MethodName := ⟨RX3, "in", "(III)Z"⟩
def dkwX3_in_0 : List UInt8 := [26, 27, 161, 0, 12, 26, 28, 163, 0, 7, 4, 167, 0, 4, 3, 172]
abbrev dktX3_in_0 : List UInt8 := dkwX3_in_0 ++ []
theorem dksX3_in_0 : cX3_in.data.toList.drop 0 = dktX3_in_0 := by decide +kernel
theorem dX3_in_0 : decode cX3_in 0 = .ok (.iload_n 0, 1) := dk_26 (dk_at dksX3_in_0 0 rfl rfl)
theorem dX3_in_1 : decode cX3_in 1 = .ok (.iload_n 1, 1) := dk_27 (dk_at dksX3_in_0 1 rfl rfl)
theorem dX3_in_2 : decode cX3_in 2 = .ok (.if_icmp .lt 12, 3) := dk_161 0 12 (dk_at dksX3_in_0 2 rfl rfl)
theorem dX3_in_5 : decode cX3_in 5 = .ok (.iload_n 0, 1) := dk_26 (dk_at dksX3_in_0 5 rfl rfl)
theorem dX3_in_6 : decode cX3_in 6 = .ok (.iload_n 2, 1) := dk_28 (dk_at dksX3_in_0 6 rfl rfl)
theorem dX3_in_7 : decode cX3_in 7 = .ok (.if_icmp .gt 7, 3) := dk_163 0 7 (dk_at dksX3_in_0 7 rfl rfl)
theorem dX3_in_10 : decode cX3_in 10 = .ok (.iconst 1, 1) := dk_4 (dk_at dksX3_in_0 10 rfl rfl)
theorem dX3_in_11 : decode cX3_in 11 = .ok (.goto 4, 3) := dk_167 0 4 (dk_at dksX3_in_0 11 rfl rfl)
theorem dX3_in_14 : decode cX3_in 14 = .ok (.iconst 0, 1) := dk_3 (dk_at dksX3_in_0 14 rfl rfl)
theorem dX3_in_15 : decode cX3_in 15 = .ok (.ireturn, 1) := dk_172 (dk_at dksX3_in_0 15 rfl rfl)
abbrev cX3_fails : ByteArray := prog_24_method_4_code
def yX3_fails : MethodName := ⟨RX3, "fails", "(I)Z"⟩
def dkwX3_fails_0 : List UInt8 := [42, 27, 181, 0, 45, 27, 158, 0, 7, 4, 167, 0, 4, 3, 172]
abbrev dktX3_fails_0 : List UInt8 := dkwX3_fails_0 ++ []
theorem dksX3_fails_0 : cX3_fails.data.toList.drop 0 = dktX3_fails_0 := by decide +kernel
theorem dX3_fails_0 : decode cX3_fails 0 = .ok (.aload_n 0, 1) := dk_42 (dk_at dksX3_fails_0 0 rfl rfl)
theorem dX3_fails_1 : decode cX3_fails 1 = .ok (.iload_n 1, 1) := dk_27 (dk_at dksX3_fails_0 1 rfl rfl)
theorem dX3_fails_2 : decode cX3_fails 2 = .ok (.putfield 45, 3) := dk_181 0 45 (dk_at dksX3_fails_0 2 rfl rfl)
theorem dX3_fails_5 : decode cX3_fails 5 = .ok (.iload_n 1, 1) := dk_27 (dk_at dksX3_fails_0 5 rfl rfl)
theorem dX3_fails_6 : decode cX3_fails 6 = .ok (.ifCond .le 7, 3) := dk_158 0 7 (dk_at dksX3_fails_0 6 rfl rfl)
theorem dX3_fails_9 : decode cX3_fails 9 = .ok (.iconst 1, 1) := dk_4 (dk_at dksX3_fails_0 9 rfl rfl)
theorem dX3_fails_10 : decode cX3_fails 10 = .ok (.goto 4, 3) := dk_167 0 4 (dk_at dksX3_fails_0 10 rfl rfl)
theorem dX3_fails_13 : decode cX3_fails 13 = .ok (.iconst 0, 1) := dk_3 (dk_at dksX3_fails_0 13 rfl rfl)
theorem dX3_fails_14 : decode cX3_fails 14 = .ok (.ireturn, 1) := dk_172 (dk_at dksX3_fails_0 14 rfl rfl)
abbrev cX3_refuses : ByteArray := prog_24_method_5_code
def yX3_refuses : MethodName := ⟨RX3, "refuses", "(III)I"⟩
def dkwX3_refuses_0 : List UInt8 := [42, 27, 181, 0, 45, 42, 28, 181, 0, 48, 42, 29, 181, 0, 51, 3, 172]
abbrev dktX3_refuses_0 : List UInt8 := dkwX3_refuses_0 ++ []
theorem dksX3_refuses_0 : cX3_refuses.data.toList.drop 0 = dktX3_refuses_0 := by decide +kernel
theorem dX3_refuses_0 : decode cX3_refuses 0 = .ok (.aload_n 0, 1) := dk_42 (dk_at dksX3_refuses_0 0 rfl rfl)
theorem dX3_refuses_1 : decode cX3_refuses 1 = .ok (.iload_n 1, 1) := dk_27 (dk_at dksX3_refuses_0 1 rfl rfl)
theorem dX3_refuses_2 : decode cX3_refuses 2 = .ok (.putfield 45, 3) := dk_181 0 45 (dk_at dksX3_refuses_0 2 rfl rfl)
theorem dX3_refuses_5 : decode cX3_refuses 5 = .ok (.aload_n 0, 1) := dk_42 (dk_at dksX3_refuses_0 5 rfl rfl)
theorem dX3_refuses_6 : decode cX3_refuses 6 = .ok (.iload_n 2, 1) := dk_28 (dk_at dksX3_refuses_0 6 rfl rfl)
theorem dX3_refuses_7 : decode cX3_refuses 7 = .ok (.putfield 48, 3) := dk_181 0 48 (dk_at dksX3_refuses_0 7 rfl rfl)
theorem dX3_refuses_10 : decode cX3_refuses 10 = .ok (.aload_n 0, 1) := dk_42 (dk_at dksX3_refuses_0 10 rfl rfl)
theorem dX3_refuses_11 : decode cX3_refuses 11 = .ok (.iload_n 3, 1) := dk_29 (dk_at dksX3_refuses_0 11 rfl rfl)
theorem dX3_refuses_12 : decode cX3_refuses 12 = .ok (.putfield 51, 3) := dk_181 0 51 (dk_at dksX3_refuses_0 12 rfl rfl)
theorem dX3_refuses_15 : decode cX3_refuses 15 = .ok (.iconst 0, 1) := dk_3 (dk_at dksX3_refuses_0 15 rfl rfl)
theorem dX3_refuses_16 : decode cX3_refuses 16 = .ok (.ireturn, 1) := dk_172 (dk_at dksX3_refuses_0 16 rfl rfl)
abbrev cX3_keeps : ByteArray := prog_24_method_10_code
def yX3_keeps : MethodName := ⟨RX3, "keeps", "([I)V"⟩
def dkwX3_keeps_3 : List UInt8 := [184, 0, 58, 42, 89, 180, 0, 42, 4, 96, 181, 0, 42, 177]
abbrev dktX3_keeps_3 : List UInt8 := dkwX3_keeps_3 ++ []
def dkwX3_keeps_2 : List UInt8 := [42, 89, 180, 0, 42, 4, 100, 181, 0, 42, 43, 3, 42, 180, 0, 13, 16, 125, 42, 180, 0, 42, 104]
abbrev dktX3_keeps_2 : List UInt8 := dkwX3_keeps_2 ++ dktX3_keeps_3
def dkwX3_keeps_1 : List UInt8 := [162, 0, 24, 42, 180, 0, 13, 28, 42, 180, 0, 13, 28, 16, 125, 96, 46, 79, 132, 2, 1, 167, 255, 231]
abbrev dktX3_keeps_1 : List UInt8 := dkwX3_keeps_1 ++ dktX3_keeps_2
def dkwX3_keeps_0 : List UInt8 := [42, 180, 0, 54, 153, 0, 4, 177, 42, 180, 0, 42, 16, 8, 160, 0, 43, 3, 61, 28, 17, 3, 107]
abbrev dktX3_keeps_0 : List UInt8 := dkwX3_keeps_0 ++ dktX3_keeps_1
theorem dksX3_keeps_0 : cX3_keeps.data.toList.drop 0 = dktX3_keeps_0 := by decide +kernel
theorem dksX3_keeps_1 : cX3_keeps.data.toList.drop 23 = dktX3_keeps_1 := dk_seg dksX3_keeps_0 23 rfl rfl
theorem dksX3_keeps_2 : cX3_keeps.data.toList.drop 47 = dktX3_keeps_2 := dk_seg dksX3_keeps_1 24 rfl rfl
theorem dksX3_keeps_3 : cX3_keeps.data.toList.drop 70 = dktX3_keeps_3 := dk_seg dksX3_keeps_2 23 rfl rfl
theorem dX3_keeps_0 : decode cX3_keeps 0 = .ok (.aload_n 0, 1) := dk_42 (dk_at dksX3_keeps_0 0 rfl rfl)
theorem dX3_keeps_1 : decode cX3_keeps 1 = .ok (.getfield 54, 3) := dk_180 0 54 (dk_at dksX3_keeps_0 1 rfl rfl)
theorem dX3_keeps_4 : decode cX3_keeps 4 = .ok (.ifCond .eq 4, 3) := dk_153 0 4 (dk_at dksX3_keeps_0 4 rfl rfl)
theorem dX3_keeps_7 : decode cX3_keeps 7 = .ok (.return_, 1) := dk_177 (dk_at dksX3_keeps_0 7 rfl rfl)
theorem dX3_keeps_8 : decode cX3_keeps 8 = .ok (.aload_n 0, 1) := dk_42 (dk_at dksX3_keeps_0 8 rfl rfl)
theorem dX3_keeps_9 : decode cX3_keeps 9 = .ok (.getfield 42, 3) := dk_180 0 42 (dk_at dksX3_keeps_0 9 rfl rfl)
theorem dX3_keeps_12 : decode cX3_keeps 12 = .ok (.bipush 8, 2) := dk_16 8 (dk_at dksX3_keeps_0 12 rfl rfl)
theorem dX3_keeps_14 : decode cX3_keeps 14 = .ok (.if_icmp .ne 43, 3) := dk_160 0 43 (dk_at dksX3_keeps_0 14 rfl rfl)
theorem dX3_keeps_17 : decode cX3_keeps 17 = .ok (.iconst 0, 1) := dk_3 (dk_at dksX3_keeps_0 17 rfl rfl)
theorem dX3_keeps_18 : decode cX3_keeps 18 = .ok (.istore_n 2, 1) := dk_61 (dk_at dksX3_keeps_0 18 rfl rfl)
theorem dX3_keeps_19 : decode cX3_keeps 19 = .ok (.iload_n 2, 1) := dk_28 (dk_at dksX3_keeps_0 19 rfl rfl)
theorem dX3_keeps_20 : decode cX3_keeps 20 = .ok (.sipush 875, 3) := dk_17 3 107 (dk_at dksX3_keeps_0 20 rfl rfl)
theorem dX3_keeps_23 : decode cX3_keeps 23 = .ok (.if_icmp .ge 24, 3) := dk_162 0 24 (dk_at dksX3_keeps_1 0 rfl rfl)
theorem dX3_keeps_26 : decode cX3_keeps 26 = .ok (.aload_n 0, 1) := dk_42 (dk_at dksX3_keeps_1 3 rfl rfl)
theorem dX3_keeps_27 : decode cX3_keeps 27 = .ok (.getfield 13, 3) := dk_180 0 13 (dk_at dksX3_keeps_1 4 rfl rfl)
theorem dX3_keeps_30 : decode cX3_keeps 30 = .ok (.iload_n 2, 1) := dk_28 (dk_at dksX3_keeps_1 7 rfl rfl)
theorem dX3_keeps_31 : decode cX3_keeps 31 = .ok (.aload_n 0, 1) := dk_42 (dk_at dksX3_keeps_1 8 rfl rfl)
theorem dX3_keeps_32 : decode cX3_keeps 32 = .ok (.getfield 13, 3) := dk_180 0 13 (dk_at dksX3_keeps_1 9 rfl rfl)
theorem dX3_keeps_35 : decode cX3_keeps 35 = .ok (.iload_n 2, 1) := dk_28 (dk_at dksX3_keeps_1 12 rfl rfl)
theorem dX3_keeps_36 : decode cX3_keeps 36 = .ok (.bipush 125, 2) := dk_16 125 (dk_at dksX3_keeps_1 13 rfl rfl)
theorem dX3_keeps_38 : decode cX3_keeps 38 = .ok (.iadd, 1) := dk_96 (dk_at dksX3_keeps_1 15 rfl rfl)
theorem dX3_keeps_39 : decode cX3_keeps 39 = .ok (.iaload, 1) := dk_46 (dk_at dksX3_keeps_1 16 rfl rfl)
theorem dX3_keeps_40 : decode cX3_keeps 40 = .ok (.iastore, 1) := dk_79 (dk_at dksX3_keeps_1 17 rfl rfl)
theorem dX3_keeps_41 : decode cX3_keeps 41 = .ok (.iinc 2 1, 3) := dk_132 2 1 (dk_at dksX3_keeps_1 18 rfl rfl)
theorem dX3_keeps_44 : decode cX3_keeps 44 = .ok (.goto (-25), 3) := dk_167 255 231 (dk_at dksX3_keeps_1 21 rfl rfl)
theorem dX3_keeps_47 : decode cX3_keeps 47 = .ok (.aload_n 0, 1) := dk_42 (dk_at dksX3_keeps_2 0 rfl rfl)
theorem dX3_keeps_48 : decode cX3_keeps 48 = .ok (.dup, 1) := dk_89 (dk_at dksX3_keeps_2 1 rfl rfl)
theorem dX3_keeps_49 : decode cX3_keeps 49 = .ok (.getfield 42, 3) := dk_180 0 42 (dk_at dksX3_keeps_2 2 rfl rfl)
theorem dX3_keeps_52 : decode cX3_keeps 52 = .ok (.iconst 1, 1) := dk_4 (dk_at dksX3_keeps_2 5 rfl rfl)
theorem dX3_keeps_53 : decode cX3_keeps 53 = .ok (.isub, 1) := dk_100 (dk_at dksX3_keeps_2 6 rfl rfl)
theorem dX3_keeps_54 : decode cX3_keeps 54 = .ok (.putfield 42, 3) := dk_181 0 42 (dk_at dksX3_keeps_2 7 rfl rfl)
theorem dX3_keeps_57 : decode cX3_keeps 57 = .ok (.aload_n 1, 1) := dk_43 (dk_at dksX3_keeps_2 10 rfl rfl)
theorem dX3_keeps_58 : decode cX3_keeps 58 = .ok (.iconst 0, 1) := dk_3 (dk_at dksX3_keeps_2 11 rfl rfl)
theorem dX3_keeps_59 : decode cX3_keeps 59 = .ok (.aload_n 0, 1) := dk_42 (dk_at dksX3_keeps_2 12 rfl rfl)
theorem dX3_keeps_60 : decode cX3_keeps 60 = .ok (.getfield 13, 3) := dk_180 0 13 (dk_at dksX3_keeps_2 13 rfl rfl)
theorem dX3_keeps_63 : decode cX3_keeps 63 = .ok (.bipush 125, 2) := dk_16 125 (dk_at dksX3_keeps_2 16 rfl rfl)
theorem dX3_keeps_65 : decode cX3_keeps 65 = .ok (.aload_n 0, 1) := dk_42 (dk_at dksX3_keeps_2 18 rfl rfl)
theorem dX3_keeps_66 : decode cX3_keeps 66 = .ok (.getfield 42, 3) := dk_180 0 42 (dk_at dksX3_keeps_2 19 rfl rfl)
theorem dX3_keeps_69 : decode cX3_keeps 69 = .ok (.imul, 1) := dk_104 (dk_at dksX3_keeps_2 22 rfl rfl)
theorem dX3_keeps_70 : decode cX3_keeps 70 = .ok (.invokestatic 58, 3) := dk_184 0 58 (dk_at dksX3_keeps_3 0 rfl rfl)
theorem dX3_keeps_73 : decode cX3_keeps 73 = .ok (.aload_n 0, 1) := dk_42 (dk_at dksX3_keeps_3 3 rfl rfl)
theorem dX3_keeps_74 : decode cX3_keeps 74 = .ok (.dup, 1) := dk_89 (dk_at dksX3_keeps_3 4 rfl rfl)
theorem dX3_keeps_75 : decode cX3_keeps 75 = .ok (.getfield 42, 3) := dk_180 0 42 (dk_at dksX3_keeps_3 5 rfl rfl)
theorem dX3_keeps_78 : decode cX3_keeps 78 = .ok (.iconst 1, 1) := dk_4 (dk_at dksX3_keeps_3 8 rfl rfl)
theorem dX3_keeps_79 : decode cX3_keeps 79 = .ok (.iadd, 1) := dk_96 (dk_at dksX3_keeps_3 9 rfl rfl)
theorem dX3_keeps_80 : decode cX3_keeps 80 = .ok (.putfield 42, 3) := dk_181 0 42 (dk_at dksX3_keeps_3 10 rfl rfl)
theorem dX3_keeps_83 : decode cX3_keeps 83 = .ok (.return_, 1) := dk_177 (dk_at dksX3_keeps_3 13 rfl rfl)
abbrev cX3_copies : ByteArray := prog_24_method_9_code
def yX3_copies : MethodName := ⟨RX3, "copies", "([II[II)V"⟩
def dkwX3_copies_1 : List UInt8 := [132, 4, 1, 167, 255, 234, 177]
abbrev dktX3_copies_1 : List UInt8 := dkwX3_copies_1 ++ []
def dkwX3_copies_0 : List UInt8 := [3, 54, 4, 21, 4, 16, 125, 162, 0, 21, 44, 29, 21, 4, 96, 42, 27, 21, 4, 96, 46, 79]
abbrev dktX3_copies_0 : List UInt8 := dkwX3_copies_0 ++ dktX3_copies_1
theorem dksX3_copies_0 : cX3_copies.data.toList.drop 0 = dktX3_copies_0 := by decide +kernel
theorem dksX3_copies_1 : cX3_copies.data.toList.drop 22 = dktX3_copies_1 := dk_seg dksX3_copies_0 22 rfl rfl
theorem dX3_copies_0 : decode cX3_copies 0 = .ok (.iconst 0, 1) := dk_3 (dk_at dksX3_copies_0 0 rfl rfl)
theorem dX3_copies_1 : decode cX3_copies 1 = .ok (.istore 4, 2) := dk_54 4 (dk_at dksX3_copies_0 1 rfl rfl)
theorem dX3_copies_3 : decode cX3_copies 3 = .ok (.iload 4, 2) := dk_21 4 (dk_at dksX3_copies_0 3 rfl rfl)
theorem dX3_copies_5 : decode cX3_copies 5 = .ok (.bipush 125, 2) := dk_16 125 (dk_at dksX3_copies_0 5 rfl rfl)
theorem dX3_copies_7 : decode cX3_copies 7 = .ok (.if_icmp .ge 21, 3) := dk_162 0 21 (dk_at dksX3_copies_0 7 rfl rfl)
theorem dX3_copies_10 : decode cX3_copies 10 = .ok (.aload_n 2, 1) := dk_44 (dk_at dksX3_copies_0 10 rfl rfl)
theorem dX3_copies_11 : decode cX3_copies 11 = .ok (.iload_n 3, 1) := dk_29 (dk_at dksX3_copies_0 11 rfl rfl)
theorem dX3_copies_12 : decode cX3_copies 12 = .ok (.iload 4, 2) := dk_21 4 (dk_at dksX3_copies_0 12 rfl rfl)
theorem dX3_copies_14 : decode cX3_copies 14 = .ok (.iadd, 1) := dk_96 (dk_at dksX3_copies_0 14 rfl rfl)
theorem dX3_copies_15 : decode cX3_copies 15 = .ok (.aload_n 0, 1) := dk_42 (dk_at dksX3_copies_0 15 rfl rfl)
theorem dX3_copies_16 : decode cX3_copies 16 = .ok (.iload_n 1, 1) := dk_27 (dk_at dksX3_copies_0 16 rfl rfl)
theorem dX3_copies_17 : decode cX3_copies 17 = .ok (.iload 4, 2) := dk_21 4 (dk_at dksX3_copies_0 17 rfl rfl)
theorem dX3_copies_19 : decode cX3_copies 19 = .ok (.iadd, 1) := dk_96 (dk_at dksX3_copies_0 19 rfl rfl)
theorem dX3_copies_20 : decode cX3_copies 20 = .ok (.iaload, 1) := dk_46 (dk_at dksX3_copies_0 20 rfl rfl)
theorem dX3_copies_21 : decode cX3_copies 21 = .ok (.iastore, 1) := dk_79 (dk_at dksX3_copies_0 21 rfl rfl)
theorem dX3_copies_22 : decode cX3_copies 22 = .ok (.iinc 4 1, 3) := dk_132 4 1 (dk_at dksX3_copies_1 0 rfl rfl)
theorem dX3_copies_25 : decode cX3_copies 25 = .ok (.goto (-22), 3) := dk_167 255 234 (dk_at dksX3_copies_1 3 rfl rfl)
theorem dX3_copies_28 : decode cX3_copies 28 = .ok (.return_, 1) := dk_177 (dk_at dksX3_copies_1 6 rfl rfl)
abbrev cX3_pays : ByteArray := prog_24_method_22_code
def yX3_pays : MethodName := ⟨RX3, "pays", "(I)V"⟩
def dkwX3_pays_0 : List UInt8 := [42, 180, 0, 7, 6, 92, 46, 27, 100, 79, 42, 180, 0, 7, 16, 9, 92, 46, 27, 96, 79, 177]
abbrev dktX3_pays_0 : List UInt8 := dkwX3_pays_0 ++ []
theorem dksX3_pays_0 : cX3_pays.data.toList.drop 0 = dktX3_pays_0 := by decide +kernel
theorem dX3_pays_0 : decode cX3_pays 0 = .ok (.aload_n 0, 1) := dk_42 (dk_at dksX3_pays_0 0 rfl rfl)
theorem dX3_pays_1 : decode cX3_pays 1 = .ok (.getfield 7, 3) := dk_180 0 7 (dk_at dksX3_pays_0 1 rfl rfl)
theorem dX3_pays_4 : decode cX3_pays 4 = .ok (.iconst 3, 1) := dk_6 (dk_at dksX3_pays_0 4 rfl rfl)
theorem dX3_pays_5 : decode cX3_pays 5 = .ok (.dup2, 1) := dk_92 (dk_at dksX3_pays_0 5 rfl rfl)
theorem dX3_pays_6 : decode cX3_pays 6 = .ok (.iaload, 1) := dk_46 (dk_at dksX3_pays_0 6 rfl rfl)
theorem dX3_pays_7 : decode cX3_pays 7 = .ok (.iload_n 1, 1) := dk_27 (dk_at dksX3_pays_0 7 rfl rfl)
theorem dX3_pays_8 : decode cX3_pays 8 = .ok (.isub, 1) := dk_100 (dk_at dksX3_pays_0 8 rfl rfl)
theorem dX3_pays_9 : decode cX3_pays 9 = .ok (.iastore, 1) := dk_79 (dk_at dksX3_pays_0 9 rfl rfl)
theorem dX3_pays_10 : decode cX3_pays 10 = .ok (.aload_n 0, 1) := dk_42 (dk_at dksX3_pays_0 10 rfl rfl)
theorem dX3_pays_11 : decode cX3_pays 11 = .ok (.getfield 7, 3) := dk_180 0 7 (dk_at dksX3_pays_0 11 rfl rfl)
theorem dX3_pays_14 : decode cX3_pays 14 = .ok (.bipush 9, 2) := dk_16 9 (dk_at dksX3_pays_0 14 rfl rfl)
theorem dX3_pays_16 : decode cX3_pays 16 = .ok (.dup2, 1) := dk_92 (dk_at dksX3_pays_0 16 rfl rfl)
theorem dX3_pays_17 : decode cX3_pays 17 = .ok (.iaload, 1) := dk_46 (dk_at dksX3_pays_0 17 rfl rfl)
theorem dX3_pays_18 : decode cX3_pays 18 = .ok (.iload_n 1, 1) := dk_27 (dk_at dksX3_pays_0 18 rfl rfl)
theorem dX3_pays_19 : decode cX3_pays 19 = .ok (.iadd, 1) := dk_96 (dk_at dksX3_pays_0 19 rfl rfl)
theorem dX3_pays_20 : decode cX3_pays 20 = .ok (.iastore, 1) := dk_79 (dk_at dksX3_pays_0 20 rfl rfl)
theorem dX3_pays_21 : decode cX3_pays 21 = .ok (.return_, 1) := dk_177 (dk_at dksX3_pays_0 21 rfl rfl)
abbrev cX3_damp : ByteArray := prog_24_method_26_code
def yX3_damp : MethodName := ⟨RX3, "damp", "(I)I"⟩
def dkwX3_damp_1 : List UInt8 := [42, 42, 180, 0, 7, 182, 0, 74, 42, 180, 0, 7, 4, 46, 61, 42, 180, 0, 7, 4, 27, 79, 28, 172]
abbrev dktX3_damp_1 : List UInt8 := dkwX3_damp_1 ++ []
def dkwX3_damp_0 : List UInt8 := [42, 27, 3, 16, 9, 184, 0, 62, 153, 0, 7, 3, 167, 0, 4, 4, 182, 0, 66, 153, 0, 5, 3, 172]
abbrev dktX3_damp_0 : List UInt8 := dkwX3_damp_0 ++ dktX3_damp_1
theorem dksX3_damp_0 : cX3_damp.data.toList.drop 0 = dktX3_damp_0 := by decide +kernel
theorem dksX3_damp_1 : cX3_damp.data.toList.drop 24 = dktX3_damp_1 := dk_seg dksX3_damp_0 24 rfl rfl
theorem dX3_damp_0 : decode cX3_damp 0 = .ok (.aload_n 0, 1) := dk_42 (dk_at dksX3_damp_0 0 rfl rfl)
theorem dX3_damp_1 : decode cX3_damp 1 = .ok (.iload_n 1, 1) := dk_27 (dk_at dksX3_damp_0 1 rfl rfl)
theorem dX3_damp_2 : decode cX3_damp 2 = .ok (.iconst 0, 1) := dk_3 (dk_at dksX3_damp_0 2 rfl rfl)
theorem dX3_damp_3 : decode cX3_damp 3 = .ok (.bipush 9, 2) := dk_16 9 (dk_at dksX3_damp_0 3 rfl rfl)
theorem dX3_damp_5 : decode cX3_damp 5 = .ok (.invokestatic 62, 3) := dk_184 0 62 (dk_at dksX3_damp_0 5 rfl rfl)
theorem dX3_damp_8 : decode cX3_damp 8 = .ok (.ifCond .eq 7, 3) := dk_153 0 7 (dk_at dksX3_damp_0 8 rfl rfl)
theorem dX3_damp_11 : decode cX3_damp 11 = .ok (.iconst 0, 1) := dk_3 (dk_at dksX3_damp_0 11 rfl rfl)
theorem dX3_damp_12 : decode cX3_damp 12 = .ok (.goto 4, 3) := dk_167 0 4 (dk_at dksX3_damp_0 12 rfl rfl)
theorem dX3_damp_15 : decode cX3_damp 15 = .ok (.iconst 1, 1) := dk_4 (dk_at dksX3_damp_0 15 rfl rfl)
theorem dX3_damp_16 : decode cX3_damp 16 = .ok (.invokevirtual 66, 3) := dk_182 0 66 (dk_at dksX3_damp_0 16 rfl rfl)
theorem dX3_damp_19 : decode cX3_damp 19 = .ok (.ifCond .eq 5, 3) := dk_153 0 5 (dk_at dksX3_damp_0 19 rfl rfl)
theorem dX3_damp_22 : decode cX3_damp 22 = .ok (.iconst 0, 1) := dk_3 (dk_at dksX3_damp_0 22 rfl rfl)
theorem dX3_damp_23 : decode cX3_damp 23 = .ok (.ireturn, 1) := dk_172 (dk_at dksX3_damp_0 23 rfl rfl)
theorem dX3_damp_24 : decode cX3_damp 24 = .ok (.aload_n 0, 1) := dk_42 (dk_at dksX3_damp_1 0 rfl rfl)
theorem dX3_damp_25 : decode cX3_damp 25 = .ok (.aload_n 0, 1) := dk_42 (dk_at dksX3_damp_1 1 rfl rfl)
theorem dX3_damp_26 : decode cX3_damp 26 = .ok (.getfield 7, 3) := dk_180 0 7 (dk_at dksX3_damp_1 2 rfl rfl)
theorem dX3_damp_29 : decode cX3_damp 29 = .ok (.invokevirtual 74, 3) := dk_182 0 74 (dk_at dksX3_damp_1 5 rfl rfl)
theorem dX3_damp_32 : decode cX3_damp 32 = .ok (.aload_n 0, 1) := dk_42 (dk_at dksX3_damp_1 8 rfl rfl)
theorem dX3_damp_33 : decode cX3_damp 33 = .ok (.getfield 7, 3) := dk_180 0 7 (dk_at dksX3_damp_1 9 rfl rfl)
theorem dX3_damp_36 : decode cX3_damp 36 = .ok (.iconst 1, 1) := dk_4 (dk_at dksX3_damp_1 12 rfl rfl)
theorem dX3_damp_37 : decode cX3_damp 37 = .ok (.iaload, 1) := dk_46 (dk_at dksX3_damp_1 13 rfl rfl)
theorem dX3_damp_38 : decode cX3_damp 38 = .ok (.istore_n 2, 1) := dk_61 (dk_at dksX3_damp_1 14 rfl rfl)
theorem dX3_damp_39 : decode cX3_damp 39 = .ok (.aload_n 0, 1) := dk_42 (dk_at dksX3_damp_1 15 rfl rfl)
theorem dX3_damp_40 : decode cX3_damp 40 = .ok (.getfield 7, 3) := dk_180 0 7 (dk_at dksX3_damp_1 16 rfl rfl)
theorem dX3_damp_43 : decode cX3_damp 43 = .ok (.iconst 1, 1) := dk_4 (dk_at dksX3_damp_1 19 rfl rfl)
theorem dX3_damp_44 : decode cX3_damp 44 = .ok (.iload_n 1, 1) := dk_27 (dk_at dksX3_damp_1 20 rfl rfl)
theorem dX3_damp_45 : decode cX3_damp 45 = .ok (.iastore, 1) := dk_79 (dk_at dksX3_damp_1 21 rfl rfl)
theorem dX3_damp_46 : decode cX3_damp 46 = .ok (.iload_n 2, 1) := dk_28 (dk_at dksX3_damp_1 22 rfl rfl)
theorem dX3_damp_47 : decode cX3_damp 47 = .ok (.ireturn, 1) := dk_172 (dk_at dksX3_damp_1 23 rfl rfl)
abbrev cX3_copper : ByteArray := prog_24_method_27_code
def yX3_copper : MethodName := ⟨RX3, "copper", "(I)I"⟩
def dkwX3_copper_4 : List UInt8 := [79, 42, 180, 0, 7, 16, 10, 46, 4, 100, 172]
abbrev dktX3_copper_4 : List UInt8 := dkwX3_copper_4 ++ []
def dkwX3_copper_3 : List UInt8 := [28, 4, 96, 3, 79, 42, 180, 0, 7, 28, 5, 96, 3, 79, 42, 180, 0, 7, 16, 10, 92, 46, 4, 96]
abbrev dktX3_copper_3 : List UInt8 := dkwX3_copper_3 ++ dktX3_copper_4
def dkwX3_copper_2 : List UInt8 := [16, 11, 6, 42, 180, 0, 7, 16, 10, 46, 104, 96, 61, 42, 180, 0, 7, 28, 27, 79, 42, 180, 0, 7]
abbrev dktX3_copper_2 : List UInt8 := dkwX3_copper_2 ++ dktX3_copper_3
def dkwX3_copper_1 : List UInt8 := [160, 0, 7, 5, 167, 0, 4, 3, 182, 0, 66, 153, 0, 5, 3, 172, 42, 42, 180, 0, 7, 182, 0, 74]
abbrev dktX3_copper_1 : List UInt8 := dkwX3_copper_1 ++ dktX3_copper_2
def dkwX3_copper_0 : List UInt8 := [42, 27, 4, 16, 9, 184, 0, 62, 154, 0, 7, 4, 167, 0, 19, 42, 180, 0, 7, 16, 10, 46, 8]
abbrev dktX3_copper_0 : List UInt8 := dkwX3_copper_0 ++ dktX3_copper_1
theorem dksX3_copper_0 : cX3_copper.data.toList.drop 0 = dktX3_copper_0 := by decide +kernel
theorem dksX3_copper_1 : cX3_copper.data.toList.drop 23 = dktX3_copper_1 := dk_seg dksX3_copper_0 23 rfl rfl
theorem dksX3_copper_2 : cX3_copper.data.toList.drop 47 = dktX3_copper_2 := dk_seg dksX3_copper_1 24 rfl rfl
theorem dksX3_copper_3 : cX3_copper.data.toList.drop 71 = dktX3_copper_3 := dk_seg dksX3_copper_2 24 rfl rfl
theorem dksX3_copper_4 : cX3_copper.data.toList.drop 95 = dktX3_copper_4 := dk_seg dksX3_copper_3 24 rfl rfl
theorem dX3_copper_0 : decode cX3_copper 0 = .ok (.aload_n 0, 1) := dk_42 (dk_at dksX3_copper_0 0 rfl rfl)
theorem dX3_copper_1 : decode cX3_copper 1 = .ok (.iload_n 1, 1) := dk_27 (dk_at dksX3_copper_0 1 rfl rfl)
theorem dX3_copper_2 : decode cX3_copper 2 = .ok (.iconst 1, 1) := dk_4 (dk_at dksX3_copper_0 2 rfl rfl)
theorem dX3_copper_3 : decode cX3_copper 3 = .ok (.bipush 9, 2) := dk_16 9 (dk_at dksX3_copper_0 3 rfl rfl)
theorem dX3_copper_5 : decode cX3_copper 5 = .ok (.invokestatic 62, 3) := dk_184 0 62 (dk_at dksX3_copper_0 5 rfl rfl)
theorem dX3_copper_8 : decode cX3_copper 8 = .ok (.ifCond .ne 7, 3) := dk_154 0 7 (dk_at dksX3_copper_0 8 rfl rfl)
theorem dX3_copper_11 : decode cX3_copper 11 = .ok (.iconst 1, 1) := dk_4 (dk_at dksX3_copper_0 11 rfl rfl)
theorem dX3_copper_12 : decode cX3_copper 12 = .ok (.goto 19, 3) := dk_167 0 19 (dk_at dksX3_copper_0 12 rfl rfl)
theorem dX3_copper_15 : decode cX3_copper 15 = .ok (.aload_n 0, 1) := dk_42 (dk_at dksX3_copper_0 15 rfl rfl)
theorem dX3_copper_16 : decode cX3_copper 16 = .ok (.getfield 7, 3) := dk_180 0 7 (dk_at dksX3_copper_0 16 rfl rfl)
theorem dX3_copper_19 : decode cX3_copper 19 = .ok (.bipush 10, 2) := dk_16 10 (dk_at dksX3_copper_0 19 rfl rfl)
theorem dX3_copper_21 : decode cX3_copper 21 = .ok (.iaload, 1) := dk_46 (dk_at dksX3_copper_0 21 rfl rfl)
theorem dX3_copper_22 : decode cX3_copper 22 = .ok (.iconst 5, 1) := dk_8 (dk_at dksX3_copper_0 22 rfl rfl)
theorem dX3_copper_23 : decode cX3_copper 23 = .ok (.if_icmp .ne 7, 3) := dk_160 0 7 (dk_at dksX3_copper_1 0 rfl rfl)
theorem dX3_copper_26 : decode cX3_copper 26 = .ok (.iconst 2, 1) := dk_5 (dk_at dksX3_copper_1 3 rfl rfl)
theorem dX3_copper_27 : decode cX3_copper 27 = .ok (.goto 4, 3) := dk_167 0 4 (dk_at dksX3_copper_1 4 rfl rfl)
theorem dX3_copper_30 : decode cX3_copper 30 = .ok (.iconst 0, 1) := dk_3 (dk_at dksX3_copper_1 7 rfl rfl)
theorem dX3_copper_31 : decode cX3_copper 31 = .ok (.invokevirtual 66, 3) := dk_182 0 66 (dk_at dksX3_copper_1 8 rfl rfl)
theorem dX3_copper_34 : decode cX3_copper 34 = .ok (.ifCond .eq 5, 3) := dk_153 0 5 (dk_at dksX3_copper_1 11 rfl rfl)
theorem dX3_copper_37 : decode cX3_copper 37 = .ok (.iconst 0, 1) := dk_3 (dk_at dksX3_copper_1 14 rfl rfl)
theorem dX3_copper_38 : decode cX3_copper 38 = .ok (.ireturn, 1) := dk_172 (dk_at dksX3_copper_1 15 rfl rfl)
theorem dX3_copper_39 : decode cX3_copper 39 = .ok (.aload_n 0, 1) := dk_42 (dk_at dksX3_copper_1 16 rfl rfl)
theorem dX3_copper_40 : decode cX3_copper 40 = .ok (.aload_n 0, 1) := dk_42 (dk_at dksX3_copper_1 17 rfl rfl)
theorem dX3_copper_41 : decode cX3_copper 41 = .ok (.getfield 7, 3) := dk_180 0 7 (dk_at dksX3_copper_1 18 rfl rfl)
theorem dX3_copper_44 : decode cX3_copper 44 = .ok (.invokevirtual 74, 3) := dk_182 0 74 (dk_at dksX3_copper_1 21 rfl rfl)
theorem dX3_copper_47 : decode cX3_copper 47 = .ok (.bipush 11, 2) := dk_16 11 (dk_at dksX3_copper_2 0 rfl rfl)
theorem dX3_copper_49 : decode cX3_copper 49 = .ok (.iconst 3, 1) := dk_6 (dk_at dksX3_copper_2 2 rfl rfl)
theorem dX3_copper_50 : decode cX3_copper 50 = .ok (.aload_n 0, 1) := dk_42 (dk_at dksX3_copper_2 3 rfl rfl)
theorem dX3_copper_51 : decode cX3_copper 51 = .ok (.getfield 7, 3) := dk_180 0 7 (dk_at dksX3_copper_2 4 rfl rfl)
theorem dX3_copper_54 : decode cX3_copper 54 = .ok (.bipush 10, 2) := dk_16 10 (dk_at dksX3_copper_2 7 rfl rfl)
theorem dX3_copper_56 : decode cX3_copper 56 = .ok (.iaload, 1) := dk_46 (dk_at dksX3_copper_2 9 rfl rfl)
theorem dX3_copper_57 : decode cX3_copper 57 = .ok (.imul, 1) := dk_104 (dk_at dksX3_copper_2 10 rfl rfl)
theorem dX3_copper_58 : decode cX3_copper 58 = .ok (.iadd, 1) := dk_96 (dk_at dksX3_copper_2 11 rfl rfl)
theorem dX3_copper_59 : decode cX3_copper 59 = .ok (.istore_n 2, 1) := dk_61 (dk_at dksX3_copper_2 12 rfl rfl)
theorem dX3_copper_60 : decode cX3_copper 60 = .ok (.aload_n 0, 1) := dk_42 (dk_at dksX3_copper_2 13 rfl rfl)
theorem dX3_copper_61 : decode cX3_copper 61 = .ok (.getfield 7, 3) := dk_180 0 7 (dk_at dksX3_copper_2 14 rfl rfl)
theorem dX3_copper_64 : decode cX3_copper 64 = .ok (.iload_n 2, 1) := dk_28 (dk_at dksX3_copper_2 17 rfl rfl)
theorem dX3_copper_65 : decode cX3_copper 65 = .ok (.iload_n 1, 1) := dk_27 (dk_at dksX3_copper_2 18 rfl rfl)
theorem dX3_copper_66 : decode cX3_copper 66 = .ok (.iastore, 1) := dk_79 (dk_at dksX3_copper_2 19 rfl rfl)
theorem dX3_copper_67 : decode cX3_copper 67 = .ok (.aload_n 0, 1) := dk_42 (dk_at dksX3_copper_2 20 rfl rfl)
theorem dX3_copper_68 : decode cX3_copper 68 = .ok (.getfield 7, 3) := dk_180 0 7 (dk_at dksX3_copper_2 21 rfl rfl)
theorem dX3_copper_71 : decode cX3_copper 71 = .ok (.iload_n 2, 1) := dk_28 (dk_at dksX3_copper_3 0 rfl rfl)
theorem dX3_copper_72 : decode cX3_copper 72 = .ok (.iconst 1, 1) := dk_4 (dk_at dksX3_copper_3 1 rfl rfl)
theorem dX3_copper_73 : decode cX3_copper 73 = .ok (.iadd, 1) := dk_96 (dk_at dksX3_copper_3 2 rfl rfl)
theorem dX3_copper_74 : decode cX3_copper 74 = .ok (.iconst 0, 1) := dk_3 (dk_at dksX3_copper_3 3 rfl rfl)
theorem dX3_copper_75 : decode cX3_copper 75 = .ok (.iastore, 1) := dk_79 (dk_at dksX3_copper_3 4 rfl rfl)
theorem dX3_copper_76 : decode cX3_copper 76 = .ok (.aload_n 0, 1) := dk_42 (dk_at dksX3_copper_3 5 rfl rfl)
theorem dX3_copper_77 : decode cX3_copper 77 = .ok (.getfield 7, 3) := dk_180 0 7 (dk_at dksX3_copper_3 6 rfl rfl)
theorem dX3_copper_80 : decode cX3_copper 80 = .ok (.iload_n 2, 1) := dk_28 (dk_at dksX3_copper_3 9 rfl rfl)
theorem dX3_copper_81 : decode cX3_copper 81 = .ok (.iconst 2, 1) := dk_5 (dk_at dksX3_copper_3 10 rfl rfl)
theorem dX3_copper_82 : decode cX3_copper 82 = .ok (.iadd, 1) := dk_96 (dk_at dksX3_copper_3 11 rfl rfl)
theorem dX3_copper_83 : decode cX3_copper 83 = .ok (.iconst 0, 1) := dk_3 (dk_at dksX3_copper_3 12 rfl rfl)
theorem dX3_copper_84 : decode cX3_copper 84 = .ok (.iastore, 1) := dk_79 (dk_at dksX3_copper_3 13 rfl rfl)
theorem dX3_copper_85 : decode cX3_copper 85 = .ok (.aload_n 0, 1) := dk_42 (dk_at dksX3_copper_3 14 rfl rfl)
theorem dX3_copper_86 : decode cX3_copper 86 = .ok (.getfield 7, 3) := dk_180 0 7 (dk_at dksX3_copper_3 15 rfl rfl)
theorem dX3_copper_89 : decode cX3_copper 89 = .ok (.bipush 10, 2) := dk_16 10 (dk_at dksX3_copper_3 18 rfl rfl)
theorem dX3_copper_91 : decode cX3_copper 91 = .ok (.dup2, 1) := dk_92 (dk_at dksX3_copper_3 20 rfl rfl)
theorem dX3_copper_92 : decode cX3_copper 92 = .ok (.iaload, 1) := dk_46 (dk_at dksX3_copper_3 21 rfl rfl)
theorem dX3_copper_93 : decode cX3_copper 93 = .ok (.iconst 1, 1) := dk_4 (dk_at dksX3_copper_3 22 rfl rfl)
theorem dX3_copper_94 : decode cX3_copper 94 = .ok (.iadd, 1) := dk_96 (dk_at dksX3_copper_3 23 rfl rfl)
theorem dX3_copper_95 : decode cX3_copper 95 = .ok (.iastore, 1) := dk_79 (dk_at dksX3_copper_4 0 rfl rfl)
theorem dX3_copper_96 : decode cX3_copper 96 = .ok (.aload_n 0, 1) := dk_42 (dk_at dksX3_copper_4 1 rfl rfl)
theorem dX3_copper_97 : decode cX3_copper 97 = .ok (.getfield 7, 3) := dk_180 0 7 (dk_at dksX3_copper_4 2 rfl rfl)
theorem dX3_copper_100 : decode cX3_copper 100 = .ok (.bipush 10, 2) := dk_16 10 (dk_at dksX3_copper_4 5 rfl rfl)
theorem dX3_copper_102 : decode cX3_copper 102 = .ok (.iaload, 1) := dk_46 (dk_at dksX3_copper_4 7 rfl rfl)
theorem dX3_copper_103 : decode cX3_copper 103 = .ok (.iconst 1, 1) := dk_4 (dk_at dksX3_copper_4 8 rfl rfl)
theorem dX3_copper_104 : decode cX3_copper 104 = .ok (.isub, 1) := dk_100 (dk_at dksX3_copper_4 9 rfl rfl)
theorem dX3_copper_105 : decode cX3_copper 105 = .ok (.ireturn, 1) := dk_172 (dk_at dksX3_copper_4 10 rfl rfl)
abbrev cX3_copperOf : ByteArray := prog_24_method_29_code
def yX3_copperOf : MethodName := ⟨RX3, "copperOf", "(II)I"⟩
def dkwX3_copperOf_2 : List UInt8 := [167, 0, 23, 28, 6, 160, 0, 12, 42, 27, 5, 182, 0, 82, 167, 0, 9, 42, 27, 28, 182, 0, 82, 172]
abbrev dktX3_copperOf_2 : List UInt8 := dkwX3_copperOf_2 ++ []
def dkwX3_copperOf_1 : List UInt8 := [167, 0, 4, 5, 182, 0, 66, 153, 0, 5, 3, 172, 28, 5, 160, 0, 11, 42, 27, 182, 0, 96]
abbrev dktX3_copperOf_1 : List UInt8 := dkwX3_copperOf_1 ++ dktX3_copperOf_2
def dkwX3_copperOf_0 : List UInt8 := [42, 42, 27, 182, 0, 93, 154, 0, 7, 4, 167, 0, 17, 28, 3, 6, 184, 0, 62, 153, 0, 7, 3]
abbrev dktX3_copperOf_0 : List UInt8 := dkwX3_copperOf_0 ++ dktX3_copperOf_1
theorem dksX3_copperOf_0 : cX3_copperOf.data.toList.drop 0 = dktX3_copperOf_0 := by decide +kernel
theorem dksX3_copperOf_1 : cX3_copperOf.data.toList.drop 23 = dktX3_copperOf_1 := dk_seg dksX3_copperOf_0 23 rfl rfl
theorem dksX3_copperOf_2 : cX3_copperOf.data.toList.drop 45 = dktX3_copperOf_2 := dk_seg dksX3_copperOf_1 22 rfl rfl
theorem dX3_copperOf_0 : decode cX3_copperOf 0 = .ok (.aload_n 0, 1) := dk_42 (dk_at dksX3_copperOf_0 0 rfl rfl)
theorem dX3_copperOf_1 : decode cX3_copperOf 1 = .ok (.aload_n 0, 1) := dk_42 (dk_at dksX3_copperOf_0 1 rfl rfl)
theorem dX3_copperOf_2 : decode cX3_copperOf 2 = .ok (.iload_n 1, 1) := dk_27 (dk_at dksX3_copperOf_0 2 rfl rfl)
theorem dX3_copperOf_3 : decode cX3_copperOf 3 = .ok (.invokevirtual 93, 3) := dk_182 0 93 (dk_at dksX3_copperOf_0 3 rfl rfl)
theorem dX3_copperOf_6 : decode cX3_copperOf 6 = .ok (.ifCond .ne 7, 3) := dk_154 0 7 (dk_at dksX3_copperOf_0 6 rfl rfl)
theorem dX3_copperOf_9 : decode cX3_copperOf 9 = .ok (.iconst 1, 1) := dk_4 (dk_at dksX3_copperOf_0 9 rfl rfl)
theorem dX3_copperOf_10 : decode cX3_copperOf 10 = .ok (.goto 17, 3) := dk_167 0 17 (dk_at dksX3_copperOf_0 10 rfl rfl)
theorem dX3_copperOf_13 : decode cX3_copperOf 13 = .ok (.iload_n 2, 1) := dk_28 (dk_at dksX3_copperOf_0 13 rfl rfl)
theorem dX3_copperOf_14 : decode cX3_copperOf 14 = .ok (.iconst 0, 1) := dk_3 (dk_at dksX3_copperOf_0 14 rfl rfl)
theorem dX3_copperOf_15 : decode cX3_copperOf 15 = .ok (.iconst 3, 1) := dk_6 (dk_at dksX3_copperOf_0 15 rfl rfl)
theorem dX3_copperOf_16 : decode cX3_copperOf 16 = .ok (.invokestatic 62, 3) := dk_184 0 62 (dk_at dksX3_copperOf_0 16 rfl rfl)
theorem dX3_copperOf_19 : decode cX3_copperOf 19 = .ok (.ifCond .eq 7, 3) := dk_153 0 7 (dk_at dksX3_copperOf_0 19 rfl rfl)
theorem dX3_copperOf_22 : decode cX3_copperOf 22 = .ok (.iconst 0, 1) := dk_3 (dk_at dksX3_copperOf_0 22 rfl rfl)
theorem dX3_copperOf_23 : decode cX3_copperOf 23 = .ok (.goto 4, 3) := dk_167 0 4 (dk_at dksX3_copperOf_1 0 rfl rfl)
theorem dX3_copperOf_26 : decode cX3_copperOf 26 = .ok (.iconst 2, 1) := dk_5 (dk_at dksX3_copperOf_1 3 rfl rfl)
theorem dX3_copperOf_27 : decode cX3_copperOf 27 = .ok (.invokevirtual 66, 3) := dk_182 0 66 (dk_at dksX3_copperOf_1 4 rfl rfl)
theorem dX3_copperOf_30 : decode cX3_copperOf 30 = .ok (.ifCond .eq 5, 3) := dk_153 0 5 (dk_at dksX3_copperOf_1 7 rfl rfl)
theorem dX3_copperOf_33 : decode cX3_copperOf 33 = .ok (.iconst 0, 1) := dk_3 (dk_at dksX3_copperOf_1 10 rfl rfl)
theorem dX3_copperOf_34 : decode cX3_copperOf 34 = .ok (.ireturn, 1) := dk_172 (dk_at dksX3_copperOf_1 11 rfl rfl)
theorem dX3_copperOf_35 : decode cX3_copperOf 35 = .ok (.iload_n 2, 1) := dk_28 (dk_at dksX3_copperOf_1 12 rfl rfl)
theorem dX3_copperOf_36 : decode cX3_copperOf 36 = .ok (.iconst 2, 1) := dk_5 (dk_at dksX3_copperOf_1 13 rfl rfl)
theorem dX3_copperOf_37 : decode cX3_copperOf 37 = .ok (.if_icmp .ne 11, 3) := dk_160 0 11 (dk_at dksX3_copperOf_1 14 rfl rfl)
theorem dX3_copperOf_40 : decode cX3_copperOf 40 = .ok (.aload_n 0, 1) := dk_42 (dk_at dksX3_copperOf_1 17 rfl rfl)
theorem dX3_copperOf_41 : decode cX3_copperOf 41 = .ok (.iload_n 1, 1) := dk_27 (dk_at dksX3_copperOf_1 18 rfl rfl)
theorem dX3_copperOf_42 : decode cX3_copperOf 42 = .ok (.invokevirtual 96, 3) := dk_182 0 96 (dk_at dksX3_copperOf_1 19 rfl rfl)
theorem dX3_copperOf_45 : decode cX3_copperOf 45 = .ok (.goto 23, 3) := dk_167 0 23 (dk_at dksX3_copperOf_2 0 rfl rfl)
theorem dX3_copperOf_48 : decode cX3_copperOf 48 = .ok (.iload_n 2, 1) := dk_28 (dk_at dksX3_copperOf_2 3 rfl rfl)
theorem dX3_copperOf_49 : decode cX3_copperOf 49 = .ok (.iconst 3, 1) := dk_6 (dk_at dksX3_copperOf_2 4 rfl rfl)
theorem dX3_copperOf_50 : decode cX3_copperOf 50 = .ok (.if_icmp .ne 12, 3) := dk_160 0 12 (dk_at dksX3_copperOf_2 5 rfl rfl)
theorem dX3_copperOf_53 : decode cX3_copperOf 53 = .ok (.aload_n 0, 1) := dk_42 (dk_at dksX3_copperOf_2 8 rfl rfl)
theorem dX3_copperOf_54 : decode cX3_copperOf 54 = .ok (.iload_n 1, 1) := dk_27 (dk_at dksX3_copperOf_2 9 rfl rfl)
theorem dX3_copperOf_55 : decode cX3_copperOf 55 = .ok (.iconst 2, 1) := dk_5 (dk_at dksX3_copperOf_2 10 rfl rfl)
theorem dX3_copperOf_56 : decode cX3_copperOf 56 = .ok (.invokevirtual 82, 3) := dk_182 0 82 (dk_at dksX3_copperOf_2 11 rfl rfl)
theorem dX3_copperOf_59 : decode cX3_copperOf 59 = .ok (.goto 9, 3) := dk_167 0 9 (dk_at dksX3_copperOf_2 14 rfl rfl)
theorem dX3_copperOf_62 : decode cX3_copperOf 62 = .ok (.aload_n 0, 1) := dk_42 (dk_at dksX3_copperOf_2 17 rfl rfl)
theorem dX3_copperOf_63 : decode cX3_copperOf 63 = .ok (.iload_n 1, 1) := dk_27 (dk_at dksX3_copperOf_2 18 rfl rfl)
theorem dX3_copperOf_64 : decode cX3_copperOf 64 = .ok (.iload_n 2, 1) := dk_28 (dk_at dksX3_copperOf_2 19 rfl rfl)
theorem dX3_copperOf_65 : decode cX3_copperOf 65 = .ok (.invokevirtual 82, 3) := dk_182 0 82 (dk_at dksX3_copperOf_2 20 rfl rfl)
theorem dX3_copperOf_68 : decode cX3_copperOf 68 = .ok (.ireturn, 1) := dk_172 (dk_at dksX3_copperOf_2 23 rfl rfl)
abbrev cX3_isCopper : ByteArray := prog_24_method_11_code
def yX3_isCopper : MethodName := ⟨RX3, "isCopper", "(I)Z"⟩
def dkwX3_isCopper_0 : List UInt8 := [27, 3, 42, 180, 0, 7, 16, 10, 46, 4, 100, 184, 0, 62, 172]
abbrev dktX3_isCopper_0 : List UInt8 := dkwX3_isCopper_0 ++ []
theorem dksX3_isCopper_0 : cX3_isCopper.data.toList.drop 0 = dktX3_isCopper_0 := by decide +kernel
theorem dX3_isCopper_0 : decode cX3_isCopper 0 = .ok (.iload_n 1, 1) := dk_27 (dk_at dksX3_isCopper_0 0 rfl rfl)
theorem dX3_isCopper_1 : decode cX3_isCopper 1 = .ok (.iconst 0, 1) := dk_3 (dk_at dksX3_isCopper_0 1 rfl rfl)
theorem dX3_isCopper_2 : decode cX3_isCopper 2 = .ok (.aload_n 0, 1) := dk_42 (dk_at dksX3_isCopper_0 2 rfl rfl)
theorem dX3_isCopper_3 : decode cX3_isCopper 3 = .ok (.getfield 7, 3) := dk_180 0 7 (dk_at dksX3_isCopper_0 3 rfl rfl)
theorem dX3_isCopper_6 : decode cX3_isCopper 6 = .ok (.bipush 10, 2) := dk_16 10 (dk_at dksX3_isCopper_0 6 rfl rfl)
theorem dX3_isCopper_8 : decode cX3_isCopper 8 = .ok (.iaload, 1) := dk_46 (dk_at dksX3_isCopper_0 8 rfl rfl)
theorem dX3_isCopper_9 : decode cX3_isCopper 9 = .ok (.iconst 1, 1) := dk_4 (dk_at dksX3_isCopper_0 9 rfl rfl)
theorem dX3_isCopper_10 : decode cX3_isCopper 10 = .ok (.isub, 1) := dk_100 (dk_at dksX3_isCopper_0 10 rfl rfl)
theorem dX3_isCopper_11 : decode cX3_isCopper 11 = .ok (.invokestatic 62, 3) := dk_184 0 62 (dk_at dksX3_isCopper_0 11 rfl rfl)
theorem dX3_isCopper_14 : decode cX3_isCopper 14 = .ok (.ireturn, 1) := dk_172 (dk_at dksX3_isCopper_0 14 rfl rfl)
abbrev cX3_wellBy : ByteArray := prog_24_method_28_code
def yX3_wellBy : MethodName := ⟨RX3, "wellBy", "(I)I"⟩
def dkwX3_wellBy_1 : List UInt8 := [100, 184, 0, 86, 100, 184, 0, 90, 172]
abbrev dktX3_wellBy_1 : List UInt8 := dkwX3_wellBy_1 ++ []
def dkwX3_wellBy_0 : List UInt8 := [3, 42, 27, 3, 182, 0, 82, 42, 27, 4, 182, 0, 82, 16, 10, 108, 100, 42, 180, 0, 7, 4, 46, 8]
abbrev dktX3_wellBy_0 : List UInt8 := dkwX3_wellBy_0 ++ dktX3_wellBy_1
theorem dksX3_wellBy_0 : cX3_wellBy.data.toList.drop 0 = dktX3_wellBy_0 := by decide +kernel
theorem dksX3_wellBy_1 : cX3_wellBy.data.toList.drop 24 = dktX3_wellBy_1 := dk_seg dksX3_wellBy_0 24 rfl rfl
theorem dX3_wellBy_0 : decode cX3_wellBy 0 = .ok (.iconst 0, 1) := dk_3 (dk_at dksX3_wellBy_0 0 rfl rfl)
theorem dX3_wellBy_1 : decode cX3_wellBy 1 = .ok (.aload_n 0, 1) := dk_42 (dk_at dksX3_wellBy_0 1 rfl rfl)
theorem dX3_wellBy_2 : decode cX3_wellBy 2 = .ok (.iload_n 1, 1) := dk_27 (dk_at dksX3_wellBy_0 2 rfl rfl)
theorem dX3_wellBy_3 : decode cX3_wellBy 3 = .ok (.iconst 0, 1) := dk_3 (dk_at dksX3_wellBy_0 3 rfl rfl)
theorem dX3_wellBy_4 : decode cX3_wellBy 4 = .ok (.invokevirtual 82, 3) := dk_182 0 82 (dk_at dksX3_wellBy_0 4 rfl rfl)
theorem dX3_wellBy_7 : decode cX3_wellBy 7 = .ok (.aload_n 0, 1) := dk_42 (dk_at dksX3_wellBy_0 7 rfl rfl)
theorem dX3_wellBy_8 : decode cX3_wellBy 8 = .ok (.iload_n 1, 1) := dk_27 (dk_at dksX3_wellBy_0 8 rfl rfl)
theorem dX3_wellBy_9 : decode cX3_wellBy 9 = .ok (.iconst 1, 1) := dk_4 (dk_at dksX3_wellBy_0 9 rfl rfl)
theorem dX3_wellBy_10 : decode cX3_wellBy 10 = .ok (.invokevirtual 82, 3) := dk_182 0 82 (dk_at dksX3_wellBy_0 10 rfl rfl)
theorem dX3_wellBy_13 : decode cX3_wellBy 13 = .ok (.bipush 10, 2) := dk_16 10 (dk_at dksX3_wellBy_0 13 rfl rfl)
theorem dX3_wellBy_15 : decode cX3_wellBy 15 = .ok (.idiv, 1) := dk_108 (dk_at dksX3_wellBy_0 15 rfl rfl)
theorem dX3_wellBy_16 : decode cX3_wellBy 16 = .ok (.isub, 1) := dk_100 (dk_at dksX3_wellBy_0 16 rfl rfl)
theorem dX3_wellBy_17 : decode cX3_wellBy 17 = .ok (.aload_n 0, 1) := dk_42 (dk_at dksX3_wellBy_0 17 rfl rfl)
theorem dX3_wellBy_18 : decode cX3_wellBy 18 = .ok (.getfield 7, 3) := dk_180 0 7 (dk_at dksX3_wellBy_0 18 rfl rfl)
theorem dX3_wellBy_21 : decode cX3_wellBy 21 = .ok (.iconst 1, 1) := dk_4 (dk_at dksX3_wellBy_0 21 rfl rfl)
theorem dX3_wellBy_22 : decode cX3_wellBy 22 = .ok (.iaload, 1) := dk_46 (dk_at dksX3_wellBy_0 22 rfl rfl)
theorem dX3_wellBy_23 : decode cX3_wellBy 23 = .ok (.iconst 5, 1) := dk_8 (dk_at dksX3_wellBy_0 23 rfl rfl)
theorem dX3_wellBy_24 : decode cX3_wellBy 24 = .ok (.isub, 1) := dk_100 (dk_at dksX3_wellBy_1 0 rfl rfl)
theorem dX3_wellBy_25 : decode cX3_wellBy 25 = .ok (.invokestatic 86, 3) := dk_184 0 86 (dk_at dksX3_wellBy_1 1 rfl rfl)
theorem dX3_wellBy_28 : decode cX3_wellBy 28 = .ok (.isub, 1) := dk_100 (dk_at dksX3_wellBy_1 4 rfl rfl)
theorem dX3_wellBy_29 : decode cX3_wellBy 29 = .ok (.invokestatic 90, 3) := dk_184 0 90 (dk_at dksX3_wellBy_1 5 rfl rfl)
theorem dX3_wellBy_32 : decode cX3_wellBy 32 = .ok (.ireturn, 1) := dk_172 (dk_at dksX3_wellBy_1 8 rfl rfl)
abbrev cX3_ofCopper : ByteArray := prog_24_method_15_code
def yX3_ofCopper : MethodName := ⟨RX3, "ofCopper", "(II)I"⟩
def dkwX3_ofCopper_0 : List UInt8 := [42, 180, 0, 7, 16, 11, 6, 27, 104, 96, 28, 96, 46, 172]
abbrev dktX3_ofCopper_0 : List UInt8 := dkwX3_ofCopper_0 ++ []
theorem dksX3_ofCopper_0 : cX3_ofCopper.data.toList.drop 0 = dktX3_ofCopper_0 := by decide +kernel
theorem dX3_ofCopper_0 : decode cX3_ofCopper 0 = .ok (.aload_n 0, 1) := dk_42 (dk_at dksX3_ofCopper_0 0 rfl rfl)
theorem dX3_ofCopper_1 : decode cX3_ofCopper 1 = .ok (.getfield 7, 3) := dk_180 0 7 (dk_at dksX3_ofCopper_0 1 rfl rfl)
theorem dX3_ofCopper_4 : decode cX3_ofCopper 4 = .ok (.bipush 11, 2) := dk_16 11 (dk_at dksX3_ofCopper_0 4 rfl rfl)
theorem dX3_ofCopper_6 : decode cX3_ofCopper 6 = .ok (.iconst 3, 1) := dk_6 (dk_at dksX3_ofCopper_0 6 rfl rfl)
theorem dX3_ofCopper_7 : decode cX3_ofCopper 7 = .ok (.iload_n 1, 1) := dk_27 (dk_at dksX3_ofCopper_0 7 rfl rfl)
theorem dX3_ofCopper_8 : decode cX3_ofCopper 8 = .ok (.imul, 1) := dk_104 (dk_at dksX3_ofCopper_0 8 rfl rfl)
theorem dX3_ofCopper_9 : decode cX3_ofCopper 9 = .ok (.iadd, 1) := dk_96 (dk_at dksX3_ofCopper_0 9 rfl rfl)
theorem dX3_ofCopper_10 : decode cX3_ofCopper 10 = .ok (.iload_n 2, 1) := dk_28 (dk_at dksX3_ofCopper_0 10 rfl rfl)
theorem dX3_ofCopper_11 : decode cX3_ofCopper 11 = .ok (.iadd, 1) := dk_96 (dk_at dksX3_ofCopper_0 11 rfl rfl)
theorem dX3_ofCopper_12 : decode cX3_ofCopper 12 = .ok (.iaload, 1) := dk_46 (dk_at dksX3_ofCopper_0 12 rfl rfl)
theorem dX3_ofCopper_13 : decode cX3_ofCopper 13 = .ok (.ireturn, 1) := dk_172 (dk_at dksX3_ofCopper_0 13 rfl rfl)
abbrev cX3_size : ByteArray := prog_24_method_8_code
def yX3_size : MethodName := ⟨RX3, "size", "(I)I"⟩
def dkwX3_size_0 : List UInt8 := [26, 156, 0, 8, 26, 116, 167, 0, 4, 26, 172]
abbrev dktX3_size_0 : List UInt8 := dkwX3_size_0 ++ []
theorem dksX3_size_0 : cX3_size.data.toList.drop 0 = dktX3_size_0 := by decide +kernel
theorem dX3_size_0 : decode cX3_size 0 = .ok (.iload_n 0, 1) := dk_26 (dk_at dksX3_size_0 0 rfl rfl)
theorem dX3_size_1 : decode cX3_size 1 = .ok (.ifCond .ge 8, 3) := dk_156 0 8 (dk_at dksX3_size_0 1 rfl rfl)
theorem dX3_size_4 : decode cX3_size 4 = .ok (.iload_n 0, 1) := dk_26 (dk_at dksX3_size_0 4 rfl rfl)
theorem dX3_size_5 : decode cX3_size 5 = .ok (.ineg, 1) := dk_116 (dk_at dksX3_size_0 5 rfl rfl)
theorem dX3_size_6 : decode cX3_size 6 = .ok (.goto 4, 3) := dk_167 0 4 (dk_at dksX3_size_0 6 rfl rfl)
theorem dX3_size_9 : decode cX3_size 9 = .ok (.iload_n 0, 1) := dk_26 (dk_at dksX3_size_0 9 rfl rfl)
theorem dX3_size_10 : decode cX3_size 10 = .ok (.ireturn, 1) := dk_172 (dk_at dksX3_size_0 10 rfl rfl)
abbrev cX3_more : ByteArray := prog_24_method_7_code
def yX3_more : MethodName := ⟨RX3, "more", "(II)I"⟩
def dkwX3_more_0 : List UInt8 := [26, 27, 164, 0, 7, 26, 167, 0, 4, 27, 172]
abbrev dktX3_more_0 : List UInt8 := dkwX3_more_0 ++ []
theorem dksX3_more_0 : cX3_more.data.toList.drop 0 = dktX3_more_0 := by decide +kernel
theorem dX3_more_0 : decode cX3_more 0 = .ok (.iload_n 0, 1) := dk_26 (dk_at dksX3_more_0 0 rfl rfl)
theorem dX3_more_1 : decode cX3_more 1 = .ok (.iload_n 1, 1) := dk_27 (dk_at dksX3_more_0 1 rfl rfl)
theorem dX3_more_2 : decode cX3_more 2 = .ok (.if_icmp .le 7, 3) := dk_164 0 7 (dk_at dksX3_more_0 2 rfl rfl)
theorem dX3_more_5 : decode cX3_more 5 = .ok (.iload_n 0, 1) := dk_26 (dk_at dksX3_more_0 5 rfl rfl)
theorem dX3_more_6 : decode cX3_more 6 = .ok (.goto 4, 3) := dk_167 0 4 (dk_at dksX3_more_0 6 rfl rfl)
theorem dX3_more_9 : decode cX3_more 9 = .ok (.iload_n 1, 1) := dk_27 (dk_at dksX3_more_0 9 rfl rfl)
theorem dX3_more_10 : decode cX3_more 10 = .ok (.ireturn, 1) := dk_172 (dk_at dksX3_more_0 10 rfl rfl)
abbrev cX3_wellAgain : ByteArray := prog_24_method_30_code
def yX3_wellAgain : MethodName := ⟨RX3, "wellAgain", "(I)I"⟩
def dkwX3_wellAgain_3 : List UInt8 := [4, 167, 0, 4, 2, 96, 62, 167, 255, 235, 3, 28, 184, 0, 90, 172]
abbrev dktX3_wellAgain_3 : List UInt8 := dkwX3_wellAgain_3 ++ []
def dkwX3_wellAgain_2 : List UInt8 := [167, 255, 240, 42, 180, 0, 7, 4, 46, 62, 29, 8, 159, 0, 22, 132, 2, 255, 29, 29, 8, 162, 0, 7]
abbrev dktX3_wellAgain_2 : List UInt8 := dkwX3_wellAgain_2 ++ dktX3_wellAgain_3
def dkwX3_wellAgain_1 : List UInt8 := [3, 182, 0, 82, 61, 16, 10, 62, 29, 42, 27, 4, 182, 0, 82, 163, 0, 12, 132, 2, 255, 132, 3, 10]
abbrev dktX3_wellAgain_1 : List UInt8 := dkwX3_wellAgain_1 ++ dktX3_wellAgain_2
def dkwX3_wellAgain_0 : List UInt8 := [42, 42, 27, 182, 0, 93, 153, 0, 7, 3, 167, 0, 4, 4, 182, 0, 66, 153, 0, 5, 3, 172, 42, 27]
abbrev dktX3_wellAgain_0 : List UInt8 := dkwX3_wellAgain_0 ++ dktX3_wellAgain_1
theorem dksX3_wellAgain_0 : cX3_wellAgain.data.toList.drop 0 = dktX3_wellAgain_0 := by decide +kernel
theorem dksX3_wellAgain_1 : cX3_wellAgain.data.toList.drop 24 = dktX3_wellAgain_1 := dk_seg dksX3_wellAgain_0 24 rfl rfl
theorem dksX3_wellAgain_2 : cX3_wellAgain.data.toList.drop 48 = dktX3_wellAgain_2 := dk_seg dksX3_wellAgain_1 24 rfl rfl
theorem dksX3_wellAgain_3 : cX3_wellAgain.data.toList.drop 72 = dktX3_wellAgain_3 := dk_seg dksX3_wellAgain_2 24 rfl rfl
theorem dX3_wellAgain_0 : decode cX3_wellAgain 0 = .ok (.aload_n 0, 1) := dk_42 (dk_at dksX3_wellAgain_0 0 rfl rfl)
theorem dX3_wellAgain_1 : decode cX3_wellAgain 1 = .ok (.aload_n 0, 1) := dk_42 (dk_at dksX3_wellAgain_0 1 rfl rfl)
theorem dX3_wellAgain_2 : decode cX3_wellAgain 2 = .ok (.iload_n 1, 1) := dk_27 (dk_at dksX3_wellAgain_0 2 rfl rfl)
theorem dX3_wellAgain_3 : decode cX3_wellAgain 3 = .ok (.invokevirtual 93, 3) := dk_182 0 93 (dk_at dksX3_wellAgain_0 3 rfl rfl)
theorem dX3_wellAgain_6 : decode cX3_wellAgain 6 = .ok (.ifCond .eq 7, 3) := dk_153 0 7 (dk_at dksX3_wellAgain_0 6 rfl rfl)
theorem dX3_wellAgain_9 : decode cX3_wellAgain 9 = .ok (.iconst 0, 1) := dk_3 (dk_at dksX3_wellAgain_0 9 rfl rfl)
theorem dX3_wellAgain_10 : decode cX3_wellAgain 10 = .ok (.goto 4, 3) := dk_167 0 4 (dk_at dksX3_wellAgain_0 10 rfl rfl)
theorem dX3_wellAgain_13 : decode cX3_wellAgain 13 = .ok (.iconst 1, 1) := dk_4 (dk_at dksX3_wellAgain_0 13 rfl rfl)
theorem dX3_wellAgain_14 : decode cX3_wellAgain 14 = .ok (.invokevirtual 66, 3) := dk_182 0 66 (dk_at dksX3_wellAgain_0 14 rfl rfl)
theorem dX3_wellAgain_17 : decode cX3_wellAgain 17 = .ok (.ifCond .eq 5, 3) := dk_153 0 5 (dk_at dksX3_wellAgain_0 17 rfl rfl)
theorem dX3_wellAgain_20 : decode cX3_wellAgain 20 = .ok (.iconst 0, 1) := dk_3 (dk_at dksX3_wellAgain_0 20 rfl rfl)
theorem dX3_wellAgain_21 : decode cX3_wellAgain 21 = .ok (.ireturn, 1) := dk_172 (dk_at dksX3_wellAgain_0 21 rfl rfl)
theorem dX3_wellAgain_22 : decode cX3_wellAgain 22 = .ok (.aload_n 0, 1) := dk_42 (dk_at dksX3_wellAgain_0 22 rfl rfl)
theorem dX3_wellAgain_23 : decode cX3_wellAgain 23 = .ok (.iload_n 1, 1) := dk_27 (dk_at dksX3_wellAgain_0 23 rfl rfl)
theorem dX3_wellAgain_24 : decode cX3_wellAgain 24 = .ok (.iconst 0, 1) := dk_3 (dk_at dksX3_wellAgain_1 0 rfl rfl)
theorem dX3_wellAgain_25 : decode cX3_wellAgain 25 = .ok (.invokevirtual 82, 3) := dk_182 0 82 (dk_at dksX3_wellAgain_1 1 rfl rfl)
theorem dX3_wellAgain_28 : decode cX3_wellAgain 28 = .ok (.istore_n 2, 1) := dk_61 (dk_at dksX3_wellAgain_1 4 rfl rfl)
theorem dX3_wellAgain_29 : decode cX3_wellAgain 29 = .ok (.bipush 10, 2) := dk_16 10 (dk_at dksX3_wellAgain_1 5 rfl rfl)
theorem dX3_wellAgain_31 : decode cX3_wellAgain 31 = .ok (.istore_n 3, 1) := dk_62 (dk_at dksX3_wellAgain_1 7 rfl rfl)
theorem dX3_wellAgain_32 : decode cX3_wellAgain 32 = .ok (.iload_n 3, 1) := dk_29 (dk_at dksX3_wellAgain_1 8 rfl rfl)
theorem dX3_wellAgain_33 : decode cX3_wellAgain 33 = .ok (.aload_n 0, 1) := dk_42 (dk_at dksX3_wellAgain_1 9 rfl rfl)
theorem dX3_wellAgain_34 : decode cX3_wellAgain 34 = .ok (.iload_n 1, 1) := dk_27 (dk_at dksX3_wellAgain_1 10 rfl rfl)
theorem dX3_wellAgain_35 : decode cX3_wellAgain 35 = .ok (.iconst 1, 1) := dk_4 (dk_at dksX3_wellAgain_1 11 rfl rfl)
theorem dX3_wellAgain_36 : decode cX3_wellAgain 36 = .ok (.invokevirtual 82, 3) := dk_182 0 82 (dk_at dksX3_wellAgain_1 12 rfl rfl)
theorem dX3_wellAgain_39 : decode cX3_wellAgain 39 = .ok (.if_icmp .gt 12, 3) := dk_163 0 12 (dk_at dksX3_wellAgain_1 15 rfl rfl)
theorem dX3_wellAgain_42 : decode cX3_wellAgain 42 = .ok (.iinc 2 (-1), 3) := dk_132 2 255 (dk_at dksX3_wellAgain_1 18 rfl rfl)
theorem dX3_wellAgain_45 : decode cX3_wellAgain 45 = .ok (.iinc 3 10, 3) := dk_132 3 10 (dk_at dksX3_wellAgain_1 21 rfl rfl)
theorem dX3_wellAgain_48 : decode cX3_wellAgain 48 = .ok (.goto (-16), 3) := dk_167 255 240 (dk_at dksX3_wellAgain_2 0 rfl rfl)
theorem dX3_wellAgain_51 : decode cX3_wellAgain 51 = .ok (.aload_n 0, 1) := dk_42 (dk_at dksX3_wellAgain_2 3 rfl rfl)
theorem dX3_wellAgain_52 : decode cX3_wellAgain 52 = .ok (.getfield 7, 3) := dk_180 0 7 (dk_at dksX3_wellAgain_2 4 rfl rfl)
theorem dX3_wellAgain_55 : decode cX3_wellAgain 55 = .ok (.iconst 1, 1) := dk_4 (dk_at dksX3_wellAgain_2 7 rfl rfl)
theorem dX3_wellAgain_56 : decode cX3_wellAgain 56 = .ok (.iaload, 1) := dk_46 (dk_at dksX3_wellAgain_2 8 rfl rfl)
theorem dX3_wellAgain_57 : decode cX3_wellAgain 57 = .ok (.istore_n 3, 1) := dk_62 (dk_at dksX3_wellAgain_2 9 rfl rfl)
theorem dX3_wellAgain_58 : decode cX3_wellAgain 58 = .ok (.iload_n 3, 1) := dk_29 (dk_at dksX3_wellAgain_2 10 rfl rfl)
theorem dX3_wellAgain_59 : decode cX3_wellAgain 59 = .ok (.iconst 5, 1) := dk_8 (dk_at dksX3_wellAgain_2 11 rfl rfl)
theorem dX3_wellAgain_60 : decode cX3_wellAgain 60 = .ok (.if_icmp .eq 22, 3) := dk_159 0 22 (dk_at dksX3_wellAgain_2 12 rfl rfl)
theorem dX3_wellAgain_63 : decode cX3_wellAgain 63 = .ok (.iinc 2 (-1), 3) := dk_132 2 255 (dk_at dksX3_wellAgain_2 15 rfl rfl)
theorem dX3_wellAgain_66 : decode cX3_wellAgain 66 = .ok (.iload_n 3, 1) := dk_29 (dk_at dksX3_wellAgain_2 18 rfl rfl)
theorem dX3_wellAgain_67 : decode cX3_wellAgain 67 = .ok (.iload_n 3, 1) := dk_29 (dk_at dksX3_wellAgain_2 19 rfl rfl)
theorem dX3_wellAgain_68 : decode cX3_wellAgain 68 = .ok (.iconst 5, 1) := dk_8 (dk_at dksX3_wellAgain_2 20 rfl rfl)
theorem dX3_wellAgain_69 : decode cX3_wellAgain 69 = .ok (.if_icmp .ge 7, 3) := dk_162 0 7 (dk_at dksX3_wellAgain_2 21 rfl rfl)
theorem dX3_wellAgain_72 : decode cX3_wellAgain 72 = .ok (.iconst 1, 1) := dk_4 (dk_at dksX3_wellAgain_3 0 rfl rfl)
theorem dX3_wellAgain_73 : decode cX3_wellAgain 73 = .ok (.goto 4, 3) := dk_167 0 4 (dk_at dksX3_wellAgain_3 1 rfl rfl)
theorem dX3_wellAgain_76 : decode cX3_wellAgain 76 = .ok (.iconst (-1), 1) := dk_2 (dk_at dksX3_wellAgain_3 4 rfl rfl)
theorem dX3_wellAgain_77 : decode cX3_wellAgain 77 = .ok (.iadd, 1) := dk_96 (dk_at dksX3_wellAgain_3 5 rfl rfl)
theorem dX3_wellAgain_78 : decode cX3_wellAgain 78 = .ok (.istore_n 3, 1) := dk_62 (dk_at dksX3_wellAgain_3 6 rfl rfl)
theorem dX3_wellAgain_79 : decode cX3_wellAgain 79 = .ok (.goto (-21), 3) := dk_167 255 235 (dk_at dksX3_wellAgain_3 7 rfl rfl)
theorem dX3_wellAgain_82 : decode cX3_wellAgain 82 = .ok (.iconst 0, 1) := dk_3 (dk_at dksX3_wellAgain_3 10 rfl rfl)
theorem dX3_wellAgain_83 : decode cX3_wellAgain 83 = .ok (.iload_n 2, 1) := dk_28 (dk_at dksX3_wellAgain_3 11 rfl rfl)
theorem dX3_wellAgain_84 : decode cX3_wellAgain 84 = .ok (.invokestatic 90, 3) := dk_184 0 90 (dk_at dksX3_wellAgain_3 12 rfl rfl)
theorem dX3_wellAgain_87 : decode cX3_wellAgain 87 = .ok (.ireturn, 1) := dk_172 (dk_at dksX3_wellAgain_3 15 rfl rfl)
abbrev cX3_bestCopper : ByteArray := prog_24_method_31_code
def yX3_bestCopper : MethodName := ⟨RX3, "bestCopper", "(I)I"⟩
def dkwX3_bestCopper_5 : List UInt8 := [156, 0, 7, 5, 167, 0, 4, 3, 182, 0, 66, 153, 0, 7, 3, 167, 0, 4, 28, 172]
abbrev dktX3_bestCopper_5 : List UInt8 := dkwX3_bestCopper_5 ++ []
def dkwX3_bestCopper_4 : List UInt8 := [182, 0, 82, 42, 28, 4, 182, 0, 82, 162, 0, 5, 29, 61, 132, 3, 1, 167, 255, 174, 42, 28]
abbrev dktX3_bestCopper_4 : List UInt8 := dkwX3_bestCopper_4 ++ dktX3_bestCopper_5
def dkwX3_bestCopper_3 : List UInt8 := [182, 0, 96, 163, 0, 31, 42, 29, 182, 0, 96, 42, 28, 182, 0, 96, 160, 0, 20, 42, 29, 4]
abbrev dktX3_bestCopper_3 : List UInt8 := dkwX3_bestCopper_3 ++ dktX3_bestCopper_4
def dkwX3_bestCopper_2 : List UInt8 := [182, 0, 102, 96, 16, 80, 164, 0, 6, 167, 0, 50, 28, 155, 0, 44, 42, 29, 182, 0, 96, 42, 28]
abbrev dktX3_bestCopper_2 : List UInt8 := dkwX3_bestCopper_2 ++ dktX3_bestCopper_3
def dkwX3_bestCopper_1 : List UInt8 := [3, 62, 29, 42, 180, 0, 7, 16, 10, 46, 162, 0, 77, 42, 29, 4, 182, 0, 82, 42, 27, 3]
abbrev dktX3_bestCopper_1 : List UInt8 := dkwX3_bestCopper_1 ++ dktX3_bestCopper_2
def dkwX3_bestCopper_0 : List UInt8 := [42, 42, 27, 182, 0, 99, 153, 0, 7, 3, 167, 0, 4, 4, 182, 0, 66, 153, 0, 5, 3, 172, 2, 61]
abbrev dktX3_bestCopper_0 : List UInt8 := dkwX3_bestCopper_0 ++ dktX3_bestCopper_1
theorem dksX3_bestCopper_0 : cX3_bestCopper.data.toList.drop 0 = dktX3_bestCopper_0 := by decide +kernel
theorem dksX3_bestCopper_1 : cX3_bestCopper.data.toList.drop 24 = dktX3_bestCopper_1 := dk_seg dksX3_bestCopper_0 24 rfl rfl
theorem dksX3_bestCopper_2 : cX3_bestCopper.data.toList.drop 46 = dktX3_bestCopper_2 := dk_seg dksX3_bestCopper_1 22 rfl rfl
theorem dksX3_bestCopper_3 : cX3_bestCopper.data.toList.drop 69 = dktX3_bestCopper_3 := dk_seg dksX3_bestCopper_2 23 rfl rfl
theorem dksX3_bestCopper_4 : cX3_bestCopper.data.toList.drop 91 = dktX3_bestCopper_4 := dk_seg dksX3_bestCopper_3 22 rfl rfl
theorem dksX3_bestCopper_5 : cX3_bestCopper.data.toList.drop 113 = dktX3_bestCopper_5 := dk_seg dksX3_bestCopper_4 22 rfl rfl
theorem dX3_bestCopper_0 : decode cX3_bestCopper 0 = .ok (.aload_n 0, 1) := dk_42 (dk_at dksX3_bestCopper_0 0 rfl rfl)
theorem dX3_bestCopper_1 : decode cX3_bestCopper 1 = .ok (.aload_n 0, 1) := dk_42 (dk_at dksX3_bestCopper_0 1 rfl rfl)
theorem dX3_bestCopper_2 : decode cX3_bestCopper 2 = .ok (.iload_n 1, 1) := dk_27 (dk_at dksX3_bestCopper_0 2 rfl rfl)
theorem dX3_bestCopper_3 : decode cX3_bestCopper 3 = .ok (.invokevirtual 99, 3) := dk_182 0 99 (dk_at dksX3_bestCopper_0 3 rfl rfl)
theorem dX3_bestCopper_6 : decode cX3_bestCopper 6 = .ok (.ifCond .eq 7, 3) := dk_153 0 7 (dk_at dksX3_bestCopper_0 6 rfl rfl)
theorem dX3_bestCopper_9 : decode cX3_bestCopper 9 = .ok (.iconst 0, 1) := dk_3 (dk_at dksX3_bestCopper_0 9 rfl rfl)
theorem dX3_bestCopper_10 : decode cX3_bestCopper 10 = .ok (.goto 4, 3) := dk_167 0 4 (dk_at dksX3_bestCopper_0 10 rfl rfl)
theorem dX3_bestCopper_13 : decode cX3_bestCopper 13 = .ok (.iconst 1, 1) := dk_4 (dk_at dksX3_bestCopper_0 13 rfl rfl)
theorem dX3_bestCopper_14 : decode cX3_bestCopper 14 = .ok (.invokevirtual 66, 3) := dk_182 0 66 (dk_at dksX3_bestCopper_0 14 rfl rfl)
theorem dX3_bestCopper_17 : decode cX3_bestCopper 17 = .ok (.ifCond .eq 5, 3) := dk_153 0 5 (dk_at dksX3_bestCopper_0 17 rfl rfl)
theorem dX3_bestCopper_20 : decode cX3_bestCopper 20 = .ok (.iconst 0, 1) := dk_3 (dk_at dksX3_bestCopper_0 20 rfl rfl)
theorem dX3_bestCopper_21 : decode cX3_bestCopper 21 = .ok (.ireturn, 1) := dk_172 (dk_at dksX3_bestCopper_0 21 rfl rfl)
theorem dX3_bestCopper_22 : decode cX3_bestCopper 22 = .ok (.iconst (-1), 1) := dk_2 (dk_at dksX3_bestCopper_0 22 rfl rfl)
theorem dX3_bestCopper_23 : decode cX3_bestCopper 23 = .ok (.istore_n 2, 1) := dk_61 (dk_at dksX3_bestCopper_0 23 rfl rfl)
theorem dX3_bestCopper_24 : decode cX3_bestCopper 24 = .ok (.iconst 0, 1) := dk_3 (dk_at dksX3_bestCopper_1 0 rfl rfl)
theorem dX3_bestCopper_25 : decode cX3_bestCopper 25 = .ok (.istore_n 3, 1) := dk_62 (dk_at dksX3_bestCopper_1 1 rfl rfl)
theorem dX3_bestCopper_26 : decode cX3_bestCopper 26 = .ok (.iload_n 3, 1) := dk_29 (dk_at dksX3_bestCopper_1 2 rfl rfl)
theorem dX3_bestCopper_27 : decode cX3_bestCopper 27 = .ok (.aload_n 0, 1) := dk_42 (dk_at dksX3_bestCopper_1 3 rfl rfl)
theorem dX3_bestCopper_28 : decode cX3_bestCopper 28 = .ok (.getfield 7, 3) := dk_180 0 7 (dk_at dksX3_bestCopper_1 4 rfl rfl)
theorem dX3_bestCopper_31 : decode cX3_bestCopper 31 = .ok (.bipush 10, 2) := dk_16 10 (dk_at dksX3_bestCopper_1 7 rfl rfl)
theorem dX3_bestCopper_33 : decode cX3_bestCopper 33 = .ok (.iaload, 1) := dk_46 (dk_at dksX3_bestCopper_1 9 rfl rfl)
theorem dX3_bestCopper_34 : decode cX3_bestCopper 34 = .ok (.if_icmp .ge 77, 3) := dk_162 0 77 (dk_at dksX3_bestCopper_1 10 rfl rfl)
theorem dX3_bestCopper_37 : decode cX3_bestCopper 37 = .ok (.aload_n 0, 1) := dk_42 (dk_at dksX3_bestCopper_1 13 rfl rfl)
theorem dX3_bestCopper_38 : decode cX3_bestCopper 38 = .ok (.iload_n 3, 1) := dk_29 (dk_at dksX3_bestCopper_1 14 rfl rfl)
theorem dX3_bestCopper_39 : decode cX3_bestCopper 39 = .ok (.iconst 1, 1) := dk_4 (dk_at dksX3_bestCopper_1 15 rfl rfl)
theorem dX3_bestCopper_40 : decode cX3_bestCopper 40 = .ok (.invokevirtual 82, 3) := dk_182 0 82 (dk_at dksX3_bestCopper_1 16 rfl rfl)
theorem dX3_bestCopper_43 : decode cX3_bestCopper 43 = .ok (.aload_n 0, 1) := dk_42 (dk_at dksX3_bestCopper_1 19 rfl rfl)
theorem dX3_bestCopper_44 : decode cX3_bestCopper 44 = .ok (.iload_n 1, 1) := dk_27 (dk_at dksX3_bestCopper_1 20 rfl rfl)
theorem dX3_bestCopper_45 : decode cX3_bestCopper 45 = .ok (.iconst 0, 1) := dk_3 (dk_at dksX3_bestCopper_1 21 rfl rfl)
theorem dX3_bestCopper_46 : decode cX3_bestCopper 46 = .ok (.invokevirtual 102, 3) := dk_182 0 102 (dk_at dksX3_bestCopper_2 0 rfl rfl)
theorem dX3_bestCopper_49 : decode cX3_bestCopper 49 = .ok (.iadd, 1) := dk_96 (dk_at dksX3_bestCopper_2 3 rfl rfl)
theorem dX3_bestCopper_50 : decode cX3_bestCopper 50 = .ok (.bipush 80, 2) := dk_16 80 (dk_at dksX3_bestCopper_2 4 rfl rfl)
theorem dX3_bestCopper_52 : decode cX3_bestCopper 52 = .ok (.if_icmp .le 6, 3) := dk_164 0 6 (dk_at dksX3_bestCopper_2 6 rfl rfl)
theorem dX3_bestCopper_55 : decode cX3_bestCopper 55 = .ok (.goto 50, 3) := dk_167 0 50 (dk_at dksX3_bestCopper_2 9 rfl rfl)
theorem dX3_bestCopper_58 : decode cX3_bestCopper 58 = .ok (.iload_n 2, 1) := dk_28 (dk_at dksX3_bestCopper_2 12 rfl rfl)
theorem dX3_bestCopper_59 : decode cX3_bestCopper 59 = .ok (.ifCond .lt 44, 3) := dk_155 0 44 (dk_at dksX3_bestCopper_2 13 rfl rfl)
theorem dX3_bestCopper_62 : decode cX3_bestCopper 62 = .ok (.aload_n 0, 1) := dk_42 (dk_at dksX3_bestCopper_2 16 rfl rfl)
theorem dX3_bestCopper_63 : decode cX3_bestCopper 63 = .ok (.iload_n 3, 1) := dk_29 (dk_at dksX3_bestCopper_2 17 rfl rfl)
theorem dX3_bestCopper_64 : decode cX3_bestCopper 64 = .ok (.invokevirtual 96, 3) := dk_182 0 96 (dk_at dksX3_bestCopper_2 18 rfl rfl)
theorem dX3_bestCopper_67 : decode cX3_bestCopper 67 = .ok (.aload_n 0, 1) := dk_42 (dk_at dksX3_bestCopper_2 21 rfl rfl)
theorem dX3_bestCopper_68 : decode cX3_bestCopper 68 = .ok (.iload_n 2, 1) := dk_28 (dk_at dksX3_bestCopper_2 22 rfl rfl)
theorem dX3_bestCopper_69 : decode cX3_bestCopper 69 = .ok (.invokevirtual 96, 3) := dk_182 0 96 (dk_at dksX3_bestCopper_3 0 rfl rfl)
theorem dX3_bestCopper_72 : decode cX3_bestCopper 72 = .ok (.if_icmp .gt 31, 3) := dk_163 0 31 (dk_at dksX3_bestCopper_3 3 rfl rfl)
theorem dX3_bestCopper_75 : decode cX3_bestCopper 75 = .ok (.aload_n 0, 1) := dk_42 (dk_at dksX3_bestCopper_3 6 rfl rfl)
theorem dX3_bestCopper_76 : decode cX3_bestCopper 76 = .ok (.iload_n 3, 1) := dk_29 (dk_at dksX3_bestCopper_3 7 rfl rfl)
theorem dX3_bestCopper_77 : decode cX3_bestCopper 77 = .ok (.invokevirtual 96, 3) := dk_182 0 96 (dk_at dksX3_bestCopper_3 8 rfl rfl)
theorem dX3_bestCopper_80 : decode cX3_bestCopper 80 = .ok (.aload_n 0, 1) := dk_42 (dk_at dksX3_bestCopper_3 11 rfl rfl)
theorem dX3_bestCopper_81 : decode cX3_bestCopper 81 = .ok (.iload_n 2, 1) := dk_28 (dk_at dksX3_bestCopper_3 12 rfl rfl)
theorem dX3_bestCopper_82 : decode cX3_bestCopper 82 = .ok (.invokevirtual 96, 3) := dk_182 0 96 (dk_at dksX3_bestCopper_3 13 rfl rfl)
theorem dX3_bestCopper_85 : decode cX3_bestCopper 85 = .ok (.if_icmp .ne 20, 3) := dk_160 0 20 (dk_at dksX3_bestCopper_3 16 rfl rfl)
theorem dX3_bestCopper_88 : decode cX3_bestCopper 88 = .ok (.aload_n 0, 1) := dk_42 (dk_at dksX3_bestCopper_3 19 rfl rfl)
theorem dX3_bestCopper_89 : decode cX3_bestCopper 89 = .ok (.iload_n 3, 1) := dk_29 (dk_at dksX3_bestCopper_3 20 rfl rfl)
theorem dX3_bestCopper_90 : decode cX3_bestCopper 90 = .ok (.iconst 1, 1) := dk_4 (dk_at dksX3_bestCopper_3 21 rfl rfl)
theorem dX3_bestCopper_91 : decode cX3_bestCopper 91 = .ok (.invokevirtual 82, 3) := dk_182 0 82 (dk_at dksX3_bestCopper_4 0 rfl rfl)
theorem dX3_bestCopper_94 : decode cX3_bestCopper 94 = .ok (.aload_n 0, 1) := dk_42 (dk_at dksX3_bestCopper_4 3 rfl rfl)
theorem dX3_bestCopper_95 : decode cX3_bestCopper 95 = .ok (.iload_n 2, 1) := dk_28 (dk_at dksX3_bestCopper_4 4 rfl rfl)
theorem dX3_bestCopper_96 : decode cX3_bestCopper 96 = .ok (.iconst 1, 1) := dk_4 (dk_at dksX3_bestCopper_4 5 rfl rfl)
theorem dX3_bestCopper_97 : decode cX3_bestCopper 97 = .ok (.invokevirtual 82, 3) := dk_182 0 82 (dk_at dksX3_bestCopper_4 6 rfl rfl)
theorem dX3_bestCopper_100 : decode cX3_bestCopper 100 = .ok (.if_icmp .ge 5, 3) := dk_162 0 5 (dk_at dksX3_bestCopper_4 9 rfl rfl)
theorem dX3_bestCopper_103 : decode cX3_bestCopper 103 = .ok (.iload_n 3, 1) := dk_29 (dk_at dksX3_bestCopper_4 12 rfl rfl)
theorem dX3_bestCopper_104 : decode cX3_bestCopper 104 = .ok (.istore_n 2, 1) := dk_61 (dk_at dksX3_bestCopper_4 13 rfl rfl)
theorem dX3_bestCopper_105 : decode cX3_bestCopper 105 = .ok (.iinc 3 1, 3) := dk_132 3 1 (dk_at dksX3_bestCopper_4 14 rfl rfl)
theorem dX3_bestCopper_108 : decode cX3_bestCopper 108 = .ok (.goto (-82), 3) := dk_167 255 174 (dk_at dksX3_bestCopper_4 17 rfl rfl)
theorem dX3_bestCopper_111 : decode cX3_bestCopper 111 = .ok (.aload_n 0, 1) := dk_42 (dk_at dksX3_bestCopper_4 20 rfl rfl)
theorem dX3_bestCopper_112 : decode cX3_bestCopper 112 = .ok (.iload_n 2, 1) := dk_28 (dk_at dksX3_bestCopper_4 21 rfl rfl)
theorem dX3_bestCopper_113 : decode cX3_bestCopper 113 = .ok (.ifCond .ge 7, 3) := dk_156 0 7 (dk_at dksX3_bestCopper_5 0 rfl rfl)
theorem dX3_bestCopper_116 : decode cX3_bestCopper 116 = .ok (.iconst 2, 1) := dk_5 (dk_at dksX3_bestCopper_5 3 rfl rfl)
theorem dX3_bestCopper_117 : decode cX3_bestCopper 117 = .ok (.goto 4, 3) := dk_167 0 4 (dk_at dksX3_bestCopper_5 4 rfl rfl)
theorem dX3_bestCopper_120 : decode cX3_bestCopper 120 = .ok (.iconst 0, 1) := dk_3 (dk_at dksX3_bestCopper_5 7 rfl rfl)
theorem dX3_bestCopper_121 : decode cX3_bestCopper 121 = .ok (.invokevirtual 66, 3) := dk_182 0 66 (dk_at dksX3_bestCopper_5 8 rfl rfl)
theorem dX3_bestCopper_124 : decode cX3_bestCopper 124 = .ok (.ifCond .eq 7, 3) := dk_153 0 7 (dk_at dksX3_bestCopper_5 11 rfl rfl)
theorem dX3_bestCopper_127 : decode cX3_bestCopper 127 = .ok (.iconst 0, 1) := dk_3 (dk_at dksX3_bestCopper_5 14 rfl rfl)
theorem dX3_bestCopper_128 : decode cX3_bestCopper 128 = .ok (.goto 4, 3) := dk_167 0 4 (dk_at dksX3_bestCopper_5 15 rfl rfl)
theorem dX3_bestCopper_131 : decode cX3_bestCopper 131 = .ok (.iload_n 2, 1) := dk_28 (dk_at dksX3_bestCopper_5 18 rfl rfl)
theorem dX3_bestCopper_132 : decode cX3_bestCopper 132 = .ok (.ireturn, 1) := dk_172 (dk_at dksX3_bestCopper_5 19 rfl rfl)
abbrev cX3_isLot : ByteArray := prog_24_method_12_code
def yX3_isLot : MethodName := ⟨RX3, "isLot", "(I)Z"⟩
def dkwX3_isLot_0 : List UInt8 := [27, 3, 42, 180, 0, 7, 16, 26, 46, 4, 100, 184, 0, 62, 172]
abbrev dktX3_isLot_0 : List UInt8 := dkwX3_isLot_0 ++ []
theorem dksX3_isLot_0 : cX3_isLot.data.toList.drop 0 = dktX3_isLot_0 := by decide +kernel
theorem dX3_isLot_0 : decode cX3_isLot 0 = .ok (.iload_n 1, 1) := dk_27 (dk_at dksX3_isLot_0 0 rfl rfl)
theorem dX3_isLot_1 : decode cX3_isLot 1 = .ok (.iconst 0, 1) := dk_3 (dk_at dksX3_isLot_0 1 rfl rfl)
theorem dX3_isLot_2 : decode cX3_isLot 2 = .ok (.aload_n 0, 1) := dk_42 (dk_at dksX3_isLot_0 2 rfl rfl)
theorem dX3_isLot_3 : decode cX3_isLot 3 = .ok (.getfield 7, 3) := dk_180 0 7 (dk_at dksX3_isLot_0 3 rfl rfl)
theorem dX3_isLot_6 : decode cX3_isLot 6 = .ok (.bipush 26, 2) := dk_16 26 (dk_at dksX3_isLot_0 6 rfl rfl)
theorem dX3_isLot_8 : decode cX3_isLot 8 = .ok (.iaload, 1) := dk_46 (dk_at dksX3_isLot_0 8 rfl rfl)
theorem dX3_isLot_9 : decode cX3_isLot 9 = .ok (.iconst 1, 1) := dk_4 (dk_at dksX3_isLot_0 9 rfl rfl)
theorem dX3_isLot_10 : decode cX3_isLot 10 = .ok (.isub, 1) := dk_100 (dk_at dksX3_isLot_0 10 rfl rfl)
theorem dX3_isLot_11 : decode cX3_isLot 11 = .ok (.invokestatic 62, 3) := dk_184 0 62 (dk_at dksX3_isLot_0 11 rfl rfl)
theorem dX3_isLot_14 : decode cX3_isLot 14 = .ok (.ireturn, 1) := dk_172 (dk_at dksX3_isLot_0 14 rfl rfl)
abbrev cX3_of : ByteArray := prog_24_method_16_code
def yX3_of : MethodName := ⟨RX3, "of", "(II)I"⟩
def dkwX3_of_0 : List UInt8 := [42, 180, 0, 7, 16, 27, 8, 27, 104, 96, 28, 96, 46, 172]
abbrev dktX3_of_0 : List UInt8 := dkwX3_of_0 ++ []
theorem dksX3_of_0 : cX3_of.data.toList.drop 0 = dktX3_of_0 := by decide +kernel
theorem dX3_of_0 : decode cX3_of 0 = .ok (.aload_n 0, 1) := dk_42 (dk_at dksX3_of_0 0 rfl rfl)
theorem dX3_of_1 : decode cX3_of 1 = .ok (.getfield 7, 3) := dk_180 0 7 (dk_at dksX3_of_0 1 rfl rfl)
theorem dX3_of_4 : decode cX3_of 4 = .ok (.bipush 27, 2) := dk_16 27 (dk_at dksX3_of_0 4 rfl rfl)
theorem dX3_of_6 : decode cX3_of 6 = .ok (.iconst 5, 1) := dk_8 (dk_at dksX3_of_0 6 rfl rfl)
theorem dX3_of_7 : decode cX3_of 7 = .ok (.iload_n 1, 1) := dk_27 (dk_at dksX3_of_0 7 rfl rfl)
theorem dX3_of_8 : decode cX3_of 8 = .ok (.imul, 1) := dk_104 (dk_at dksX3_of_0 8 rfl rfl)
theorem dX3_of_9 : decode cX3_of 9 = .ok (.iadd, 1) := dk_96 (dk_at dksX3_of_0 9 rfl rfl)
theorem dX3_of_10 : decode cX3_of 10 = .ok (.iload_n 2, 1) := dk_28 (dk_at dksX3_of_0 10 rfl rfl)
theorem dX3_of_11 : decode cX3_of 11 = .ok (.iadd, 1) := dk_96 (dk_at dksX3_of_0 11 rfl rfl)
theorem dX3_of_12 : decode cX3_of 12 = .ok (.iaload, 1) := dk_46 (dk_at dksX3_of_0 12 rfl rfl)
theorem dX3_of_13 : decode cX3_of 13 = .ok (.ireturn, 1) := dk_172 (dk_at dksX3_of_0 13 rfl rfl)
abbrev cX3_lot : ByteArray := prog_24_method_32_code
def yX3_lot : MethodName := ⟨RX3, "lot", "(I)I"⟩
def dkwX3_lot_6 : List UInt8 := [42, 29, 7, 2, 182, 0, 105, 29, 172]
abbrev dktX3_lot_6 : List UInt8 := dkwX3_lot_6 ++ []
def dkwX3_lot_5 : List UInt8 := [182, 0, 105, 42, 29, 4, 3, 182, 0, 105, 42, 29, 5, 2, 182, 0, 105, 42, 29, 6, 2, 182, 0, 105]
abbrev dktX3_lot_5 : List UInt8 := dkwX3_lot_5 ++ dktX3_lot_6
def dkwX3_lot_4 : List UInt8 := [180, 0, 7, 16, 26, 92, 46, 4, 96, 79, 42, 180, 0, 7, 7, 92, 46, 27, 96, 79, 42, 29, 3, 27]
abbrev dktX3_lot_4 : List UInt8 := dkwX3_lot_4 ++ dktX3_lot_5
def dkwX3_lot_3 : List UInt8 := [172, 42, 42, 180, 0, 7, 182, 0, 74, 42, 28, 182, 0, 78, 42, 180, 0, 7, 16, 26, 46, 62, 42]
abbrev dktX3_lot_3 : List UInt8 := dkwX3_lot_3 ++ dktX3_lot_4
def dkwX3_lot_2 : List UInt8 := [180, 0, 7, 6, 46, 28, 162, 0, 19, 42, 6, 16, 6, 28, 42, 180, 0, 7, 6, 46, 100, 182, 0, 70]
abbrev dktX3_lot_2 : List UInt8 := dkwX3_lot_2 ++ dktX3_lot_3
def dkwX3_lot_1 : List UInt8 := [160, 0, 7, 5, 167, 0, 4, 3, 182, 0, 66, 153, 0, 5, 3, 172, 27, 6, 96, 7, 108, 61, 42]
abbrev dktX3_lot_1 : List UInt8 := dkwX3_lot_1 ++ dktX3_lot_2
def dkwX3_lot_0 : List UInt8 := [42, 27, 4, 16, 30, 184, 0, 62, 154, 0, 7, 4, 167, 0, 20, 42, 180, 0, 7, 16, 26, 46, 16, 12]
abbrev dktX3_lot_0 : List UInt8 := dkwX3_lot_0 ++ dktX3_lot_1
theorem dksX3_lot_0 : cX3_lot.data.toList.drop 0 = dktX3_lot_0 := by decide +kernel
theorem dksX3_lot_1 : cX3_lot.data.toList.drop 24 = dktX3_lot_1 := dk_seg dksX3_lot_0 24 rfl rfl
theorem dksX3_lot_2 : cX3_lot.data.toList.drop 47 = dktX3_lot_2 := dk_seg dksX3_lot_1 23 rfl rfl
theorem dksX3_lot_3 : cX3_lot.data.toList.drop 71 = dktX3_lot_3 := dk_seg dksX3_lot_2 24 rfl rfl
theorem dksX3_lot_4 : cX3_lot.data.toList.drop 94 = dktX3_lot_4 := dk_seg dksX3_lot_3 23 rfl rfl
theorem dksX3_lot_5 : cX3_lot.data.toList.drop 118 = dktX3_lot_5 := dk_seg dksX3_lot_4 24 rfl rfl
theorem dksX3_lot_6 : cX3_lot.data.toList.drop 142 = dktX3_lot_6 := dk_seg dksX3_lot_5 24 rfl rfl
theorem dX3_lot_0 : decode cX3_lot 0 = .ok (.aload_n 0, 1) := dk_42 (dk_at dksX3_lot_0 0 rfl rfl)
theorem dX3_lot_1 : decode cX3_lot 1 = .ok (.iload_n 1, 1) := dk_27 (dk_at dksX3_lot_0 1 rfl rfl)
theorem dX3_lot_2 : decode cX3_lot 2 = .ok (.iconst 1, 1) := dk_4 (dk_at dksX3_lot_0 2 rfl rfl)
theorem dX3_lot_3 : decode cX3_lot 3 = .ok (.bipush 30, 2) := dk_16 30 (dk_at dksX3_lot_0 3 rfl rfl)
theorem dX3_lot_5 : decode cX3_lot 5 = .ok (.invokestatic 62, 3) := dk_184 0 62 (dk_at dksX3_lot_0 5 rfl rfl)
theorem dX3_lot_8 : decode cX3_lot 8 = .ok (.ifCond .ne 7, 3) := dk_154 0 7 (dk_at dksX3_lot_0 8 rfl rfl)
theorem dX3_lot_11 : decode cX3_lot 11 = .ok (.iconst 1, 1) := dk_4 (dk_at dksX3_lot_0 11 rfl rfl)
theorem dX3_lot_12 : decode cX3_lot 12 = .ok (.goto 20, 3) := dk_167 0 20 (dk_at dksX3_lot_0 12 rfl rfl)
theorem dX3_lot_15 : decode cX3_lot 15 = .ok (.aload_n 0, 1) := dk_42 (dk_at dksX3_lot_0 15 rfl rfl)
theorem dX3_lot_16 : decode cX3_lot 16 = .ok (.getfield 7, 3) := dk_180 0 7 (dk_at dksX3_lot_0 16 rfl rfl)
theorem dX3_lot_19 : decode cX3_lot 19 = .ok (.bipush 26, 2) := dk_16 26 (dk_at dksX3_lot_0 19 rfl rfl)
theorem dX3_lot_21 : decode cX3_lot 21 = .ok (.iaload, 1) := dk_46 (dk_at dksX3_lot_0 21 rfl rfl)
theorem dX3_lot_22 : decode cX3_lot 22 = .ok (.bipush 12, 2) := dk_16 12 (dk_at dksX3_lot_0 22 rfl rfl)
theorem dX3_lot_24 : decode cX3_lot 24 = .ok (.if_icmp .ne 7, 3) := dk_160 0 7 (dk_at dksX3_lot_1 0 rfl rfl)
theorem dX3_lot_27 : decode cX3_lot 27 = .ok (.iconst 2, 1) := dk_5 (dk_at dksX3_lot_1 3 rfl rfl)
theorem dX3_lot_28 : decode cX3_lot 28 = .ok (.goto 4, 3) := dk_167 0 4 (dk_at dksX3_lot_1 4 rfl rfl)
theorem dX3_lot_31 : decode cX3_lot 31 = .ok (.iconst 0, 1) := dk_3 (dk_at dksX3_lot_1 7 rfl rfl)
theorem dX3_lot_32 : decode cX3_lot 32 = .ok (.invokevirtual 66, 3) := dk_182 0 66 (dk_at dksX3_lot_1 8 rfl rfl)
theorem dX3_lot_35 : decode cX3_lot 35 = .ok (.ifCond .eq 5, 3) := dk_153 0 5 (dk_at dksX3_lot_1 11 rfl rfl)
theorem dX3_lot_38 : decode cX3_lot 38 = .ok (.iconst 0, 1) := dk_3 (dk_at dksX3_lot_1 14 rfl rfl)
theorem dX3_lot_39 : decode cX3_lot 39 = .ok (.ireturn, 1) := dk_172 (dk_at dksX3_lot_1 15 rfl rfl)
theorem dX3_lot_40 : decode cX3_lot 40 = .ok (.iload_n 1, 1) := dk_27 (dk_at dksX3_lot_1 16 rfl rfl)
theorem dX3_lot_41 : decode cX3_lot 41 = .ok (.iconst 3, 1) := dk_6 (dk_at dksX3_lot_1 17 rfl rfl)
theorem dX3_lot_42 : decode cX3_lot 42 = .ok (.iadd, 1) := dk_96 (dk_at dksX3_lot_1 18 rfl rfl)
theorem dX3_lot_43 : decode cX3_lot 43 = .ok (.iconst 4, 1) := dk_7 (dk_at dksX3_lot_1 19 rfl rfl)
theorem dX3_lot_44 : decode cX3_lot 44 = .ok (.idiv, 1) := dk_108 (dk_at dksX3_lot_1 20 rfl rfl)
theorem dX3_lot_45 : decode cX3_lot 45 = .ok (.istore_n 2, 1) := dk_61 (dk_at dksX3_lot_1 21 rfl rfl)
theorem dX3_lot_46 : decode cX3_lot 46 = .ok (.aload_n 0, 1) := dk_42 (dk_at dksX3_lot_1 22 rfl rfl)
theorem dX3_lot_47 : decode cX3_lot 47 = .ok (.getfield 7, 3) := dk_180 0 7 (dk_at dksX3_lot_2 0 rfl rfl)
theorem dX3_lot_50 : decode cX3_lot 50 = .ok (.iconst 3, 1) := dk_6 (dk_at dksX3_lot_2 3 rfl rfl)
theorem dX3_lot_51 : decode cX3_lot 51 = .ok (.iaload, 1) := dk_46 (dk_at dksX3_lot_2 4 rfl rfl)
theorem dX3_lot_52 : decode cX3_lot 52 = .ok (.iload_n 2, 1) := dk_28 (dk_at dksX3_lot_2 5 rfl rfl)
theorem dX3_lot_53 : decode cX3_lot 53 = .ok (.if_icmp .ge 19, 3) := dk_162 0 19 (dk_at dksX3_lot_2 6 rfl rfl)
theorem dX3_lot_56 : decode cX3_lot 56 = .ok (.aload_n 0, 1) := dk_42 (dk_at dksX3_lot_2 9 rfl rfl)
theorem dX3_lot_57 : decode cX3_lot 57 = .ok (.iconst 3, 1) := dk_6 (dk_at dksX3_lot_2 10 rfl rfl)
theorem dX3_lot_58 : decode cX3_lot 58 = .ok (.bipush 6, 2) := dk_16 6 (dk_at dksX3_lot_2 11 rfl rfl)
theorem dX3_lot_60 : decode cX3_lot 60 = .ok (.iload_n 2, 1) := dk_28 (dk_at dksX3_lot_2 13 rfl rfl)
theorem dX3_lot_61 : decode cX3_lot 61 = .ok (.aload_n 0, 1) := dk_42 (dk_at dksX3_lot_2 14 rfl rfl)
theorem dX3_lot_62 : decode cX3_lot 62 = .ok (.getfield 7, 3) := dk_180 0 7 (dk_at dksX3_lot_2 15 rfl rfl)
theorem dX3_lot_65 : decode cX3_lot 65 = .ok (.iconst 3, 1) := dk_6 (dk_at dksX3_lot_2 18 rfl rfl)
theorem dX3_lot_66 : decode cX3_lot 66 = .ok (.iaload, 1) := dk_46 (dk_at dksX3_lot_2 19 rfl rfl)
theorem dX3_lot_67 : decode cX3_lot 67 = .ok (.isub, 1) := dk_100 (dk_at dksX3_lot_2 20 rfl rfl)
theorem dX3_lot_68 : decode cX3_lot 68 = .ok (.invokevirtual 70, 3) := dk_182 0 70 (dk_at dksX3_lot_2 21 rfl rfl)
theorem dX3_lot_71 : decode cX3_lot 71 = .ok (.ireturn, 1) := dk_172 (dk_at dksX3_lot_3 0 rfl rfl)
theorem dX3_lot_72 : decode cX3_lot 72 = .ok (.aload_n 0, 1) := dk_42 (dk_at dksX3_lot_3 1 rfl rfl)
theorem dX3_lot_73 : decode cX3_lot 73 = .ok (.aload_n 0, 1) := dk_42 (dk_at dksX3_lot_3 2 rfl rfl)
theorem dX3_lot_74 : decode cX3_lot 74 = .ok (.getfield 7, 3) := dk_180 0 7 (dk_at dksX3_lot_3 3 rfl rfl)
theorem dX3_lot_77 : decode cX3_lot 77 = .ok (.invokevirtual 74, 3) := dk_182 0 74 (dk_at dksX3_lot_3 6 rfl rfl)
theorem dX3_lot_80 : decode cX3_lot 80 = .ok (.aload_n 0, 1) := dk_42 (dk_at dksX3_lot_3 9 rfl rfl)
theorem dX3_lot_81 : decode cX3_lot 81 = .ok (.iload_n 2, 1) := dk_28 (dk_at dksX3_lot_3 10 rfl rfl)
theorem dX3_lot_82 : decode cX3_lot 82 = .ok (.invokevirtual 78, 3) := dk_182 0 78 (dk_at dksX3_lot_3 11 rfl rfl)
theorem dX3_lot_85 : decode cX3_lot 85 = .ok (.aload_n 0, 1) := dk_42 (dk_at dksX3_lot_3 14 rfl rfl)
theorem dX3_lot_86 : decode cX3_lot 86 = .ok (.getfield 7, 3) := dk_180 0 7 (dk_at dksX3_lot_3 15 rfl rfl)
theorem dX3_lot_89 : decode cX3_lot 89 = .ok (.bipush 26, 2) := dk_16 26 (dk_at dksX3_lot_3 18 rfl rfl)
theorem dX3_lot_91 : decode cX3_lot 91 = .ok (.iaload, 1) := dk_46 (dk_at dksX3_lot_3 20 rfl rfl)
theorem dX3_lot_92 : decode cX3_lot 92 = .ok (.istore_n 3, 1) := dk_62 (dk_at dksX3_lot_3 21 rfl rfl)
theorem dX3_lot_93 : decode cX3_lot 93 = .ok (.aload_n 0, 1) := dk_42 (dk_at dksX3_lot_3 22 rfl rfl)
theorem dX3_lot_94 : decode cX3_lot 94 = .ok (.getfield 7, 3) := dk_180 0 7 (dk_at dksX3_lot_4 0 rfl rfl)
theorem dX3_lot_97 : decode cX3_lot 97 = .ok (.bipush 26, 2) := dk_16 26 (dk_at dksX3_lot_4 3 rfl rfl)
theorem dX3_lot_99 : decode cX3_lot 99 = .ok (.dup2, 1) := dk_92 (dk_at dksX3_lot_4 5 rfl rfl)
theorem dX3_lot_100 : decode cX3_lot 100 = .ok (.iaload, 1) := dk_46 (dk_at dksX3_lot_4 6 rfl rfl)
theorem dX3_lot_101 : decode cX3_lot 101 = .ok (.iconst 1, 1) := dk_4 (dk_at dksX3_lot_4 7 rfl rfl)
theorem dX3_lot_102 : decode cX3_lot 102 = .ok (.iadd, 1) := dk_96 (dk_at dksX3_lot_4 8 rfl rfl)
theorem dX3_lot_103 : decode cX3_lot 103 = .ok (.iastore, 1) := dk_79 (dk_at dksX3_lot_4 9 rfl rfl)
theorem dX3_lot_104 : decode cX3_lot 104 = .ok (.aload_n 0, 1) := dk_42 (dk_at dksX3_lot_4 10 rfl rfl)
theorem dX3_lot_105 : decode cX3_lot 105 = .ok (.getfield 7, 3) := dk_180 0 7 (dk_at dksX3_lot_4 11 rfl rfl)
theorem dX3_lot_108 : decode cX3_lot 108 = .ok (.iconst 4, 1) := dk_7 (dk_at dksX3_lot_4 14 rfl rfl)
theorem dX3_lot_109 : decode cX3_lot 109 = .ok (.dup2, 1) := dk_92 (dk_at dksX3_lot_4 15 rfl rfl)
theorem dX3_lot_110 : decode cX3_lot 110 = .ok (.iaload, 1) := dk_46 (dk_at dksX3_lot_4 16 rfl rfl)
theorem dX3_lot_111 : decode cX3_lot 111 = .ok (.iload_n 1, 1) := dk_27 (dk_at dksX3_lot_4 17 rfl rfl)
theorem dX3_lot_112 : decode cX3_lot 112 = .ok (.iadd, 1) := dk_96 (dk_at dksX3_lot_4 18 rfl rfl)
theorem dX3_lot_113 : decode cX3_lot 113 = .ok (.iastore, 1) := dk_79 (dk_at dksX3_lot_4 19 rfl rfl)
theorem dX3_lot_114 : decode cX3_lot 114 = .ok (.aload_n 0, 1) := dk_42 (dk_at dksX3_lot_4 20 rfl rfl)
theorem dX3_lot_115 : decode cX3_lot 115 = .ok (.iload_n 3, 1) := dk_29 (dk_at dksX3_lot_4 21 rfl rfl)
theorem dX3_lot_116 : decode cX3_lot 116 = .ok (.iconst 0, 1) := dk_3 (dk_at dksX3_lot_4 22 rfl rfl)
theorem dX3_lot_117 : decode cX3_lot 117 = .ok (.iload_n 1, 1) := dk_27 (dk_at dksX3_lot_4 23 rfl rfl)
theorem dX3_lot_118 : decode cX3_lot 118 = .ok (.invokevirtual 105, 3) := dk_182 0 105 (dk_at dksX3_lot_5 0 rfl rfl)
theorem dX3_lot_121 : decode cX3_lot 121 = .ok (.aload_n 0, 1) := dk_42 (dk_at dksX3_lot_5 3 rfl rfl)
theorem dX3_lot_122 : decode cX3_lot 122 = .ok (.iload_n 3, 1) := dk_29 (dk_at dksX3_lot_5 4 rfl rfl)
theorem dX3_lot_123 : decode cX3_lot 123 = .ok (.iconst 1, 1) := dk_4 (dk_at dksX3_lot_5 5 rfl rfl)
theorem dX3_lot_124 : decode cX3_lot 124 = .ok (.iconst 0, 1) := dk_3 (dk_at dksX3_lot_5 6 rfl rfl)
theorem dX3_lot_125 : decode cX3_lot 125 = .ok (.invokevirtual 105, 3) := dk_182 0 105 (dk_at dksX3_lot_5 7 rfl rfl)
theorem dX3_lot_128 : decode cX3_lot 128 = .ok (.aload_n 0, 1) := dk_42 (dk_at dksX3_lot_5 10 rfl rfl)
theorem dX3_lot_129 : decode cX3_lot 129 = .ok (.iload_n 3, 1) := dk_29 (dk_at dksX3_lot_5 11 rfl rfl)
theorem dX3_lot_130 : decode cX3_lot 130 = .ok (.iconst 2, 1) := dk_5 (dk_at dksX3_lot_5 12 rfl rfl)
theorem dX3_lot_131 : decode cX3_lot 131 = .ok (.iconst (-1), 1) := dk_2 (dk_at dksX3_lot_5 13 rfl rfl)
theorem dX3_lot_132 : decode cX3_lot 132 = .ok (.invokevirtual 105, 3) := dk_182 0 105 (dk_at dksX3_lot_5 14 rfl rfl)
theorem dX3_lot_135 : decode cX3_lot 135 = .ok (.aload_n 0, 1) := dk_42 (dk_at dksX3_lot_5 17 rfl rfl)
theorem dX3_lot_136 : decode cX3_lot 136 = .ok (.iload_n 3, 1) := dk_29 (dk_at dksX3_lot_5 18 rfl rfl)
theorem dX3_lot_137 : decode cX3_lot 137 = .ok (.iconst 3, 1) := dk_6 (dk_at dksX3_lot_5 19 rfl rfl)
theorem dX3_lot_138 : decode cX3_lot 138 = .ok (.iconst (-1), 1) := dk_2 (dk_at dksX3_lot_5 20 rfl rfl)
theorem dX3_lot_139 : decode cX3_lot 139 = .ok (.invokevirtual 105, 3) := dk_182 0 105 (dk_at dksX3_lot_5 21 rfl rfl)
theorem dX3_lot_142 : decode cX3_lot 142 = .ok (.aload_n 0, 1) := dk_42 (dk_at dksX3_lot_6 0 rfl rfl)
theorem dX3_lot_143 : decode cX3_lot 143 = .ok (.iload_n 3, 1) := dk_29 (dk_at dksX3_lot_6 1 rfl rfl)
theorem dX3_lot_144 : decode cX3_lot 144 = .ok (.iconst 4, 1) := dk_7 (dk_at dksX3_lot_6 2 rfl rfl)
theorem dX3_lot_145 : decode cX3_lot 145 = .ok (.iconst (-1), 1) := dk_2 (dk_at dksX3_lot_6 3 rfl rfl)
theorem dX3_lot_146 : decode cX3_lot 146 = .ok (.invokevirtual 105, 3) := dk_182 0 105 (dk_at dksX3_lot_6 4 rfl rfl)
theorem dX3_lot_149 : decode cX3_lot 149 = .ok (.iload_n 3, 1) := dk_29 (dk_at dksX3_lot_6 7 rfl rfl)
theorem dX3_lot_150 : decode cX3_lot 150 = .ok (.ireturn, 1) := dk_172 (dk_at dksX3_lot_6 8 rfl rfl)
abbrev cX3_lays : ByteArray := prog_24_method_17_code
def yX3_lays : MethodName := ⟨RX3, "lays", "(III)V"⟩
def dkwX3_lays_0 : List UInt8 := [42, 180, 0, 7, 16, 27, 8, 27, 104, 96, 28, 96, 29, 79, 177]
abbrev dktX3_lays_0 : List UInt8 := dkwX3_lays_0 ++ []
theorem dksX3_lays_0 : cX3_lays.data.toList.drop 0 = dktX3_lays_0 := by decide +kernel
theorem dX3_lays_0 : decode cX3_lays 0 = .ok (.aload_n 0, 1) := dk_42 (dk_at dksX3_lays_0 0 rfl rfl)
theorem dX3_lays_1 : decode cX3_lays 1 = .ok (.getfield 7, 3) := dk_180 0 7 (dk_at dksX3_lays_0 1 rfl rfl)
theorem dX3_lays_4 : decode cX3_lays 4 = .ok (.bipush 27, 2) := dk_16 27 (dk_at dksX3_lays_0 4 rfl rfl)
theorem dX3_lays_6 : decode cX3_lays 6 = .ok (.iconst 5, 1) := dk_8 (dk_at dksX3_lays_0 6 rfl rfl)
theorem dX3_lays_7 : decode cX3_lays 7 = .ok (.iload_n 1, 1) := dk_27 (dk_at dksX3_lays_0 7 rfl rfl)
theorem dX3_lays_8 : decode cX3_lays 8 = .ok (.imul, 1) := dk_104 (dk_at dksX3_lays_0 8 rfl rfl)
theorem dX3_lays_9 : decode cX3_lays 9 = .ok (.iadd, 1) := dk_96 (dk_at dksX3_lays_0 9 rfl rfl)
theorem dX3_lays_10 : decode cX3_lays 10 = .ok (.iload_n 2, 1) := dk_28 (dk_at dksX3_lays_0 10 rfl rfl)
theorem dX3_lays_11 : decode cX3_lays 11 = .ok (.iadd, 1) := dk_96 (dk_at dksX3_lays_0 11 rfl rfl)
theorem dX3_lays_12 : decode cX3_lays 12 = .ok (.iload_n 3, 1) := dk_29 (dk_at dksX3_lays_0 12 rfl rfl)
theorem dX3_lays_13 : decode cX3_lays 13 = .ok (.iastore, 1) := dk_79 (dk_at dksX3_lays_0 13 rfl rfl)
theorem dX3_lays_14 : decode cX3_lays 14 = .ok (.return_, 1) := dk_177 (dk_at dksX3_lays_0 14 rfl rfl)
abbrev cX3_lotOf : ByteArray := prog_24_method_33_code
def yX3_lotOf : MethodName := ⟨RX3, "lotOf", "(II)I"⟩
def dkwX3_lotOf_3 : List UInt8 := [172]
abbrev dktX3_lotOf_3 : List UInt8 := dkwX3_lotOf_3 ++ []
def dkwX3_lotOf_2 : List UInt8 := [42, 27, 6, 182, 0, 102, 156, 0, 7, 2, 167, 0, 14, 42, 42, 27, 6, 182, 0, 102, 5, 182, 0, 109]
abbrev dktX3_lotOf_2 : List UInt8 := dkwX3_lotOf_2 ++ dktX3_lotOf_3
def dkwX3_lotOf_1 : List UInt8 := [167, 0, 4, 5, 182, 0, 66, 153, 0, 5, 3, 172, 28, 8, 162, 0, 10, 42, 27, 28, 182, 0, 102, 172]
abbrev dktX3_lotOf_1 : List UInt8 := dkwX3_lotOf_1 ++ dktX3_lotOf_2
def dkwX3_lotOf_0 : List UInt8 := [42, 42, 27, 182, 0, 99, 154, 0, 7, 4, 167, 0, 17, 28, 3, 8, 184, 0, 62, 153, 0, 7, 3]
abbrev dktX3_lotOf_0 : List UInt8 := dkwX3_lotOf_0 ++ dktX3_lotOf_1
theorem dksX3_lotOf_0 : cX3_lotOf.data.toList.drop 0 = dktX3_lotOf_0 := by decide +kernel
theorem dksX3_lotOf_1 : cX3_lotOf.data.toList.drop 23 = dktX3_lotOf_1 := dk_seg dksX3_lotOf_0 23 rfl rfl
theorem dksX3_lotOf_2 : cX3_lotOf.data.toList.drop 47 = dktX3_lotOf_2 := dk_seg dksX3_lotOf_1 24 rfl rfl
theorem dksX3_lotOf_3 : cX3_lotOf.data.toList.drop 71 = dktX3_lotOf_3 := dk_seg dksX3_lotOf_2 24 rfl rfl
theorem dX3_lotOf_0 : decode cX3_lotOf 0 = .ok (.aload_n 0, 1) := dk_42 (dk_at dksX3_lotOf_0 0 rfl rfl)
theorem dX3_lotOf_1 : decode cX3_lotOf 1 = .ok (.aload_n 0, 1) := dk_42 (dk_at dksX3_lotOf_0 1 rfl rfl)
theorem dX3_lotOf_2 : decode cX3_lotOf 2 = .ok (.iload_n 1, 1) := dk_27 (dk_at dksX3_lotOf_0 2 rfl rfl)
theorem dX3_lotOf_3 : decode cX3_lotOf 3 = .ok (.invokevirtual 99, 3) := dk_182 0 99 (dk_at dksX3_lotOf_0 3 rfl rfl)
theorem dX3_lotOf_6 : decode cX3_lotOf 6 = .ok (.ifCond .ne 7, 3) := dk_154 0 7 (dk_at dksX3_lotOf_0 6 rfl rfl)
theorem dX3_lotOf_9 : decode cX3_lotOf 9 = .ok (.iconst 1, 1) := dk_4 (dk_at dksX3_lotOf_0 9 rfl rfl)
theorem dX3_lotOf_10 : decode cX3_lotOf 10 = .ok (.goto 17, 3) := dk_167 0 17 (dk_at dksX3_lotOf_0 10 rfl rfl)
theorem dX3_lotOf_13 : decode cX3_lotOf 13 = .ok (.iload_n 2, 1) := dk_28 (dk_at dksX3_lotOf_0 13 rfl rfl)
theorem dX3_lotOf_14 : decode cX3_lotOf 14 = .ok (.iconst 0, 1) := dk_3 (dk_at dksX3_lotOf_0 14 rfl rfl)
theorem dX3_lotOf_15 : decode cX3_lotOf 15 = .ok (.iconst 5, 1) := dk_8 (dk_at dksX3_lotOf_0 15 rfl rfl)
theorem dX3_lotOf_16 : decode cX3_lotOf 16 = .ok (.invokestatic 62, 3) := dk_184 0 62 (dk_at dksX3_lotOf_0 16 rfl rfl)
theorem dX3_lotOf_19 : decode cX3_lotOf 19 = .ok (.ifCond .eq 7, 3) := dk_153 0 7 (dk_at dksX3_lotOf_0 19 rfl rfl)
theorem dX3_lotOf_22 : decode cX3_lotOf 22 = .ok (.iconst 0, 1) := dk_3 (dk_at dksX3_lotOf_0 22 rfl rfl)
theorem dX3_lotOf_23 : decode cX3_lotOf 23 = .ok (.goto 4, 3) := dk_167 0 4 (dk_at dksX3_lotOf_1 0 rfl rfl)
theorem dX3_lotOf_26 : decode cX3_lotOf 26 = .ok (.iconst 2, 1) := dk_5 (dk_at dksX3_lotOf_1 3 rfl rfl)
theorem dX3_lotOf_27 : decode cX3_lotOf 27 = .ok (.invokevirtual 66, 3) := dk_182 0 66 (dk_at dksX3_lotOf_1 4 rfl rfl)
theorem dX3_lotOf_30 : decode cX3_lotOf 30 = .ok (.ifCond .eq 5, 3) := dk_153 0 5 (dk_at dksX3_lotOf_1 7 rfl rfl)
theorem dX3_lotOf_33 : decode cX3_lotOf 33 = .ok (.iconst 0, 1) := dk_3 (dk_at dksX3_lotOf_1 10 rfl rfl)
theorem dX3_lotOf_34 : decode cX3_lotOf 34 = .ok (.ireturn, 1) := dk_172 (dk_at dksX3_lotOf_1 11 rfl rfl)
theorem dX3_lotOf_35 : decode cX3_lotOf 35 = .ok (.iload_n 2, 1) := dk_28 (dk_at dksX3_lotOf_1 12 rfl rfl)
theorem dX3_lotOf_36 : decode cX3_lotOf 36 = .ok (.iconst 5, 1) := dk_8 (dk_at dksX3_lotOf_1 13 rfl rfl)
theorem dX3_lotOf_37 : decode cX3_lotOf 37 = .ok (.if_icmp .ge 10, 3) := dk_162 0 10 (dk_at dksX3_lotOf_1 14 rfl rfl)
theorem dX3_lotOf_40 : decode cX3_lotOf 40 = .ok (.aload_n 0, 1) := dk_42 (dk_at dksX3_lotOf_1 17 rfl rfl)
theorem dX3_lotOf_41 : decode cX3_lotOf 41 = .ok (.iload_n 1, 1) := dk_27 (dk_at dksX3_lotOf_1 18 rfl rfl)
theorem dX3_lotOf_42 : decode cX3_lotOf 42 = .ok (.iload_n 2, 1) := dk_28 (dk_at dksX3_lotOf_1 19 rfl rfl)
theorem dX3_lotOf_43 : decode cX3_lotOf 43 = .ok (.invokevirtual 102, 3) := dk_182 0 102 (dk_at dksX3_lotOf_1 20 rfl rfl)
theorem dX3_lotOf_46 : decode cX3_lotOf 46 = .ok (.ireturn, 1) := dk_172 (dk_at dksX3_lotOf_1 23 rfl rfl)
theorem dX3_lotOf_47 : decode cX3_lotOf 47 = .ok (.aload_n 0, 1) := dk_42 (dk_at dksX3_lotOf_2 0 rfl rfl)
theorem dX3_lotOf_48 : decode cX3_lotOf 48 = .ok (.iload_n 1, 1) := dk_27 (dk_at dksX3_lotOf_2 1 rfl rfl)
theorem dX3_lotOf_49 : decode cX3_lotOf 49 = .ok (.iconst 3, 1) := dk_6 (dk_at dksX3_lotOf_2 2 rfl rfl)
theorem dX3_lotOf_50 : decode cX3_lotOf 50 = .ok (.invokevirtual 102, 3) := dk_182 0 102 (dk_at dksX3_lotOf_2 3 rfl rfl)
theorem dX3_lotOf_53 : decode cX3_lotOf 53 = .ok (.ifCond .ge 7, 3) := dk_156 0 7 (dk_at dksX3_lotOf_2 6 rfl rfl)
theorem dX3_lotOf_56 : decode cX3_lotOf 56 = .ok (.iconst (-1), 1) := dk_2 (dk_at dksX3_lotOf_2 9 rfl rfl)
theorem dX3_lotOf_57 : decode cX3_lotOf 57 = .ok (.goto 14, 3) := dk_167 0 14 (dk_at dksX3_lotOf_2 10 rfl rfl)
theorem dX3_lotOf_60 : decode cX3_lotOf 60 = .ok (.aload_n 0, 1) := dk_42 (dk_at dksX3_lotOf_2 13 rfl rfl)
theorem dX3_lotOf_61 : decode cX3_lotOf 61 = .ok (.aload_n 0, 1) := dk_42 (dk_at dksX3_lotOf_2 14 rfl rfl)
theorem dX3_lotOf_62 : decode cX3_lotOf 62 = .ok (.iload_n 1, 1) := dk_27 (dk_at dksX3_lotOf_2 15 rfl rfl)
theorem dX3_lotOf_63 : decode cX3_lotOf 63 = .ok (.iconst 3, 1) := dk_6 (dk_at dksX3_lotOf_2 16 rfl rfl)
theorem dX3_lotOf_64 : decode cX3_lotOf 64 = .ok (.invokevirtual 102, 3) := dk_182 0 102 (dk_at dksX3_lotOf_2 17 rfl rfl)
theorem dX3_lotOf_67 : decode cX3_lotOf 67 = .ok (.iconst 2, 1) := dk_5 (dk_at dksX3_lotOf_2 20 rfl rfl)
theorem dX3_lotOf_68 : decode cX3_lotOf 68 = .ok (.invokevirtual 109, 3) := dk_182 0 109 (dk_at dksX3_lotOf_2 21 rfl rfl)
theorem dX3_lotOf_71 : decode cX3_lotOf 71 = .ok (.ireturn, 1) := dk_172 (dk_at dksX3_lotOf_3 0 rfl rfl)
abbrev cX3_ofKiln : ByteArray := prog_24_method_18_code
def yX3_ofKiln : MethodName := ⟨RX3, "ofKiln", "(II)I"⟩
def dkwX3_ofKiln_0 : List UInt8 := [42, 180, 0, 7, 16, 88, 7, 27, 104, 96, 28, 96, 46, 172]
abbrev dktX3_ofKiln_0 : List UInt8 := dkwX3_ofKiln_0 ++ []
theorem dksX3_ofKiln_0 : cX3_ofKiln.data.toList.drop 0 = dktX3_ofKiln_0 := by decide +kernel
theorem dX3_ofKiln_0 : decode cX3_ofKiln 0 = .ok (.aload_n 0, 1) := dk_42 (dk_at dksX3_ofKiln_0 0 rfl rfl)
theorem dX3_ofKiln_1 : decode cX3_ofKiln 1 = .ok (.getfield 7, 3) := dk_180 0 7 (dk_at dksX3_ofKiln_0 1 rfl rfl)
theorem dX3_ofKiln_4 : decode cX3_ofKiln 4 = .ok (.bipush 88, 2) := dk_16 88 (dk_at dksX3_ofKiln_0 4 rfl rfl)
theorem dX3_ofKiln_6 : decode cX3_ofKiln 6 = .ok (.iconst 4, 1) := dk_7 (dk_at dksX3_ofKiln_0 6 rfl rfl)
theorem dX3_ofKiln_7 : decode cX3_ofKiln 7 = .ok (.iload_n 1, 1) := dk_27 (dk_at dksX3_ofKiln_0 7 rfl rfl)
theorem dX3_ofKiln_8 : decode cX3_ofKiln 8 = .ok (.imul, 1) := dk_104 (dk_at dksX3_ofKiln_0 8 rfl rfl)
theorem dX3_ofKiln_9 : decode cX3_ofKiln 9 = .ok (.iadd, 1) := dk_96 (dk_at dksX3_ofKiln_0 9 rfl rfl)
theorem dX3_ofKiln_10 : decode cX3_ofKiln 10 = .ok (.iload_n 2, 1) := dk_28 (dk_at dksX3_ofKiln_0 10 rfl rfl)
theorem dX3_ofKiln_11 : decode cX3_ofKiln 11 = .ok (.iadd, 1) := dk_96 (dk_at dksX3_ofKiln_0 11 rfl rfl)
theorem dX3_ofKiln_12 : decode cX3_ofKiln 12 = .ok (.iaload, 1) := dk_46 (dk_at dksX3_ofKiln_0 12 rfl rfl)
theorem dX3_ofKiln_13 : decode cX3_ofKiln 13 = .ok (.ireturn, 1) := dk_172 (dk_at dksX3_ofKiln_0 13 rfl rfl)
abbrev cX3_print : ByteArray := prog_24_method_34_code
def yX3_print : MethodName := ⟨RX3, "print", "(II)I"⟩
def dkwX3_print_7 : List UInt8 := [4, 96, 79, 42, 27, 4, 4, 182, 0, 105, 42, 27, 5, 21, 4, 182, 0, 105, 21, 4, 172]
abbrev dktX3_print_7 : List UInt8 := dkwX3_print_7 ++ []
def dkwX3_print_6 : List UInt8 := [28, 104, 96, 4, 96, 92, 46, 29, 96, 79, 42, 180, 0, 7, 16, 11, 6, 28, 104, 96, 5, 96, 92, 46]
abbrev dktX3_print_6 : List UInt8 := dkwX3_print_6 ++ dktX3_print_7
def dkwX3_print_5 : List UInt8 := [42, 28, 182, 0, 96, 54, 4, 42, 180, 0, 7, 5, 92, 46, 29, 100, 79, 42, 180, 0, 7, 16, 11, 6]
abbrev dktX3_print_5 : List UInt8 := dkwX3_print_5 ++ dktX3_print_6
def dkwX3_print_4 : List UInt8 := [164, 0, 16, 42, 5, 6, 42, 28, 4, 182, 0, 82, 182, 0, 70, 172, 42, 42, 180, 0, 7, 182, 0, 74]
abbrev dktX3_print_4 : List UInt8 := dkwX3_print_4 ++ dktX3_print_5
def dkwX3_print_3 : List UInt8 := [5, 5, 29, 42, 180, 0, 7, 5, 46, 100, 182, 0, 70, 172, 42, 28, 4, 182, 0, 82, 29, 96, 16, 80]
abbrev dktX3_print_3 : List UInt8 := dkwX3_print_3 ++ dktX3_print_4
def dkwX3_print_2 : List UInt8 := [42, 5, 4, 42, 27, 4, 182, 0, 102, 182, 0, 70, 172, 42, 180, 0, 7, 5, 46, 29, 162, 0, 18, 42]
abbrev dktX3_print_2 : List UInt8 := dkwX3_print_2 ++ dktX3_print_3
def dkwX3_print_1 : List UInt8 := [182, 0, 66, 153, 0, 5, 3, 172, 42, 27, 3, 182, 0, 102, 62, 42, 27, 4, 182, 0, 102, 153, 0, 16]
abbrev dktX3_print_1 : List UInt8 := dkwX3_print_1 ++ dktX3_print_2
def dkwX3_print_0 : List UInt8 := [42, 42, 27, 182, 0, 99, 153, 0, 15, 42, 28, 182, 0, 93, 153, 0, 7, 3, 167, 0, 4, 4]
abbrev dktX3_print_0 : List UInt8 := dkwX3_print_0 ++ dktX3_print_1
theorem dksX3_print_0 : cX3_print.data.toList.drop 0 = dktX3_print_0 := by decide +kernel
theorem dksX3_print_1 : cX3_print.data.toList.drop 22 = dktX3_print_1 := dk_seg dksX3_print_0 22 rfl rfl
theorem dksX3_print_2 : cX3_print.data.toList.drop 46 = dktX3_print_2 := dk_seg dksX3_print_1 24 rfl rfl
theorem dksX3_print_3 : cX3_print.data.toList.drop 70 = dktX3_print_3 := dk_seg dksX3_print_2 24 rfl rfl
theorem dksX3_print_4 : cX3_print.data.toList.drop 94 = dktX3_print_4 := dk_seg dksX3_print_3 24 rfl rfl
theorem dksX3_print_5 : cX3_print.data.toList.drop 118 = dktX3_print_5 := dk_seg dksX3_print_4 24 rfl rfl
theorem dksX3_print_6 : cX3_print.data.toList.drop 142 = dktX3_print_6 := dk_seg dksX3_print_5 24 rfl rfl
theorem dksX3_print_7 : cX3_print.data.toList.drop 166 = dktX3_print_7 := dk_seg dksX3_print_6 24 rfl rfl
theorem dX3_print_0 : decode cX3_print 0 = .ok (.aload_n 0, 1) := dk_42 (dk_at dksX3_print_0 0 rfl rfl)
theorem dX3_print_1 : decode cX3_print 1 = .ok (.aload_n 0, 1) := dk_42 (dk_at dksX3_print_0 1 rfl rfl)
theorem dX3_print_2 : decode cX3_print 2 = .ok (.iload_n 1, 1) := dk_27 (dk_at dksX3_print_0 2 rfl rfl)
theorem dX3_print_3 : decode cX3_print 3 = .ok (.invokevirtual 99, 3) := dk_182 0 99 (dk_at dksX3_print_0 3 rfl rfl)
theorem dX3_print_6 : decode cX3_print 6 = .ok (.ifCond .eq 15, 3) := dk_153 0 15 (dk_at dksX3_print_0 6 rfl rfl)
theorem dX3_print_9 : decode cX3_print 9 = .ok (.aload_n 0, 1) := dk_42 (dk_at dksX3_print_0 9 rfl rfl)
theorem dX3_print_10 : decode cX3_print 10 = .ok (.iload_n 2, 1) := dk_28 (dk_at dksX3_print_0 10 rfl rfl)
theorem dX3_print_11 : decode cX3_print 11 = .ok (.invokevirtual 93, 3) := dk_182 0 93 (dk_at dksX3_print_0 11 rfl rfl)
theorem dX3_print_14 : decode cX3_print 14 = .ok (.ifCond .eq 7, 3) := dk_153 0 7 (dk_at dksX3_print_0 14 rfl rfl)
theorem dX3_print_17 : decode cX3_print 17 = .ok (.iconst 0, 1) := dk_3 (dk_at dksX3_print_0 17 rfl rfl)
theorem dX3_print_18 : decode cX3_print 18 = .ok (.goto 4, 3) := dk_167 0 4 (dk_at dksX3_print_0 18 rfl rfl)
theorem dX3_print_21 : decode cX3_print 21 = .ok (.iconst 1, 1) := dk_4 (dk_at dksX3_print_0 21 rfl rfl)
theorem dX3_print_22 : decode cX3_print 22 = .ok (.invokevirtual 66, 3) := dk_182 0 66 (dk_at dksX3_print_1 0 rfl rfl)
theorem dX3_print_25 : decode cX3_print 25 = .ok (.ifCond .eq 5, 3) := dk_153 0 5 (dk_at dksX3_print_1 3 rfl rfl)
theorem dX3_print_28 : decode cX3_print 28 = .ok (.iconst 0, 1) := dk_3 (dk_at dksX3_print_1 6 rfl rfl)
theorem dX3_print_29 : decode cX3_print 29 = .ok (.ireturn, 1) := dk_172 (dk_at dksX3_print_1 7 rfl rfl)
theorem dX3_print_30 : decode cX3_print 30 = .ok (.aload_n 0, 1) := dk_42 (dk_at dksX3_print_1 8 rfl rfl)
theorem dX3_print_31 : decode cX3_print 31 = .ok (.iload_n 1, 1) := dk_27 (dk_at dksX3_print_1 9 rfl rfl)
theorem dX3_print_32 : decode cX3_print 32 = .ok (.iconst 0, 1) := dk_3 (dk_at dksX3_print_1 10 rfl rfl)
theorem dX3_print_33 : decode cX3_print 33 = .ok (.invokevirtual 102, 3) := dk_182 0 102 (dk_at dksX3_print_1 11 rfl rfl)
theorem dX3_print_36 : decode cX3_print 36 = .ok (.istore_n 3, 1) := dk_62 (dk_at dksX3_print_1 14 rfl rfl)
theorem dX3_print_37 : decode cX3_print 37 = .ok (.aload_n 0, 1) := dk_42 (dk_at dksX3_print_1 15 rfl rfl)
theorem dX3_print_38 : decode cX3_print 38 = .ok (.iload_n 1, 1) := dk_27 (dk_at dksX3_print_1 16 rfl rfl)
theorem dX3_print_39 : decode cX3_print 39 = .ok (.iconst 1, 1) := dk_4 (dk_at dksX3_print_1 17 rfl rfl)
theorem dX3_print_40 : decode cX3_print 40 = .ok (.invokevirtual 102, 3) := dk_182 0 102 (dk_at dksX3_print_1 18 rfl rfl)
theorem dX3_print_43 : decode cX3_print 43 = .ok (.ifCond .eq 16, 3) := dk_153 0 16 (dk_at dksX3_print_1 21 rfl rfl)
theorem dX3_print_46 : decode cX3_print 46 = .ok (.aload_n 0, 1) := dk_42 (dk_at dksX3_print_2 0 rfl rfl)
theorem dX3_print_47 : decode cX3_print 47 = .ok (.iconst 2, 1) := dk_5 (dk_at dksX3_print_2 1 rfl rfl)
theorem dX3_print_48 : decode cX3_print 48 = .ok (.iconst 1, 1) := dk_4 (dk_at dksX3_print_2 2 rfl rfl)
theorem dX3_print_49 : decode cX3_print 49 = .ok (.aload_n 0, 1) := dk_42 (dk_at dksX3_print_2 3 rfl rfl)
theorem dX3_print_50 : decode cX3_print 50 = .ok (.iload_n 1, 1) := dk_27 (dk_at dksX3_print_2 4 rfl rfl)
theorem dX3_print_51 : decode cX3_print 51 = .ok (.iconst 1, 1) := dk_4 (dk_at dksX3_print_2 5 rfl rfl)
theorem dX3_print_52 : decode cX3_print 52 = .ok (.invokevirtual 102, 3) := dk_182 0 102 (dk_at dksX3_print_2 6 rfl rfl)
theorem dX3_print_55 : decode cX3_print 55 = .ok (.invokevirtual 70, 3) := dk_182 0 70 (dk_at dksX3_print_2 9 rfl rfl)
theorem dX3_print_58 : decode cX3_print 58 = .ok (.ireturn, 1) := dk_172 (dk_at dksX3_print_2 12 rfl rfl)
theorem dX3_print_59 : decode cX3_print 59 = .ok (.aload_n 0, 1) := dk_42 (dk_at dksX3_print_2 13 rfl rfl)
theorem dX3_print_60 : decode cX3_print 60 = .ok (.getfield 7, 3) := dk_180 0 7 (dk_at dksX3_print_2 14 rfl rfl)
theorem dX3_print_63 : decode cX3_print 63 = .ok (.iconst 2, 1) := dk_5 (dk_at dksX3_print_2 17 rfl rfl)
theorem dX3_print_64 : decode cX3_print 64 = .ok (.iaload, 1) := dk_46 (dk_at dksX3_print_2 18 rfl rfl)
theorem dX3_print_65 : decode cX3_print 65 = .ok (.iload_n 3, 1) := dk_29 (dk_at dksX3_print_2 19 rfl rfl)
theorem dX3_print_66 : decode cX3_print 66 = .ok (.if_icmp .ge 18, 3) := dk_162 0 18 (dk_at dksX3_print_2 20 rfl rfl)
theorem dX3_print_69 : decode cX3_print 69 = .ok (.aload_n 0, 1) := dk_42 (dk_at dksX3_print_2 23 rfl rfl)
theorem dX3_print_70 : decode cX3_print 70 = .ok (.iconst 2, 1) := dk_5 (dk_at dksX3_print_3 0 rfl rfl)
theorem dX3_print_71 : decode cX3_print 71 = .ok (.iconst 2, 1) := dk_5 (dk_at dksX3_print_3 1 rfl rfl)
theorem dX3_print_72 : decode cX3_print 72 = .ok (.iload_n 3, 1) := dk_29 (dk_at dksX3_print_3 2 rfl rfl)
theorem dX3_print_73 : decode cX3_print 73 = .ok (.aload_n 0, 1) := dk_42 (dk_at dksX3_print_3 3 rfl rfl)
theorem dX3_print_74 : decode cX3_print 74 = .ok (.getfield 7, 3) := dk_180 0 7 (dk_at dksX3_print_3 4 rfl rfl)
theorem dX3_print_77 : decode cX3_print 77 = .ok (.iconst 2, 1) := dk_5 (dk_at dksX3_print_3 7 rfl rfl)
theorem dX3_print_78 : decode cX3_print 78 = .ok (.iaload, 1) := dk_46 (dk_at dksX3_print_3 8 rfl rfl)
theorem dX3_print_79 : decode cX3_print 79 = .ok (.isub, 1) := dk_100 (dk_at dksX3_print_3 9 rfl rfl)
theorem dX3_print_80 : decode cX3_print 80 = .ok (.invokevirtual 70, 3) := dk_182 0 70 (dk_at dksX3_print_3 10 rfl rfl)
theorem dX3_print_83 : decode cX3_print 83 = .ok (.ireturn, 1) := dk_172 (dk_at dksX3_print_3 13 rfl rfl)
theorem dX3_print_84 : decode cX3_print 84 = .ok (.aload_n 0, 1) := dk_42 (dk_at dksX3_print_3 14 rfl rfl)
theorem dX3_print_85 : decode cX3_print 85 = .ok (.iload_n 2, 1) := dk_28 (dk_at dksX3_print_3 15 rfl rfl)
theorem dX3_print_86 : decode cX3_print 86 = .ok (.iconst 1, 1) := dk_4 (dk_at dksX3_print_3 16 rfl rfl)
theorem dX3_print_87 : decode cX3_print 87 = .ok (.invokevirtual 82, 3) := dk_182 0 82 (dk_at dksX3_print_3 17 rfl rfl)
theorem dX3_print_90 : decode cX3_print 90 = .ok (.iload_n 3, 1) := dk_29 (dk_at dksX3_print_3 20 rfl rfl)
theorem dX3_print_91 : decode cX3_print 91 = .ok (.iadd, 1) := dk_96 (dk_at dksX3_print_3 21 rfl rfl)
theorem dX3_print_92 : decode cX3_print 92 = .ok (.bipush 80, 2) := dk_16 80 (dk_at dksX3_print_3 22 rfl rfl)
theorem dX3_print_94 : decode cX3_print 94 = .ok (.if_icmp .le 16, 3) := dk_164 0 16 (dk_at dksX3_print_4 0 rfl rfl)
theorem dX3_print_97 : decode cX3_print 97 = .ok (.aload_n 0, 1) := dk_42 (dk_at dksX3_print_4 3 rfl rfl)
theorem dX3_print_98 : decode cX3_print 98 = .ok (.iconst 2, 1) := dk_5 (dk_at dksX3_print_4 4 rfl rfl)
theorem dX3_print_99 : decode cX3_print 99 = .ok (.iconst 3, 1) := dk_6 (dk_at dksX3_print_4 5 rfl rfl)
theorem dX3_print_100 : decode cX3_print 100 = .ok (.aload_n 0, 1) := dk_42 (dk_at dksX3_print_4 6 rfl rfl)
theorem dX3_print_101 : decode cX3_print 101 = .ok (.iload_n 2, 1) := dk_28 (dk_at dksX3_print_4 7 rfl rfl)
theorem dX3_print_102 : decode cX3_print 102 = .ok (.iconst 1, 1) := dk_4 (dk_at dksX3_print_4 8 rfl rfl)
theorem dX3_print_103 : decode cX3_print 103 = .ok (.invokevirtual 82, 3) := dk_182 0 82 (dk_at dksX3_print_4 9 rfl rfl)
theorem dX3_print_106 : decode cX3_print 106 = .ok (.invokevirtual 70, 3) := dk_182 0 70 (dk_at dksX3_print_4 12 rfl rfl)
theorem dX3_print_109 : decode cX3_print 109 = .ok (.ireturn, 1) := dk_172 (dk_at dksX3_print_4 15 rfl rfl)
theorem dX3_print_110 : decode cX3_print 110 = .ok (.aload_n 0, 1) := dk_42 (dk_at dksX3_print_4 16 rfl rfl)
theorem dX3_print_111 : decode cX3_print 111 = .ok (.aload_n 0, 1) := dk_42 (dk_at dksX3_print_4 17 rfl rfl)
theorem dX3_print_112 : decode cX3_print 112 = .ok (.getfield 7, 3) := dk_180 0 7 (dk_at dksX3_print_4 18 rfl rfl)
theorem dX3_print_115 : decode cX3_print 115 = .ok (.invokevirtual 74, 3) := dk_182 0 74 (dk_at dksX3_print_4 21 rfl rfl)
theorem dX3_print_118 : decode cX3_print 118 = .ok (.aload_n 0, 1) := dk_42 (dk_at dksX3_print_5 0 rfl rfl)
theorem dX3_print_119 : decode cX3_print 119 = .ok (.iload_n 2, 1) := dk_28 (dk_at dksX3_print_5 1 rfl rfl)
theorem dX3_print_120 : decode cX3_print 120 = .ok (.invokevirtual 96, 3) := dk_182 0 96 (dk_at dksX3_print_5 2 rfl rfl)
theorem dX3_print_123 : decode cX3_print 123 = .ok (.istore 4, 2) := dk_54 4 (dk_at dksX3_print_5 5 rfl rfl)
theorem dX3_print_125 : decode cX3_print 125 = .ok (.aload_n 0, 1) := dk_42 (dk_at dksX3_print_5 7 rfl rfl)
theorem dX3_print_126 : decode cX3_print 126 = .ok (.getfield 7, 3) := dk_180 0 7 (dk_at dksX3_print_5 8 rfl rfl)
theorem dX3_print_129 : decode cX3_print 129 = .ok (.iconst 2, 1) := dk_5 (dk_at dksX3_print_5 11 rfl rfl)
theorem dX3_print_130 : decode cX3_print 130 = .ok (.dup2, 1) := dk_92 (dk_at dksX3_print_5 12 rfl rfl)
theorem dX3_print_131 : decode cX3_print 131 = .ok (.iaload, 1) := dk_46 (dk_at dksX3_print_5 13 rfl rfl)
theorem dX3_print_132 : decode cX3_print 132 = .ok (.iload_n 3, 1) := dk_29 (dk_at dksX3_print_5 14 rfl rfl)
theorem dX3_print_133 : decode cX3_print 133 = .ok (.isub, 1) := dk_100 (dk_at dksX3_print_5 15 rfl rfl)
theorem dX3_print_134 : decode cX3_print 134 = .ok (.iastore, 1) := dk_79 (dk_at dksX3_print_5 16 rfl rfl)
theorem dX3_print_135 : decode cX3_print 135 = .ok (.aload_n 0, 1) := dk_42 (dk_at dksX3_print_5 17 rfl rfl)
theorem dX3_print_136 : decode cX3_print 136 = .ok (.getfield 7, 3) := dk_180 0 7 (dk_at dksX3_print_5 18 rfl rfl)
theorem dX3_print_139 : decode cX3_print 139 = .ok (.bipush 11, 2) := dk_16 11 (dk_at dksX3_print_5 21 rfl rfl)
theorem dX3_print_141 : decode cX3_print 141 = .ok (.iconst 3, 1) := dk_6 (dk_at dksX3_print_5 23 rfl rfl)
theorem dX3_print_142 : decode cX3_print 142 = .ok (.iload_n 2, 1) := dk_28 (dk_at dksX3_print_6 0 rfl rfl)
theorem dX3_print_143 : decode cX3_print 143 = .ok (.imul, 1) := dk_104 (dk_at dksX3_print_6 1 rfl rfl)
theorem dX3_print_144 : decode cX3_print 144 = .ok (.iadd, 1) := dk_96 (dk_at dksX3_print_6 2 rfl rfl)
theorem dX3_print_145 : decode cX3_print 145 = .ok (.iconst 1, 1) := dk_4 (dk_at dksX3_print_6 3 rfl rfl)
theorem dX3_print_146 : decode cX3_print 146 = .ok (.iadd, 1) := dk_96 (dk_at dksX3_print_6 4 rfl rfl)
theorem dX3_print_147 : decode cX3_print 147 = .ok (.dup2, 1) := dk_92 (dk_at dksX3_print_6 5 rfl rfl)
theorem dX3_print_148 : decode cX3_print 148 = .ok (.iaload, 1) := dk_46 (dk_at dksX3_print_6 6 rfl rfl)
theorem dX3_print_149 : decode cX3_print 149 = .ok (.iload_n 3, 1) := dk_29 (dk_at dksX3_print_6 7 rfl rfl)
theorem dX3_print_150 : decode cX3_print 150 = .ok (.iadd, 1) := dk_96 (dk_at dksX3_print_6 8 rfl rfl)
theorem dX3_print_151 : decode cX3_print 151 = .ok (.iastore, 1) := dk_79 (dk_at dksX3_print_6 9 rfl rfl)
theorem dX3_print_152 : decode cX3_print 152 = .ok (.aload_n 0, 1) := dk_42 (dk_at dksX3_print_6 10 rfl rfl)
theorem dX3_print_153 : decode cX3_print 153 = .ok (.getfield 7, 3) := dk_180 0 7 (dk_at dksX3_print_6 11 rfl rfl)
theorem dX3_print_156 : decode cX3_print 156 = .ok (.bipush 11, 2) := dk_16 11 (dk_at dksX3_print_6 14 rfl rfl)
theorem dX3_print_158 : decode cX3_print 158 = .ok (.iconst 3, 1) := dk_6 (dk_at dksX3_print_6 16 rfl rfl)
theorem dX3_print_159 : decode cX3_print 159 = .ok (.iload_n 2, 1) := dk_28 (dk_at dksX3_print_6 17 rfl rfl)
theorem dX3_print_160 : decode cX3_print 160 = .ok (.imul, 1) := dk_104 (dk_at dksX3_print_6 18 rfl rfl)
theorem dX3_print_161 : decode cX3_print 161 = .ok (.iadd, 1) := dk_96 (dk_at dksX3_print_6 19 rfl rfl)
theorem dX3_print_162 : decode cX3_print 162 = .ok (.iconst 2, 1) := dk_5 (dk_at dksX3_print_6 20 rfl rfl)
theorem dX3_print_163 : decode cX3_print 163 = .ok (.iadd, 1) := dk_96 (dk_at dksX3_print_6 21 rfl rfl)
theorem dX3_print_164 : decode cX3_print 164 = .ok (.dup2, 1) := dk_92 (dk_at dksX3_print_6 22 rfl rfl)
theorem dX3_print_165 : decode cX3_print 165 = .ok (.iaload, 1) := dk_46 (dk_at dksX3_print_6 23 rfl rfl)
theorem dX3_print_166 : decode cX3_print 166 = .ok (.iconst 1, 1) := dk_4 (dk_at dksX3_print_7 0 rfl rfl)
theorem dX3_print_167 : decode cX3_print 167 = .ok (.iadd, 1) := dk_96 (dk_at dksX3_print_7 1 rfl rfl)
theorem dX3_print_168 : decode cX3_print 168 = .ok (.iastore, 1) := dk_79 (dk_at dksX3_print_7 2 rfl rfl)
theorem dX3_print_169 : decode cX3_print 169 = .ok (.aload_n 0, 1) := dk_42 (dk_at dksX3_print_7 3 rfl rfl)
theorem dX3_print_170 : decode cX3_print 170 = .ok (.iload_n 1, 1) := dk_27 (dk_at dksX3_print_7 4 rfl rfl)
theorem dX3_print_171 : decode cX3_print 171 = .ok (.iconst 1, 1) := dk_4 (dk_at dksX3_print_7 5 rfl rfl)
theorem dX3_print_172 : decode cX3_print 172 = .ok (.iconst 1, 1) := dk_4 (dk_at dksX3_print_7 6 rfl rfl)
theorem dX3_print_173 : decode cX3_print 173 = .ok (.invokevirtual 105, 3) := dk_182 0 105 (dk_at dksX3_print_7 7 rfl rfl)
theorem dX3_print_176 : decode cX3_print 176 = .ok (.aload_n 0, 1) := dk_42 (dk_at dksX3_print_7 10 rfl rfl)
theorem dX3_print_177 : decode cX3_print 177 = .ok (.iload_n 1, 1) := dk_27 (dk_at dksX3_print_7 11 rfl rfl)
theorem dX3_print_178 : decode cX3_print 178 = .ok (.iconst 2, 1) := dk_5 (dk_at dksX3_print_7 12 rfl rfl)
theorem dX3_print_179 : decode cX3_print 179 = .ok (.iload 4, 2) := dk_21 4 (dk_at dksX3_print_7 13 rfl rfl)
theorem dX3_print_181 : decode cX3_print 181 = .ok (.invokevirtual 105, 3) := dk_182 0 105 (dk_at dksX3_print_7 15 rfl rfl)
theorem dX3_print_184 : decode cX3_print 184 = .ok (.iload 4, 2) := dk_21 4 (dk_at dksX3_print_7 18 rfl rfl)
theorem dX3_print_186 : decode cX3_print 186 = .ok (.ireturn, 1) := dk_172 (dk_at dksX3_print_7 20 rfl rfl)
abbrev cX3_kiln : ByteArray := prog_24_method_35_code
def yX3_kiln : MethodName := ⟨RX3, "kiln", "(I)I"⟩
def dkwX3_kiln_4 : List UInt8 := [28, 172]
abbrev dktX3_kiln_4 : List UInt8 := dkwX3_kiln_4 ++ []
def dkwX3_kiln_3 : List UInt8 := [182, 0, 112, 42, 28, 4, 2, 182, 0, 112, 42, 28, 5, 3, 182, 0, 112, 42, 28, 6, 3, 182, 0, 112]
abbrev dktX3_kiln_3 : List UInt8 := dkwX3_kiln_3 ++ dktX3_kiln_4
def dkwX3_kiln_2 : List UInt8 := [42, 180, 0, 7, 16, 87, 46, 61, 42, 180, 0, 7, 16, 87, 92, 46, 4, 96, 79, 42, 28, 3, 27]
abbrev dktX3_kiln_2 : List UInt8 := dkwX3_kiln_2 ++ dktX3_kiln_3
def dkwX3_kiln_1 : List UInt8 := [160, 0, 7, 5, 167, 0, 4, 3, 182, 0, 66, 153, 0, 5, 3, 172, 42, 42, 180, 0, 7, 182, 0, 74]
abbrev dktX3_kiln_1 : List UInt8 := dkwX3_kiln_1 ++ dktX3_kiln_2
def dkwX3_kiln_0 : List UInt8 := [42, 27, 7, 16, 40, 184, 0, 62, 154, 0, 7, 4, 167, 0, 19, 42, 180, 0, 7, 16, 87, 46, 6]
abbrev dktX3_kiln_0 : List UInt8 := dkwX3_kiln_0 ++ dktX3_kiln_1
theorem dksX3_kiln_0 : cX3_kiln.data.toList.drop 0 = dktX3_kiln_0 := by decide +kernel
theorem dksX3_kiln_1 : cX3_kiln.data.toList.drop 23 = dktX3_kiln_1 := dk_seg dksX3_kiln_0 23 rfl rfl
theorem dksX3_kiln_2 : cX3_kiln.data.toList.drop 47 = dktX3_kiln_2 := dk_seg dksX3_kiln_1 24 rfl rfl
theorem dksX3_kiln_3 : cX3_kiln.data.toList.drop 70 = dktX3_kiln_3 := dk_seg dksX3_kiln_2 23 rfl rfl
theorem dksX3_kiln_4 : cX3_kiln.data.toList.drop 94 = dktX3_kiln_4 := dk_seg dksX3_kiln_3 24 rfl rfl
theorem dX3_kiln_0 : decode cX3_kiln 0 = .ok (.aload_n 0, 1) := dk_42 (dk_at dksX3_kiln_0 0 rfl rfl)
theorem dX3_kiln_1 : decode cX3_kiln 1 = .ok (.iload_n 1, 1) := dk_27 (dk_at dksX3_kiln_0 1 rfl rfl)
theorem dX3_kiln_2 : decode cX3_kiln 2 = .ok (.iconst 4, 1) := dk_7 (dk_at dksX3_kiln_0 2 rfl rfl)
theorem dX3_kiln_3 : decode cX3_kiln 3 = .ok (.bipush 40, 2) := dk_16 40 (dk_at dksX3_kiln_0 3 rfl rfl)
theorem dX3_kiln_5 : decode cX3_kiln 5 = .ok (.invokestatic 62, 3) := dk_184 0 62 (dk_at dksX3_kiln_0 5 rfl rfl)
theorem dX3_kiln_8 : decode cX3_kiln 8 = .ok (.ifCond .ne 7, 3) := dk_154 0 7 (dk_at dksX3_kiln_0 8 rfl rfl)
theorem dX3_kiln_11 : decode cX3_kiln 11 = .ok (.iconst 1, 1) := dk_4 (dk_at dksX3_kiln_0 11 rfl rfl)
theorem dX3_kiln_12 : decode cX3_kiln 12 = .ok (.goto 19, 3) := dk_167 0 19 (dk_at dksX3_kiln_0 12 rfl rfl)
theorem dX3_kiln_15 : decode cX3_kiln 15 = .ok (.aload_n 0, 1) := dk_42 (dk_at dksX3_kiln_0 15 rfl rfl)
theorem dX3_kiln_16 : decode cX3_kiln 16 = .ok (.getfield 7, 3) := dk_180 0 7 (dk_at dksX3_kiln_0 16 rfl rfl)
theorem dX3_kiln_19 : decode cX3_kiln 19 = .ok (.bipush 87, 2) := dk_16 87 (dk_at dksX3_kiln_0 19 rfl rfl)
theorem dX3_kiln_21 : decode cX3_kiln 21 = .ok (.iaload, 1) := dk_46 (dk_at dksX3_kiln_0 21 rfl rfl)
theorem dX3_kiln_22 : decode cX3_kiln 22 = .ok (.iconst 3, 1) := dk_6 (dk_at dksX3_kiln_0 22 rfl rfl)
theorem dX3_kiln_23 : decode cX3_kiln 23 = .ok (.if_icmp .ne 7, 3) := dk_160 0 7 (dk_at dksX3_kiln_1 0 rfl rfl)
theorem dX3_kiln_26 : decode cX3_kiln 26 = .ok (.iconst 2, 1) := dk_5 (dk_at dksX3_kiln_1 3 rfl rfl)
theorem dX3_kiln_27 : decode cX3_kiln 27 = .ok (.goto 4, 3) := dk_167 0 4 (dk_at dksX3_kiln_1 4 rfl rfl)
theorem dX3_kiln_30 : decode cX3_kiln 30 = .ok (.iconst 0, 1) := dk_3 (dk_at dksX3_kiln_1 7 rfl rfl)
theorem dX3_kiln_31 : decode cX3_kiln 31 = .ok (.invokevirtual 66, 3) := dk_182 0 66 (dk_at dksX3_kiln_1 8 rfl rfl)
theorem dX3_kiln_34 : decode cX3_kiln 34 = .ok (.ifCond .eq 5, 3) := dk_153 0 5 (dk_at dksX3_kiln_1 11 rfl rfl)
theorem dX3_kiln_37 : decode cX3_kiln 37 = .ok (.iconst 0, 1) := dk_3 (dk_at dksX3_kiln_1 14 rfl rfl)
theorem dX3_kiln_38 : decode cX3_kiln 38 = .ok (.ireturn, 1) := dk_172 (dk_at dksX3_kiln_1 15 rfl rfl)
theorem dX3_kiln_39 : decode cX3_kiln 39 = .ok (.aload_n 0, 1) := dk_42 (dk_at dksX3_kiln_1 16 rfl rfl)
theorem dX3_kiln_40 : decode cX3_kiln 40 = .ok (.aload_n 0, 1) := dk_42 (dk_at dksX3_kiln_1 17 rfl rfl)
theorem dX3_kiln_41 : decode cX3_kiln 41 = .ok (.getfield 7, 3) := dk_180 0 7 (dk_at dksX3_kiln_1 18 rfl rfl)
theorem dX3_kiln_44 : decode cX3_kiln 44 = .ok (.invokevirtual 74, 3) := dk_182 0 74 (dk_at dksX3_kiln_1 21 rfl rfl)
theorem dX3_kiln_47 : decode cX3_kiln 47 = .ok (.aload_n 0, 1) := dk_42 (dk_at dksX3_kiln_2 0 rfl rfl)
theorem dX3_kiln_48 : decode cX3_kiln 48 = .ok (.getfield 7, 3) := dk_180 0 7 (dk_at dksX3_kiln_2 1 rfl rfl)
theorem dX3_kiln_51 : decode cX3_kiln 51 = .ok (.bipush 87, 2) := dk_16 87 (dk_at dksX3_kiln_2 4 rfl rfl)
theorem dX3_kiln_53 : decode cX3_kiln 53 = .ok (.iaload, 1) := dk_46 (dk_at dksX3_kiln_2 6 rfl rfl)
theorem dX3_kiln_54 : decode cX3_kiln 54 = .ok (.istore_n 2, 1) := dk_61 (dk_at dksX3_kiln_2 7 rfl rfl)
theorem dX3_kiln_55 : decode cX3_kiln 55 = .ok (.aload_n 0, 1) := dk_42 (dk_at dksX3_kiln_2 8 rfl rfl)
theorem dX3_kiln_56 : decode cX3_kiln 56 = .ok (.getfield 7, 3) := dk_180 0 7 (dk_at dksX3_kiln_2 9 rfl rfl)
theorem dX3_kiln_59 : decode cX3_kiln 59 = .ok (.bipush 87, 2) := dk_16 87 (dk_at dksX3_kiln_2 12 rfl rfl)
theorem dX3_kiln_61 : decode cX3_kiln 61 = .ok (.dup2, 1) := dk_92 (dk_at dksX3_kiln_2 14 rfl rfl)
theorem dX3_kiln_62 : decode cX3_kiln 62 = .ok (.iaload, 1) := dk_46 (dk_at dksX3_kiln_2 15 rfl rfl)
theorem dX3_kiln_63 : decode cX3_kiln 63 = .ok (.iconst 1, 1) := dk_4 (dk_at dksX3_kiln_2 16 rfl rfl)
theorem dX3_kiln_64 : decode cX3_kiln 64 = .ok (.iadd, 1) := dk_96 (dk_at dksX3_kiln_2 17 rfl rfl)
theorem dX3_kiln_65 : decode cX3_kiln 65 = .ok (.iastore, 1) := dk_79 (dk_at dksX3_kiln_2 18 rfl rfl)
theorem dX3_kiln_66 : decode cX3_kiln 66 = .ok (.aload_n 0, 1) := dk_42 (dk_at dksX3_kiln_2 19 rfl rfl)
theorem dX3_kiln_67 : decode cX3_kiln 67 = .ok (.iload_n 2, 1) := dk_28 (dk_at dksX3_kiln_2 20 rfl rfl)
theorem dX3_kiln_68 : decode cX3_kiln 68 = .ok (.iconst 0, 1) := dk_3 (dk_at dksX3_kiln_2 21 rfl rfl)
theorem dX3_kiln_69 : decode cX3_kiln 69 = .ok (.iload_n 1, 1) := dk_27 (dk_at dksX3_kiln_2 22 rfl rfl)
theorem dX3_kiln_70 : decode cX3_kiln 70 = .ok (.invokevirtual 112, 3) := dk_182 0 112 (dk_at dksX3_kiln_3 0 rfl rfl)
theorem dX3_kiln_73 : decode cX3_kiln 73 = .ok (.aload_n 0, 1) := dk_42 (dk_at dksX3_kiln_3 3 rfl rfl)
theorem dX3_kiln_74 : decode cX3_kiln 74 = .ok (.iload_n 2, 1) := dk_28 (dk_at dksX3_kiln_3 4 rfl rfl)
theorem dX3_kiln_75 : decode cX3_kiln 75 = .ok (.iconst 1, 1) := dk_4 (dk_at dksX3_kiln_3 5 rfl rfl)
theorem dX3_kiln_76 : decode cX3_kiln 76 = .ok (.iconst (-1), 1) := dk_2 (dk_at dksX3_kiln_3 6 rfl rfl)
theorem dX3_kiln_77 : decode cX3_kiln 77 = .ok (.invokevirtual 112, 3) := dk_182 0 112 (dk_at dksX3_kiln_3 7 rfl rfl)
theorem dX3_kiln_80 : decode cX3_kiln 80 = .ok (.aload_n 0, 1) := dk_42 (dk_at dksX3_kiln_3 10 rfl rfl)
theorem dX3_kiln_81 : decode cX3_kiln 81 = .ok (.iload_n 2, 1) := dk_28 (dk_at dksX3_kiln_3 11 rfl rfl)
theorem dX3_kiln_82 : decode cX3_kiln 82 = .ok (.iconst 2, 1) := dk_5 (dk_at dksX3_kiln_3 12 rfl rfl)
theorem dX3_kiln_83 : decode cX3_kiln 83 = .ok (.iconst 0, 1) := dk_3 (dk_at dksX3_kiln_3 13 rfl rfl)
theorem dX3_kiln_84 : decode cX3_kiln 84 = .ok (.invokevirtual 112, 3) := dk_182 0 112 (dk_at dksX3_kiln_3 14 rfl rfl)
theorem dX3_kiln_87 : decode cX3_kiln 87 = .ok (.aload_n 0, 1) := dk_42 (dk_at dksX3_kiln_3 17 rfl rfl)
theorem dX3_kiln_88 : decode cX3_kiln 88 = .ok (.iload_n 2, 1) := dk_28 (dk_at dksX3_kiln_3 18 rfl rfl)
theorem dX3_kiln_89 : decode cX3_kiln 89 = .ok (.iconst 3, 1) := dk_6 (dk_at dksX3_kiln_3 19 rfl rfl)
theorem dX3_kiln_90 : decode cX3_kiln 90 = .ok (.iconst 0, 1) := dk_3 (dk_at dksX3_kiln_3 20 rfl rfl)
theorem dX3_kiln_91 : decode cX3_kiln 91 = .ok (.invokevirtual 112, 3) := dk_182 0 112 (dk_at dksX3_kiln_3 21 rfl rfl)
theorem dX3_kiln_94 : decode cX3_kiln 94 = .ok (.iload_n 2, 1) := dk_28 (dk_at dksX3_kiln_4 0 rfl rfl)
theorem dX3_kiln_95 : decode cX3_kiln 95 = .ok (.ireturn, 1) := dk_172 (dk_at dksX3_kiln_4 1 rfl rfl)
abbrev cX3_laysKiln : ByteArray := prog_24_method_19_code
def yX3_laysKiln : MethodName := ⟨RX3, "laysKiln", "(III)V"⟩
def dkwX3_laysKiln_0 : List UInt8 := [42, 180, 0, 7, 16, 88, 7, 27, 104, 96, 28, 96, 29, 79, 177]
abbrev dktX3_laysKiln_0 : List UInt8 := dkwX3_laysKiln_0 ++ []
theorem dksX3_laysKiln_0 : cX3_laysKiln.data.toList.drop 0 = dktX3_laysKiln_0 := by decide +kernel
theorem dX3_laysKiln_0 : decode cX3_laysKiln 0 = .ok (.aload_n 0, 1) := dk_42 (dk_at dksX3_laysKiln_0 0 rfl rfl)
theorem dX3_laysKiln_1 : decode cX3_laysKiln 1 = .ok (.getfield 7, 3) := dk_180 0 7 (dk_at dksX3_laysKiln_0 1 rfl rfl)
theorem dX3_laysKiln_4 : decode cX3_laysKiln 4 = .ok (.bipush 88, 2) := dk_16 88 (dk_at dksX3_laysKiln_0 4 rfl rfl)
theorem dX3_laysKiln_6 : decode cX3_laysKiln 6 = .ok (.iconst 4, 1) := dk_7 (dk_at dksX3_laysKiln_0 6 rfl rfl)
theorem dX3_laysKiln_7 : decode cX3_laysKiln 7 = .ok (.iload_n 1, 1) := dk_27 (dk_at dksX3_laysKiln_0 7 rfl rfl)
theorem dX3_laysKiln_8 : decode cX3_laysKiln 8 = .ok (.imul, 1) := dk_104 (dk_at dksX3_laysKiln_0 8 rfl rfl)
theorem dX3_laysKiln_9 : decode cX3_laysKiln 9 = .ok (.iadd, 1) := dk_96 (dk_at dksX3_laysKiln_0 9 rfl rfl)
theorem dX3_laysKiln_10 : decode cX3_laysKiln 10 = .ok (.iload_n 2, 1) := dk_28 (dk_at dksX3_laysKiln_0 10 rfl rfl)
theorem dX3_laysKiln_11 : decode cX3_laysKiln 11 = .ok (.iadd, 1) := dk_96 (dk_at dksX3_laysKiln_0 11 rfl rfl)
theorem dX3_laysKiln_12 : decode cX3_laysKiln 12 = .ok (.iload_n 3, 1) := dk_29 (dk_at dksX3_laysKiln_0 12 rfl rfl)
theorem dX3_laysKiln_13 : decode cX3_laysKiln 13 = .ok (.iastore, 1) := dk_79 (dk_at dksX3_laysKiln_0 13 rfl rfl)
theorem dX3_laysKiln_14 : decode cX3_laysKiln 14 = .ok (.return_, 1) := dk_177 (dk_at dksX3_laysKiln_0 14 rfl rfl)
abbrev cX3_kilnOf : ByteArray := prog_24_method_36_code
def yX3_kilnOf : MethodName := ⟨RX3, "kilnOf", "(II)I"⟩
def dkwX3_kilnOf_1 : List UInt8 := [167, 0, 4, 5, 182, 0, 66, 153, 0, 7, 3, 167, 0, 9, 42, 27, 28, 182, 0, 109, 172]
abbrev dktX3_kilnOf_1 : List UInt8 := dkwX3_kilnOf_1 ++ []
def dkwX3_kilnOf_0 : List UInt8 := [42, 42, 27, 182, 0, 115, 154, 0, 7, 4, 167, 0, 17, 28, 3, 6, 184, 0, 62, 153, 0, 7, 3]
abbrev dktX3_kilnOf_0 : List UInt8 := dkwX3_kilnOf_0 ++ dktX3_kilnOf_1
theorem dksX3_kilnOf_0 : cX3_kilnOf.data.toList.drop 0 = dktX3_kilnOf_0 := by decide +kernel
theorem dksX3_kilnOf_1 : cX3_kilnOf.data.toList.drop 23 = dktX3_kilnOf_1 := dk_seg dksX3_kilnOf_0 23 rfl rfl
theorem dX3_kilnOf_0 : decode cX3_kilnOf 0 = .ok (.aload_n 0, 1) := dk_42 (dk_at dksX3_kilnOf_0 0 rfl rfl)
theorem dX3_kilnOf_1 : decode cX3_kilnOf 1 = .ok (.aload_n 0, 1) := dk_42 (dk_at dksX3_kilnOf_0 1 rfl rfl)
theorem dX3_kilnOf_2 : decode cX3_kilnOf 2 = .ok (.iload_n 1, 1) := dk_27 (dk_at dksX3_kilnOf_0 2 rfl rfl)
theorem dX3_kilnOf_3 : decode cX3_kilnOf 3 = .ok (.invokevirtual 115, 3) := dk_182 0 115 (dk_at dksX3_kilnOf_0 3 rfl rfl)
theorem dX3_kilnOf_6 : decode cX3_kilnOf 6 = .ok (.ifCond .ne 7, 3) := dk_154 0 7 (dk_at dksX3_kilnOf_0 6 rfl rfl)
theorem dX3_kilnOf_9 : decode cX3_kilnOf 9 = .ok (.iconst 1, 1) := dk_4 (dk_at dksX3_kilnOf_0 9 rfl rfl)
theorem dX3_kilnOf_10 : decode cX3_kilnOf 10 = .ok (.goto 17, 3) := dk_167 0 17 (dk_at dksX3_kilnOf_0 10 rfl rfl)
theorem dX3_kilnOf_13 : decode cX3_kilnOf 13 = .ok (.iload_n 2, 1) := dk_28 (dk_at dksX3_kilnOf_0 13 rfl rfl)
theorem dX3_kilnOf_14 : decode cX3_kilnOf 14 = .ok (.iconst 0, 1) := dk_3 (dk_at dksX3_kilnOf_0 14 rfl rfl)
theorem dX3_kilnOf_15 : decode cX3_kilnOf 15 = .ok (.iconst 3, 1) := dk_6 (dk_at dksX3_kilnOf_0 15 rfl rfl)
theorem dX3_kilnOf_16 : decode cX3_kilnOf 16 = .ok (.invokestatic 62, 3) := dk_184 0 62 (dk_at dksX3_kilnOf_0 16 rfl rfl)
theorem dX3_kilnOf_19 : decode cX3_kilnOf 19 = .ok (.ifCond .eq 7, 3) := dk_153 0 7 (dk_at dksX3_kilnOf_0 19 rfl rfl)
theorem dX3_kilnOf_22 : decode cX3_kilnOf 22 = .ok (.iconst 0, 1) := dk_3 (dk_at dksX3_kilnOf_0 22 rfl rfl)
theorem dX3_kilnOf_23 : decode cX3_kilnOf 23 = .ok (.goto 4, 3) := dk_167 0 4 (dk_at dksX3_kilnOf_1 0 rfl rfl)
theorem dX3_kilnOf_26 : decode cX3_kilnOf 26 = .ok (.iconst 2, 1) := dk_5 (dk_at dksX3_kilnOf_1 3 rfl rfl)
theorem dX3_kilnOf_27 : decode cX3_kilnOf 27 = .ok (.invokevirtual 66, 3) := dk_182 0 66 (dk_at dksX3_kilnOf_1 4 rfl rfl)
theorem dX3_kilnOf_30 : decode cX3_kilnOf 30 = .ok (.ifCond .eq 7, 3) := dk_153 0 7 (dk_at dksX3_kilnOf_1 7 rfl rfl)
theorem dX3_kilnOf_33 : decode cX3_kilnOf 33 = .ok (.iconst 0, 1) := dk_3 (dk_at dksX3_kilnOf_1 10 rfl rfl)
theorem dX3_kilnOf_34 : decode cX3_kilnOf 34 = .ok (.goto 9, 3) := dk_167 0 9 (dk_at dksX3_kilnOf_1 11 rfl rfl)
theorem dX3_kilnOf_37 : decode cX3_kilnOf 37 = .ok (.aload_n 0, 1) := dk_42 (dk_at dksX3_kilnOf_1 14 rfl rfl)
theorem dX3_kilnOf_38 : decode cX3_kilnOf 38 = .ok (.iload_n 1, 1) := dk_27 (dk_at dksX3_kilnOf_1 15 rfl rfl)
theorem dX3_kilnOf_39 : decode cX3_kilnOf 39 = .ok (.iload_n 2, 1) := dk_28 (dk_at dksX3_kilnOf_1 16 rfl rfl)
theorem dX3_kilnOf_40 : decode cX3_kilnOf 40 = .ok (.invokevirtual 109, 3) := dk_182 0 109 (dk_at dksX3_kilnOf_1 17 rfl rfl)
theorem dX3_kilnOf_43 : decode cX3_kilnOf 43 = .ok (.ireturn, 1) := dk_172 (dk_at dksX3_kilnOf_1 20 rfl rfl)
abbrev cX3_isKiln : ByteArray := prog_24_method_13_code
def yX3_isKiln : MethodName := ⟨RX3, "isKiln", "(I)Z"⟩
def dkwX3_isKiln_0 : List UInt8 := [27, 3, 42, 180, 0, 7, 16, 87, 46, 4, 100, 184, 0, 62, 172]
abbrev dktX3_isKiln_0 : List UInt8 := dkwX3_isKiln_0 ++ []
theorem dksX3_isKiln_0 : cX3_isKiln.data.toList.drop 0 = dktX3_isKiln_0 := by decide +kernel
theorem dX3_isKiln_0 : decode cX3_isKiln 0 = .ok (.iload_n 1, 1) := dk_27 (dk_at dksX3_isKiln_0 0 rfl rfl)
theorem dX3_isKiln_1 : decode cX3_isKiln 1 = .ok (.iconst 0, 1) := dk_3 (dk_at dksX3_isKiln_0 1 rfl rfl)
theorem dX3_isKiln_2 : decode cX3_isKiln 2 = .ok (.aload_n 0, 1) := dk_42 (dk_at dksX3_isKiln_0 2 rfl rfl)
theorem dX3_isKiln_3 : decode cX3_isKiln 3 = .ok (.getfield 7, 3) := dk_180 0 7 (dk_at dksX3_isKiln_0 3 rfl rfl)
theorem dX3_isKiln_6 : decode cX3_isKiln 6 = .ok (.bipush 87, 2) := dk_16 87 (dk_at dksX3_isKiln_0 6 rfl rfl)
theorem dX3_isKiln_8 : decode cX3_isKiln 8 = .ok (.iaload, 1) := dk_46 (dk_at dksX3_isKiln_0 8 rfl rfl)
theorem dX3_isKiln_9 : decode cX3_isKiln 9 = .ok (.iconst 1, 1) := dk_4 (dk_at dksX3_isKiln_0 9 rfl rfl)
theorem dX3_isKiln_10 : decode cX3_isKiln 10 = .ok (.isub, 1) := dk_100 (dk_at dksX3_isKiln_0 10 rfl rfl)
theorem dX3_isKiln_11 : decode cX3_isKiln 11 = .ok (.invokestatic 62, 3) := dk_184 0 62 (dk_at dksX3_isKiln_0 11 rfl rfl)
theorem dX3_isKiln_14 : decode cX3_isKiln 14 = .ok (.ireturn, 1) := dk_172 (dk_at dksX3_isKiln_0 14 rfl rfl)
abbrev cX3_fire : ByteArray := prog_24_method_37_code
def yX3_fire : MethodName := ⟨RX3, "fire", "(III)I"⟩
def dkwX3_fire_8 : List UInt8 := [27, 182, 0, 112, 42, 28, 5, 16, 8, 5, 29, 104, 96, 182, 0, 112, 16, 8, 5, 29, 104, 96, 172]
abbrev dktX3_fire_8 : List UInt8 := dkwX3_fire_8 ++ []
def dkwX3_fire_7 : List UInt8 := [42, 27, 4, 5, 182, 0, 105, 42, 27, 6, 28, 182, 0, 105, 42, 27, 7, 29, 182, 0, 105, 42, 28, 4]
abbrev dktX3_fire_7 : List UInt8 := dkwX3_fire_7 ++ dktX3_fire_8
def dkwX3_fire_6 : List UInt8 := [180, 0, 7, 6, 46, 100, 182, 0, 70, 172, 42, 42, 180, 0, 7, 182, 0, 74, 42, 21, 4, 182, 0, 78]
abbrev dktX3_fire_6 : List UInt8 := dkwX3_fire_6 ++ dktX3_fire_7
def dkwX3_fire_5 : List UInt8 := [182, 0, 70, 172, 42, 180, 0, 7, 6, 46, 21, 4, 162, 0, 20, 42, 6, 16, 6, 21, 4, 42]
abbrev dktX3_fire_5 : List UInt8 := dkwX3_fire_5 ++ dktX3_fire_6
def dkwX3_fire_4 : List UInt8 := [28, 3, 182, 0, 109, 42, 27, 3, 182, 0, 102, 162, 0, 16, 42, 6, 8, 42, 28, 3, 182, 0, 109]
abbrev dktX3_fire_4 : List UInt8 := dkwX3_fire_4 ++ dktX3_fire_5
def dkwX3_fire_3 : List UInt8 := [172, 42, 28, 4, 182, 0, 109, 155, 0, 16, 42, 6, 7, 42, 28, 4, 182, 0, 109, 182, 0, 70, 172, 42]
abbrev dktX3_fire_3 : List UInt8 := dkwX3_fire_3 ++ dktX3_fire_4
def dkwX3_fire_2 : List UInt8 := [54, 4, 42, 27, 4, 182, 0, 102, 4, 159, 0, 16, 42, 6, 4, 42, 27, 4, 182, 0, 102, 182, 0, 70]
abbrev dktX3_fire_2 : List UInt8 := dkwX3_fire_2 ++ dktX3_fire_3
def dkwX3_fire_1 : List UInt8 := [16, 9, 184, 0, 62, 153, 0, 7, 3, 167, 0, 4, 5, 182, 0, 66, 153, 0, 5, 3, 172, 29, 5, 96]
abbrev dktX3_fire_1 : List UInt8 := dkwX3_fire_1 ++ dktX3_fire_2
def dkwX3_fire_0 : List UInt8 := [42, 42, 27, 182, 0, 99, 153, 0, 11, 42, 28, 182, 0, 115, 154, 0, 7, 4, 167, 0, 18, 29, 3]
abbrev dktX3_fire_0 : List UInt8 := dkwX3_fire_0 ++ dktX3_fire_1
theorem dksX3_fire_0 : cX3_fire.data.toList.drop 0 = dktX3_fire_0 := by decide +kernel
theorem dksX3_fire_1 : cX3_fire.data.toList.drop 23 = dktX3_fire_1 := dk_seg dksX3_fire_0 23 rfl rfl
theorem dksX3_fire_2 : cX3_fire.data.toList.drop 47 = dktX3_fire_2 := dk_seg dksX3_fire_1 24 rfl rfl
theorem dksX3_fire_3 : cX3_fire.data.toList.drop 71 = dktX3_fire_3 := dk_seg dksX3_fire_2 24 rfl rfl
theorem dksX3_fire_4 : cX3_fire.data.toList.drop 95 = dktX3_fire_4 := dk_seg dksX3_fire_3 24 rfl rfl
theorem dksX3_fire_5 : cX3_fire.data.toList.drop 118 = dktX3_fire_5 := dk_seg dksX3_fire_4 23 rfl rfl
theorem dksX3_fire_6 : cX3_fire.data.toList.drop 140 = dktX3_fire_6 := dk_seg dksX3_fire_5 22 rfl rfl
theorem dksX3_fire_7 : cX3_fire.data.toList.drop 164 = dktX3_fire_7 := dk_seg dksX3_fire_6 24 rfl rfl
theorem dksX3_fire_8 : cX3_fire.data.toList.drop 188 = dktX3_fire_8 := dk_seg dksX3_fire_7 24 rfl rfl
theorem dX3_fire_0 : decode cX3_fire 0 = .ok (.aload_n 0, 1) := dk_42 (dk_at dksX3_fire_0 0 rfl rfl)
theorem dX3_fire_1 : decode cX3_fire 1 = .ok (.aload_n 0, 1) := dk_42 (dk_at dksX3_fire_0 1 rfl rfl)
theorem dX3_fire_2 : decode cX3_fire 2 = .ok (.iload_n 1, 1) := dk_27 (dk_at dksX3_fire_0 2 rfl rfl)
theorem dX3_fire_3 : decode cX3_fire 3 = .ok (.invokevirtual 99, 3) := dk_182 0 99 (dk_at dksX3_fire_0 3 rfl rfl)
theorem dX3_fire_6 : decode cX3_fire 6 = .ok (.ifCond .eq 11, 3) := dk_153 0 11 (dk_at dksX3_fire_0 6 rfl rfl)
theorem dX3_fire_9 : decode cX3_fire 9 = .ok (.aload_n 0, 1) := dk_42 (dk_at dksX3_fire_0 9 rfl rfl)
theorem dX3_fire_10 : decode cX3_fire 10 = .ok (.iload_n 2, 1) := dk_28 (dk_at dksX3_fire_0 10 rfl rfl)
theorem dX3_fire_11 : decode cX3_fire 11 = .ok (.invokevirtual 115, 3) := dk_182 0 115 (dk_at dksX3_fire_0 11 rfl rfl)
theorem dX3_fire_14 : decode cX3_fire 14 = .ok (.ifCond .ne 7, 3) := dk_154 0 7 (dk_at dksX3_fire_0 14 rfl rfl)
theorem dX3_fire_17 : decode cX3_fire 17 = .ok (.iconst 1, 1) := dk_4 (dk_at dksX3_fire_0 17 rfl rfl)
theorem dX3_fire_18 : decode cX3_fire 18 = .ok (.goto 18, 3) := dk_167 0 18 (dk_at dksX3_fire_0 18 rfl rfl)
theorem dX3_fire_21 : decode cX3_fire 21 = .ok (.iload_n 3, 1) := dk_29 (dk_at dksX3_fire_0 21 rfl rfl)
theorem dX3_fire_22 : decode cX3_fire 22 = .ok (.iconst 0, 1) := dk_3 (dk_at dksX3_fire_0 22 rfl rfl)
theorem dX3_fire_23 : decode cX3_fire 23 = .ok (.bipush 9, 2) := dk_16 9 (dk_at dksX3_fire_1 0 rfl rfl)
theorem dX3_fire_25 : decode cX3_fire 25 = .ok (.invokestatic 62, 3) := dk_184 0 62 (dk_at dksX3_fire_1 2 rfl rfl)
theorem dX3_fire_28 : decode cX3_fire 28 = .ok (.ifCond .eq 7, 3) := dk_153 0 7 (dk_at dksX3_fire_1 5 rfl rfl)
theorem dX3_fire_31 : decode cX3_fire 31 = .ok (.iconst 0, 1) := dk_3 (dk_at dksX3_fire_1 8 rfl rfl)
theorem dX3_fire_32 : decode cX3_fire 32 = .ok (.goto 4, 3) := dk_167 0 4 (dk_at dksX3_fire_1 9 rfl rfl)
theorem dX3_fire_35 : decode cX3_fire 35 = .ok (.iconst 2, 1) := dk_5 (dk_at dksX3_fire_1 12 rfl rfl)
theorem dX3_fire_36 : decode cX3_fire 36 = .ok (.invokevirtual 66, 3) := dk_182 0 66 (dk_at dksX3_fire_1 13 rfl rfl)
theorem dX3_fire_39 : decode cX3_fire 39 = .ok (.ifCond .eq 5, 3) := dk_153 0 5 (dk_at dksX3_fire_1 16 rfl rfl)
theorem dX3_fire_42 : decode cX3_fire 42 = .ok (.iconst 0, 1) := dk_3 (dk_at dksX3_fire_1 19 rfl rfl)
theorem dX3_fire_43 : decode cX3_fire 43 = .ok (.ireturn, 1) := dk_172 (dk_at dksX3_fire_1 20 rfl rfl)
theorem dX3_fire_44 : decode cX3_fire 44 = .ok (.iload_n 3, 1) := dk_29 (dk_at dksX3_fire_1 21 rfl rfl)
theorem dX3_fire_45 : decode cX3_fire 45 = .ok (.iconst 2, 1) := dk_5 (dk_at dksX3_fire_1 22 rfl rfl)
theorem dX3_fire_46 : decode cX3_fire 46 = .ok (.iadd, 1) := dk_96 (dk_at dksX3_fire_1 23 rfl rfl)
theorem dX3_fire_47 : decode cX3_fire 47 = .ok (.istore 4, 2) := dk_54 4 (dk_at dksX3_fire_2 0 rfl rfl)
theorem dX3_fire_49 : decode cX3_fire 49 = .ok (.aload_n 0, 1) := dk_42 (dk_at dksX3_fire_2 2 rfl rfl)
theorem dX3_fire_50 : decode cX3_fire 50 = .ok (.iload_n 1, 1) := dk_27 (dk_at dksX3_fire_2 3 rfl rfl)
theorem dX3_fire_51 : decode cX3_fire 51 = .ok (.iconst 1, 1) := dk_4 (dk_at dksX3_fire_2 4 rfl rfl)
theorem dX3_fire_52 : decode cX3_fire 52 = .ok (.invokevirtual 102, 3) := dk_182 0 102 (dk_at dksX3_fire_2 5 rfl rfl)
theorem dX3_fire_55 : decode cX3_fire 55 = .ok (.iconst 1, 1) := dk_4 (dk_at dksX3_fire_2 8 rfl rfl)
theorem dX3_fire_56 : decode cX3_fire 56 = .ok (.if_icmp .eq 16, 3) := dk_159 0 16 (dk_at dksX3_fire_2 9 rfl rfl)
theorem dX3_fire_59 : decode cX3_fire 59 = .ok (.aload_n 0, 1) := dk_42 (dk_at dksX3_fire_2 12 rfl rfl)
theorem dX3_fire_60 : decode cX3_fire 60 = .ok (.iconst 3, 1) := dk_6 (dk_at dksX3_fire_2 13 rfl rfl)
theorem dX3_fire_61 : decode cX3_fire 61 = .ok (.iconst 1, 1) := dk_4 (dk_at dksX3_fire_2 14 rfl rfl)
theorem dX3_fire_62 : decode cX3_fire 62 = .ok (.aload_n 0, 1) := dk_42 (dk_at dksX3_fire_2 15 rfl rfl)
theorem dX3_fire_63 : decode cX3_fire 63 = .ok (.iload_n 1, 1) := dk_27 (dk_at dksX3_fire_2 16 rfl rfl)
theorem dX3_fire_64 : decode cX3_fire 64 = .ok (.iconst 1, 1) := dk_4 (dk_at dksX3_fire_2 17 rfl rfl)
theorem dX3_fire_65 : decode cX3_fire 65 = .ok (.invokevirtual 102, 3) := dk_182 0 102 (dk_at dksX3_fire_2 18 rfl rfl)
theorem dX3_fire_68 : decode cX3_fire 68 = .ok (.invokevirtual 70, 3) := dk_182 0 70 (dk_at dksX3_fire_2 21 rfl rfl)
theorem dX3_fire_71 : decode cX3_fire 71 = .ok (.ireturn, 1) := dk_172 (dk_at dksX3_fire_3 0 rfl rfl)
theorem dX3_fire_72 : decode cX3_fire 72 = .ok (.aload_n 0, 1) := dk_42 (dk_at dksX3_fire_3 1 rfl rfl)
theorem dX3_fire_73 : decode cX3_fire 73 = .ok (.iload_n 2, 1) := dk_28 (dk_at dksX3_fire_3 2 rfl rfl)
theorem dX3_fire_74 : decode cX3_fire 74 = .ok (.iconst 1, 1) := dk_4 (dk_at dksX3_fire_3 3 rfl rfl)
theorem dX3_fire_75 : decode cX3_fire 75 = .ok (.invokevirtual 109, 3) := dk_182 0 109 (dk_at dksX3_fire_3 4 rfl rfl)
theorem dX3_fire_78 : decode cX3_fire 78 = .ok (.ifCond .lt 16, 3) := dk_155 0 16 (dk_at dksX3_fire_3 7 rfl rfl)
theorem dX3_fire_81 : decode cX3_fire 81 = .ok (.aload_n 0, 1) := dk_42 (dk_at dksX3_fire_3 10 rfl rfl)
theorem dX3_fire_82 : decode cX3_fire 82 = .ok (.iconst 3, 1) := dk_6 (dk_at dksX3_fire_3 11 rfl rfl)
theorem dX3_fire_83 : decode cX3_fire 83 = .ok (.iconst 4, 1) := dk_7 (dk_at dksX3_fire_3 12 rfl rfl)
theorem dX3_fire_84 : decode cX3_fire 84 = .ok (.aload_n 0, 1) := dk_42 (dk_at dksX3_fire_3 13 rfl rfl)
theorem dX3_fire_85 : decode cX3_fire 85 = .ok (.iload_n 2, 1) := dk_28 (dk_at dksX3_fire_3 14 rfl rfl)
theorem dX3_fire_86 : decode cX3_fire 86 = .ok (.iconst 1, 1) := dk_4 (dk_at dksX3_fire_3 15 rfl rfl)
theorem dX3_fire_87 : decode cX3_fire 87 = .ok (.invokevirtual 109, 3) := dk_182 0 109 (dk_at dksX3_fire_3 16 rfl rfl)
theorem dX3_fire_90 : decode cX3_fire 90 = .ok (.invokevirtual 70, 3) := dk_182 0 70 (dk_at dksX3_fire_3 19 rfl rfl)
theorem dX3_fire_93 : decode cX3_fire 93 = .ok (.ireturn, 1) := dk_172 (dk_at dksX3_fire_3 22 rfl rfl)
theorem dX3_fire_94 : decode cX3_fire 94 = .ok (.aload_n 0, 1) := dk_42 (dk_at dksX3_fire_3 23 rfl rfl)
theorem dX3_fire_95 : decode cX3_fire 95 = .ok (.iload_n 2, 1) := dk_28 (dk_at dksX3_fire_4 0 rfl rfl)
theorem dX3_fire_96 : decode cX3_fire 96 = .ok (.iconst 0, 1) := dk_3 (dk_at dksX3_fire_4 1 rfl rfl)
theorem dX3_fire_97 : decode cX3_fire 97 = .ok (.invokevirtual 109, 3) := dk_182 0 109 (dk_at dksX3_fire_4 2 rfl rfl)
theorem dX3_fire_100 : decode cX3_fire 100 = .ok (.aload_n 0, 1) := dk_42 (dk_at dksX3_fire_4 5 rfl rfl)
theorem dX3_fire_101 : decode cX3_fire 101 = .ok (.iload_n 1, 1) := dk_27 (dk_at dksX3_fire_4 6 rfl rfl)
theorem dX3_fire_102 : decode cX3_fire 102 = .ok (.iconst 0, 1) := dk_3 (dk_at dksX3_fire_4 7 rfl rfl)
theorem dX3_fire_103 : decode cX3_fire 103 = .ok (.invokevirtual 102, 3) := dk_182 0 102 (dk_at dksX3_fire_4 8 rfl rfl)
theorem dX3_fire_106 : decode cX3_fire 106 = .ok (.if_icmp .ge 16, 3) := dk_162 0 16 (dk_at dksX3_fire_4 11 rfl rfl)
theorem dX3_fire_109 : decode cX3_fire 109 = .ok (.aload_n 0, 1) := dk_42 (dk_at dksX3_fire_4 14 rfl rfl)
theorem dX3_fire_110 : decode cX3_fire 110 = .ok (.iconst 3, 1) := dk_6 (dk_at dksX3_fire_4 15 rfl rfl)
theorem dX3_fire_111 : decode cX3_fire 111 = .ok (.iconst 5, 1) := dk_8 (dk_at dksX3_fire_4 16 rfl rfl)
theorem dX3_fire_112 : decode cX3_fire 112 = .ok (.aload_n 0, 1) := dk_42 (dk_at dksX3_fire_4 17 rfl rfl)
theorem dX3_fire_113 : decode cX3_fire 113 = .ok (.iload_n 2, 1) := dk_28 (dk_at dksX3_fire_4 18 rfl rfl)
theorem dX3_fire_114 : decode cX3_fire 114 = .ok (.iconst 0, 1) := dk_3 (dk_at dksX3_fire_4 19 rfl rfl)
theorem dX3_fire_115 : decode cX3_fire 115 = .ok (.invokevirtual 109, 3) := dk_182 0 109 (dk_at dksX3_fire_4 20 rfl rfl)
theorem dX3_fire_118 : decode cX3_fire 118 = .ok (.invokevirtual 70, 3) := dk_182 0 70 (dk_at dksX3_fire_5 0 rfl rfl)
theorem dX3_fire_121 : decode cX3_fire 121 = .ok (.ireturn, 1) := dk_172 (dk_at dksX3_fire_5 3 rfl rfl)
theorem dX3_fire_122 : decode cX3_fire 122 = .ok (.aload_n 0, 1) := dk_42 (dk_at dksX3_fire_5 4 rfl rfl)
theorem dX3_fire_123 : decode cX3_fire 123 = .ok (.getfield 7, 3) := dk_180 0 7 (dk_at dksX3_fire_5 5 rfl rfl)
theorem dX3_fire_126 : decode cX3_fire 126 = .ok (.iconst 3, 1) := dk_6 (dk_at dksX3_fire_5 8 rfl rfl)
theorem dX3_fire_127 : decode cX3_fire 127 = .ok (.iaload, 1) := dk_46 (dk_at dksX3_fire_5 9 rfl rfl)
theorem dX3_fire_128 : decode cX3_fire 128 = .ok (.iload 4, 2) := dk_21 4 (dk_at dksX3_fire_5 10 rfl rfl)
theorem dX3_fire_130 : decode cX3_fire 130 = .ok (.if_icmp .ge 20, 3) := dk_162 0 20 (dk_at dksX3_fire_5 12 rfl rfl)
theorem dX3_fire_133 : decode cX3_fire 133 = .ok (.aload_n 0, 1) := dk_42 (dk_at dksX3_fire_5 15 rfl rfl)
theorem dX3_fire_134 : decode cX3_fire 134 = .ok (.iconst 3, 1) := dk_6 (dk_at dksX3_fire_5 16 rfl rfl)
theorem dX3_fire_135 : decode cX3_fire 135 = .ok (.bipush 6, 2) := dk_16 6 (dk_at dksX3_fire_5 17 rfl rfl)
theorem dX3_fire_137 : decode cX3_fire 137 = .ok (.iload 4, 2) := dk_21 4 (dk_at dksX3_fire_5 19 rfl rfl)
theorem dX3_fire_139 : decode cX3_fire 139 = .ok (.aload_n 0, 1) := dk_42 (dk_at dksX3_fire_5 21 rfl rfl)
theorem dX3_fire_140 : decode cX3_fire 140 = .ok (.getfield 7, 3) := dk_180 0 7 (dk_at dksX3_fire_6 0 rfl rfl)
theorem dX3_fire_143 : decode cX3_fire 143 = .ok (.iconst 3, 1) := dk_6 (dk_at dksX3_fire_6 3 rfl rfl)
theorem dX3_fire_144 : decode cX3_fire 144 = .ok (.iaload, 1) := dk_46 (dk_at dksX3_fire_6 4 rfl rfl)
theorem dX3_fire_145 : decode cX3_fire 145 = .ok (.isub, 1) := dk_100 (dk_at dksX3_fire_6 5 rfl rfl)
theorem dX3_fire_146 : decode cX3_fire 146 = .ok (.invokevirtual 70, 3) := dk_182 0 70 (dk_at dksX3_fire_6 6 rfl rfl)
theorem dX3_fire_149 : decode cX3_fire 149 = .ok (.ireturn, 1) := dk_172 (dk_at dksX3_fire_6 9 rfl rfl)
theorem dX3_fire_150 : decode cX3_fire 150 = .ok (.aload_n 0, 1) := dk_42 (dk_at dksX3_fire_6 10 rfl rfl)
theorem dX3_fire_151 : decode cX3_fire 151 = .ok (.aload_n 0, 1) := dk_42 (dk_at dksX3_fire_6 11 rfl rfl)
theorem dX3_fire_152 : decode cX3_fire 152 = .ok (.getfield 7, 3) := dk_180 0 7 (dk_at dksX3_fire_6 12 rfl rfl)
theorem dX3_fire_155 : decode cX3_fire 155 = .ok (.invokevirtual 74, 3) := dk_182 0 74 (dk_at dksX3_fire_6 15 rfl rfl)
theorem dX3_fire_158 : decode cX3_fire 158 = .ok (.aload_n 0, 1) := dk_42 (dk_at dksX3_fire_6 18 rfl rfl)
theorem dX3_fire_159 : decode cX3_fire 159 = .ok (.iload 4, 2) := dk_21 4 (dk_at dksX3_fire_6 19 rfl rfl)
theorem dX3_fire_161 : decode cX3_fire 161 = .ok (.invokevirtual 78, 3) := dk_182 0 78 (dk_at dksX3_fire_6 21 rfl rfl)
theorem dX3_fire_164 : decode cX3_fire 164 = .ok (.aload_n 0, 1) := dk_42 (dk_at dksX3_fire_7 0 rfl rfl)
theorem dX3_fire_165 : decode cX3_fire 165 = .ok (.iload_n 1, 1) := dk_27 (dk_at dksX3_fire_7 1 rfl rfl)
theorem dX3_fire_166 : decode cX3_fire 166 = .ok (.iconst 1, 1) := dk_4 (dk_at dksX3_fire_7 2 rfl rfl)
theorem dX3_fire_167 : decode cX3_fire 167 = .ok (.iconst 2, 1) := dk_5 (dk_at dksX3_fire_7 3 rfl rfl)
theorem dX3_fire_168 : decode cX3_fire 168 = .ok (.invokevirtual 105, 3) := dk_182 0 105 (dk_at dksX3_fire_7 4 rfl rfl)
theorem dX3_fire_171 : decode cX3_fire 171 = .ok (.aload_n 0, 1) := dk_42 (dk_at dksX3_fire_7 7 rfl rfl)
theorem dX3_fire_172 : decode cX3_fire 172 = .ok (.iload_n 1, 1) := dk_27 (dk_at dksX3_fire_7 8 rfl rfl)
theorem dX3_fire_173 : decode cX3_fire 173 = .ok (.iconst 3, 1) := dk_6 (dk_at dksX3_fire_7 9 rfl rfl)
theorem dX3_fire_174 : decode cX3_fire 174 = .ok (.iload_n 2, 1) := dk_28 (dk_at dksX3_fire_7 10 rfl rfl)
theorem dX3_fire_175 : decode cX3_fire 175 = .ok (.invokevirtual 105, 3) := dk_182 0 105 (dk_at dksX3_fire_7 11 rfl rfl)
theorem dX3_fire_178 : decode cX3_fire 178 = .ok (.aload_n 0, 1) := dk_42 (dk_at dksX3_fire_7 14 rfl rfl)
theorem dX3_fire_179 : decode cX3_fire 179 = .ok (.iload_n 1, 1) := dk_27 (dk_at dksX3_fire_7 15 rfl rfl)
theorem dX3_fire_180 : decode cX3_fire 180 = .ok (.iconst 4, 1) := dk_7 (dk_at dksX3_fire_7 16 rfl rfl)
theorem dX3_fire_181 : decode cX3_fire 181 = .ok (.iload_n 3, 1) := dk_29 (dk_at dksX3_fire_7 17 rfl rfl)
theorem dX3_fire_182 : decode cX3_fire 182 = .ok (.invokevirtual 105, 3) := dk_182 0 105 (dk_at dksX3_fire_7 18 rfl rfl)
theorem dX3_fire_185 : decode cX3_fire 185 = .ok (.aload_n 0, 1) := dk_42 (dk_at dksX3_fire_7 21 rfl rfl)
theorem dX3_fire_186 : decode cX3_fire 186 = .ok (.iload_n 2, 1) := dk_28 (dk_at dksX3_fire_7 22 rfl rfl)
theorem dX3_fire_187 : decode cX3_fire 187 = .ok (.iconst 1, 1) := dk_4 (dk_at dksX3_fire_7 23 rfl rfl)
theorem dX3_fire_188 : decode cX3_fire 188 = .ok (.iload_n 1, 1) := dk_27 (dk_at dksX3_fire_8 0 rfl rfl)
theorem dX3_fire_189 : decode cX3_fire 189 = .ok (.invokevirtual 112, 3) := dk_182 0 112 (dk_at dksX3_fire_8 1 rfl rfl)
theorem dX3_fire_192 : decode cX3_fire 192 = .ok (.aload_n 0, 1) := dk_42 (dk_at dksX3_fire_8 4 rfl rfl)
theorem dX3_fire_193 : decode cX3_fire 193 = .ok (.iload_n 2, 1) := dk_28 (dk_at dksX3_fire_8 5 rfl rfl)
theorem dX3_fire_194 : decode cX3_fire 194 = .ok (.iconst 2, 1) := dk_5 (dk_at dksX3_fire_8 6 rfl rfl)
theorem dX3_fire_195 : decode cX3_fire 195 = .ok (.bipush 8, 2) := dk_16 8 (dk_at dksX3_fire_8 7 rfl rfl)
theorem dX3_fire_197 : decode cX3_fire 197 = .ok (.iconst 2, 1) := dk_5 (dk_at dksX3_fire_8 9 rfl rfl)
theorem dX3_fire_198 : decode cX3_fire 198 = .ok (.iload_n 3, 1) := dk_29 (dk_at dksX3_fire_8 10 rfl rfl)
theorem dX3_fire_199 : decode cX3_fire 199 = .ok (.imul, 1) := dk_104 (dk_at dksX3_fire_8 11 rfl rfl)
theorem dX3_fire_200 : decode cX3_fire 200 = .ok (.iadd, 1) := dk_96 (dk_at dksX3_fire_8 12 rfl rfl)
theorem dX3_fire_201 : decode cX3_fire 201 = .ok (.invokevirtual 112, 3) := dk_182 0 112 (dk_at dksX3_fire_8 13 rfl rfl)
theorem dX3_fire_204 : decode cX3_fire 204 = .ok (.bipush 8, 2) := dk_16 8 (dk_at dksX3_fire_8 16 rfl rfl)
theorem dX3_fire_206 : decode cX3_fire 206 = .ok (.iconst 2, 1) := dk_5 (dk_at dksX3_fire_8 18 rfl rfl)
theorem dX3_fire_207 : decode cX3_fire 207 = .ok (.iload_n 3, 1) := dk_29 (dk_at dksX3_fire_8 19 rfl rfl)
theorem dX3_fire_208 : decode cX3_fire 208 = .ok (.imul, 1) := dk_104 (dk_at dksX3_fire_8 20 rfl rfl)
theorem dX3_fire_209 : decode cX3_fire 209 = .ok (.iadd, 1) := dk_96 (dk_at dksX3_fire_8 21 rfl rfl)
theorem dX3_fire_210 : decode cX3_fire 210 = .ok (.ireturn, 1) := dk_172 (dk_at dksX3_fire_8 22 rfl rfl)
abbrev cX3_wouldChip : ByteArray := prog_24_method_39_code
def yX3_wouldChip : MethodName := ⟨RX3, "wouldChip", "(II)I"⟩
def dkwX3_wouldChip_1 : List UInt8 := [167, 0, 4, 5, 182, 0, 66, 153, 0, 7, 3, 167, 0, 9, 42, 27, 28, 182, 0, 118, 172]
abbrev dktX3_wouldChip_1 : List UInt8 := dkwX3_wouldChip_1 ++ []
def dkwX3_wouldChip_0 : List UInt8 := [42, 42, 27, 182, 0, 99, 154, 0, 7, 4, 167, 0, 18, 28, 3, 16, 9, 184, 0, 62, 153, 0, 7, 3]
abbrev dktX3_wouldChip_0 : List UInt8 := dkwX3_wouldChip_0 ++ dktX3_wouldChip_1
theorem dksX3_wouldChip_0 : cX3_wouldChip.data.toList.drop 0 = dktX3_wouldChip_0 := by decide +kernel
theorem dksX3_wouldChip_1 : cX3_wouldChip.data.toList.drop 24 = dktX3_wouldChip_1 := dk_seg dksX3_wouldChip_0 24 rfl rfl
theorem dX3_wouldChip_0 : decode cX3_wouldChip 0 = .ok (.aload_n 0, 1) := dk_42 (dk_at dksX3_wouldChip_0 0 rfl rfl)
theorem dX3_wouldChip_1 : decode cX3_wouldChip 1 = .ok (.aload_n 0, 1) := dk_42 (dk_at dksX3_wouldChip_0 1 rfl rfl)
theorem dX3_wouldChip_2 : decode cX3_wouldChip 2 = .ok (.iload_n 1, 1) := dk_27 (dk_at dksX3_wouldChip_0 2 rfl rfl)
theorem dX3_wouldChip_3 : decode cX3_wouldChip 3 = .ok (.invokevirtual 99, 3) := dk_182 0 99 (dk_at dksX3_wouldChip_0 3 rfl rfl)
theorem dX3_wouldChip_6 : decode cX3_wouldChip 6 = .ok (.ifCond .ne 7, 3) := dk_154 0 7 (dk_at dksX3_wouldChip_0 6 rfl rfl)
theorem dX3_wouldChip_9 : decode cX3_wouldChip 9 = .ok (.iconst 1, 1) := dk_4 (dk_at dksX3_wouldChip_0 9 rfl rfl)
theorem dX3_wouldChip_10 : decode cX3_wouldChip 10 = .ok (.goto 18, 3) := dk_167 0 18 (dk_at dksX3_wouldChip_0 10 rfl rfl)
theorem dX3_wouldChip_13 : decode cX3_wouldChip 13 = .ok (.iload_n 2, 1) := dk_28 (dk_at dksX3_wouldChip_0 13 rfl rfl)
theorem dX3_wouldChip_14 : decode cX3_wouldChip 14 = .ok (.iconst 0, 1) := dk_3 (dk_at dksX3_wouldChip_0 14 rfl rfl)
theorem dX3_wouldChip_15 : decode cX3_wouldChip 15 = .ok (.bipush 9, 2) := dk_16 9 (dk_at dksX3_wouldChip_0 15 rfl rfl)
theorem dX3_wouldChip_17 : decode cX3_wouldChip 17 = .ok (.invokestatic 62, 3) := dk_184 0 62 (dk_at dksX3_wouldChip_0 17 rfl rfl)
theorem dX3_wouldChip_20 : decode cX3_wouldChip 20 = .ok (.ifCond .eq 7, 3) := dk_153 0 7 (dk_at dksX3_wouldChip_0 20 rfl rfl)
theorem dX3_wouldChip_23 : decode cX3_wouldChip 23 = .ok (.iconst 0, 1) := dk_3 (dk_at dksX3_wouldChip_0 23 rfl rfl)
theorem dX3_wouldChip_24 : decode cX3_wouldChip 24 = .ok (.goto 4, 3) := dk_167 0 4 (dk_at dksX3_wouldChip_1 0 rfl rfl)
theorem dX3_wouldChip_27 : decode cX3_wouldChip 27 = .ok (.iconst 2, 1) := dk_5 (dk_at dksX3_wouldChip_1 3 rfl rfl)
theorem dX3_wouldChip_28 : decode cX3_wouldChip 28 = .ok (.invokevirtual 66, 3) := dk_182 0 66 (dk_at dksX3_wouldChip_1 4 rfl rfl)
theorem dX3_wouldChip_31 : decode cX3_wouldChip 31 = .ok (.ifCond .eq 7, 3) := dk_153 0 7 (dk_at dksX3_wouldChip_1 7 rfl rfl)
theorem dX3_wouldChip_34 : decode cX3_wouldChip 34 = .ok (.iconst 0, 1) := dk_3 (dk_at dksX3_wouldChip_1 10 rfl rfl)
theorem dX3_wouldChip_35 : decode cX3_wouldChip 35 = .ok (.goto 9, 3) := dk_167 0 9 (dk_at dksX3_wouldChip_1 11 rfl rfl)
theorem dX3_wouldChip_38 : decode cX3_wouldChip 38 = .ok (.aload_n 0, 1) := dk_42 (dk_at dksX3_wouldChip_1 14 rfl rfl)
theorem dX3_wouldChip_39 : decode cX3_wouldChip 39 = .ok (.iload_n 1, 1) := dk_27 (dk_at dksX3_wouldChip_1 15 rfl rfl)
theorem dX3_wouldChip_40 : decode cX3_wouldChip 40 = .ok (.iload_n 2, 1) := dk_28 (dk_at dksX3_wouldChip_1 16 rfl rfl)
theorem dX3_wouldChip_41 : decode cX3_wouldChip 41 = .ok (.invokevirtual 118, 3) := dk_182 0 118 (dk_at dksX3_wouldChip_1 17 rfl rfl)
theorem dX3_wouldChip_44 : decode cX3_wouldChip 44 = .ok (.ireturn, 1) := dk_172 (dk_at dksX3_wouldChip_1 20 rfl rfl)
abbrev cX3_chips : ByteArray := prog_24_method_38_code
def yX3_chips : MethodName := ⟨RX3, "chips", "(II)I"⟩
def dkwX3_chips_0 : List UInt8 := [42, 27, 3, 182, 0, 102, 3, 28, 16, 6, 100, 184, 0, 86, 4, 100, 184, 0, 90, 104, 16, 10, 108, 172]
abbrev dktX3_chips_0 : List UInt8 := dkwX3_chips_0 ++ []
theorem dksX3_chips_0 : cX3_chips.data.toList.drop 0 = dktX3_chips_0 := by decide +kernel
theorem dX3_chips_0 : decode cX3_chips 0 = .ok (.aload_n 0, 1) := dk_42 (dk_at dksX3_chips_0 0 rfl rfl)
theorem dX3_chips_1 : decode cX3_chips 1 = .ok (.iload_n 1, 1) := dk_27 (dk_at dksX3_chips_0 1 rfl rfl)
theorem dX3_chips_2 : decode cX3_chips 2 = .ok (.iconst 0, 1) := dk_3 (dk_at dksX3_chips_0 2 rfl rfl)
theorem dX3_chips_3 : decode cX3_chips 3 = .ok (.invokevirtual 102, 3) := dk_182 0 102 (dk_at dksX3_chips_0 3 rfl rfl)
theorem dX3_chips_6 : decode cX3_chips 6 = .ok (.iconst 0, 1) := dk_3 (dk_at dksX3_chips_0 6 rfl rfl)
theorem dX3_chips_7 : decode cX3_chips 7 = .ok (.iload_n 2, 1) := dk_28 (dk_at dksX3_chips_0 7 rfl rfl)
theorem dX3_chips_8 : decode cX3_chips 8 = .ok (.bipush 6, 2) := dk_16 6 (dk_at dksX3_chips_0 8 rfl rfl)
theorem dX3_chips_10 : decode cX3_chips 10 = .ok (.isub, 1) := dk_100 (dk_at dksX3_chips_0 10 rfl rfl)
theorem dX3_chips_11 : decode cX3_chips 11 = .ok (.invokestatic 86, 3) := dk_184 0 86 (dk_at dksX3_chips_0 11 rfl rfl)
theorem dX3_chips_14 : decode cX3_chips 14 = .ok (.iconst 1, 1) := dk_4 (dk_at dksX3_chips_0 14 rfl rfl)
theorem dX3_chips_15 : decode cX3_chips 15 = .ok (.isub, 1) := dk_100 (dk_at dksX3_chips_0 15 rfl rfl)
theorem dX3_chips_16 : decode cX3_chips 16 = .ok (.invokestatic 90, 3) := dk_184 0 90 (dk_at dksX3_chips_0 16 rfl rfl)
theorem dX3_chips_19 : decode cX3_chips 19 = .ok (.imul, 1) := dk_104 (dk_at dksX3_chips_0 19 rfl rfl)
theorem dX3_chips_20 : decode cX3_chips 20 = .ok (.bipush 10, 2) := dk_16 10 (dk_at dksX3_chips_0 20 rfl rfl)
theorem dX3_chips_22 : decode cX3_chips 22 = .ok (.idiv, 1) := dk_108 (dk_at dksX3_chips_0 22 rfl rfl)
theorem dX3_chips_23 : decode cX3_chips 23 = .ok (.ireturn, 1) := dk_172 (dk_at dksX3_chips_0 23 rfl rfl)
abbrev cX3_firstDone : ByteArray := prog_24_method_40_code
def yX3_firstDone : MethodName := ⟨RX3, "firstDone", "()I"⟩
def dkwX3_firstDone_3 : List UInt8 := [172]
abbrev dktX3_firstDone_3 : List UInt8 := dkwX3_firstDone_3 ++ []
def dkwX3_firstDone_2 : List UInt8 := [167, 255, 212, 42, 27, 156, 0, 7, 4, 167, 0, 4, 3, 182, 0, 66, 153, 0, 7, 3, 167, 0, 4, 27]
abbrev dktX3_firstDone_2 : List UInt8 := dkwX3_firstDone_2 ++ dktX3_firstDone_3
def dkwX3_firstDone_1 : List UInt8 := [27, 155, 0, 18, 42, 28, 5, 182, 0, 109, 42, 27, 5, 182, 0, 109, 162, 0, 5, 28, 60, 132, 2, 1]
abbrev dktX3_firstDone_1 : List UInt8 := dkwX3_firstDone_1 ++ dktX3_firstDone_2
def dkwX3_firstDone_0 : List UInt8 := [2, 60, 3, 61, 28, 42, 180, 0, 7, 16, 87, 46, 162, 0, 39, 42, 28, 4, 182, 0, 109, 155, 0, 24]
abbrev dktX3_firstDone_0 : List UInt8 := dkwX3_firstDone_0 ++ dktX3_firstDone_1
theorem dksX3_firstDone_0 : cX3_firstDone.data.toList.drop 0 = dktX3_firstDone_0 := by decide +kernel
theorem dksX3_firstDone_1 : cX3_firstDone.data.toList.drop 24 = dktX3_firstDone_1 := dk_seg dksX3_firstDone_0 24 rfl rfl
theorem dksX3_firstDone_2 : cX3_firstDone.data.toList.drop 48 = dktX3_firstDone_2 := dk_seg dksX3_firstDone_1 24 rfl rfl
theorem dksX3_firstDone_3 : cX3_firstDone.data.toList.drop 72 = dktX3_firstDone_3 := dk_seg dksX3_firstDone_2 24 rfl rfl
theorem dX3_firstDone_0 : decode cX3_firstDone 0 = .ok (.iconst (-1), 1) := dk_2 (dk_at dksX3_firstDone_0 0 rfl rfl)
theorem dX3_firstDone_1 : decode cX3_firstDone 1 = .ok (.istore_n 1, 1) := dk_60 (dk_at dksX3_firstDone_0 1 rfl rfl)
theorem dX3_firstDone_2 : decode cX3_firstDone 2 = .ok (.iconst 0, 1) := dk_3 (dk_at dksX3_firstDone_0 2 rfl rfl)
theorem dX3_firstDone_3 : decode cX3_firstDone 3 = .ok (.istore_n 2, 1) := dk_61 (dk_at dksX3_firstDone_0 3 rfl rfl)
theorem dX3_firstDone_4 : decode cX3_firstDone 4 = .ok (.iload_n 2, 1) := dk_28 (dk_at dksX3_firstDone_0 4 rfl rfl)
theorem dX3_firstDone_5 : decode cX3_firstDone 5 = .ok (.aload_n 0, 1) := dk_42 (dk_at dksX3_firstDone_0 5 rfl rfl)
theorem dX3_firstDone_6 : decode cX3_firstDone 6 = .ok (.getfield 7, 3) := dk_180 0 7 (dk_at dksX3_firstDone_0 6 rfl rfl)
theorem dX3_firstDone_9 : decode cX3_firstDone 9 = .ok (.bipush 87, 2) := dk_16 87 (dk_at dksX3_firstDone_0 9 rfl rfl)
theorem dX3_firstDone_11 : decode cX3_firstDone 11 = .ok (.iaload, 1) := dk_46 (dk_at dksX3_firstDone_0 11 rfl rfl)
theorem dX3_firstDone_12 : decode cX3_firstDone 12 = .ok (.if_icmp .ge 39, 3) := dk_162 0 39 (dk_at dksX3_firstDone_0 12 rfl rfl)
theorem dX3_firstDone_15 : decode cX3_firstDone 15 = .ok (.aload_n 0, 1) := dk_42 (dk_at dksX3_firstDone_0 15 rfl rfl)
theorem dX3_firstDone_16 : decode cX3_firstDone 16 = .ok (.iload_n 2, 1) := dk_28 (dk_at dksX3_firstDone_0 16 rfl rfl)
theorem dX3_firstDone_17 : decode cX3_firstDone 17 = .ok (.iconst 1, 1) := dk_4 (dk_at dksX3_firstDone_0 17 rfl rfl)
theorem dX3_firstDone_18 : decode cX3_firstDone 18 = .ok (.invokevirtual 109, 3) := dk_182 0 109 (dk_at dksX3_firstDone_0 18 rfl rfl)
theorem dX3_firstDone_21 : decode cX3_firstDone 21 = .ok (.ifCond .lt 24, 3) := dk_155 0 24 (dk_at dksX3_firstDone_0 21 rfl rfl)
theorem dX3_firstDone_24 : decode cX3_firstDone 24 = .ok (.iload_n 1, 1) := dk_27 (dk_at dksX3_firstDone_1 0 rfl rfl)
theorem dX3_firstDone_25 : decode cX3_firstDone 25 = .ok (.ifCond .lt 18, 3) := dk_155 0 18 (dk_at dksX3_firstDone_1 1 rfl rfl)
theorem dX3_firstDone_28 : decode cX3_firstDone 28 = .ok (.aload_n 0, 1) := dk_42 (dk_at dksX3_firstDone_1 4 rfl rfl)
theorem dX3_firstDone_29 : decode cX3_firstDone 29 = .ok (.iload_n 2, 1) := dk_28 (dk_at dksX3_firstDone_1 5 rfl rfl)
theorem dX3_firstDone_30 : decode cX3_firstDone 30 = .ok (.iconst 2, 1) := dk_5 (dk_at dksX3_firstDone_1 6 rfl rfl)
theorem dX3_firstDone_31 : decode cX3_firstDone 31 = .ok (.invokevirtual 109, 3) := dk_182 0 109 (dk_at dksX3_firstDone_1 7 rfl rfl)
theorem dX3_firstDone_34 : decode cX3_firstDone 34 = .ok (.aload_n 0, 1) := dk_42 (dk_at dksX3_firstDone_1 10 rfl rfl)
theorem dX3_firstDone_35 : decode cX3_firstDone 35 = .ok (.iload_n 1, 1) := dk_27 (dk_at dksX3_firstDone_1 11 rfl rfl)
theorem dX3_firstDone_36 : decode cX3_firstDone 36 = .ok (.iconst 2, 1) := dk_5 (dk_at dksX3_firstDone_1 12 rfl rfl)
theorem dX3_firstDone_37 : decode cX3_firstDone 37 = .ok (.invokevirtual 109, 3) := dk_182 0 109 (dk_at dksX3_firstDone_1 13 rfl rfl)
theorem dX3_firstDone_40 : decode cX3_firstDone 40 = .ok (.if_icmp .ge 5, 3) := dk_162 0 5 (dk_at dksX3_firstDone_1 16 rfl rfl)
theorem dX3_firstDone_43 : decode cX3_firstDone 43 = .ok (.iload_n 2, 1) := dk_28 (dk_at dksX3_firstDone_1 19 rfl rfl)
theorem dX3_firstDone_44 : decode cX3_firstDone 44 = .ok (.istore_n 1, 1) := dk_60 (dk_at dksX3_firstDone_1 20 rfl rfl)
theorem dX3_firstDone_45 : decode cX3_firstDone 45 = .ok (.iinc 2 1, 3) := dk_132 2 1 (dk_at dksX3_firstDone_1 21 rfl rfl)
theorem dX3_firstDone_48 : decode cX3_firstDone 48 = .ok (.goto (-44), 3) := dk_167 255 212 (dk_at dksX3_firstDone_2 0 rfl rfl)
theorem dX3_firstDone_51 : decode cX3_firstDone 51 = .ok (.aload_n 0, 1) := dk_42 (dk_at dksX3_firstDone_2 3 rfl rfl)
theorem dX3_firstDone_52 : decode cX3_firstDone 52 = .ok (.iload_n 1, 1) := dk_27 (dk_at dksX3_firstDone_2 4 rfl rfl)
theorem dX3_firstDone_53 : decode cX3_firstDone 53 = .ok (.ifCond .ge 7, 3) := dk_156 0 7 (dk_at dksX3_firstDone_2 5 rfl rfl)
theorem dX3_firstDone_56 : decode cX3_firstDone 56 = .ok (.iconst 1, 1) := dk_4 (dk_at dksX3_firstDone_2 8 rfl rfl)
theorem dX3_firstDone_57 : decode cX3_firstDone 57 = .ok (.goto 4, 3) := dk_167 0 4 (dk_at dksX3_firstDone_2 9 rfl rfl)
theorem dX3_firstDone_60 : decode cX3_firstDone 60 = .ok (.iconst 0, 1) := dk_3 (dk_at dksX3_firstDone_2 12 rfl rfl)
theorem dX3_firstDone_61 : decode cX3_firstDone 61 = .ok (.invokevirtual 66, 3) := dk_182 0 66 (dk_at dksX3_firstDone_2 13 rfl rfl)
theorem dX3_firstDone_64 : decode cX3_firstDone 64 = .ok (.ifCond .eq 7, 3) := dk_153 0 7 (dk_at dksX3_firstDone_2 16 rfl rfl)
theorem dX3_firstDone_67 : decode cX3_firstDone 67 = .ok (.iconst 0, 1) := dk_3 (dk_at dksX3_firstDone_2 19 rfl rfl)
theorem dX3_firstDone_68 : decode cX3_firstDone 68 = .ok (.goto 4, 3) := dk_167 0 4 (dk_at dksX3_firstDone_2 20 rfl rfl)
theorem dX3_firstDone_71 : decode cX3_firstDone 71 = .ok (.iload_n 1, 1) := dk_27 (dk_at dksX3_firstDone_2 23 rfl rfl)
theorem dX3_firstDone_72 : decode cX3_firstDone 72 = .ok (.ireturn, 1) := dk_172 (dk_at dksX3_firstDone_3 0 rfl rfl)
abbrev cX3_crate : ByteArray := prog_24_method_42_code
def yX3_crate : MethodName := ⟨RX3, "crate", "(I)I"⟩
def dkwX3_crate_4 : List UInt8 := [172]
abbrev dktX3_crate_4 : List UInt8 := dkwX3_crate_4 ++ []
def dkwX3_crate_3 : List UInt8 := [182, 0, 121, 4, 62, 29, 7, 162, 0, 16, 42, 28, 29, 3, 182, 0, 121, 132, 3, 1, 167, 255, 241, 28]
abbrev dktX3_crate_3 : List UInt8 := dkwX3_crate_3 ++ dktX3_crate_4
def dkwX3_crate_2 : List UInt8 := [42, 180, 0, 7, 16, 100, 46, 61, 42, 180, 0, 7, 16, 100, 92, 46, 4, 96, 79, 42, 28, 3, 27]
abbrev dktX3_crate_2 : List UInt8 := dkwX3_crate_2 ++ dktX3_crate_3
def dkwX3_crate_1 : List UInt8 := [160, 0, 7, 5, 167, 0, 4, 3, 182, 0, 66, 153, 0, 5, 3, 172, 42, 42, 180, 0, 7, 182, 0, 74]
abbrev dktX3_crate_1 : List UInt8 := dkwX3_crate_1 ++ dktX3_crate_2
def dkwX3_crate_0 : List UInt8 := [42, 27, 7, 16, 24, 184, 0, 62, 154, 0, 7, 4, 167, 0, 20, 42, 180, 0, 7, 16, 100, 46, 16, 6]
abbrev dktX3_crate_0 : List UInt8 := dkwX3_crate_0 ++ dktX3_crate_1
theorem dksX3_crate_0 : cX3_crate.data.toList.drop 0 = dktX3_crate_0 := by decide +kernel
theorem dksX3_crate_1 : cX3_crate.data.toList.drop 24 = dktX3_crate_1 := dk_seg dksX3_crate_0 24 rfl rfl
theorem dksX3_crate_2 : cX3_crate.data.toList.drop 48 = dktX3_crate_2 := dk_seg dksX3_crate_1 24 rfl rfl
theorem dksX3_crate_3 : cX3_crate.data.toList.drop 71 = dktX3_crate_3 := dk_seg dksX3_crate_2 23 rfl rfl
theorem dksX3_crate_4 : cX3_crate.data.toList.drop 95 = dktX3_crate_4 := dk_seg dksX3_crate_3 24 rfl rfl
theorem dX3_crate_0 : decode cX3_crate 0 = .ok (.aload_n 0, 1) := dk_42 (dk_at dksX3_crate_0 0 rfl rfl)
theorem dX3_crate_1 : decode cX3_crate 1 = .ok (.iload_n 1, 1) := dk_27 (dk_at dksX3_crate_0 1 rfl rfl)
theorem dX3_crate_2 : decode cX3_crate 2 = .ok (.iconst 4, 1) := dk_7 (dk_at dksX3_crate_0 2 rfl rfl)
theorem dX3_crate_3 : decode cX3_crate 3 = .ok (.bipush 24, 2) := dk_16 24 (dk_at dksX3_crate_0 3 rfl rfl)
theorem dX3_crate_5 : decode cX3_crate 5 = .ok (.invokestatic 62, 3) := dk_184 0 62 (dk_at dksX3_crate_0 5 rfl rfl)
theorem dX3_crate_8 : decode cX3_crate 8 = .ok (.ifCond .ne 7, 3) := dk_154 0 7 (dk_at dksX3_crate_0 8 rfl rfl)
theorem dX3_crate_11 : decode cX3_crate 11 = .ok (.iconst 1, 1) := dk_4 (dk_at dksX3_crate_0 11 rfl rfl)
theorem dX3_crate_12 : decode cX3_crate 12 = .ok (.goto 20, 3) := dk_167 0 20 (dk_at dksX3_crate_0 12 rfl rfl)
theorem dX3_crate_15 : decode cX3_crate 15 = .ok (.aload_n 0, 1) := dk_42 (dk_at dksX3_crate_0 15 rfl rfl)
theorem dX3_crate_16 : decode cX3_crate 16 = .ok (.getfield 7, 3) := dk_180 0 7 (dk_at dksX3_crate_0 16 rfl rfl)
theorem dX3_crate_19 : decode cX3_crate 19 = .ok (.bipush 100, 2) := dk_16 100 (dk_at dksX3_crate_0 19 rfl rfl)
theorem dX3_crate_21 : decode cX3_crate 21 = .ok (.iaload, 1) := dk_46 (dk_at dksX3_crate_0 21 rfl rfl)
theorem dX3_crate_22 : decode cX3_crate 22 = .ok (.bipush 6, 2) := dk_16 6 (dk_at dksX3_crate_0 22 rfl rfl)
theorem dX3_crate_24 : decode cX3_crate 24 = .ok (.if_icmp .ne 7, 3) := dk_160 0 7 (dk_at dksX3_crate_1 0 rfl rfl)
theorem dX3_crate_27 : decode cX3_crate 27 = .ok (.iconst 2, 1) := dk_5 (dk_at dksX3_crate_1 3 rfl rfl)
theorem dX3_crate_28 : decode cX3_crate 28 = .ok (.goto 4, 3) := dk_167 0 4 (dk_at dksX3_crate_1 4 rfl rfl)
theorem dX3_crate_31 : decode cX3_crate 31 = .ok (.iconst 0, 1) := dk_3 (dk_at dksX3_crate_1 7 rfl rfl)
theorem dX3_crate_32 : decode cX3_crate 32 = .ok (.invokevirtual 66, 3) := dk_182 0 66 (dk_at dksX3_crate_1 8 rfl rfl)
theorem dX3_crate_35 : decode cX3_crate 35 = .ok (.ifCond .eq 5, 3) := dk_153 0 5 (dk_at dksX3_crate_1 11 rfl rfl)
theorem dX3_crate_38 : decode cX3_crate 38 = .ok (.iconst 0, 1) := dk_3 (dk_at dksX3_crate_1 14 rfl rfl)
theorem dX3_crate_39 : decode cX3_crate 39 = .ok (.ireturn, 1) := dk_172 (dk_at dksX3_crate_1 15 rfl rfl)
theorem dX3_crate_40 : decode cX3_crate 40 = .ok (.aload_n 0, 1) := dk_42 (dk_at dksX3_crate_1 16 rfl rfl)
theorem dX3_crate_41 : decode cX3_crate 41 = .ok (.aload_n 0, 1) := dk_42 (dk_at dksX3_crate_1 17 rfl rfl)
theorem dX3_crate_42 : decode cX3_crate 42 = .ok (.getfield 7, 3) := dk_180 0 7 (dk_at dksX3_crate_1 18 rfl rfl)
theorem dX3_crate_45 : decode cX3_crate 45 = .ok (.invokevirtual 74, 3) := dk_182 0 74 (dk_at dksX3_crate_1 21 rfl rfl)
theorem dX3_crate_48 : decode cX3_crate 48 = .ok (.aload_n 0, 1) := dk_42 (dk_at dksX3_crate_2 0 rfl rfl)
theorem dX3_crate_49 : decode cX3_crate 49 = .ok (.getfield 7, 3) := dk_180 0 7 (dk_at dksX3_crate_2 1 rfl rfl)
theorem dX3_crate_52 : decode cX3_crate 52 = .ok (.bipush 100, 2) := dk_16 100 (dk_at dksX3_crate_2 4 rfl rfl)
theorem dX3_crate_54 : decode cX3_crate 54 = .ok (.iaload, 1) := dk_46 (dk_at dksX3_crate_2 6 rfl rfl)
theorem dX3_crate_55 : decode cX3_crate 55 = .ok (.istore_n 2, 1) := dk_61 (dk_at dksX3_crate_2 7 rfl rfl)
theorem dX3_crate_56 : decode cX3_crate 56 = .ok (.aload_n 0, 1) := dk_42 (dk_at dksX3_crate_2 8 rfl rfl)
theorem dX3_crate_57 : decode cX3_crate 57 = .ok (.getfield 7, 3) := dk_180 0 7 (dk_at dksX3_crate_2 9 rfl rfl)
theorem dX3_crate_60 : decode cX3_crate 60 = .ok (.bipush 100, 2) := dk_16 100 (dk_at dksX3_crate_2 12 rfl rfl)
theorem dX3_crate_62 : decode cX3_crate 62 = .ok (.dup2, 1) := dk_92 (dk_at dksX3_crate_2 14 rfl rfl)
theorem dX3_crate_63 : decode cX3_crate 63 = .ok (.iaload, 1) := dk_46 (dk_at dksX3_crate_2 15 rfl rfl)
theorem dX3_crate_64 : decode cX3_crate 64 = .ok (.iconst 1, 1) := dk_4 (dk_at dksX3_crate_2 16 rfl rfl)
theorem dX3_crate_65 : decode cX3_crate 65 = .ok (.iadd, 1) := dk_96 (dk_at dksX3_crate_2 17 rfl rfl)
theorem dX3_crate_66 : decode cX3_crate 66 = .ok (.iastore, 1) := dk_79 (dk_at dksX3_crate_2 18 rfl rfl)
theorem dX3_crate_67 : decode cX3_crate 67 = .ok (.aload_n 0, 1) := dk_42 (dk_at dksX3_crate_2 19 rfl rfl)
theorem dX3_crate_68 : decode cX3_crate 68 = .ok (.iload_n 2, 1) := dk_28 (dk_at dksX3_crate_2 20 rfl rfl)
theorem dX3_crate_69 : decode cX3_crate 69 = .ok (.iconst 0, 1) := dk_3 (dk_at dksX3_crate_2 21 rfl rfl)
theorem dX3_crate_70 : decode cX3_crate 70 = .ok (.iload_n 1, 1) := dk_27 (dk_at dksX3_crate_2 22 rfl rfl)
theorem dX3_crate_71 : decode cX3_crate 71 = .ok (.invokevirtual 121, 3) := dk_182 0 121 (dk_at dksX3_crate_3 0 rfl rfl)
theorem dX3_crate_74 : decode cX3_crate 74 = .ok (.iconst 1, 1) := dk_4 (dk_at dksX3_crate_3 3 rfl rfl)
theorem dX3_crate_75 : decode cX3_crate 75 = .ok (.istore_n 3, 1) := dk_62 (dk_at dksX3_crate_3 4 rfl rfl)
theorem dX3_crate_76 : decode cX3_crate 76 = .ok (.iload_n 3, 1) := dk_29 (dk_at dksX3_crate_3 5 rfl rfl)
theorem dX3_crate_77 : decode cX3_crate 77 = .ok (.iconst 4, 1) := dk_7 (dk_at dksX3_crate_3 6 rfl rfl)
theorem dX3_crate_78 : decode cX3_crate 78 = .ok (.if_icmp .ge 16, 3) := dk_162 0 16 (dk_at dksX3_crate_3 7 rfl rfl)
theorem dX3_crate_81 : decode cX3_crate 81 = .ok (.aload_n 0, 1) := dk_42 (dk_at dksX3_crate_3 10 rfl rfl)
theorem dX3_crate_82 : decode cX3_crate 82 = .ok (.iload_n 2, 1) := dk_28 (dk_at dksX3_crate_3 11 rfl rfl)
theorem dX3_crate_83 : decode cX3_crate 83 = .ok (.iload_n 3, 1) := dk_29 (dk_at dksX3_crate_3 12 rfl rfl)
theorem dX3_crate_84 : decode cX3_crate 84 = .ok (.iconst 0, 1) := dk_3 (dk_at dksX3_crate_3 13 rfl rfl)
theorem dX3_crate_85 : decode cX3_crate 85 = .ok (.invokevirtual 121, 3) := dk_182 0 121 (dk_at dksX3_crate_3 14 rfl rfl)
theorem dX3_crate_88 : decode cX3_crate 88 = .ok (.iinc 3 1, 3) := dk_132 3 1 (dk_at dksX3_crate_3 17 rfl rfl)
theorem dX3_crate_91 : decode cX3_crate 91 = .ok (.goto (-15), 3) := dk_167 255 241 (dk_at dksX3_crate_3 20 rfl rfl)
theorem dX3_crate_94 : decode cX3_crate 94 = .ok (.iload_n 2, 1) := dk_28 (dk_at dksX3_crate_3 23 rfl rfl)
theorem dX3_crate_95 : decode cX3_crate 95 = .ok (.ireturn, 1) := dk_172 (dk_at dksX3_crate_4 0 rfl rfl)
abbrev cX3_laysCrate : ByteArray := prog_24_method_21_code
def yX3_laysCrate : MethodName := ⟨RX3, "laysCrate", "(III)V"⟩
def dkwX3_laysCrate_0 : List UInt8 := [42, 180, 0, 7, 16, 101, 7, 27, 104, 96, 28, 96, 29, 79, 177]
abbrev dktX3_laysCrate_0 : List UInt8 := dkwX3_laysCrate_0 ++ []
theorem dksX3_laysCrate_0 : cX3_laysCrate.data.toList.drop 0 = dktX3_laysCrate_0 := by decide +kernel
theorem dX3_laysCrate_0 : decode cX3_laysCrate 0 = .ok (.aload_n 0, 1) := dk_42 (dk_at dksX3_laysCrate_0 0 rfl rfl)
theorem dX3_laysCrate_1 : decode cX3_laysCrate 1 = .ok (.getfield 7, 3) := dk_180 0 7 (dk_at dksX3_laysCrate_0 1 rfl rfl)
theorem dX3_laysCrate_4 : decode cX3_laysCrate 4 = .ok (.bipush 101, 2) := dk_16 101 (dk_at dksX3_laysCrate_0 4 rfl rfl)
theorem dX3_laysCrate_6 : decode cX3_laysCrate 6 = .ok (.iconst 4, 1) := dk_7 (dk_at dksX3_laysCrate_0 6 rfl rfl)
theorem dX3_laysCrate_7 : decode cX3_laysCrate 7 = .ok (.iload_n 1, 1) := dk_27 (dk_at dksX3_laysCrate_0 7 rfl rfl)
theorem dX3_laysCrate_8 : decode cX3_laysCrate 8 = .ok (.imul, 1) := dk_104 (dk_at dksX3_laysCrate_0 8 rfl rfl)
theorem dX3_laysCrate_9 : decode cX3_laysCrate 9 = .ok (.iadd, 1) := dk_96 (dk_at dksX3_laysCrate_0 9 rfl rfl)
theorem dX3_laysCrate_10 : decode cX3_laysCrate 10 = .ok (.iload_n 2, 1) := dk_28 (dk_at dksX3_laysCrate_0 10 rfl rfl)
theorem dX3_laysCrate_11 : decode cX3_laysCrate 11 = .ok (.iadd, 1) := dk_96 (dk_at dksX3_laysCrate_0 11 rfl rfl)
theorem dX3_laysCrate_12 : decode cX3_laysCrate 12 = .ok (.iload_n 3, 1) := dk_29 (dk_at dksX3_laysCrate_0 12 rfl rfl)
theorem dX3_laysCrate_13 : decode cX3_laysCrate 13 = .ok (.iastore, 1) := dk_79 (dk_at dksX3_laysCrate_0 13 rfl rfl)
theorem dX3_laysCrate_14 : decode cX3_laysCrate 14 = .ok (.return_, 1) := dk_177 (dk_at dksX3_laysCrate_0 14 rfl rfl)
abbrev cX3_crateOf : ByteArray := prog_24_method_45_code
def yX3_crateOf : MethodName := ⟨RX3, "crateOf", "(II)I"⟩
def dkwX3_crateOf_2 : List UInt8 := [167, 0, 21, 28, 7, 160, 0, 11, 42, 27, 182, 0, 133, 167, 0, 8, 42, 27, 182, 0, 127, 172]
abbrev dktX3_crateOf_2 : List UInt8 := dkwX3_crateOf_2 ++ []
def dkwX3_crateOf_1 : List UInt8 := [167, 0, 4, 5, 182, 0, 66, 153, 0, 5, 3, 172, 28, 7, 162, 0, 12, 42, 27, 28, 182, 0, 124]
abbrev dktX3_crateOf_1 : List UInt8 := dkwX3_crateOf_1 ++ dktX3_crateOf_2
def dkwX3_crateOf_0 : List UInt8 := [42, 42, 27, 182, 0, 130, 154, 0, 7, 4, 167, 0, 17, 28, 3, 8, 184, 0, 62, 153, 0, 7, 3]
abbrev dktX3_crateOf_0 : List UInt8 := dkwX3_crateOf_0 ++ dktX3_crateOf_1
theorem dksX3_crateOf_0 : cX3_crateOf.data.toList.drop 0 = dktX3_crateOf_0 := by decide +kernel
theorem dksX3_crateOf_1 : cX3_crateOf.data.toList.drop 23 = dktX3_crateOf_1 := dk_seg dksX3_crateOf_0 23 rfl rfl
theorem dksX3_crateOf_2 : cX3_crateOf.data.toList.drop 46 = dktX3_crateOf_2 := dk_seg dksX3_crateOf_1 23 rfl rfl
theorem dX3_crateOf_0 : decode cX3_crateOf 0 = .ok (.aload_n 0, 1) := dk_42 (dk_at dksX3_crateOf_0 0 rfl rfl)
theorem dX3_crateOf_1 : decode cX3_crateOf 1 = .ok (.aload_n 0, 1) := dk_42 (dk_at dksX3_crateOf_0 1 rfl rfl)
theorem dX3_crateOf_2 : decode cX3_crateOf 2 = .ok (.iload_n 1, 1) := dk_27 (dk_at dksX3_crateOf_0 2 rfl rfl)
theorem dX3_crateOf_3 : decode cX3_crateOf 3 = .ok (.invokevirtual 130, 3) := dk_182 0 130 (dk_at dksX3_crateOf_0 3 rfl rfl)
theorem dX3_crateOf_6 : decode cX3_crateOf 6 = .ok (.ifCond .ne 7, 3) := dk_154 0 7 (dk_at dksX3_crateOf_0 6 rfl rfl)
theorem dX3_crateOf_9 : decode cX3_crateOf 9 = .ok (.iconst 1, 1) := dk_4 (dk_at dksX3_crateOf_0 9 rfl rfl)
theorem dX3_crateOf_10 : decode cX3_crateOf 10 = .ok (.goto 17, 3) := dk_167 0 17 (dk_at dksX3_crateOf_0 10 rfl rfl)
theorem dX3_crateOf_13 : decode cX3_crateOf 13 = .ok (.iload_n 2, 1) := dk_28 (dk_at dksX3_crateOf_0 13 rfl rfl)
theorem dX3_crateOf_14 : decode cX3_crateOf 14 = .ok (.iconst 0, 1) := dk_3 (dk_at dksX3_crateOf_0 14 rfl rfl)
theorem dX3_crateOf_15 : decode cX3_crateOf 15 = .ok (.iconst 5, 1) := dk_8 (dk_at dksX3_crateOf_0 15 rfl rfl)
theorem dX3_crateOf_16 : decode cX3_crateOf 16 = .ok (.invokestatic 62, 3) := dk_184 0 62 (dk_at dksX3_crateOf_0 16 rfl rfl)
theorem dX3_crateOf_19 : decode cX3_crateOf 19 = .ok (.ifCond .eq 7, 3) := dk_153 0 7 (dk_at dksX3_crateOf_0 19 rfl rfl)
theorem dX3_crateOf_22 : decode cX3_crateOf 22 = .ok (.iconst 0, 1) := dk_3 (dk_at dksX3_crateOf_0 22 rfl rfl)
theorem dX3_crateOf_23 : decode cX3_crateOf 23 = .ok (.goto 4, 3) := dk_167 0 4 (dk_at dksX3_crateOf_1 0 rfl rfl)
theorem dX3_crateOf_26 : decode cX3_crateOf 26 = .ok (.iconst 2, 1) := dk_5 (dk_at dksX3_crateOf_1 3 rfl rfl)
theorem dX3_crateOf_27 : decode cX3_crateOf 27 = .ok (.invokevirtual 66, 3) := dk_182 0 66 (dk_at dksX3_crateOf_1 4 rfl rfl)
theorem dX3_crateOf_30 : decode cX3_crateOf 30 = .ok (.ifCond .eq 5, 3) := dk_153 0 5 (dk_at dksX3_crateOf_1 7 rfl rfl)
theorem dX3_crateOf_33 : decode cX3_crateOf 33 = .ok (.iconst 0, 1) := dk_3 (dk_at dksX3_crateOf_1 10 rfl rfl)
theorem dX3_crateOf_34 : decode cX3_crateOf 34 = .ok (.ireturn, 1) := dk_172 (dk_at dksX3_crateOf_1 11 rfl rfl)
theorem dX3_crateOf_35 : decode cX3_crateOf 35 = .ok (.iload_n 2, 1) := dk_28 (dk_at dksX3_crateOf_1 12 rfl rfl)
theorem dX3_crateOf_36 : decode cX3_crateOf 36 = .ok (.iconst 4, 1) := dk_7 (dk_at dksX3_crateOf_1 13 rfl rfl)
theorem dX3_crateOf_37 : decode cX3_crateOf 37 = .ok (.if_icmp .ge 12, 3) := dk_162 0 12 (dk_at dksX3_crateOf_1 14 rfl rfl)
theorem dX3_crateOf_40 : decode cX3_crateOf 40 = .ok (.aload_n 0, 1) := dk_42 (dk_at dksX3_crateOf_1 17 rfl rfl)
theorem dX3_crateOf_41 : decode cX3_crateOf 41 = .ok (.iload_n 1, 1) := dk_27 (dk_at dksX3_crateOf_1 18 rfl rfl)
theorem dX3_crateOf_42 : decode cX3_crateOf 42 = .ok (.iload_n 2, 1) := dk_28 (dk_at dksX3_crateOf_1 19 rfl rfl)
theorem dX3_crateOf_43 : decode cX3_crateOf 43 = .ok (.invokevirtual 124, 3) := dk_182 0 124 (dk_at dksX3_crateOf_1 20 rfl rfl)
theorem dX3_crateOf_46 : decode cX3_crateOf 46 = .ok (.goto 21, 3) := dk_167 0 21 (dk_at dksX3_crateOf_2 0 rfl rfl)
theorem dX3_crateOf_49 : decode cX3_crateOf 49 = .ok (.iload_n 2, 1) := dk_28 (dk_at dksX3_crateOf_2 3 rfl rfl)
theorem dX3_crateOf_50 : decode cX3_crateOf 50 = .ok (.iconst 4, 1) := dk_7 (dk_at dksX3_crateOf_2 4 rfl rfl)
theorem dX3_crateOf_51 : decode cX3_crateOf 51 = .ok (.if_icmp .ne 11, 3) := dk_160 0 11 (dk_at dksX3_crateOf_2 5 rfl rfl)
theorem dX3_crateOf_54 : decode cX3_crateOf 54 = .ok (.aload_n 0, 1) := dk_42 (dk_at dksX3_crateOf_2 8 rfl rfl)
theorem dX3_crateOf_55 : decode cX3_crateOf 55 = .ok (.iload_n 1, 1) := dk_27 (dk_at dksX3_crateOf_2 9 rfl rfl)
theorem dX3_crateOf_56 : decode cX3_crateOf 56 = .ok (.invokevirtual 133, 3) := dk_182 0 133 (dk_at dksX3_crateOf_2 10 rfl rfl)
theorem dX3_crateOf_59 : decode cX3_crateOf 59 = .ok (.goto 8, 3) := dk_167 0 8 (dk_at dksX3_crateOf_2 13 rfl rfl)
theorem dX3_crateOf_62 : decode cX3_crateOf 62 = .ok (.aload_n 0, 1) := dk_42 (dk_at dksX3_crateOf_2 16 rfl rfl)
theorem dX3_crateOf_63 : decode cX3_crateOf 63 = .ok (.iload_n 1, 1) := dk_27 (dk_at dksX3_crateOf_2 17 rfl rfl)
theorem dX3_crateOf_64 : decode cX3_crateOf 64 = .ok (.invokevirtual 127, 3) := dk_182 0 127 (dk_at dksX3_crateOf_2 18 rfl rfl)
theorem dX3_crateOf_67 : decode cX3_crateOf 67 = .ok (.ireturn, 1) := dk_172 (dk_at dksX3_crateOf_2 21 rfl rfl)
abbrev cX3_isCrate : ByteArray := prog_24_method_14_code
def yX3_isCrate : MethodName := ⟨RX3, "isCrate", "(I)Z"⟩
def dkwX3_isCrate_0 : List UInt8 := [27, 3, 42, 180, 0, 7, 16, 100, 46, 4, 100, 184, 0, 62, 172]
abbrev dktX3_isCrate_0 : List UInt8 := dkwX3_isCrate_0 ++ []
theorem dksX3_isCrate_0 : cX3_isCrate.data.toList.drop 0 = dktX3_isCrate_0 := by decide +kernel
theorem dX3_isCrate_0 : decode cX3_isCrate 0 = .ok (.iload_n 1, 1) := dk_27 (dk_at dksX3_isCrate_0 0 rfl rfl)
theorem dX3_isCrate_1 : decode cX3_isCrate 1 = .ok (.iconst 0, 1) := dk_3 (dk_at dksX3_isCrate_0 1 rfl rfl)
theorem dX3_isCrate_2 : decode cX3_isCrate 2 = .ok (.aload_n 0, 1) := dk_42 (dk_at dksX3_isCrate_0 2 rfl rfl)
theorem dX3_isCrate_3 : decode cX3_isCrate 3 = .ok (.getfield 7, 3) := dk_180 0 7 (dk_at dksX3_isCrate_0 3 rfl rfl)
theorem dX3_isCrate_6 : decode cX3_isCrate 6 = .ok (.bipush 100, 2) := dk_16 100 (dk_at dksX3_isCrate_0 6 rfl rfl)
theorem dX3_isCrate_8 : decode cX3_isCrate 8 = .ok (.iaload, 1) := dk_46 (dk_at dksX3_isCrate_0 8 rfl rfl)
theorem dX3_isCrate_9 : decode cX3_isCrate 9 = .ok (.iconst 1, 1) := dk_4 (dk_at dksX3_isCrate_0 9 rfl rfl)
theorem dX3_isCrate_10 : decode cX3_isCrate 10 = .ok (.isub, 1) := dk_100 (dk_at dksX3_isCrate_0 10 rfl rfl)
theorem dX3_isCrate_11 : decode cX3_isCrate 11 = .ok (.invokestatic 62, 3) := dk_184 0 62 (dk_at dksX3_isCrate_0 11 rfl rfl)
theorem dX3_isCrate_14 : decode cX3_isCrate 14 = .ok (.ireturn, 1) := dk_172 (dk_at dksX3_isCrate_0 14 rfl rfl)
abbrev cX3_ofCrate : ByteArray := prog_24_method_20_code
def yX3_ofCrate : MethodName := ⟨RX3, "ofCrate", "(II)I"⟩
def dkwX3_ofCrate_0 : List UInt8 := [42, 180, 0, 7, 16, 101, 7, 27, 104, 96, 28, 96, 46, 172]
abbrev dktX3_ofCrate_0 : List UInt8 := dkwX3_ofCrate_0 ++ []
theorem dksX3_ofCrate_0 : cX3_ofCrate.data.toList.drop 0 = dktX3_ofCrate_0 := by decide +kernel
theorem dX3_ofCrate_0 : decode cX3_ofCrate 0 = .ok (.aload_n 0, 1) := dk_42 (dk_at dksX3_ofCrate_0 0 rfl rfl)
theorem dX3_ofCrate_1 : decode cX3_ofCrate 1 = .ok (.getfield 7, 3) := dk_180 0 7 (dk_at dksX3_ofCrate_0 1 rfl rfl)
theorem dX3_ofCrate_4 : decode cX3_ofCrate 4 = .ok (.bipush 101, 2) := dk_16 101 (dk_at dksX3_ofCrate_0 4 rfl rfl)
theorem dX3_ofCrate_6 : decode cX3_ofCrate 6 = .ok (.iconst 4, 1) := dk_7 (dk_at dksX3_ofCrate_0 6 rfl rfl)
theorem dX3_ofCrate_7 : decode cX3_ofCrate 7 = .ok (.iload_n 1, 1) := dk_27 (dk_at dksX3_ofCrate_0 7 rfl rfl)
theorem dX3_ofCrate_8 : decode cX3_ofCrate 8 = .ok (.imul, 1) := dk_104 (dk_at dksX3_ofCrate_0 8 rfl rfl)
theorem dX3_ofCrate_9 : decode cX3_ofCrate 9 = .ok (.iadd, 1) := dk_96 (dk_at dksX3_ofCrate_0 9 rfl rfl)
theorem dX3_ofCrate_10 : decode cX3_ofCrate 10 = .ok (.iload_n 2, 1) := dk_28 (dk_at dksX3_ofCrate_0 10 rfl rfl)
theorem dX3_ofCrate_11 : decode cX3_ofCrate 11 = .ok (.iadd, 1) := dk_96 (dk_at dksX3_ofCrate_0 11 rfl rfl)
theorem dX3_ofCrate_12 : decode cX3_ofCrate 12 = .ok (.iaload, 1) := dk_46 (dk_at dksX3_ofCrate_0 12 rfl rfl)
theorem dX3_ofCrate_13 : decode cX3_ofCrate 13 = .ok (.ireturn, 1) := dk_172 (dk_at dksX3_ofCrate_0 13 rfl rfl)
abbrev cX3_paid : ByteArray := prog_24_method_44_code
def yX3_paid : MethodName := ⟨RX3, "paid", "(I)I"⟩
def dkwX3_paid_1 : List UInt8 := [182, 0, 124, 42, 27, 182, 0, 127, 100, 104, 42, 27, 4, 182, 0, 124, 108, 172]
abbrev dktX3_paid_1 : List UInt8 := dkwX3_paid_1 ++ []
def dkwX3_paid_0 : List UInt8 := [42, 27, 4, 182, 0, 124, 154, 0, 7, 3, 167, 0, 29, 42, 27, 6, 182, 0, 124, 42, 27, 4]
abbrev dktX3_paid_0 : List UInt8 := dkwX3_paid_0 ++ dktX3_paid_1
theorem dksX3_paid_0 : cX3_paid.data.toList.drop 0 = dktX3_paid_0 := by decide +kernel
theorem dksX3_paid_1 : cX3_paid.data.toList.drop 22 = dktX3_paid_1 := dk_seg dksX3_paid_0 22 rfl rfl
theorem dX3_paid_0 : decode cX3_paid 0 = .ok (.aload_n 0, 1) := dk_42 (dk_at dksX3_paid_0 0 rfl rfl)
theorem dX3_paid_1 : decode cX3_paid 1 = .ok (.iload_n 1, 1) := dk_27 (dk_at dksX3_paid_0 1 rfl rfl)
theorem dX3_paid_2 : decode cX3_paid 2 = .ok (.iconst 1, 1) := dk_4 (dk_at dksX3_paid_0 2 rfl rfl)
theorem dX3_paid_3 : decode cX3_paid 3 = .ok (.invokevirtual 124, 3) := dk_182 0 124 (dk_at dksX3_paid_0 3 rfl rfl)
theorem dX3_paid_6 : decode cX3_paid 6 = .ok (.ifCond .ne 7, 3) := dk_154 0 7 (dk_at dksX3_paid_0 6 rfl rfl)
theorem dX3_paid_9 : decode cX3_paid 9 = .ok (.iconst 0, 1) := dk_3 (dk_at dksX3_paid_0 9 rfl rfl)
theorem dX3_paid_10 : decode cX3_paid 10 = .ok (.goto 29, 3) := dk_167 0 29 (dk_at dksX3_paid_0 10 rfl rfl)
theorem dX3_paid_13 : decode cX3_paid 13 = .ok (.aload_n 0, 1) := dk_42 (dk_at dksX3_paid_0 13 rfl rfl)
theorem dX3_paid_14 : decode cX3_paid 14 = .ok (.iload_n 1, 1) := dk_27 (dk_at dksX3_paid_0 14 rfl rfl)
theorem dX3_paid_15 : decode cX3_paid 15 = .ok (.iconst 3, 1) := dk_6 (dk_at dksX3_paid_0 15 rfl rfl)
theorem dX3_paid_16 : decode cX3_paid 16 = .ok (.invokevirtual 124, 3) := dk_182 0 124 (dk_at dksX3_paid_0 16 rfl rfl)
theorem dX3_paid_19 : decode cX3_paid 19 = .ok (.aload_n 0, 1) := dk_42 (dk_at dksX3_paid_0 19 rfl rfl)
theorem dX3_paid_20 : decode cX3_paid 20 = .ok (.iload_n 1, 1) := dk_27 (dk_at dksX3_paid_0 20 rfl rfl)
theorem dX3_paid_21 : decode cX3_paid 21 = .ok (.iconst 1, 1) := dk_4 (dk_at dksX3_paid_0 21 rfl rfl)
theorem dX3_paid_22 : decode cX3_paid 22 = .ok (.invokevirtual 124, 3) := dk_182 0 124 (dk_at dksX3_paid_1 0 rfl rfl)
theorem dX3_paid_25 : decode cX3_paid 25 = .ok (.aload_n 0, 1) := dk_42 (dk_at dksX3_paid_1 3 rfl rfl)
theorem dX3_paid_26 : decode cX3_paid 26 = .ok (.iload_n 1, 1) := dk_27 (dk_at dksX3_paid_1 4 rfl rfl)
theorem dX3_paid_27 : decode cX3_paid 27 = .ok (.invokevirtual 127, 3) := dk_182 0 127 (dk_at dksX3_paid_1 5 rfl rfl)
theorem dX3_paid_30 : decode cX3_paid 30 = .ok (.isub, 1) := dk_100 (dk_at dksX3_paid_1 8 rfl rfl)
theorem dX3_paid_31 : decode cX3_paid 31 = .ok (.imul, 1) := dk_104 (dk_at dksX3_paid_1 9 rfl rfl)
theorem dX3_paid_32 : decode cX3_paid 32 = .ok (.aload_n 0, 1) := dk_42 (dk_at dksX3_paid_1 10 rfl rfl)
theorem dX3_paid_33 : decode cX3_paid 33 = .ok (.iload_n 1, 1) := dk_27 (dk_at dksX3_paid_1 11 rfl rfl)
theorem dX3_paid_34 : decode cX3_paid 34 = .ok (.iconst 1, 1) := dk_4 (dk_at dksX3_paid_1 12 rfl rfl)
theorem dX3_paid_35 : decode cX3_paid 35 = .ok (.invokevirtual 124, 3) := dk_182 0 124 (dk_at dksX3_paid_1 13 rfl rfl)
theorem dX3_paid_38 : decode cX3_paid 38 = .ok (.idiv, 1) := dk_108 (dk_at dksX3_paid_1 16 rfl rfl)
theorem dX3_paid_39 : decode cX3_paid 39 = .ok (.ireturn, 1) := dk_172 (dk_at dksX3_paid_1 17 rfl rfl)
abbrev cX3_breaks : ByteArray := prog_24_method_43_code
def yX3_breaks : MethodName := ⟨RX3, "breaks", "(I)I"⟩
def dkwX3_breaks_0 : List UInt8 := [3, 42, 27, 4, 182, 0, 124, 7, 108, 42, 27, 5, 182, 0, 124, 100, 184, 0, 90, 172]
abbrev dktX3_breaks_0 : List UInt8 := dkwX3_breaks_0 ++ []
theorem dksX3_breaks_0 : cX3_breaks.data.toList.drop 0 = dktX3_breaks_0 := by decide +kernel
theorem dX3_breaks_0 : decode cX3_breaks 0 = .ok (.iconst 0, 1) := dk_3 (dk_at dksX3_breaks_0 0 rfl rfl)
theorem dX3_breaks_1 : decode cX3_breaks 1 = .ok (.aload_n 0, 1) := dk_42 (dk_at dksX3_breaks_0 1 rfl rfl)
theorem dX3_breaks_2 : decode cX3_breaks 2 = .ok (.iload_n 1, 1) := dk_27 (dk_at dksX3_breaks_0 2 rfl rfl)
theorem dX3_breaks_3 : decode cX3_breaks 3 = .ok (.iconst 1, 1) := dk_4 (dk_at dksX3_breaks_0 3 rfl rfl)
theorem dX3_breaks_4 : decode cX3_breaks 4 = .ok (.invokevirtual 124, 3) := dk_182 0 124 (dk_at dksX3_breaks_0 4 rfl rfl)
theorem dX3_breaks_7 : decode cX3_breaks 7 = .ok (.iconst 4, 1) := dk_7 (dk_at dksX3_breaks_0 7 rfl rfl)
theorem dX3_breaks_8 : decode cX3_breaks 8 = .ok (.idiv, 1) := dk_108 (dk_at dksX3_breaks_0 8 rfl rfl)
theorem dX3_breaks_9 : decode cX3_breaks 9 = .ok (.aload_n 0, 1) := dk_42 (dk_at dksX3_breaks_0 9 rfl rfl)
theorem dX3_breaks_10 : decode cX3_breaks 10 = .ok (.iload_n 1, 1) := dk_27 (dk_at dksX3_breaks_0 10 rfl rfl)
theorem dX3_breaks_11 : decode cX3_breaks 11 = .ok (.iconst 2, 1) := dk_5 (dk_at dksX3_breaks_0 11 rfl rfl)
theorem dX3_breaks_12 : decode cX3_breaks 12 = .ok (.invokevirtual 124, 3) := dk_182 0 124 (dk_at dksX3_breaks_0 12 rfl rfl)
theorem dX3_breaks_15 : decode cX3_breaks 15 = .ok (.isub, 1) := dk_100 (dk_at dksX3_breaks_0 15 rfl rfl)
theorem dX3_breaks_16 : decode cX3_breaks 16 = .ok (.invokestatic 90, 3) := dk_184 0 90 (dk_at dksX3_breaks_0 16 rfl rfl)
theorem dX3_breaks_19 : decode cX3_breaks 19 = .ok (.ireturn, 1) := dk_172 (dk_at dksX3_breaks_0 19 rfl rfl)
abbrev cX3_straw : ByteArray := prog_24_method_46_code
def yX3_straw : MethodName := ⟨RX3, "straw", "(II)I"⟩
def dkwX3_straw_3 : List UInt8 := [182, 0, 74, 42, 27, 5, 42, 27, 5, 182, 0, 124, 28, 96, 182, 0, 121, 42, 27, 5, 182, 0, 124, 172]
abbrev dktX3_straw_3 : List UInt8 := dkwX3_straw_3 ++ []
def dkwX3_straw_2 : List UInt8 := [164, 0, 17, 42, 6, 16, 11, 42, 27, 5, 182, 0, 124, 182, 0, 70, 172, 42, 42, 180, 0, 7]
abbrev dktX3_straw_2 : List UInt8 := dkwX3_straw_2 ++ dktX3_straw_3
def dkwX3_straw_1 : List UInt8 := [167, 0, 4, 5, 182, 0, 66, 153, 0, 5, 3, 172, 42, 27, 5, 182, 0, 124, 28, 96, 16, 9]
abbrev dktX3_straw_1 : List UInt8 := dkwX3_straw_1 ++ dktX3_straw_2
def dkwX3_straw_0 : List UInt8 := [42, 42, 27, 182, 0, 130, 154, 0, 7, 4, 167, 0, 18, 28, 4, 16, 9, 184, 0, 62, 153, 0, 7, 3]
abbrev dktX3_straw_0 : List UInt8 := dkwX3_straw_0 ++ dktX3_straw_1
theorem dksX3_straw_0 : cX3_straw.data.toList.drop 0 = dktX3_straw_0 := by decide +kernel
theorem dksX3_straw_1 : cX3_straw.data.toList.drop 24 = dktX3_straw_1 := dk_seg dksX3_straw_0 24 rfl rfl
theorem dksX3_straw_2 : cX3_straw.data.toList.drop 46 = dktX3_straw_2 := dk_seg dksX3_straw_1 22 rfl rfl
theorem dksX3_straw_3 : cX3_straw.data.toList.drop 68 = dktX3_straw_3 := dk_seg dksX3_straw_2 22 rfl rfl
theorem dX3_straw_0 : decode cX3_straw 0 = .ok (.aload_n 0, 1) := dk_42 (dk_at dksX3_straw_0 0 rfl rfl)
theorem dX3_straw_1 : decode cX3_straw 1 = .ok (.aload_n 0, 1) := dk_42 (dk_at dksX3_straw_0 1 rfl rfl)
theorem dX3_straw_2 : decode cX3_straw 2 = .ok (.iload_n 1, 1) := dk_27 (dk_at dksX3_straw_0 2 rfl rfl)
theorem dX3_straw_3 : decode cX3_straw 3 = .ok (.invokevirtual 130, 3) := dk_182 0 130 (dk_at dksX3_straw_0 3 rfl rfl)
theorem dX3_straw_6 : decode cX3_straw 6 = .ok (.ifCond .ne 7, 3) := dk_154 0 7 (dk_at dksX3_straw_0 6 rfl rfl)
theorem dX3_straw_9 : decode cX3_straw 9 = .ok (.iconst 1, 1) := dk_4 (dk_at dksX3_straw_0 9 rfl rfl)
theorem dX3_straw_10 : decode cX3_straw 10 = .ok (.goto 18, 3) := dk_167 0 18 (dk_at dksX3_straw_0 10 rfl rfl)
theorem dX3_straw_13 : decode cX3_straw 13 = .ok (.iload_n 2, 1) := dk_28 (dk_at dksX3_straw_0 13 rfl rfl)
theorem dX3_straw_14 : decode cX3_straw 14 = .ok (.iconst 1, 1) := dk_4 (dk_at dksX3_straw_0 14 rfl rfl)
theorem dX3_straw_15 : decode cX3_straw 15 = .ok (.bipush 9, 2) := dk_16 9 (dk_at dksX3_straw_0 15 rfl rfl)
theorem dX3_straw_17 : decode cX3_straw 17 = .ok (.invokestatic 62, 3) := dk_184 0 62 (dk_at dksX3_straw_0 17 rfl rfl)
theorem dX3_straw_20 : decode cX3_straw 20 = .ok (.ifCond .eq 7, 3) := dk_153 0 7 (dk_at dksX3_straw_0 20 rfl rfl)
theorem dX3_straw_23 : decode cX3_straw 23 = .ok (.iconst 0, 1) := dk_3 (dk_at dksX3_straw_0 23 rfl rfl)
theorem dX3_straw_24 : decode cX3_straw 24 = .ok (.goto 4, 3) := dk_167 0 4 (dk_at dksX3_straw_1 0 rfl rfl)
theorem dX3_straw_27 : decode cX3_straw 27 = .ok (.iconst 2, 1) := dk_5 (dk_at dksX3_straw_1 3 rfl rfl)
theorem dX3_straw_28 : decode cX3_straw 28 = .ok (.invokevirtual 66, 3) := dk_182 0 66 (dk_at dksX3_straw_1 4 rfl rfl)
theorem dX3_straw_31 : decode cX3_straw 31 = .ok (.ifCond .eq 5, 3) := dk_153 0 5 (dk_at dksX3_straw_1 7 rfl rfl)
theorem dX3_straw_34 : decode cX3_straw 34 = .ok (.iconst 0, 1) := dk_3 (dk_at dksX3_straw_1 10 rfl rfl)
theorem dX3_straw_35 : decode cX3_straw 35 = .ok (.ireturn, 1) := dk_172 (dk_at dksX3_straw_1 11 rfl rfl)
theorem dX3_straw_36 : decode cX3_straw 36 = .ok (.aload_n 0, 1) := dk_42 (dk_at dksX3_straw_1 12 rfl rfl)
theorem dX3_straw_37 : decode cX3_straw 37 = .ok (.iload_n 1, 1) := dk_27 (dk_at dksX3_straw_1 13 rfl rfl)
theorem dX3_straw_38 : decode cX3_straw 38 = .ok (.iconst 2, 1) := dk_5 (dk_at dksX3_straw_1 14 rfl rfl)
theorem dX3_straw_39 : decode cX3_straw 39 = .ok (.invokevirtual 124, 3) := dk_182 0 124 (dk_at dksX3_straw_1 15 rfl rfl)
theorem dX3_straw_42 : decode cX3_straw 42 = .ok (.iload_n 2, 1) := dk_28 (dk_at dksX3_straw_1 18 rfl rfl)
theorem dX3_straw_43 : decode cX3_straw 43 = .ok (.iadd, 1) := dk_96 (dk_at dksX3_straw_1 19 rfl rfl)
theorem dX3_straw_44 : decode cX3_straw 44 = .ok (.bipush 9, 2) := dk_16 9 (dk_at dksX3_straw_1 20 rfl rfl)
theorem dX3_straw_46 : decode cX3_straw 46 = .ok (.if_icmp .le 17, 3) := dk_164 0 17 (dk_at dksX3_straw_2 0 rfl rfl)
theorem dX3_straw_49 : decode cX3_straw 49 = .ok (.aload_n 0, 1) := dk_42 (dk_at dksX3_straw_2 3 rfl rfl)
theorem dX3_straw_50 : decode cX3_straw 50 = .ok (.iconst 3, 1) := dk_6 (dk_at dksX3_straw_2 4 rfl rfl)
theorem dX3_straw_51 : decode cX3_straw 51 = .ok (.bipush 11, 2) := dk_16 11 (dk_at dksX3_straw_2 5 rfl rfl)
theorem dX3_straw_53 : decode cX3_straw 53 = .ok (.aload_n 0, 1) := dk_42 (dk_at dksX3_straw_2 7 rfl rfl)
theorem dX3_straw_54 : decode cX3_straw 54 = .ok (.iload_n 1, 1) := dk_27 (dk_at dksX3_straw_2 8 rfl rfl)
theorem dX3_straw_55 : decode cX3_straw 55 = .ok (.iconst 2, 1) := dk_5 (dk_at dksX3_straw_2 9 rfl rfl)
theorem dX3_straw_56 : decode cX3_straw 56 = .ok (.invokevirtual 124, 3) := dk_182 0 124 (dk_at dksX3_straw_2 10 rfl rfl)
theorem dX3_straw_59 : decode cX3_straw 59 = .ok (.invokevirtual 70, 3) := dk_182 0 70 (dk_at dksX3_straw_2 13 rfl rfl)
theorem dX3_straw_62 : decode cX3_straw 62 = .ok (.ireturn, 1) := dk_172 (dk_at dksX3_straw_2 16 rfl rfl)
theorem dX3_straw_63 : decode cX3_straw 63 = .ok (.aload_n 0, 1) := dk_42 (dk_at dksX3_straw_2 17 rfl rfl)
theorem dX3_straw_64 : decode cX3_straw 64 = .ok (.aload_n 0, 1) := dk_42 (dk_at dksX3_straw_2 18 rfl rfl)
theorem dX3_straw_65 : decode cX3_straw 65 = .ok (.getfield 7, 3) := dk_180 0 7 (dk_at dksX3_straw_2 19 rfl rfl)
theorem dX3_straw_68 : decode cX3_straw 68 = .ok (.invokevirtual 74, 3) := dk_182 0 74 (dk_at dksX3_straw_3 0 rfl rfl)
theorem dX3_straw_71 : decode cX3_straw 71 = .ok (.aload_n 0, 1) := dk_42 (dk_at dksX3_straw_3 3 rfl rfl)
theorem dX3_straw_72 : decode cX3_straw 72 = .ok (.iload_n 1, 1) := dk_27 (dk_at dksX3_straw_3 4 rfl rfl)
theorem dX3_straw_73 : decode cX3_straw 73 = .ok (.iconst 2, 1) := dk_5 (dk_at dksX3_straw_3 5 rfl rfl)
theorem dX3_straw_74 : decode cX3_straw 74 = .ok (.aload_n 0, 1) := dk_42 (dk_at dksX3_straw_3 6 rfl rfl)
theorem dX3_straw_75 : decode cX3_straw 75 = .ok (.iload_n 1, 1) := dk_27 (dk_at dksX3_straw_3 7 rfl rfl)
theorem dX3_straw_76 : decode cX3_straw 76 = .ok (.iconst 2, 1) := dk_5 (dk_at dksX3_straw_3 8 rfl rfl)
theorem dX3_straw_77 : decode cX3_straw 77 = .ok (.invokevirtual 124, 3) := dk_182 0 124 (dk_at dksX3_straw_3 9 rfl rfl)
theorem dX3_straw_80 : decode cX3_straw 80 = .ok (.iload_n 2, 1) := dk_28 (dk_at dksX3_straw_3 12 rfl rfl)
theorem dX3_straw_81 : decode cX3_straw 81 = .ok (.iadd, 1) := dk_96 (dk_at dksX3_straw_3 13 rfl rfl)
theorem dX3_straw_82 : decode cX3_straw 82 = .ok (.invokevirtual 121, 3) := dk_182 0 121 (dk_at dksX3_straw_3 14 rfl rfl)
theorem dX3_straw_85 : decode cX3_straw 85 = .ok (.aload_n 0, 1) := dk_42 (dk_at dksX3_straw_3 17 rfl rfl)
theorem dX3_straw_86 : decode cX3_straw 86 = .ok (.iload_n 1, 1) := dk_27 (dk_at dksX3_straw_3 18 rfl rfl)
theorem dX3_straw_87 : decode cX3_straw 87 = .ok (.iconst 2, 1) := dk_5 (dk_at dksX3_straw_3 19 rfl rfl)
theorem dX3_straw_88 : decode cX3_straw 88 = .ok (.invokevirtual 124, 3) := dk_182 0 124 (dk_at dksX3_straw_3 20 rfl rfl)
theorem dX3_straw_91 : decode cX3_straw 91 = .ok (.ireturn, 1) := dk_172 (dk_at dksX3_straw_3 23 rfl rfl)
abbrev cX3_pack : ByteArray := prog_24_method_47_code
def yX3_pack : MethodName := ⟨RX3, "pack", "(III)I"⟩
def dkwX3_pack_7 : List UInt8 := [182, 0, 124, 29, 5, 42, 28, 5, 182, 0, 102, 96, 104, 96, 182, 0, 121, 42, 27, 4, 182, 0, 124, 172]
abbrev dktX3_pack_7 : List UInt8 := dkwX3_pack_7 ++ []
def dkwX3_pack_6 : List UInt8 := [182, 0, 105, 42, 27, 4, 42, 27, 4, 182, 0, 124, 29, 96, 182, 0, 121, 42, 27, 6, 42, 27, 6]
abbrev dktX3_pack_6 : List UInt8 := dkwX3_pack_6 ++ dktX3_pack_7
def dkwX3_pack_5 : List UInt8 := [182, 0, 70, 172, 42, 42, 180, 0, 7, 182, 0, 74, 42, 28, 3, 42, 28, 3, 182, 0, 102, 29, 100]
abbrev dktX3_pack_5 : List UInt8 := dkwX3_pack_5 ++ dktX3_pack_6
def dkwX3_pack_4 : List UInt8 := [16, 7, 42, 28, 3, 182, 0, 102, 182, 0, 70, 172, 21, 4, 29, 162, 0, 13, 42, 6, 16, 8, 21, 4]
abbrev dktX3_pack_4 : List UInt8 := dkwX3_pack_4 ++ dktX3_pack_5
def dkwX3_pack_3 : List UInt8 := [4, 42, 28, 4, 182, 0, 102, 182, 0, 70, 172, 42, 28, 3, 182, 0, 102, 29, 162, 0, 17, 42, 6]
abbrev dktX3_pack_3 : List UInt8 := dkwX3_pack_3 ++ dktX3_pack_4
def dkwX3_pack_2 : List UInt8 := [182, 0, 124, 42, 27, 4, 182, 0, 124, 100, 54, 4, 42, 28, 4, 182, 0, 102, 6, 159, 0, 16, 42, 6]
abbrev dktX3_pack_2 : List UInt8 := dkwX3_pack_2 ++ dktX3_pack_3
def dkwX3_pack_1 : List UInt8 := [16, 24, 184, 0, 62, 153, 0, 7, 3, 167, 0, 4, 5, 182, 0, 66, 153, 0, 5, 3, 172, 42, 27, 3]
abbrev dktX3_pack_1 : List UInt8 := dkwX3_pack_1 ++ dktX3_pack_2
def dkwX3_pack_0 : List UInt8 := [42, 42, 27, 182, 0, 130, 153, 0, 11, 42, 28, 182, 0, 99, 154, 0, 7, 4, 167, 0, 18, 29, 4]
abbrev dktX3_pack_0 : List UInt8 := dkwX3_pack_0 ++ dktX3_pack_1
theorem dksX3_pack_0 : cX3_pack.data.toList.drop 0 = dktX3_pack_0 := by decide +kernel
theorem dksX3_pack_1 : cX3_pack.data.toList.drop 23 = dktX3_pack_1 := dk_seg dksX3_pack_0 23 rfl rfl
theorem dksX3_pack_2 : cX3_pack.data.toList.drop 47 = dktX3_pack_2 := dk_seg dksX3_pack_1 24 rfl rfl
theorem dksX3_pack_3 : cX3_pack.data.toList.drop 71 = dktX3_pack_3 := dk_seg dksX3_pack_2 24 rfl rfl
theorem dksX3_pack_4 : cX3_pack.data.toList.drop 94 = dktX3_pack_4 := dk_seg dksX3_pack_3 23 rfl rfl
theorem dksX3_pack_5 : cX3_pack.data.toList.drop 118 = dktX3_pack_5 := dk_seg dksX3_pack_4 24 rfl rfl
theorem dksX3_pack_6 : cX3_pack.data.toList.drop 141 = dktX3_pack_6 := dk_seg dksX3_pack_5 23 rfl rfl
theorem dksX3_pack_7 : cX3_pack.data.toList.drop 164 = dktX3_pack_7 := dk_seg dksX3_pack_6 23 rfl rfl
theorem dX3_pack_0 : decode cX3_pack 0 = .ok (.aload_n 0, 1) := dk_42 (dk_at dksX3_pack_0 0 rfl rfl)
theorem dX3_pack_1 : decode cX3_pack 1 = .ok (.aload_n 0, 1) := dk_42 (dk_at dksX3_pack_0 1 rfl rfl)
theorem dX3_pack_2 : decode cX3_pack 2 = .ok (.iload_n 1, 1) := dk_27 (dk_at dksX3_pack_0 2 rfl rfl)
theorem dX3_pack_3 : decode cX3_pack 3 = .ok (.invokevirtual 130, 3) := dk_182 0 130 (dk_at dksX3_pack_0 3 rfl rfl)
theorem dX3_pack_6 : decode cX3_pack 6 = .ok (.ifCond .eq 11, 3) := dk_153 0 11 (dk_at dksX3_pack_0 6 rfl rfl)
theorem dX3_pack_9 : decode cX3_pack 9 = .ok (.aload_n 0, 1) := dk_42 (dk_at dksX3_pack_0 9 rfl rfl)
theorem dX3_pack_10 : decode cX3_pack 10 = .ok (.iload_n 2, 1) := dk_28 (dk_at dksX3_pack_0 10 rfl rfl)
theorem dX3_pack_11 : decode cX3_pack 11 = .ok (.invokevirtual 99, 3) := dk_182 0 99 (dk_at dksX3_pack_0 11 rfl rfl)
theorem dX3_pack_14 : decode cX3_pack 14 = .ok (.ifCond .ne 7, 3) := dk_154 0 7 (dk_at dksX3_pack_0 14 rfl rfl)
theorem dX3_pack_17 : decode cX3_pack 17 = .ok (.iconst 1, 1) := dk_4 (dk_at dksX3_pack_0 17 rfl rfl)
theorem dX3_pack_18 : decode cX3_pack 18 = .ok (.goto 18, 3) := dk_167 0 18 (dk_at dksX3_pack_0 18 rfl rfl)
theorem dX3_pack_21 : decode cX3_pack 21 = .ok (.iload_n 3, 1) := dk_29 (dk_at dksX3_pack_0 21 rfl rfl)
theorem dX3_pack_22 : decode cX3_pack 22 = .ok (.iconst 1, 1) := dk_4 (dk_at dksX3_pack_0 22 rfl rfl)
theorem dX3_pack_23 : decode cX3_pack 23 = .ok (.bipush 24, 2) := dk_16 24 (dk_at dksX3_pack_1 0 rfl rfl)
theorem dX3_pack_25 : decode cX3_pack 25 = .ok (.invokestatic 62, 3) := dk_184 0 62 (dk_at dksX3_pack_1 2 rfl rfl)
theorem dX3_pack_28 : decode cX3_pack 28 = .ok (.ifCond .eq 7, 3) := dk_153 0 7 (dk_at dksX3_pack_1 5 rfl rfl)
theorem dX3_pack_31 : decode cX3_pack 31 = .ok (.iconst 0, 1) := dk_3 (dk_at dksX3_pack_1 8 rfl rfl)
theorem dX3_pack_32 : decode cX3_pack 32 = .ok (.goto 4, 3) := dk_167 0 4 (dk_at dksX3_pack_1 9 rfl rfl)
theorem dX3_pack_35 : decode cX3_pack 35 = .ok (.iconst 2, 1) := dk_5 (dk_at dksX3_pack_1 12 rfl rfl)
theorem dX3_pack_36 : decode cX3_pack 36 = .ok (.invokevirtual 66, 3) := dk_182 0 66 (dk_at dksX3_pack_1 13 rfl rfl)
theorem dX3_pack_39 : decode cX3_pack 39 = .ok (.ifCond .eq 5, 3) := dk_153 0 5 (dk_at dksX3_pack_1 16 rfl rfl)
theorem dX3_pack_42 : decode cX3_pack 42 = .ok (.iconst 0, 1) := dk_3 (dk_at dksX3_pack_1 19 rfl rfl)
theorem dX3_pack_43 : decode cX3_pack 43 = .ok (.ireturn, 1) := dk_172 (dk_at dksX3_pack_1 20 rfl rfl)
theorem dX3_pack_44 : decode cX3_pack 44 = .ok (.aload_n 0, 1) := dk_42 (dk_at dksX3_pack_1 21 rfl rfl)
theorem dX3_pack_45 : decode cX3_pack 45 = .ok (.iload_n 1, 1) := dk_27 (dk_at dksX3_pack_1 22 rfl rfl)
theorem dX3_pack_46 : decode cX3_pack 46 = .ok (.iconst 0, 1) := dk_3 (dk_at dksX3_pack_1 23 rfl rfl)
theorem dX3_pack_47 : decode cX3_pack 47 = .ok (.invokevirtual 124, 3) := dk_182 0 124 (dk_at dksX3_pack_2 0 rfl rfl)
theorem dX3_pack_50 : decode cX3_pack 50 = .ok (.aload_n 0, 1) := dk_42 (dk_at dksX3_pack_2 3 rfl rfl)
theorem dX3_pack_51 : decode cX3_pack 51 = .ok (.iload_n 1, 1) := dk_27 (dk_at dksX3_pack_2 4 rfl rfl)
theorem dX3_pack_52 : decode cX3_pack 52 = .ok (.iconst 1, 1) := dk_4 (dk_at dksX3_pack_2 5 rfl rfl)
theorem dX3_pack_53 : decode cX3_pack 53 = .ok (.invokevirtual 124, 3) := dk_182 0 124 (dk_at dksX3_pack_2 6 rfl rfl)
theorem dX3_pack_56 : decode cX3_pack 56 = .ok (.isub, 1) := dk_100 (dk_at dksX3_pack_2 9 rfl rfl)
theorem dX3_pack_57 : decode cX3_pack 57 = .ok (.istore 4, 2) := dk_54 4 (dk_at dksX3_pack_2 10 rfl rfl)
theorem dX3_pack_59 : decode cX3_pack 59 = .ok (.aload_n 0, 1) := dk_42 (dk_at dksX3_pack_2 12 rfl rfl)
theorem dX3_pack_60 : decode cX3_pack 60 = .ok (.iload_n 2, 1) := dk_28 (dk_at dksX3_pack_2 13 rfl rfl)
theorem dX3_pack_61 : decode cX3_pack 61 = .ok (.iconst 1, 1) := dk_4 (dk_at dksX3_pack_2 14 rfl rfl)
theorem dX3_pack_62 : decode cX3_pack 62 = .ok (.invokevirtual 102, 3) := dk_182 0 102 (dk_at dksX3_pack_2 15 rfl rfl)
theorem dX3_pack_65 : decode cX3_pack 65 = .ok (.iconst 3, 1) := dk_6 (dk_at dksX3_pack_2 18 rfl rfl)
theorem dX3_pack_66 : decode cX3_pack 66 = .ok (.if_icmp .eq 16, 3) := dk_159 0 16 (dk_at dksX3_pack_2 19 rfl rfl)
theorem dX3_pack_69 : decode cX3_pack 69 = .ok (.aload_n 0, 1) := dk_42 (dk_at dksX3_pack_2 22 rfl rfl)
theorem dX3_pack_70 : decode cX3_pack 70 = .ok (.iconst 3, 1) := dk_6 (dk_at dksX3_pack_2 23 rfl rfl)
theorem dX3_pack_71 : decode cX3_pack 71 = .ok (.iconst 1, 1) := dk_4 (dk_at dksX3_pack_3 0 rfl rfl)
theorem dX3_pack_72 : decode cX3_pack 72 = .ok (.aload_n 0, 1) := dk_42 (dk_at dksX3_pack_3 1 rfl rfl)
theorem dX3_pack_73 : decode cX3_pack 73 = .ok (.iload_n 2, 1) := dk_28 (dk_at dksX3_pack_3 2 rfl rfl)
theorem dX3_pack_74 : decode cX3_pack 74 = .ok (.iconst 1, 1) := dk_4 (dk_at dksX3_pack_3 3 rfl rfl)
theorem dX3_pack_75 : decode cX3_pack 75 = .ok (.invokevirtual 102, 3) := dk_182 0 102 (dk_at dksX3_pack_3 4 rfl rfl)
theorem dX3_pack_78 : decode cX3_pack 78 = .ok (.invokevirtual 70, 3) := dk_182 0 70 (dk_at dksX3_pack_3 7 rfl rfl)
theorem dX3_pack_81 : decode cX3_pack 81 = .ok (.ireturn, 1) := dk_172 (dk_at dksX3_pack_3 10 rfl rfl)
theorem dX3_pack_82 : decode cX3_pack 82 = .ok (.aload_n 0, 1) := dk_42 (dk_at dksX3_pack_3 11 rfl rfl)
theorem dX3_pack_83 : decode cX3_pack 83 = .ok (.iload_n 2, 1) := dk_28 (dk_at dksX3_pack_3 12 rfl rfl)
theorem dX3_pack_84 : decode cX3_pack 84 = .ok (.iconst 0, 1) := dk_3 (dk_at dksX3_pack_3 13 rfl rfl)
theorem dX3_pack_85 : decode cX3_pack 85 = .ok (.invokevirtual 102, 3) := dk_182 0 102 (dk_at dksX3_pack_3 14 rfl rfl)
theorem dX3_pack_88 : decode cX3_pack 88 = .ok (.iload_n 3, 1) := dk_29 (dk_at dksX3_pack_3 17 rfl rfl)
theorem dX3_pack_89 : decode cX3_pack 89 = .ok (.if_icmp .ge 17, 3) := dk_162 0 17 (dk_at dksX3_pack_3 18 rfl rfl)
theorem dX3_pack_92 : decode cX3_pack 92 = .ok (.aload_n 0, 1) := dk_42 (dk_at dksX3_pack_3 21 rfl rfl)
theorem dX3_pack_93 : decode cX3_pack 93 = .ok (.iconst 3, 1) := dk_6 (dk_at dksX3_pack_3 22 rfl rfl)
theorem dX3_pack_94 : decode cX3_pack 94 = .ok (.bipush 7, 2) := dk_16 7 (dk_at dksX3_pack_4 0 rfl rfl)
theorem dX3_pack_96 : decode cX3_pack 96 = .ok (.aload_n 0, 1) := dk_42 (dk_at dksX3_pack_4 2 rfl rfl)
theorem dX3_pack_97 : decode cX3_pack 97 = .ok (.iload_n 2, 1) := dk_28 (dk_at dksX3_pack_4 3 rfl rfl)
theorem dX3_pack_98 : decode cX3_pack 98 = .ok (.iconst 0, 1) := dk_3 (dk_at dksX3_pack_4 4 rfl rfl)
theorem dX3_pack_99 : decode cX3_pack 99 = .ok (.invokevirtual 102, 3) := dk_182 0 102 (dk_at dksX3_pack_4 5 rfl rfl)
theorem dX3_pack_102 : decode cX3_pack 102 = .ok (.invokevirtual 70, 3) := dk_182 0 70 (dk_at dksX3_pack_4 8 rfl rfl)
theorem dX3_pack_105 : decode cX3_pack 105 = .ok (.ireturn, 1) := dk_172 (dk_at dksX3_pack_4 11 rfl rfl)
theorem dX3_pack_106 : decode cX3_pack 106 = .ok (.iload 4, 2) := dk_21 4 (dk_at dksX3_pack_4 12 rfl rfl)
theorem dX3_pack_108 : decode cX3_pack 108 = .ok (.iload_n 3, 1) := dk_29 (dk_at dksX3_pack_4 14 rfl rfl)
theorem dX3_pack_109 : decode cX3_pack 109 = .ok (.if_icmp .ge 13, 3) := dk_162 0 13 (dk_at dksX3_pack_4 15 rfl rfl)
theorem dX3_pack_112 : decode cX3_pack 112 = .ok (.aload_n 0, 1) := dk_42 (dk_at dksX3_pack_4 18 rfl rfl)
theorem dX3_pack_113 : decode cX3_pack 113 = .ok (.iconst 3, 1) := dk_6 (dk_at dksX3_pack_4 19 rfl rfl)
theorem dX3_pack_114 : decode cX3_pack 114 = .ok (.bipush 8, 2) := dk_16 8 (dk_at dksX3_pack_4 20 rfl rfl)
theorem dX3_pack_116 : decode cX3_pack 116 = .ok (.iload 4, 2) := dk_21 4 (dk_at dksX3_pack_4 22 rfl rfl)
theorem dX3_pack_118 : decode cX3_pack 118 = .ok (.invokevirtual 70, 3) := dk_182 0 70 (dk_at dksX3_pack_5 0 rfl rfl)
theorem dX3_pack_121 : decode cX3_pack 121 = .ok (.ireturn, 1) := dk_172 (dk_at dksX3_pack_5 3 rfl rfl)
theorem dX3_pack_122 : decode cX3_pack 122 = .ok (.aload_n 0, 1) := dk_42 (dk_at dksX3_pack_5 4 rfl rfl)
theorem dX3_pack_123 : decode cX3_pack 123 = .ok (.aload_n 0, 1) := dk_42 (dk_at dksX3_pack_5 5 rfl rfl)
theorem dX3_pack_124 : decode cX3_pack 124 = .ok (.getfield 7, 3) := dk_180 0 7 (dk_at dksX3_pack_5 6 rfl rfl)
theorem dX3_pack_127 : decode cX3_pack 127 = .ok (.invokevirtual 74, 3) := dk_182 0 74 (dk_at dksX3_pack_5 9 rfl rfl)
theorem dX3_pack_130 : decode cX3_pack 130 = .ok (.aload_n 0, 1) := dk_42 (dk_at dksX3_pack_5 12 rfl rfl)
theorem dX3_pack_131 : decode cX3_pack 131 = .ok (.iload_n 2, 1) := dk_28 (dk_at dksX3_pack_5 13 rfl rfl)
theorem dX3_pack_132 : decode cX3_pack 132 = .ok (.iconst 0, 1) := dk_3 (dk_at dksX3_pack_5 14 rfl rfl)
theorem dX3_pack_133 : decode cX3_pack 133 = .ok (.aload_n 0, 1) := dk_42 (dk_at dksX3_pack_5 15 rfl rfl)
theorem dX3_pack_134 : decode cX3_pack 134 = .ok (.iload_n 2, 1) := dk_28 (dk_at dksX3_pack_5 16 rfl rfl)
theorem dX3_pack_135 : decode cX3_pack 135 = .ok (.iconst 0, 1) := dk_3 (dk_at dksX3_pack_5 17 rfl rfl)
theorem dX3_pack_136 : decode cX3_pack 136 = .ok (.invokevirtual 102, 3) := dk_182 0 102 (dk_at dksX3_pack_5 18 rfl rfl)
theorem dX3_pack_139 : decode cX3_pack 139 = .ok (.iload_n 3, 1) := dk_29 (dk_at dksX3_pack_5 21 rfl rfl)
theorem dX3_pack_140 : decode cX3_pack 140 = .ok (.isub, 1) := dk_100 (dk_at dksX3_pack_5 22 rfl rfl)
theorem dX3_pack_141 : decode cX3_pack 141 = .ok (.invokevirtual 105, 3) := dk_182 0 105 (dk_at dksX3_pack_6 0 rfl rfl)
theorem dX3_pack_144 : decode cX3_pack 144 = .ok (.aload_n 0, 1) := dk_42 (dk_at dksX3_pack_6 3 rfl rfl)
theorem dX3_pack_145 : decode cX3_pack 145 = .ok (.iload_n 1, 1) := dk_27 (dk_at dksX3_pack_6 4 rfl rfl)
theorem dX3_pack_146 : decode cX3_pack 146 = .ok (.iconst 1, 1) := dk_4 (dk_at dksX3_pack_6 5 rfl rfl)
theorem dX3_pack_147 : decode cX3_pack 147 = .ok (.aload_n 0, 1) := dk_42 (dk_at dksX3_pack_6 6 rfl rfl)
theorem dX3_pack_148 : decode cX3_pack 148 = .ok (.iload_n 1, 1) := dk_27 (dk_at dksX3_pack_6 7 rfl rfl)
theorem dX3_pack_149 : decode cX3_pack 149 = .ok (.iconst 1, 1) := dk_4 (dk_at dksX3_pack_6 8 rfl rfl)
theorem dX3_pack_150 : decode cX3_pack 150 = .ok (.invokevirtual 124, 3) := dk_182 0 124 (dk_at dksX3_pack_6 9 rfl rfl)
theorem dX3_pack_153 : decode cX3_pack 153 = .ok (.iload_n 3, 1) := dk_29 (dk_at dksX3_pack_6 12 rfl rfl)
theorem dX3_pack_154 : decode cX3_pack 154 = .ok (.iadd, 1) := dk_96 (dk_at dksX3_pack_6 13 rfl rfl)
theorem dX3_pack_155 : decode cX3_pack 155 = .ok (.invokevirtual 121, 3) := dk_182 0 121 (dk_at dksX3_pack_6 14 rfl rfl)
theorem dX3_pack_158 : decode cX3_pack 158 = .ok (.aload_n 0, 1) := dk_42 (dk_at dksX3_pack_6 17 rfl rfl)
theorem dX3_pack_159 : decode cX3_pack 159 = .ok (.iload_n 1, 1) := dk_27 (dk_at dksX3_pack_6 18 rfl rfl)
theorem dX3_pack_160 : decode cX3_pack 160 = .ok (.iconst 3, 1) := dk_6 (dk_at dksX3_pack_6 19 rfl rfl)
theorem dX3_pack_161 : decode cX3_pack 161 = .ok (.aload_n 0, 1) := dk_42 (dk_at dksX3_pack_6 20 rfl rfl)
theorem dX3_pack_162 : decode cX3_pack 162 = .ok (.iload_n 1, 1) := dk_27 (dk_at dksX3_pack_6 21 rfl rfl)
theorem dX3_pack_163 : decode cX3_pack 163 = .ok (.iconst 3, 1) := dk_6 (dk_at dksX3_pack_6 22 rfl rfl)
theorem dX3_pack_164 : decode cX3_pack 164 = .ok (.invokevirtual 124, 3) := dk_182 0 124 (dk_at dksX3_pack_7 0 rfl rfl)
theorem dX3_pack_167 : decode cX3_pack 167 = .ok (.iload_n 3, 1) := dk_29 (dk_at dksX3_pack_7 3 rfl rfl)
theorem dX3_pack_168 : decode cX3_pack 168 = .ok (.iconst 2, 1) := dk_5 (dk_at dksX3_pack_7 4 rfl rfl)
theorem dX3_pack_169 : decode cX3_pack 169 = .ok (.aload_n 0, 1) := dk_42 (dk_at dksX3_pack_7 5 rfl rfl)
theorem dX3_pack_170 : decode cX3_pack 170 = .ok (.iload_n 2, 1) := dk_28 (dk_at dksX3_pack_7 6 rfl rfl)
theorem dX3_pack_171 : decode cX3_pack 171 = .ok (.iconst 2, 1) := dk_5 (dk_at dksX3_pack_7 7 rfl rfl)
theorem dX3_pack_172 : decode cX3_pack 172 = .ok (.invokevirtual 102, 3) := dk_182 0 102 (dk_at dksX3_pack_7 8 rfl rfl)
theorem dX3_pack_175 : decode cX3_pack 175 = .ok (.iadd, 1) := dk_96 (dk_at dksX3_pack_7 11 rfl rfl)
theorem dX3_pack_176 : decode cX3_pack 176 = .ok (.imul, 1) := dk_104 (dk_at dksX3_pack_7 12 rfl rfl)
theorem dX3_pack_177 : decode cX3_pack 177 = .ok (.iadd, 1) := dk_96 (dk_at dksX3_pack_7 13 rfl rfl)
theorem dX3_pack_178 : decode cX3_pack 178 = .ok (.invokevirtual 121, 3) := dk_182 0 121 (dk_at dksX3_pack_7 14 rfl rfl)
theorem dX3_pack_181 : decode cX3_pack 181 = .ok (.aload_n 0, 1) := dk_42 (dk_at dksX3_pack_7 17 rfl rfl)
theorem dX3_pack_182 : decode cX3_pack 182 = .ok (.iload_n 1, 1) := dk_27 (dk_at dksX3_pack_7 18 rfl rfl)
theorem dX3_pack_183 : decode cX3_pack 183 = .ok (.iconst 1, 1) := dk_4 (dk_at dksX3_pack_7 19 rfl rfl)
theorem dX3_pack_184 : decode cX3_pack 184 = .ok (.invokevirtual 124, 3) := dk_182 0 124 (dk_at dksX3_pack_7 20 rfl rfl)
theorem dX3_pack_187 : decode cX3_pack 187 = .ok (.ireturn, 1) := dk_172 (dk_at dksX3_pack_7 23 rfl rfl)
abbrev cX3_carry : ByteArray := prog_24_method_48_code
def yX3_carry : MethodName := ⟨RX3, "carry", "(I)I"⟩
def dkwX3_carry_4 : List UInt8 := [21, 4, 7, 162, 0, 17, 42, 27, 21, 4, 3, 182, 0, 121, 132, 4, 1, 167, 255, 239, 28, 172]
abbrev dktX3_carry_4 : List UInt8 := dkwX3_carry_4 ++ []
def dkwX3_carry_3 : List UInt8 := [42, 27, 4, 182, 0, 124, 29, 100, 96, 79, 42, 180, 0, 7, 16, 6, 92, 46, 29, 96, 79, 4, 54, 4]
abbrev dktX3_carry_3 : List UInt8 := dkwX3_carry_3 ++ dktX3_carry_4
def dkwX3_carry_2 : List UInt8 := [42, 27, 182, 0, 133, 61, 42, 27, 182, 0, 127, 62, 42, 28, 182, 0, 136, 42, 180, 0, 7, 8, 92, 46]
abbrev dktX3_carry_2 : List UInt8 := dkwX3_carry_2 ++ dktX3_carry_3
def dkwX3_carry_1 : List UInt8 := [4, 182, 0, 124, 154, 0, 12, 42, 5, 16, 9, 27, 182, 0, 70, 172, 42, 42, 180, 0, 7, 182, 0, 74]
abbrev dktX3_carry_1 : List UInt8 := dkwX3_carry_1 ++ dktX3_carry_2
def dkwX3_carry_0 : List UInt8 := [42, 42, 27, 182, 0, 130, 153, 0, 7, 3, 167, 0, 4, 4, 182, 0, 66, 153, 0, 5, 3, 172, 42, 27]
abbrev dktX3_carry_0 : List UInt8 := dkwX3_carry_0 ++ dktX3_carry_1
theorem dksX3_carry_0 : cX3_carry.data.toList.drop 0 = dktX3_carry_0 := by decide +kernel
theorem dksX3_carry_1 : cX3_carry.data.toList.drop 24 = dktX3_carry_1 := dk_seg dksX3_carry_0 24 rfl rfl
theorem dksX3_carry_2 : cX3_carry.data.toList.drop 48 = dktX3_carry_2 := dk_seg dksX3_carry_1 24 rfl rfl
theorem dksX3_carry_3 : cX3_carry.data.toList.drop 72 = dktX3_carry_3 := dk_seg dksX3_carry_2 24 rfl rfl
theorem dksX3_carry_4 : cX3_carry.data.toList.drop 96 = dktX3_carry_4 := dk_seg dksX3_carry_3 24 rfl rfl
theorem dX3_carry_0 : decode cX3_carry 0 = .ok (.aload_n 0, 1) := dk_42 (dk_at dksX3_carry_0 0 rfl rfl)
theorem dX3_carry_1 : decode cX3_carry 1 = .ok (.aload_n 0, 1) := dk_42 (dk_at dksX3_carry_0 1 rfl rfl)
theorem dX3_carry_2 : decode cX3_carry 2 = .ok (.iload_n 1, 1) := dk_27 (dk_at dksX3_carry_0 2 rfl rfl)
theorem dX3_carry_3 : decode cX3_carry 3 = .ok (.invokevirtual 130, 3) := dk_182 0 130 (dk_at dksX3_carry_0 3 rfl rfl)
theorem dX3_carry_6 : decode cX3_carry 6 = .ok (.ifCond .eq 7, 3) := dk_153 0 7 (dk_at dksX3_carry_0 6 rfl rfl)
theorem dX3_carry_9 : decode cX3_carry 9 = .ok (.iconst 0, 1) := dk_3 (dk_at dksX3_carry_0 9 rfl rfl)
theorem dX3_carry_10 : decode cX3_carry 10 = .ok (.goto 4, 3) := dk_167 0 4 (dk_at dksX3_carry_0 10 rfl rfl)
theorem dX3_carry_13 : decode cX3_carry 13 = .ok (.iconst 1, 1) := dk_4 (dk_at dksX3_carry_0 13 rfl rfl)
theorem dX3_carry_14 : decode cX3_carry 14 = .ok (.invokevirtual 66, 3) := dk_182 0 66 (dk_at dksX3_carry_0 14 rfl rfl)
theorem dX3_carry_17 : decode cX3_carry 17 = .ok (.ifCond .eq 5, 3) := dk_153 0 5 (dk_at dksX3_carry_0 17 rfl rfl)
theorem dX3_carry_20 : decode cX3_carry 20 = .ok (.iconst 0, 1) := dk_3 (dk_at dksX3_carry_0 20 rfl rfl)
theorem dX3_carry_21 : decode cX3_carry 21 = .ok (.ireturn, 1) := dk_172 (dk_at dksX3_carry_0 21 rfl rfl)
theorem dX3_carry_22 : decode cX3_carry 22 = .ok (.aload_n 0, 1) := dk_42 (dk_at dksX3_carry_0 22 rfl rfl)
theorem dX3_carry_23 : decode cX3_carry 23 = .ok (.iload_n 1, 1) := dk_27 (dk_at dksX3_carry_0 23 rfl rfl)
theorem dX3_carry_24 : decode cX3_carry 24 = .ok (.iconst 1, 1) := dk_4 (dk_at dksX3_carry_1 0 rfl rfl)
theorem dX3_carry_25 : decode cX3_carry 25 = .ok (.invokevirtual 124, 3) := dk_182 0 124 (dk_at dksX3_carry_1 1 rfl rfl)
theorem dX3_carry_28 : decode cX3_carry 28 = .ok (.ifCond .ne 12, 3) := dk_154 0 12 (dk_at dksX3_carry_1 4 rfl rfl)
theorem dX3_carry_31 : decode cX3_carry 31 = .ok (.aload_n 0, 1) := dk_42 (dk_at dksX3_carry_1 7 rfl rfl)
theorem dX3_carry_32 : decode cX3_carry 32 = .ok (.iconst 2, 1) := dk_5 (dk_at dksX3_carry_1 8 rfl rfl)
theorem dX3_carry_33 : decode cX3_carry 33 = .ok (.bipush 9, 2) := dk_16 9 (dk_at dksX3_carry_1 9 rfl rfl)
theorem dX3_carry_35 : decode cX3_carry 35 = .ok (.iload_n 1, 1) := dk_27 (dk_at dksX3_carry_1 11 rfl rfl)
theorem dX3_carry_36 : decode cX3_carry 36 = .ok (.invokevirtual 70, 3) := dk_182 0 70 (dk_at dksX3_carry_1 12 rfl rfl)
theorem dX3_carry_39 : decode cX3_carry 39 = .ok (.ireturn, 1) := dk_172 (dk_at dksX3_carry_1 15 rfl rfl)
theorem dX3_carry_40 : decode cX3_carry 40 = .ok (.aload_n 0, 1) := dk_42 (dk_at dksX3_carry_1 16 rfl rfl)
theorem dX3_carry_41 : decode cX3_carry 41 = .ok (.aload_n 0, 1) := dk_42 (dk_at dksX3_carry_1 17 rfl rfl)
theorem dX3_carry_42 : decode cX3_carry 42 = .ok (.getfield 7, 3) := dk_180 0 7 (dk_at dksX3_carry_1 18 rfl rfl)
theorem dX3_carry_45 : decode cX3_carry 45 = .ok (.invokevirtual 74, 3) := dk_182 0 74 (dk_at dksX3_carry_1 21 rfl rfl)
theorem dX3_carry_48 : decode cX3_carry 48 = .ok (.aload_n 0, 1) := dk_42 (dk_at dksX3_carry_2 0 rfl rfl)
theorem dX3_carry_49 : decode cX3_carry 49 = .ok (.iload_n 1, 1) := dk_27 (dk_at dksX3_carry_2 1 rfl rfl)
theorem dX3_carry_50 : decode cX3_carry 50 = .ok (.invokevirtual 133, 3) := dk_182 0 133 (dk_at dksX3_carry_2 2 rfl rfl)
theorem dX3_carry_53 : decode cX3_carry 53 = .ok (.istore_n 2, 1) := dk_61 (dk_at dksX3_carry_2 5 rfl rfl)
theorem dX3_carry_54 : decode cX3_carry 54 = .ok (.aload_n 0, 1) := dk_42 (dk_at dksX3_carry_2 6 rfl rfl)
theorem dX3_carry_55 : decode cX3_carry 55 = .ok (.iload_n 1, 1) := dk_27 (dk_at dksX3_carry_2 7 rfl rfl)
theorem dX3_carry_56 : decode cX3_carry 56 = .ok (.invokevirtual 127, 3) := dk_182 0 127 (dk_at dksX3_carry_2 8 rfl rfl)
theorem dX3_carry_59 : decode cX3_carry 59 = .ok (.istore_n 3, 1) := dk_62 (dk_at dksX3_carry_2 11 rfl rfl)
theorem dX3_carry_60 : decode cX3_carry 60 = .ok (.aload_n 0, 1) := dk_42 (dk_at dksX3_carry_2 12 rfl rfl)
theorem dX3_carry_61 : decode cX3_carry 61 = .ok (.iload_n 2, 1) := dk_28 (dk_at dksX3_carry_2 13 rfl rfl)
theorem dX3_carry_62 : decode cX3_carry 62 = .ok (.invokevirtual 136, 3) := dk_182 0 136 (dk_at dksX3_carry_2 14 rfl rfl)
theorem dX3_carry_65 : decode cX3_carry 65 = .ok (.aload_n 0, 1) := dk_42 (dk_at dksX3_carry_2 17 rfl rfl)
theorem dX3_carry_66 : decode cX3_carry 66 = .ok (.getfield 7, 3) := dk_180 0 7 (dk_at dksX3_carry_2 18 rfl rfl)
theorem dX3_carry_69 : decode cX3_carry 69 = .ok (.iconst 5, 1) := dk_8 (dk_at dksX3_carry_2 21 rfl rfl)
theorem dX3_carry_70 : decode cX3_carry 70 = .ok (.dup2, 1) := dk_92 (dk_at dksX3_carry_2 22 rfl rfl)
theorem dX3_carry_71 : decode cX3_carry 71 = .ok (.iaload, 1) := dk_46 (dk_at dksX3_carry_2 23 rfl rfl)
theorem dX3_carry_72 : decode cX3_carry 72 = .ok (.aload_n 0, 1) := dk_42 (dk_at dksX3_carry_3 0 rfl rfl)
theorem dX3_carry_73 : decode cX3_carry 73 = .ok (.iload_n 1, 1) := dk_27 (dk_at dksX3_carry_3 1 rfl rfl)
theorem dX3_carry_74 : decode cX3_carry 74 = .ok (.iconst 1, 1) := dk_4 (dk_at dksX3_carry_3 2 rfl rfl)
theorem dX3_carry_75 : decode cX3_carry 75 = .ok (.invokevirtual 124, 3) := dk_182 0 124 (dk_at dksX3_carry_3 3 rfl rfl)
theorem dX3_carry_78 : decode cX3_carry 78 = .ok (.iload_n 3, 1) := dk_29 (dk_at dksX3_carry_3 6 rfl rfl)
theorem dX3_carry_79 : decode cX3_carry 79 = .ok (.isub, 1) := dk_100 (dk_at dksX3_carry_3 7 rfl rfl)
theorem dX3_carry_80 : decode cX3_carry 80 = .ok (.iadd, 1) := dk_96 (dk_at dksX3_carry_3 8 rfl rfl)
theorem dX3_carry_81 : decode cX3_carry 81 = .ok (.iastore, 1) := dk_79 (dk_at dksX3_carry_3 9 rfl rfl)
theorem dX3_carry_82 : decode cX3_carry 82 = .ok (.aload_n 0, 1) := dk_42 (dk_at dksX3_carry_3 10 rfl rfl)
theorem dX3_carry_83 : decode cX3_carry 83 = .ok (.getfield 7, 3) := dk_180 0 7 (dk_at dksX3_carry_3 11 rfl rfl)
theorem dX3_carry_86 : decode cX3_carry 86 = .ok (.bipush 6, 2) := dk_16 6 (dk_at dksX3_carry_3 14 rfl rfl)
theorem dX3_carry_88 : decode cX3_carry 88 = .ok (.dup2, 1) := dk_92 (dk_at dksX3_carry_3 16 rfl rfl)
theorem dX3_carry_89 : decode cX3_carry 89 = .ok (.iaload, 1) := dk_46 (dk_at dksX3_carry_3 17 rfl rfl)
theorem dX3_carry_90 : decode cX3_carry 90 = .ok (.iload_n 3, 1) := dk_29 (dk_at dksX3_carry_3 18 rfl rfl)
theorem dX3_carry_91 : decode cX3_carry 91 = .ok (.iadd, 1) := dk_96 (dk_at dksX3_carry_3 19 rfl rfl)
theorem dX3_carry_92 : decode cX3_carry 92 = .ok (.iastore, 1) := dk_79 (dk_at dksX3_carry_3 20 rfl rfl)
theorem dX3_carry_93 : decode cX3_carry 93 = .ok (.iconst 1, 1) := dk_4 (dk_at dksX3_carry_3 21 rfl rfl)
theorem dX3_carry_94 : decode cX3_carry 94 = .ok (.istore 4, 2) := dk_54 4 (dk_at dksX3_carry_3 22 rfl rfl)
theorem dX3_carry_96 : decode cX3_carry 96 = .ok (.iload 4, 2) := dk_21 4 (dk_at dksX3_carry_4 0 rfl rfl)
theorem dX3_carry_98 : decode cX3_carry 98 = .ok (.iconst 4, 1) := dk_7 (dk_at dksX3_carry_4 2 rfl rfl)
theorem dX3_carry_99 : decode cX3_carry 99 = .ok (.if_icmp .ge 17, 3) := dk_162 0 17 (dk_at dksX3_carry_4 3 rfl rfl)
theorem dX3_carry_102 : decode cX3_carry 102 = .ok (.aload_n 0, 1) := dk_42 (dk_at dksX3_carry_4 6 rfl rfl)
theorem dX3_carry_103 : decode cX3_carry 103 = .ok (.iload_n 1, 1) := dk_27 (dk_at dksX3_carry_4 7 rfl rfl)
theorem dX3_carry_104 : decode cX3_carry 104 = .ok (.iload 4, 2) := dk_21 4 (dk_at dksX3_carry_4 8 rfl rfl)
theorem dX3_carry_106 : decode cX3_carry 106 = .ok (.iconst 0, 1) := dk_3 (dk_at dksX3_carry_4 10 rfl rfl)
theorem dX3_carry_107 : decode cX3_carry 107 = .ok (.invokevirtual 121, 3) := dk_182 0 121 (dk_at dksX3_carry_4 11 rfl rfl)
theorem dX3_carry_110 : decode cX3_carry 110 = .ok (.iinc 4 1, 3) := dk_132 4 1 (dk_at dksX3_carry_4 14 rfl rfl)
theorem dX3_carry_113 : decode cX3_carry 113 = .ok (.goto (-17), 3) := dk_167 255 239 (dk_at dksX3_carry_4 17 rfl rfl)
theorem dX3_carry_116 : decode cX3_carry 116 = .ok (.iload_n 2, 1) := dk_28 (dk_at dksX3_carry_4 20 rfl rfl)
theorem dX3_carry_117 : decode cX3_carry 117 = .ok (.ireturn, 1) := dk_172 (dk_at dksX3_carry_4 21 rfl rfl)
abbrev cX3_gets : ByteArray := prog_24_method_23_code
def yX3_gets : MethodName := ⟨RX3, "gets", "(I)V"⟩
def dkwX3_gets_0 : List UInt8 := [42, 180, 0, 7, 6, 92, 46, 27, 96, 79, 42, 180, 0, 7, 16, 8, 92, 46, 27, 96, 79, 177]
abbrev dktX3_gets_0 : List UInt8 := dkwX3_gets_0 ++ []
theorem dksX3_gets_0 : cX3_gets.data.toList.drop 0 = dktX3_gets_0 := by decide +kernel
theorem dX3_gets_0 : decode cX3_gets 0 = .ok (.aload_n 0, 1) := dk_42 (dk_at dksX3_gets_0 0 rfl rfl)
theorem dX3_gets_1 : decode cX3_gets 1 = .ok (.getfield 7, 3) := dk_180 0 7 (dk_at dksX3_gets_0 1 rfl rfl)
theorem dX3_gets_4 : decode cX3_gets 4 = .ok (.iconst 3, 1) := dk_6 (dk_at dksX3_gets_0 4 rfl rfl)
theorem dX3_gets_5 : decode cX3_gets 5 = .ok (.dup2, 1) := dk_92 (dk_at dksX3_gets_0 5 rfl rfl)
theorem dX3_gets_6 : decode cX3_gets 6 = .ok (.iaload, 1) := dk_46 (dk_at dksX3_gets_0 6 rfl rfl)
theorem dX3_gets_7 : decode cX3_gets 7 = .ok (.iload_n 1, 1) := dk_27 (dk_at dksX3_gets_0 7 rfl rfl)
theorem dX3_gets_8 : decode cX3_gets 8 = .ok (.iadd, 1) := dk_96 (dk_at dksX3_gets_0 8 rfl rfl)
theorem dX3_gets_9 : decode cX3_gets 9 = .ok (.iastore, 1) := dk_79 (dk_at dksX3_gets_0 9 rfl rfl)
theorem dX3_gets_10 : decode cX3_gets 10 = .ok (.aload_n 0, 1) := dk_42 (dk_at dksX3_gets_0 10 rfl rfl)
theorem dX3_gets_11 : decode cX3_gets 11 = .ok (.getfield 7, 3) := dk_180 0 7 (dk_at dksX3_gets_0 11 rfl rfl)
theorem dX3_gets_14 : decode cX3_gets 14 = .ok (.bipush 8, 2) := dk_16 8 (dk_at dksX3_gets_0 14 rfl rfl)
theorem dX3_gets_16 : decode cX3_gets 16 = .ok (.dup2, 1) := dk_92 (dk_at dksX3_gets_0 16 rfl rfl)
theorem dX3_gets_17 : decode cX3_gets 17 = .ok (.iaload, 1) := dk_46 (dk_at dksX3_gets_0 17 rfl rfl)
theorem dX3_gets_18 : decode cX3_gets 18 = .ok (.iload_n 1, 1) := dk_27 (dk_at dksX3_gets_0 18 rfl rfl)
theorem dX3_gets_19 : decode cX3_gets 19 = .ok (.iadd, 1) := dk_96 (dk_at dksX3_gets_0 19 rfl rfl)
theorem dX3_gets_20 : decode cX3_gets 20 = .ok (.iastore, 1) := dk_79 (dk_at dksX3_gets_0 20 rfl rfl)
theorem dX3_gets_21 : decode cX3_gets 21 = .ok (.return_, 1) := dk_177 (dk_at dksX3_gets_0 21 rfl rfl)
abbrev cX3_sell : ByteArray := prog_24_method_49_code
def yX3_sell : MethodName := ⟨RX3, "sell", "()I"⟩
def dkwX3_sell_3 : List UInt8 := [79, 42, 180, 0, 7, 16, 6, 3, 79, 27, 172]
abbrev dktX3_sell_3 : List UInt8 := dkwX3_sell_3 ++ []
def dkwX3_sell_2 : List UInt8 := [5, 108, 60, 42, 27, 182, 0, 136, 42, 180, 0, 7, 16, 7, 92, 46, 42, 180, 0, 7, 16, 6, 46, 96]
abbrev dktX3_sell_2 : List UInt8 := dkwX3_sell_2 ++ dktX3_sell_3
def dkwX3_sell_1 : List UInt8 := [16, 7, 46, 182, 0, 70, 172, 42, 42, 180, 0, 7, 182, 0, 74, 42, 180, 0, 7, 16, 6, 46, 4, 96]
abbrev dktX3_sell_1 : List UInt8 := dkwX3_sell_1 ++ dktX3_sell_2
def dkwX3_sell_0 : List UInt8 := [42, 3, 181, 0, 45, 42, 180, 0, 7, 16, 6, 46, 154, 0, 18, 42, 4, 16, 10, 42, 180, 0, 7]
abbrev dktX3_sell_0 : List UInt8 := dkwX3_sell_0 ++ dktX3_sell_1
theorem dksX3_sell_0 : cX3_sell.data.toList.drop 0 = dktX3_sell_0 := by decide +kernel
theorem dksX3_sell_1 : cX3_sell.data.toList.drop 23 = dktX3_sell_1 := dk_seg dksX3_sell_0 23 rfl rfl
theorem dksX3_sell_2 : cX3_sell.data.toList.drop 47 = dktX3_sell_2 := dk_seg dksX3_sell_1 24 rfl rfl
theorem dksX3_sell_3 : cX3_sell.data.toList.drop 71 = dktX3_sell_3 := dk_seg dksX3_sell_2 24 rfl rfl
theorem dX3_sell_0 : decode cX3_sell 0 = .ok (.aload_n 0, 1) := dk_42 (dk_at dksX3_sell_0 0 rfl rfl)
theorem dX3_sell_1 : decode cX3_sell 1 = .ok (.iconst 0, 1) := dk_3 (dk_at dksX3_sell_0 1 rfl rfl)
theorem dX3_sell_2 : decode cX3_sell 2 = .ok (.putfield 45, 3) := dk_181 0 45 (dk_at dksX3_sell_0 2 rfl rfl)
theorem dX3_sell_5 : decode cX3_sell 5 = .ok (.aload_n 0, 1) := dk_42 (dk_at dksX3_sell_0 5 rfl rfl)
theorem dX3_sell_6 : decode cX3_sell 6 = .ok (.getfield 7, 3) := dk_180 0 7 (dk_at dksX3_sell_0 6 rfl rfl)
theorem dX3_sell_9 : decode cX3_sell 9 = .ok (.bipush 6, 2) := dk_16 6 (dk_at dksX3_sell_0 9 rfl rfl)
theorem dX3_sell_11 : decode cX3_sell 11 = .ok (.iaload, 1) := dk_46 (dk_at dksX3_sell_0 11 rfl rfl)
theorem dX3_sell_12 : decode cX3_sell 12 = .ok (.ifCond .ne 18, 3) := dk_154 0 18 (dk_at dksX3_sell_0 12 rfl rfl)
theorem dX3_sell_15 : decode cX3_sell 15 = .ok (.aload_n 0, 1) := dk_42 (dk_at dksX3_sell_0 15 rfl rfl)
theorem dX3_sell_16 : decode cX3_sell 16 = .ok (.iconst 1, 1) := dk_4 (dk_at dksX3_sell_0 16 rfl rfl)
theorem dX3_sell_17 : decode cX3_sell 17 = .ok (.bipush 10, 2) := dk_16 10 (dk_at dksX3_sell_0 17 rfl rfl)
theorem dX3_sell_19 : decode cX3_sell 19 = .ok (.aload_n 0, 1) := dk_42 (dk_at dksX3_sell_0 19 rfl rfl)
theorem dX3_sell_20 : decode cX3_sell 20 = .ok (.getfield 7, 3) := dk_180 0 7 (dk_at dksX3_sell_0 20 rfl rfl)
theorem dX3_sell_23 : decode cX3_sell 23 = .ok (.bipush 7, 2) := dk_16 7 (dk_at dksX3_sell_1 0 rfl rfl)
theorem dX3_sell_25 : decode cX3_sell 25 = .ok (.iaload, 1) := dk_46 (dk_at dksX3_sell_1 2 rfl rfl)
theorem dX3_sell_26 : decode cX3_sell 26 = .ok (.invokevirtual 70, 3) := dk_182 0 70 (dk_at dksX3_sell_1 3 rfl rfl)
theorem dX3_sell_29 : decode cX3_sell 29 = .ok (.ireturn, 1) := dk_172 (dk_at dksX3_sell_1 6 rfl rfl)
theorem dX3_sell_30 : decode cX3_sell 30 = .ok (.aload_n 0, 1) := dk_42 (dk_at dksX3_sell_1 7 rfl rfl)
theorem dX3_sell_31 : decode cX3_sell 31 = .ok (.aload_n 0, 1) := dk_42 (dk_at dksX3_sell_1 8 rfl rfl)
theorem dX3_sell_32 : decode cX3_sell 32 = .ok (.getfield 7, 3) := dk_180 0 7 (dk_at dksX3_sell_1 9 rfl rfl)
theorem dX3_sell_35 : decode cX3_sell 35 = .ok (.invokevirtual 74, 3) := dk_182 0 74 (dk_at dksX3_sell_1 12 rfl rfl)
theorem dX3_sell_38 : decode cX3_sell 38 = .ok (.aload_n 0, 1) := dk_42 (dk_at dksX3_sell_1 15 rfl rfl)
theorem dX3_sell_39 : decode cX3_sell 39 = .ok (.getfield 7, 3) := dk_180 0 7 (dk_at dksX3_sell_1 16 rfl rfl)
theorem dX3_sell_42 : decode cX3_sell 42 = .ok (.bipush 6, 2) := dk_16 6 (dk_at dksX3_sell_1 19 rfl rfl)
theorem dX3_sell_44 : decode cX3_sell 44 = .ok (.iaload, 1) := dk_46 (dk_at dksX3_sell_1 21 rfl rfl)
theorem dX3_sell_45 : decode cX3_sell 45 = .ok (.iconst 1, 1) := dk_4 (dk_at dksX3_sell_1 22 rfl rfl)
theorem dX3_sell_46 : decode cX3_sell 46 = .ok (.iadd, 1) := dk_96 (dk_at dksX3_sell_1 23 rfl rfl)
theorem dX3_sell_47 : decode cX3_sell 47 = .ok (.iconst 2, 1) := dk_5 (dk_at dksX3_sell_2 0 rfl rfl)
theorem dX3_sell_48 : decode cX3_sell 48 = .ok (.idiv, 1) := dk_108 (dk_at dksX3_sell_2 1 rfl rfl)
theorem dX3_sell_49 : decode cX3_sell 49 = .ok (.istore_n 1, 1) := dk_60 (dk_at dksX3_sell_2 2 rfl rfl)
theorem dX3_sell_50 : decode cX3_sell 50 = .ok (.aload_n 0, 1) := dk_42 (dk_at dksX3_sell_2 3 rfl rfl)
theorem dX3_sell_51 : decode cX3_sell 51 = .ok (.iload_n 1, 1) := dk_27 (dk_at dksX3_sell_2 4 rfl rfl)
theorem dX3_sell_52 : decode cX3_sell 52 = .ok (.invokevirtual 136, 3) := dk_182 0 136 (dk_at dksX3_sell_2 5 rfl rfl)
theorem dX3_sell_55 : decode cX3_sell 55 = .ok (.aload_n 0, 1) := dk_42 (dk_at dksX3_sell_2 8 rfl rfl)
theorem dX3_sell_56 : decode cX3_sell 56 = .ok (.getfield 7, 3) := dk_180 0 7 (dk_at dksX3_sell_2 9 rfl rfl)
theorem dX3_sell_59 : decode cX3_sell 59 = .ok (.bipush 7, 2) := dk_16 7 (dk_at dksX3_sell_2 12 rfl rfl)
theorem dX3_sell_61 : decode cX3_sell 61 = .ok (.dup2, 1) := dk_92 (dk_at dksX3_sell_2 14 rfl rfl)
theorem dX3_sell_62 : decode cX3_sell 62 = .ok (.iaload, 1) := dk_46 (dk_at dksX3_sell_2 15 rfl rfl)
theorem dX3_sell_63 : decode cX3_sell 63 = .ok (.aload_n 0, 1) := dk_42 (dk_at dksX3_sell_2 16 rfl rfl)
theorem dX3_sell_64 : decode cX3_sell 64 = .ok (.getfield 7, 3) := dk_180 0 7 (dk_at dksX3_sell_2 17 rfl rfl)
theorem dX3_sell_67 : decode cX3_sell 67 = .ok (.bipush 6, 2) := dk_16 6 (dk_at dksX3_sell_2 20 rfl rfl)
theorem dX3_sell_69 : decode cX3_sell 69 = .ok (.iaload, 1) := dk_46 (dk_at dksX3_sell_2 22 rfl rfl)
theorem dX3_sell_70 : decode cX3_sell 70 = .ok (.iadd, 1) := dk_96 (dk_at dksX3_sell_2 23 rfl rfl)
theorem dX3_sell_71 : decode cX3_sell 71 = .ok (.iastore, 1) := dk_79 (dk_at dksX3_sell_3 0 rfl rfl)
theorem dX3_sell_72 : decode cX3_sell 72 = .ok (.aload_n 0, 1) := dk_42 (dk_at dksX3_sell_3 1 rfl rfl)
theorem dX3_sell_73 : decode cX3_sell 73 = .ok (.getfield 7, 3) := dk_180 0 7 (dk_at dksX3_sell_3 2 rfl rfl)
theorem dX3_sell_76 : decode cX3_sell 76 = .ok (.bipush 6, 2) := dk_16 6 (dk_at dksX3_sell_3 5 rfl rfl)
theorem dX3_sell_78 : decode cX3_sell 78 = .ok (.iconst 0, 1) := dk_3 (dk_at dksX3_sell_3 7 rfl rfl)
theorem dX3_sell_79 : decode cX3_sell 79 = .ok (.iastore, 1) := dk_79 (dk_at dksX3_sell_3 8 rfl rfl)
theorem dX3_sell_80 : decode cX3_sell 80 = .ok (.iload_n 1, 1) := dk_27 (dk_at dksX3_sell_3 9 rfl rfl)
theorem dX3_sell_81 : decode cX3_sell 81 = .ok (.ireturn, 1) := dk_172 (dk_at dksX3_sell_3 10 rfl rfl)
abbrev cX3_pass : ByteArray := prog_24_method_51_code
def yX3_pass : MethodName := ⟨RX3, "pass", "(I)I"⟩
def dkwX3_pass_2 : List UInt8 := [132, 3, 1, 167, 255, 241, 28, 172]
abbrev dktX3_pass_2 : List UInt8 := dkwX3_pass_2 ++ []
def dkwX3_pass_1 : List UInt8 := [42, 42, 180, 0, 7, 182, 0, 74, 3, 61, 3, 62, 29, 27, 162, 0, 16, 28, 42, 182, 0, 142, 96, 61]
abbrev dktX3_pass_1 : List UInt8 := dkwX3_pass_1 ++ dktX3_pass_2
def dkwX3_pass_0 : List UInt8 := [42, 27, 4, 16, 48, 184, 0, 62, 153, 0, 7, 3, 167, 0, 4, 4, 182, 0, 66, 153, 0, 5, 3, 172]
abbrev dktX3_pass_0 : List UInt8 := dkwX3_pass_0 ++ dktX3_pass_1
theorem dksX3_pass_0 : cX3_pass.data.toList.drop 0 = dktX3_pass_0 := by decide +kernel
theorem dksX3_pass_1 : cX3_pass.data.toList.drop 24 = dktX3_pass_1 := dk_seg dksX3_pass_0 24 rfl rfl
theorem dksX3_pass_2 : cX3_pass.data.toList.drop 48 = dktX3_pass_2 := dk_seg dksX3_pass_1 24 rfl rfl
theorem dX3_pass_0 : decode cX3_pass 0 = .ok (.aload_n 0, 1) := dk_42 (dk_at dksX3_pass_0 0 rfl rfl)
theorem dX3_pass_1 : decode cX3_pass 1 = .ok (.iload_n 1, 1) := dk_27 (dk_at dksX3_pass_0 1 rfl rfl)
theorem dX3_pass_2 : decode cX3_pass 2 = .ok (.iconst 1, 1) := dk_4 (dk_at dksX3_pass_0 2 rfl rfl)
theorem dX3_pass_3 : decode cX3_pass 3 = .ok (.bipush 48, 2) := dk_16 48 (dk_at dksX3_pass_0 3 rfl rfl)
theorem dX3_pass_5 : decode cX3_pass 5 = .ok (.invokestatic 62, 3) := dk_184 0 62 (dk_at dksX3_pass_0 5 rfl rfl)
theorem dX3_pass_8 : decode cX3_pass 8 = .ok (.ifCond .eq 7, 3) := dk_153 0 7 (dk_at dksX3_pass_0 8 rfl rfl)
theorem dX3_pass_11 : decode cX3_pass 11 = .ok (.iconst 0, 1) := dk_3 (dk_at dksX3_pass_0 11 rfl rfl)
theorem dX3_pass_12 : decode cX3_pass 12 = .ok (.goto 4, 3) := dk_167 0 4 (dk_at dksX3_pass_0 12 rfl rfl)
theorem dX3_pass_15 : decode cX3_pass 15 = .ok (.iconst 1, 1) := dk_4 (dk_at dksX3_pass_0 15 rfl rfl)
theorem dX3_pass_16 : decode cX3_pass 16 = .ok (.invokevirtual 66, 3) := dk_182 0 66 (dk_at dksX3_pass_0 16 rfl rfl)
theorem dX3_pass_19 : decode cX3_pass 19 = .ok (.ifCond .eq 5, 3) := dk_153 0 5 (dk_at dksX3_pass_0 19 rfl rfl)
theorem dX3_pass_22 : decode cX3_pass 22 = .ok (.iconst 0, 1) := dk_3 (dk_at dksX3_pass_0 22 rfl rfl)
theorem dX3_pass_23 : decode cX3_pass 23 = .ok (.ireturn, 1) := dk_172 (dk_at dksX3_pass_0 23 rfl rfl)
theorem dX3_pass_24 : decode cX3_pass 24 = .ok (.aload_n 0, 1) := dk_42 (dk_at dksX3_pass_1 0 rfl rfl)
theorem dX3_pass_25 : decode cX3_pass 25 = .ok (.aload_n 0, 1) := dk_42 (dk_at dksX3_pass_1 1 rfl rfl)
theorem dX3_pass_26 : decode cX3_pass 26 = .ok (.getfield 7, 3) := dk_180 0 7 (dk_at dksX3_pass_1 2 rfl rfl)
theorem dX3_pass_29 : decode cX3_pass 29 = .ok (.invokevirtual 74, 3) := dk_182 0 74 (dk_at dksX3_pass_1 5 rfl rfl)
theorem dX3_pass_32 : decode cX3_pass 32 = .ok (.iconst 0, 1) := dk_3 (dk_at dksX3_pass_1 8 rfl rfl)
theorem dX3_pass_33 : decode cX3_pass 33 = .ok (.istore_n 2, 1) := dk_61 (dk_at dksX3_pass_1 9 rfl rfl)
theorem dX3_pass_34 : decode cX3_pass 34 = .ok (.iconst 0, 1) := dk_3 (dk_at dksX3_pass_1 10 rfl rfl)
theorem dX3_pass_35 : decode cX3_pass 35 = .ok (.istore_n 3, 1) := dk_62 (dk_at dksX3_pass_1 11 rfl rfl)
theorem dX3_pass_36 : decode cX3_pass 36 = .ok (.iload_n 3, 1) := dk_29 (dk_at dksX3_pass_1 12 rfl rfl)
theorem dX3_pass_37 : decode cX3_pass 37 = .ok (.iload_n 1, 1) := dk_27 (dk_at dksX3_pass_1 13 rfl rfl)
theorem dX3_pass_38 : decode cX3_pass 38 = .ok (.if_icmp .ge 16, 3) := dk_162 0 16 (dk_at dksX3_pass_1 14 rfl rfl)
theorem dX3_pass_41 : decode cX3_pass 41 = .ok (.iload_n 2, 1) := dk_28 (dk_at dksX3_pass_1 17 rfl rfl)
theorem dX3_pass_42 : decode cX3_pass 42 = .ok (.aload_n 0, 1) := dk_42 (dk_at dksX3_pass_1 18 rfl rfl)
theorem dX3_pass_43 : decode cX3_pass 43 = .ok (.invokevirtual 142, 3) := dk_182 0 142 (dk_at dksX3_pass_1 19 rfl rfl)
theorem dX3_pass_46 : decode cX3_pass 46 = .ok (.iadd, 1) := dk_96 (dk_at dksX3_pass_1 22 rfl rfl)
theorem dX3_pass_47 : decode cX3_pass 47 = .ok (.istore_n 2, 1) := dk_61 (dk_at dksX3_pass_1 23 rfl rfl)
theorem dX3_pass_48 : decode cX3_pass 48 = .ok (.iinc 3 1, 3) := dk_132 3 1 (dk_at dksX3_pass_2 0 rfl rfl)
theorem dX3_pass_51 : decode cX3_pass 51 = .ok (.goto (-15), 3) := dk_167 255 241 (dk_at dksX3_pass_2 3 rfl rfl)
theorem dX3_pass_54 : decode cX3_pass 54 = .ok (.iload_n 2, 1) := dk_28 (dk_at dksX3_pass_2 6 rfl rfl)
theorem dX3_pass_55 : decode cX3_pass 55 = .ok (.ireturn, 1) := dk_172 (dk_at dksX3_pass_2 7 rfl rfl)
abbrev cX3_hourGoes : ByteArray := prog_24_method_50_code
def yX3_hourGoes : MethodName := ⟨RX3, "hourGoes", "()I"⟩
def dkwX3_hourGoes_4 : List UInt8 := [167, 255, 196, 42, 180, 0, 7, 3, 92, 46, 4, 96, 79, 27, 172]
abbrev dktX3_hourGoes_4 : List UInt8 := dkwX3_hourGoes_4 ++ []
def dkwX3_hourGoes_3 : List UInt8 := [28, 5, 182, 0, 109, 158, 0, 6, 167, 0, 11, 42, 28, 182, 0, 139, 132, 1, 1, 132, 2, 1]
abbrev dktX3_hourGoes_3 : List UInt8 := dkwX3_hourGoes_3 ++ dktX3_hourGoes_4
def dkwX3_hourGoes_2 : List UInt8 := [182, 0, 109, 156, 0, 6, 167, 0, 37, 42, 28, 5, 42, 28, 5, 182, 0, 109, 4, 100, 182, 0, 112, 42]
abbrev dktX3_hourGoes_2 : List UInt8 := dkwX3_hourGoes_2 ++ dktX3_hourGoes_3
def dkwX3_hourGoes_1 : List UInt8 := [100, 184, 0, 90, 79, 3, 60, 3, 61, 28, 42, 180, 0, 7, 16, 87, 46, 162, 0, 55, 42, 28, 4]
abbrev dktX3_hourGoes_1 : List UInt8 := dkwX3_hourGoes_1 ++ dktX3_hourGoes_2
def dkwX3_hourGoes_0 : List UInt8 := [42, 180, 0, 7, 3, 46, 6, 112, 154, 0, 21, 42, 180, 0, 7, 4, 3, 42, 180, 0, 7, 4, 46, 4]
abbrev dktX3_hourGoes_0 : List UInt8 := dkwX3_hourGoes_0 ++ dktX3_hourGoes_1
theorem dksX3_hourGoes_0 : cX3_hourGoes.data.toList.drop 0 = dktX3_hourGoes_0 := by decide +kernel
theorem dksX3_hourGoes_1 : cX3_hourGoes.data.toList.drop 24 = dktX3_hourGoes_1 := dk_seg dksX3_hourGoes_0 24 rfl rfl
theorem dksX3_hourGoes_2 : cX3_hourGoes.data.toList.drop 47 = dktX3_hourGoes_2 := dk_seg dksX3_hourGoes_1 23 rfl rfl
theorem dksX3_hourGoes_3 : cX3_hourGoes.data.toList.drop 71 = dktX3_hourGoes_3 := dk_seg dksX3_hourGoes_2 24 rfl rfl
theorem dksX3_hourGoes_4 : cX3_hourGoes.data.toList.drop 93 = dktX3_hourGoes_4 := dk_seg dksX3_hourGoes_3 22 rfl rfl
theorem dX3_hourGoes_0 : decode cX3_hourGoes 0 = .ok (.aload_n 0, 1) := dk_42 (dk_at dksX3_hourGoes_0 0 rfl rfl)
theorem dX3_hourGoes_1 : decode cX3_hourGoes 1 = .ok (.getfield 7, 3) := dk_180 0 7 (dk_at dksX3_hourGoes_0 1 rfl rfl)
theorem dX3_hourGoes_4 : decode cX3_hourGoes 4 = .ok (.iconst 0, 1) := dk_3 (dk_at dksX3_hourGoes_0 4 rfl rfl)
theorem dX3_hourGoes_5 : decode cX3_hourGoes 5 = .ok (.iaload, 1) := dk_46 (dk_at dksX3_hourGoes_0 5 rfl rfl)
theorem dX3_hourGoes_6 : decode cX3_hourGoes 6 = .ok (.iconst 3, 1) := dk_6 (dk_at dksX3_hourGoes_0 6 rfl rfl)
theorem dX3_hourGoes_7 : decode cX3_hourGoes 7 = .ok (.irem, 1) := dk_112 (dk_at dksX3_hourGoes_0 7 rfl rfl)
theorem dX3_hourGoes_8 : decode cX3_hourGoes 8 = .ok (.ifCond .ne 21, 3) := dk_154 0 21 (dk_at dksX3_hourGoes_0 8 rfl rfl)
theorem dX3_hourGoes_11 : decode cX3_hourGoes 11 = .ok (.aload_n 0, 1) := dk_42 (dk_at dksX3_hourGoes_0 11 rfl rfl)
theorem dX3_hourGoes_12 : decode cX3_hourGoes 12 = .ok (.getfield 7, 3) := dk_180 0 7 (dk_at dksX3_hourGoes_0 12 rfl rfl)
theorem dX3_hourGoes_15 : decode cX3_hourGoes 15 = .ok (.iconst 1, 1) := dk_4 (dk_at dksX3_hourGoes_0 15 rfl rfl)
theorem dX3_hourGoes_16 : decode cX3_hourGoes 16 = .ok (.iconst 0, 1) := dk_3 (dk_at dksX3_hourGoes_0 16 rfl rfl)
theorem dX3_hourGoes_17 : decode cX3_hourGoes 17 = .ok (.aload_n 0, 1) := dk_42 (dk_at dksX3_hourGoes_0 17 rfl rfl)
theorem dX3_hourGoes_18 : decode cX3_hourGoes 18 = .ok (.getfield 7, 3) := dk_180 0 7 (dk_at dksX3_hourGoes_0 18 rfl rfl)
theorem dX3_hourGoes_21 : decode cX3_hourGoes 21 = .ok (.iconst 1, 1) := dk_4 (dk_at dksX3_hourGoes_0 21 rfl rfl)
theorem dX3_hourGoes_22 : decode cX3_hourGoes 22 = .ok (.iaload, 1) := dk_46 (dk_at dksX3_hourGoes_0 22 rfl rfl)
theorem dX3_hourGoes_23 : decode cX3_hourGoes 23 = .ok (.iconst 1, 1) := dk_4 (dk_at dksX3_hourGoes_0 23 rfl rfl)
theorem dX3_hourGoes_24 : decode cX3_hourGoes 24 = .ok (.isub, 1) := dk_100 (dk_at dksX3_hourGoes_1 0 rfl rfl)
theorem dX3_hourGoes_25 : decode cX3_hourGoes 25 = .ok (.invokestatic 90, 3) := dk_184 0 90 (dk_at dksX3_hourGoes_1 1 rfl rfl)
theorem dX3_hourGoes_28 : decode cX3_hourGoes 28 = .ok (.iastore, 1) := dk_79 (dk_at dksX3_hourGoes_1 4 rfl rfl)
theorem dX3_hourGoes_29 : decode cX3_hourGoes 29 = .ok (.iconst 0, 1) := dk_3 (dk_at dksX3_hourGoes_1 5 rfl rfl)
theorem dX3_hourGoes_30 : decode cX3_hourGoes 30 = .ok (.istore_n 1, 1) := dk_60 (dk_at dksX3_hourGoes_1 6 rfl rfl)
theorem dX3_hourGoes_31 : decode cX3_hourGoes 31 = .ok (.iconst 0, 1) := dk_3 (dk_at dksX3_hourGoes_1 7 rfl rfl)
theorem dX3_hourGoes_32 : decode cX3_hourGoes 32 = .ok (.istore_n 2, 1) := dk_61 (dk_at dksX3_hourGoes_1 8 rfl rfl)
theorem dX3_hourGoes_33 : decode cX3_hourGoes 33 = .ok (.iload_n 2, 1) := dk_28 (dk_at dksX3_hourGoes_1 9 rfl rfl)
theorem dX3_hourGoes_34 : decode cX3_hourGoes 34 = .ok (.aload_n 0, 1) := dk_42 (dk_at dksX3_hourGoes_1 10 rfl rfl)
theorem dX3_hourGoes_35 : decode cX3_hourGoes 35 = .ok (.getfield 7, 3) := dk_180 0 7 (dk_at dksX3_hourGoes_1 11 rfl rfl)
theorem dX3_hourGoes_38 : decode cX3_hourGoes 38 = .ok (.bipush 87, 2) := dk_16 87 (dk_at dksX3_hourGoes_1 14 rfl rfl)
theorem dX3_hourGoes_40 : decode cX3_hourGoes 40 = .ok (.iaload, 1) := dk_46 (dk_at dksX3_hourGoes_1 16 rfl rfl)
theorem dX3_hourGoes_41 : decode cX3_hourGoes 41 = .ok (.if_icmp .ge 55, 3) := dk_162 0 55 (dk_at dksX3_hourGoes_1 17 rfl rfl)
theorem dX3_hourGoes_44 : decode cX3_hourGoes 44 = .ok (.aload_n 0, 1) := dk_42 (dk_at dksX3_hourGoes_1 20 rfl rfl)
theorem dX3_hourGoes_45 : decode cX3_hourGoes 45 = .ok (.iload_n 2, 1) := dk_28 (dk_at dksX3_hourGoes_1 21 rfl rfl)
theorem dX3_hourGoes_46 : decode cX3_hourGoes 46 = .ok (.iconst 1, 1) := dk_4 (dk_at dksX3_hourGoes_1 22 rfl rfl)
theorem dX3_hourGoes_47 : decode cX3_hourGoes 47 = .ok (.invokevirtual 109, 3) := dk_182 0 109 (dk_at dksX3_hourGoes_2 0 rfl rfl)
theorem dX3_hourGoes_50 : decode cX3_hourGoes 50 = .ok (.ifCond .ge 6, 3) := dk_156 0 6 (dk_at dksX3_hourGoes_2 3 rfl rfl)
theorem dX3_hourGoes_53 : decode cX3_hourGoes 53 = .ok (.goto 37, 3) := dk_167 0 37 (dk_at dksX3_hourGoes_2 6 rfl rfl)
theorem dX3_hourGoes_56 : decode cX3_hourGoes 56 = .ok (.aload_n 0, 1) := dk_42 (dk_at dksX3_hourGoes_2 9 rfl rfl)
theorem dX3_hourGoes_57 : decode cX3_hourGoes 57 = .ok (.iload_n 2, 1) := dk_28 (dk_at dksX3_hourGoes_2 10 rfl rfl)
theorem dX3_hourGoes_58 : decode cX3_hourGoes 58 = .ok (.iconst 2, 1) := dk_5 (dk_at dksX3_hourGoes_2 11 rfl rfl)
theorem dX3_hourGoes_59 : decode cX3_hourGoes 59 = .ok (.aload_n 0, 1) := dk_42 (dk_at dksX3_hourGoes_2 12 rfl rfl)
theorem dX3_hourGoes_60 : decode cX3_hourGoes 60 = .ok (.iload_n 2, 1) := dk_28 (dk_at dksX3_hourGoes_2 13 rfl rfl)
theorem dX3_hourGoes_61 : decode cX3_hourGoes 61 = .ok (.iconst 2, 1) := dk_5 (dk_at dksX3_hourGoes_2 14 rfl rfl)
theorem dX3_hourGoes_62 : decode cX3_hourGoes 62 = .ok (.invokevirtual 109, 3) := dk_182 0 109 (dk_at dksX3_hourGoes_2 15 rfl rfl)
theorem dX3_hourGoes_65 : decode cX3_hourGoes 65 = .ok (.iconst 1, 1) := dk_4 (dk_at dksX3_hourGoes_2 18 rfl rfl)
theorem dX3_hourGoes_66 : decode cX3_hourGoes 66 = .ok (.isub, 1) := dk_100 (dk_at dksX3_hourGoes_2 19 rfl rfl)
theorem dX3_hourGoes_67 : decode cX3_hourGoes 67 = .ok (.invokevirtual 112, 3) := dk_182 0 112 (dk_at dksX3_hourGoes_2 20 rfl rfl)
theorem dX3_hourGoes_70 : decode cX3_hourGoes 70 = .ok (.aload_n 0, 1) := dk_42 (dk_at dksX3_hourGoes_2 23 rfl rfl)
theorem dX3_hourGoes_71 : decode cX3_hourGoes 71 = .ok (.iload_n 2, 1) := dk_28 (dk_at dksX3_hourGoes_3 0 rfl rfl)
theorem dX3_hourGoes_72 : decode cX3_hourGoes 72 = .ok (.iconst 2, 1) := dk_5 (dk_at dksX3_hourGoes_3 1 rfl rfl)
theorem dX3_hourGoes_73 : decode cX3_hourGoes 73 = .ok (.invokevirtual 109, 3) := dk_182 0 109 (dk_at dksX3_hourGoes_3 2 rfl rfl)
theorem dX3_hourGoes_76 : decode cX3_hourGoes 76 = .ok (.ifCond .le 6, 3) := dk_158 0 6 (dk_at dksX3_hourGoes_3 5 rfl rfl)
theorem dX3_hourGoes_79 : decode cX3_hourGoes 79 = .ok (.goto 11, 3) := dk_167 0 11 (dk_at dksX3_hourGoes_3 8 rfl rfl)
theorem dX3_hourGoes_82 : decode cX3_hourGoes 82 = .ok (.aload_n 0, 1) := dk_42 (dk_at dksX3_hourGoes_3 11 rfl rfl)
theorem dX3_hourGoes_83 : decode cX3_hourGoes 83 = .ok (.iload_n 2, 1) := dk_28 (dk_at dksX3_hourGoes_3 12 rfl rfl)
theorem dX3_hourGoes_84 : decode cX3_hourGoes 84 = .ok (.invokevirtual 139, 3) := dk_182 0 139 (dk_at dksX3_hourGoes_3 13 rfl rfl)
theorem dX3_hourGoes_87 : decode cX3_hourGoes 87 = .ok (.iinc 1 1, 3) := dk_132 1 1 (dk_at dksX3_hourGoes_3 16 rfl rfl)
theorem dX3_hourGoes_90 : decode cX3_hourGoes 90 = .ok (.iinc 2 1, 3) := dk_132 2 1 (dk_at dksX3_hourGoes_3 19 rfl rfl)
theorem dX3_hourGoes_93 : decode cX3_hourGoes 93 = .ok (.goto (-60), 3) := dk_167 255 196 (dk_at dksX3_hourGoes_4 0 rfl rfl)
theorem dX3_hourGoes_96 : decode cX3_hourGoes 96 = .ok (.aload_n 0, 1) := dk_42 (dk_at dksX3_hourGoes_4 3 rfl rfl)
theorem dX3_hourGoes_97 : decode cX3_hourGoes 97 = .ok (.getfield 7, 3) := dk_180 0 7 (dk_at dksX3_hourGoes_4 4 rfl rfl)
theorem dX3_hourGoes_100 : decode cX3_hourGoes 100 = .ok (.iconst 0, 1) := dk_3 (dk_at dksX3_hourGoes_4 7 rfl rfl)
theorem dX3_hourGoes_101 : decode cX3_hourGoes 101 = .ok (.dup2, 1) := dk_92 (dk_at dksX3_hourGoes_4 8 rfl rfl)
theorem dX3_hourGoes_102 : decode cX3_hourGoes 102 = .ok (.iaload, 1) := dk_46 (dk_at dksX3_hourGoes_4 9 rfl rfl)
theorem dX3_hourGoes_103 : decode cX3_hourGoes 103 = .ok (.iconst 1, 1) := dk_4 (dk_at dksX3_hourGoes_4 10 rfl rfl)
theorem dX3_hourGoes_104 : decode cX3_hourGoes 104 = .ok (.iadd, 1) := dk_96 (dk_at dksX3_hourGoes_4 11 rfl rfl)
theorem dX3_hourGoes_105 : decode cX3_hourGoes 105 = .ok (.iastore, 1) := dk_79 (dk_at dksX3_hourGoes_4 12 rfl rfl)
theorem dX3_hourGoes_106 : decode cX3_hourGoes 106 = .ok (.iload_n 1, 1) := dk_27 (dk_at dksX3_hourGoes_4 13 rfl rfl)
theorem dX3_hourGoes_107 : decode cX3_hourGoes 107 = .ok (.ireturn, 1) := dk_172 (dk_at dksX3_hourGoes_4 14 rfl rfl)
abbrev cX3_isFired : ByteArray := prog_24_method_41_code
def yX3_isFired : MethodName := ⟨RX3, "isFired", "(I)V"⟩
def dkwX3_isFired_3 : List UInt8 := [182, 0, 109, 4, 96, 182, 0, 112, 177]
abbrev dktX3_isFired_3 : List UInt8 := dkwX3_isFired_3 ++ []
def dkwX3_isFired_2 : List UInt8 := [180, 0, 7, 16, 6, 92, 46, 29, 96, 79, 42, 27, 4, 2, 182, 0, 112, 42, 27, 6, 42, 27, 6]
abbrev dktX3_isFired_2 : List UInt8 := dkwX3_isFired_2 ++ dktX3_isFired_3
def dkwX3_isFired_1 : List UInt8 := [3, 182, 0, 102, 29, 100, 182, 0, 105, 42, 28, 4, 6, 182, 0, 105, 42, 28, 6, 2, 182, 0, 105, 42]
abbrev dktX3_isFired_1 : List UInt8 := dkwX3_isFired_1 ++ dktX3_isFired_2
def dkwX3_isFired_0 : List UInt8 := [42, 27, 4, 182, 0, 109, 61, 42, 28, 42, 28, 7, 182, 0, 102, 182, 0, 118, 62, 42, 28, 3, 42, 28]
abbrev dktX3_isFired_0 : List UInt8 := dkwX3_isFired_0 ++ dktX3_isFired_1
theorem dksX3_isFired_0 : cX3_isFired.data.toList.drop 0 = dktX3_isFired_0 := by decide +kernel
theorem dksX3_isFired_1 : cX3_isFired.data.toList.drop 24 = dktX3_isFired_1 := dk_seg dksX3_isFired_0 24 rfl rfl
theorem dksX3_isFired_2 : cX3_isFired.data.toList.drop 48 = dktX3_isFired_2 := dk_seg dksX3_isFired_1 24 rfl rfl
theorem dksX3_isFired_3 : cX3_isFired.data.toList.drop 71 = dktX3_isFired_3 := dk_seg dksX3_isFired_2 23 rfl rfl
theorem dX3_isFired_0 : decode cX3_isFired 0 = .ok (.aload_n 0, 1) := dk_42 (dk_at dksX3_isFired_0 0 rfl rfl)
theorem dX3_isFired_1 : decode cX3_isFired 1 = .ok (.iload_n 1, 1) := dk_27 (dk_at dksX3_isFired_0 1 rfl rfl)
theorem dX3_isFired_2 : decode cX3_isFired 2 = .ok (.iconst 1, 1) := dk_4 (dk_at dksX3_isFired_0 2 rfl rfl)
theorem dX3_isFired_3 : decode cX3_isFired 3 = .ok (.invokevirtual 109, 3) := dk_182 0 109 (dk_at dksX3_isFired_0 3 rfl rfl)
theorem dX3_isFired_6 : decode cX3_isFired 6 = .ok (.istore_n 2, 1) := dk_61 (dk_at dksX3_isFired_0 6 rfl rfl)
theorem dX3_isFired_7 : decode cX3_isFired 7 = .ok (.aload_n 0, 1) := dk_42 (dk_at dksX3_isFired_0 7 rfl rfl)
theorem dX3_isFired_8 : decode cX3_isFired 8 = .ok (.iload_n 2, 1) := dk_28 (dk_at dksX3_isFired_0 8 rfl rfl)
theorem dX3_isFired_9 : decode cX3_isFired 9 = .ok (.aload_n 0, 1) := dk_42 (dk_at dksX3_isFired_0 9 rfl rfl)
theorem dX3_isFired_10 : decode cX3_isFired 10 = .ok (.iload_n 2, 1) := dk_28 (dk_at dksX3_isFired_0 10 rfl rfl)
theorem dX3_isFired_11 : decode cX3_isFired 11 = .ok (.iconst 4, 1) := dk_7 (dk_at dksX3_isFired_0 11 rfl rfl)
theorem dX3_isFired_12 : decode cX3_isFired 12 = .ok (.invokevirtual 102, 3) := dk_182 0 102 (dk_at dksX3_isFired_0 12 rfl rfl)
theorem dX3_isFired_15 : decode cX3_isFired 15 = .ok (.invokevirtual 118, 3) := dk_182 0 118 (dk_at dksX3_isFired_0 15 rfl rfl)
theorem dX3_isFired_18 : decode cX3_isFired 18 = .ok (.istore_n 3, 1) := dk_62 (dk_at dksX3_isFired_0 18 rfl rfl)
theorem dX3_isFired_19 : decode cX3_isFired 19 = .ok (.aload_n 0, 1) := dk_42 (dk_at dksX3_isFired_0 19 rfl rfl)
theorem dX3_isFired_20 : decode cX3_isFired 20 = .ok (.iload_n 2, 1) := dk_28 (dk_at dksX3_isFired_0 20 rfl rfl)
theorem dX3_isFired_21 : decode cX3_isFired 21 = .ok (.iconst 0, 1) := dk_3 (dk_at dksX3_isFired_0 21 rfl rfl)
theorem dX3_isFired_22 : decode cX3_isFired 22 = .ok (.aload_n 0, 1) := dk_42 (dk_at dksX3_isFired_0 22 rfl rfl)
theorem dX3_isFired_23 : decode cX3_isFired 23 = .ok (.iload_n 2, 1) := dk_28 (dk_at dksX3_isFired_0 23 rfl rfl)
theorem dX3_isFired_24 : decode cX3_isFired 24 = .ok (.iconst 0, 1) := dk_3 (dk_at dksX3_isFired_1 0 rfl rfl)
theorem dX3_isFired_25 : decode cX3_isFired 25 = .ok (.invokevirtual 102, 3) := dk_182 0 102 (dk_at dksX3_isFired_1 1 rfl rfl)
theorem dX3_isFired_28 : decode cX3_isFired 28 = .ok (.iload_n 3, 1) := dk_29 (dk_at dksX3_isFired_1 4 rfl rfl)
theorem dX3_isFired_29 : decode cX3_isFired 29 = .ok (.isub, 1) := dk_100 (dk_at dksX3_isFired_1 5 rfl rfl)
theorem dX3_isFired_30 : decode cX3_isFired 30 = .ok (.invokevirtual 105, 3) := dk_182 0 105 (dk_at dksX3_isFired_1 6 rfl rfl)
theorem dX3_isFired_33 : decode cX3_isFired 33 = .ok (.aload_n 0, 1) := dk_42 (dk_at dksX3_isFired_1 9 rfl rfl)
theorem dX3_isFired_34 : decode cX3_isFired 34 = .ok (.iload_n 2, 1) := dk_28 (dk_at dksX3_isFired_1 10 rfl rfl)
theorem dX3_isFired_35 : decode cX3_isFired 35 = .ok (.iconst 1, 1) := dk_4 (dk_at dksX3_isFired_1 11 rfl rfl)
theorem dX3_isFired_36 : decode cX3_isFired 36 = .ok (.iconst 3, 1) := dk_6 (dk_at dksX3_isFired_1 12 rfl rfl)
theorem dX3_isFired_37 : decode cX3_isFired 37 = .ok (.invokevirtual 105, 3) := dk_182 0 105 (dk_at dksX3_isFired_1 13 rfl rfl)
theorem dX3_isFired_40 : decode cX3_isFired 40 = .ok (.aload_n 0, 1) := dk_42 (dk_at dksX3_isFired_1 16 rfl rfl)
theorem dX3_isFired_41 : decode cX3_isFired 41 = .ok (.iload_n 2, 1) := dk_28 (dk_at dksX3_isFired_1 17 rfl rfl)
theorem dX3_isFired_42 : decode cX3_isFired 42 = .ok (.iconst 3, 1) := dk_6 (dk_at dksX3_isFired_1 18 rfl rfl)
theorem dX3_isFired_43 : decode cX3_isFired 43 = .ok (.iconst (-1), 1) := dk_2 (dk_at dksX3_isFired_1 19 rfl rfl)
theorem dX3_isFired_44 : decode cX3_isFired 44 = .ok (.invokevirtual 105, 3) := dk_182 0 105 (dk_at dksX3_isFired_1 20 rfl rfl)
theorem dX3_isFired_47 : decode cX3_isFired 47 = .ok (.aload_n 0, 1) := dk_42 (dk_at dksX3_isFired_1 23 rfl rfl)
theorem dX3_isFired_48 : decode cX3_isFired 48 = .ok (.getfield 7, 3) := dk_180 0 7 (dk_at dksX3_isFired_2 0 rfl rfl)
theorem dX3_isFired_51 : decode cX3_isFired 51 = .ok (.bipush 6, 2) := dk_16 6 (dk_at dksX3_isFired_2 3 rfl rfl)
theorem dX3_isFired_53 : decode cX3_isFired 53 = .ok (.dup2, 1) := dk_92 (dk_at dksX3_isFired_2 5 rfl rfl)
theorem dX3_isFired_54 : decode cX3_isFired 54 = .ok (.iaload, 1) := dk_46 (dk_at dksX3_isFired_2 6 rfl rfl)
theorem dX3_isFired_55 : decode cX3_isFired 55 = .ok (.iload_n 3, 1) := dk_29 (dk_at dksX3_isFired_2 7 rfl rfl)
theorem dX3_isFired_56 : decode cX3_isFired 56 = .ok (.iadd, 1) := dk_96 (dk_at dksX3_isFired_2 8 rfl rfl)
theorem dX3_isFired_57 : decode cX3_isFired 57 = .ok (.iastore, 1) := dk_79 (dk_at dksX3_isFired_2 9 rfl rfl)
theorem dX3_isFired_58 : decode cX3_isFired 58 = .ok (.aload_n 0, 1) := dk_42 (dk_at dksX3_isFired_2 10 rfl rfl)
theorem dX3_isFired_59 : decode cX3_isFired 59 = .ok (.iload_n 1, 1) := dk_27 (dk_at dksX3_isFired_2 11 rfl rfl)
theorem dX3_isFired_60 : decode cX3_isFired 60 = .ok (.iconst 1, 1) := dk_4 (dk_at dksX3_isFired_2 12 rfl rfl)
theorem dX3_isFired_61 : decode cX3_isFired 61 = .ok (.iconst (-1), 1) := dk_2 (dk_at dksX3_isFired_2 13 rfl rfl)
theorem dX3_isFired_62 : decode cX3_isFired 62 = .ok (.invokevirtual 112, 3) := dk_182 0 112 (dk_at dksX3_isFired_2 14 rfl rfl)
theorem dX3_isFired_65 : decode cX3_isFired 65 = .ok (.aload_n 0, 1) := dk_42 (dk_at dksX3_isFired_2 17 rfl rfl)
theorem dX3_isFired_66 : decode cX3_isFired 66 = .ok (.iload_n 1, 1) := dk_27 (dk_at dksX3_isFired_2 18 rfl rfl)
theorem dX3_isFired_67 : decode cX3_isFired 67 = .ok (.iconst 3, 1) := dk_6 (dk_at dksX3_isFired_2 19 rfl rfl)
theorem dX3_isFired_68 : decode cX3_isFired 68 = .ok (.aload_n 0, 1) := dk_42 (dk_at dksX3_isFired_2 20 rfl rfl)
theorem dX3_isFired_69 : decode cX3_isFired 69 = .ok (.iload_n 1, 1) := dk_27 (dk_at dksX3_isFired_2 21 rfl rfl)
theorem dX3_isFired_70 : decode cX3_isFired 70 = .ok (.iconst 3, 1) := dk_6 (dk_at dksX3_isFired_2 22 rfl rfl)
theorem dX3_isFired_71 : decode cX3_isFired 71 = .ok (.invokevirtual 109, 3) := dk_182 0 109 (dk_at dksX3_isFired_3 0 rfl rfl)
theorem dX3_isFired_74 : decode cX3_isFired 74 = .ok (.iconst 1, 1) := dk_4 (dk_at dksX3_isFired_3 3 rfl rfl)
theorem dX3_isFired_75 : decode cX3_isFired 75 = .ok (.iadd, 1) := dk_96 (dk_at dksX3_isFired_3 4 rfl rfl)
theorem dX3_isFired_76 : decode cX3_isFired 76 = .ok (.invokevirtual 112, 3) := dk_182 0 112 (dk_at dksX3_isFired_3 5 rfl rfl)
theorem dX3_isFired_79 : decode cX3_isFired 79 = .ok (.return_, 1) := dk_177 (dk_at dksX3_isFired_3 8 rfl rfl)
abbrev cX3_line : ByteArray := prog_24_method_55_code
def yX3_line : MethodName := ⟨RX3, "line", "(I)I"⟩
def dkwX3_line_5 : List UInt8 := [182, 0, 172, 42, 42, 42, 27, 6, 182, 0, 102, 5, 182, 0, 109, 182, 0, 161, 42, 180, 0, 146, 172]
abbrev dktX3_line_5 : List UInt8 := dkwX3_line_5 ++ []
def dkwX3_line_4 : List UInt8 := [28, 5, 160, 0, 40, 42, 18, 176, 182, 0, 172, 42, 42, 27, 6, 182, 0, 102, 182, 0, 161, 42, 18, 178]
abbrev dktX3_line_4 : List UInt8 := dkwX3_line_4 ++ dktX3_line_5
def dkwX3_line_3 : List UInt8 := [18, 168, 167, 0, 5, 18, 170, 182, 0, 172, 28, 158, 0, 13, 42, 42, 27, 5, 182, 0, 102, 182, 0, 161]
abbrev dktX3_line_3 : List UInt8 := dkwX3_line_3 ++ dktX3_line_4
def dkwX3_line_2 : List UInt8 := [154, 0, 8, 18, 164, 167, 0, 25, 28, 4, 160, 0, 8, 18, 166, 167, 0, 15, 28, 5, 160, 0, 8]
abbrev dktX3_line_2 : List UInt8 := dkwX3_line_2 ++ dktX3_line_3
def dkwX3_line_1 : List UInt8 := [181, 0, 146, 42, 27, 4, 182, 0, 102, 61, 42, 42, 27, 3, 182, 0, 102, 182, 0, 161, 42, 28]
abbrev dktX3_line_1 : List UInt8 := dkwX3_line_1 ++ dktX3_line_2
def dkwX3_line_0 : List UInt8 := [42, 42, 27, 182, 0, 99, 153, 0, 7, 3, 167, 0, 4, 4, 182, 0, 66, 153, 0, 5, 3, 172, 42, 3]
abbrev dktX3_line_0 : List UInt8 := dkwX3_line_0 ++ dktX3_line_1
theorem dksX3_line_0 : cX3_line.data.toList.drop 0 = dktX3_line_0 := by decide +kernel
theorem dksX3_line_1 : cX3_line.data.toList.drop 24 = dktX3_line_1 := dk_seg dksX3_line_0 24 rfl rfl
theorem dksX3_line_2 : cX3_line.data.toList.drop 46 = dktX3_line_2 := dk_seg dksX3_line_1 22 rfl rfl
theorem dksX3_line_3 : cX3_line.data.toList.drop 69 = dktX3_line_3 := dk_seg dksX3_line_2 23 rfl rfl
theorem dksX3_line_4 : cX3_line.data.toList.drop 93 = dktX3_line_4 := dk_seg dksX3_line_3 24 rfl rfl
theorem dksX3_line_5 : cX3_line.data.toList.drop 117 = dktX3_line_5 := dk_seg dksX3_line_4 24 rfl rfl
theorem dX3_line_0 : decode cX3_line 0 = .ok (.aload_n 0, 1) := dk_42 (dk_at dksX3_line_0 0 rfl rfl)
theorem dX3_line_1 : decode cX3_line 1 = .ok (.aload_n 0, 1) := dk_42 (dk_at dksX3_line_0 1 rfl rfl)
theorem dX3_line_2 : decode cX3_line 2 = .ok (.iload_n 1, 1) := dk_27 (dk_at dksX3_line_0 2 rfl rfl)
theorem dX3_line_3 : decode cX3_line 3 = .ok (.invokevirtual 99, 3) := dk_182 0 99 (dk_at dksX3_line_0 3 rfl rfl)
theorem dX3_line_6 : decode cX3_line 6 = .ok (.ifCond .eq 7, 3) := dk_153 0 7 (dk_at dksX3_line_0 6 rfl rfl)
theorem dX3_line_9 : decode cX3_line 9 = .ok (.iconst 0, 1) := dk_3 (dk_at dksX3_line_0 9 rfl rfl)
theorem dX3_line_10 : decode cX3_line 10 = .ok (.goto 4, 3) := dk_167 0 4 (dk_at dksX3_line_0 10 rfl rfl)
theorem dX3_line_13 : decode cX3_line 13 = .ok (.iconst 1, 1) := dk_4 (dk_at dksX3_line_0 13 rfl rfl)
theorem dX3_line_14 : decode cX3_line 14 = .ok (.invokevirtual 66, 3) := dk_182 0 66 (dk_at dksX3_line_0 14 rfl rfl)
theorem dX3_line_17 : decode cX3_line 17 = .ok (.ifCond .eq 5, 3) := dk_153 0 5 (dk_at dksX3_line_0 17 rfl rfl)
theorem dX3_line_20 : decode cX3_line 20 = .ok (.iconst 0, 1) := dk_3 (dk_at dksX3_line_0 20 rfl rfl)
theorem dX3_line_21 : decode cX3_line 21 = .ok (.ireturn, 1) := dk_172 (dk_at dksX3_line_0 21 rfl rfl)
theorem dX3_line_22 : decode cX3_line 22 = .ok (.aload_n 0, 1) := dk_42 (dk_at dksX3_line_0 22 rfl rfl)
theorem dX3_line_23 : decode cX3_line 23 = .ok (.iconst 0, 1) := dk_3 (dk_at dksX3_line_0 23 rfl rfl)
theorem dX3_line_24 : decode cX3_line 24 = .ok (.putfield 146, 3) := dk_181 0 146 (dk_at dksX3_line_1 0 rfl rfl)
theorem dX3_line_27 : decode cX3_line 27 = .ok (.aload_n 0, 1) := dk_42 (dk_at dksX3_line_1 3 rfl rfl)
theorem dX3_line_28 : decode cX3_line 28 = .ok (.iload_n 1, 1) := dk_27 (dk_at dksX3_line_1 4 rfl rfl)
theorem dX3_line_29 : decode cX3_line 29 = .ok (.iconst 1, 1) := dk_4 (dk_at dksX3_line_1 5 rfl rfl)
theorem dX3_line_30 : decode cX3_line 30 = .ok (.invokevirtual 102, 3) := dk_182 0 102 (dk_at dksX3_line_1 6 rfl rfl)
theorem dX3_line_33 : decode cX3_line 33 = .ok (.istore_n 2, 1) := dk_61 (dk_at dksX3_line_1 9 rfl rfl)
theorem dX3_line_34 : decode cX3_line 34 = .ok (.aload_n 0, 1) := dk_42 (dk_at dksX3_line_1 10 rfl rfl)
theorem dX3_line_35 : decode cX3_line 35 = .ok (.aload_n 0, 1) := dk_42 (dk_at dksX3_line_1 11 rfl rfl)
theorem dX3_line_36 : decode cX3_line 36 = .ok (.iload_n 1, 1) := dk_27 (dk_at dksX3_line_1 12 rfl rfl)
theorem dX3_line_37 : decode cX3_line 37 = .ok (.iconst 0, 1) := dk_3 (dk_at dksX3_line_1 13 rfl rfl)
theorem dX3_line_38 : decode cX3_line 38 = .ok (.invokevirtual 102, 3) := dk_182 0 102 (dk_at dksX3_line_1 14 rfl rfl)
theorem dX3_line_41 : decode cX3_line 41 = .ok (.invokevirtual 161, 3) := dk_182 0 161 (dk_at dksX3_line_1 17 rfl rfl)
theorem dX3_line_44 : decode cX3_line 44 = .ok (.aload_n 0, 1) := dk_42 (dk_at dksX3_line_1 20 rfl rfl)
theorem dX3_line_45 : decode cX3_line 45 = .ok (.iload_n 2, 1) := dk_28 (dk_at dksX3_line_1 21 rfl rfl)
theorem dX3_line_46 : decode cX3_line 46 = .ok (.ifCond .ne 8, 3) := dk_154 0 8 (dk_at dksX3_line_2 0 rfl rfl)
theorem dX3_line_49 : decode cX3_line 49 = .ok (.ldc 164, 2) := dk_18 164 (dk_at dksX3_line_2 3 rfl rfl)
theorem dX3_line_51 : decode cX3_line 51 = .ok (.goto 25, 3) := dk_167 0 25 (dk_at dksX3_line_2 5 rfl rfl)
theorem dX3_line_54 : decode cX3_line 54 = .ok (.iload_n 2, 1) := dk_28 (dk_at dksX3_line_2 8 rfl rfl)
theorem dX3_line_55 : decode cX3_line 55 = .ok (.iconst 1, 1) := dk_4 (dk_at dksX3_line_2 9 rfl rfl)
theorem dX3_line_56 : decode cX3_line 56 = .ok (.if_icmp .ne 8, 3) := dk_160 0 8 (dk_at dksX3_line_2 10 rfl rfl)
theorem dX3_line_59 : decode cX3_line 59 = .ok (.ldc 166, 2) := dk_18 166 (dk_at dksX3_line_2 13 rfl rfl)
theorem dX3_line_61 : decode cX3_line 61 = .ok (.goto 15, 3) := dk_167 0 15 (dk_at dksX3_line_2 15 rfl rfl)
theorem dX3_line_64 : decode cX3_line 64 = .ok (.iload_n 2, 1) := dk_28 (dk_at dksX3_line_2 18 rfl rfl)
theorem dX3_line_65 : decode cX3_line 65 = .ok (.iconst 2, 1) := dk_5 (dk_at dksX3_line_2 19 rfl rfl)
theorem dX3_line_66 : decode cX3_line 66 = .ok (.if_icmp .ne 8, 3) := dk_160 0 8 (dk_at dksX3_line_2 20 rfl rfl)
theorem dX3_line_69 : decode cX3_line 69 = .ok (.ldc 168, 2) := dk_18 168 (dk_at dksX3_line_3 0 rfl rfl)
theorem dX3_line_71 : decode cX3_line 71 = .ok (.goto 5, 3) := dk_167 0 5 (dk_at dksX3_line_3 2 rfl rfl)
theorem dX3_line_74 : decode cX3_line 74 = .ok (.ldc 170, 2) := dk_18 170 (dk_at dksX3_line_3 5 rfl rfl)
theorem dX3_line_76 : decode cX3_line 76 = .ok (.invokevirtual 172, 3) := dk_182 0 172 (dk_at dksX3_line_3 7 rfl rfl)
theorem dX3_line_79 : decode cX3_line 79 = .ok (.iload_n 2, 1) := dk_28 (dk_at dksX3_line_3 10 rfl rfl)
theorem dX3_line_80 : decode cX3_line 80 = .ok (.ifCond .le 13, 3) := dk_158 0 13 (dk_at dksX3_line_3 11 rfl rfl)
theorem dX3_line_83 : decode cX3_line 83 = .ok (.aload_n 0, 1) := dk_42 (dk_at dksX3_line_3 14 rfl rfl)
theorem dX3_line_84 : decode cX3_line 84 = .ok (.aload_n 0, 1) := dk_42 (dk_at dksX3_line_3 15 rfl rfl)
theorem dX3_line_85 : decode cX3_line 85 = .ok (.iload_n 1, 1) := dk_27 (dk_at dksX3_line_3 16 rfl rfl)
theorem dX3_line_86 : decode cX3_line 86 = .ok (.iconst 2, 1) := dk_5 (dk_at dksX3_line_3 17 rfl rfl)
theorem dX3_line_87 : decode cX3_line 87 = .ok (.invokevirtual 102, 3) := dk_182 0 102 (dk_at dksX3_line_3 18 rfl rfl)
theorem dX3_line_90 : decode cX3_line 90 = .ok (.invokevirtual 161, 3) := dk_182 0 161 (dk_at dksX3_line_3 21 rfl rfl)
theorem dX3_line_93 : decode cX3_line 93 = .ok (.iload_n 2, 1) := dk_28 (dk_at dksX3_line_4 0 rfl rfl)
theorem dX3_line_94 : decode cX3_line 94 = .ok (.iconst 2, 1) := dk_5 (dk_at dksX3_line_4 1 rfl rfl)
theorem dX3_line_95 : decode cX3_line 95 = .ok (.if_icmp .ne 40, 3) := dk_160 0 40 (dk_at dksX3_line_4 2 rfl rfl)
theorem dX3_line_98 : decode cX3_line 98 = .ok (.aload_n 0, 1) := dk_42 (dk_at dksX3_line_4 5 rfl rfl)
theorem dX3_line_99 : decode cX3_line 99 = .ok (.ldc 176, 2) := dk_18 176 (dk_at dksX3_line_4 6 rfl rfl)
theorem dX3_line_101 : decode cX3_line 101 = .ok (.invokevirtual 172, 3) := dk_182 0 172 (dk_at dksX3_line_4 8 rfl rfl)
theorem dX3_line_104 : decode cX3_line 104 = .ok (.aload_n 0, 1) := dk_42 (dk_at dksX3_line_4 11 rfl rfl)
theorem dX3_line_105 : decode cX3_line 105 = .ok (.aload_n 0, 1) := dk_42 (dk_at dksX3_line_4 12 rfl rfl)
theorem dX3_line_106 : decode cX3_line 106 = .ok (.iload_n 1, 1) := dk_27 (dk_at dksX3_line_4 13 rfl rfl)
theorem dX3_line_107 : decode cX3_line 107 = .ok (.iconst 3, 1) := dk_6 (dk_at dksX3_line_4 14 rfl rfl)
theorem dX3_line_108 : decode cX3_line 108 = .ok (.invokevirtual 102, 3) := dk_182 0 102 (dk_at dksX3_line_4 15 rfl rfl)
theorem dX3_line_111 : decode cX3_line 111 = .ok (.invokevirtual 161, 3) := dk_182 0 161 (dk_at dksX3_line_4 18 rfl rfl)
theorem dX3_line_114 : decode cX3_line 114 = .ok (.aload_n 0, 1) := dk_42 (dk_at dksX3_line_4 21 rfl rfl)
theorem dX3_line_115 : decode cX3_line 115 = .ok (.ldc 178, 2) := dk_18 178 (dk_at dksX3_line_4 22 rfl rfl)
theorem dX3_line_117 : decode cX3_line 117 = .ok (.invokevirtual 172, 3) := dk_182 0 172 (dk_at dksX3_line_5 0 rfl rfl)
theorem dX3_line_120 : decode cX3_line 120 = .ok (.aload_n 0, 1) := dk_42 (dk_at dksX3_line_5 3 rfl rfl)
theorem dX3_line_121 : decode cX3_line 121 = .ok (.aload_n 0, 1) := dk_42 (dk_at dksX3_line_5 4 rfl rfl)
theorem dX3_line_122 : decode cX3_line 122 = .ok (.aload_n 0, 1) := dk_42 (dk_at dksX3_line_5 5 rfl rfl)
theorem dX3_line_123 : decode cX3_line 123 = .ok (.iload_n 1, 1) := dk_27 (dk_at dksX3_line_5 6 rfl rfl)
theorem dX3_line_124 : decode cX3_line 124 = .ok (.iconst 3, 1) := dk_6 (dk_at dksX3_line_5 7 rfl rfl)
theorem dX3_line_125 : decode cX3_line 125 = .ok (.invokevirtual 102, 3) := dk_182 0 102 (dk_at dksX3_line_5 8 rfl rfl)
theorem dX3_line_128 : decode cX3_line 128 = .ok (.iconst 2, 1) := dk_5 (dk_at dksX3_line_5 11 rfl rfl)
theorem dX3_line_129 : decode cX3_line 129 = .ok (.invokevirtual 109, 3) := dk_182 0 109 (dk_at dksX3_line_5 12 rfl rfl)
theorem dX3_line_132 : decode cX3_line 132 = .ok (.invokevirtual 161, 3) := dk_182 0 161 (dk_at dksX3_line_5 15 rfl rfl)
theorem dX3_line_135 : decode cX3_line 135 = .ok (.aload_n 0, 1) := dk_42 (dk_at dksX3_line_5 18 rfl rfl)
theorem dX3_line_136 : decode cX3_line 136 = .ok (.getfield 146, 3) := dk_180 0 146 (dk_at dksX3_line_5 19 rfl rfl)
theorem dX3_line_139 : decode cX3_line 139 = .ok (.ireturn, 1) := dk_172 (dk_at dksX3_line_5 22 rfl rfl)
abbrev cX3_writesNumber : ByteArray := prog_24_method_54_code
def yX3_writesNumber : MethodName := ⟨RX3, "writesNumber", "(I)V"⟩
def dkwX3_writesNumber_1 : List UInt8 := [182, 0, 158, 177]
abbrev dktX3_writesNumber_1 : List UInt8 := dkwX3_writesNumber_1 ++ []
def dkwX3_writesNumber_0 : List UInt8 := [27, 16, 9, 164, 0, 11, 42, 27, 16, 10, 108, 182, 0, 161, 42, 16, 48, 27, 16, 10, 112, 96]
abbrev dktX3_writesNumber_0 : List UInt8 := dkwX3_writesNumber_0 ++ dktX3_writesNumber_1
theorem dksX3_writesNumber_0 : cX3_writesNumber.data.toList.drop 0 = dktX3_writesNumber_0 := by decide +kernel
theorem dksX3_writesNumber_1 : cX3_writesNumber.data.toList.drop 22 = dktX3_writesNumber_1 := dk_seg dksX3_writesNumber_0 22 rfl rfl
theorem dX3_writesNumber_0 : decode cX3_writesNumber 0 = .ok (.iload_n 1, 1) := dk_27 (dk_at dksX3_writesNumber_0 0 rfl rfl)
theorem dX3_writesNumber_1 : decode cX3_writesNumber 1 = .ok (.bipush 9, 2) := dk_16 9 (dk_at dksX3_writesNumber_0 1 rfl rfl)
theorem dX3_writesNumber_3 : decode cX3_writesNumber 3 = .ok (.if_icmp .le 11, 3) := dk_164 0 11 (dk_at dksX3_writesNumber_0 3 rfl rfl)
theorem dX3_writesNumber_6 : decode cX3_writesNumber 6 = .ok (.aload_n 0, 1) := dk_42 (dk_at dksX3_writesNumber_0 6 rfl rfl)
theorem dX3_writesNumber_7 : decode cX3_writesNumber 7 = .ok (.iload_n 1, 1) := dk_27 (dk_at dksX3_writesNumber_0 7 rfl rfl)
theorem dX3_writesNumber_8 : decode cX3_writesNumber 8 = .ok (.bipush 10, 2) := dk_16 10 (dk_at dksX3_writesNumber_0 8 rfl rfl)
theorem dX3_writesNumber_10 : decode cX3_writesNumber 10 = .ok (.idiv, 1) := dk_108 (dk_at dksX3_writesNumber_0 10 rfl rfl)
theorem dX3_writesNumber_11 : decode cX3_writesNumber 11 = .ok (.invokevirtual 161, 3) := dk_182 0 161 (dk_at dksX3_writesNumber_0 11 rfl rfl)
theorem dX3_writesNumber_14 : decode cX3_writesNumber 14 = .ok (.aload_n 0, 1) := dk_42 (dk_at dksX3_writesNumber_0 14 rfl rfl)
theorem dX3_writesNumber_15 : decode cX3_writesNumber 15 = .ok (.bipush 48, 2) := dk_16 48 (dk_at dksX3_writesNumber_0 15 rfl rfl)
theorem dX3_writesNumber_17 : decode cX3_writesNumber 17 = .ok (.iload_n 1, 1) := dk_27 (dk_at dksX3_writesNumber_0 17 rfl rfl)
theorem dX3_writesNumber_18 : decode cX3_writesNumber 18 = .ok (.bipush 10, 2) := dk_16 10 (dk_at dksX3_writesNumber_0 18 rfl rfl)
theorem dX3_writesNumber_20 : decode cX3_writesNumber 20 = .ok (.irem, 1) := dk_112 (dk_at dksX3_writesNumber_0 20 rfl rfl)
theorem dX3_writesNumber_21 : decode cX3_writesNumber 21 = .ok (.iadd, 1) := dk_96 (dk_at dksX3_writesNumber_0 21 rfl rfl)
theorem dX3_writesNumber_22 : decode cX3_writesNumber 22 = .ok (.invokevirtual 158, 3) := dk_182 0 158 (dk_at dksX3_writesNumber_1 0 rfl rfl)
theorem dX3_writesNumber_25 : decode cX3_writesNumber 25 = .ok (.return_, 1) := dk_177 (dk_at dksX3_writesNumber_1 3 rfl rfl)
abbrev cX3_writes : ByteArray := prog_24_method_52_code
def yX3_writes : MethodName := ⟨RX3, "writes", "(I)V"⟩
def dkwX3_writes_0 : List UInt8 := [42, 180, 0, 32, 42, 180, 0, 146, 27, 146, 85, 42, 89, 180, 0, 146, 4, 96, 181, 0, 146, 177]
abbrev dktX3_writes_0 : List UInt8 := dkwX3_writes_0 ++ []
theorem dksX3_writes_0 : cX3_writes.data.toList.drop 0 = dktX3_writes_0 := by decide +kernel
theorem dX3_writes_0 : decode cX3_writes 0 = .ok (.aload_n 0, 1) := dk_42 (dk_at dksX3_writes_0 0 rfl rfl)
theorem dX3_writes_1 : decode cX3_writes 1 = .ok (.getfield 32, 3) := dk_180 0 32 (dk_at dksX3_writes_0 1 rfl rfl)
theorem dX3_writes_4 : decode cX3_writes 4 = .ok (.aload_n 0, 1) := dk_42 (dk_at dksX3_writes_0 4 rfl rfl)
theorem dX3_writes_5 : decode cX3_writes 5 = .ok (.getfield 146, 3) := dk_180 0 146 (dk_at dksX3_writes_0 5 rfl rfl)
theorem dX3_writes_8 : decode cX3_writes 8 = .ok (.iload_n 1, 1) := dk_27 (dk_at dksX3_writes_0 8 rfl rfl)
theorem dX3_writes_9 : decode cX3_writes 9 = .ok (.i2c, 1) := dk_146 (dk_at dksX3_writes_0 9 rfl rfl)
theorem dX3_writes_10 : decode cX3_writes 10 = .ok (.castore, 1) := dk_85 (dk_at dksX3_writes_0 10 rfl rfl)
theorem dX3_writes_11 : decode cX3_writes 11 = .ok (.aload_n 0, 1) := dk_42 (dk_at dksX3_writes_0 11 rfl rfl)
theorem dX3_writes_12 : decode cX3_writes 12 = .ok (.dup, 1) := dk_89 (dk_at dksX3_writes_0 12 rfl rfl)
theorem dX3_writes_13 : decode cX3_writes 13 = .ok (.getfield 146, 3) := dk_180 0 146 (dk_at dksX3_writes_0 13 rfl rfl)
theorem dX3_writes_16 : decode cX3_writes 16 = .ok (.iconst 1, 1) := dk_4 (dk_at dksX3_writes_0 16 rfl rfl)
theorem dX3_writes_17 : decode cX3_writes 17 = .ok (.iadd, 1) := dk_96 (dk_at dksX3_writes_0 17 rfl rfl)
theorem dX3_writes_18 : decode cX3_writes 18 = .ok (.putfield 146, 3) := dk_181 0 146 (dk_at dksX3_writes_0 18 rfl rfl)
theorem dX3_writes_21 : decode cX3_writes 21 = .ok (.return_, 1) := dk_177 (dk_at dksX3_writes_0 21 rfl rfl)
abbrev cX3_writesText : ByteArray := prog_24_method_53_code
def yX3_writesText : MethodName := ⟨RX3, "writesText", "(Ljava/lang/String;)V"⟩
def dkwX3_writesText_1 : List UInt8 := [167, 255, 236, 177]
abbrev dktX3_writesText_1 : List UInt8 := dkwX3_writesText_1 ++ []
def dkwX3_writesText_0 : List UInt8 := [3, 61, 28, 43, 182, 0, 149, 162, 0, 18, 42, 43, 28, 182, 0, 154, 182, 0, 158, 132, 2, 1]
abbrev dktX3_writesText_0 : List UInt8 := dkwX3_writesText_0 ++ dktX3_writesText_1
theorem dksX3_writesText_0 : cX3_writesText.data.toList.drop 0 = dktX3_writesText_0 := by decide +kernel
theorem dksX3_writesText_1 : cX3_writesText.data.toList.drop 22 = dktX3_writesText_1 := dk_seg dksX3_writesText_0 22 rfl rfl
theorem dX3_writesText_0 : decode cX3_writesText 0 = .ok (.iconst 0, 1) := dk_3 (dk_at dksX3_writesText_0 0 rfl rfl)
theorem dX3_writesText_1 : decode cX3_writesText 1 = .ok (.istore_n 2, 1) := dk_61 (dk_at dksX3_writesText_0 1 rfl rfl)
theorem dX3_writesText_2 : decode cX3_writesText 2 = .ok (.iload_n 2, 1) := dk_28 (dk_at dksX3_writesText_0 2 rfl rfl)
theorem dX3_writesText_3 : decode cX3_writesText 3 = .ok (.aload_n 1, 1) := dk_43 (dk_at dksX3_writesText_0 3 rfl rfl)
theorem dX3_writesText_4 : decode cX3_writesText 4 = .ok (.invokevirtual 149, 3) := dk_182 0 149 (dk_at dksX3_writesText_0 4 rfl rfl)
theorem dX3_writesText_7 : decode cX3_writesText 7 = .ok (.if_icmp .ge 18, 3) := dk_162 0 18 (dk_at dksX3_writesText_0 7 rfl rfl)
theorem dX3_writesText_10 : decode cX3_writesText 10 = .ok (.aload_n 0, 1) := dk_42 (dk_at dksX3_writesText_0 10 rfl rfl)
theorem dX3_writesText_11 : decode cX3_writesText 11 = .ok (.aload_n 1, 1) := dk_43 (dk_at dksX3_writesText_0 11 rfl rfl)
theorem dX3_writesText_12 : decode cX3_writesText 12 = .ok (.iload_n 2, 1) := dk_28 (dk_at dksX3_writesText_0 12 rfl rfl)
theorem dX3_writesText_13 : decode cX3_writesText 13 = .ok (.invokevirtual 154, 3) := dk_182 0 154 (dk_at dksX3_writesText_0 13 rfl rfl)
theorem dX3_writesText_16 : decode cX3_writesText 16 = .ok (.invokevirtual 158, 3) := dk_182 0 158 (dk_at dksX3_writesText_0 16 rfl rfl)
theorem dX3_writesText_19 : decode cX3_writesText 19 = .ok (.iinc 2 1, 3) := dk_132 2 1 (dk_at dksX3_writesText_0 19 rfl rfl)
theorem dX3_writesText_22 : decode cX3_writesText 22 = .ok (.goto (-20), 3) := dk_167 255 236 (dk_at dksX3_writesText_1 0 rfl rfl)
theorem dX3_writesText_25 : decode cX3_writesText 25 = .ok (.return_, 1) := dk_177 (dk_at dksX3_writesText_1 3 rfl rfl)
abbrev cX3_crateLine : ByteArray := prog_24_method_56_code
def yX3_crateLine : MethodName := ⟨RX3, "crateLine", "(I)I"⟩
def dkwX3_crateLine_3 : List UInt8 := [5, 182, 0, 124, 162, 0, 15, 42, 16, 58, 182, 0, 158, 132, 2, 1, 167, 255, 237, 42, 180, 0, 146, 172]
abbrev dktX3_crateLine_3 : List UInt8 := dkwX3_crateLine_3 ++ []
def dkwX3_crateLine_2 : List UInt8 := [162, 0, 8, 16, 35, 167, 0, 5, 16, 46, 182, 0, 158, 132, 2, 1, 167, 255, 222, 3, 61, 28, 42, 27]
abbrev dktX3_crateLine_2 : List UInt8 := dkwX3_crateLine_2 ++ dktX3_crateLine_3
def dkwX3_crateLine_1 : List UInt8 := [181, 0, 146, 3, 61, 28, 42, 27, 3, 182, 0, 124, 162, 0, 30, 42, 28, 42, 27, 4, 182, 0, 124]
abbrev dktX3_crateLine_1 : List UInt8 := dkwX3_crateLine_1 ++ dktX3_crateLine_2
def dkwX3_crateLine_0 : List UInt8 := [42, 42, 27, 182, 0, 130, 153, 0, 7, 3, 167, 0, 4, 4, 182, 0, 66, 153, 0, 5, 3, 172, 42, 3]
abbrev dktX3_crateLine_0 : List UInt8 := dkwX3_crateLine_0 ++ dktX3_crateLine_1
theorem dksX3_crateLine_0 : cX3_crateLine.data.toList.drop 0 = dktX3_crateLine_0 := by decide +kernel
theorem dksX3_crateLine_1 : cX3_crateLine.data.toList.drop 24 = dktX3_crateLine_1 := dk_seg dksX3_crateLine_0 24 rfl rfl
theorem dksX3_crateLine_2 : cX3_crateLine.data.toList.drop 47 = dktX3_crateLine_2 := dk_seg dksX3_crateLine_1 23 rfl rfl
theorem dksX3_crateLine_3 : cX3_crateLine.data.toList.drop 71 = dktX3_crateLine_3 := dk_seg dksX3_crateLine_2 24 rfl rfl
theorem dX3_crateLine_0 : decode cX3_crateLine 0 = .ok (.aload_n 0, 1) := dk_42 (dk_at dksX3_crateLine_0 0 rfl rfl)
theorem dX3_crateLine_1 : decode cX3_crateLine 1 = .ok (.aload_n 0, 1) := dk_42 (dk_at dksX3_crateLine_0 1 rfl rfl)
theorem dX3_crateLine_2 : decode cX3_crateLine 2 = .ok (.iload_n 1, 1) := dk_27 (dk_at dksX3_crateLine_0 2 rfl rfl)
theorem dX3_crateLine_3 : decode cX3_crateLine 3 = .ok (.invokevirtual 130, 3) := dk_182 0 130 (dk_at dksX3_crateLine_0 3 rfl rfl)
theorem dX3_crateLine_6 : decode cX3_crateLine 6 = .ok (.ifCond .eq 7, 3) := dk_153 0 7 (dk_at dksX3_crateLine_0 6 rfl rfl)
theorem dX3_crateLine_9 : decode cX3_crateLine 9 = .ok (.iconst 0, 1) := dk_3 (dk_at dksX3_crateLine_0 9 rfl rfl)
theorem dX3_crateLine_10 : decode cX3_crateLine 10 = .ok (.goto 4, 3) := dk_167 0 4 (dk_at dksX3_crateLine_0 10 rfl rfl)
theorem dX3_crateLine_13 : decode cX3_crateLine 13 = .ok (.iconst 1, 1) := dk_4 (dk_at dksX3_crateLine_0 13 rfl rfl)
theorem dX3_crateLine_14 : decode cX3_crateLine 14 = .ok (.invokevirtual 66, 3) := dk_182 0 66 (dk_at dksX3_crateLine_0 14 rfl rfl)
theorem dX3_crateLine_17 : decode cX3_crateLine 17 = .ok (.ifCond .eq 5, 3) := dk_153 0 5 (dk_at dksX3_crateLine_0 17 rfl rfl)
theorem dX3_crateLine_20 : decode cX3_crateLine 20 = .ok (.iconst 0, 1) := dk_3 (dk_at dksX3_crateLine_0 20 rfl rfl)
theorem dX3_crateLine_21 : decode cX3_crateLine 21 = .ok (.ireturn, 1) := dk_172 (dk_at dksX3_crateLine_0 21 rfl rfl)
theorem dX3_crateLine_22 : decode cX3_crateLine 22 = .ok (.aload_n 0, 1) := dk_42 (dk_at dksX3_crateLine_0 22 rfl rfl)
theorem dX3_crateLine_23 : decode cX3_crateLine 23 = .ok (.iconst 0, 1) := dk_3 (dk_at dksX3_crateLine_0 23 rfl rfl)
theorem dX3_crateLine_24 : decode cX3_crateLine 24 = .ok (.putfield 146, 3) := dk_181 0 146 (dk_at dksX3_crateLine_1 0 rfl rfl)
theorem dX3_crateLine_27 : decode cX3_crateLine 27 = .ok (.iconst 0, 1) := dk_3 (dk_at dksX3_crateLine_1 3 rfl rfl)
theorem dX3_crateLine_28 : decode cX3_crateLine 28 = .ok (.istore_n 2, 1) := dk_61 (dk_at dksX3_crateLine_1 4 rfl rfl)
theorem dX3_crateLine_29 : decode cX3_crateLine 29 = .ok (.iload_n 2, 1) := dk_28 (dk_at dksX3_crateLine_1 5 rfl rfl)
theorem dX3_crateLine_30 : decode cX3_crateLine 30 = .ok (.aload_n 0, 1) := dk_42 (dk_at dksX3_crateLine_1 6 rfl rfl)
theorem dX3_crateLine_31 : decode cX3_crateLine 31 = .ok (.iload_n 1, 1) := dk_27 (dk_at dksX3_crateLine_1 7 rfl rfl)
theorem dX3_crateLine_32 : decode cX3_crateLine 32 = .ok (.iconst 0, 1) := dk_3 (dk_at dksX3_crateLine_1 8 rfl rfl)
theorem dX3_crateLine_33 : decode cX3_crateLine 33 = .ok (.invokevirtual 124, 3) := dk_182 0 124 (dk_at dksX3_crateLine_1 9 rfl rfl)
theorem dX3_crateLine_36 : decode cX3_crateLine 36 = .ok (.if_icmp .ge 30, 3) := dk_162 0 30 (dk_at dksX3_crateLine_1 12 rfl rfl)
theorem dX3_crateLine_39 : decode cX3_crateLine 39 = .ok (.aload_n 0, 1) := dk_42 (dk_at dksX3_crateLine_1 15 rfl rfl)
theorem dX3_crateLine_40 : decode cX3_crateLine 40 = .ok (.iload_n 2, 1) := dk_28 (dk_at dksX3_crateLine_1 16 rfl rfl)
theorem dX3_crateLine_41 : decode cX3_crateLine 41 = .ok (.aload_n 0, 1) := dk_42 (dk_at dksX3_crateLine_1 17 rfl rfl)
theorem dX3_crateLine_42 : decode cX3_crateLine 42 = .ok (.iload_n 1, 1) := dk_27 (dk_at dksX3_crateLine_1 18 rfl rfl)
theorem dX3_crateLine_43 : decode cX3_crateLine 43 = .ok (.iconst 1, 1) := dk_4 (dk_at dksX3_crateLine_1 19 rfl rfl)
theorem dX3_crateLine_44 : decode cX3_crateLine 44 = .ok (.invokevirtual 124, 3) := dk_182 0 124 (dk_at dksX3_crateLine_1 20 rfl rfl)
theorem dX3_crateLine_47 : decode cX3_crateLine 47 = .ok (.if_icmp .ge 8, 3) := dk_162 0 8 (dk_at dksX3_crateLine_2 0 rfl rfl)
theorem dX3_crateLine_50 : decode cX3_crateLine 50 = .ok (.bipush 35, 2) := dk_16 35 (dk_at dksX3_crateLine_2 3 rfl rfl)
theorem dX3_crateLine_52 : decode cX3_crateLine 52 = .ok (.goto 5, 3) := dk_167 0 5 (dk_at dksX3_crateLine_2 5 rfl rfl)
theorem dX3_crateLine_55 : decode cX3_crateLine 55 = .ok (.bipush 46, 2) := dk_16 46 (dk_at dksX3_crateLine_2 8 rfl rfl)
theorem dX3_crateLine_57 : decode cX3_crateLine 57 = .ok (.invokevirtual 158, 3) := dk_182 0 158 (dk_at dksX3_crateLine_2 10 rfl rfl)
theorem dX3_crateLine_60 : decode cX3_crateLine 60 = .ok (.iinc 2 1, 3) := dk_132 2 1 (dk_at dksX3_crateLine_2 13 rfl rfl)
theorem dX3_crateLine_63 : decode cX3_crateLine 63 = .ok (.goto (-34), 3) := dk_167 255 222 (dk_at dksX3_crateLine_2 16 rfl rfl)
theorem dX3_crateLine_66 : decode cX3_crateLine 66 = .ok (.iconst 0, 1) := dk_3 (dk_at dksX3_crateLine_2 19 rfl rfl)
theorem dX3_crateLine_67 : decode cX3_crateLine 67 = .ok (.istore_n 2, 1) := dk_61 (dk_at dksX3_crateLine_2 20 rfl rfl)
theorem dX3_crateLine_68 : decode cX3_crateLine 68 = .ok (.iload_n 2, 1) := dk_28 (dk_at dksX3_crateLine_2 21 rfl rfl)
theorem dX3_crateLine_69 : decode cX3_crateLine 69 = .ok (.aload_n 0, 1) := dk_42 (dk_at dksX3_crateLine_2 22 rfl rfl)
theorem dX3_crateLine_70 : decode cX3_crateLine 70 = .ok (.iload_n 1, 1) := dk_27 (dk_at dksX3_crateLine_2 23 rfl rfl)
theorem dX3_crateLine_71 : decode cX3_crateLine 71 = .ok (.iconst 2, 1) := dk_5 (dk_at dksX3_crateLine_3 0 rfl rfl)
theorem dX3_crateLine_72 : decode cX3_crateLine 72 = .ok (.invokevirtual 124, 3) := dk_182 0 124 (dk_at dksX3_crateLine_3 1 rfl rfl)
theorem dX3_crateLine_75 : decode cX3_crateLine 75 = .ok (.if_icmp .ge 15, 3) := dk_162 0 15 (dk_at dksX3_crateLine_3 4 rfl rfl)
theorem dX3_crateLine_78 : decode cX3_crateLine 78 = .ok (.aload_n 0, 1) := dk_42 (dk_at dksX3_crateLine_3 7 rfl rfl)
theorem dX3_crateLine_79 : decode cX3_crateLine 79 = .ok (.bipush 58, 2) := dk_16 58 (dk_at dksX3_crateLine_3 8 rfl rfl)
theorem dX3_crateLine_81 : decode cX3_crateLine 81 = .ok (.invokevirtual 158, 3) := dk_182 0 158 (dk_at dksX3_crateLine_3 10 rfl rfl)
theorem dX3_crateLine_84 : decode cX3_crateLine 84 = .ok (.iinc 2 1, 3) := dk_132 2 1 (dk_at dksX3_crateLine_3 13 rfl rfl)
theorem dX3_crateLine_87 : decode cX3_crateLine 87 = .ok (.goto (-19), 3) := dk_167 255 237 (dk_at dksX3_crateLine_3 16 rfl rfl)
theorem dX3_crateLine_90 : decode cX3_crateLine 90 = .ok (.aload_n 0, 1) := dk_42 (dk_at dksX3_crateLine_3 19 rfl rfl)
theorem dX3_crateLine_91 : decode cX3_crateLine 91 = .ok (.getfield 146, 3) := dk_180 0 146 (dk_at dksX3_crateLine_3 20 rfl rfl)
theorem dX3_crateLine_94 : decode cX3_crateLine 94 = .ok (.ireturn, 1) := dk_172 (dk_at dksX3_crateLine_3 23 rfl rfl)
abbrev cX3_character : ByteArray := prog_24_method_57_code
def yX3_character : MethodName := ⟨RX3, "character", "(I)C"⟩
def dkwX3_character_1 : List UInt8 := [153, 0, 8, 16, 32, 167, 0, 9, 42, 180, 0, 32, 27, 52, 172]
abbrev dktX3_character_1 : List UInt8 := dkwX3_character_1 ++ []
def dkwX3_character_0 : List UInt8 := [42, 27, 3, 42, 180, 0, 146, 4, 100, 184, 0, 62, 153, 0, 7, 3, 167, 0, 4, 4, 182, 0, 66]
abbrev dktX3_character_0 : List UInt8 := dkwX3_character_0 ++ dktX3_character_1
theorem dksX3_character_0 : cX3_character.data.toList.drop 0 = dktX3_character_0 := by decide +kernel
theorem dksX3_character_1 : cX3_character.data.toList.drop 23 = dktX3_character_1 := dk_seg dksX3_character_0 23 rfl rfl
theorem dX3_character_0 : decode cX3_character 0 = .ok (.aload_n 0, 1) := dk_42 (dk_at dksX3_character_0 0 rfl rfl)
theorem dX3_character_1 : decode cX3_character 1 = .ok (.iload_n 1, 1) := dk_27 (dk_at dksX3_character_0 1 rfl rfl)
theorem dX3_character_2 : decode cX3_character 2 = .ok (.iconst 0, 1) := dk_3 (dk_at dksX3_character_0 2 rfl rfl)
theorem dX3_character_3 : decode cX3_character 3 = .ok (.aload_n 0, 1) := dk_42 (dk_at dksX3_character_0 3 rfl rfl)
theorem dX3_character_4 : decode cX3_character 4 = .ok (.getfield 146, 3) := dk_180 0 146 (dk_at dksX3_character_0 4 rfl rfl)
theorem dX3_character_7 : decode cX3_character 7 = .ok (.iconst 1, 1) := dk_4 (dk_at dksX3_character_0 7 rfl rfl)
theorem dX3_character_8 : decode cX3_character 8 = .ok (.isub, 1) := dk_100 (dk_at dksX3_character_0 8 rfl rfl)
theorem dX3_character_9 : decode cX3_character 9 = .ok (.invokestatic 62, 3) := dk_184 0 62 (dk_at dksX3_character_0 9 rfl rfl)
theorem dX3_character_12 : decode cX3_character 12 = .ok (.ifCond .eq 7, 3) := dk_153 0 7 (dk_at dksX3_character_0 12 rfl rfl)
theorem dX3_character_15 : decode cX3_character 15 = .ok (.iconst 0, 1) := dk_3 (dk_at dksX3_character_0 15 rfl rfl)
theorem dX3_character_16 : decode cX3_character 16 = .ok (.goto 4, 3) := dk_167 0 4 (dk_at dksX3_character_0 16 rfl rfl)
theorem dX3_character_19 : decode cX3_character 19 = .ok (.iconst 1, 1) := dk_4 (dk_at dksX3_character_0 19 rfl rfl)
theorem dX3_character_20 : decode cX3_character 20 = .ok (.invokevirtual 66, 3) := dk_182 0 66 (dk_at dksX3_character_0 20 rfl rfl)
theorem dX3_character_23 : decode cX3_character 23 = .ok (.ifCond .eq 8, 3) := dk_153 0 8 (dk_at dksX3_character_1 0 rfl rfl)
theorem dX3_character_26 : decode cX3_character 26 = .ok (.bipush 32, 2) := dk_16 32 (dk_at dksX3_character_1 3 rfl rfl)
theorem dX3_character_28 : decode cX3_character 28 = .ok (.goto 9, 3) := dk_167 0 9 (dk_at dksX3_character_1 5 rfl rfl)
theorem dX3_character_31 : decode cX3_character 31 = .ok (.aload_n 0, 1) := dk_42 (dk_at dksX3_character_1 8 rfl rfl)
theorem dX3_character_32 : decode cX3_character 32 = .ok (.getfield 32, 3) := dk_180 0 32 (dk_at dksX3_character_1 9 rfl rfl)
theorem dX3_character_35 : decode cX3_character 35 = .ok (.iload_n 1, 1) := dk_27 (dk_at dksX3_character_1 12 rfl rfl)
theorem dX3_character_36 : decode cX3_character 36 = .ok (.caload, 1) := dk_52 (dk_at dksX3_character_1 13 rfl rfl)
theorem dX3_character_37 : decode cX3_character 37 = .ok (.ireturn, 1) := dk_172 (dk_at dksX3_character_1 14 rfl rfl)
abbrev cX3_refusal : ByteArray := prog_24_method_58_code
def yX3_refusal : MethodName := ⟨RX3, "refusal", "(Z)I"⟩
def dkwX3_refusal_1 : List UInt8 := [153, 0, 10, 42, 180, 0, 51, 167, 0, 7, 42, 180, 0, 48, 172]
abbrev dktX3_refusal_1 : List UInt8 := dkwX3_refusal_1 ++ []
def dkwX3_refusal_0 : List UInt8 := [42, 42, 180, 0, 48, 154, 0, 7, 4, 167, 0, 4, 3, 182, 0, 66, 153, 0, 7, 3, 167, 0, 18, 27]
abbrev dktX3_refusal_0 : List UInt8 := dkwX3_refusal_0 ++ dktX3_refusal_1
theorem dksX3_refusal_0 : cX3_refusal.data.toList.drop 0 = dktX3_refusal_0 := by decide +kernel
theorem dksX3_refusal_1 : cX3_refusal.data.toList.drop 24 = dktX3_refusal_1 := dk_seg dksX3_refusal_0 24 rfl rfl
theorem dX3_refusal_0 : decode cX3_refusal 0 = .ok (.aload_n 0, 1) := dk_42 (dk_at dksX3_refusal_0 0 rfl rfl)
theorem dX3_refusal_1 : decode cX3_refusal 1 = .ok (.aload_n 0, 1) := dk_42 (dk_at dksX3_refusal_0 1 rfl rfl)
theorem dX3_refusal_2 : decode cX3_refusal 2 = .ok (.getfield 48, 3) := dk_180 0 48 (dk_at dksX3_refusal_0 2 rfl rfl)
theorem dX3_refusal_5 : decode cX3_refusal 5 = .ok (.ifCond .ne 7, 3) := dk_154 0 7 (dk_at dksX3_refusal_0 5 rfl rfl)
theorem dX3_refusal_8 : decode cX3_refusal 8 = .ok (.iconst 1, 1) := dk_4 (dk_at dksX3_refusal_0 8 rfl rfl)
theorem dX3_refusal_9 : decode cX3_refusal 9 = .ok (.goto 4, 3) := dk_167 0 4 (dk_at dksX3_refusal_0 9 rfl rfl)
theorem dX3_refusal_12 : decode cX3_refusal 12 = .ok (.iconst 0, 1) := dk_3 (dk_at dksX3_refusal_0 12 rfl rfl)
theorem dX3_refusal_13 : decode cX3_refusal 13 = .ok (.invokevirtual 66, 3) := dk_182 0 66 (dk_at dksX3_refusal_0 13 rfl rfl)
theorem dX3_refusal_16 : decode cX3_refusal 16 = .ok (.ifCond .eq 7, 3) := dk_153 0 7 (dk_at dksX3_refusal_0 16 rfl rfl)
theorem dX3_refusal_19 : decode cX3_refusal 19 = .ok (.iconst 0, 1) := dk_3 (dk_at dksX3_refusal_0 19 rfl rfl)
theorem dX3_refusal_20 : decode cX3_refusal 20 = .ok (.goto 18, 3) := dk_167 0 18 (dk_at dksX3_refusal_0 20 rfl rfl)
theorem dX3_refusal_23 : decode cX3_refusal 23 = .ok (.iload_n 1, 1) := dk_27 (dk_at dksX3_refusal_0 23 rfl rfl)
theorem dX3_refusal_24 : decode cX3_refusal 24 = .ok (.ifCond .eq 10, 3) := dk_153 0 10 (dk_at dksX3_refusal_1 0 rfl rfl)
theorem dX3_refusal_27 : decode cX3_refusal 27 = .ok (.aload_n 0, 1) := dk_42 (dk_at dksX3_refusal_1 3 rfl rfl)
theorem dX3_refusal_28 : decode cX3_refusal 28 = .ok (.getfield 51, 3) := dk_180 0 51 (dk_at dksX3_refusal_1 4 rfl rfl)
theorem dX3_refusal_31 : decode cX3_refusal 31 = .ok (.goto 7, 3) := dk_167 0 7 (dk_at dksX3_refusal_1 7 rfl rfl)
theorem dX3_refusal_34 : decode cX3_refusal 34 = .ok (.aload_n 0, 1) := dk_42 (dk_at dksX3_refusal_1 10 rfl rfl)
theorem dX3_refusal_35 : decode cX3_refusal 35 = .ok (.getfield 48, 3) := dk_180 0 48 (dk_at dksX3_refusal_1 11 rfl rfl)
theorem dX3_refusal_38 : decode cX3_refusal 38 = .ok (.ireturn, 1) := dk_172 (dk_at dksX3_refusal_1 14 rfl rfl)
abbrev cX3_account : ByteArray := prog_24_method_62_code
def yX3_account : MethodName := ⟨RX3, "account", "(I)I"⟩
def dkwX3_account_7 : List UInt8 := [16, 8, 46, 172, 42, 180, 0, 7, 16, 9, 46, 172, 42, 180, 0, 189, 172, 42, 180, 0, 42, 172]
abbrev dktX3_account_7 : List UInt8 := dkwX3_account_7 ++ []
def dkwX3_account_6 : List UInt8 := [180, 0, 7, 16, 87, 46, 172, 42, 182, 0, 186, 172, 42, 180, 0, 7, 16, 100, 46, 172, 42, 180, 0, 7]
abbrev dktX3_account_6 : List UInt8 := dkwX3_account_6 ++ dktX3_account_7
def dkwX3_account_5 : List UInt8 := [180, 0, 7, 8, 46, 172, 42, 180, 0, 7, 16, 6, 46, 172, 42, 180, 0, 7, 16, 7, 46, 172, 42]
abbrev dktX3_account_5 : List UInt8 := dkwX3_account_5 ++ dktX3_account_6
def dkwX3_account_4 : List UInt8 := [180, 0, 7, 7, 46, 172, 42, 3, 182, 0, 180, 172, 42, 6, 182, 0, 180, 172, 42, 182, 0, 183, 172, 42]
abbrev dktX3_account_4 : List UInt8 := dkwX3_account_4 ++ dktX3_account_5
def dkwX3_account_3 : List UInt8 := [42, 180, 0, 7, 27, 46, 172, 42, 180, 0, 7, 16, 10, 46, 172, 42, 180, 0, 7, 16, 26, 46, 172, 42]
abbrev dktX3_account_3 : List UInt8 := dkwX3_account_3 ++ dktX3_account_4
def dkwX3_account_2 : List UInt8 := [170, 0, 0, 0, 0, 0, 203, 0, 0, 0, 0, 0, 0, 0, 18, 0, 0, 0, 91, 0, 0, 0, 91, 0, 0, 0, 91, 0, 0, 0, 91, 0, 0, 0, 98, 0, 0, 0, 106, 0, 0, 0, 114, 0, 0, 0, 121, 0, 0, 0, 127, 0, 0, 0, 133, 0, 0, 0, 138, 0, 0, 0, 145, 0, 0, 0, 153, 0, 0, 0, 161, 0, 0, 0, 169, 0, 0, 0, 174, 0, 0, 0, 182, 0, 0, 0, 190, 0, 0, 0, 198]
abbrev dktX3_account_2 : List UInt8 := dkwX3_account_2 ++ dktX3_account_3
def dkwX3_account_1 : List UInt8 := [27]
abbrev dktX3_account_1 : List UInt8 := dkwX3_account_1 ++ dktX3_account_2
def dkwX3_account_0 : List UInt8 := [42, 27, 3, 16, 19, 184, 0, 62, 153, 0, 7, 3, 167, 0, 4, 4, 182, 0, 66, 153, 0, 5, 3, 172]
abbrev dktX3_account_0 : List UInt8 := dkwX3_account_0 ++ dktX3_account_1
theorem dksX3_account_0 : cX3_account.data.toList.drop 0 = dktX3_account_0 := by decide +kernel
theorem dksX3_account_1 : cX3_account.data.toList.drop 24 = dktX3_account_1 := dk_seg dksX3_account_0 24 rfl rfl
theorem dksX3_account_2 : cX3_account.data.toList.drop 25 = dktX3_account_2 := dk_seg dksX3_account_1 1 rfl rfl
theorem dksX3_account_3 : cX3_account.data.toList.drop 116 = dktX3_account_3 := dk_seg dksX3_account_2 91 rfl rfl
theorem dksX3_account_4 : cX3_account.data.toList.drop 140 = dktX3_account_4 := dk_seg dksX3_account_3 24 rfl rfl
theorem dksX3_account_5 : cX3_account.data.toList.drop 164 = dktX3_account_5 := dk_seg dksX3_account_4 24 rfl rfl
theorem dksX3_account_6 : cX3_account.data.toList.drop 187 = dktX3_account_6 := dk_seg dksX3_account_5 23 rfl rfl
theorem dksX3_account_7 : cX3_account.data.toList.drop 211 = dktX3_account_7 := dk_seg dksX3_account_6 24 rfl rfl
theorem dX3_account_0 : decode cX3_account 0 = .ok (.aload_n 0, 1) := dk_42 (dk_at dksX3_account_0 0 rfl rfl)
theorem dX3_account_1 : decode cX3_account 1 = .ok (.iload_n 1, 1) := dk_27 (dk_at dksX3_account_0 1 rfl rfl)
theorem dX3_account_2 : decode cX3_account 2 = .ok (.iconst 0, 1) := dk_3 (dk_at dksX3_account_0 2 rfl rfl)
theorem dX3_account_3 : decode cX3_account 3 = .ok (.bipush 19, 2) := dk_16 19 (dk_at dksX3_account_0 3 rfl rfl)
theorem dX3_account_5 : decode cX3_account 5 = .ok (.invokestatic 62, 3) := dk_184 0 62 (dk_at dksX3_account_0 5 rfl rfl)
theorem dX3_account_8 : decode cX3_account 8 = .ok (.ifCond .eq 7, 3) := dk_153 0 7 (dk_at dksX3_account_0 8 rfl rfl)
theorem dX3_account_11 : decode cX3_account 11 = .ok (.iconst 0, 1) := dk_3 (dk_at dksX3_account_0 11 rfl rfl)
theorem dX3_account_12 : decode cX3_account 12 = .ok (.goto 4, 3) := dk_167 0 4 (dk_at dksX3_account_0 12 rfl rfl)
theorem dX3_account_15 : decode cX3_account 15 = .ok (.iconst 1, 1) := dk_4 (dk_at dksX3_account_0 15 rfl rfl)
theorem dX3_account_16 : decode cX3_account 16 = .ok (.invokevirtual 66, 3) := dk_182 0 66 (dk_at dksX3_account_0 16 rfl rfl)
theorem dX3_account_19 : decode cX3_account 19 = .ok (.ifCond .eq 5, 3) := dk_153 0 5 (dk_at dksX3_account_0 19 rfl rfl)
theorem dX3_account_22 : decode cX3_account 22 = .ok (.iconst 0, 1) := dk_3 (dk_at dksX3_account_0 22 rfl rfl)
theorem dX3_account_23 : decode cX3_account 23 = .ok (.ireturn, 1) := dk_172 (dk_at dksX3_account_0 23 rfl rfl)
theorem dX3_account_24 : decode cX3_account 24 = .ok (.iload_n 1, 1) := dk_27 (dk_at dksX3_account_1 0 rfl rfl)
theorem dX3_account_25 : decode cX3_account 25 = .ok (.tableswitch 203 0 18 #[91, 91, 91, 91, 98, 106, 114, 121, 127, 133, 138, 145, 153, 161, 169, 174, 182, 190, 198], 91) := by decide +kernel
theorem dX3_account_116 : decode cX3_account 116 = .ok (.aload_n 0, 1) := dk_42 (dk_at dksX3_account_3 0 rfl rfl)
theorem dX3_account_117 : decode cX3_account 117 = .ok (.getfield 7, 3) := dk_180 0 7 (dk_at dksX3_account_3 1 rfl rfl)
theorem dX3_account_120 : decode cX3_account 120 = .ok (.iload_n 1, 1) := dk_27 (dk_at dksX3_account_3 4 rfl rfl)
theorem dX3_account_121 : decode cX3_account 121 = .ok (.iaload, 1) := dk_46 (dk_at dksX3_account_3 5 rfl rfl)
theorem dX3_account_122 : decode cX3_account 122 = .ok (.ireturn, 1) := dk_172 (dk_at dksX3_account_3 6 rfl rfl)
theorem dX3_account_123 : decode cX3_account 123 = .ok (.aload_n 0, 1) := dk_42 (dk_at dksX3_account_3 7 rfl rfl)
theorem dX3_account_124 : decode cX3_account 124 = .ok (.getfield 7, 3) := dk_180 0 7 (dk_at dksX3_account_3 8 rfl rfl)
theorem dX3_account_127 : decode cX3_account 127 = .ok (.bipush 10, 2) := dk_16 10 (dk_at dksX3_account_3 11 rfl rfl)
theorem dX3_account_129 : decode cX3_account 129 = .ok (.iaload, 1) := dk_46 (dk_at dksX3_account_3 13 rfl rfl)
theorem dX3_account_130 : decode cX3_account 130 = .ok (.ireturn, 1) := dk_172 (dk_at dksX3_account_3 14 rfl rfl)
theorem dX3_account_131 : decode cX3_account 131 = .ok (.aload_n 0, 1) := dk_42 (dk_at dksX3_account_3 15 rfl rfl)
theorem dX3_account_132 : decode cX3_account 132 = .ok (.getfield 7, 3) := dk_180 0 7 (dk_at dksX3_account_3 16 rfl rfl)
theorem dX3_account_135 : decode cX3_account 135 = .ok (.bipush 26, 2) := dk_16 26 (dk_at dksX3_account_3 19 rfl rfl)
theorem dX3_account_137 : decode cX3_account 137 = .ok (.iaload, 1) := dk_46 (dk_at dksX3_account_3 21 rfl rfl)
theorem dX3_account_138 : decode cX3_account 138 = .ok (.ireturn, 1) := dk_172 (dk_at dksX3_account_3 22 rfl rfl)
theorem dX3_account_139 : decode cX3_account 139 = .ok (.aload_n 0, 1) := dk_42 (dk_at dksX3_account_3 23 rfl rfl)
theorem dX3_account_140 : decode cX3_account 140 = .ok (.getfield 7, 3) := dk_180 0 7 (dk_at dksX3_account_4 0 rfl rfl)
theorem dX3_account_143 : decode cX3_account 143 = .ok (.iconst 4, 1) := dk_7 (dk_at dksX3_account_4 3 rfl rfl)
theorem dX3_account_144 : decode cX3_account 144 = .ok (.iaload, 1) := dk_46 (dk_at dksX3_account_4 4 rfl rfl)
theorem dX3_account_145 : decode cX3_account 145 = .ok (.ireturn, 1) := dk_172 (dk_at dksX3_account_4 5 rfl rfl)
theorem dX3_account_146 : decode cX3_account 146 = .ok (.aload_n 0, 1) := dk_42 (dk_at dksX3_account_4 6 rfl rfl)
theorem dX3_account_147 : decode cX3_account 147 = .ok (.iconst 0, 1) := dk_3 (dk_at dksX3_account_4 7 rfl rfl)
theorem dX3_account_148 : decode cX3_account 148 = .ok (.invokevirtual 180, 3) := dk_182 0 180 (dk_at dksX3_account_4 8 rfl rfl)
theorem dX3_account_151 : decode cX3_account 151 = .ok (.ireturn, 1) := dk_172 (dk_at dksX3_account_4 11 rfl rfl)
theorem dX3_account_152 : decode cX3_account 152 = .ok (.aload_n 0, 1) := dk_42 (dk_at dksX3_account_4 12 rfl rfl)
theorem dX3_account_153 : decode cX3_account 153 = .ok (.iconst 3, 1) := dk_6 (dk_at dksX3_account_4 13 rfl rfl)
theorem dX3_account_154 : decode cX3_account 154 = .ok (.invokevirtual 180, 3) := dk_182 0 180 (dk_at dksX3_account_4 14 rfl rfl)
theorem dX3_account_157 : decode cX3_account 157 = .ok (.ireturn, 1) := dk_172 (dk_at dksX3_account_4 17 rfl rfl)
theorem dX3_account_158 : decode cX3_account 158 = .ok (.aload_n 0, 1) := dk_42 (dk_at dksX3_account_4 18 rfl rfl)
theorem dX3_account_159 : decode cX3_account 159 = .ok (.invokevirtual 183, 3) := dk_182 0 183 (dk_at dksX3_account_4 19 rfl rfl)
theorem dX3_account_162 : decode cX3_account 162 = .ok (.ireturn, 1) := dk_172 (dk_at dksX3_account_4 22 rfl rfl)
theorem dX3_account_163 : decode cX3_account 163 = .ok (.aload_n 0, 1) := dk_42 (dk_at dksX3_account_4 23 rfl rfl)
theorem dX3_account_164 : decode cX3_account 164 = .ok (.getfield 7, 3) := dk_180 0 7 (dk_at dksX3_account_5 0 rfl rfl)
theorem dX3_account_167 : decode cX3_account 167 = .ok (.iconst 5, 1) := dk_8 (dk_at dksX3_account_5 3 rfl rfl)
theorem dX3_account_168 : decode cX3_account 168 = .ok (.iaload, 1) := dk_46 (dk_at dksX3_account_5 4 rfl rfl)
theorem dX3_account_169 : decode cX3_account 169 = .ok (.ireturn, 1) := dk_172 (dk_at dksX3_account_5 5 rfl rfl)
theorem dX3_account_170 : decode cX3_account 170 = .ok (.aload_n 0, 1) := dk_42 (dk_at dksX3_account_5 6 rfl rfl)
theorem dX3_account_171 : decode cX3_account 171 = .ok (.getfield 7, 3) := dk_180 0 7 (dk_at dksX3_account_5 7 rfl rfl)
theorem dX3_account_174 : decode cX3_account 174 = .ok (.bipush 6, 2) := dk_16 6 (dk_at dksX3_account_5 10 rfl rfl)
theorem dX3_account_176 : decode cX3_account 176 = .ok (.iaload, 1) := dk_46 (dk_at dksX3_account_5 12 rfl rfl)
theorem dX3_account_177 : decode cX3_account 177 = .ok (.ireturn, 1) := dk_172 (dk_at dksX3_account_5 13 rfl rfl)
theorem dX3_account_178 : decode cX3_account 178 = .ok (.aload_n 0, 1) := dk_42 (dk_at dksX3_account_5 14 rfl rfl)
theorem dX3_account_179 : decode cX3_account 179 = .ok (.getfield 7, 3) := dk_180 0 7 (dk_at dksX3_account_5 15 rfl rfl)
theorem dX3_account_182 : decode cX3_account 182 = .ok (.bipush 7, 2) := dk_16 7 (dk_at dksX3_account_5 18 rfl rfl)
theorem dX3_account_184 : decode cX3_account 184 = .ok (.iaload, 1) := dk_46 (dk_at dksX3_account_5 20 rfl rfl)
theorem dX3_account_185 : decode cX3_account 185 = .ok (.ireturn, 1) := dk_172 (dk_at dksX3_account_5 21 rfl rfl)
theorem dX3_account_186 : decode cX3_account 186 = .ok (.aload_n 0, 1) := dk_42 (dk_at dksX3_account_5 22 rfl rfl)
theorem dX3_account_187 : decode cX3_account 187 = .ok (.getfield 7, 3) := dk_180 0 7 (dk_at dksX3_account_6 0 rfl rfl)
theorem dX3_account_190 : decode cX3_account 190 = .ok (.bipush 87, 2) := dk_16 87 (dk_at dksX3_account_6 3 rfl rfl)
theorem dX3_account_192 : decode cX3_account 192 = .ok (.iaload, 1) := dk_46 (dk_at dksX3_account_6 5 rfl rfl)
theorem dX3_account_193 : decode cX3_account 193 = .ok (.ireturn, 1) := dk_172 (dk_at dksX3_account_6 6 rfl rfl)
theorem dX3_account_194 : decode cX3_account 194 = .ok (.aload_n 0, 1) := dk_42 (dk_at dksX3_account_6 7 rfl rfl)
theorem dX3_account_195 : decode cX3_account 195 = .ok (.invokevirtual 186, 3) := dk_182 0 186 (dk_at dksX3_account_6 8 rfl rfl)
theorem dX3_account_198 : decode cX3_account 198 = .ok (.ireturn, 1) := dk_172 (dk_at dksX3_account_6 11 rfl rfl)
theorem dX3_account_199 : decode cX3_account 199 = .ok (.aload_n 0, 1) := dk_42 (dk_at dksX3_account_6 12 rfl rfl)
theorem dX3_account_200 : decode cX3_account 200 = .ok (.getfield 7, 3) := dk_180 0 7 (dk_at dksX3_account_6 13 rfl rfl)
theorem dX3_account_203 : decode cX3_account 203 = .ok (.bipush 100, 2) := dk_16 100 (dk_at dksX3_account_6 16 rfl rfl)
theorem dX3_account_205 : decode cX3_account 205 = .ok (.iaload, 1) := dk_46 (dk_at dksX3_account_6 18 rfl rfl)
theorem dX3_account_206 : decode cX3_account 206 = .ok (.ireturn, 1) := dk_172 (dk_at dksX3_account_6 19 rfl rfl)
theorem dX3_account_207 : decode cX3_account 207 = .ok (.aload_n 0, 1) := dk_42 (dk_at dksX3_account_6 20 rfl rfl)
theorem dX3_account_208 : decode cX3_account 208 = .ok (.getfield 7, 3) := dk_180 0 7 (dk_at dksX3_account_6 21 rfl rfl)
theorem dX3_account_211 : decode cX3_account 211 = .ok (.bipush 8, 2) := dk_16 8 (dk_at dksX3_account_7 0 rfl rfl)
theorem dX3_account_213 : decode cX3_account 213 = .ok (.iaload, 1) := dk_46 (dk_at dksX3_account_7 2 rfl rfl)
theorem dX3_account_214 : decode cX3_account 214 = .ok (.ireturn, 1) := dk_172 (dk_at dksX3_account_7 3 rfl rfl)
theorem dX3_account_215 : decode cX3_account 215 = .ok (.aload_n 0, 1) := dk_42 (dk_at dksX3_account_7 4 rfl rfl)
theorem dX3_account_216 : decode cX3_account 216 = .ok (.getfield 7, 3) := dk_180 0 7 (dk_at dksX3_account_7 5 rfl rfl)
theorem dX3_account_219 : decode cX3_account 219 = .ok (.bipush 9, 2) := dk_16 9 (dk_at dksX3_account_7 8 rfl rfl)
theorem dX3_account_221 : decode cX3_account 221 = .ok (.iaload, 1) := dk_46 (dk_at dksX3_account_7 10 rfl rfl)
theorem dX3_account_222 : decode cX3_account 222 = .ok (.ireturn, 1) := dk_172 (dk_at dksX3_account_7 11 rfl rfl)
theorem dX3_account_223 : decode cX3_account 223 = .ok (.aload_n 0, 1) := dk_42 (dk_at dksX3_account_7 12 rfl rfl)
theorem dX3_account_224 : decode cX3_account 224 = .ok (.getfield 189, 3) := dk_180 0 189 (dk_at dksX3_account_7 13 rfl rfl)
theorem dX3_account_227 : decode cX3_account 227 = .ok (.ireturn, 1) := dk_172 (dk_at dksX3_account_7 16 rfl rfl)
theorem dX3_account_228 : decode cX3_account 228 = .ok (.aload_n 0, 1) := dk_42 (dk_at dksX3_account_7 17 rfl rfl)
theorem dX3_account_229 : decode cX3_account 229 = .ok (.getfield 42, 3) := dk_180 0 42 (dk_at dksX3_account_7 18 rfl rfl)
theorem dX3_account_232 : decode cX3_account 232 = .ok (.ireturn, 1) := dk_172 (dk_at dksX3_account_7 21 rfl rfl)
abbrev cX3_allPlates : ByteArray := prog_24_method_59_code
def yX3_allPlates : MethodName := ⟨RX3, "allPlates", "(I)I"⟩
def dkwX3_allPlates_1 : List UInt8 := [161, 0, 12, 42, 29, 3, 182, 0, 102, 167, 0, 4, 3, 96, 61, 132, 3, 1, 167, 255, 219, 28, 172]
abbrev dktX3_allPlates_1 : List UInt8 := dkwX3_allPlates_1 ++ []
def dkwX3_allPlates_0 : List UInt8 := [3, 61, 3, 62, 29, 42, 180, 0, 7, 16, 26, 46, 162, 0, 32, 28, 42, 29, 4, 182, 0, 102, 27]
abbrev dktX3_allPlates_0 : List UInt8 := dkwX3_allPlates_0 ++ dktX3_allPlates_1
theorem dksX3_allPlates_0 : cX3_allPlates.data.toList.drop 0 = dktX3_allPlates_0 := by decide +kernel
theorem dksX3_allPlates_1 : cX3_allPlates.data.toList.drop 23 = dktX3_allPlates_1 := dk_seg dksX3_allPlates_0 23 rfl rfl
theorem dX3_allPlates_0 : decode cX3_allPlates 0 = .ok (.iconst 0, 1) := dk_3 (dk_at dksX3_allPlates_0 0 rfl rfl)
theorem dX3_allPlates_1 : decode cX3_allPlates 1 = .ok (.istore_n 2, 1) := dk_61 (dk_at dksX3_allPlates_0 1 rfl rfl)
theorem dX3_allPlates_2 : decode cX3_allPlates 2 = .ok (.iconst 0, 1) := dk_3 (dk_at dksX3_allPlates_0 2 rfl rfl)
theorem dX3_allPlates_3 : decode cX3_allPlates 3 = .ok (.istore_n 3, 1) := dk_62 (dk_at dksX3_allPlates_0 3 rfl rfl)
theorem dX3_allPlates_4 : decode cX3_allPlates 4 = .ok (.iload_n 3, 1) := dk_29 (dk_at dksX3_allPlates_0 4 rfl rfl)
theorem dX3_allPlates_5 : decode cX3_allPlates 5 = .ok (.aload_n 0, 1) := dk_42 (dk_at dksX3_allPlates_0 5 rfl rfl)
theorem dX3_allPlates_6 : decode cX3_allPlates 6 = .ok (.getfield 7, 3) := dk_180 0 7 (dk_at dksX3_allPlates_0 6 rfl rfl)
theorem dX3_allPlates_9 : decode cX3_allPlates 9 = .ok (.bipush 26, 2) := dk_16 26 (dk_at dksX3_allPlates_0 9 rfl rfl)
theorem dX3_allPlates_11 : decode cX3_allPlates 11 = .ok (.iaload, 1) := dk_46 (dk_at dksX3_allPlates_0 11 rfl rfl)
theorem dX3_allPlates_12 : decode cX3_allPlates 12 = .ok (.if_icmp .ge 32, 3) := dk_162 0 32 (dk_at dksX3_allPlates_0 12 rfl rfl)
theorem dX3_allPlates_15 : decode cX3_allPlates 15 = .ok (.iload_n 2, 1) := dk_28 (dk_at dksX3_allPlates_0 15 rfl rfl)
theorem dX3_allPlates_16 : decode cX3_allPlates 16 = .ok (.aload_n 0, 1) := dk_42 (dk_at dksX3_allPlates_0 16 rfl rfl)
theorem dX3_allPlates_17 : decode cX3_allPlates 17 = .ok (.iload_n 3, 1) := dk_29 (dk_at dksX3_allPlates_0 17 rfl rfl)
theorem dX3_allPlates_18 : decode cX3_allPlates 18 = .ok (.iconst 1, 1) := dk_4 (dk_at dksX3_allPlates_0 18 rfl rfl)
theorem dX3_allPlates_19 : decode cX3_allPlates 19 = .ok (.invokevirtual 102, 3) := dk_182 0 102 (dk_at dksX3_allPlates_0 19 rfl rfl)
theorem dX3_allPlates_22 : decode cX3_allPlates 22 = .ok (.iload_n 1, 1) := dk_27 (dk_at dksX3_allPlates_0 22 rfl rfl)
theorem dX3_allPlates_23 : decode cX3_allPlates 23 = .ok (.if_icmp .lt 12, 3) := dk_161 0 12 (dk_at dksX3_allPlates_1 0 rfl rfl)
theorem dX3_allPlates_26 : decode cX3_allPlates 26 = .ok (.aload_n 0, 1) := dk_42 (dk_at dksX3_allPlates_1 3 rfl rfl)
theorem dX3_allPlates_27 : decode cX3_allPlates 27 = .ok (.iload_n 3, 1) := dk_29 (dk_at dksX3_allPlates_1 4 rfl rfl)
theorem dX3_allPlates_28 : decode cX3_allPlates 28 = .ok (.iconst 0, 1) := dk_3 (dk_at dksX3_allPlates_1 5 rfl rfl)
theorem dX3_allPlates_29 : decode cX3_allPlates 29 = .ok (.invokevirtual 102, 3) := dk_182 0 102 (dk_at dksX3_allPlates_1 6 rfl rfl)
theorem dX3_allPlates_32 : decode cX3_allPlates 32 = .ok (.goto 4, 3) := dk_167 0 4 (dk_at dksX3_allPlates_1 9 rfl rfl)
theorem dX3_allPlates_35 : decode cX3_allPlates 35 = .ok (.iconst 0, 1) := dk_3 (dk_at dksX3_allPlates_1 12 rfl rfl)
theorem dX3_allPlates_36 : decode cX3_allPlates 36 = .ok (.iadd, 1) := dk_96 (dk_at dksX3_allPlates_1 13 rfl rfl)
theorem dX3_allPlates_37 : decode cX3_allPlates 37 = .ok (.istore_n 2, 1) := dk_61 (dk_at dksX3_allPlates_1 14 rfl rfl)
theorem dX3_allPlates_38 : decode cX3_allPlates 38 = .ok (.iinc 3 1, 3) := dk_132 3 1 (dk_at dksX3_allPlates_1 15 rfl rfl)
theorem dX3_allPlates_41 : decode cX3_allPlates 41 = .ok (.goto (-37), 3) := dk_167 255 219 (dk_at dksX3_allPlates_1 18 rfl rfl)
theorem dX3_allPlates_44 : decode cX3_allPlates 44 = .ok (.iload_n 2, 1) := dk_28 (dk_at dksX3_allPlates_1 21 rfl rfl)
theorem dX3_allPlates_45 : decode cX3_allPlates 45 = .ok (.ireturn, 1) := dk_172 (dk_at dksX3_allPlates_1 22 rfl rfl)
abbrev cX3_packed : ByteArray := prog_24_method_60_code
def yX3_packed : MethodName := ⟨RX3, "packed", "()I"⟩
def dkwX3_packed_1 : List UInt8 := [132, 2, 1, 167, 255, 233, 27, 172]
abbrev dktX3_packed_1 : List UInt8 := dkwX3_packed_1 ++ []
def dkwX3_packed_0 : List UInt8 := [3, 60, 3, 61, 28, 42, 180, 0, 7, 16, 100, 46, 162, 0, 18, 27, 42, 28, 4, 182, 0, 124, 96, 60]
abbrev dktX3_packed_0 : List UInt8 := dkwX3_packed_0 ++ dktX3_packed_1
theorem dksX3_packed_0 : cX3_packed.data.toList.drop 0 = dktX3_packed_0 := by decide +kernel
theorem dksX3_packed_1 : cX3_packed.data.toList.drop 24 = dktX3_packed_1 := dk_seg dksX3_packed_0 24 rfl rfl
theorem dX3_packed_0 : decode cX3_packed 0 = .ok (.iconst 0, 1) := dk_3 (dk_at dksX3_packed_0 0 rfl rfl)
theorem dX3_packed_1 : decode cX3_packed 1 = .ok (.istore_n 1, 1) := dk_60 (dk_at dksX3_packed_0 1 rfl rfl)
theorem dX3_packed_2 : decode cX3_packed 2 = .ok (.iconst 0, 1) := dk_3 (dk_at dksX3_packed_0 2 rfl rfl)
theorem dX3_packed_3 : decode cX3_packed 3 = .ok (.istore_n 2, 1) := dk_61 (dk_at dksX3_packed_0 3 rfl rfl)
theorem dX3_packed_4 : decode cX3_packed 4 = .ok (.iload_n 2, 1) := dk_28 (dk_at dksX3_packed_0 4 rfl rfl)
theorem dX3_packed_5 : decode cX3_packed 5 = .ok (.aload_n 0, 1) := dk_42 (dk_at dksX3_packed_0 5 rfl rfl)
theorem dX3_packed_6 : decode cX3_packed 6 = .ok (.getfield 7, 3) := dk_180 0 7 (dk_at dksX3_packed_0 6 rfl rfl)
theorem dX3_packed_9 : decode cX3_packed 9 = .ok (.bipush 100, 2) := dk_16 100 (dk_at dksX3_packed_0 9 rfl rfl)
theorem dX3_packed_11 : decode cX3_packed 11 = .ok (.iaload, 1) := dk_46 (dk_at dksX3_packed_0 11 rfl rfl)
theorem dX3_packed_12 : decode cX3_packed 12 = .ok (.if_icmp .ge 18, 3) := dk_162 0 18 (dk_at dksX3_packed_0 12 rfl rfl)
theorem dX3_packed_15 : decode cX3_packed 15 = .ok (.iload_n 1, 1) := dk_27 (dk_at dksX3_packed_0 15 rfl rfl)
theorem dX3_packed_16 : decode cX3_packed 16 = .ok (.aload_n 0, 1) := dk_42 (dk_at dksX3_packed_0 16 rfl rfl)
theorem dX3_packed_17 : decode cX3_packed 17 = .ok (.iload_n 2, 1) := dk_28 (dk_at dksX3_packed_0 17 rfl rfl)
theorem dX3_packed_18 : decode cX3_packed 18 = .ok (.iconst 1, 1) := dk_4 (dk_at dksX3_packed_0 18 rfl rfl)
theorem dX3_packed_19 : decode cX3_packed 19 = .ok (.invokevirtual 124, 3) := dk_182 0 124 (dk_at dksX3_packed_0 19 rfl rfl)
theorem dX3_packed_22 : decode cX3_packed 22 = .ok (.iadd, 1) := dk_96 (dk_at dksX3_packed_0 22 rfl rfl)
theorem dX3_packed_23 : decode cX3_packed 23 = .ok (.istore_n 1, 1) := dk_60 (dk_at dksX3_packed_0 23 rfl rfl)
theorem dX3_packed_24 : decode cX3_packed 24 = .ok (.iinc 2 1, 3) := dk_132 2 1 (dk_at dksX3_packed_1 0 rfl rfl)
theorem dX3_packed_27 : decode cX3_packed 27 = .ok (.goto (-23), 3) := dk_167 255 233 (dk_at dksX3_packed_1 3 rfl rfl)
theorem dX3_packed_30 : decode cX3_packed 30 = .ok (.iload_n 1, 1) := dk_27 (dk_at dksX3_packed_1 6 rfl rfl)
theorem dX3_packed_31 : decode cX3_packed 31 = .ok (.ireturn, 1) := dk_172 (dk_at dksX3_packed_1 7 rfl rfl)
abbrev cX3_burning : ByteArray := prog_24_method_61_code
def yX3_burning : MethodName := ⟨RX3, "burning", "()I"⟩
def dkwX3_burning_1 : List UInt8 := [155, 0, 7, 4, 167, 0, 4, 3, 96, 60, 132, 2, 1, 167, 255, 225, 27, 172]
abbrev dktX3_burning_1 : List UInt8 := dkwX3_burning_1 ++ []
def dkwX3_burning_0 : List UInt8 := [3, 60, 3, 61, 28, 42, 180, 0, 7, 16, 87, 46, 162, 0, 26, 27, 42, 28, 4, 182, 0, 109]
abbrev dktX3_burning_0 : List UInt8 := dkwX3_burning_0 ++ dktX3_burning_1
theorem dksX3_burning_0 : cX3_burning.data.toList.drop 0 = dktX3_burning_0 := by decide +kernel
theorem dksX3_burning_1 : cX3_burning.data.toList.drop 22 = dktX3_burning_1 := dk_seg dksX3_burning_0 22 rfl rfl
theorem dX3_burning_0 : decode cX3_burning 0 = .ok (.iconst 0, 1) := dk_3 (dk_at dksX3_burning_0 0 rfl rfl)
theorem dX3_burning_1 : decode cX3_burning 1 = .ok (.istore_n 1, 1) := dk_60 (dk_at dksX3_burning_0 1 rfl rfl)
theorem dX3_burning_2 : decode cX3_burning 2 = .ok (.iconst 0, 1) := dk_3 (dk_at dksX3_burning_0 2 rfl rfl)
theorem dX3_burning_3 : decode cX3_burning 3 = .ok (.istore_n 2, 1) := dk_61 (dk_at dksX3_burning_0 3 rfl rfl)
theorem dX3_burning_4 : decode cX3_burning 4 = .ok (.iload_n 2, 1) := dk_28 (dk_at dksX3_burning_0 4 rfl rfl)
theorem dX3_burning_5 : decode cX3_burning 5 = .ok (.aload_n 0, 1) := dk_42 (dk_at dksX3_burning_0 5 rfl rfl)
theorem dX3_burning_6 : decode cX3_burning 6 = .ok (.getfield 7, 3) := dk_180 0 7 (dk_at dksX3_burning_0 6 rfl rfl)
theorem dX3_burning_9 : decode cX3_burning 9 = .ok (.bipush 87, 2) := dk_16 87 (dk_at dksX3_burning_0 9 rfl rfl)
theorem dX3_burning_11 : decode cX3_burning 11 = .ok (.iaload, 1) := dk_46 (dk_at dksX3_burning_0 11 rfl rfl)
theorem dX3_burning_12 : decode cX3_burning 12 = .ok (.if_icmp .ge 26, 3) := dk_162 0 26 (dk_at dksX3_burning_0 12 rfl rfl)
theorem dX3_burning_15 : decode cX3_burning 15 = .ok (.iload_n 1, 1) := dk_27 (dk_at dksX3_burning_0 15 rfl rfl)
theorem dX3_burning_16 : decode cX3_burning 16 = .ok (.aload_n 0, 1) := dk_42 (dk_at dksX3_burning_0 16 rfl rfl)
theorem dX3_burning_17 : decode cX3_burning 17 = .ok (.iload_n 2, 1) := dk_28 (dk_at dksX3_burning_0 17 rfl rfl)
theorem dX3_burning_18 : decode cX3_burning 18 = .ok (.iconst 1, 1) := dk_4 (dk_at dksX3_burning_0 18 rfl rfl)
theorem dX3_burning_19 : decode cX3_burning 19 = .ok (.invokevirtual 109, 3) := dk_182 0 109 (dk_at dksX3_burning_0 19 rfl rfl)
theorem dX3_burning_22 : decode cX3_burning 22 = .ok (.ifCond .lt 7, 3) := dk_155 0 7 (dk_at dksX3_burning_1 0 rfl rfl)
theorem dX3_burning_25 : decode cX3_burning 25 = .ok (.iconst 1, 1) := dk_4 (dk_at dksX3_burning_1 3 rfl rfl)
theorem dX3_burning_26 : decode cX3_burning 26 = .ok (.goto 4, 3) := dk_167 0 4 (dk_at dksX3_burning_1 4 rfl rfl)
theorem dX3_burning_29 : decode cX3_burning 29 = .ok (.iconst 0, 1) := dk_3 (dk_at dksX3_burning_1 7 rfl rfl)
theorem dX3_burning_30 : decode cX3_burning 30 = .ok (.iadd, 1) := dk_96 (dk_at dksX3_burning_1 8 rfl rfl)
theorem dX3_burning_31 : decode cX3_burning 31 = .ok (.istore_n 1, 1) := dk_60 (dk_at dksX3_burning_1 9 rfl rfl)
theorem dX3_burning_32 : decode cX3_burning 32 = .ok (.iinc 2 1, 3) := dk_132 2 1 (dk_at dksX3_burning_1 10 rfl rfl)
theorem dX3_burning_35 : decode cX3_burning 35 = .ok (.goto (-31), 3) := dk_167 255 225 (dk_at dksX3_burning_1 13 rfl rfl)
theorem dX3_burning_38 : decode cX3_burning 38 = .ok (.iload_n 1, 1) := dk_27 (dk_at dksX3_burning_1 16 rfl rfl)
theorem dX3_burning_39 : decode cX3_burning 39 = .ok (.ireturn, 1) := dk_172 (dk_at dksX3_burning_1 17 rfl rfl)
abbrev cX3_platesAgain : ByteArray := prog_24_method_63_code
def yX3_platesAgain : MethodName := ⟨RX3, "platesAgain", "()I"⟩
def dkwX3_platesAgain_1 : List UInt8 := [180, 0, 7, 16, 6, 46, 100, 42, 180, 0, 7, 16, 7, 46, 100, 172]
abbrev dktX3_platesAgain_1 : List UInt8 := dkwX3_platesAgain_1 ++ []
def dkwX3_platesAgain_0 : List UInt8 := [42, 3, 181, 0, 45, 42, 180, 0, 7, 7, 46, 42, 182, 0, 183, 100, 42, 180, 0, 7, 8, 46, 100, 42]
abbrev dktX3_platesAgain_0 : List UInt8 := dkwX3_platesAgain_0 ++ dktX3_platesAgain_1
theorem dksX3_platesAgain_0 : cX3_platesAgain.data.toList.drop 0 = dktX3_platesAgain_0 := by decide +kernel
theorem dksX3_platesAgain_1 : cX3_platesAgain.data.toList.drop 24 = dktX3_platesAgain_1 := dk_seg dksX3_platesAgain_0 24 rfl rfl
theorem dX3_platesAgain_0 : decode cX3_platesAgain 0 = .ok (.aload_n 0, 1) := dk_42 (dk_at dksX3_platesAgain_0 0 rfl rfl)
theorem dX3_platesAgain_1 : decode cX3_platesAgain 1 = .ok (.iconst 0, 1) := dk_3 (dk_at dksX3_platesAgain_0 1 rfl rfl)
theorem dX3_platesAgain_2 : decode cX3_platesAgain 2 = .ok (.putfield 45, 3) := dk_181 0 45 (dk_at dksX3_platesAgain_0 2 rfl rfl)
theorem dX3_platesAgain_5 : decode cX3_platesAgain 5 = .ok (.aload_n 0, 1) := dk_42 (dk_at dksX3_platesAgain_0 5 rfl rfl)
theorem dX3_platesAgain_6 : decode cX3_platesAgain 6 = .ok (.getfield 7, 3) := dk_180 0 7 (dk_at dksX3_platesAgain_0 6 rfl rfl)
theorem dX3_platesAgain_9 : decode cX3_platesAgain 9 = .ok (.iconst 4, 1) := dk_7 (dk_at dksX3_platesAgain_0 9 rfl rfl)
theorem dX3_platesAgain_10 : decode cX3_platesAgain 10 = .ok (.iaload, 1) := dk_46 (dk_at dksX3_platesAgain_0 10 rfl rfl)
theorem dX3_platesAgain_11 : decode cX3_platesAgain 11 = .ok (.aload_n 0, 1) := dk_42 (dk_at dksX3_platesAgain_0 11 rfl rfl)
theorem dX3_platesAgain_12 : decode cX3_platesAgain 12 = .ok (.invokevirtual 183, 3) := dk_182 0 183 (dk_at dksX3_platesAgain_0 12 rfl rfl)
theorem dX3_platesAgain_15 : decode cX3_platesAgain 15 = .ok (.isub, 1) := dk_100 (dk_at dksX3_platesAgain_0 15 rfl rfl)
theorem dX3_platesAgain_16 : decode cX3_platesAgain 16 = .ok (.aload_n 0, 1) := dk_42 (dk_at dksX3_platesAgain_0 16 rfl rfl)
theorem dX3_platesAgain_17 : decode cX3_platesAgain 17 = .ok (.getfield 7, 3) := dk_180 0 7 (dk_at dksX3_platesAgain_0 17 rfl rfl)
theorem dX3_platesAgain_20 : decode cX3_platesAgain 20 = .ok (.iconst 5, 1) := dk_8 (dk_at dksX3_platesAgain_0 20 rfl rfl)
theorem dX3_platesAgain_21 : decode cX3_platesAgain 21 = .ok (.iaload, 1) := dk_46 (dk_at dksX3_platesAgain_0 21 rfl rfl)
theorem dX3_platesAgain_22 : decode cX3_platesAgain 22 = .ok (.isub, 1) := dk_100 (dk_at dksX3_platesAgain_0 22 rfl rfl)
theorem dX3_platesAgain_23 : decode cX3_platesAgain 23 = .ok (.aload_n 0, 1) := dk_42 (dk_at dksX3_platesAgain_0 23 rfl rfl)
theorem dX3_platesAgain_24 : decode cX3_platesAgain 24 = .ok (.getfield 7, 3) := dk_180 0 7 (dk_at dksX3_platesAgain_1 0 rfl rfl)
theorem dX3_platesAgain_27 : decode cX3_platesAgain 27 = .ok (.bipush 6, 2) := dk_16 6 (dk_at dksX3_platesAgain_1 3 rfl rfl)
theorem dX3_platesAgain_29 : decode cX3_platesAgain 29 = .ok (.iaload, 1) := dk_46 (dk_at dksX3_platesAgain_1 5 rfl rfl)
theorem dX3_platesAgain_30 : decode cX3_platesAgain 30 = .ok (.isub, 1) := dk_100 (dk_at dksX3_platesAgain_1 6 rfl rfl)
theorem dX3_platesAgain_31 : decode cX3_platesAgain 31 = .ok (.aload_n 0, 1) := dk_42 (dk_at dksX3_platesAgain_1 7 rfl rfl)
theorem dX3_platesAgain_32 : decode cX3_platesAgain 32 = .ok (.getfield 7, 3) := dk_180 0 7 (dk_at dksX3_platesAgain_1 8 rfl rfl)
theorem dX3_platesAgain_35 : decode cX3_platesAgain 35 = .ok (.bipush 7, 2) := dk_16 7 (dk_at dksX3_platesAgain_1 11 rfl rfl)
theorem dX3_platesAgain_37 : decode cX3_platesAgain 37 = .ok (.iaload, 1) := dk_46 (dk_at dksX3_platesAgain_1 13 rfl rfl)
theorem dX3_platesAgain_38 : decode cX3_platesAgain 38 = .ok (.isub, 1) := dk_100 (dk_at dksX3_platesAgain_1 14 rfl rfl)
theorem dX3_platesAgain_39 : decode cX3_platesAgain 39 = .ok (.ireturn, 1) := dk_172 (dk_at dksX3_platesAgain_1 15 rfl rfl)
abbrev cX3_meanWell : ByteArray := prog_24_method_64_code
def yX3_meanWell : MethodName := ⟨RX3, "meanWell", "()D"⟩
def dkwX3_meanWell_3 : List UInt8 := [111, 175]
abbrev dktX3_meanWell_3 : List UInt8 := dkwX3_meanWell_3 ++ []
def dkwX3_meanWell_2 : List UInt8 := [42, 27, 154, 0, 7, 4, 167, 0, 4, 3, 182, 0, 66, 153, 0, 7, 14, 167, 0, 8, 28, 135, 27, 135]
abbrev dktX3_meanWell_2 : List UInt8 := dkwX3_meanWell_2 ++ dktX3_meanWell_3
def dkwX3_meanWell_1 : List UInt8 := [154, 0, 6, 167, 0, 15, 132, 1, 1, 28, 42, 29, 5, 182, 0, 102, 96, 61, 132, 3, 1, 167, 255, 218]
abbrev dktX3_meanWell_1 : List UInt8 := dkwX3_meanWell_1 ++ dktX3_meanWell_2
def dkwX3_meanWell_0 : List UInt8 := [3, 60, 3, 61, 3, 62, 29, 42, 180, 0, 7, 16, 26, 46, 162, 0, 33, 42, 29, 4, 182, 0, 102]
abbrev dktX3_meanWell_0 : List UInt8 := dkwX3_meanWell_0 ++ dktX3_meanWell_1
theorem dksX3_meanWell_0 : cX3_meanWell.data.toList.drop 0 = dktX3_meanWell_0 := by decide +kernel
theorem dksX3_meanWell_1 : cX3_meanWell.data.toList.drop 23 = dktX3_meanWell_1 := dk_seg dksX3_meanWell_0 23 rfl rfl
theorem dksX3_meanWell_2 : cX3_meanWell.data.toList.drop 47 = dktX3_meanWell_2 := dk_seg dksX3_meanWell_1 24 rfl rfl
theorem dksX3_meanWell_3 : cX3_meanWell.data.toList.drop 71 = dktX3_meanWell_3 := dk_seg dksX3_meanWell_2 24 rfl rfl
theorem dX3_meanWell_0 : decode cX3_meanWell 0 = .ok (.iconst 0, 1) := dk_3 (dk_at dksX3_meanWell_0 0 rfl rfl)
theorem dX3_meanWell_1 : decode cX3_meanWell 1 = .ok (.istore_n 1, 1) := dk_60 (dk_at dksX3_meanWell_0 1 rfl rfl)
theorem dX3_meanWell_2 : decode cX3_meanWell 2 = .ok (.iconst 0, 1) := dk_3 (dk_at dksX3_meanWell_0 2 rfl rfl)
theorem dX3_meanWell_3 : decode cX3_meanWell 3 = .ok (.istore_n 2, 1) := dk_61 (dk_at dksX3_meanWell_0 3 rfl rfl)
theorem dX3_meanWell_4 : decode cX3_meanWell 4 = .ok (.iconst 0, 1) := dk_3 (dk_at dksX3_meanWell_0 4 rfl rfl)
theorem dX3_meanWell_5 : decode cX3_meanWell 5 = .ok (.istore_n 3, 1) := dk_62 (dk_at dksX3_meanWell_0 5 rfl rfl)
theorem dX3_meanWell_6 : decode cX3_meanWell 6 = .ok (.iload_n 3, 1) := dk_29 (dk_at dksX3_meanWell_0 6 rfl rfl)
theorem dX3_meanWell_7 : decode cX3_meanWell 7 = .ok (.aload_n 0, 1) := dk_42 (dk_at dksX3_meanWell_0 7 rfl rfl)
theorem dX3_meanWell_8 : decode cX3_meanWell 8 = .ok (.getfield 7, 3) := dk_180 0 7 (dk_at dksX3_meanWell_0 8 rfl rfl)
theorem dX3_meanWell_11 : decode cX3_meanWell 11 = .ok (.bipush 26, 2) := dk_16 26 (dk_at dksX3_meanWell_0 11 rfl rfl)
theorem dX3_meanWell_13 : decode cX3_meanWell 13 = .ok (.iaload, 1) := dk_46 (dk_at dksX3_meanWell_0 13 rfl rfl)
theorem dX3_meanWell_14 : decode cX3_meanWell 14 = .ok (.if_icmp .ge 33, 3) := dk_162 0 33 (dk_at dksX3_meanWell_0 14 rfl rfl)
theorem dX3_meanWell_17 : decode cX3_meanWell 17 = .ok (.aload_n 0, 1) := dk_42 (dk_at dksX3_meanWell_0 17 rfl rfl)
theorem dX3_meanWell_18 : decode cX3_meanWell 18 = .ok (.iload_n 3, 1) := dk_29 (dk_at dksX3_meanWell_0 18 rfl rfl)
theorem dX3_meanWell_19 : decode cX3_meanWell 19 = .ok (.iconst 1, 1) := dk_4 (dk_at dksX3_meanWell_0 19 rfl rfl)
theorem dX3_meanWell_20 : decode cX3_meanWell 20 = .ok (.invokevirtual 102, 3) := dk_182 0 102 (dk_at dksX3_meanWell_0 20 rfl rfl)
theorem dX3_meanWell_23 : decode cX3_meanWell 23 = .ok (.ifCond .ne 6, 3) := dk_154 0 6 (dk_at dksX3_meanWell_1 0 rfl rfl)
theorem dX3_meanWell_26 : decode cX3_meanWell 26 = .ok (.goto 15, 3) := dk_167 0 15 (dk_at dksX3_meanWell_1 3 rfl rfl)
theorem dX3_meanWell_29 : decode cX3_meanWell 29 = .ok (.iinc 1 1, 3) := dk_132 1 1 (dk_at dksX3_meanWell_1 6 rfl rfl)
theorem dX3_meanWell_32 : decode cX3_meanWell 32 = .ok (.iload_n 2, 1) := dk_28 (dk_at dksX3_meanWell_1 9 rfl rfl)
theorem dX3_meanWell_33 : decode cX3_meanWell 33 = .ok (.aload_n 0, 1) := dk_42 (dk_at dksX3_meanWell_1 10 rfl rfl)
theorem dX3_meanWell_34 : decode cX3_meanWell 34 = .ok (.iload_n 3, 1) := dk_29 (dk_at dksX3_meanWell_1 11 rfl rfl)
theorem dX3_meanWell_35 : decode cX3_meanWell 35 = .ok (.iconst 2, 1) := dk_5 (dk_at dksX3_meanWell_1 12 rfl rfl)
theorem dX3_meanWell_36 : decode cX3_meanWell 36 = .ok (.invokevirtual 102, 3) := dk_182 0 102 (dk_at dksX3_meanWell_1 13 rfl rfl)
theorem dX3_meanWell_39 : decode cX3_meanWell 39 = .ok (.iadd, 1) := dk_96 (dk_at dksX3_meanWell_1 16 rfl rfl)
theorem dX3_meanWell_40 : decode cX3_meanWell 40 = .ok (.istore_n 2, 1) := dk_61 (dk_at dksX3_meanWell_1 17 rfl rfl)
theorem dX3_meanWell_41 : decode cX3_meanWell 41 = .ok (.iinc 3 1, 3) := dk_132 3 1 (dk_at dksX3_meanWell_1 18 rfl rfl)
theorem dX3_meanWell_44 : decode cX3_meanWell 44 = .ok (.goto (-38), 3) := dk_167 255 218 (dk_at dksX3_meanWell_1 21 rfl rfl)
theorem dX3_meanWell_47 : decode cX3_meanWell 47 = .ok (.aload_n 0, 1) := dk_42 (dk_at dksX3_meanWell_2 0 rfl rfl)
theorem dX3_meanWell_48 : decode cX3_meanWell 48 = .ok (.iload_n 1, 1) := dk_27 (dk_at dksX3_meanWell_2 1 rfl rfl)
theorem dX3_meanWell_49 : decode cX3_meanWell 49 = .ok (.ifCond .ne 7, 3) := dk_154 0 7 (dk_at dksX3_meanWell_2 2 rfl rfl)
theorem dX3_meanWell_52 : decode cX3_meanWell 52 = .ok (.iconst 1, 1) := dk_4 (dk_at dksX3_meanWell_2 5 rfl rfl)
theorem dX3_meanWell_53 : decode cX3_meanWell 53 = .ok (.goto 4, 3) := dk_167 0 4 (dk_at dksX3_meanWell_2 6 rfl rfl)
theorem dX3_meanWell_56 : decode cX3_meanWell 56 = .ok (.iconst 0, 1) := dk_3 (dk_at dksX3_meanWell_2 9 rfl rfl)
theorem dX3_meanWell_57 : decode cX3_meanWell 57 = .ok (.invokevirtual 66, 3) := dk_182 0 66 (dk_at dksX3_meanWell_2 10 rfl rfl)
theorem dX3_meanWell_60 : decode cX3_meanWell 60 = .ok (.ifCond .eq 7, 3) := dk_153 0 7 (dk_at dksX3_meanWell_2 13 rfl rfl)
theorem dX3_meanWell_63 : decode cX3_meanWell 63 = .ok (.dconst 0, 1) := dk_14 (dk_at dksX3_meanWell_2 16 rfl rfl)
theorem dX3_meanWell_64 : decode cX3_meanWell 64 = .ok (.goto 8, 3) := dk_167 0 8 (dk_at dksX3_meanWell_2 17 rfl rfl)
theorem dX3_meanWell_67 : decode cX3_meanWell 67 = .ok (.iload_n 2, 1) := dk_28 (dk_at dksX3_meanWell_2 20 rfl rfl)
theorem dX3_meanWell_68 : decode cX3_meanWell 68 = .ok (.i2d, 1) := dk_135 (dk_at dksX3_meanWell_2 21 rfl rfl)
theorem dX3_meanWell_69 : decode cX3_meanWell 69 = .ok (.iload_n 1, 1) := dk_27 (dk_at dksX3_meanWell_2 22 rfl rfl)
theorem dX3_meanWell_70 : decode cX3_meanWell 70 = .ok (.i2d, 1) := dk_135 (dk_at dksX3_meanWell_2 23 rfl rfl)
theorem dX3_meanWell_71 : decode cX3_meanWell 71 = .ok (.ddiv, 1) := dk_111 (dk_at dksX3_meanWell_3 0 rfl rfl)
theorem dX3_meanWell_72 : decode cX3_meanWell 72 = .ok (.dreturn, 1) := dk_175 (dk_at dksX3_meanWell_3 1 rfl rfl)
abbrev cX3_secondShare : ByteArray := prog_24_method_65_code
def yX3_secondShare : MethodName := ⟨RX3, "secondShare", "()F"⟩
def dkwX3_secondShare_2 : List UInt8 := [46, 134, 110, 174]
abbrev dktX3_secondShare_2 : List UInt8 := dkwX3_secondShare_2 ++ []
def dkwX3_secondShare_1 : List UInt8 := [167, 0, 27, 42, 180, 0, 7, 16, 6, 46, 42, 180, 0, 7, 16, 7, 46, 96, 134, 42, 180, 0, 7, 7]
abbrev dktX3_secondShare_1 : List UInt8 := dkwX3_secondShare_1 ++ dktX3_secondShare_2
def dkwX3_secondShare_0 : List UInt8 := [42, 42, 180, 0, 7, 7, 46, 154, 0, 7, 4, 167, 0, 4, 3, 182, 0, 66, 153, 0, 7, 11]
abbrev dktX3_secondShare_0 : List UInt8 := dkwX3_secondShare_0 ++ dktX3_secondShare_1
theorem dksX3_secondShare_0 : cX3_secondShare.data.toList.drop 0 = dktX3_secondShare_0 := by decide +kernel
theorem dksX3_secondShare_1 : cX3_secondShare.data.toList.drop 22 = dktX3_secondShare_1 := dk_seg dksX3_secondShare_0 22 rfl rfl
theorem dksX3_secondShare_2 : cX3_secondShare.data.toList.drop 46 = dktX3_secondShare_2 := dk_seg dksX3_secondShare_1 24 rfl rfl
theorem dX3_secondShare_0 : decode cX3_secondShare 0 = .ok (.aload_n 0, 1) := dk_42 (dk_at dksX3_secondShare_0 0 rfl rfl)
theorem dX3_secondShare_1 : decode cX3_secondShare 1 = .ok (.aload_n 0, 1) := dk_42 (dk_at dksX3_secondShare_0 1 rfl rfl)
theorem dX3_secondShare_2 : decode cX3_secondShare 2 = .ok (.getfield 7, 3) := dk_180 0 7 (dk_at dksX3_secondShare_0 2 rfl rfl)
theorem dX3_secondShare_5 : decode cX3_secondShare 5 = .ok (.iconst 4, 1) := dk_7 (dk_at dksX3_secondShare_0 5 rfl rfl)
theorem dX3_secondShare_6 : decode cX3_secondShare 6 = .ok (.iaload, 1) := dk_46 (dk_at dksX3_secondShare_0 6 rfl rfl)
theorem dX3_secondShare_7 : decode cX3_secondShare 7 = .ok (.ifCond .ne 7, 3) := dk_154 0 7 (dk_at dksX3_secondShare_0 7 rfl rfl)
theorem dX3_secondShare_10 : decode cX3_secondShare 10 = .ok (.iconst 1, 1) := dk_4 (dk_at dksX3_secondShare_0 10 rfl rfl)
theorem dX3_secondShare_11 : decode cX3_secondShare 11 = .ok (.goto 4, 3) := dk_167 0 4 (dk_at dksX3_secondShare_0 11 rfl rfl)
theorem dX3_secondShare_14 : decode cX3_secondShare 14 = .ok (.iconst 0, 1) := dk_3 (dk_at dksX3_secondShare_0 14 rfl rfl)
theorem dX3_secondShare_15 : decode cX3_secondShare 15 = .ok (.invokevirtual 66, 3) := dk_182 0 66 (dk_at dksX3_secondShare_0 15 rfl rfl)
theorem dX3_secondShare_18 : decode cX3_secondShare 18 = .ok (.ifCond .eq 7, 3) := dk_153 0 7 (dk_at dksX3_secondShare_0 18 rfl rfl)
theorem dX3_secondShare_21 : decode cX3_secondShare 21 = .ok (.fconst 0, 1) := dk_11 (dk_at dksX3_secondShare_0 21 rfl rfl)
theorem dX3_secondShare_22 : decode cX3_secondShare 22 = .ok (.goto 27, 3) := dk_167 0 27 (dk_at dksX3_secondShare_1 0 rfl rfl)
theorem dX3_secondShare_25 : decode cX3_secondShare 25 = .ok (.aload_n 0, 1) := dk_42 (dk_at dksX3_secondShare_1 3 rfl rfl)
theorem dX3_secondShare_26 : decode cX3_secondShare 26 = .ok (.getfield 7, 3) := dk_180 0 7 (dk_at dksX3_secondShare_1 4 rfl rfl)
theorem dX3_secondShare_29 : decode cX3_secondShare 29 = .ok (.bipush 6, 2) := dk_16 6 (dk_at dksX3_secondShare_1 7 rfl rfl)
theorem dX3_secondShare_31 : decode cX3_secondShare 31 = .ok (.iaload, 1) := dk_46 (dk_at dksX3_secondShare_1 9 rfl rfl)
theorem dX3_secondShare_32 : decode cX3_secondShare 32 = .ok (.aload_n 0, 1) := dk_42 (dk_at dksX3_secondShare_1 10 rfl rfl)
theorem dX3_secondShare_33 : decode cX3_secondShare 33 = .ok (.getfield 7, 3) := dk_180 0 7 (dk_at dksX3_secondShare_1 11 rfl rfl)
theorem dX3_secondShare_36 : decode cX3_secondShare 36 = .ok (.bipush 7, 2) := dk_16 7 (dk_at dksX3_secondShare_1 14 rfl rfl)
theorem dX3_secondShare_38 : decode cX3_secondShare 38 = .ok (.iaload, 1) := dk_46 (dk_at dksX3_secondShare_1 16 rfl rfl)
theorem dX3_secondShare_39 : decode cX3_secondShare 39 = .ok (.iadd, 1) := dk_96 (dk_at dksX3_secondShare_1 17 rfl rfl)
theorem dX3_secondShare_40 : decode cX3_secondShare 40 = .ok (.i2f, 1) := dk_134 (dk_at dksX3_secondShare_1 18 rfl rfl)
theorem dX3_secondShare_41 : decode cX3_secondShare 41 = .ok (.aload_n 0, 1) := dk_42 (dk_at dksX3_secondShare_1 19 rfl rfl)
theorem dX3_secondShare_42 : decode cX3_secondShare 42 = .ok (.getfield 7, 3) := dk_180 0 7 (dk_at dksX3_secondShare_1 20 rfl rfl)
theorem dX3_secondShare_45 : decode cX3_secondShare 45 = .ok (.iconst 4, 1) := dk_7 (dk_at dksX3_secondShare_1 23 rfl rfl)
theorem dX3_secondShare_46 : decode cX3_secondShare 46 = .ok (.iaload, 1) := dk_46 (dk_at dksX3_secondShare_2 0 rfl rfl)
theorem dX3_secondShare_47 : decode cX3_secondShare 47 = .ok (.i2f, 1) := dk_134 (dk_at dksX3_secondShare_2 1 rfl rfl)
theorem dX3_secondShare_48 : decode cX3_secondShare 48 = .ok (.fdiv, 1) := dk_110 (dk_at dksX3_secondShare_2 2 rfl rfl)
theorem dX3_secondShare_49 : decode cX3_secondShare 49 = .ok (.freturn, 1) := dk_174 (dk_at dksX3_secondShare_2 3 rfl rfl)
abbrev cX3_append : ByteArray := prog_24_method_66_code
def yX3_append : MethodName := ⟨RX3, "append", "(I)I"⟩
def dkwX3_append_6 : List UInt8 := [4, 96, 181, 0, 189, 132, 4, 248, 167, 255, 209, 42, 180, 0, 189, 172]
abbrev dktX3_append_6 : List UInt8 := dkwX3_append_6 ++ []
def dkwX3_append_5 : List UInt8 := [21, 5, 154, 0, 6, 167, 0, 24, 42, 180, 0, 22, 42, 180, 0, 189, 21, 5, 79, 42, 89, 180, 0, 189]
abbrev dktX3_append_5 : List UInt8 := dkwX3_append_5 ++ dktX3_append_6
def dkwX3_append_4 : List UInt8 := [153, 0, 5, 3, 172, 16, 24, 54, 4, 21, 4, 155, 0, 48, 27, 21, 4, 124, 17, 0, 255, 126, 54, 5]
abbrev dktX3_append_4 : List UInt8 := dkwX3_append_4 ++ dktX3_append_5
def dkwX3_append_3 : List UInt8 := [4, 167, 0, 19, 42, 180, 0, 189, 28, 96, 16, 60, 164, 0, 7, 5, 167, 0, 4, 3, 182, 0, 66]
abbrev dktX3_append_3 : List UInt8 := dkwX3_append_3 ++ dktX3_append_4
def dkwX3_append_2 : List UInt8 := [184, 0, 62, 153, 0, 7, 4, 167, 0, 4, 3, 126, 62, 132, 4, 248, 167, 255, 200, 42, 29, 154, 0, 7]
abbrev dktX3_append_2 : List UInt8 := dkwX3_append_2 ++ dktX3_append_3
def dkwX3_append_1 : List UInt8 := [21, 5, 154, 0, 7, 3, 167, 0, 4, 4, 96, 61, 29, 21, 5, 153, 0, 15, 21, 5, 16, 32, 16, 126]
abbrev dktX3_append_1 : List UInt8 := dkwX3_append_1 ++ dktX3_append_2
def dkwX3_append_0 : List UInt8 := [3, 61, 4, 62, 16, 24, 54, 4, 21, 4, 155, 0, 57, 27, 21, 4, 124, 17, 0, 255, 126, 54, 5, 28]
abbrev dktX3_append_0 : List UInt8 := dkwX3_append_0 ++ dktX3_append_1
theorem dksX3_append_0 : cX3_append.data.toList.drop 0 = dktX3_append_0 := by decide +kernel
theorem dksX3_append_1 : cX3_append.data.toList.drop 24 = dktX3_append_1 := dk_seg dksX3_append_0 24 rfl rfl
theorem dksX3_append_2 : cX3_append.data.toList.drop 48 = dktX3_append_2 := dk_seg dksX3_append_1 24 rfl rfl
theorem dksX3_append_3 : cX3_append.data.toList.drop 72 = dktX3_append_3 := dk_seg dksX3_append_2 24 rfl rfl
theorem dksX3_append_4 : cX3_append.data.toList.drop 95 = dktX3_append_4 := dk_seg dksX3_append_3 23 rfl rfl
theorem dksX3_append_5 : cX3_append.data.toList.drop 119 = dktX3_append_5 := dk_seg dksX3_append_4 24 rfl rfl
theorem dksX3_append_6 : cX3_append.data.toList.drop 143 = dktX3_append_6 := dk_seg dksX3_append_5 24 rfl rfl
theorem dX3_append_0 : decode cX3_append 0 = .ok (.iconst 0, 1) := dk_3 (dk_at dksX3_append_0 0 rfl rfl)
theorem dX3_append_1 : decode cX3_append 1 = .ok (.istore_n 2, 1) := dk_61 (dk_at dksX3_append_0 1 rfl rfl)
theorem dX3_append_2 : decode cX3_append 2 = .ok (.iconst 1, 1) := dk_4 (dk_at dksX3_append_0 2 rfl rfl)
theorem dX3_append_3 : decode cX3_append 3 = .ok (.istore_n 3, 1) := dk_62 (dk_at dksX3_append_0 3 rfl rfl)
theorem dX3_append_4 : decode cX3_append 4 = .ok (.bipush 24, 2) := dk_16 24 (dk_at dksX3_append_0 4 rfl rfl)
theorem dX3_append_6 : decode cX3_append 6 = .ok (.istore 4, 2) := dk_54 4 (dk_at dksX3_append_0 6 rfl rfl)
theorem dX3_append_8 : decode cX3_append 8 = .ok (.iload 4, 2) := dk_21 4 (dk_at dksX3_append_0 8 rfl rfl)
theorem dX3_append_10 : decode cX3_append 10 = .ok (.ifCond .lt 57, 3) := dk_155 0 57 (dk_at dksX3_append_0 10 rfl rfl)
theorem dX3_append_13 : decode cX3_append 13 = .ok (.iload_n 1, 1) := dk_27 (dk_at dksX3_append_0 13 rfl rfl)
theorem dX3_append_14 : decode cX3_append 14 = .ok (.iload 4, 2) := dk_21 4 (dk_at dksX3_append_0 14 rfl rfl)
theorem dX3_append_16 : decode cX3_append 16 = .ok (.iushr, 1) := dk_124 (dk_at dksX3_append_0 16 rfl rfl)
theorem dX3_append_17 : decode cX3_append 17 = .ok (.sipush 255, 3) := dk_17 0 255 (dk_at dksX3_append_0 17 rfl rfl)
theorem dX3_append_20 : decode cX3_append 20 = .ok (.iand, 1) := dk_126 (dk_at dksX3_append_0 20 rfl rfl)
theorem dX3_append_21 : decode cX3_append 21 = .ok (.istore 5, 2) := dk_54 5 (dk_at dksX3_append_0 21 rfl rfl)
theorem dX3_append_23 : decode cX3_append 23 = .ok (.iload_n 2, 1) := dk_28 (dk_at dksX3_append_0 23 rfl rfl)
theorem dX3_append_24 : decode cX3_append 24 = .ok (.iload 5, 2) := dk_21 5 (dk_at dksX3_append_1 0 rfl rfl)
theorem dX3_append_26 : decode cX3_append 26 = .ok (.ifCond .ne 7, 3) := dk_154 0 7 (dk_at dksX3_append_1 2 rfl rfl)
theorem dX3_append_29 : decode cX3_append 29 = .ok (.iconst 0, 1) := dk_3 (dk_at dksX3_append_1 5 rfl rfl)
theorem dX3_append_30 : decode cX3_append 30 = .ok (.goto 4, 3) := dk_167 0 4 (dk_at dksX3_append_1 6 rfl rfl)
theorem dX3_append_33 : decode cX3_append 33 = .ok (.iconst 1, 1) := dk_4 (dk_at dksX3_append_1 9 rfl rfl)
theorem dX3_append_34 : decode cX3_append 34 = .ok (.iadd, 1) := dk_96 (dk_at dksX3_append_1 10 rfl rfl)
theorem dX3_append_35 : decode cX3_append 35 = .ok (.istore_n 2, 1) := dk_61 (dk_at dksX3_append_1 11 rfl rfl)
theorem dX3_append_36 : decode cX3_append 36 = .ok (.iload_n 3, 1) := dk_29 (dk_at dksX3_append_1 12 rfl rfl)
theorem dX3_append_37 : decode cX3_append 37 = .ok (.iload 5, 2) := dk_21 5 (dk_at dksX3_append_1 13 rfl rfl)
theorem dX3_append_39 : decode cX3_append 39 = .ok (.ifCond .eq 15, 3) := dk_153 0 15 (dk_at dksX3_append_1 15 rfl rfl)
theorem dX3_append_42 : decode cX3_append 42 = .ok (.iload 5, 2) := dk_21 5 (dk_at dksX3_append_1 18 rfl rfl)
theorem dX3_append_44 : decode cX3_append 44 = .ok (.bipush 32, 2) := dk_16 32 (dk_at dksX3_append_1 20 rfl rfl)
theorem dX3_append_46 : decode cX3_append 46 = .ok (.bipush 126, 2) := dk_16 126 (dk_at dksX3_append_1 22 rfl rfl)
theorem dX3_append_48 : decode cX3_append 48 = .ok (.invokestatic 62, 3) := dk_184 0 62 (dk_at dksX3_append_2 0 rfl rfl)
theorem dX3_append_51 : decode cX3_append 51 = .ok (.ifCond .eq 7, 3) := dk_153 0 7 (dk_at dksX3_append_2 3 rfl rfl)
theorem dX3_append_54 : decode cX3_append 54 = .ok (.iconst 1, 1) := dk_4 (dk_at dksX3_append_2 6 rfl rfl)
theorem dX3_append_55 : decode cX3_append 55 = .ok (.goto 4, 3) := dk_167 0 4 (dk_at dksX3_append_2 7 rfl rfl)
theorem dX3_append_58 : decode cX3_append 58 = .ok (.iconst 0, 1) := dk_3 (dk_at dksX3_append_2 10 rfl rfl)
theorem dX3_append_59 : decode cX3_append 59 = .ok (.iand, 1) := dk_126 (dk_at dksX3_append_2 11 rfl rfl)
theorem dX3_append_60 : decode cX3_append 60 = .ok (.istore_n 3, 1) := dk_62 (dk_at dksX3_append_2 12 rfl rfl)
theorem dX3_append_61 : decode cX3_append 61 = .ok (.iinc 4 (-8), 3) := dk_132 4 248 (dk_at dksX3_append_2 13 rfl rfl)
theorem dX3_append_64 : decode cX3_append 64 = .ok (.goto (-56), 3) := dk_167 255 200 (dk_at dksX3_append_2 16 rfl rfl)
theorem dX3_append_67 : decode cX3_append 67 = .ok (.aload_n 0, 1) := dk_42 (dk_at dksX3_append_2 19 rfl rfl)
theorem dX3_append_68 : decode cX3_append 68 = .ok (.iload_n 3, 1) := dk_29 (dk_at dksX3_append_2 20 rfl rfl)
theorem dX3_append_69 : decode cX3_append 69 = .ok (.ifCond .ne 7, 3) := dk_154 0 7 (dk_at dksX3_append_2 21 rfl rfl)
theorem dX3_append_72 : decode cX3_append 72 = .ok (.iconst 1, 1) := dk_4 (dk_at dksX3_append_3 0 rfl rfl)
theorem dX3_append_73 : decode cX3_append 73 = .ok (.goto 19, 3) := dk_167 0 19 (dk_at dksX3_append_3 1 rfl rfl)
theorem dX3_append_76 : decode cX3_append 76 = .ok (.aload_n 0, 1) := dk_42 (dk_at dksX3_append_3 4 rfl rfl)
theorem dX3_append_77 : decode cX3_append 77 = .ok (.getfield 189, 3) := dk_180 0 189 (dk_at dksX3_append_3 5 rfl rfl)
theorem dX3_append_80 : decode cX3_append 80 = .ok (.iload_n 2, 1) := dk_28 (dk_at dksX3_append_3 8 rfl rfl)
theorem dX3_append_81 : decode cX3_append 81 = .ok (.iadd, 1) := dk_96 (dk_at dksX3_append_3 9 rfl rfl)
theorem dX3_append_82 : decode cX3_append 82 = .ok (.bipush 60, 2) := dk_16 60 (dk_at dksX3_append_3 10 rfl rfl)
theorem dX3_append_84 : decode cX3_append 84 = .ok (.if_icmp .le 7, 3) := dk_164 0 7 (dk_at dksX3_append_3 12 rfl rfl)
theorem dX3_append_87 : decode cX3_append 87 = .ok (.iconst 2, 1) := dk_5 (dk_at dksX3_append_3 15 rfl rfl)
theorem dX3_append_88 : decode cX3_append 88 = .ok (.goto 4, 3) := dk_167 0 4 (dk_at dksX3_append_3 16 rfl rfl)
theorem dX3_append_91 : decode cX3_append 91 = .ok (.iconst 0, 1) := dk_3 (dk_at dksX3_append_3 19 rfl rfl)
theorem dX3_append_92 : decode cX3_append 92 = .ok (.invokevirtual 66, 3) := dk_182 0 66 (dk_at dksX3_append_3 20 rfl rfl)
theorem dX3_append_95 : decode cX3_append 95 = .ok (.ifCond .eq 5, 3) := dk_153 0 5 (dk_at dksX3_append_4 0 rfl rfl)
theorem dX3_append_98 : decode cX3_append 98 = .ok (.iconst 0, 1) := dk_3 (dk_at dksX3_append_4 3 rfl rfl)
theorem dX3_append_99 : decode cX3_append 99 = .ok (.ireturn, 1) := dk_172 (dk_at dksX3_append_4 4 rfl rfl)
theorem dX3_append_100 : decode cX3_append 100 = .ok (.bipush 24, 2) := dk_16 24 (dk_at dksX3_append_4 5 rfl rfl)
theorem dX3_append_102 : decode cX3_append 102 = .ok (.istore 4, 2) := dk_54 4 (dk_at dksX3_append_4 7 rfl rfl)
theorem dX3_append_104 : decode cX3_append 104 = .ok (.iload 4, 2) := dk_21 4 (dk_at dksX3_append_4 9 rfl rfl)
theorem dX3_append_106 : decode cX3_append 106 = .ok (.ifCond .lt 48, 3) := dk_155 0 48 (dk_at dksX3_append_4 11 rfl rfl)
theorem dX3_append_109 : decode cX3_append 109 = .ok (.iload_n 1, 1) := dk_27 (dk_at dksX3_append_4 14 rfl rfl)
theorem dX3_append_110 : decode cX3_append 110 = .ok (.iload 4, 2) := dk_21 4 (dk_at dksX3_append_4 15 rfl rfl)
theorem dX3_append_112 : decode cX3_append 112 = .ok (.iushr, 1) := dk_124 (dk_at dksX3_append_4 17 rfl rfl)
theorem dX3_append_113 : decode cX3_append 113 = .ok (.sipush 255, 3) := dk_17 0 255 (dk_at dksX3_append_4 18 rfl rfl)
theorem dX3_append_116 : decode cX3_append 116 = .ok (.iand, 1) := dk_126 (dk_at dksX3_append_4 21 rfl rfl)
theorem dX3_append_117 : decode cX3_append 117 = .ok (.istore 5, 2) := dk_54 5 (dk_at dksX3_append_4 22 rfl rfl)
theorem dX3_append_119 : decode cX3_append 119 = .ok (.iload 5, 2) := dk_21 5 (dk_at dksX3_append_5 0 rfl rfl)
theorem dX3_append_121 : decode cX3_append 121 = .ok (.ifCond .ne 6, 3) := dk_154 0 6 (dk_at dksX3_append_5 2 rfl rfl)
theorem dX3_append_124 : decode cX3_append 124 = .ok (.goto 24, 3) := dk_167 0 24 (dk_at dksX3_append_5 5 rfl rfl)
theorem dX3_append_127 : decode cX3_append 127 = .ok (.aload_n 0, 1) := dk_42 (dk_at dksX3_append_5 8 rfl rfl)
theorem dX3_append_128 : decode cX3_append 128 = .ok (.getfield 22, 3) := dk_180 0 22 (dk_at dksX3_append_5 9 rfl rfl)
theorem dX3_append_131 : decode cX3_append 131 = .ok (.aload_n 0, 1) := dk_42 (dk_at dksX3_append_5 12 rfl rfl)
theorem dX3_append_132 : decode cX3_append 132 = .ok (.getfield 189, 3) := dk_180 0 189 (dk_at dksX3_append_5 13 rfl rfl)
theorem dX3_append_135 : decode cX3_append 135 = .ok (.iload 5, 2) := dk_21 5 (dk_at dksX3_append_5 16 rfl rfl)
theorem dX3_append_137 : decode cX3_append 137 = .ok (.iastore, 1) := dk_79 (dk_at dksX3_append_5 18 rfl rfl)
theorem dX3_append_138 : decode cX3_append 138 = .ok (.aload_n 0, 1) := dk_42 (dk_at dksX3_append_5 19 rfl rfl)
theorem dX3_append_139 : decode cX3_append 139 = .ok (.dup, 1) := dk_89 (dk_at dksX3_append_5 20 rfl rfl)
theorem dX3_append_140 : decode cX3_append 140 = .ok (.getfield 189, 3) := dk_180 0 189 (dk_at dksX3_append_5 21 rfl rfl)
theorem dX3_append_143 : decode cX3_append 143 = .ok (.iconst 1, 1) := dk_4 (dk_at dksX3_append_6 0 rfl rfl)
theorem dX3_append_144 : decode cX3_append 144 = .ok (.iadd, 1) := dk_96 (dk_at dksX3_append_6 1 rfl rfl)
theorem dX3_append_145 : decode cX3_append 145 = .ok (.putfield 189, 3) := dk_181 0 189 (dk_at dksX3_append_6 2 rfl rfl)
theorem dX3_append_148 : decode cX3_append 148 = .ok (.iinc 4 (-8), 3) := dk_132 4 248 (dk_at dksX3_append_6 5 rfl rfl)
theorem dX3_append_151 : decode cX3_append 151 = .ok (.goto (-47), 3) := dk_167 255 209 (dk_at dksX3_append_6 8 rfl rfl)
theorem dX3_append_154 : decode cX3_append 154 = .ok (.aload_n 0, 1) := dk_42 (dk_at dksX3_append_6 11 rfl rfl)
theorem dX3_append_155 : decode cX3_append 155 = .ok (.getfield 189, 3) := dk_180 0 189 (dk_at dksX3_append_6 12 rfl rfl)
theorem dX3_append_158 : decode cX3_append 158 = .ok (.ireturn, 1) := dk_172 (dk_at dksX3_append_6 15 rfl rfl)
abbrev cX3_read : ByteArray := prog_24_method_74_code
def yX3_read : MethodName := ⟨RX3, "read", "()I"⟩
def dkwX3_read_6 : List UInt8 := [180, 0, 19, 182, 0, 74, 42, 180, 0, 200, 172]
abbrev dktX3_read_6 : List UInt8 := dkwX3_read_6 ++ []
def dkwX3_read_5 : List UInt8 := [28, 4, 100, 181, 0, 29, 42, 5, 181, 0, 45, 29, 156, 0, 7, 29, 167, 0, 4, 3, 172, 42, 42]
abbrev dktX3_read_5 : List UInt8 := dkwX3_read_5 ++ dktX3_read_6
def dkwX3_read_4 : List UInt8 := [181, 0, 54, 42, 180, 0, 45, 158, 0, 38, 42, 180, 0, 19, 3, 42, 180, 0, 7, 3, 184, 0, 58, 42]
abbrev dktX3_read_4 : List UInt8 := dkwX3_read_4 ++ dktX3_read_5
def dkwX3_read_3 : List UInt8 := [42, 180, 0, 45, 154, 0, 17, 42, 7, 28, 104, 182, 0, 240, 62, 132, 2, 1, 167, 255, 230, 42, 3]
abbrev dktX3_read_3 : List UInt8 := dkwX3_read_3 ++ dktX3_read_4
def dkwX3_read_2 : List UInt8 := [180, 0, 19, 3, 184, 0, 58, 42, 4, 181, 0, 54, 3, 61, 3, 62, 28, 42, 180, 0, 200, 162, 0, 24]
abbrev dktX3_read_2 : List UInt8 := dkwX3_read_2 ++ dktX3_read_3
def dkwX3_read_1 : List UInt8 := [153, 0, 7, 3, 167, 0, 4, 4, 182, 0, 66, 153, 0, 5, 3, 172, 42, 180, 0, 7, 3, 42]
abbrev dktX3_read_1 : List UInt8 := dkwX3_read_1 ++ dktX3_read_2
def dkwX3_read_0 : List UInt8 := [42, 182, 0, 237, 60, 27, 154, 0, 11, 42, 42, 180, 0, 191, 181, 0, 25, 42, 3, 181, 0, 189, 42, 27]
abbrev dktX3_read_0 : List UInt8 := dkwX3_read_0 ++ dktX3_read_1
theorem dksX3_read_0 : cX3_read.data.toList.drop 0 = dktX3_read_0 := by decide +kernel
theorem dksX3_read_1 : cX3_read.data.toList.drop 24 = dktX3_read_1 := dk_seg dksX3_read_0 24 rfl rfl
theorem dksX3_read_2 : cX3_read.data.toList.drop 46 = dktX3_read_2 := dk_seg dksX3_read_1 22 rfl rfl
theorem dksX3_read_3 : cX3_read.data.toList.drop 70 = dktX3_read_3 := dk_seg dksX3_read_2 24 rfl rfl
theorem dksX3_read_4 : cX3_read.data.toList.drop 93 = dktX3_read_4 := dk_seg dksX3_read_3 23 rfl rfl
theorem dksX3_read_5 : cX3_read.data.toList.drop 117 = dktX3_read_5 := dk_seg dksX3_read_4 24 rfl rfl
theorem dksX3_read_6 : cX3_read.data.toList.drop 140 = dktX3_read_6 := dk_seg dksX3_read_5 23 rfl rfl
theorem dX3_read_0 : decode cX3_read 0 = .ok (.aload_n 0, 1) := dk_42 (dk_at dksX3_read_0 0 rfl rfl)
theorem dX3_read_1 : decode cX3_read 1 = .ok (.invokevirtual 237, 3) := dk_182 0 237 (dk_at dksX3_read_0 1 rfl rfl)
theorem dX3_read_4 : decode cX3_read 4 = .ok (.istore_n 1, 1) := dk_60 (dk_at dksX3_read_0 4 rfl rfl)
theorem dX3_read_5 : decode cX3_read 5 = .ok (.iload_n 1, 1) := dk_27 (dk_at dksX3_read_0 5 rfl rfl)
theorem dX3_read_6 : decode cX3_read 6 = .ok (.ifCond .ne 11, 3) := dk_154 0 11 (dk_at dksX3_read_0 6 rfl rfl)
theorem dX3_read_9 : decode cX3_read 9 = .ok (.aload_n 0, 1) := dk_42 (dk_at dksX3_read_0 9 rfl rfl)
theorem dX3_read_10 : decode cX3_read 10 = .ok (.aload_n 0, 1) := dk_42 (dk_at dksX3_read_0 10 rfl rfl)
theorem dX3_read_11 : decode cX3_read 11 = .ok (.getfield 191, 3) := dk_180 0 191 (dk_at dksX3_read_0 11 rfl rfl)
theorem dX3_read_14 : decode cX3_read 14 = .ok (.putfield 25, 3) := dk_181 0 25 (dk_at dksX3_read_0 14 rfl rfl)
theorem dX3_read_17 : decode cX3_read 17 = .ok (.aload_n 0, 1) := dk_42 (dk_at dksX3_read_0 17 rfl rfl)
theorem dX3_read_18 : decode cX3_read 18 = .ok (.iconst 0, 1) := dk_3 (dk_at dksX3_read_0 18 rfl rfl)
theorem dX3_read_19 : decode cX3_read 19 = .ok (.putfield 189, 3) := dk_181 0 189 (dk_at dksX3_read_0 19 rfl rfl)
theorem dX3_read_22 : decode cX3_read 22 = .ok (.aload_n 0, 1) := dk_42 (dk_at dksX3_read_0 22 rfl rfl)
theorem dX3_read_23 : decode cX3_read 23 = .ok (.iload_n 1, 1) := dk_27 (dk_at dksX3_read_0 23 rfl rfl)
theorem dX3_read_24 : decode cX3_read 24 = .ok (.ifCond .eq 7, 3) := dk_153 0 7 (dk_at dksX3_read_1 0 rfl rfl)
theorem dX3_read_27 : decode cX3_read 27 = .ok (.iconst 0, 1) := dk_3 (dk_at dksX3_read_1 3 rfl rfl)
theorem dX3_read_28 : decode cX3_read 28 = .ok (.goto 4, 3) := dk_167 0 4 (dk_at dksX3_read_1 4 rfl rfl)
theorem dX3_read_31 : decode cX3_read 31 = .ok (.iconst 1, 1) := dk_4 (dk_at dksX3_read_1 7 rfl rfl)
theorem dX3_read_32 : decode cX3_read 32 = .ok (.invokevirtual 66, 3) := dk_182 0 66 (dk_at dksX3_read_1 8 rfl rfl)
theorem dX3_read_35 : decode cX3_read 35 = .ok (.ifCond .eq 5, 3) := dk_153 0 5 (dk_at dksX3_read_1 11 rfl rfl)
theorem dX3_read_38 : decode cX3_read 38 = .ok (.iconst 0, 1) := dk_3 (dk_at dksX3_read_1 14 rfl rfl)
theorem dX3_read_39 : decode cX3_read 39 = .ok (.ireturn, 1) := dk_172 (dk_at dksX3_read_1 15 rfl rfl)
theorem dX3_read_40 : decode cX3_read 40 = .ok (.aload_n 0, 1) := dk_42 (dk_at dksX3_read_1 16 rfl rfl)
theorem dX3_read_41 : decode cX3_read 41 = .ok (.getfield 7, 3) := dk_180 0 7 (dk_at dksX3_read_1 17 rfl rfl)
theorem dX3_read_44 : decode cX3_read 44 = .ok (.iconst 0, 1) := dk_3 (dk_at dksX3_read_1 20 rfl rfl)
theorem dX3_read_45 : decode cX3_read 45 = .ok (.aload_n 0, 1) := dk_42 (dk_at dksX3_read_1 21 rfl rfl)
theorem dX3_read_46 : decode cX3_read 46 = .ok (.getfield 19, 3) := dk_180 0 19 (dk_at dksX3_read_2 0 rfl rfl)
theorem dX3_read_49 : decode cX3_read 49 = .ok (.iconst 0, 1) := dk_3 (dk_at dksX3_read_2 3 rfl rfl)
theorem dX3_read_50 : decode cX3_read 50 = .ok (.invokestatic 58, 3) := dk_184 0 58 (dk_at dksX3_read_2 4 rfl rfl)
theorem dX3_read_53 : decode cX3_read 53 = .ok (.aload_n 0, 1) := dk_42 (dk_at dksX3_read_2 7 rfl rfl)
theorem dX3_read_54 : decode cX3_read 54 = .ok (.iconst 1, 1) := dk_4 (dk_at dksX3_read_2 8 rfl rfl)
theorem dX3_read_55 : decode cX3_read 55 = .ok (.putfield 54, 3) := dk_181 0 54 (dk_at dksX3_read_2 9 rfl rfl)
theorem dX3_read_58 : decode cX3_read 58 = .ok (.iconst 0, 1) := dk_3 (dk_at dksX3_read_2 12 rfl rfl)
theorem dX3_read_59 : decode cX3_read 59 = .ok (.istore_n 2, 1) := dk_61 (dk_at dksX3_read_2 13 rfl rfl)
theorem dX3_read_60 : decode cX3_read 60 = .ok (.iconst 0, 1) := dk_3 (dk_at dksX3_read_2 14 rfl rfl)
theorem dX3_read_61 : decode cX3_read 61 = .ok (.istore_n 3, 1) := dk_62 (dk_at dksX3_read_2 15 rfl rfl)
theorem dX3_read_62 : decode cX3_read 62 = .ok (.iload_n 2, 1) := dk_28 (dk_at dksX3_read_2 16 rfl rfl)
theorem dX3_read_63 : decode cX3_read 63 = .ok (.aload_n 0, 1) := dk_42 (dk_at dksX3_read_2 17 rfl rfl)
theorem dX3_read_64 : decode cX3_read 64 = .ok (.getfield 200, 3) := dk_180 0 200 (dk_at dksX3_read_2 18 rfl rfl)
theorem dX3_read_67 : decode cX3_read 67 = .ok (.if_icmp .ge 24, 3) := dk_162 0 24 (dk_at dksX3_read_2 21 rfl rfl)
theorem dX3_read_70 : decode cX3_read 70 = .ok (.aload_n 0, 1) := dk_42 (dk_at dksX3_read_3 0 rfl rfl)
theorem dX3_read_71 : decode cX3_read 71 = .ok (.getfield 45, 3) := dk_180 0 45 (dk_at dksX3_read_3 1 rfl rfl)
theorem dX3_read_74 : decode cX3_read 74 = .ok (.ifCond .ne 17, 3) := dk_154 0 17 (dk_at dksX3_read_3 4 rfl rfl)
theorem dX3_read_77 : decode cX3_read 77 = .ok (.aload_n 0, 1) := dk_42 (dk_at dksX3_read_3 7 rfl rfl)
theorem dX3_read_78 : decode cX3_read 78 = .ok (.iconst 4, 1) := dk_7 (dk_at dksX3_read_3 8 rfl rfl)
theorem dX3_read_79 : decode cX3_read 79 = .ok (.iload_n 2, 1) := dk_28 (dk_at dksX3_read_3 9 rfl rfl)
theorem dX3_read_80 : decode cX3_read 80 = .ok (.imul, 1) := dk_104 (dk_at dksX3_read_3 10 rfl rfl)
theorem dX3_read_81 : decode cX3_read 81 = .ok (.invokevirtual 240, 3) := dk_182 0 240 (dk_at dksX3_read_3 11 rfl rfl)
theorem dX3_read_84 : decode cX3_read 84 = .ok (.istore_n 3, 1) := dk_62 (dk_at dksX3_read_3 14 rfl rfl)
theorem dX3_read_85 : decode cX3_read 85 = .ok (.iinc 2 1, 3) := dk_132 2 1 (dk_at dksX3_read_3 15 rfl rfl)
theorem dX3_read_88 : decode cX3_read 88 = .ok (.goto (-26), 3) := dk_167 255 230 (dk_at dksX3_read_3 18 rfl rfl)
theorem dX3_read_91 : decode cX3_read 91 = .ok (.aload_n 0, 1) := dk_42 (dk_at dksX3_read_3 21 rfl rfl)
theorem dX3_read_92 : decode cX3_read 92 = .ok (.iconst 0, 1) := dk_3 (dk_at dksX3_read_3 22 rfl rfl)
theorem dX3_read_93 : decode cX3_read 93 = .ok (.putfield 54, 3) := dk_181 0 54 (dk_at dksX3_read_4 0 rfl rfl)
theorem dX3_read_96 : decode cX3_read 96 = .ok (.aload_n 0, 1) := dk_42 (dk_at dksX3_read_4 3 rfl rfl)
theorem dX3_read_97 : decode cX3_read 97 = .ok (.getfield 45, 3) := dk_180 0 45 (dk_at dksX3_read_4 4 rfl rfl)
theorem dX3_read_100 : decode cX3_read 100 = .ok (.ifCond .le 38, 3) := dk_158 0 38 (dk_at dksX3_read_4 7 rfl rfl)
theorem dX3_read_103 : decode cX3_read 103 = .ok (.aload_n 0, 1) := dk_42 (dk_at dksX3_read_4 10 rfl rfl)
theorem dX3_read_104 : decode cX3_read 104 = .ok (.getfield 19, 3) := dk_180 0 19 (dk_at dksX3_read_4 11 rfl rfl)
theorem dX3_read_107 : decode cX3_read 107 = .ok (.iconst 0, 1) := dk_3 (dk_at dksX3_read_4 14 rfl rfl)
theorem dX3_read_108 : decode cX3_read 108 = .ok (.aload_n 0, 1) := dk_42 (dk_at dksX3_read_4 15 rfl rfl)
theorem dX3_read_109 : decode cX3_read 109 = .ok (.getfield 7, 3) := dk_180 0 7 (dk_at dksX3_read_4 16 rfl rfl)
theorem dX3_read_112 : decode cX3_read 112 = .ok (.iconst 0, 1) := dk_3 (dk_at dksX3_read_4 19 rfl rfl)
theorem dX3_read_113 : decode cX3_read 113 = .ok (.invokestatic 58, 3) := dk_184 0 58 (dk_at dksX3_read_4 20 rfl rfl)
theorem dX3_read_116 : decode cX3_read 116 = .ok (.aload_n 0, 1) := dk_42 (dk_at dksX3_read_4 23 rfl rfl)
theorem dX3_read_117 : decode cX3_read 117 = .ok (.iload_n 2, 1) := dk_28 (dk_at dksX3_read_5 0 rfl rfl)
theorem dX3_read_118 : decode cX3_read 118 = .ok (.iconst 1, 1) := dk_4 (dk_at dksX3_read_5 1 rfl rfl)
theorem dX3_read_119 : decode cX3_read 119 = .ok (.isub, 1) := dk_100 (dk_at dksX3_read_5 2 rfl rfl)
theorem dX3_read_120 : decode cX3_read 120 = .ok (.putfield 29, 3) := dk_181 0 29 (dk_at dksX3_read_5 3 rfl rfl)
theorem dX3_read_123 : decode cX3_read 123 = .ok (.aload_n 0, 1) := dk_42 (dk_at dksX3_read_5 6 rfl rfl)
theorem dX3_read_124 : decode cX3_read 124 = .ok (.iconst 2, 1) := dk_5 (dk_at dksX3_read_5 7 rfl rfl)
theorem dX3_read_125 : decode cX3_read 125 = .ok (.putfield 45, 3) := dk_181 0 45 (dk_at dksX3_read_5 8 rfl rfl)
theorem dX3_read_128 : decode cX3_read 128 = .ok (.iload_n 3, 1) := dk_29 (dk_at dksX3_read_5 11 rfl rfl)
theorem dX3_read_129 : decode cX3_read 129 = .ok (.ifCond .ge 7, 3) := dk_156 0 7 (dk_at dksX3_read_5 12 rfl rfl)
theorem dX3_read_132 : decode cX3_read 132 = .ok (.iload_n 3, 1) := dk_29 (dk_at dksX3_read_5 15 rfl rfl)
theorem dX3_read_133 : decode cX3_read 133 = .ok (.goto 4, 3) := dk_167 0 4 (dk_at dksX3_read_5 16 rfl rfl)
theorem dX3_read_136 : decode cX3_read 136 = .ok (.iconst 0, 1) := dk_3 (dk_at dksX3_read_5 19 rfl rfl)
theorem dX3_read_137 : decode cX3_read 137 = .ok (.ireturn, 1) := dk_172 (dk_at dksX3_read_5 20 rfl rfl)
theorem dX3_read_138 : decode cX3_read 138 = .ok (.aload_n 0, 1) := dk_42 (dk_at dksX3_read_5 21 rfl rfl)
theorem dX3_read_139 : decode cX3_read 139 = .ok (.aload_n 0, 1) := dk_42 (dk_at dksX3_read_5 22 rfl rfl)
theorem dX3_read_140 : decode cX3_read 140 = .ok (.getfield 19, 3) := dk_180 0 19 (dk_at dksX3_read_6 0 rfl rfl)
theorem dX3_read_143 : decode cX3_read 143 = .ok (.invokevirtual 74, 3) := dk_182 0 74 (dk_at dksX3_read_6 3 rfl rfl)
theorem dX3_read_146 : decode cX3_read 146 = .ok (.aload_n 0, 1) := dk_42 (dk_at dksX3_read_6 6 rfl rfl)
theorem dX3_read_147 : decode cX3_read 147 = .ok (.getfield 200, 3) := dk_180 0 200 (dk_at dksX3_read_6 7 rfl rfl)
theorem dX3_read_150 : decode cX3_read 150 = .ok (.ireturn, 1) := dk_172 (dk_at dksX3_read_6 10 rfl rfl)
abbrev cX3_isText : ByteArray := prog_24_method_72_code
def yX3_isText : MethodName := ⟨RX3, "isText", "()Z"⟩
def dkwX3_isText_2 : List UInt8 := [160, 0, 7, 4, 167, 0, 4, 3, 172]
abbrev dktX3_isText_2 : List UInt8 := dkwX3_isText_2 ++ []
def dkwX3_isText_1 : List UInt8 := [4, 96, 181, 0, 200, 42, 16, 59, 182, 0, 203, 154, 255, 231, 42, 180, 0, 191, 42, 180, 0, 189]
abbrev dktX3_isText_1 : List UInt8 := dkwX3_isText_1 ++ dktX3_isText_2
def dkwX3_isText_0 : List UInt8 := [42, 3, 181, 0, 191, 42, 3, 181, 0, 200, 42, 182, 0, 209, 154, 0, 5, 3, 172, 42, 89, 180, 0, 200]
abbrev dktX3_isText_0 : List UInt8 := dkwX3_isText_0 ++ dktX3_isText_1
theorem dksX3_isText_0 : cX3_isText.data.toList.drop 0 = dktX3_isText_0 := by decide +kernel
theorem dksX3_isText_1 : cX3_isText.data.toList.drop 24 = dktX3_isText_1 := dk_seg dksX3_isText_0 24 rfl rfl
theorem dksX3_isText_2 : cX3_isText.data.toList.drop 46 = dktX3_isText_2 := dk_seg dksX3_isText_1 22 rfl rfl
theorem dX3_isText_0 : decode cX3_isText 0 = .ok (.aload_n 0, 1) := dk_42 (dk_at dksX3_isText_0 0 rfl rfl)
theorem dX3_isText_1 : decode cX3_isText 1 = .ok (.iconst 0, 1) := dk_3 (dk_at dksX3_isText_0 1 rfl rfl)
theorem dX3_isText_2 : decode cX3_isText 2 = .ok (.putfield 191, 3) := dk_181 0 191 (dk_at dksX3_isText_0 2 rfl rfl)
theorem dX3_isText_5 : decode cX3_isText 5 = .ok (.aload_n 0, 1) := dk_42 (dk_at dksX3_isText_0 5 rfl rfl)
theorem dX3_isText_6 : decode cX3_isText 6 = .ok (.iconst 0, 1) := dk_3 (dk_at dksX3_isText_0 6 rfl rfl)
theorem dX3_isText_7 : decode cX3_isText 7 = .ok (.putfield 200, 3) := dk_181 0 200 (dk_at dksX3_isText_0 7 rfl rfl)
theorem dX3_isText_10 : decode cX3_isText 10 = .ok (.aload_n 0, 1) := dk_42 (dk_at dksX3_isText_0 10 rfl rfl)
theorem dX3_isText_11 : decode cX3_isText 11 = .ok (.invokevirtual 209, 3) := dk_182 0 209 (dk_at dksX3_isText_0 11 rfl rfl)
theorem dX3_isText_14 : decode cX3_isText 14 = .ok (.ifCond .ne 5, 3) := dk_154 0 5 (dk_at dksX3_isText_0 14 rfl rfl)
theorem dX3_isText_17 : decode cX3_isText 17 = .ok (.iconst 0, 1) := dk_3 (dk_at dksX3_isText_0 17 rfl rfl)
theorem dX3_isText_18 : decode cX3_isText 18 = .ok (.ireturn, 1) := dk_172 (dk_at dksX3_isText_0 18 rfl rfl)
theorem dX3_isText_19 : decode cX3_isText 19 = .ok (.aload_n 0, 1) := dk_42 (dk_at dksX3_isText_0 19 rfl rfl)
theorem dX3_isText_20 : decode cX3_isText 20 = .ok (.dup, 1) := dk_89 (dk_at dksX3_isText_0 20 rfl rfl)
theorem dX3_isText_21 : decode cX3_isText 21 = .ok (.getfield 200, 3) := dk_180 0 200 (dk_at dksX3_isText_0 21 rfl rfl)
theorem dX3_isText_24 : decode cX3_isText 24 = .ok (.iconst 1, 1) := dk_4 (dk_at dksX3_isText_1 0 rfl rfl)
theorem dX3_isText_25 : decode cX3_isText 25 = .ok (.iadd, 1) := dk_96 (dk_at dksX3_isText_1 1 rfl rfl)
theorem dX3_isText_26 : decode cX3_isText 26 = .ok (.putfield 200, 3) := dk_181 0 200 (dk_at dksX3_isText_1 2 rfl rfl)
theorem dX3_isText_29 : decode cX3_isText 29 = .ok (.aload_n 0, 1) := dk_42 (dk_at dksX3_isText_1 5 rfl rfl)
theorem dX3_isText_30 : decode cX3_isText 30 = .ok (.bipush 59, 2) := dk_16 59 (dk_at dksX3_isText_1 6 rfl rfl)
theorem dX3_isText_32 : decode cX3_isText 32 = .ok (.invokevirtual 203, 3) := dk_182 0 203 (dk_at dksX3_isText_1 8 rfl rfl)
theorem dX3_isText_35 : decode cX3_isText 35 = .ok (.ifCond .ne (-25), 3) := dk_154 255 231 (dk_at dksX3_isText_1 11 rfl rfl)
theorem dX3_isText_38 : decode cX3_isText 38 = .ok (.aload_n 0, 1) := dk_42 (dk_at dksX3_isText_1 14 rfl rfl)
theorem dX3_isText_39 : decode cX3_isText 39 = .ok (.getfield 191, 3) := dk_180 0 191 (dk_at dksX3_isText_1 15 rfl rfl)
theorem dX3_isText_42 : decode cX3_isText 42 = .ok (.aload_n 0, 1) := dk_42 (dk_at dksX3_isText_1 18 rfl rfl)
theorem dX3_isText_43 : decode cX3_isText 43 = .ok (.getfield 189, 3) := dk_180 0 189 (dk_at dksX3_isText_1 19 rfl rfl)
theorem dX3_isText_46 : decode cX3_isText 46 = .ok (.if_icmp .ne 7, 3) := dk_160 0 7 (dk_at dksX3_isText_2 0 rfl rfl)
theorem dX3_isText_49 : decode cX3_isText 49 = .ok (.iconst 1, 1) := dk_4 (dk_at dksX3_isText_2 3 rfl rfl)
theorem dX3_isText_50 : decode cX3_isText 50 = .ok (.goto 4, 3) := dk_167 0 4 (dk_at dksX3_isText_2 4 rfl rfl)
theorem dX3_isText_53 : decode cX3_isText 53 = .ok (.iconst 0, 1) := dk_3 (dk_at dksX3_isText_2 7 rfl rfl)
theorem dX3_isText_54 : decode cX3_isText 54 = .ok (.ireturn, 1) := dk_172 (dk_at dksX3_isText_2 8 rfl rfl)
abbrev cX3_itemHere : ByteArray := prog_24_method_71_code
def yX3_itemHere : MethodName := ⟨RX3, "itemHere", "()Z"⟩
def dkwX3_itemHere_12 : List UInt8 := [182, 0, 203, 172]
abbrev dktX3_itemHere_12 : List UInt8 := dkwX3_itemHere_12 ++ []
def dkwX3_itemHere_11 : List UInt8 := [182, 0, 197, 172, 42, 16, 104, 182, 0, 203, 153, 0, 11, 42, 27, 4, 96, 182, 0, 206, 172, 42, 16, 120]
abbrev dktX3_itemHere_11 : List UInt8 := dkwX3_itemHere_11 ++ dktX3_itemHere_12
def dkwX3_itemHere_10 : List UInt8 := [172, 42, 16, 99, 182, 0, 203, 154, 0, 12, 42, 16, 119, 182, 0, 203, 153, 0, 11, 42, 27, 4, 96]
abbrev dktX3_itemHere_10 : List UInt8 := dkwX3_itemHere_10 ++ dktX3_itemHere_11
def dkwX3_itemHere_9 : List UInt8 := [42, 16, 43, 182, 0, 203, 153, 0, 17, 42, 27, 5, 96, 182, 0, 197, 153, 0, 7, 4, 167, 0, 4, 3]
abbrev dktX3_itemHere_9 : List UInt8 := dkwX3_itemHere_9 ++ dktX3_itemHere_10
def dkwX3_itemHere_8 : List UInt8 := [167, 0, 4, 3, 172, 42, 16, 115, 182, 0, 203, 153, 0, 38, 42, 27, 4, 96, 182, 0, 197, 153, 0, 26]
abbrev dktX3_itemHere_8 : List UInt8 := dkwX3_itemHere_8 ++ dktX3_itemHere_9
def dkwX3_itemHere_7 : List UInt8 := [153, 0, 26, 42, 16, 42, 182, 0, 203, 153, 0, 17, 42, 27, 6, 96, 182, 0, 206, 153, 0, 7, 4]
abbrev dktX3_itemHere_7 : List UInt8 := dkwX3_itemHere_7 ++ dktX3_itemHere_8
def dkwX3_itemHere_6 : List UInt8 := [182, 0, 197, 153, 0, 45, 42, 16, 60, 182, 0, 203, 153, 0, 36, 42, 27, 5, 96, 182, 0, 206]
abbrev dktX3_itemHere_6 : List UInt8 := dkwX3_itemHere_6 ++ dktX3_itemHere_7
def dkwX3_itemHere_5 : List UInt8 := [153, 0, 7, 4, 167, 0, 4, 3, 172, 42, 16, 107, 182, 0, 203, 153, 0, 57, 42, 27, 4, 96]
abbrev dktX3_itemHere_5 : List UInt8 := dkwX3_itemHere_5 ++ dktX3_itemHere_6
def dkwX3_itemHere_4 : List UInt8 := [182, 0, 197, 153, 0, 26, 42, 16, 58, 182, 0, 203, 153, 0, 17, 42, 27, 6, 96, 182, 0, 197]
abbrev dktX3_itemHere_4 : List UInt8 := dkwX3_itemHere_4 ++ dktX3_itemHere_5
def dkwX3_itemHere_3 : List UInt8 := [27, 4, 96, 182, 0, 206, 153, 0, 45, 42, 16, 64, 182, 0, 203, 153, 0, 36, 42, 27, 5, 96]
abbrev dktX3_itemHere_3 : List UInt8 := dkwX3_itemHere_3 ++ dktX3_itemHere_4
def dkwX3_itemHere_2 : List UInt8 := [5, 96, 182, 0, 197, 153, 0, 7, 4, 167, 0, 4, 3, 172, 42, 16, 102, 182, 0, 203, 153, 0, 57, 42]
abbrev dktX3_itemHere_2 : List UInt8 := dkwX3_itemHere_2 ++ dktX3_itemHere_3
def dkwX3_itemHere_1 : List UInt8 := [153, 0, 38, 42, 27, 4, 96, 182, 0, 206, 153, 0, 26, 42, 16, 64, 182, 0, 203, 153, 0, 17, 42, 27]
abbrev dktX3_itemHere_1 : List UInt8 := dkwX3_itemHere_1 ++ dktX3_itemHere_2
def dkwX3_itemHere_0 : List UInt8 := [7, 42, 180, 0, 200, 104, 60, 42, 180, 0, 36, 27, 42, 182, 0, 194, 79, 42, 16, 112, 182, 0, 203]
abbrev dktX3_itemHere_0 : List UInt8 := dkwX3_itemHere_0 ++ dktX3_itemHere_1
theorem dksX3_itemHere_0 : cX3_itemHere.data.toList.drop 0 = dktX3_itemHere_0 := by decide +kernel
theorem dksX3_itemHere_1 : cX3_itemHere.data.toList.drop 23 = dktX3_itemHere_1 := dk_seg dksX3_itemHere_0 23 rfl rfl
theorem dksX3_itemHere_2 : cX3_itemHere.data.toList.drop 47 = dktX3_itemHere_2 := dk_seg dksX3_itemHere_1 24 rfl rfl
theorem dksX3_itemHere_3 : cX3_itemHere.data.toList.drop 71 = dktX3_itemHere_3 := dk_seg dksX3_itemHere_2 24 rfl rfl
theorem dksX3_itemHere_4 : cX3_itemHere.data.toList.drop 93 = dktX3_itemHere_4 := dk_seg dksX3_itemHere_3 22 rfl rfl
theorem dksX3_itemHere_5 : cX3_itemHere.data.toList.drop 115 = dktX3_itemHere_5 := dk_seg dksX3_itemHere_4 22 rfl rfl
theorem dksX3_itemHere_6 : cX3_itemHere.data.toList.drop 137 = dktX3_itemHere_6 := dk_seg dksX3_itemHere_5 22 rfl rfl
theorem dksX3_itemHere_7 : cX3_itemHere.data.toList.drop 159 = dktX3_itemHere_7 := dk_seg dksX3_itemHere_6 22 rfl rfl
theorem dksX3_itemHere_8 : cX3_itemHere.data.toList.drop 182 = dktX3_itemHere_8 := dk_seg dksX3_itemHere_7 23 rfl rfl
theorem dksX3_itemHere_9 : cX3_itemHere.data.toList.drop 206 = dktX3_itemHere_9 := dk_seg dksX3_itemHere_8 24 rfl rfl
theorem dksX3_itemHere_10 : cX3_itemHere.data.toList.drop 230 = dktX3_itemHere_10 := dk_seg dksX3_itemHere_9 24 rfl rfl
theorem dksX3_itemHere_11 : cX3_itemHere.data.toList.drop 253 = dktX3_itemHere_11 := dk_seg dksX3_itemHere_10 23 rfl rfl
theorem dksX3_itemHere_12 : cX3_itemHere.data.toList.drop 277 = dktX3_itemHere_12 := dk_seg dksX3_itemHere_11 24 rfl rfl
theorem dX3_itemHere_0 : decode cX3_itemHere 0 = .ok (.iconst 4, 1) := dk_7 (dk_at dksX3_itemHere_0 0 rfl rfl)
theorem dX3_itemHere_1 : decode cX3_itemHere 1 = .ok (.aload_n 0, 1) := dk_42 (dk_at dksX3_itemHere_0 1 rfl rfl)
theorem dX3_itemHere_2 : decode cX3_itemHere 2 = .ok (.getfield 200, 3) := dk_180 0 200 (dk_at dksX3_itemHere_0 2 rfl rfl)
theorem dX3_itemHere_5 : decode cX3_itemHere 5 = .ok (.imul, 1) := dk_104 (dk_at dksX3_itemHere_0 5 rfl rfl)
theorem dX3_itemHere_6 : decode cX3_itemHere 6 = .ok (.istore_n 1, 1) := dk_60 (dk_at dksX3_itemHere_0 6 rfl rfl)
theorem dX3_itemHere_7 : decode cX3_itemHere 7 = .ok (.aload_n 0, 1) := dk_42 (dk_at dksX3_itemHere_0 7 rfl rfl)
theorem dX3_itemHere_8 : decode cX3_itemHere 8 = .ok (.getfield 36, 3) := dk_180 0 36 (dk_at dksX3_itemHere_0 8 rfl rfl)
theorem dX3_itemHere_11 : decode cX3_itemHere 11 = .ok (.iload_n 1, 1) := dk_27 (dk_at dksX3_itemHere_0 11 rfl rfl)
theorem dX3_itemHere_12 : decode cX3_itemHere 12 = .ok (.aload_n 0, 1) := dk_42 (dk_at dksX3_itemHere_0 12 rfl rfl)
theorem dX3_itemHere_13 : decode cX3_itemHere 13 = .ok (.invokevirtual 194, 3) := dk_182 0 194 (dk_at dksX3_itemHere_0 13 rfl rfl)
theorem dX3_itemHere_16 : decode cX3_itemHere 16 = .ok (.iastore, 1) := dk_79 (dk_at dksX3_itemHere_0 16 rfl rfl)
theorem dX3_itemHere_17 : decode cX3_itemHere 17 = .ok (.aload_n 0, 1) := dk_42 (dk_at dksX3_itemHere_0 17 rfl rfl)
theorem dX3_itemHere_18 : decode cX3_itemHere 18 = .ok (.bipush 112, 2) := dk_16 112 (dk_at dksX3_itemHere_0 18 rfl rfl)
theorem dX3_itemHere_20 : decode cX3_itemHere 20 = .ok (.invokevirtual 203, 3) := dk_182 0 203 (dk_at dksX3_itemHere_0 20 rfl rfl)
theorem dX3_itemHere_23 : decode cX3_itemHere 23 = .ok (.ifCond .eq 38, 3) := dk_153 0 38 (dk_at dksX3_itemHere_1 0 rfl rfl)
theorem dX3_itemHere_26 : decode cX3_itemHere 26 = .ok (.aload_n 0, 1) := dk_42 (dk_at dksX3_itemHere_1 3 rfl rfl)
theorem dX3_itemHere_27 : decode cX3_itemHere 27 = .ok (.iload_n 1, 1) := dk_27 (dk_at dksX3_itemHere_1 4 rfl rfl)
theorem dX3_itemHere_28 : decode cX3_itemHere 28 = .ok (.iconst 1, 1) := dk_4 (dk_at dksX3_itemHere_1 5 rfl rfl)
theorem dX3_itemHere_29 : decode cX3_itemHere 29 = .ok (.iadd, 1) := dk_96 (dk_at dksX3_itemHere_1 6 rfl rfl)
theorem dX3_itemHere_30 : decode cX3_itemHere 30 = .ok (.invokevirtual 206, 3) := dk_182 0 206 (dk_at dksX3_itemHere_1 7 rfl rfl)
theorem dX3_itemHere_33 : decode cX3_itemHere 33 = .ok (.ifCond .eq 26, 3) := dk_153 0 26 (dk_at dksX3_itemHere_1 10 rfl rfl)
theorem dX3_itemHere_36 : decode cX3_itemHere 36 = .ok (.aload_n 0, 1) := dk_42 (dk_at dksX3_itemHere_1 13 rfl rfl)
theorem dX3_itemHere_37 : decode cX3_itemHere 37 = .ok (.bipush 64, 2) := dk_16 64 (dk_at dksX3_itemHere_1 14 rfl rfl)
theorem dX3_itemHere_39 : decode cX3_itemHere 39 = .ok (.invokevirtual 203, 3) := dk_182 0 203 (dk_at dksX3_itemHere_1 16 rfl rfl)
theorem dX3_itemHere_42 : decode cX3_itemHere 42 = .ok (.ifCond .eq 17, 3) := dk_153 0 17 (dk_at dksX3_itemHere_1 19 rfl rfl)
theorem dX3_itemHere_45 : decode cX3_itemHere 45 = .ok (.aload_n 0, 1) := dk_42 (dk_at dksX3_itemHere_1 22 rfl rfl)
theorem dX3_itemHere_46 : decode cX3_itemHere 46 = .ok (.iload_n 1, 1) := dk_27 (dk_at dksX3_itemHere_1 23 rfl rfl)
theorem dX3_itemHere_47 : decode cX3_itemHere 47 = .ok (.iconst 2, 1) := dk_5 (dk_at dksX3_itemHere_2 0 rfl rfl)
theorem dX3_itemHere_48 : decode cX3_itemHere 48 = .ok (.iadd, 1) := dk_96 (dk_at dksX3_itemHere_2 1 rfl rfl)
theorem dX3_itemHere_49 : decode cX3_itemHere 49 = .ok (.invokevirtual 197, 3) := dk_182 0 197 (dk_at dksX3_itemHere_2 2 rfl rfl)
theorem dX3_itemHere_52 : decode cX3_itemHere 52 = .ok (.ifCond .eq 7, 3) := dk_153 0 7 (dk_at dksX3_itemHere_2 5 rfl rfl)
theorem dX3_itemHere_55 : decode cX3_itemHere 55 = .ok (.iconst 1, 1) := dk_4 (dk_at dksX3_itemHere_2 8 rfl rfl)
theorem dX3_itemHere_56 : decode cX3_itemHere 56 = .ok (.goto 4, 3) := dk_167 0 4 (dk_at dksX3_itemHere_2 9 rfl rfl)
theorem dX3_itemHere_59 : decode cX3_itemHere 59 = .ok (.iconst 0, 1) := dk_3 (dk_at dksX3_itemHere_2 12 rfl rfl)
theorem dX3_itemHere_60 : decode cX3_itemHere 60 = .ok (.ireturn, 1) := dk_172 (dk_at dksX3_itemHere_2 13 rfl rfl)
theorem dX3_itemHere_61 : decode cX3_itemHere 61 = .ok (.aload_n 0, 1) := dk_42 (dk_at dksX3_itemHere_2 14 rfl rfl)
theorem dX3_itemHere_62 : decode cX3_itemHere 62 = .ok (.bipush 102, 2) := dk_16 102 (dk_at dksX3_itemHere_2 15 rfl rfl)
theorem dX3_itemHere_64 : decode cX3_itemHere 64 = .ok (.invokevirtual 203, 3) := dk_182 0 203 (dk_at dksX3_itemHere_2 17 rfl rfl)
theorem dX3_itemHere_67 : decode cX3_itemHere 67 = .ok (.ifCond .eq 57, 3) := dk_153 0 57 (dk_at dksX3_itemHere_2 20 rfl rfl)
theorem dX3_itemHere_70 : decode cX3_itemHere 70 = .ok (.aload_n 0, 1) := dk_42 (dk_at dksX3_itemHere_2 23 rfl rfl)
theorem dX3_itemHere_71 : decode cX3_itemHere 71 = .ok (.iload_n 1, 1) := dk_27 (dk_at dksX3_itemHere_3 0 rfl rfl)
theorem dX3_itemHere_72 : decode cX3_itemHere 72 = .ok (.iconst 1, 1) := dk_4 (dk_at dksX3_itemHere_3 1 rfl rfl)
theorem dX3_itemHere_73 : decode cX3_itemHere 73 = .ok (.iadd, 1) := dk_96 (dk_at dksX3_itemHere_3 2 rfl rfl)
theorem dX3_itemHere_74 : decode cX3_itemHere 74 = .ok (.invokevirtual 206, 3) := dk_182 0 206 (dk_at dksX3_itemHere_3 3 rfl rfl)
theorem dX3_itemHere_77 : decode cX3_itemHere 77 = .ok (.ifCond .eq 45, 3) := dk_153 0 45 (dk_at dksX3_itemHere_3 6 rfl rfl)
theorem dX3_itemHere_80 : decode cX3_itemHere 80 = .ok (.aload_n 0, 1) := dk_42 (dk_at dksX3_itemHere_3 9 rfl rfl)
theorem dX3_itemHere_81 : decode cX3_itemHere 81 = .ok (.bipush 64, 2) := dk_16 64 (dk_at dksX3_itemHere_3 10 rfl rfl)
theorem dX3_itemHere_83 : decode cX3_itemHere 83 = .ok (.invokevirtual 203, 3) := dk_182 0 203 (dk_at dksX3_itemHere_3 12 rfl rfl)
theorem dX3_itemHere_86 : decode cX3_itemHere 86 = .ok (.ifCond .eq 36, 3) := dk_153 0 36 (dk_at dksX3_itemHere_3 15 rfl rfl)
theorem dX3_itemHere_89 : decode cX3_itemHere 89 = .ok (.aload_n 0, 1) := dk_42 (dk_at dksX3_itemHere_3 18 rfl rfl)
theorem dX3_itemHere_90 : decode cX3_itemHere 90 = .ok (.iload_n 1, 1) := dk_27 (dk_at dksX3_itemHere_3 19 rfl rfl)
theorem dX3_itemHere_91 : decode cX3_itemHere 91 = .ok (.iconst 2, 1) := dk_5 (dk_at dksX3_itemHere_3 20 rfl rfl)
theorem dX3_itemHere_92 : decode cX3_itemHere 92 = .ok (.iadd, 1) := dk_96 (dk_at dksX3_itemHere_3 21 rfl rfl)
theorem dX3_itemHere_93 : decode cX3_itemHere 93 = .ok (.invokevirtual 197, 3) := dk_182 0 197 (dk_at dksX3_itemHere_4 0 rfl rfl)
theorem dX3_itemHere_96 : decode cX3_itemHere 96 = .ok (.ifCond .eq 26, 3) := dk_153 0 26 (dk_at dksX3_itemHere_4 3 rfl rfl)
theorem dX3_itemHere_99 : decode cX3_itemHere 99 = .ok (.aload_n 0, 1) := dk_42 (dk_at dksX3_itemHere_4 6 rfl rfl)
theorem dX3_itemHere_100 : decode cX3_itemHere 100 = .ok (.bipush 58, 2) := dk_16 58 (dk_at dksX3_itemHere_4 7 rfl rfl)
theorem dX3_itemHere_102 : decode cX3_itemHere 102 = .ok (.invokevirtual 203, 3) := dk_182 0 203 (dk_at dksX3_itemHere_4 9 rfl rfl)
theorem dX3_itemHere_105 : decode cX3_itemHere 105 = .ok (.ifCond .eq 17, 3) := dk_153 0 17 (dk_at dksX3_itemHere_4 12 rfl rfl)
theorem dX3_itemHere_108 : decode cX3_itemHere 108 = .ok (.aload_n 0, 1) := dk_42 (dk_at dksX3_itemHere_4 15 rfl rfl)
theorem dX3_itemHere_109 : decode cX3_itemHere 109 = .ok (.iload_n 1, 1) := dk_27 (dk_at dksX3_itemHere_4 16 rfl rfl)
theorem dX3_itemHere_110 : decode cX3_itemHere 110 = .ok (.iconst 3, 1) := dk_6 (dk_at dksX3_itemHere_4 17 rfl rfl)
theorem dX3_itemHere_111 : decode cX3_itemHere 111 = .ok (.iadd, 1) := dk_96 (dk_at dksX3_itemHere_4 18 rfl rfl)
theorem dX3_itemHere_112 : decode cX3_itemHere 112 = .ok (.invokevirtual 197, 3) := dk_182 0 197 (dk_at dksX3_itemHere_4 19 rfl rfl)
theorem dX3_itemHere_115 : decode cX3_itemHere 115 = .ok (.ifCond .eq 7, 3) := dk_153 0 7 (dk_at dksX3_itemHere_5 0 rfl rfl)
theorem dX3_itemHere_118 : decode cX3_itemHere 118 = .ok (.iconst 1, 1) := dk_4 (dk_at dksX3_itemHere_5 3 rfl rfl)
theorem dX3_itemHere_119 : decode cX3_itemHere 119 = .ok (.goto 4, 3) := dk_167 0 4 (dk_at dksX3_itemHere_5 4 rfl rfl)
theorem dX3_itemHere_122 : decode cX3_itemHere 122 = .ok (.iconst 0, 1) := dk_3 (dk_at dksX3_itemHere_5 7 rfl rfl)
theorem dX3_itemHere_123 : decode cX3_itemHere 123 = .ok (.ireturn, 1) := dk_172 (dk_at dksX3_itemHere_5 8 rfl rfl)
theorem dX3_itemHere_124 : decode cX3_itemHere 124 = .ok (.aload_n 0, 1) := dk_42 (dk_at dksX3_itemHere_5 9 rfl rfl)
theorem dX3_itemHere_125 : decode cX3_itemHere 125 = .ok (.bipush 107, 2) := dk_16 107 (dk_at dksX3_itemHere_5 10 rfl rfl)
theorem dX3_itemHere_127 : decode cX3_itemHere 127 = .ok (.invokevirtual 203, 3) := dk_182 0 203 (dk_at dksX3_itemHere_5 12 rfl rfl)
theorem dX3_itemHere_130 : decode cX3_itemHere 130 = .ok (.ifCond .eq 57, 3) := dk_153 0 57 (dk_at dksX3_itemHere_5 15 rfl rfl)
theorem dX3_itemHere_133 : decode cX3_itemHere 133 = .ok (.aload_n 0, 1) := dk_42 (dk_at dksX3_itemHere_5 18 rfl rfl)
theorem dX3_itemHere_134 : decode cX3_itemHere 134 = .ok (.iload_n 1, 1) := dk_27 (dk_at dksX3_itemHere_5 19 rfl rfl)
theorem dX3_itemHere_135 : decode cX3_itemHere 135 = .ok (.iconst 1, 1) := dk_4 (dk_at dksX3_itemHere_5 20 rfl rfl)
theorem dX3_itemHere_136 : decode cX3_itemHere 136 = .ok (.iadd, 1) := dk_96 (dk_at dksX3_itemHere_5 21 rfl rfl)
theorem dX3_itemHere_137 : decode cX3_itemHere 137 = .ok (.invokevirtual 197, 3) := dk_182 0 197 (dk_at dksX3_itemHere_6 0 rfl rfl)
theorem dX3_itemHere_140 : decode cX3_itemHere 140 = .ok (.ifCond .eq 45, 3) := dk_153 0 45 (dk_at dksX3_itemHere_6 3 rfl rfl)
theorem dX3_itemHere_143 : decode cX3_itemHere 143 = .ok (.aload_n 0, 1) := dk_42 (dk_at dksX3_itemHere_6 6 rfl rfl)
theorem dX3_itemHere_144 : decode cX3_itemHere 144 = .ok (.bipush 60, 2) := dk_16 60 (dk_at dksX3_itemHere_6 7 rfl rfl)
theorem dX3_itemHere_146 : decode cX3_itemHere 146 = .ok (.invokevirtual 203, 3) := dk_182 0 203 (dk_at dksX3_itemHere_6 9 rfl rfl)
theorem dX3_itemHere_149 : decode cX3_itemHere 149 = .ok (.ifCond .eq 36, 3) := dk_153 0 36 (dk_at dksX3_itemHere_6 12 rfl rfl)
theorem dX3_itemHere_152 : decode cX3_itemHere 152 = .ok (.aload_n 0, 1) := dk_42 (dk_at dksX3_itemHere_6 15 rfl rfl)
theorem dX3_itemHere_153 : decode cX3_itemHere 153 = .ok (.iload_n 1, 1) := dk_27 (dk_at dksX3_itemHere_6 16 rfl rfl)
theorem dX3_itemHere_154 : decode cX3_itemHere 154 = .ok (.iconst 2, 1) := dk_5 (dk_at dksX3_itemHere_6 17 rfl rfl)
theorem dX3_itemHere_155 : decode cX3_itemHere 155 = .ok (.iadd, 1) := dk_96 (dk_at dksX3_itemHere_6 18 rfl rfl)
theorem dX3_itemHere_156 : decode cX3_itemHere 156 = .ok (.invokevirtual 206, 3) := dk_182 0 206 (dk_at dksX3_itemHere_6 19 rfl rfl)
theorem dX3_itemHere_159 : decode cX3_itemHere 159 = .ok (.ifCond .eq 26, 3) := dk_153 0 26 (dk_at dksX3_itemHere_7 0 rfl rfl)
theorem dX3_itemHere_162 : decode cX3_itemHere 162 = .ok (.aload_n 0, 1) := dk_42 (dk_at dksX3_itemHere_7 3 rfl rfl)
theorem dX3_itemHere_163 : decode cX3_itemHere 163 = .ok (.bipush 42, 2) := dk_16 42 (dk_at dksX3_itemHere_7 4 rfl rfl)
theorem dX3_itemHere_165 : decode cX3_itemHere 165 = .ok (.invokevirtual 203, 3) := dk_182 0 203 (dk_at dksX3_itemHere_7 6 rfl rfl)
theorem dX3_itemHere_168 : decode cX3_itemHere 168 = .ok (.ifCond .eq 17, 3) := dk_153 0 17 (dk_at dksX3_itemHere_7 9 rfl rfl)
theorem dX3_itemHere_171 : decode cX3_itemHere 171 = .ok (.aload_n 0, 1) := dk_42 (dk_at dksX3_itemHere_7 12 rfl rfl)
theorem dX3_itemHere_172 : decode cX3_itemHere 172 = .ok (.iload_n 1, 1) := dk_27 (dk_at dksX3_itemHere_7 13 rfl rfl)
theorem dX3_itemHere_173 : decode cX3_itemHere 173 = .ok (.iconst 3, 1) := dk_6 (dk_at dksX3_itemHere_7 14 rfl rfl)
theorem dX3_itemHere_174 : decode cX3_itemHere 174 = .ok (.iadd, 1) := dk_96 (dk_at dksX3_itemHere_7 15 rfl rfl)
theorem dX3_itemHere_175 : decode cX3_itemHere 175 = .ok (.invokevirtual 206, 3) := dk_182 0 206 (dk_at dksX3_itemHere_7 16 rfl rfl)
theorem dX3_itemHere_178 : decode cX3_itemHere 178 = .ok (.ifCond .eq 7, 3) := dk_153 0 7 (dk_at dksX3_itemHere_7 19 rfl rfl)
theorem dX3_itemHere_181 : decode cX3_itemHere 181 = .ok (.iconst 1, 1) := dk_4 (dk_at dksX3_itemHere_7 22 rfl rfl)
theorem dX3_itemHere_182 : decode cX3_itemHere 182 = .ok (.goto 4, 3) := dk_167 0 4 (dk_at dksX3_itemHere_8 0 rfl rfl)
theorem dX3_itemHere_185 : decode cX3_itemHere 185 = .ok (.iconst 0, 1) := dk_3 (dk_at dksX3_itemHere_8 3 rfl rfl)
theorem dX3_itemHere_186 : decode cX3_itemHere 186 = .ok (.ireturn, 1) := dk_172 (dk_at dksX3_itemHere_8 4 rfl rfl)
theorem dX3_itemHere_187 : decode cX3_itemHere 187 = .ok (.aload_n 0, 1) := dk_42 (dk_at dksX3_itemHere_8 5 rfl rfl)
theorem dX3_itemHere_188 : decode cX3_itemHere 188 = .ok (.bipush 115, 2) := dk_16 115 (dk_at dksX3_itemHere_8 6 rfl rfl)
theorem dX3_itemHere_190 : decode cX3_itemHere 190 = .ok (.invokevirtual 203, 3) := dk_182 0 203 (dk_at dksX3_itemHere_8 8 rfl rfl)
theorem dX3_itemHere_193 : decode cX3_itemHere 193 = .ok (.ifCond .eq 38, 3) := dk_153 0 38 (dk_at dksX3_itemHere_8 11 rfl rfl)
theorem dX3_itemHere_196 : decode cX3_itemHere 196 = .ok (.aload_n 0, 1) := dk_42 (dk_at dksX3_itemHere_8 14 rfl rfl)
theorem dX3_itemHere_197 : decode cX3_itemHere 197 = .ok (.iload_n 1, 1) := dk_27 (dk_at dksX3_itemHere_8 15 rfl rfl)
theorem dX3_itemHere_198 : decode cX3_itemHere 198 = .ok (.iconst 1, 1) := dk_4 (dk_at dksX3_itemHere_8 16 rfl rfl)
theorem dX3_itemHere_199 : decode cX3_itemHere 199 = .ok (.iadd, 1) := dk_96 (dk_at dksX3_itemHere_8 17 rfl rfl)
theorem dX3_itemHere_200 : decode cX3_itemHere 200 = .ok (.invokevirtual 197, 3) := dk_182 0 197 (dk_at dksX3_itemHere_8 18 rfl rfl)
theorem dX3_itemHere_203 : decode cX3_itemHere 203 = .ok (.ifCond .eq 26, 3) := dk_153 0 26 (dk_at dksX3_itemHere_8 21 rfl rfl)
theorem dX3_itemHere_206 : decode cX3_itemHere 206 = .ok (.aload_n 0, 1) := dk_42 (dk_at dksX3_itemHere_9 0 rfl rfl)
theorem dX3_itemHere_207 : decode cX3_itemHere 207 = .ok (.bipush 43, 2) := dk_16 43 (dk_at dksX3_itemHere_9 1 rfl rfl)
theorem dX3_itemHere_209 : decode cX3_itemHere 209 = .ok (.invokevirtual 203, 3) := dk_182 0 203 (dk_at dksX3_itemHere_9 3 rfl rfl)
theorem dX3_itemHere_212 : decode cX3_itemHere 212 = .ok (.ifCond .eq 17, 3) := dk_153 0 17 (dk_at dksX3_itemHere_9 6 rfl rfl)
theorem dX3_itemHere_215 : decode cX3_itemHere 215 = .ok (.aload_n 0, 1) := dk_42 (dk_at dksX3_itemHere_9 9 rfl rfl)
theorem dX3_itemHere_216 : decode cX3_itemHere 216 = .ok (.iload_n 1, 1) := dk_27 (dk_at dksX3_itemHere_9 10 rfl rfl)
theorem dX3_itemHere_217 : decode cX3_itemHere 217 = .ok (.iconst 2, 1) := dk_5 (dk_at dksX3_itemHere_9 11 rfl rfl)
theorem dX3_itemHere_218 : decode cX3_itemHere 218 = .ok (.iadd, 1) := dk_96 (dk_at dksX3_itemHere_9 12 rfl rfl)
theorem dX3_itemHere_219 : decode cX3_itemHere 219 = .ok (.invokevirtual 197, 3) := dk_182 0 197 (dk_at dksX3_itemHere_9 13 rfl rfl)
theorem dX3_itemHere_222 : decode cX3_itemHere 222 = .ok (.ifCond .eq 7, 3) := dk_153 0 7 (dk_at dksX3_itemHere_9 16 rfl rfl)
theorem dX3_itemHere_225 : decode cX3_itemHere 225 = .ok (.iconst 1, 1) := dk_4 (dk_at dksX3_itemHere_9 19 rfl rfl)
theorem dX3_itemHere_226 : decode cX3_itemHere 226 = .ok (.goto 4, 3) := dk_167 0 4 (dk_at dksX3_itemHere_9 20 rfl rfl)
theorem dX3_itemHere_229 : decode cX3_itemHere 229 = .ok (.iconst 0, 1) := dk_3 (dk_at dksX3_itemHere_9 23 rfl rfl)
theorem dX3_itemHere_230 : decode cX3_itemHere 230 = .ok (.ireturn, 1) := dk_172 (dk_at dksX3_itemHere_10 0 rfl rfl)
theorem dX3_itemHere_231 : decode cX3_itemHere 231 = .ok (.aload_n 0, 1) := dk_42 (dk_at dksX3_itemHere_10 1 rfl rfl)
theorem dX3_itemHere_232 : decode cX3_itemHere 232 = .ok (.bipush 99, 2) := dk_16 99 (dk_at dksX3_itemHere_10 2 rfl rfl)
theorem dX3_itemHere_234 : decode cX3_itemHere 234 = .ok (.invokevirtual 203, 3) := dk_182 0 203 (dk_at dksX3_itemHere_10 4 rfl rfl)
theorem dX3_itemHere_237 : decode cX3_itemHere 237 = .ok (.ifCond .ne 12, 3) := dk_154 0 12 (dk_at dksX3_itemHere_10 7 rfl rfl)
theorem dX3_itemHere_240 : decode cX3_itemHere 240 = .ok (.aload_n 0, 1) := dk_42 (dk_at dksX3_itemHere_10 10 rfl rfl)
theorem dX3_itemHere_241 : decode cX3_itemHere 241 = .ok (.bipush 119, 2) := dk_16 119 (dk_at dksX3_itemHere_10 11 rfl rfl)
theorem dX3_itemHere_243 : decode cX3_itemHere 243 = .ok (.invokevirtual 203, 3) := dk_182 0 203 (dk_at dksX3_itemHere_10 13 rfl rfl)
theorem dX3_itemHere_246 : decode cX3_itemHere 246 = .ok (.ifCond .eq 11, 3) := dk_153 0 11 (dk_at dksX3_itemHere_10 16 rfl rfl)
theorem dX3_itemHere_249 : decode cX3_itemHere 249 = .ok (.aload_n 0, 1) := dk_42 (dk_at dksX3_itemHere_10 19 rfl rfl)
theorem dX3_itemHere_250 : decode cX3_itemHere 250 = .ok (.iload_n 1, 1) := dk_27 (dk_at dksX3_itemHere_10 20 rfl rfl)
theorem dX3_itemHere_251 : decode cX3_itemHere 251 = .ok (.iconst 1, 1) := dk_4 (dk_at dksX3_itemHere_10 21 rfl rfl)
theorem dX3_itemHere_252 : decode cX3_itemHere 252 = .ok (.iadd, 1) := dk_96 (dk_at dksX3_itemHere_10 22 rfl rfl)
theorem dX3_itemHere_253 : decode cX3_itemHere 253 = .ok (.invokevirtual 197, 3) := dk_182 0 197 (dk_at dksX3_itemHere_11 0 rfl rfl)
theorem dX3_itemHere_256 : decode cX3_itemHere 256 = .ok (.ireturn, 1) := dk_172 (dk_at dksX3_itemHere_11 3 rfl rfl)
theorem dX3_itemHere_257 : decode cX3_itemHere 257 = .ok (.aload_n 0, 1) := dk_42 (dk_at dksX3_itemHere_11 4 rfl rfl)
theorem dX3_itemHere_258 : decode cX3_itemHere 258 = .ok (.bipush 104, 2) := dk_16 104 (dk_at dksX3_itemHere_11 5 rfl rfl)
theorem dX3_itemHere_260 : decode cX3_itemHere 260 = .ok (.invokevirtual 203, 3) := dk_182 0 203 (dk_at dksX3_itemHere_11 7 rfl rfl)
theorem dX3_itemHere_263 : decode cX3_itemHere 263 = .ok (.ifCond .eq 11, 3) := dk_153 0 11 (dk_at dksX3_itemHere_11 10 rfl rfl)
theorem dX3_itemHere_266 : decode cX3_itemHere 266 = .ok (.aload_n 0, 1) := dk_42 (dk_at dksX3_itemHere_11 13 rfl rfl)
theorem dX3_itemHere_267 : decode cX3_itemHere 267 = .ok (.iload_n 1, 1) := dk_27 (dk_at dksX3_itemHere_11 14 rfl rfl)
theorem dX3_itemHere_268 : decode cX3_itemHere 268 = .ok (.iconst 1, 1) := dk_4 (dk_at dksX3_itemHere_11 15 rfl rfl)
theorem dX3_itemHere_269 : decode cX3_itemHere 269 = .ok (.iadd, 1) := dk_96 (dk_at dksX3_itemHere_11 16 rfl rfl)
theorem dX3_itemHere_270 : decode cX3_itemHere 270 = .ok (.invokevirtual 206, 3) := dk_182 0 206 (dk_at dksX3_itemHere_11 17 rfl rfl)
theorem dX3_itemHere_273 : decode cX3_itemHere 273 = .ok (.ireturn, 1) := dk_172 (dk_at dksX3_itemHere_11 20 rfl rfl)
theorem dX3_itemHere_274 : decode cX3_itemHere 274 = .ok (.aload_n 0, 1) := dk_42 (dk_at dksX3_itemHere_11 21 rfl rfl)
theorem dX3_itemHere_275 : decode cX3_itemHere 275 = .ok (.bipush 120, 2) := dk_16 120 (dk_at dksX3_itemHere_11 22 rfl rfl)
theorem dX3_itemHere_277 : decode cX3_itemHere 277 = .ok (.invokevirtual 203, 3) := dk_182 0 203 (dk_at dksX3_itemHere_12 0 rfl rfl)
theorem dX3_itemHere_280 : decode cX3_itemHere 280 = .ok (.ireturn, 1) := dk_172 (dk_at dksX3_itemHere_12 3 rfl rfl)
abbrev cX3_here : ByteArray := prog_24_method_67_code
def yX3_here : MethodName := ⟨RX3, "here", "()I"⟩
def dkwX3_here_1 : List UInt8 := [172]
abbrev dktX3_here_1 : List UInt8 := dkwX3_here_1 ++ []
def dkwX3_here_0 : List UInt8 := [42, 180, 0, 191, 42, 180, 0, 189, 162, 0, 15, 42, 180, 0, 22, 42, 180, 0, 191, 46, 167, 0, 4, 2]
abbrev dktX3_here_0 : List UInt8 := dkwX3_here_0 ++ dktX3_here_1
theorem dksX3_here_0 : cX3_here.data.toList.drop 0 = dktX3_here_0 := by decide +kernel
theorem dksX3_here_1 : cX3_here.data.toList.drop 24 = dktX3_here_1 := dk_seg dksX3_here_0 24 rfl rfl
theorem dX3_here_0 : decode cX3_here 0 = .ok (.aload_n 0, 1) := dk_42 (dk_at dksX3_here_0 0 rfl rfl)
theorem dX3_here_1 : decode cX3_here 1 = .ok (.getfield 191, 3) := dk_180 0 191 (dk_at dksX3_here_0 1 rfl rfl)
theorem dX3_here_4 : decode cX3_here 4 = .ok (.aload_n 0, 1) := dk_42 (dk_at dksX3_here_0 4 rfl rfl)
theorem dX3_here_5 : decode cX3_here 5 = .ok (.getfield 189, 3) := dk_180 0 189 (dk_at dksX3_here_0 5 rfl rfl)
theorem dX3_here_8 : decode cX3_here 8 = .ok (.if_icmp .ge 15, 3) := dk_162 0 15 (dk_at dksX3_here_0 8 rfl rfl)
theorem dX3_here_11 : decode cX3_here 11 = .ok (.aload_n 0, 1) := dk_42 (dk_at dksX3_here_0 11 rfl rfl)
theorem dX3_here_12 : decode cX3_here 12 = .ok (.getfield 22, 3) := dk_180 0 22 (dk_at dksX3_here_0 12 rfl rfl)
theorem dX3_here_15 : decode cX3_here 15 = .ok (.aload_n 0, 1) := dk_42 (dk_at dksX3_here_0 15 rfl rfl)
theorem dX3_here_16 : decode cX3_here 16 = .ok (.getfield 191, 3) := dk_180 0 191 (dk_at dksX3_here_0 16 rfl rfl)
theorem dX3_here_19 : decode cX3_here 19 = .ok (.iaload, 1) := dk_46 (dk_at dksX3_here_0 19 rfl rfl)
theorem dX3_here_20 : decode cX3_here 20 = .ok (.goto 4, 3) := dk_167 0 4 (dk_at dksX3_here_0 20 rfl rfl)
theorem dX3_here_23 : decode cX3_here 23 = .ok (.iconst (-1), 1) := dk_2 (dk_at dksX3_here_0 23 rfl rfl)
theorem dX3_here_24 : decode cX3_here 24 = .ok (.ireturn, 1) := dk_172 (dk_at dksX3_here_1 0 rfl rfl)
abbrev cX3_skips : ByteArray := prog_24_method_68_code
def yX3_skips : MethodName := ⟨RX3, "skips", "(I)Z"⟩
def dkwX3_skips_0 : List UInt8 := [42, 182, 0, 194, 27, 159, 0, 5, 3, 172, 42, 89, 180, 0, 191, 4, 96, 181, 0, 191, 4, 172]
abbrev dktX3_skips_0 : List UInt8 := dkwX3_skips_0 ++ []
theorem dksX3_skips_0 : cX3_skips.data.toList.drop 0 = dktX3_skips_0 := by decide +kernel
theorem dX3_skips_0 : decode cX3_skips 0 = .ok (.aload_n 0, 1) := dk_42 (dk_at dksX3_skips_0 0 rfl rfl)
theorem dX3_skips_1 : decode cX3_skips 1 = .ok (.invokevirtual 194, 3) := dk_182 0 194 (dk_at dksX3_skips_0 1 rfl rfl)
theorem dX3_skips_4 : decode cX3_skips 4 = .ok (.iload_n 1, 1) := dk_27 (dk_at dksX3_skips_0 4 rfl rfl)
theorem dX3_skips_5 : decode cX3_skips 5 = .ok (.if_icmp .eq 5, 3) := dk_159 0 5 (dk_at dksX3_skips_0 5 rfl rfl)
theorem dX3_skips_8 : decode cX3_skips 8 = .ok (.iconst 0, 1) := dk_3 (dk_at dksX3_skips_0 8 rfl rfl)
theorem dX3_skips_9 : decode cX3_skips 9 = .ok (.ireturn, 1) := dk_172 (dk_at dksX3_skips_0 9 rfl rfl)
theorem dX3_skips_10 : decode cX3_skips 10 = .ok (.aload_n 0, 1) := dk_42 (dk_at dksX3_skips_0 10 rfl rfl)
theorem dX3_skips_11 : decode cX3_skips 11 = .ok (.dup, 1) := dk_89 (dk_at dksX3_skips_0 11 rfl rfl)
theorem dX3_skips_12 : decode cX3_skips 12 = .ok (.getfield 191, 3) := dk_180 0 191 (dk_at dksX3_skips_0 12 rfl rfl)
theorem dX3_skips_15 : decode cX3_skips 15 = .ok (.iconst 1, 1) := dk_4 (dk_at dksX3_skips_0 15 rfl rfl)
theorem dX3_skips_16 : decode cX3_skips 16 = .ok (.iadd, 1) := dk_96 (dk_at dksX3_skips_0 16 rfl rfl)
theorem dX3_skips_17 : decode cX3_skips 17 = .ok (.putfield 191, 3) := dk_181 0 191 (dk_at dksX3_skips_0 17 rfl rfl)
theorem dX3_skips_20 : decode cX3_skips 20 = .ok (.iconst 1, 1) := dk_4 (dk_at dksX3_skips_0 20 rfl rfl)
theorem dX3_skips_21 : decode cX3_skips 21 = .ok (.ireturn, 1) := dk_172 (dk_at dksX3_skips_0 21 rfl rfl)
abbrev cX3_number : ByteArray := prog_24_method_70_code
def yX3_number : MethodName := ⟨RX3, "number", "(I)Z"⟩
def dkwX3_number_2 : List UInt8 := [46, 104, 42, 182, 0, 194, 96, 16, 48, 100, 79, 42, 89, 180, 0, 191, 4, 96, 181, 0, 191, 4, 172]
abbrev dktX3_number_2 : List UInt8 := dkwX3_number_2 ++ []
def dkwX3_number_1 : List UInt8 := [16, 48, 16, 57, 184, 0, 62, 154, 0, 5, 4, 172, 42, 180, 0, 36, 27, 16, 10, 42, 180, 0, 36, 27]
abbrev dktX3_number_1 : List UInt8 := dkwX3_number_1 ++ dktX3_number_2
def dkwX3_number_0 : List UInt8 := [42, 27, 182, 0, 197, 154, 0, 5, 3, 172, 42, 180, 0, 36, 27, 46, 153, 0, 17, 42, 182, 0, 194]
abbrev dktX3_number_0 : List UInt8 := dkwX3_number_0 ++ dktX3_number_1
theorem dksX3_number_0 : cX3_number.data.toList.drop 0 = dktX3_number_0 := by decide +kernel
theorem dksX3_number_1 : cX3_number.data.toList.drop 23 = dktX3_number_1 := dk_seg dksX3_number_0 23 rfl rfl
theorem dksX3_number_2 : cX3_number.data.toList.drop 47 = dktX3_number_2 := dk_seg dksX3_number_1 24 rfl rfl
theorem dX3_number_0 : decode cX3_number 0 = .ok (.aload_n 0, 1) := dk_42 (dk_at dksX3_number_0 0 rfl rfl)
theorem dX3_number_1 : decode cX3_number 1 = .ok (.iload_n 1, 1) := dk_27 (dk_at dksX3_number_0 1 rfl rfl)
theorem dX3_number_2 : decode cX3_number 2 = .ok (.invokevirtual 197, 3) := dk_182 0 197 (dk_at dksX3_number_0 2 rfl rfl)
theorem dX3_number_5 : decode cX3_number 5 = .ok (.ifCond .ne 5, 3) := dk_154 0 5 (dk_at dksX3_number_0 5 rfl rfl)
theorem dX3_number_8 : decode cX3_number 8 = .ok (.iconst 0, 1) := dk_3 (dk_at dksX3_number_0 8 rfl rfl)
theorem dX3_number_9 : decode cX3_number 9 = .ok (.ireturn, 1) := dk_172 (dk_at dksX3_number_0 9 rfl rfl)
theorem dX3_number_10 : decode cX3_number 10 = .ok (.aload_n 0, 1) := dk_42 (dk_at dksX3_number_0 10 rfl rfl)
theorem dX3_number_11 : decode cX3_number 11 = .ok (.getfield 36, 3) := dk_180 0 36 (dk_at dksX3_number_0 11 rfl rfl)
theorem dX3_number_14 : decode cX3_number 14 = .ok (.iload_n 1, 1) := dk_27 (dk_at dksX3_number_0 14 rfl rfl)
theorem dX3_number_15 : decode cX3_number 15 = .ok (.iaload, 1) := dk_46 (dk_at dksX3_number_0 15 rfl rfl)
theorem dX3_number_16 : decode cX3_number 16 = .ok (.ifCond .eq 17, 3) := dk_153 0 17 (dk_at dksX3_number_0 16 rfl rfl)
theorem dX3_number_19 : decode cX3_number 19 = .ok (.aload_n 0, 1) := dk_42 (dk_at dksX3_number_0 19 rfl rfl)
theorem dX3_number_20 : decode cX3_number 20 = .ok (.invokevirtual 194, 3) := dk_182 0 194 (dk_at dksX3_number_0 20 rfl rfl)
theorem dX3_number_23 : decode cX3_number 23 = .ok (.bipush 48, 2) := dk_16 48 (dk_at dksX3_number_1 0 rfl rfl)
theorem dX3_number_25 : decode cX3_number 25 = .ok (.bipush 57, 2) := dk_16 57 (dk_at dksX3_number_1 2 rfl rfl)
theorem dX3_number_27 : decode cX3_number 27 = .ok (.invokestatic 62, 3) := dk_184 0 62 (dk_at dksX3_number_1 4 rfl rfl)
theorem dX3_number_30 : decode cX3_number 30 = .ok (.ifCond .ne 5, 3) := dk_154 0 5 (dk_at dksX3_number_1 7 rfl rfl)
theorem dX3_number_33 : decode cX3_number 33 = .ok (.iconst 1, 1) := dk_4 (dk_at dksX3_number_1 10 rfl rfl)
theorem dX3_number_34 : decode cX3_number 34 = .ok (.ireturn, 1) := dk_172 (dk_at dksX3_number_1 11 rfl rfl)
theorem dX3_number_35 : decode cX3_number 35 = .ok (.aload_n 0, 1) := dk_42 (dk_at dksX3_number_1 12 rfl rfl)
theorem dX3_number_36 : decode cX3_number 36 = .ok (.getfield 36, 3) := dk_180 0 36 (dk_at dksX3_number_1 13 rfl rfl)
theorem dX3_number_39 : decode cX3_number 39 = .ok (.iload_n 1, 1) := dk_27 (dk_at dksX3_number_1 16 rfl rfl)
theorem dX3_number_40 : decode cX3_number 40 = .ok (.bipush 10, 2) := dk_16 10 (dk_at dksX3_number_1 17 rfl rfl)
theorem dX3_number_42 : decode cX3_number 42 = .ok (.aload_n 0, 1) := dk_42 (dk_at dksX3_number_1 19 rfl rfl)
theorem dX3_number_43 : decode cX3_number 43 = .ok (.getfield 36, 3) := dk_180 0 36 (dk_at dksX3_number_1 20 rfl rfl)
theorem dX3_number_46 : decode cX3_number 46 = .ok (.iload_n 1, 1) := dk_27 (dk_at dksX3_number_1 23 rfl rfl)
theorem dX3_number_47 : decode cX3_number 47 = .ok (.iaload, 1) := dk_46 (dk_at dksX3_number_2 0 rfl rfl)
theorem dX3_number_48 : decode cX3_number 48 = .ok (.imul, 1) := dk_104 (dk_at dksX3_number_2 1 rfl rfl)
theorem dX3_number_49 : decode cX3_number 49 = .ok (.aload_n 0, 1) := dk_42 (dk_at dksX3_number_2 2 rfl rfl)
theorem dX3_number_50 : decode cX3_number 50 = .ok (.invokevirtual 194, 3) := dk_182 0 194 (dk_at dksX3_number_2 3 rfl rfl)
theorem dX3_number_53 : decode cX3_number 53 = .ok (.iadd, 1) := dk_96 (dk_at dksX3_number_2 6 rfl rfl)
theorem dX3_number_54 : decode cX3_number 54 = .ok (.bipush 48, 2) := dk_16 48 (dk_at dksX3_number_2 7 rfl rfl)
theorem dX3_number_56 : decode cX3_number 56 = .ok (.isub, 1) := dk_100 (dk_at dksX3_number_2 9 rfl rfl)
theorem dX3_number_57 : decode cX3_number 57 = .ok (.iastore, 1) := dk_79 (dk_at dksX3_number_2 10 rfl rfl)
theorem dX3_number_58 : decode cX3_number 58 = .ok (.aload_n 0, 1) := dk_42 (dk_at dksX3_number_2 11 rfl rfl)
theorem dX3_number_59 : decode cX3_number 59 = .ok (.dup, 1) := dk_89 (dk_at dksX3_number_2 12 rfl rfl)
theorem dX3_number_60 : decode cX3_number 60 = .ok (.getfield 191, 3) := dk_180 0 191 (dk_at dksX3_number_2 13 rfl rfl)
theorem dX3_number_63 : decode cX3_number 63 = .ok (.iconst 1, 1) := dk_4 (dk_at dksX3_number_2 16 rfl rfl)
theorem dX3_number_64 : decode cX3_number 64 = .ok (.iadd, 1) := dk_96 (dk_at dksX3_number_2 17 rfl rfl)
theorem dX3_number_65 : decode cX3_number 65 = .ok (.putfield 191, 3) := dk_181 0 191 (dk_at dksX3_number_2 18 rfl rfl)
theorem dX3_number_68 : decode cX3_number 68 = .ok (.iconst 1, 1) := dk_4 (dk_at dksX3_number_2 21 rfl rfl)
theorem dX3_number_69 : decode cX3_number 69 = .ok (.ireturn, 1) := dk_172 (dk_at dksX3_number_2 22 rfl rfl)
abbrev cX3_digit : ByteArray := prog_24_method_69_code
def yX3_digit : MethodName := ⟨RX3, "digit", "(I)Z"⟩
def dkwX3_digit_1 : List UInt8 := [182, 0, 194, 16, 48, 100, 79, 42, 89, 180, 0, 191, 4, 96, 181, 0, 191, 4, 172]
abbrev dktX3_digit_1 : List UInt8 := dkwX3_digit_1 ++ []
def dkwX3_digit_0 : List UInt8 := [42, 182, 0, 194, 16, 48, 16, 57, 184, 0, 62, 154, 0, 5, 3, 172, 42, 180, 0, 36, 27, 42]
abbrev dktX3_digit_0 : List UInt8 := dkwX3_digit_0 ++ dktX3_digit_1
theorem dksX3_digit_0 : cX3_digit.data.toList.drop 0 = dktX3_digit_0 := by decide +kernel
theorem dksX3_digit_1 : cX3_digit.data.toList.drop 22 = dktX3_digit_1 := dk_seg dksX3_digit_0 22 rfl rfl
theorem dX3_digit_0 : decode cX3_digit 0 = .ok (.aload_n 0, 1) := dk_42 (dk_at dksX3_digit_0 0 rfl rfl)
theorem dX3_digit_1 : decode cX3_digit 1 = .ok (.invokevirtual 194, 3) := dk_182 0 194 (dk_at dksX3_digit_0 1 rfl rfl)
theorem dX3_digit_4 : decode cX3_digit 4 = .ok (.bipush 48, 2) := dk_16 48 (dk_at dksX3_digit_0 4 rfl rfl)
theorem dX3_digit_6 : decode cX3_digit 6 = .ok (.bipush 57, 2) := dk_16 57 (dk_at dksX3_digit_0 6 rfl rfl)
theorem dX3_digit_8 : decode cX3_digit 8 = .ok (.invokestatic 62, 3) := dk_184 0 62 (dk_at dksX3_digit_0 8 rfl rfl)
theorem dX3_digit_11 : decode cX3_digit 11 = .ok (.ifCond .ne 5, 3) := dk_154 0 5 (dk_at dksX3_digit_0 11 rfl rfl)
theorem dX3_digit_14 : decode cX3_digit 14 = .ok (.iconst 0, 1) := dk_3 (dk_at dksX3_digit_0 14 rfl rfl)
theorem dX3_digit_15 : decode cX3_digit 15 = .ok (.ireturn, 1) := dk_172 (dk_at dksX3_digit_0 15 rfl rfl)
theorem dX3_digit_16 : decode cX3_digit 16 = .ok (.aload_n 0, 1) := dk_42 (dk_at dksX3_digit_0 16 rfl rfl)
theorem dX3_digit_17 : decode cX3_digit 17 = .ok (.getfield 36, 3) := dk_180 0 36 (dk_at dksX3_digit_0 17 rfl rfl)
theorem dX3_digit_20 : decode cX3_digit 20 = .ok (.iload_n 1, 1) := dk_27 (dk_at dksX3_digit_0 20 rfl rfl)
theorem dX3_digit_21 : decode cX3_digit 21 = .ok (.aload_n 0, 1) := dk_42 (dk_at dksX3_digit_0 21 rfl rfl)
theorem dX3_digit_22 : decode cX3_digit 22 = .ok (.invokevirtual 194, 3) := dk_182 0 194 (dk_at dksX3_digit_1 0 rfl rfl)
theorem dX3_digit_25 : decode cX3_digit 25 = .ok (.bipush 48, 2) := dk_16 48 (dk_at dksX3_digit_1 3 rfl rfl)
theorem dX3_digit_27 : decode cX3_digit 27 = .ok (.isub, 1) := dk_100 (dk_at dksX3_digit_1 5 rfl rfl)
theorem dX3_digit_28 : decode cX3_digit 28 = .ok (.iastore, 1) := dk_79 (dk_at dksX3_digit_1 6 rfl rfl)
theorem dX3_digit_29 : decode cX3_digit 29 = .ok (.aload_n 0, 1) := dk_42 (dk_at dksX3_digit_1 7 rfl rfl)
theorem dX3_digit_30 : decode cX3_digit 30 = .ok (.dup, 1) := dk_89 (dk_at dksX3_digit_1 8 rfl rfl)
theorem dX3_digit_31 : decode cX3_digit 31 = .ok (.getfield 191, 3) := dk_180 0 191 (dk_at dksX3_digit_1 9 rfl rfl)
theorem dX3_digit_34 : decode cX3_digit 34 = .ok (.iconst 1, 1) := dk_4 (dk_at dksX3_digit_1 12 rfl rfl)
theorem dX3_digit_35 : decode cX3_digit 35 = .ok (.iadd, 1) := dk_96 (dk_at dksX3_digit_1 13 rfl rfl)
theorem dX3_digit_36 : decode cX3_digit 36 = .ok (.putfield 191, 3) := dk_181 0 191 (dk_at dksX3_digit_1 14 rfl rfl)
theorem dX3_digit_39 : decode cX3_digit 39 = .ok (.iconst 1, 1) := dk_4 (dk_at dksX3_digit_1 17 rfl rfl)
theorem dX3_digit_40 : decode cX3_digit 40 = .ok (.ireturn, 1) := dk_172 (dk_at dksX3_digit_1 18 rfl rfl)
abbrev cX3_carries : ByteArray := prog_24_method_73_code
def yX3_carries : MethodName := ⟨RX3, "carries", "(I)I"⟩
def dkwX3_carries_8 : List UInt8 := [46, 182, 0, 234, 172]
abbrev dktX3_carries_8 : List UInt8 := dkwX3_carries_8 ++ []
def dkwX3_carries_7 : List UInt8 := [180, 0, 36, 27, 4, 96, 46, 182, 0, 228, 172, 42, 182, 0, 231, 172, 42, 42, 180, 0, 36, 27, 4, 96]
abbrev dktX3_carries_7 : List UInt8 := dkwX3_carries_7 ++ dktX3_carries_8
def dkwX3_carries_6 : List UInt8 := [27, 5, 96, 46, 182, 0, 222, 172, 42, 42, 180, 0, 36, 27, 4, 96, 46, 182, 0, 225, 172, 42, 42]
abbrev dktX3_carries_6 : List UInt8 := dkwX3_carries_6 ++ dktX3_carries_7
def dkwX3_carries_5 : List UInt8 := [180, 0, 36, 27, 6, 96, 46, 182, 0, 219, 172, 42, 42, 180, 0, 36, 27, 4, 96, 46, 42, 180, 0, 36]
abbrev dktX3_carries_5 : List UInt8 := dkwX3_carries_5 ++ dktX3_carries_6
def dkwX3_carries_4 : List UInt8 := [182, 0, 216, 172, 42, 42, 180, 0, 36, 27, 4, 96, 46, 42, 180, 0, 36, 27, 5, 96, 46, 42]
abbrev dktX3_carries_4 : List UInt8 := dkwX3_carries_4 ++ dktX3_carries_5
def dkwX3_carries_3 : List UInt8 := [180, 0, 36, 27, 4, 96, 46, 42, 180, 0, 36, 27, 5, 96, 46, 42, 180, 0, 36, 27, 6, 96, 46]
abbrev dktX3_carries_3 : List UInt8 := dkwX3_carries_3 ++ dktX3_carries_4
def dkwX3_carries_2 : List UInt8 := [42, 42, 180, 0, 36, 27, 4, 96, 46, 42, 180, 0, 36, 27, 5, 96, 46, 182, 0, 213, 172, 42, 42]
abbrev dktX3_carries_2 : List UInt8 := dkwX3_carries_2 ++ dktX3_carries_3
def dkwX3_carries_1 : List UInt8 := [170, 0, 0, 0, 0, 233, 0, 0, 0, 99, 0, 0, 0, 120, 0, 0, 0, 202, 0, 0, 0, 233, 0, 0, 0, 233, 0, 0, 0, 123, 0, 0, 0, 233, 0, 0, 0, 233, 0, 0, 0, 233, 0, 0, 0, 233, 0, 0, 0, 152, 0, 0, 0, 233, 0, 0, 0, 233, 0, 0, 0, 233, 0, 0, 0, 233, 0, 0, 0, 102, 0, 0, 0, 233, 0, 0, 0, 233, 0, 0, 0, 181, 0, 0, 0, 233, 0, 0, 0, 233, 0, 0, 0, 233, 0, 0, 0, 215, 0, 0, 0, 228]
abbrev dktX3_carries_1 : List UInt8 := dkwX3_carries_1 ++ dktX3_carries_2
def dkwX3_carries_0 : List UInt8 := [42, 180, 0, 36, 27, 46]
abbrev dktX3_carries_0 : List UInt8 := dkwX3_carries_0 ++ dktX3_carries_1
theorem dksX3_carries_0 : cX3_carries.data.toList.drop 0 = dktX3_carries_0 := by decide +kernel
theorem dksX3_carries_1 : cX3_carries.data.toList.drop 6 = dktX3_carries_1 := dk_seg dksX3_carries_0 6 rfl rfl
theorem dksX3_carries_2 : cX3_carries.data.toList.drop 108 = dktX3_carries_2 := dk_seg dksX3_carries_1 102 rfl rfl
theorem dksX3_carries_3 : cX3_carries.data.toList.drop 131 = dktX3_carries_3 := dk_seg dksX3_carries_2 23 rfl rfl
theorem dksX3_carries_4 : cX3_carries.data.toList.drop 154 = dktX3_carries_4 := dk_seg dksX3_carries_3 23 rfl rfl
theorem dksX3_carries_5 : cX3_carries.data.toList.drop 176 = dktX3_carries_5 := dk_seg dksX3_carries_4 22 rfl rfl
theorem dksX3_carries_6 : cX3_carries.data.toList.drop 200 = dktX3_carries_6 := dk_seg dksX3_carries_5 24 rfl rfl
theorem dksX3_carries_7 : cX3_carries.data.toList.drop 223 = dktX3_carries_7 := dk_seg dksX3_carries_6 23 rfl rfl
theorem dksX3_carries_8 : cX3_carries.data.toList.drop 247 = dktX3_carries_8 := dk_seg dksX3_carries_7 24 rfl rfl
theorem dX3_carries_0 : decode cX3_carries 0 = .ok (.aload_n 0, 1) := dk_42 (dk_at dksX3_carries_0 0 rfl rfl)
theorem dX3_carries_1 : decode cX3_carries 1 = .ok (.getfield 36, 3) := dk_180 0 36 (dk_at dksX3_carries_0 1 rfl rfl)
theorem dX3_carries_4 : decode cX3_carries 4 = .ok (.iload_n 1, 1) := dk_27 (dk_at dksX3_carries_0 4 rfl rfl)
theorem dX3_carries_5 : decode cX3_carries 5 = .ok (.iaload, 1) := dk_46 (dk_at dksX3_carries_0 5 rfl rfl)
theorem dX3_carries_6 : decode cX3_carries 6 = .ok (.tableswitch 233 99 120 #[202, 233, 233, 123, 233, 233, 233, 233, 152, 233, 233, 233, 233, 102, 233, 233, 181, 233, 233, 233, 215, 228], 102) := by decide +kernel
theorem dX3_carries_108 : decode cX3_carries 108 = .ok (.aload_n 0, 1) := dk_42 (dk_at dksX3_carries_2 0 rfl rfl)
theorem dX3_carries_109 : decode cX3_carries 109 = .ok (.aload_n 0, 1) := dk_42 (dk_at dksX3_carries_2 1 rfl rfl)
theorem dX3_carries_110 : decode cX3_carries 110 = .ok (.getfield 36, 3) := dk_180 0 36 (dk_at dksX3_carries_2 2 rfl rfl)
theorem dX3_carries_113 : decode cX3_carries 113 = .ok (.iload_n 1, 1) := dk_27 (dk_at dksX3_carries_2 5 rfl rfl)
theorem dX3_carries_114 : decode cX3_carries 114 = .ok (.iconst 1, 1) := dk_4 (dk_at dksX3_carries_2 6 rfl rfl)
theorem dX3_carries_115 : decode cX3_carries 115 = .ok (.iadd, 1) := dk_96 (dk_at dksX3_carries_2 7 rfl rfl)
theorem dX3_carries_116 : decode cX3_carries 116 = .ok (.iaload, 1) := dk_46 (dk_at dksX3_carries_2 8 rfl rfl)
theorem dX3_carries_117 : decode cX3_carries 117 = .ok (.aload_n 0, 1) := dk_42 (dk_at dksX3_carries_2 9 rfl rfl)
theorem dX3_carries_118 : decode cX3_carries 118 = .ok (.getfield 36, 3) := dk_180 0 36 (dk_at dksX3_carries_2 10 rfl rfl)
theorem dX3_carries_121 : decode cX3_carries 121 = .ok (.iload_n 1, 1) := dk_27 (dk_at dksX3_carries_2 13 rfl rfl)
theorem dX3_carries_122 : decode cX3_carries 122 = .ok (.iconst 2, 1) := dk_5 (dk_at dksX3_carries_2 14 rfl rfl)
theorem dX3_carries_123 : decode cX3_carries 123 = .ok (.iadd, 1) := dk_96 (dk_at dksX3_carries_2 15 rfl rfl)
theorem dX3_carries_124 : decode cX3_carries 124 = .ok (.iaload, 1) := dk_46 (dk_at dksX3_carries_2 16 rfl rfl)
theorem dX3_carries_125 : decode cX3_carries 125 = .ok (.invokevirtual 213, 3) := dk_182 0 213 (dk_at dksX3_carries_2 17 rfl rfl)
theorem dX3_carries_128 : decode cX3_carries 128 = .ok (.ireturn, 1) := dk_172 (dk_at dksX3_carries_2 20 rfl rfl)
theorem dX3_carries_129 : decode cX3_carries 129 = .ok (.aload_n 0, 1) := dk_42 (dk_at dksX3_carries_2 21 rfl rfl)
theorem dX3_carries_130 : decode cX3_carries 130 = .ok (.aload_n 0, 1) := dk_42 (dk_at dksX3_carries_2 22 rfl rfl)
theorem dX3_carries_131 : decode cX3_carries 131 = .ok (.getfield 36, 3) := dk_180 0 36 (dk_at dksX3_carries_3 0 rfl rfl)
theorem dX3_carries_134 : decode cX3_carries 134 = .ok (.iload_n 1, 1) := dk_27 (dk_at dksX3_carries_3 3 rfl rfl)
theorem dX3_carries_135 : decode cX3_carries 135 = .ok (.iconst 1, 1) := dk_4 (dk_at dksX3_carries_3 4 rfl rfl)
theorem dX3_carries_136 : decode cX3_carries 136 = .ok (.iadd, 1) := dk_96 (dk_at dksX3_carries_3 5 rfl rfl)
theorem dX3_carries_137 : decode cX3_carries 137 = .ok (.iaload, 1) := dk_46 (dk_at dksX3_carries_3 6 rfl rfl)
theorem dX3_carries_138 : decode cX3_carries 138 = .ok (.aload_n 0, 1) := dk_42 (dk_at dksX3_carries_3 7 rfl rfl)
theorem dX3_carries_139 : decode cX3_carries 139 = .ok (.getfield 36, 3) := dk_180 0 36 (dk_at dksX3_carries_3 8 rfl rfl)
theorem dX3_carries_142 : decode cX3_carries 142 = .ok (.iload_n 1, 1) := dk_27 (dk_at dksX3_carries_3 11 rfl rfl)
theorem dX3_carries_143 : decode cX3_carries 143 = .ok (.iconst 2, 1) := dk_5 (dk_at dksX3_carries_3 12 rfl rfl)
theorem dX3_carries_144 : decode cX3_carries 144 = .ok (.iadd, 1) := dk_96 (dk_at dksX3_carries_3 13 rfl rfl)
theorem dX3_carries_145 : decode cX3_carries 145 = .ok (.iaload, 1) := dk_46 (dk_at dksX3_carries_3 14 rfl rfl)
theorem dX3_carries_146 : decode cX3_carries 146 = .ok (.aload_n 0, 1) := dk_42 (dk_at dksX3_carries_3 15 rfl rfl)
theorem dX3_carries_147 : decode cX3_carries 147 = .ok (.getfield 36, 3) := dk_180 0 36 (dk_at dksX3_carries_3 16 rfl rfl)
theorem dX3_carries_150 : decode cX3_carries 150 = .ok (.iload_n 1, 1) := dk_27 (dk_at dksX3_carries_3 19 rfl rfl)
theorem dX3_carries_151 : decode cX3_carries 151 = .ok (.iconst 3, 1) := dk_6 (dk_at dksX3_carries_3 20 rfl rfl)
theorem dX3_carries_152 : decode cX3_carries 152 = .ok (.iadd, 1) := dk_96 (dk_at dksX3_carries_3 21 rfl rfl)
theorem dX3_carries_153 : decode cX3_carries 153 = .ok (.iaload, 1) := dk_46 (dk_at dksX3_carries_3 22 rfl rfl)
theorem dX3_carries_154 : decode cX3_carries 154 = .ok (.invokevirtual 216, 3) := dk_182 0 216 (dk_at dksX3_carries_4 0 rfl rfl)
theorem dX3_carries_157 : decode cX3_carries 157 = .ok (.ireturn, 1) := dk_172 (dk_at dksX3_carries_4 3 rfl rfl)
theorem dX3_carries_158 : decode cX3_carries 158 = .ok (.aload_n 0, 1) := dk_42 (dk_at dksX3_carries_4 4 rfl rfl)
theorem dX3_carries_159 : decode cX3_carries 159 = .ok (.aload_n 0, 1) := dk_42 (dk_at dksX3_carries_4 5 rfl rfl)
theorem dX3_carries_160 : decode cX3_carries 160 = .ok (.getfield 36, 3) := dk_180 0 36 (dk_at dksX3_carries_4 6 rfl rfl)
theorem dX3_carries_163 : decode cX3_carries 163 = .ok (.iload_n 1, 1) := dk_27 (dk_at dksX3_carries_4 9 rfl rfl)
theorem dX3_carries_164 : decode cX3_carries 164 = .ok (.iconst 1, 1) := dk_4 (dk_at dksX3_carries_4 10 rfl rfl)
theorem dX3_carries_165 : decode cX3_carries 165 = .ok (.iadd, 1) := dk_96 (dk_at dksX3_carries_4 11 rfl rfl)
theorem dX3_carries_166 : decode cX3_carries 166 = .ok (.iaload, 1) := dk_46 (dk_at dksX3_carries_4 12 rfl rfl)
theorem dX3_carries_167 : decode cX3_carries 167 = .ok (.aload_n 0, 1) := dk_42 (dk_at dksX3_carries_4 13 rfl rfl)
theorem dX3_carries_168 : decode cX3_carries 168 = .ok (.getfield 36, 3) := dk_180 0 36 (dk_at dksX3_carries_4 14 rfl rfl)
theorem dX3_carries_171 : decode cX3_carries 171 = .ok (.iload_n 1, 1) := dk_27 (dk_at dksX3_carries_4 17 rfl rfl)
theorem dX3_carries_172 : decode cX3_carries 172 = .ok (.iconst 2, 1) := dk_5 (dk_at dksX3_carries_4 18 rfl rfl)
theorem dX3_carries_173 : decode cX3_carries 173 = .ok (.iadd, 1) := dk_96 (dk_at dksX3_carries_4 19 rfl rfl)
theorem dX3_carries_174 : decode cX3_carries 174 = .ok (.iaload, 1) := dk_46 (dk_at dksX3_carries_4 20 rfl rfl)
theorem dX3_carries_175 : decode cX3_carries 175 = .ok (.aload_n 0, 1) := dk_42 (dk_at dksX3_carries_4 21 rfl rfl)
theorem dX3_carries_176 : decode cX3_carries 176 = .ok (.getfield 36, 3) := dk_180 0 36 (dk_at dksX3_carries_5 0 rfl rfl)
theorem dX3_carries_179 : decode cX3_carries 179 = .ok (.iload_n 1, 1) := dk_27 (dk_at dksX3_carries_5 3 rfl rfl)
theorem dX3_carries_180 : decode cX3_carries 180 = .ok (.iconst 3, 1) := dk_6 (dk_at dksX3_carries_5 4 rfl rfl)
theorem dX3_carries_181 : decode cX3_carries 181 = .ok (.iadd, 1) := dk_96 (dk_at dksX3_carries_5 5 rfl rfl)
theorem dX3_carries_182 : decode cX3_carries 182 = .ok (.iaload, 1) := dk_46 (dk_at dksX3_carries_5 6 rfl rfl)
theorem dX3_carries_183 : decode cX3_carries 183 = .ok (.invokevirtual 219, 3) := dk_182 0 219 (dk_at dksX3_carries_5 7 rfl rfl)
theorem dX3_carries_186 : decode cX3_carries 186 = .ok (.ireturn, 1) := dk_172 (dk_at dksX3_carries_5 10 rfl rfl)
theorem dX3_carries_187 : decode cX3_carries 187 = .ok (.aload_n 0, 1) := dk_42 (dk_at dksX3_carries_5 11 rfl rfl)
theorem dX3_carries_188 : decode cX3_carries 188 = .ok (.aload_n 0, 1) := dk_42 (dk_at dksX3_carries_5 12 rfl rfl)
theorem dX3_carries_189 : decode cX3_carries 189 = .ok (.getfield 36, 3) := dk_180 0 36 (dk_at dksX3_carries_5 13 rfl rfl)
theorem dX3_carries_192 : decode cX3_carries 192 = .ok (.iload_n 1, 1) := dk_27 (dk_at dksX3_carries_5 16 rfl rfl)
theorem dX3_carries_193 : decode cX3_carries 193 = .ok (.iconst 1, 1) := dk_4 (dk_at dksX3_carries_5 17 rfl rfl)
theorem dX3_carries_194 : decode cX3_carries 194 = .ok (.iadd, 1) := dk_96 (dk_at dksX3_carries_5 18 rfl rfl)
theorem dX3_carries_195 : decode cX3_carries 195 = .ok (.iaload, 1) := dk_46 (dk_at dksX3_carries_5 19 rfl rfl)
theorem dX3_carries_196 : decode cX3_carries 196 = .ok (.aload_n 0, 1) := dk_42 (dk_at dksX3_carries_5 20 rfl rfl)
theorem dX3_carries_197 : decode cX3_carries 197 = .ok (.getfield 36, 3) := dk_180 0 36 (dk_at dksX3_carries_5 21 rfl rfl)
theorem dX3_carries_200 : decode cX3_carries 200 = .ok (.iload_n 1, 1) := dk_27 (dk_at dksX3_carries_6 0 rfl rfl)
theorem dX3_carries_201 : decode cX3_carries 201 = .ok (.iconst 2, 1) := dk_5 (dk_at dksX3_carries_6 1 rfl rfl)
theorem dX3_carries_202 : decode cX3_carries 202 = .ok (.iadd, 1) := dk_96 (dk_at dksX3_carries_6 2 rfl rfl)
theorem dX3_carries_203 : decode cX3_carries 203 = .ok (.iaload, 1) := dk_46 (dk_at dksX3_carries_6 3 rfl rfl)
theorem dX3_carries_204 : decode cX3_carries 204 = .ok (.invokevirtual 222, 3) := dk_182 0 222 (dk_at dksX3_carries_6 4 rfl rfl)
theorem dX3_carries_207 : decode cX3_carries 207 = .ok (.ireturn, 1) := dk_172 (dk_at dksX3_carries_6 7 rfl rfl)
theorem dX3_carries_208 : decode cX3_carries 208 = .ok (.aload_n 0, 1) := dk_42 (dk_at dksX3_carries_6 8 rfl rfl)
theorem dX3_carries_209 : decode cX3_carries 209 = .ok (.aload_n 0, 1) := dk_42 (dk_at dksX3_carries_6 9 rfl rfl)
theorem dX3_carries_210 : decode cX3_carries 210 = .ok (.getfield 36, 3) := dk_180 0 36 (dk_at dksX3_carries_6 10 rfl rfl)
theorem dX3_carries_213 : decode cX3_carries 213 = .ok (.iload_n 1, 1) := dk_27 (dk_at dksX3_carries_6 13 rfl rfl)
theorem dX3_carries_214 : decode cX3_carries 214 = .ok (.iconst 1, 1) := dk_4 (dk_at dksX3_carries_6 14 rfl rfl)
theorem dX3_carries_215 : decode cX3_carries 215 = .ok (.iadd, 1) := dk_96 (dk_at dksX3_carries_6 15 rfl rfl)
theorem dX3_carries_216 : decode cX3_carries 216 = .ok (.iaload, 1) := dk_46 (dk_at dksX3_carries_6 16 rfl rfl)
theorem dX3_carries_217 : decode cX3_carries 217 = .ok (.invokevirtual 225, 3) := dk_182 0 225 (dk_at dksX3_carries_6 17 rfl rfl)
theorem dX3_carries_220 : decode cX3_carries 220 = .ok (.ireturn, 1) := dk_172 (dk_at dksX3_carries_6 20 rfl rfl)
theorem dX3_carries_221 : decode cX3_carries 221 = .ok (.aload_n 0, 1) := dk_42 (dk_at dksX3_carries_6 21 rfl rfl)
theorem dX3_carries_222 : decode cX3_carries 222 = .ok (.aload_n 0, 1) := dk_42 (dk_at dksX3_carries_6 22 rfl rfl)
theorem dX3_carries_223 : decode cX3_carries 223 = .ok (.getfield 36, 3) := dk_180 0 36 (dk_at dksX3_carries_7 0 rfl rfl)
theorem dX3_carries_226 : decode cX3_carries 226 = .ok (.iload_n 1, 1) := dk_27 (dk_at dksX3_carries_7 3 rfl rfl)
theorem dX3_carries_227 : decode cX3_carries 227 = .ok (.iconst 1, 1) := dk_4 (dk_at dksX3_carries_7 4 rfl rfl)
theorem dX3_carries_228 : decode cX3_carries 228 = .ok (.iadd, 1) := dk_96 (dk_at dksX3_carries_7 5 rfl rfl)
theorem dX3_carries_229 : decode cX3_carries 229 = .ok (.iaload, 1) := dk_46 (dk_at dksX3_carries_7 6 rfl rfl)
theorem dX3_carries_230 : decode cX3_carries 230 = .ok (.invokevirtual 228, 3) := dk_182 0 228 (dk_at dksX3_carries_7 7 rfl rfl)
theorem dX3_carries_233 : decode cX3_carries 233 = .ok (.ireturn, 1) := dk_172 (dk_at dksX3_carries_7 10 rfl rfl)
theorem dX3_carries_234 : decode cX3_carries 234 = .ok (.aload_n 0, 1) := dk_42 (dk_at dksX3_carries_7 11 rfl rfl)
theorem dX3_carries_235 : decode cX3_carries 235 = .ok (.invokevirtual 231, 3) := dk_182 0 231 (dk_at dksX3_carries_7 12 rfl rfl)
theorem dX3_carries_238 : decode cX3_carries 238 = .ok (.ireturn, 1) := dk_172 (dk_at dksX3_carries_7 15 rfl rfl)
theorem dX3_carries_239 : decode cX3_carries 239 = .ok (.aload_n 0, 1) := dk_42 (dk_at dksX3_carries_7 16 rfl rfl)
theorem dX3_carries_240 : decode cX3_carries 240 = .ok (.aload_n 0, 1) := dk_42 (dk_at dksX3_carries_7 17 rfl rfl)
theorem dX3_carries_241 : decode cX3_carries 241 = .ok (.getfield 36, 3) := dk_180 0 36 (dk_at dksX3_carries_7 18 rfl rfl)
theorem dX3_carries_244 : decode cX3_carries 244 = .ok (.iload_n 1, 1) := dk_27 (dk_at dksX3_carries_7 21 rfl rfl)
theorem dX3_carries_245 : decode cX3_carries 245 = .ok (.iconst 1, 1) := dk_4 (dk_at dksX3_carries_7 22 rfl rfl)
theorem dX3_carries_246 : decode cX3_carries 246 = .ok (.iadd, 1) := dk_96 (dk_at dksX3_carries_7 23 rfl rfl)
theorem dX3_carries_247 : decode cX3_carries 247 = .ok (.iaload, 1) := dk_46 (dk_at dksX3_carries_8 0 rfl rfl)
theorem dX3_carries_248 : decode cX3_carries 248 = .ok (.invokevirtual 234, 3) := dk_182 0 234 (dk_at dksX3_carries_8 1 rfl rfl)
theorem dX3_carries_251 : decode cX3_carries 251 = .ok (.ireturn, 1) := dk_172 (dk_at dksX3_carries_8 4 rfl rfl)
abbrev cX3_errorPosition : ByteArray := prog_24_method_75_code
def yX3_errorPosition : MethodName := ⟨RX3, "errorPosition", "()I"⟩
def dkwX3_errorPosition_1 : List UInt8 := [180, 0, 25, 172]
abbrev dktX3_errorPosition_1 : List UInt8 := dkwX3_errorPosition_1 ++ []
def dkwX3_errorPosition_0 : List UInt8 := [42, 42, 180, 0, 25, 156, 0, 7, 4, 167, 0, 4, 3, 182, 0, 66, 153, 0, 7, 3, 167, 0, 7, 42]
abbrev dktX3_errorPosition_0 : List UInt8 := dkwX3_errorPosition_0 ++ dktX3_errorPosition_1
theorem dksX3_errorPosition_0 : cX3_errorPosition.data.toList.drop 0 = dktX3_errorPosition_0 := by decide +kernel
theorem dksX3_errorPosition_1 : cX3_errorPosition.data.toList.drop 24 = dktX3_errorPosition_1 := dk_seg dksX3_errorPosition_0 24 rfl rfl
theorem dX3_errorPosition_0 : decode cX3_errorPosition 0 = .ok (.aload_n 0, 1) := dk_42 (dk_at dksX3_errorPosition_0 0 rfl rfl)
theorem dX3_errorPosition_1 : decode cX3_errorPosition 1 = .ok (.aload_n 0, 1) := dk_42 (dk_at dksX3_errorPosition_0 1 rfl rfl)
theorem dX3_errorPosition_2 : decode cX3_errorPosition 2 = .ok (.getfield 25, 3) := dk_180 0 25 (dk_at dksX3_errorPosition_0 2 rfl rfl)
theorem dX3_errorPosition_5 : decode cX3_errorPosition 5 = .ok (.ifCond .ge 7, 3) := dk_156 0 7 (dk_at dksX3_errorPosition_0 5 rfl rfl)
theorem dX3_errorPosition_8 : decode cX3_errorPosition 8 = .ok (.iconst 1, 1) := dk_4 (dk_at dksX3_errorPosition_0 8 rfl rfl)
theorem dX3_errorPosition_9 : decode cX3_errorPosition 9 = .ok (.goto 4, 3) := dk_167 0 4 (dk_at dksX3_errorPosition_0 9 rfl rfl)
theorem dX3_errorPosition_12 : decode cX3_errorPosition 12 = .ok (.iconst 0, 1) := dk_3 (dk_at dksX3_errorPosition_0 12 rfl rfl)
theorem dX3_errorPosition_13 : decode cX3_errorPosition 13 = .ok (.invokevirtual 66, 3) := dk_182 0 66 (dk_at dksX3_errorPosition_0 13 rfl rfl)
theorem dX3_errorPosition_16 : decode cX3_errorPosition 16 = .ok (.ifCond .eq 7, 3) := dk_153 0 7 (dk_at dksX3_errorPosition_0 16 rfl rfl)
theorem dX3_errorPosition_19 : decode cX3_errorPosition 19 = .ok (.iconst 0, 1) := dk_3 (dk_at dksX3_errorPosition_0 19 rfl rfl)
theorem dX3_errorPosition_20 : decode cX3_errorPosition 20 = .ok (.goto 7, 3) := dk_167 0 7 (dk_at dksX3_errorPosition_0 20 rfl rfl)
theorem dX3_errorPosition_23 : decode cX3_errorPosition 23 = .ok (.aload_n 0, 1) := dk_42 (dk_at dksX3_errorPosition_0 23 rfl rfl)
theorem dX3_errorPosition_24 : decode cX3_errorPosition 24 = .ok (.getfield 25, 3) := dk_180 0 25 (dk_at dksX3_errorPosition_1 0 rfl rfl)
theorem dX3_errorPosition_27 : decode cX3_errorPosition 27 = .ok (.ireturn, 1) := dk_172 (dk_at dksX3_errorPosition_1 3 rfl rfl)
abbrev cX3_refusedItem : ByteArray := prog_24_method_76_code
def yX3_refusedItem : MethodName := ⟨RX3, "refusedItem", "()I"⟩
def dkwX3_refusedItem_1 : List UInt8 := [180, 0, 29, 172]
abbrev dktX3_refusedItem_1 : List UInt8 := dkwX3_refusedItem_1 ++ []
def dkwX3_refusedItem_0 : List UInt8 := [42, 42, 180, 0, 29, 156, 0, 7, 4, 167, 0, 4, 3, 182, 0, 66, 153, 0, 7, 3, 167, 0, 7, 42]
abbrev dktX3_refusedItem_0 : List UInt8 := dkwX3_refusedItem_0 ++ dktX3_refusedItem_1
theorem dksX3_refusedItem_0 : cX3_refusedItem.data.toList.drop 0 = dktX3_refusedItem_0 := by decide +kernel
theorem dksX3_refusedItem_1 : cX3_refusedItem.data.toList.drop 24 = dktX3_refusedItem_1 := dk_seg dksX3_refusedItem_0 24 rfl rfl
theorem dX3_refusedItem_0 : decode cX3_refusedItem 0 = .ok (.aload_n 0, 1) := dk_42 (dk_at dksX3_refusedItem_0 0 rfl rfl)
theorem dX3_refusedItem_1 : decode cX3_refusedItem 1 = .ok (.aload_n 0, 1) := dk_42 (dk_at dksX3_refusedItem_0 1 rfl rfl)
theorem dX3_refusedItem_2 : decode cX3_refusedItem 2 = .ok (.getfield 29, 3) := dk_180 0 29 (dk_at dksX3_refusedItem_0 2 rfl rfl)
theorem dX3_refusedItem_5 : decode cX3_refusedItem 5 = .ok (.ifCond .ge 7, 3) := dk_156 0 7 (dk_at dksX3_refusedItem_0 5 rfl rfl)
theorem dX3_refusedItem_8 : decode cX3_refusedItem 8 = .ok (.iconst 1, 1) := dk_4 (dk_at dksX3_refusedItem_0 8 rfl rfl)
theorem dX3_refusedItem_9 : decode cX3_refusedItem 9 = .ok (.goto 4, 3) := dk_167 0 4 (dk_at dksX3_refusedItem_0 9 rfl rfl)
theorem dX3_refusedItem_12 : decode cX3_refusedItem 12 = .ok (.iconst 0, 1) := dk_3 (dk_at dksX3_refusedItem_0 12 rfl rfl)
theorem dX3_refusedItem_13 : decode cX3_refusedItem 13 = .ok (.invokevirtual 66, 3) := dk_182 0 66 (dk_at dksX3_refusedItem_0 13 rfl rfl)
theorem dX3_refusedItem_16 : decode cX3_refusedItem 16 = .ok (.ifCond .eq 7, 3) := dk_153 0 7 (dk_at dksX3_refusedItem_0 16 rfl rfl)
theorem dX3_refusedItem_19 : decode cX3_refusedItem 19 = .ok (.iconst 0, 1) := dk_3 (dk_at dksX3_refusedItem_0 19 rfl rfl)
theorem dX3_refusedItem_20 : decode cX3_refusedItem 20 = .ok (.goto 7, 3) := dk_167 0 7 (dk_at dksX3_refusedItem_0 20 rfl rfl)
theorem dX3_refusedItem_23 : decode cX3_refusedItem 23 = .ok (.aload_n 0, 1) := dk_42 (dk_at dksX3_refusedItem_0 23 rfl rfl)
theorem dX3_refusedItem_24 : decode cX3_refusedItem 24 = .ok (.getfield 29, 3) := dk_180 0 29 (dk_at dksX3_refusedItem_1 0 rfl rfl)
theorem dX3_refusedItem_27 : decode cX3_refusedItem 27 = .ok (.ireturn, 1) := dk_172 (dk_at dksX3_refusedItem_1 3 rfl rfl)
abbrev cX3_undo : ByteArray := prog_24_method_77_code
def yX3_undo : MethodName := ⟨RX3, "undo", "()I"⟩
def dkwX3_undo_2 : List UInt8 := [184, 0, 58, 42, 180, 0, 42, 172]
abbrev dktX3_undo_2 : List UInt8 := dkwX3_undo_2 ++ []
def dkwX3_undo_1 : List UInt8 := [180, 0, 42, 4, 100, 181, 0, 42, 42, 180, 0, 13, 16, 125, 42, 180, 0, 42, 104, 42, 180, 0, 7, 3]
abbrev dktX3_undo_1 : List UInt8 := dkwX3_undo_1 ++ dktX3_undo_2
def dkwX3_undo_0 : List UInt8 := [42, 42, 180, 0, 42, 154, 0, 7, 4, 167, 0, 4, 3, 182, 0, 66, 153, 0, 5, 3, 172, 42, 89]
abbrev dktX3_undo_0 : List UInt8 := dkwX3_undo_0 ++ dktX3_undo_1
theorem dksX3_undo_0 : cX3_undo.data.toList.drop 0 = dktX3_undo_0 := by decide +kernel
theorem dksX3_undo_1 : cX3_undo.data.toList.drop 23 = dktX3_undo_1 := dk_seg dksX3_undo_0 23 rfl rfl
theorem dksX3_undo_2 : cX3_undo.data.toList.drop 47 = dktX3_undo_2 := dk_seg dksX3_undo_1 24 rfl rfl
theorem dX3_undo_0 : decode cX3_undo 0 = .ok (.aload_n 0, 1) := dk_42 (dk_at dksX3_undo_0 0 rfl rfl)
theorem dX3_undo_1 : decode cX3_undo 1 = .ok (.aload_n 0, 1) := dk_42 (dk_at dksX3_undo_0 1 rfl rfl)
theorem dX3_undo_2 : decode cX3_undo 2 = .ok (.getfield 42, 3) := dk_180 0 42 (dk_at dksX3_undo_0 2 rfl rfl)
theorem dX3_undo_5 : decode cX3_undo 5 = .ok (.ifCond .ne 7, 3) := dk_154 0 7 (dk_at dksX3_undo_0 5 rfl rfl)
theorem dX3_undo_8 : decode cX3_undo 8 = .ok (.iconst 1, 1) := dk_4 (dk_at dksX3_undo_0 8 rfl rfl)
theorem dX3_undo_9 : decode cX3_undo 9 = .ok (.goto 4, 3) := dk_167 0 4 (dk_at dksX3_undo_0 9 rfl rfl)
theorem dX3_undo_12 : decode cX3_undo 12 = .ok (.iconst 0, 1) := dk_3 (dk_at dksX3_undo_0 12 rfl rfl)
theorem dX3_undo_13 : decode cX3_undo 13 = .ok (.invokevirtual 66, 3) := dk_182 0 66 (dk_at dksX3_undo_0 13 rfl rfl)
theorem dX3_undo_16 : decode cX3_undo 16 = .ok (.ifCond .eq 5, 3) := dk_153 0 5 (dk_at dksX3_undo_0 16 rfl rfl)
theorem dX3_undo_19 : decode cX3_undo 19 = .ok (.iconst 0, 1) := dk_3 (dk_at dksX3_undo_0 19 rfl rfl)
theorem dX3_undo_20 : decode cX3_undo 20 = .ok (.ireturn, 1) := dk_172 (dk_at dksX3_undo_0 20 rfl rfl)
theorem dX3_undo_21 : decode cX3_undo 21 = .ok (.aload_n 0, 1) := dk_42 (dk_at dksX3_undo_0 21 rfl rfl)
theorem dX3_undo_22 : decode cX3_undo 22 = .ok (.dup, 1) := dk_89 (dk_at dksX3_undo_0 22 rfl rfl)
theorem dX3_undo_23 : decode cX3_undo 23 = .ok (.getfield 42, 3) := dk_180 0 42 (dk_at dksX3_undo_1 0 rfl rfl)
theorem dX3_undo_26 : decode cX3_undo 26 = .ok (.iconst 1, 1) := dk_4 (dk_at dksX3_undo_1 3 rfl rfl)
theorem dX3_undo_27 : decode cX3_undo 27 = .ok (.isub, 1) := dk_100 (dk_at dksX3_undo_1 4 rfl rfl)
theorem dX3_undo_28 : decode cX3_undo 28 = .ok (.putfield 42, 3) := dk_181 0 42 (dk_at dksX3_undo_1 5 rfl rfl)
theorem dX3_undo_31 : decode cX3_undo 31 = .ok (.aload_n 0, 1) := dk_42 (dk_at dksX3_undo_1 8 rfl rfl)
theorem dX3_undo_32 : decode cX3_undo 32 = .ok (.getfield 13, 3) := dk_180 0 13 (dk_at dksX3_undo_1 9 rfl rfl)
theorem dX3_undo_35 : decode cX3_undo 35 = .ok (.bipush 125, 2) := dk_16 125 (dk_at dksX3_undo_1 12 rfl rfl)
theorem dX3_undo_37 : decode cX3_undo 37 = .ok (.aload_n 0, 1) := dk_42 (dk_at dksX3_undo_1 14 rfl rfl)
theorem dX3_undo_38 : decode cX3_undo 38 = .ok (.getfield 42, 3) := dk_180 0 42 (dk_at dksX3_undo_1 15 rfl rfl)
theorem dX3_undo_41 : decode cX3_undo 41 = .ok (.imul, 1) := dk_104 (dk_at dksX3_undo_1 18 rfl rfl)
theorem dX3_undo_42 : decode cX3_undo 42 = .ok (.aload_n 0, 1) := dk_42 (dk_at dksX3_undo_1 19 rfl rfl)
theorem dX3_undo_43 : decode cX3_undo 43 = .ok (.getfield 7, 3) := dk_180 0 7 (dk_at dksX3_undo_1 20 rfl rfl)
theorem dX3_undo_46 : decode cX3_undo 46 = .ok (.iconst 0, 1) := dk_3 (dk_at dksX3_undo_1 23 rfl rfl)
theorem dX3_undo_47 : decode cX3_undo 47 = .ok (.invokestatic 58, 3) := dk_184 0 58 (dk_at dksX3_undo_2 0 rfl rfl)
theorem dX3_undo_50 : decode cX3_undo 50 = .ok (.aload_n 0, 1) := dk_42 (dk_at dksX3_undo_2 3 rfl rfl)
theorem dX3_undo_51 : decode cX3_undo 51 = .ok (.getfield 42, 3) := dk_180 0 42 (dk_at dksX3_undo_2 4 rfl rfl)
theorem dX3_undo_54 : decode cX3_undo 54 = .ok (.ireturn, 1) := dk_172 (dk_at dksX3_undo_2 7 rfl rfl)
abbrev cX3_snapshot : ByteArray := prog_24_method_78_code
def yX3_snapshot : MethodName := ⟨RX3, "snapshot", "()I"⟩
def dkwX3_snapshot_1 : List UInt8 := [180, 0, 7, 3, 46, 172]
abbrev dktX3_snapshot_1 : List UInt8 := dkwX3_snapshot_1 ++ []
def dkwX3_snapshot_0 : List UInt8 := [42, 3, 181, 0, 45, 42, 4, 181, 0, 243, 42, 180, 0, 7, 3, 42, 180, 0, 16, 3, 184, 0, 58, 42]
abbrev dktX3_snapshot_0 : List UInt8 := dkwX3_snapshot_0 ++ dktX3_snapshot_1
theorem dksX3_snapshot_0 : cX3_snapshot.data.toList.drop 0 = dktX3_snapshot_0 := by decide +kernel
theorem dksX3_snapshot_1 : cX3_snapshot.data.toList.drop 24 = dktX3_snapshot_1 := dk_seg dksX3_snapshot_0 24 rfl rfl
theorem dX3_snapshot_0 : decode cX3_snapshot 0 = .ok (.aload_n 0, 1) := dk_42 (dk_at dksX3_snapshot_0 0 rfl rfl)
theorem dX3_snapshot_1 : decode cX3_snapshot 1 = .ok (.iconst 0, 1) := dk_3 (dk_at dksX3_snapshot_0 1 rfl rfl)
theorem dX3_snapshot_2 : decode cX3_snapshot 2 = .ok (.putfield 45, 3) := dk_181 0 45 (dk_at dksX3_snapshot_0 2 rfl rfl)
theorem dX3_snapshot_5 : decode cX3_snapshot 5 = .ok (.aload_n 0, 1) := dk_42 (dk_at dksX3_snapshot_0 5 rfl rfl)
theorem dX3_snapshot_6 : decode cX3_snapshot 6 = .ok (.iconst 1, 1) := dk_4 (dk_at dksX3_snapshot_0 6 rfl rfl)
theorem dX3_snapshot_7 : decode cX3_snapshot 7 = .ok (.putfield 243, 3) := dk_181 0 243 (dk_at dksX3_snapshot_0 7 rfl rfl)
theorem dX3_snapshot_10 : decode cX3_snapshot 10 = .ok (.aload_n 0, 1) := dk_42 (dk_at dksX3_snapshot_0 10 rfl rfl)
theorem dX3_snapshot_11 : decode cX3_snapshot 11 = .ok (.getfield 7, 3) := dk_180 0 7 (dk_at dksX3_snapshot_0 11 rfl rfl)
theorem dX3_snapshot_14 : decode cX3_snapshot 14 = .ok (.iconst 0, 1) := dk_3 (dk_at dksX3_snapshot_0 14 rfl rfl)
theorem dX3_snapshot_15 : decode cX3_snapshot 15 = .ok (.aload_n 0, 1) := dk_42 (dk_at dksX3_snapshot_0 15 rfl rfl)
theorem dX3_snapshot_16 : decode cX3_snapshot 16 = .ok (.getfield 16, 3) := dk_180 0 16 (dk_at dksX3_snapshot_0 16 rfl rfl)
theorem dX3_snapshot_19 : decode cX3_snapshot 19 = .ok (.iconst 0, 1) := dk_3 (dk_at dksX3_snapshot_0 19 rfl rfl)
theorem dX3_snapshot_20 : decode cX3_snapshot 20 = .ok (.invokestatic 58, 3) := dk_184 0 58 (dk_at dksX3_snapshot_0 20 rfl rfl)
theorem dX3_snapshot_23 : decode cX3_snapshot 23 = .ok (.aload_n 0, 1) := dk_42 (dk_at dksX3_snapshot_0 23 rfl rfl)
theorem dX3_snapshot_24 : decode cX3_snapshot 24 = .ok (.getfield 7, 3) := dk_180 0 7 (dk_at dksX3_snapshot_1 0 rfl rfl)
theorem dX3_snapshot_27 : decode cX3_snapshot 27 = .ok (.iconst 0, 1) := dk_3 (dk_at dksX3_snapshot_1 3 rfl rfl)
theorem dX3_snapshot_28 : decode cX3_snapshot 28 = .ok (.iaload, 1) := dk_46 (dk_at dksX3_snapshot_1 4 rfl rfl)
theorem dX3_snapshot_29 : decode cX3_snapshot 29 = .ok (.ireturn, 1) := dk_172 (dk_at dksX3_snapshot_1 5 rfl rfl)
abbrev cX3_restore : ByteArray := prog_24_method_79_code
def yX3_restore : MethodName := ⟨RX3, "restore", "()I"⟩
def dkwX3_restore_1 : List UInt8 := [180, 0, 16, 3, 42, 180, 0, 7, 3, 184, 0, 58, 42, 3, 181, 0, 42, 42, 180, 0, 7, 3, 46, 172]
abbrev dktX3_restore_1 : List UInt8 := dkwX3_restore_1 ++ []
def dkwX3_restore_0 : List UInt8 := [42, 42, 180, 0, 243, 153, 0, 7, 3, 167, 0, 4, 4, 182, 0, 66, 153, 0, 5, 3, 172, 42]
abbrev dktX3_restore_0 : List UInt8 := dkwX3_restore_0 ++ dktX3_restore_1
theorem dksX3_restore_0 : cX3_restore.data.toList.drop 0 = dktX3_restore_0 := by decide +kernel
theorem dksX3_restore_1 : cX3_restore.data.toList.drop 22 = dktX3_restore_1 := dk_seg dksX3_restore_0 22 rfl rfl
theorem dX3_restore_0 : decode cX3_restore 0 = .ok (.aload_n 0, 1) := dk_42 (dk_at dksX3_restore_0 0 rfl rfl)
theorem dX3_restore_1 : decode cX3_restore 1 = .ok (.aload_n 0, 1) := dk_42 (dk_at dksX3_restore_0 1 rfl rfl)
theorem dX3_restore_2 : decode cX3_restore 2 = .ok (.getfield 243, 3) := dk_180 0 243 (dk_at dksX3_restore_0 2 rfl rfl)
theorem dX3_restore_5 : decode cX3_restore 5 = .ok (.ifCond .eq 7, 3) := dk_153 0 7 (dk_at dksX3_restore_0 5 rfl rfl)
theorem dX3_restore_8 : decode cX3_restore 8 = .ok (.iconst 0, 1) := dk_3 (dk_at dksX3_restore_0 8 rfl rfl)
theorem dX3_restore_9 : decode cX3_restore 9 = .ok (.goto 4, 3) := dk_167 0 4 (dk_at dksX3_restore_0 9 rfl rfl)
theorem dX3_restore_12 : decode cX3_restore 12 = .ok (.iconst 1, 1) := dk_4 (dk_at dksX3_restore_0 12 rfl rfl)
theorem dX3_restore_13 : decode cX3_restore 13 = .ok (.invokevirtual 66, 3) := dk_182 0 66 (dk_at dksX3_restore_0 13 rfl rfl)
theorem dX3_restore_16 : decode cX3_restore 16 = .ok (.ifCond .eq 5, 3) := dk_153 0 5 (dk_at dksX3_restore_0 16 rfl rfl)
theorem dX3_restore_19 : decode cX3_restore 19 = .ok (.iconst 0, 1) := dk_3 (dk_at dksX3_restore_0 19 rfl rfl)
theorem dX3_restore_20 : decode cX3_restore 20 = .ok (.ireturn, 1) := dk_172 (dk_at dksX3_restore_0 20 rfl rfl)
theorem dX3_restore_21 : decode cX3_restore 21 = .ok (.aload_n 0, 1) := dk_42 (dk_at dksX3_restore_0 21 rfl rfl)
theorem dX3_restore_22 : decode cX3_restore 22 = .ok (.getfield 16, 3) := dk_180 0 16 (dk_at dksX3_restore_1 0 rfl rfl)
theorem dX3_restore_25 : decode cX3_restore 25 = .ok (.iconst 0, 1) := dk_3 (dk_at dksX3_restore_1 3 rfl rfl)
theorem dX3_restore_26 : decode cX3_restore 26 = .ok (.aload_n 0, 1) := dk_42 (dk_at dksX3_restore_1 4 rfl rfl)
theorem dX3_restore_27 : decode cX3_restore 27 = .ok (.getfield 7, 3) := dk_180 0 7 (dk_at dksX3_restore_1 5 rfl rfl)
theorem dX3_restore_30 : decode cX3_restore 30 = .ok (.iconst 0, 1) := dk_3 (dk_at dksX3_restore_1 8 rfl rfl)
theorem dX3_restore_31 : decode cX3_restore 31 = .ok (.invokestatic 58, 3) := dk_184 0 58 (dk_at dksX3_restore_1 9 rfl rfl)
theorem dX3_restore_34 : decode cX3_restore 34 = .ok (.aload_n 0, 1) := dk_42 (dk_at dksX3_restore_1 12 rfl rfl)
theorem dX3_restore_35 : decode cX3_restore 35 = .ok (.iconst 0, 1) := dk_3 (dk_at dksX3_restore_1 13 rfl rfl)
theorem dX3_restore_36 : decode cX3_restore 36 = .ok (.putfield 42, 3) := dk_181 0 42 (dk_at dksX3_restore_1 14 rfl rfl)
theorem dX3_restore_39 : decode cX3_restore 39 = .ok (.aload_n 0, 1) := dk_42 (dk_at dksX3_restore_1 17 rfl rfl)
theorem dX3_restore_40 : decode cX3_restore 40 = .ok (.getfield 7, 3) := dk_180 0 7 (dk_at dksX3_restore_1 18 rfl rfl)
theorem dX3_restore_43 : decode cX3_restore 43 = .ok (.iconst 0, 1) := dk_3 (dk_at dksX3_restore_1 21 rfl rfl)
theorem dX3_restore_44 : decode cX3_restore 44 = .ok (.iaload, 1) := dk_46 (dk_at dksX3_restore_1 22 rfl rfl)
theorem dX3_restore_45 : decode cX3_restore 45 = .ok (.ireturn, 1) := dk_172 (dk_at dksX3_restore_1 23 rfl rfl)
theorem q77 : (Jvm.Cond.initialized "WillowPrintersModel") ∈ lw_all := lw_g (lw_at lw_m1 23 rfl) rfl
theorem q832 : (Jvm.Cond.selects "WillowPrintersModel" ({ cls := "java/lang/Object", name := "getClass", desc := "()Ljava/lang/Class;" } : Jvm.MethodName) ({ cls := "java/lang/Object", name := "getClass", desc := "()Ljava/lang/Class;" } : Jvm.MethodName)) ∈ lw_all := lw_g (lw_at lw_m4 58 rfl) rfl
theorem q1924 : (Jvm.Cond.instantiable "WillowPrintersModel" (19 : Nat)) ∈ lw_all := lw_g (lw_at lw_m8 190 rfl) rfl
theorem q1926 : (Jvm.Cond.instanceMethod ({ cls := "WillowPrintersModel", name := "<init>", desc := "()V" } : Jvm.MethodName)) ∈ lw_all := lw_g (lw_at lw_m8 192 rfl) rfl
theorem q1927 : (Jvm.Cond.code ({ cls := "WillowPrintersModel", name := "<init>", desc := "()V" } : Jvm.MethodName) prog_24_method_1_code (1 : Nat) (Option.none : Option Jvm.ClassFile.FieldType)) ∈ lw_all := lw_g (lw_at lw_m8 193 rfl) rfl
theorem q1928 : (Jvm.Cond.methodLink "WillowPrintersModel" (1 : Nat) ({ cls := "java/lang/Object", name := "<init>", desc := "()V" } : Jvm.MethodName)) ∈ lw_all := lw_g (lw_at lw_m8 194 rfl) rfl
theorem q1929 : (Jvm.Cond.methodLink "WillowPrintersModel" (39 : Nat) ({ cls := "WillowPrintersModel", name := "begins", desc := "()V" } : Jvm.MethodName)) ∈ lw_all := lw_g (lw_at lw_m8 195 rfl) rfl
theorem q1930 : (Jvm.Cond.privateMethod ({ cls := "WillowPrintersModel", name := "begins", desc := "()V" } : Jvm.MethodName)) ∈ lw_tbl := lw_at lw_m8 196 rfl
theorem q1931 : (Jvm.Cond.instanceMethod ({ cls := "WillowPrintersModel", name := "begins", desc := "()V" } : Jvm.MethodName)) ∈ lw_all := lw_g (lw_at lw_m8 197 rfl) rfl
theorem q1932 : (Jvm.Cond.code ({ cls := "WillowPrintersModel", name := "begins", desc := "()V" } : Jvm.MethodName) prog_24_method_2_code (2 : Nat) (Option.none : Option Jvm.ClassFile.FieldType)) ∈ lw_all := lw_g (lw_at lw_m8 198 rfl) rfl
theorem q1933 : (Jvm.Cond.fieldLink "WillowPrintersModel" (7 : Nat) "WillowPrintersModel" "g" "[I") ∈ lw_all := lw_g (lw_at lw_m8 199 rfl) rfl
theorem q1934 : (Jvm.Cond.fieldLink "WillowPrintersModel" (13 : Nat) "WillowPrintersModel" "kept" "[I") ∈ lw_all := lw_g (lw_at lw_m8 200 rfl) rfl
theorem q1935 : (Jvm.Cond.fieldLink "WillowPrintersModel" (16 : Nat) "WillowPrintersModel" "saved" "[I") ∈ lw_all := lw_g (lw_at lw_m8 201 rfl) rfl
theorem q1936 : (Jvm.Cond.fieldLink "WillowPrintersModel" (19 : Nat) "WillowPrintersModel" "before" "[I") ∈ lw_all := lw_g (lw_at lw_m8 202 rfl) rfl
theorem q1937 : (Jvm.Cond.fieldLink "WillowPrintersModel" (243 : Nat) "WillowPrintersModel" "isSaved" "Z") ∈ lw_all := lw_g (lw_at lw_m8 203 rfl) rfl
theorem q1938 : (Jvm.Cond.fieldLink "WillowPrintersModel" (42 : Nat) "WillowPrintersModel" "changes" "I") ∈ lw_all := lw_g (lw_at lw_m8 204 rfl) rfl
theorem q1939 : (Jvm.Cond.fieldLink "WillowPrintersModel" (54 : Nat) "WillowPrintersModel" "isWithin" "Z") ∈ lw_all := lw_g (lw_at lw_m8 205 rfl) rfl
theorem q1940 : (Jvm.Cond.fieldLink "WillowPrintersModel" (45 : Nat) "WillowPrintersModel" "code" "I") ∈ lw_all := lw_g (lw_at lw_m8 206 rfl) rfl
theorem q1941 : (Jvm.Cond.fieldLink "WillowPrintersModel" (48 : Nat) "WillowPrintersModel" "why" "I") ∈ lw_all := lw_g (lw_at lw_m8 207 rfl) rfl
theorem q1942 : (Jvm.Cond.fieldLink "WillowPrintersModel" (51 : Nat) "WillowPrintersModel" "detail" "I") ∈ lw_all := lw_g (lw_at lw_m8 208 rfl) rfl
theorem q1943 : (Jvm.Cond.fieldLink "WillowPrintersModel" (22 : Nat) "WillowPrintersModel" "input" "[I") ∈ lw_all := lw_g (lw_at lw_m8 209 rfl) rfl
theorem q1944 : (Jvm.Cond.fieldLink "WillowPrintersModel" (189 : Nat) "WillowPrintersModel" "length" "I") ∈ lw_all := lw_g (lw_at lw_m8 210 rfl) rfl
theorem q1945 : (Jvm.Cond.fieldLink "WillowPrintersModel" (25 : Nat) "WillowPrintersModel" "error" "I") ∈ lw_all := lw_g (lw_at lw_m8 211 rfl) rfl
theorem q1946 : (Jvm.Cond.fieldLink "WillowPrintersModel" (29 : Nat) "WillowPrintersModel" "item" "I") ∈ lw_all := lw_g (lw_at lw_m8 212 rfl) rfl
theorem q1947 : (Jvm.Cond.fieldLink "WillowPrintersModel" (32 : Nat) "WillowPrintersModel" "signs" "[C") ∈ lw_all := lw_g (lw_at lw_m8 213 rfl) rfl
theorem q1948 : (Jvm.Cond.fieldLink "WillowPrintersModel" (146 : Nat) "WillowPrintersModel" "signMany" "I") ∈ lw_all := lw_g (lw_at lw_m8 214 rfl) rfl
theorem q1949 : (Jvm.Cond.fieldLink "WillowPrintersModel" (191 : Nat) "WillowPrintersModel" "at" "I") ∈ lw_all := lw_g (lw_at lw_m8 215 rfl) rfl
theorem q1950 : (Jvm.Cond.fieldLink "WillowPrintersModel" (36 : Nat) "WillowPrintersModel" "told" "[I") ∈ lw_all := lw_g (lw_at lw_m8 216 rfl) rfl
theorem q1951 : (Jvm.Cond.fieldLink "WillowPrintersModel" (200 : Nat) "WillowPrintersModel" "toldMany" "I") ∈ lw_all := lw_g (lw_at lw_m8 217 rfl) rfl
theorem q1952 : (Jvm.Cond.laysFinal "WillowPrintersModel" "WillowPrintersModel" "g" "[I") ∈ lw_all := lw_g (lw_at lw_m8 218 rfl) rfl
theorem q1953 : (Jvm.Cond.soleField "WillowPrintersModel" "g") ∈ lw_all := lw_g (lw_at lw_m8 219 rfl) rfl
theorem q1954 : (Jvm.Cond.laysFinal "WillowPrintersModel" "WillowPrintersModel" "kept" "[I") ∈ lw_all := lw_g (lw_at lw_m8 220 rfl) rfl
theorem q1955 : (Jvm.Cond.soleField "WillowPrintersModel" "kept") ∈ lw_all := lw_g (lw_at lw_m8 221 rfl) rfl
theorem q1956 : (Jvm.Cond.laysFinal "WillowPrintersModel" "WillowPrintersModel" "saved" "[I") ∈ lw_all := lw_g (lw_at lw_m8 222 rfl) rfl
theorem q1957 : (Jvm.Cond.soleField "WillowPrintersModel" "saved") ∈ lw_all := lw_g (lw_at lw_m8 223 rfl) rfl
theorem q1958 : (Jvm.Cond.laysFinal "WillowPrintersModel" "WillowPrintersModel" "before" "[I") ∈ lw_all := lw_g (lw_at lw_m8 224 rfl) rfl
theorem q1959 : (Jvm.Cond.soleField "WillowPrintersModel" "before") ∈ lw_all := lw_g (lw_at lw_m8 225 rfl) rfl
theorem q1960 : (Jvm.Cond.lays "WillowPrintersModel" "WillowPrintersModel" "isSaved" "Z") ∈ lw_all := lw_g (lw_at lw_m8 226 rfl) rfl
theorem q1961 : (Jvm.Cond.soleField "WillowPrintersModel" "isSaved") ∈ lw_all := lw_g (lw_at lw_m8 227 rfl) rfl
theorem q1962 : (Jvm.Cond.lays "WillowPrintersModel" "WillowPrintersModel" "changes" "I") ∈ lw_all := lw_g (lw_at lw_m8 228 rfl) rfl
theorem q1963 : (Jvm.Cond.soleField "WillowPrintersModel" "changes") ∈ lw_all := lw_g (lw_at lw_m8 229 rfl) rfl
theorem q1964 : (Jvm.Cond.lays "WillowPrintersModel" "WillowPrintersModel" "isWithin" "Z") ∈ lw_all := lw_g (lw_at lw_m8 230 rfl) rfl
theorem q1965 : (Jvm.Cond.soleField "WillowPrintersModel" "isWithin") ∈ lw_all := lw_g (lw_at lw_m8 231 rfl) rfl
theorem q1966 : (Jvm.Cond.lays "WillowPrintersModel" "WillowPrintersModel" "code" "I") ∈ lw_all := lw_g (lw_at lw_m8 232 rfl) rfl
theorem q1967 : (Jvm.Cond.soleField "WillowPrintersModel" "code") ∈ lw_all := lw_g (lw_at lw_m8 233 rfl) rfl
theorem q1968 : (Jvm.Cond.lays "WillowPrintersModel" "WillowPrintersModel" "why" "I") ∈ lw_all := lw_g (lw_at lw_m8 234 rfl) rfl
theorem q1969 : (Jvm.Cond.soleField "WillowPrintersModel" "why") ∈ lw_all := lw_g (lw_at lw_m8 235 rfl) rfl
theorem q1970 : (Jvm.Cond.lays "WillowPrintersModel" "WillowPrintersModel" "detail" "I") ∈ lw_all := lw_g (lw_at lw_m8 236 rfl) rfl
theorem q1971 : (Jvm.Cond.soleField "WillowPrintersModel" "detail") ∈ lw_all := lw_g (lw_at lw_m8 237 rfl) rfl
theorem q1972 : (Jvm.Cond.laysFinal "WillowPrintersModel" "WillowPrintersModel" "input" "[I") ∈ lw_all := lw_g (lw_at lw_m8 238 rfl) rfl
theorem q1973 : (Jvm.Cond.soleField "WillowPrintersModel" "input") ∈ lw_all := lw_g (lw_at lw_m8 239 rfl) rfl
theorem q1974 : (Jvm.Cond.lays "WillowPrintersModel" "WillowPrintersModel" "length" "I") ∈ lw_all := lw_g (lw_at lw_m9 0 rfl) rfl
theorem q1975 : (Jvm.Cond.soleField "WillowPrintersModel" "length") ∈ lw_all := lw_g (lw_at lw_m9 1 rfl) rfl
theorem q1976 : (Jvm.Cond.lays "WillowPrintersModel" "WillowPrintersModel" "error" "I") ∈ lw_all := lw_g (lw_at lw_m9 2 rfl) rfl
theorem q1977 : (Jvm.Cond.soleField "WillowPrintersModel" "error") ∈ lw_all := lw_g (lw_at lw_m9 3 rfl) rfl
theorem q1978 : (Jvm.Cond.lays "WillowPrintersModel" "WillowPrintersModel" "item" "I") ∈ lw_all := lw_g (lw_at lw_m9 4 rfl) rfl
theorem q1979 : (Jvm.Cond.soleField "WillowPrintersModel" "item") ∈ lw_all := lw_g (lw_at lw_m9 5 rfl) rfl
theorem q1980 : (Jvm.Cond.laysFinal "WillowPrintersModel" "WillowPrintersModel" "signs" "[C") ∈ lw_all := lw_g (lw_at lw_m9 6 rfl) rfl
theorem q1981 : (Jvm.Cond.soleField "WillowPrintersModel" "signs") ∈ lw_all := lw_g (lw_at lw_m9 7 rfl) rfl
theorem q1982 : (Jvm.Cond.lays "WillowPrintersModel" "WillowPrintersModel" "signMany" "I") ∈ lw_all := lw_g (lw_at lw_m9 8 rfl) rfl
theorem q1983 : (Jvm.Cond.soleField "WillowPrintersModel" "signMany") ∈ lw_all := lw_g (lw_at lw_m9 9 rfl) rfl
theorem q1984 : (Jvm.Cond.lays "WillowPrintersModel" "WillowPrintersModel" "at" "I") ∈ lw_all := lw_g (lw_at lw_m9 10 rfl) rfl
theorem q1985 : (Jvm.Cond.soleField "WillowPrintersModel" "at") ∈ lw_all := lw_g (lw_at lw_m9 11 rfl) rfl
theorem q1986 : (Jvm.Cond.laysFinal "WillowPrintersModel" "WillowPrintersModel" "told" "[I") ∈ lw_all := lw_g (lw_at lw_m9 12 rfl) rfl
theorem q1987 : (Jvm.Cond.soleField "WillowPrintersModel" "told") ∈ lw_all := lw_g (lw_at lw_m9 13 rfl) rfl
theorem q1988 : (Jvm.Cond.lays "WillowPrintersModel" "WillowPrintersModel" "toldMany" "I") ∈ lw_all := lw_g (lw_at lw_m9 14 rfl) rfl
theorem q1989 : (Jvm.Cond.soleField "WillowPrintersModel" "toldMany") ∈ lw_all := lw_g (lw_at lw_m9 15 rfl) rfl
theorem q1990 : (Jvm.Cond.superclass "WillowPrintersModel" "java/lang/Object") ∈ lw_all := lw_g (lw_at lw_m9 16 rfl) rfl
theorem q1994 : (Jvm.Cond.instanceMethod ({ cls := "WillowPrintersModel", name := "thrown", desc := "()I" } : Jvm.MethodName)) ∈ lw_all := lw_g (lw_at lw_m9 20 rfl) rfl
theorem q1995 : (Jvm.Cond.selects "WillowPrintersModel" ({ cls := "WillowPrintersModel", name := "thrown", desc := "()I" } : Jvm.MethodName) ({ cls := "WillowPrintersModel", name := "thrown", desc := "()I" } : Jvm.MethodName)) ∈ lw_all := lw_g (lw_at lw_m9 21 rfl) rfl
theorem q1996 : (Jvm.Cond.code ({ cls := "WillowPrintersModel", name := "thrown", desc := "()I" } : Jvm.MethodName) prog_24_method_3_code (1 : Nat) (Option.some Jvm.ClassFile.FieldType.int)) ∈ lw_all := lw_g (lw_at lw_m9 22 rfl) rfl
theorem q1998 : (Jvm.Cond.instanceMethod ({ cls := "WillowPrintersModel", name := "clear", desc := "()I" } : Jvm.MethodName)) ∈ lw_all := lw_g (lw_at lw_m9 24 rfl) rfl
theorem q1999 : (Jvm.Cond.selects "WillowPrintersModel" ({ cls := "WillowPrintersModel", name := "clear", desc := "()I" } : Jvm.MethodName) ({ cls := "WillowPrintersModel", name := "clear", desc := "()I" } : Jvm.MethodName)) ∈ lw_all := lw_g (lw_at lw_m9 25 rfl) rfl
theorem q2000 : (Jvm.Cond.code ({ cls := "WillowPrintersModel", name := "clear", desc := "()I" } : Jvm.MethodName) prog_24_method_24_code (2 : Nat) (Option.some Jvm.ClassFile.FieldType.int)) ∈ lw_all := lw_g (lw_at lw_m9 26 rfl) rfl
theorem q2002 : (Jvm.Cond.instanceMethod ({ cls := "WillowPrintersModel", name := "sheets", desc := "(I)I" } : Jvm.MethodName)) ∈ lw_all := lw_g (lw_at lw_m9 28 rfl) rfl
theorem q2003 : (Jvm.Cond.selects "WillowPrintersModel" ({ cls := "WillowPrintersModel", name := "sheets", desc := "(I)I" } : Jvm.MethodName) ({ cls := "WillowPrintersModel", name := "sheets", desc := "(I)I" } : Jvm.MethodName)) ∈ lw_all := lw_g (lw_at lw_m9 29 rfl) rfl
theorem q2004 : (Jvm.Cond.code ({ cls := "WillowPrintersModel", name := "sheets", desc := "(I)I" } : Jvm.MethodName) prog_24_method_25_code (3 : Nat) (Option.some Jvm.ClassFile.FieldType.int)) ∈ lw_all := lw_g (lw_at lw_m9 30 rfl) rfl
theorem q2005 : (Jvm.Cond.methodLink "WillowPrintersModel" (62 : Nat) ({ cls := "WillowPrintersModel", name := "in", desc := "(III)Z" } : Jvm.MethodName)) ∈ lw_all := lw_g (lw_at lw_m9 31 rfl) rfl
theorem q2006 : (Jvm.Cond.static ({ cls := "WillowPrintersModel", name := "in", desc := "(III)Z" } : Jvm.MethodName)) ∈ lw_all := lw_g (lw_at lw_m9 32 rfl) rfl
theorem q2007 : (Jvm.Cond.code ({ cls := "WillowPrintersModel", name := "in", desc := "(III)Z" } : Jvm.MethodName) prog_24_method_6_code (3 : Nat) (Option.some Jvm.ClassFile.FieldType.boolean)) ∈ lw_all := lw_g (lw_at lw_m9 33 rfl) rfl
theorem q2008 : (Jvm.Cond.methodLink "WillowPrintersModel" (66 : Nat) ({ cls := "WillowPrintersModel", name := "fails", desc := "(I)Z" } : Jvm.MethodName)) ∈ lw_all := lw_g (lw_at lw_m9 34 rfl) rfl
theorem q2009 : (Jvm.Cond.privateMethod ({ cls := "WillowPrintersModel", name := "fails", desc := "(I)Z" } : Jvm.MethodName)) ∈ lw_tbl := lw_at lw_m9 35 rfl
theorem q2010 : (Jvm.Cond.instanceMethod ({ cls := "WillowPrintersModel", name := "fails", desc := "(I)Z" } : Jvm.MethodName)) ∈ lw_all := lw_g (lw_at lw_m9 36 rfl) rfl
theorem q2011 : (Jvm.Cond.code ({ cls := "WillowPrintersModel", name := "fails", desc := "(I)Z" } : Jvm.MethodName) prog_24_method_4_code (2 : Nat) (Option.some Jvm.ClassFile.FieldType.boolean)) ∈ lw_all := lw_g (lw_at lw_m9 37 rfl) rfl
theorem q2012 : (Jvm.Cond.methodLink "WillowPrintersModel" (70 : Nat) ({ cls := "WillowPrintersModel", name := "refuses", desc := "(III)I" } : Jvm.MethodName)) ∈ lw_all := lw_g (lw_at lw_m9 38 rfl) rfl
theorem q2013 : (Jvm.Cond.privateMethod ({ cls := "WillowPrintersModel", name := "refuses", desc := "(III)I" } : Jvm.MethodName)) ∈ lw_tbl := lw_at lw_m9 39 rfl
theorem q2014 : (Jvm.Cond.instanceMethod ({ cls := "WillowPrintersModel", name := "refuses", desc := "(III)I" } : Jvm.MethodName)) ∈ lw_all := lw_g (lw_at lw_m9 40 rfl) rfl
theorem q2015 : (Jvm.Cond.code ({ cls := "WillowPrintersModel", name := "refuses", desc := "(III)I" } : Jvm.MethodName) prog_24_method_5_code (4 : Nat) (Option.some Jvm.ClassFile.FieldType.int)) ∈ lw_all := lw_g (lw_at lw_m9 41 rfl) rfl
theorem q2016 : (Jvm.Cond.methodLink "WillowPrintersModel" (74 : Nat) ({ cls := "WillowPrintersModel", name := "keeps", desc := "([I)V" } : Jvm.MethodName)) ∈ lw_all := lw_g (lw_at lw_m9 42 rfl) rfl
theorem q2017 : (Jvm.Cond.privateMethod ({ cls := "WillowPrintersModel", name := "keeps", desc := "([I)V" } : Jvm.MethodName)) ∈ lw_tbl := lw_at lw_m9 43 rfl
theorem q2018 : (Jvm.Cond.instanceMethod ({ cls := "WillowPrintersModel", name := "keeps", desc := "([I)V" } : Jvm.MethodName)) ∈ lw_all := lw_g (lw_at lw_m9 44 rfl) rfl
theorem q2019 : (Jvm.Cond.code ({ cls := "WillowPrintersModel", name := "keeps", desc := "([I)V" } : Jvm.MethodName) prog_24_method_10_code (3 : Nat) (Option.none : Option Jvm.ClassFile.FieldType)) ∈ lw_all := lw_g (lw_at lw_m9 45 rfl) rfl
theorem q2020 : (Jvm.Cond.methodLink "WillowPrintersModel" (58 : Nat) ({ cls := "WillowPrintersModel", name := "copies", desc := "([II[II)V" } : Jvm.MethodName)) ∈ lw_all := lw_g (lw_at lw_m9 46 rfl) rfl
theorem q2021 : (Jvm.Cond.static ({ cls := "WillowPrintersModel", name := "copies", desc := "([II[II)V" } : Jvm.MethodName)) ∈ lw_all := lw_g (lw_at lw_m9 47 rfl) rfl
theorem q2022 : (Jvm.Cond.code ({ cls := "WillowPrintersModel", name := "copies", desc := "([II[II)V" } : Jvm.MethodName) prog_24_method_9_code (5 : Nat) (Option.none : Option Jvm.ClassFile.FieldType)) ∈ lw_all := lw_g (lw_at lw_m9 48 rfl) rfl
theorem q2023 : (Jvm.Cond.methodLink "WillowPrintersModel" (78 : Nat) ({ cls := "WillowPrintersModel", name := "pays", desc := "(I)V" } : Jvm.MethodName)) ∈ lw_all := lw_g (lw_at lw_m9 49 rfl) rfl
theorem q2024 : (Jvm.Cond.privateMethod ({ cls := "WillowPrintersModel", name := "pays", desc := "(I)V" } : Jvm.MethodName)) ∈ lw_tbl := lw_at lw_m9 50 rfl
theorem q2025 : (Jvm.Cond.instanceMethod ({ cls := "WillowPrintersModel", name := "pays", desc := "(I)V" } : Jvm.MethodName)) ∈ lw_all := lw_g (lw_at lw_m9 51 rfl) rfl
theorem q2026 : (Jvm.Cond.code ({ cls := "WillowPrintersModel", name := "pays", desc := "(I)V" } : Jvm.MethodName) prog_24_method_22_code (2 : Nat) (Option.none : Option Jvm.ClassFile.FieldType)) ∈ lw_all := lw_g (lw_at lw_m9 52 rfl) rfl
theorem q2028 : (Jvm.Cond.instanceMethod ({ cls := "WillowPrintersModel", name := "damp", desc := "(I)I" } : Jvm.MethodName)) ∈ lw_all := lw_g (lw_at lw_m9 54 rfl) rfl
theorem q2029 : (Jvm.Cond.selects "WillowPrintersModel" ({ cls := "WillowPrintersModel", name := "damp", desc := "(I)I" } : Jvm.MethodName) ({ cls := "WillowPrintersModel", name := "damp", desc := "(I)I" } : Jvm.MethodName)) ∈ lw_all := lw_g (lw_at lw_m9 55 rfl) rfl
theorem q2030 : (Jvm.Cond.code ({ cls := "WillowPrintersModel", name := "damp", desc := "(I)I" } : Jvm.MethodName) prog_24_method_26_code (3 : Nat) (Option.some Jvm.ClassFile.FieldType.int)) ∈ lw_all := lw_g (lw_at lw_m9 56 rfl) rfl
theorem q2032 : (Jvm.Cond.instanceMethod ({ cls := "WillowPrintersModel", name := "copper", desc := "(I)I" } : Jvm.MethodName)) ∈ lw_all := lw_g (lw_at lw_m9 58 rfl) rfl
theorem q2033 : (Jvm.Cond.selects "WillowPrintersModel" ({ cls := "WillowPrintersModel", name := "copper", desc := "(I)I" } : Jvm.MethodName) ({ cls := "WillowPrintersModel", name := "copper", desc := "(I)I" } : Jvm.MethodName)) ∈ lw_all := lw_g (lw_at lw_m9 59 rfl) rfl
theorem q2034 : (Jvm.Cond.code ({ cls := "WillowPrintersModel", name := "copper", desc := "(I)I" } : Jvm.MethodName) prog_24_method_27_code (3 : Nat) (Option.some Jvm.ClassFile.FieldType.int)) ∈ lw_all := lw_g (lw_at lw_m9 60 rfl) rfl
theorem q2036 : (Jvm.Cond.instanceMethod ({ cls := "WillowPrintersModel", name := "copperOf", desc := "(II)I" } : Jvm.MethodName)) ∈ lw_all := lw_g (lw_at lw_m9 62 rfl) rfl
theorem q2037 : (Jvm.Cond.selects "WillowPrintersModel" ({ cls := "WillowPrintersModel", name := "copperOf", desc := "(II)I" } : Jvm.MethodName) ({ cls := "WillowPrintersModel", name := "copperOf", desc := "(II)I" } : Jvm.MethodName)) ∈ lw_all := lw_g (lw_at lw_m9 63 rfl) rfl
theorem q2038 : (Jvm.Cond.code ({ cls := "WillowPrintersModel", name := "copperOf", desc := "(II)I" } : Jvm.MethodName) prog_24_method_29_code (3 : Nat) (Option.some Jvm.ClassFile.FieldType.int)) ∈ lw_all := lw_g (lw_at lw_m9 64 rfl) rfl
theorem q2039 : (Jvm.Cond.methodLink "WillowPrintersModel" (93 : Nat) ({ cls := "WillowPrintersModel", name := "isCopper", desc := "(I)Z" } : Jvm.MethodName)) ∈ lw_all := lw_g (lw_at lw_m9 65 rfl) rfl
theorem q2040 : (Jvm.Cond.privateMethod ({ cls := "WillowPrintersModel", name := "isCopper", desc := "(I)Z" } : Jvm.MethodName)) ∈ lw_tbl := lw_at lw_m9 66 rfl
theorem q2041 : (Jvm.Cond.instanceMethod ({ cls := "WillowPrintersModel", name := "isCopper", desc := "(I)Z" } : Jvm.MethodName)) ∈ lw_all := lw_g (lw_at lw_m9 67 rfl) rfl
theorem q2042 : (Jvm.Cond.code ({ cls := "WillowPrintersModel", name := "isCopper", desc := "(I)Z" } : Jvm.MethodName) prog_24_method_11_code (2 : Nat) (Option.some Jvm.ClassFile.FieldType.boolean)) ∈ lw_all := lw_g (lw_at lw_m9 68 rfl) rfl
theorem q2043 : (Jvm.Cond.methodLink "WillowPrintersModel" (96 : Nat) ({ cls := "WillowPrintersModel", name := "wellBy", desc := "(I)I" } : Jvm.MethodName)) ∈ lw_all := lw_g (lw_at lw_m9 69 rfl) rfl
theorem q2044 : (Jvm.Cond.privateMethod ({ cls := "WillowPrintersModel", name := "wellBy", desc := "(I)I" } : Jvm.MethodName)) ∈ lw_tbl := lw_at lw_m9 70 rfl
theorem q2045 : (Jvm.Cond.instanceMethod ({ cls := "WillowPrintersModel", name := "wellBy", desc := "(I)I" } : Jvm.MethodName)) ∈ lw_all := lw_g (lw_at lw_m9 71 rfl) rfl
theorem q2046 : (Jvm.Cond.code ({ cls := "WillowPrintersModel", name := "wellBy", desc := "(I)I" } : Jvm.MethodName) prog_24_method_28_code (2 : Nat) (Option.some Jvm.ClassFile.FieldType.int)) ∈ lw_all := lw_g (lw_at lw_m9 72 rfl) rfl
theorem q2047 : (Jvm.Cond.methodLink "WillowPrintersModel" (82 : Nat) ({ cls := "WillowPrintersModel", name := "ofCopper", desc := "(II)I" } : Jvm.MethodName)) ∈ lw_all := lw_g (lw_at lw_m9 73 rfl) rfl
theorem q2048 : (Jvm.Cond.privateMethod ({ cls := "WillowPrintersModel", name := "ofCopper", desc := "(II)I" } : Jvm.MethodName)) ∈ lw_tbl := lw_at lw_m9 74 rfl
theorem q2049 : (Jvm.Cond.instanceMethod ({ cls := "WillowPrintersModel", name := "ofCopper", desc := "(II)I" } : Jvm.MethodName)) ∈ lw_all := lw_g (lw_at lw_m9 75 rfl) rfl
theorem q2050 : (Jvm.Cond.code ({ cls := "WillowPrintersModel", name := "ofCopper", desc := "(II)I" } : Jvm.MethodName) prog_24_method_15_code (3 : Nat) (Option.some Jvm.ClassFile.FieldType.int)) ∈ lw_all := lw_g (lw_at lw_m9 76 rfl) rfl
theorem q2051 : (Jvm.Cond.methodLink "WillowPrintersModel" (86 : Nat) ({ cls := "WillowPrintersModel", name := "size", desc := "(I)I" } : Jvm.MethodName)) ∈ lw_all := lw_g (lw_at lw_m9 77 rfl) rfl
theorem q2052 : (Jvm.Cond.static ({ cls := "WillowPrintersModel", name := "size", desc := "(I)I" } : Jvm.MethodName)) ∈ lw_all := lw_g (lw_at lw_m9 78 rfl) rfl
theorem q2053 : (Jvm.Cond.code ({ cls := "WillowPrintersModel", name := "size", desc := "(I)I" } : Jvm.MethodName) prog_24_method_8_code (1 : Nat) (Option.some Jvm.ClassFile.FieldType.int)) ∈ lw_all := lw_g (lw_at lw_m9 79 rfl) rfl
theorem q2054 : (Jvm.Cond.methodLink "WillowPrintersModel" (90 : Nat) ({ cls := "WillowPrintersModel", name := "more", desc := "(II)I" } : Jvm.MethodName)) ∈ lw_all := lw_g (lw_at lw_m9 80 rfl) rfl
theorem q2055 : (Jvm.Cond.static ({ cls := "WillowPrintersModel", name := "more", desc := "(II)I" } : Jvm.MethodName)) ∈ lw_all := lw_g (lw_at lw_m9 81 rfl) rfl
theorem q2056 : (Jvm.Cond.code ({ cls := "WillowPrintersModel", name := "more", desc := "(II)I" } : Jvm.MethodName) prog_24_method_7_code (2 : Nat) (Option.some Jvm.ClassFile.FieldType.int)) ∈ lw_all := lw_g (lw_at lw_m9 82 rfl) rfl
theorem q2058 : (Jvm.Cond.instanceMethod ({ cls := "WillowPrintersModel", name := "wellAgain", desc := "(I)I" } : Jvm.MethodName)) ∈ lw_all := lw_g (lw_at lw_m9 84 rfl) rfl
theorem q2059 : (Jvm.Cond.selects "WillowPrintersModel" ({ cls := "WillowPrintersModel", name := "wellAgain", desc := "(I)I" } : Jvm.MethodName) ({ cls := "WillowPrintersModel", name := "wellAgain", desc := "(I)I" } : Jvm.MethodName)) ∈ lw_all := lw_g (lw_at lw_m9 85 rfl) rfl
theorem q2060 : (Jvm.Cond.code ({ cls := "WillowPrintersModel", name := "wellAgain", desc := "(I)I" } : Jvm.MethodName) prog_24_method_30_code (4 : Nat) (Option.some Jvm.ClassFile.FieldType.int)) ∈ lw_all := lw_g (lw_at lw_m9 86 rfl) rfl
theorem q2062 : (Jvm.Cond.instanceMethod ({ cls := "WillowPrintersModel", name := "bestCopper", desc := "(I)I" } : Jvm.MethodName)) ∈ lw_all := lw_g (lw_at lw_m9 88 rfl) rfl
theorem q2063 : (Jvm.Cond.selects "WillowPrintersModel" ({ cls := "WillowPrintersModel", name := "bestCopper", desc := "(I)I" } : Jvm.MethodName) ({ cls := "WillowPrintersModel", name := "bestCopper", desc := "(I)I" } : Jvm.MethodName)) ∈ lw_all := lw_g (lw_at lw_m9 89 rfl) rfl
theorem q2064 : (Jvm.Cond.code ({ cls := "WillowPrintersModel", name := "bestCopper", desc := "(I)I" } : Jvm.MethodName) prog_24_method_31_code (4 : Nat) (Option.some Jvm.ClassFile.FieldType.int)) ∈ lw_all := lw_g (lw_at lw_m9 90 rfl) rfl
theorem q2065 : (Jvm.Cond.methodLink "WillowPrintersModel" (99 : Nat) ({ cls := "WillowPrintersModel", name := "isLot", desc := "(I)Z" } : Jvm.MethodName)) ∈ lw_all := lw_g (lw_at lw_m9 91 rfl) rfl
theorem q2066 : (Jvm.Cond.privateMethod ({ cls := "WillowPrintersModel", name := "isLot", desc := "(I)Z" } : Jvm.MethodName)) ∈ lw_tbl := lw_at lw_m9 92 rfl
theorem q2067 : (Jvm.Cond.instanceMethod ({ cls := "WillowPrintersModel", name := "isLot", desc := "(I)Z" } : Jvm.MethodName)) ∈ lw_all := lw_g (lw_at lw_m9 93 rfl) rfl
theorem q2068 : (Jvm.Cond.code ({ cls := "WillowPrintersModel", name := "isLot", desc := "(I)Z" } : Jvm.MethodName) prog_24_method_12_code (2 : Nat) (Option.some Jvm.ClassFile.FieldType.boolean)) ∈ lw_all := lw_g (lw_at lw_m9 94 rfl) rfl
theorem q2069 : (Jvm.Cond.methodLink "WillowPrintersModel" (102 : Nat) ({ cls := "WillowPrintersModel", name := "of", desc := "(II)I" } : Jvm.MethodName)) ∈ lw_all := lw_g (lw_at lw_m9 95 rfl) rfl
theorem q2070 : (Jvm.Cond.privateMethod ({ cls := "WillowPrintersModel", name := "of", desc := "(II)I" } : Jvm.MethodName)) ∈ lw_tbl := lw_at lw_m9 96 rfl
theorem q2071 : (Jvm.Cond.instanceMethod ({ cls := "WillowPrintersModel", name := "of", desc := "(II)I" } : Jvm.MethodName)) ∈ lw_all := lw_g (lw_at lw_m9 97 rfl) rfl
theorem q2072 : (Jvm.Cond.code ({ cls := "WillowPrintersModel", name := "of", desc := "(II)I" } : Jvm.MethodName) prog_24_method_16_code (3 : Nat) (Option.some Jvm.ClassFile.FieldType.int)) ∈ lw_all := lw_g (lw_at lw_m9 98 rfl) rfl
theorem q2074 : (Jvm.Cond.instanceMethod ({ cls := "WillowPrintersModel", name := "lot", desc := "(I)I" } : Jvm.MethodName)) ∈ lw_all := lw_g (lw_at lw_m9 100 rfl) rfl
theorem q2075 : (Jvm.Cond.selects "WillowPrintersModel" ({ cls := "WillowPrintersModel", name := "lot", desc := "(I)I" } : Jvm.MethodName) ({ cls := "WillowPrintersModel", name := "lot", desc := "(I)I" } : Jvm.MethodName)) ∈ lw_all := lw_g (lw_at lw_m9 101 rfl) rfl
theorem q2076 : (Jvm.Cond.code ({ cls := "WillowPrintersModel", name := "lot", desc := "(I)I" } : Jvm.MethodName) prog_24_method_32_code (4 : Nat) (Option.some Jvm.ClassFile.FieldType.int)) ∈ lw_all := lw_g (lw_at lw_m9 102 rfl) rfl
theorem q2077 : (Jvm.Cond.methodLink "WillowPrintersModel" (105 : Nat) ({ cls := "WillowPrintersModel", name := "lays", desc := "(III)V" } : Jvm.MethodName)) ∈ lw_all := lw_g (lw_at lw_m9 103 rfl) rfl
theorem q2078 : (Jvm.Cond.privateMethod ({ cls := "WillowPrintersModel", name := "lays", desc := "(III)V" } : Jvm.MethodName)) ∈ lw_tbl := lw_at lw_m9 104 rfl
theorem q2079 : (Jvm.Cond.instanceMethod ({ cls := "WillowPrintersModel", name := "lays", desc := "(III)V" } : Jvm.MethodName)) ∈ lw_all := lw_g (lw_at lw_m9 105 rfl) rfl
theorem q2080 : (Jvm.Cond.code ({ cls := "WillowPrintersModel", name := "lays", desc := "(III)V" } : Jvm.MethodName) prog_24_method_17_code (4 : Nat) (Option.none : Option Jvm.ClassFile.FieldType)) ∈ lw_all := lw_g (lw_at lw_m9 106 rfl) rfl
theorem q2082 : (Jvm.Cond.instanceMethod ({ cls := "WillowPrintersModel", name := "lotOf", desc := "(II)I" } : Jvm.MethodName)) ∈ lw_all := lw_g (lw_at lw_m9 108 rfl) rfl
theorem q2083 : (Jvm.Cond.selects "WillowPrintersModel" ({ cls := "WillowPrintersModel", name := "lotOf", desc := "(II)I" } : Jvm.MethodName) ({ cls := "WillowPrintersModel", name := "lotOf", desc := "(II)I" } : Jvm.MethodName)) ∈ lw_all := lw_g (lw_at lw_m9 109 rfl) rfl
theorem q2084 : (Jvm.Cond.code ({ cls := "WillowPrintersModel", name := "lotOf", desc := "(II)I" } : Jvm.MethodName) prog_24_method_33_code (3 : Nat) (Option.some Jvm.ClassFile.FieldType.int)) ∈ lw_all := lw_g (lw_at lw_m9 110 rfl) rfl
theorem q2085 : (Jvm.Cond.methodLink "WillowPrintersModel" (109 : Nat) ({ cls := "WillowPrintersModel", name := "ofKiln", desc := "(II)I" } : Jvm.MethodName)) ∈ lw_all := lw_g (lw_at lw_m9 111 rfl) rfl
theorem q2086 : (Jvm.Cond.privateMethod ({ cls := "WillowPrintersModel", name := "ofKiln", desc := "(II)I" } : Jvm.MethodName)) ∈ lw_tbl := lw_at lw_m9 112 rfl
theorem q2087 : (Jvm.Cond.instanceMethod ({ cls := "WillowPrintersModel", name := "ofKiln", desc := "(II)I" } : Jvm.MethodName)) ∈ lw_all := lw_g (lw_at lw_m9 113 rfl) rfl
theorem q2088 : (Jvm.Cond.code ({ cls := "WillowPrintersModel", name := "ofKiln", desc := "(II)I" } : Jvm.MethodName) prog_24_method_18_code (3 : Nat) (Option.some Jvm.ClassFile.FieldType.int)) ∈ lw_all := lw_g (lw_at lw_m9 114 rfl) rfl
theorem q2090 : (Jvm.Cond.instanceMethod ({ cls := "WillowPrintersModel", name := "print", desc := "(II)I" } : Jvm.MethodName)) ∈ lw_all := lw_g (lw_at lw_m9 116 rfl) rfl
theorem q2091 : (Jvm.Cond.selects "WillowPrintersModel" ({ cls := "WillowPrintersModel", name := "print", desc := "(II)I" } : Jvm.MethodName) ({ cls := "WillowPrintersModel", name := "print", desc := "(II)I" } : Jvm.MethodName)) ∈ lw_all := lw_g (lw_at lw_m9 117 rfl) rfl
theorem q2092 : (Jvm.Cond.code ({ cls := "WillowPrintersModel", name := "print", desc := "(II)I" } : Jvm.MethodName) prog_24_method_34_code (5 : Nat) (Option.some Jvm.ClassFile.FieldType.int)) ∈ lw_all := lw_g (lw_at lw_m9 118 rfl) rfl
theorem q2094 : (Jvm.Cond.instanceMethod ({ cls := "WillowPrintersModel", name := "kiln", desc := "(I)I" } : Jvm.MethodName)) ∈ lw_all := lw_g (lw_at lw_m9 120 rfl) rfl
theorem q2095 : (Jvm.Cond.selects "WillowPrintersModel" ({ cls := "WillowPrintersModel", name := "kiln", desc := "(I)I" } : Jvm.MethodName) ({ cls := "WillowPrintersModel", name := "kiln", desc := "(I)I" } : Jvm.MethodName)) ∈ lw_all := lw_g (lw_at lw_m9 121 rfl) rfl
theorem q2096 : (Jvm.Cond.code ({ cls := "WillowPrintersModel", name := "kiln", desc := "(I)I" } : Jvm.MethodName) prog_24_method_35_code (3 : Nat) (Option.some Jvm.ClassFile.FieldType.int)) ∈ lw_all := lw_g (lw_at lw_m9 122 rfl) rfl
theorem q2097 : (Jvm.Cond.methodLink "WillowPrintersModel" (112 : Nat) ({ cls := "WillowPrintersModel", name := "laysKiln", desc := "(III)V" } : Jvm.MethodName)) ∈ lw_all := lw_g (lw_at lw_m9 123 rfl) rfl
theorem q2098 : (Jvm.Cond.privateMethod ({ cls := "WillowPrintersModel", name := "laysKiln", desc := "(III)V" } : Jvm.MethodName)) ∈ lw_tbl := lw_at lw_m9 124 rfl
theorem q2099 : (Jvm.Cond.instanceMethod ({ cls := "WillowPrintersModel", name := "laysKiln", desc := "(III)V" } : Jvm.MethodName)) ∈ lw_all := lw_g (lw_at lw_m9 125 rfl) rfl
theorem q2100 : (Jvm.Cond.code ({ cls := "WillowPrintersModel", name := "laysKiln", desc := "(III)V" } : Jvm.MethodName) prog_24_method_19_code (4 : Nat) (Option.none : Option Jvm.ClassFile.FieldType)) ∈ lw_all := lw_g (lw_at lw_m9 126 rfl) rfl
theorem q2102 : (Jvm.Cond.instanceMethod ({ cls := "WillowPrintersModel", name := "kilnOf", desc := "(II)I" } : Jvm.MethodName)) ∈ lw_all := lw_g (lw_at lw_m9 128 rfl) rfl
theorem q2103 : (Jvm.Cond.selects "WillowPrintersModel" ({ cls := "WillowPrintersModel", name := "kilnOf", desc := "(II)I" } : Jvm.MethodName) ({ cls := "WillowPrintersModel", name := "kilnOf", desc := "(II)I" } : Jvm.MethodName)) ∈ lw_all := lw_g (lw_at lw_m9 129 rfl) rfl
theorem q2104 : (Jvm.Cond.code ({ cls := "WillowPrintersModel", name := "kilnOf", desc := "(II)I" } : Jvm.MethodName) prog_24_method_36_code (3 : Nat) (Option.some Jvm.ClassFile.FieldType.int)) ∈ lw_all := lw_g (lw_at lw_m9 130 rfl) rfl
theorem q2105 : (Jvm.Cond.methodLink "WillowPrintersModel" (115 : Nat) ({ cls := "WillowPrintersModel", name := "isKiln", desc := "(I)Z" } : Jvm.MethodName)) ∈ lw_all := lw_g (lw_at lw_m9 131 rfl) rfl
theorem q2106 : (Jvm.Cond.privateMethod ({ cls := "WillowPrintersModel", name := "isKiln", desc := "(I)Z" } : Jvm.MethodName)) ∈ lw_tbl := lw_at lw_m9 132 rfl
theorem q2107 : (Jvm.Cond.instanceMethod ({ cls := "WillowPrintersModel", name := "isKiln", desc := "(I)Z" } : Jvm.MethodName)) ∈ lw_all := lw_g (lw_at lw_m9 133 rfl) rfl
theorem q2108 : (Jvm.Cond.code ({ cls := "WillowPrintersModel", name := "isKiln", desc := "(I)Z" } : Jvm.MethodName) prog_24_method_13_code (2 : Nat) (Option.some Jvm.ClassFile.FieldType.boolean)) ∈ lw_all := lw_g (lw_at lw_m9 134 rfl) rfl
theorem q2110 : (Jvm.Cond.instanceMethod ({ cls := "WillowPrintersModel", name := "fire", desc := "(III)I" } : Jvm.MethodName)) ∈ lw_all := lw_g (lw_at lw_m9 136 rfl) rfl
theorem q2111 : (Jvm.Cond.selects "WillowPrintersModel" ({ cls := "WillowPrintersModel", name := "fire", desc := "(III)I" } : Jvm.MethodName) ({ cls := "WillowPrintersModel", name := "fire", desc := "(III)I" } : Jvm.MethodName)) ∈ lw_all := lw_g (lw_at lw_m9 137 rfl) rfl
theorem q2112 : (Jvm.Cond.code ({ cls := "WillowPrintersModel", name := "fire", desc := "(III)I" } : Jvm.MethodName) prog_24_method_37_code (5 : Nat) (Option.some Jvm.ClassFile.FieldType.int)) ∈ lw_all := lw_g (lw_at lw_m9 138 rfl) rfl
theorem q2114 : (Jvm.Cond.instanceMethod ({ cls := "WillowPrintersModel", name := "wouldChip", desc := "(II)I" } : Jvm.MethodName)) ∈ lw_all := lw_g (lw_at lw_m9 140 rfl) rfl
theorem q2115 : (Jvm.Cond.selects "WillowPrintersModel" ({ cls := "WillowPrintersModel", name := "wouldChip", desc := "(II)I" } : Jvm.MethodName) ({ cls := "WillowPrintersModel", name := "wouldChip", desc := "(II)I" } : Jvm.MethodName)) ∈ lw_all := lw_g (lw_at lw_m9 141 rfl) rfl
theorem q2116 : (Jvm.Cond.code ({ cls := "WillowPrintersModel", name := "wouldChip", desc := "(II)I" } : Jvm.MethodName) prog_24_method_39_code (3 : Nat) (Option.some Jvm.ClassFile.FieldType.int)) ∈ lw_all := lw_g (lw_at lw_m9 142 rfl) rfl
theorem q2117 : (Jvm.Cond.methodLink "WillowPrintersModel" (118 : Nat) ({ cls := "WillowPrintersModel", name := "chips", desc := "(II)I" } : Jvm.MethodName)) ∈ lw_all := lw_g (lw_at lw_m9 143 rfl) rfl
theorem q2118 : (Jvm.Cond.privateMethod ({ cls := "WillowPrintersModel", name := "chips", desc := "(II)I" } : Jvm.MethodName)) ∈ lw_tbl := lw_at lw_m9 144 rfl
theorem q2119 : (Jvm.Cond.instanceMethod ({ cls := "WillowPrintersModel", name := "chips", desc := "(II)I" } : Jvm.MethodName)) ∈ lw_all := lw_g (lw_at lw_m9 145 rfl) rfl
theorem q2120 : (Jvm.Cond.code ({ cls := "WillowPrintersModel", name := "chips", desc := "(II)I" } : Jvm.MethodName) prog_24_method_38_code (3 : Nat) (Option.some Jvm.ClassFile.FieldType.int)) ∈ lw_all := lw_g (lw_at lw_m9 146 rfl) rfl
theorem q2122 : (Jvm.Cond.instanceMethod ({ cls := "WillowPrintersModel", name := "firstDone", desc := "()I" } : Jvm.MethodName)) ∈ lw_all := lw_g (lw_at lw_m9 148 rfl) rfl
theorem q2123 : (Jvm.Cond.selects "WillowPrintersModel" ({ cls := "WillowPrintersModel", name := "firstDone", desc := "()I" } : Jvm.MethodName) ({ cls := "WillowPrintersModel", name := "firstDone", desc := "()I" } : Jvm.MethodName)) ∈ lw_all := lw_g (lw_at lw_m9 149 rfl) rfl
theorem q2124 : (Jvm.Cond.code ({ cls := "WillowPrintersModel", name := "firstDone", desc := "()I" } : Jvm.MethodName) prog_24_method_40_code (3 : Nat) (Option.some Jvm.ClassFile.FieldType.int)) ∈ lw_all := lw_g (lw_at lw_m9 150 rfl) rfl
theorem q2126 : (Jvm.Cond.instanceMethod ({ cls := "WillowPrintersModel", name := "crate", desc := "(I)I" } : Jvm.MethodName)) ∈ lw_all := lw_g (lw_at lw_m9 152 rfl) rfl
theorem q2127 : (Jvm.Cond.selects "WillowPrintersModel" ({ cls := "WillowPrintersModel", name := "crate", desc := "(I)I" } : Jvm.MethodName) ({ cls := "WillowPrintersModel", name := "crate", desc := "(I)I" } : Jvm.MethodName)) ∈ lw_all := lw_g (lw_at lw_m9 153 rfl) rfl
theorem q2128 : (Jvm.Cond.code ({ cls := "WillowPrintersModel", name := "crate", desc := "(I)I" } : Jvm.MethodName) prog_24_method_42_code (4 : Nat) (Option.some Jvm.ClassFile.FieldType.int)) ∈ lw_all := lw_g (lw_at lw_m9 154 rfl) rfl
theorem q2129 : (Jvm.Cond.methodLink "WillowPrintersModel" (121 : Nat) ({ cls := "WillowPrintersModel", name := "laysCrate", desc := "(III)V" } : Jvm.MethodName)) ∈ lw_all := lw_g (lw_at lw_m9 155 rfl) rfl
theorem q2130 : (Jvm.Cond.privateMethod ({ cls := "WillowPrintersModel", name := "laysCrate", desc := "(III)V" } : Jvm.MethodName)) ∈ lw_tbl := lw_at lw_m9 156 rfl
theorem q2131 : (Jvm.Cond.instanceMethod ({ cls := "WillowPrintersModel", name := "laysCrate", desc := "(III)V" } : Jvm.MethodName)) ∈ lw_all := lw_g (lw_at lw_m9 157 rfl) rfl
theorem q2132 : (Jvm.Cond.code ({ cls := "WillowPrintersModel", name := "laysCrate", desc := "(III)V" } : Jvm.MethodName) prog_24_method_21_code (4 : Nat) (Option.none : Option Jvm.ClassFile.FieldType)) ∈ lw_all := lw_g (lw_at lw_m9 158 rfl) rfl
theorem q2134 : (Jvm.Cond.instanceMethod ({ cls := "WillowPrintersModel", name := "crateOf", desc := "(II)I" } : Jvm.MethodName)) ∈ lw_all := lw_g (lw_at lw_m9 160 rfl) rfl
theorem q2135 : (Jvm.Cond.selects "WillowPrintersModel" ({ cls := "WillowPrintersModel", name := "crateOf", desc := "(II)I" } : Jvm.MethodName) ({ cls := "WillowPrintersModel", name := "crateOf", desc := "(II)I" } : Jvm.MethodName)) ∈ lw_all := lw_g (lw_at lw_m9 161 rfl) rfl
theorem q2136 : (Jvm.Cond.code ({ cls := "WillowPrintersModel", name := "crateOf", desc := "(II)I" } : Jvm.MethodName) prog_24_method_45_code (3 : Nat) (Option.some Jvm.ClassFile.FieldType.int)) ∈ lw_all := lw_g (lw_at lw_m9 162 rfl) rfl
theorem q2137 : (Jvm.Cond.methodLink "WillowPrintersModel" (130 : Nat) ({ cls := "WillowPrintersModel", name := "isCrate", desc := "(I)Z" } : Jvm.MethodName)) ∈ lw_all := lw_g (lw_at lw_m9 163 rfl) rfl
theorem q2138 : (Jvm.Cond.privateMethod ({ cls := "WillowPrintersModel", name := "isCrate", desc := "(I)Z" } : Jvm.MethodName)) ∈ lw_tbl := lw_at lw_m9 164 rfl
theorem q2139 : (Jvm.Cond.instanceMethod ({ cls := "WillowPrintersModel", name := "isCrate", desc := "(I)Z" } : Jvm.MethodName)) ∈ lw_all := lw_g (lw_at lw_m9 165 rfl) rfl
theorem q2140 : (Jvm.Cond.code ({ cls := "WillowPrintersModel", name := "isCrate", desc := "(I)Z" } : Jvm.MethodName) prog_24_method_14_code (2 : Nat) (Option.some Jvm.ClassFile.FieldType.boolean)) ∈ lw_all := lw_g (lw_at lw_m9 166 rfl) rfl
theorem q2141 : (Jvm.Cond.methodLink "WillowPrintersModel" (124 : Nat) ({ cls := "WillowPrintersModel", name := "ofCrate", desc := "(II)I" } : Jvm.MethodName)) ∈ lw_all := lw_g (lw_at lw_m9 167 rfl) rfl
theorem q2142 : (Jvm.Cond.privateMethod ({ cls := "WillowPrintersModel", name := "ofCrate", desc := "(II)I" } : Jvm.MethodName)) ∈ lw_tbl := lw_at lw_m9 168 rfl
theorem q2143 : (Jvm.Cond.instanceMethod ({ cls := "WillowPrintersModel", name := "ofCrate", desc := "(II)I" } : Jvm.MethodName)) ∈ lw_all := lw_g (lw_at lw_m9 169 rfl) rfl
theorem q2144 : (Jvm.Cond.code ({ cls := "WillowPrintersModel", name := "ofCrate", desc := "(II)I" } : Jvm.MethodName) prog_24_method_20_code (3 : Nat) (Option.some Jvm.ClassFile.FieldType.int)) ∈ lw_all := lw_g (lw_at lw_m9 170 rfl) rfl
theorem q2145 : (Jvm.Cond.methodLink "WillowPrintersModel" (133 : Nat) ({ cls := "WillowPrintersModel", name := "paid", desc := "(I)I" } : Jvm.MethodName)) ∈ lw_all := lw_g (lw_at lw_m9 171 rfl) rfl
theorem q2146 : (Jvm.Cond.privateMethod ({ cls := "WillowPrintersModel", name := "paid", desc := "(I)I" } : Jvm.MethodName)) ∈ lw_tbl := lw_at lw_m9 172 rfl
theorem q2147 : (Jvm.Cond.instanceMethod ({ cls := "WillowPrintersModel", name := "paid", desc := "(I)I" } : Jvm.MethodName)) ∈ lw_all := lw_g (lw_at lw_m9 173 rfl) rfl
theorem q2148 : (Jvm.Cond.code ({ cls := "WillowPrintersModel", name := "paid", desc := "(I)I" } : Jvm.MethodName) prog_24_method_44_code (2 : Nat) (Option.some Jvm.ClassFile.FieldType.int)) ∈ lw_all := lw_g (lw_at lw_m9 174 rfl) rfl
theorem q2149 : (Jvm.Cond.methodLink "WillowPrintersModel" (127 : Nat) ({ cls := "WillowPrintersModel", name := "breaks", desc := "(I)I" } : Jvm.MethodName)) ∈ lw_all := lw_g (lw_at lw_m9 175 rfl) rfl
theorem q2150 : (Jvm.Cond.privateMethod ({ cls := "WillowPrintersModel", name := "breaks", desc := "(I)I" } : Jvm.MethodName)) ∈ lw_tbl := lw_at lw_m9 176 rfl
theorem q2151 : (Jvm.Cond.instanceMethod ({ cls := "WillowPrintersModel", name := "breaks", desc := "(I)I" } : Jvm.MethodName)) ∈ lw_all := lw_g (lw_at lw_m9 177 rfl) rfl
theorem q2152 : (Jvm.Cond.code ({ cls := "WillowPrintersModel", name := "breaks", desc := "(I)I" } : Jvm.MethodName) prog_24_method_43_code (2 : Nat) (Option.some Jvm.ClassFile.FieldType.int)) ∈ lw_all := lw_g (lw_at lw_m9 178 rfl) rfl
theorem q2154 : (Jvm.Cond.instanceMethod ({ cls := "WillowPrintersModel", name := "straw", desc := "(II)I" } : Jvm.MethodName)) ∈ lw_all := lw_g (lw_at lw_m9 180 rfl) rfl
theorem q2155 : (Jvm.Cond.selects "WillowPrintersModel" ({ cls := "WillowPrintersModel", name := "straw", desc := "(II)I" } : Jvm.MethodName) ({ cls := "WillowPrintersModel", name := "straw", desc := "(II)I" } : Jvm.MethodName)) ∈ lw_all := lw_g (lw_at lw_m9 181 rfl) rfl
theorem q2156 : (Jvm.Cond.code ({ cls := "WillowPrintersModel", name := "straw", desc := "(II)I" } : Jvm.MethodName) prog_24_method_46_code (3 : Nat) (Option.some Jvm.ClassFile.FieldType.int)) ∈ lw_all := lw_g (lw_at lw_m9 182 rfl) rfl
theorem q2158 : (Jvm.Cond.instanceMethod ({ cls := "WillowPrintersModel", name := "pack", desc := "(III)I" } : Jvm.MethodName)) ∈ lw_all := lw_g (lw_at lw_m9 184 rfl) rfl
theorem q2159 : (Jvm.Cond.selects "WillowPrintersModel" ({ cls := "WillowPrintersModel", name := "pack", desc := "(III)I" } : Jvm.MethodName) ({ cls := "WillowPrintersModel", name := "pack", desc := "(III)I" } : Jvm.MethodName)) ∈ lw_all := lw_g (lw_at lw_m9 185 rfl) rfl
theorem q2160 : (Jvm.Cond.code ({ cls := "WillowPrintersModel", name := "pack", desc := "(III)I" } : Jvm.MethodName) prog_24_method_47_code (5 : Nat) (Option.some Jvm.ClassFile.FieldType.int)) ∈ lw_all := lw_g (lw_at lw_m9 186 rfl) rfl
theorem q2162 : (Jvm.Cond.instanceMethod ({ cls := "WillowPrintersModel", name := "carry", desc := "(I)I" } : Jvm.MethodName)) ∈ lw_all := lw_g (lw_at lw_m9 188 rfl) rfl
theorem q2163 : (Jvm.Cond.selects "WillowPrintersModel" ({ cls := "WillowPrintersModel", name := "carry", desc := "(I)I" } : Jvm.MethodName) ({ cls := "WillowPrintersModel", name := "carry", desc := "(I)I" } : Jvm.MethodName)) ∈ lw_all := lw_g (lw_at lw_m9 189 rfl) rfl
theorem q2164 : (Jvm.Cond.code ({ cls := "WillowPrintersModel", name := "carry", desc := "(I)I" } : Jvm.MethodName) prog_24_method_48_code (5 : Nat) (Option.some Jvm.ClassFile.FieldType.int)) ∈ lw_all := lw_g (lw_at lw_m9 190 rfl) rfl
theorem q2165 : (Jvm.Cond.methodLink "WillowPrintersModel" (136 : Nat) ({ cls := "WillowPrintersModel", name := "gets", desc := "(I)V" } : Jvm.MethodName)) ∈ lw_all := lw_g (lw_at lw_m9 191 rfl) rfl
theorem q2166 : (Jvm.Cond.privateMethod ({ cls := "WillowPrintersModel", name := "gets", desc := "(I)V" } : Jvm.MethodName)) ∈ lw_tbl := lw_at lw_m9 192 rfl
theorem q2167 : (Jvm.Cond.instanceMethod ({ cls := "WillowPrintersModel", name := "gets", desc := "(I)V" } : Jvm.MethodName)) ∈ lw_all := lw_g (lw_at lw_m9 193 rfl) rfl
theorem q2168 : (Jvm.Cond.code ({ cls := "WillowPrintersModel", name := "gets", desc := "(I)V" } : Jvm.MethodName) prog_24_method_23_code (2 : Nat) (Option.none : Option Jvm.ClassFile.FieldType)) ∈ lw_all := lw_g (lw_at lw_m9 194 rfl) rfl
theorem q2170 : (Jvm.Cond.instanceMethod ({ cls := "WillowPrintersModel", name := "sell", desc := "()I" } : Jvm.MethodName)) ∈ lw_all := lw_g (lw_at lw_m9 196 rfl) rfl
theorem q2171 : (Jvm.Cond.selects "WillowPrintersModel" ({ cls := "WillowPrintersModel", name := "sell", desc := "()I" } : Jvm.MethodName) ({ cls := "WillowPrintersModel", name := "sell", desc := "()I" } : Jvm.MethodName)) ∈ lw_all := lw_g (lw_at lw_m9 197 rfl) rfl
theorem q2172 : (Jvm.Cond.code ({ cls := "WillowPrintersModel", name := "sell", desc := "()I" } : Jvm.MethodName) prog_24_method_49_code (2 : Nat) (Option.some Jvm.ClassFile.FieldType.int)) ∈ lw_all := lw_g (lw_at lw_m9 198 rfl) rfl
theorem q2174 : (Jvm.Cond.instanceMethod ({ cls := "WillowPrintersModel", name := "pass", desc := "(I)I" } : Jvm.MethodName)) ∈ lw_all := lw_g (lw_at lw_m9 200 rfl) rfl
theorem q2175 : (Jvm.Cond.selects "WillowPrintersModel" ({ cls := "WillowPrintersModel", name := "pass", desc := "(I)I" } : Jvm.MethodName) ({ cls := "WillowPrintersModel", name := "pass", desc := "(I)I" } : Jvm.MethodName)) ∈ lw_all := lw_g (lw_at lw_m9 201 rfl) rfl
theorem q2176 : (Jvm.Cond.code ({ cls := "WillowPrintersModel", name := "pass", desc := "(I)I" } : Jvm.MethodName) prog_24_method_51_code (4 : Nat) (Option.some Jvm.ClassFile.FieldType.int)) ∈ lw_all := lw_g (lw_at lw_m9 202 rfl) rfl
theorem q2177 : (Jvm.Cond.methodLink "WillowPrintersModel" (142 : Nat) ({ cls := "WillowPrintersModel", name := "hourGoes", desc := "()I" } : Jvm.MethodName)) ∈ lw_all := lw_g (lw_at lw_m9 203 rfl) rfl
theorem q2178 : (Jvm.Cond.privateMethod ({ cls := "WillowPrintersModel", name := "hourGoes", desc := "()I" } : Jvm.MethodName)) ∈ lw_tbl := lw_at lw_m9 204 rfl
theorem q2179 : (Jvm.Cond.instanceMethod ({ cls := "WillowPrintersModel", name := "hourGoes", desc := "()I" } : Jvm.MethodName)) ∈ lw_all := lw_g (lw_at lw_m9 205 rfl) rfl
theorem q2180 : (Jvm.Cond.code ({ cls := "WillowPrintersModel", name := "hourGoes", desc := "()I" } : Jvm.MethodName) prog_24_method_50_code (3 : Nat) (Option.some Jvm.ClassFile.FieldType.int)) ∈ lw_all := lw_g (lw_at lw_m9 206 rfl) rfl
theorem q2181 : (Jvm.Cond.methodLink "WillowPrintersModel" (139 : Nat) ({ cls := "WillowPrintersModel", name := "isFired", desc := "(I)V" } : Jvm.MethodName)) ∈ lw_all := lw_g (lw_at lw_m9 207 rfl) rfl
theorem q2182 : (Jvm.Cond.privateMethod ({ cls := "WillowPrintersModel", name := "isFired", desc := "(I)V" } : Jvm.MethodName)) ∈ lw_tbl := lw_at lw_m9 208 rfl
theorem q2183 : (Jvm.Cond.instanceMethod ({ cls := "WillowPrintersModel", name := "isFired", desc := "(I)V" } : Jvm.MethodName)) ∈ lw_all := lw_g (lw_at lw_m9 209 rfl) rfl
theorem q2184 : (Jvm.Cond.code ({ cls := "WillowPrintersModel", name := "isFired", desc := "(I)V" } : Jvm.MethodName) prog_24_method_41_code (4 : Nat) (Option.none : Option Jvm.ClassFile.FieldType)) ∈ lw_all := lw_g (lw_at lw_m9 210 rfl) rfl
theorem q2186 : (Jvm.Cond.instanceMethod ({ cls := "WillowPrintersModel", name := "line", desc := "(I)I" } : Jvm.MethodName)) ∈ lw_all := lw_g (lw_at lw_m9 212 rfl) rfl
theorem q2187 : (Jvm.Cond.selects "WillowPrintersModel" ({ cls := "WillowPrintersModel", name := "line", desc := "(I)I" } : Jvm.MethodName) ({ cls := "WillowPrintersModel", name := "line", desc := "(I)I" } : Jvm.MethodName)) ∈ lw_all := lw_g (lw_at lw_m9 213 rfl) rfl
theorem q2188 : (Jvm.Cond.code ({ cls := "WillowPrintersModel", name := "line", desc := "(I)I" } : Jvm.MethodName) prog_24_method_55_code (3 : Nat) (Option.some Jvm.ClassFile.FieldType.int)) ∈ lw_all := lw_g (lw_at lw_m9 214 rfl) rfl
theorem q2189 : (Jvm.Cond.methodLink "WillowPrintersModel" (161 : Nat) ({ cls := "WillowPrintersModel", name := "writesNumber", desc := "(I)V" } : Jvm.MethodName)) ∈ lw_all := lw_g (lw_at lw_m9 215 rfl) rfl
theorem q2190 : (Jvm.Cond.privateMethod ({ cls := "WillowPrintersModel", name := "writesNumber", desc := "(I)V" } : Jvm.MethodName)) ∈ lw_tbl := lw_at lw_m9 216 rfl
theorem q2191 : (Jvm.Cond.instanceMethod ({ cls := "WillowPrintersModel", name := "writesNumber", desc := "(I)V" } : Jvm.MethodName)) ∈ lw_all := lw_g (lw_at lw_m9 217 rfl) rfl
theorem q2192 : (Jvm.Cond.code ({ cls := "WillowPrintersModel", name := "writesNumber", desc := "(I)V" } : Jvm.MethodName) prog_24_method_54_code (2 : Nat) (Option.none : Option Jvm.ClassFile.FieldType)) ∈ lw_all := lw_g (lw_at lw_m9 218 rfl) rfl
theorem q2193 : (Jvm.Cond.methodLink "WillowPrintersModel" (158 : Nat) ({ cls := "WillowPrintersModel", name := "writes", desc := "(I)V" } : Jvm.MethodName)) ∈ lw_all := lw_g (lw_at lw_m9 219 rfl) rfl
theorem q2194 : (Jvm.Cond.privateMethod ({ cls := "WillowPrintersModel", name := "writes", desc := "(I)V" } : Jvm.MethodName)) ∈ lw_tbl := lw_at lw_m9 220 rfl
theorem q2195 : (Jvm.Cond.instanceMethod ({ cls := "WillowPrintersModel", name := "writes", desc := "(I)V" } : Jvm.MethodName)) ∈ lw_all := lw_g (lw_at lw_m9 221 rfl) rfl
theorem q2196 : (Jvm.Cond.code ({ cls := "WillowPrintersModel", name := "writes", desc := "(I)V" } : Jvm.MethodName) prog_24_method_52_code (2 : Nat) (Option.none : Option Jvm.ClassFile.FieldType)) ∈ lw_all := lw_g (lw_at lw_m9 222 rfl) rfl
theorem q2197 : (Jvm.Cond.stringRef "WillowPrintersModel" (164 : Nat) " plain") ∈ lw_tbl := lw_at lw_m9 223 rfl
theorem q2198 : (Jvm.Cond.stringRef "WillowPrintersModel" (166 : Nat) " printed ") ∈ lw_tbl := lw_at lw_m9 224 rfl
theorem q2199 : (Jvm.Cond.stringRef "WillowPrintersModel" (168 : Nat) " kiln ") ∈ lw_tbl := lw_at lw_m9 225 rfl
theorem q2200 : (Jvm.Cond.stringRef "WillowPrintersModel" (170 : Nat) " fired ") ∈ lw_tbl := lw_at lw_m9 226 rfl
theorem q2201 : (Jvm.Cond.methodLink "WillowPrintersModel" (172 : Nat) ({ cls := "WillowPrintersModel", name := "writesText", desc := "(Ljava/lang/String;)V" } : Jvm.MethodName)) ∈ lw_all := lw_g (lw_at lw_m9 227 rfl) rfl
theorem q2202 : (Jvm.Cond.privateMethod ({ cls := "WillowPrintersModel", name := "writesText", desc := "(Ljava/lang/String;)V" } : Jvm.MethodName)) ∈ lw_tbl := lw_at lw_m9 228 rfl
theorem q2203 : (Jvm.Cond.instanceMethod ({ cls := "WillowPrintersModel", name := "writesText", desc := "(Ljava/lang/String;)V" } : Jvm.MethodName)) ∈ lw_all := lw_g (lw_at lw_m9 229 rfl) rfl
theorem q2204 : (Jvm.Cond.code ({ cls := "WillowPrintersModel", name := "writesText", desc := "(Ljava/lang/String;)V" } : Jvm.MethodName) prog_24_method_53_code (3 : Nat) (Option.none : Option Jvm.ClassFile.FieldType)) ∈ lw_all := lw_g (lw_at lw_m9 230 rfl) rfl
theorem q2205 : (Jvm.Cond.methodLink "WillowPrintersModel" (149 : Nat) ({ cls := "java/lang/String", name := "length", desc := "()I" } : Jvm.MethodName)) ∈ lw_all := lw_g (lw_at lw_m9 231 rfl) rfl
theorem q2206 : (Jvm.Cond.methodLink "WillowPrintersModel" (154 : Nat) ({ cls := "java/lang/String", name := "charAt", desc := "(I)C" } : Jvm.MethodName)) ∈ lw_all := lw_g (lw_at lw_m9 232 rfl) rfl
theorem q2207 : (Jvm.Cond.stringRef "WillowPrintersModel" (176 : Nat) " k") ∈ lw_tbl := lw_at lw_m9 233 rfl
theorem q2208 : (Jvm.Cond.stringRef "WillowPrintersModel" (178 : Nat) " in ") ∈ lw_tbl := lw_at lw_m9 234 rfl
theorem q2210 : (Jvm.Cond.instanceMethod ({ cls := "WillowPrintersModel", name := "crateLine", desc := "(I)I" } : Jvm.MethodName)) ∈ lw_all := lw_g (lw_at lw_m9 236 rfl) rfl
theorem q2211 : (Jvm.Cond.selects "WillowPrintersModel" ({ cls := "WillowPrintersModel", name := "crateLine", desc := "(I)I" } : Jvm.MethodName) ({ cls := "WillowPrintersModel", name := "crateLine", desc := "(I)I" } : Jvm.MethodName)) ∈ lw_all := lw_g (lw_at lw_m9 237 rfl) rfl
theorem q2212 : (Jvm.Cond.code ({ cls := "WillowPrintersModel", name := "crateLine", desc := "(I)I" } : Jvm.MethodName) prog_24_method_56_code (3 : Nat) (Option.some Jvm.ClassFile.FieldType.int)) ∈ lw_all := lw_g (lw_at lw_m9 238 rfl) rfl
theorem q2214 : (Jvm.Cond.instanceMethod ({ cls := "WillowPrintersModel", name := "character", desc := "(I)C" } : Jvm.MethodName)) ∈ lw_all := lw_g (lw_at lw_m10 0 rfl) rfl
theorem q2215 : (Jvm.Cond.selects "WillowPrintersModel" ({ cls := "WillowPrintersModel", name := "character", desc := "(I)C" } : Jvm.MethodName) ({ cls := "WillowPrintersModel", name := "character", desc := "(I)C" } : Jvm.MethodName)) ∈ lw_all := lw_g (lw_at lw_m10 1 rfl) rfl
theorem q2216 : (Jvm.Cond.code ({ cls := "WillowPrintersModel", name := "character", desc := "(I)C" } : Jvm.MethodName) prog_24_method_57_code (2 : Nat) (Option.some Jvm.ClassFile.FieldType.char)) ∈ lw_all := lw_g (lw_at lw_m10 2 rfl) rfl
theorem q2218 : (Jvm.Cond.instanceMethod ({ cls := "WillowPrintersModel", name := "refusal", desc := "(Z)I" } : Jvm.MethodName)) ∈ lw_all := lw_g (lw_at lw_m10 4 rfl) rfl
theorem q2219 : (Jvm.Cond.selects "WillowPrintersModel" ({ cls := "WillowPrintersModel", name := "refusal", desc := "(Z)I" } : Jvm.MethodName) ({ cls := "WillowPrintersModel", name := "refusal", desc := "(Z)I" } : Jvm.MethodName)) ∈ lw_all := lw_g (lw_at lw_m10 5 rfl) rfl
theorem q2220 : (Jvm.Cond.code ({ cls := "WillowPrintersModel", name := "refusal", desc := "(Z)I" } : Jvm.MethodName) prog_24_method_58_code (2 : Nat) (Option.some Jvm.ClassFile.FieldType.int)) ∈ lw_all := lw_g (lw_at lw_m10 6 rfl) rfl
theorem q2222 : (Jvm.Cond.instanceMethod ({ cls := "WillowPrintersModel", name := "account", desc := "(I)I" } : Jvm.MethodName)) ∈ lw_all := lw_g (lw_at lw_m10 8 rfl) rfl
theorem q2223 : (Jvm.Cond.selects "WillowPrintersModel" ({ cls := "WillowPrintersModel", name := "account", desc := "(I)I" } : Jvm.MethodName) ({ cls := "WillowPrintersModel", name := "account", desc := "(I)I" } : Jvm.MethodName)) ∈ lw_all := lw_g (lw_at lw_m10 9 rfl) rfl
theorem q2224 : (Jvm.Cond.code ({ cls := "WillowPrintersModel", name := "account", desc := "(I)I" } : Jvm.MethodName) prog_24_method_62_code (2 : Nat) (Option.some Jvm.ClassFile.FieldType.int)) ∈ lw_all := lw_g (lw_at lw_m10 10 rfl) rfl
theorem q2225 : (Jvm.Cond.methodLink "WillowPrintersModel" (180 : Nat) ({ cls := "WillowPrintersModel", name := "allPlates", desc := "(I)I" } : Jvm.MethodName)) ∈ lw_all := lw_g (lw_at lw_m10 11 rfl) rfl
theorem q2226 : (Jvm.Cond.privateMethod ({ cls := "WillowPrintersModel", name := "allPlates", desc := "(I)I" } : Jvm.MethodName)) ∈ lw_tbl := lw_at lw_m10 12 rfl
theorem q2227 : (Jvm.Cond.instanceMethod ({ cls := "WillowPrintersModel", name := "allPlates", desc := "(I)I" } : Jvm.MethodName)) ∈ lw_all := lw_g (lw_at lw_m10 13 rfl) rfl
theorem q2228 : (Jvm.Cond.code ({ cls := "WillowPrintersModel", name := "allPlates", desc := "(I)I" } : Jvm.MethodName) prog_24_method_59_code (4 : Nat) (Option.some Jvm.ClassFile.FieldType.int)) ∈ lw_all := lw_g (lw_at lw_m10 14 rfl) rfl
theorem q2229 : (Jvm.Cond.methodLink "WillowPrintersModel" (183 : Nat) ({ cls := "WillowPrintersModel", name := "packed", desc := "()I" } : Jvm.MethodName)) ∈ lw_all := lw_g (lw_at lw_m10 15 rfl) rfl
theorem q2230 : (Jvm.Cond.privateMethod ({ cls := "WillowPrintersModel", name := "packed", desc := "()I" } : Jvm.MethodName)) ∈ lw_tbl := lw_at lw_m10 16 rfl
theorem q2231 : (Jvm.Cond.instanceMethod ({ cls := "WillowPrintersModel", name := "packed", desc := "()I" } : Jvm.MethodName)) ∈ lw_all := lw_g (lw_at lw_m10 17 rfl) rfl
theorem q2232 : (Jvm.Cond.code ({ cls := "WillowPrintersModel", name := "packed", desc := "()I" } : Jvm.MethodName) prog_24_method_60_code (3 : Nat) (Option.some Jvm.ClassFile.FieldType.int)) ∈ lw_all := lw_g (lw_at lw_m10 18 rfl) rfl
theorem q2233 : (Jvm.Cond.methodLink "WillowPrintersModel" (186 : Nat) ({ cls := "WillowPrintersModel", name := "burning", desc := "()I" } : Jvm.MethodName)) ∈ lw_all := lw_g (lw_at lw_m10 19 rfl) rfl
theorem q2234 : (Jvm.Cond.privateMethod ({ cls := "WillowPrintersModel", name := "burning", desc := "()I" } : Jvm.MethodName)) ∈ lw_tbl := lw_at lw_m10 20 rfl
theorem q2235 : (Jvm.Cond.instanceMethod ({ cls := "WillowPrintersModel", name := "burning", desc := "()I" } : Jvm.MethodName)) ∈ lw_all := lw_g (lw_at lw_m10 21 rfl) rfl
theorem q2236 : (Jvm.Cond.code ({ cls := "WillowPrintersModel", name := "burning", desc := "()I" } : Jvm.MethodName) prog_24_method_61_code (3 : Nat) (Option.some Jvm.ClassFile.FieldType.int)) ∈ lw_all := lw_g (lw_at lw_m10 22 rfl) rfl
theorem q2238 : (Jvm.Cond.instanceMethod ({ cls := "WillowPrintersModel", name := "platesAgain", desc := "()I" } : Jvm.MethodName)) ∈ lw_all := lw_g (lw_at lw_m10 24 rfl) rfl
theorem q2239 : (Jvm.Cond.selects "WillowPrintersModel" ({ cls := "WillowPrintersModel", name := "platesAgain", desc := "()I" } : Jvm.MethodName) ({ cls := "WillowPrintersModel", name := "platesAgain", desc := "()I" } : Jvm.MethodName)) ∈ lw_all := lw_g (lw_at lw_m10 25 rfl) rfl
theorem q2240 : (Jvm.Cond.code ({ cls := "WillowPrintersModel", name := "platesAgain", desc := "()I" } : Jvm.MethodName) prog_24_method_63_code (1 : Nat) (Option.some Jvm.ClassFile.FieldType.int)) ∈ lw_all := lw_g (lw_at lw_m10 26 rfl) rfl
theorem q2242 : (Jvm.Cond.instanceMethod ({ cls := "WillowPrintersModel", name := "meanWell", desc := "()D" } : Jvm.MethodName)) ∈ lw_all := lw_g (lw_at lw_m10 28 rfl) rfl
theorem q2243 : (Jvm.Cond.selects "WillowPrintersModel" ({ cls := "WillowPrintersModel", name := "meanWell", desc := "()D" } : Jvm.MethodName) ({ cls := "WillowPrintersModel", name := "meanWell", desc := "()D" } : Jvm.MethodName)) ∈ lw_all := lw_g (lw_at lw_m10 29 rfl) rfl
theorem q2244 : (Jvm.Cond.code ({ cls := "WillowPrintersModel", name := "meanWell", desc := "()D" } : Jvm.MethodName) prog_24_method_64_code (4 : Nat) (Option.some Jvm.ClassFile.FieldType.double)) ∈ lw_all := lw_g (lw_at lw_m10 30 rfl) rfl
theorem q2246 : (Jvm.Cond.instanceMethod ({ cls := "WillowPrintersModel", name := "secondShare", desc := "()F" } : Jvm.MethodName)) ∈ lw_all := lw_g (lw_at lw_m10 32 rfl) rfl
theorem q2247 : (Jvm.Cond.selects "WillowPrintersModel" ({ cls := "WillowPrintersModel", name := "secondShare", desc := "()F" } : Jvm.MethodName) ({ cls := "WillowPrintersModel", name := "secondShare", desc := "()F" } : Jvm.MethodName)) ∈ lw_all := lw_g (lw_at lw_m10 33 rfl) rfl
theorem q2248 : (Jvm.Cond.code ({ cls := "WillowPrintersModel", name := "secondShare", desc := "()F" } : Jvm.MethodName) prog_24_method_65_code (1 : Nat) (Option.some Jvm.ClassFile.FieldType.float)) ∈ lw_all := lw_g (lw_at lw_m10 34 rfl) rfl
theorem q2250 : (Jvm.Cond.instanceMethod ({ cls := "WillowPrintersModel", name := "append", desc := "(I)I" } : Jvm.MethodName)) ∈ lw_all := lw_g (lw_at lw_m10 36 rfl) rfl
theorem q2251 : (Jvm.Cond.selects "WillowPrintersModel" ({ cls := "WillowPrintersModel", name := "append", desc := "(I)I" } : Jvm.MethodName) ({ cls := "WillowPrintersModel", name := "append", desc := "(I)I" } : Jvm.MethodName)) ∈ lw_all := lw_g (lw_at lw_m10 37 rfl) rfl
theorem q2252 : (Jvm.Cond.code ({ cls := "WillowPrintersModel", name := "append", desc := "(I)I" } : Jvm.MethodName) prog_24_method_66_code (6 : Nat) (Option.some Jvm.ClassFile.FieldType.int)) ∈ lw_all := lw_g (lw_at lw_m10 38 rfl) rfl
theorem q2254 : (Jvm.Cond.instanceMethod ({ cls := "WillowPrintersModel", name := "read", desc := "()I" } : Jvm.MethodName)) ∈ lw_all := lw_g (lw_at lw_m10 40 rfl) rfl
theorem q2255 : (Jvm.Cond.selects "WillowPrintersModel" ({ cls := "WillowPrintersModel", name := "read", desc := "()I" } : Jvm.MethodName) ({ cls := "WillowPrintersModel", name := "read", desc := "()I" } : Jvm.MethodName)) ∈ lw_all := lw_g (lw_at lw_m10 41 rfl) rfl
theorem q2256 : (Jvm.Cond.code ({ cls := "WillowPrintersModel", name := "read", desc := "()I" } : Jvm.MethodName) prog_24_method_74_code (4 : Nat) (Option.some Jvm.ClassFile.FieldType.int)) ∈ lw_all := lw_g (lw_at lw_m10 42 rfl) rfl
theorem q2257 : (Jvm.Cond.methodLink "WillowPrintersModel" (237 : Nat) ({ cls := "WillowPrintersModel", name := "isText", desc := "()Z" } : Jvm.MethodName)) ∈ lw_all := lw_g (lw_at lw_m10 43 rfl) rfl
theorem q2258 : (Jvm.Cond.privateMethod ({ cls := "WillowPrintersModel", name := "isText", desc := "()Z" } : Jvm.MethodName)) ∈ lw_tbl := lw_at lw_m10 44 rfl
theorem q2259 : (Jvm.Cond.instanceMethod ({ cls := "WillowPrintersModel", name := "isText", desc := "()Z" } : Jvm.MethodName)) ∈ lw_all := lw_g (lw_at lw_m10 45 rfl) rfl
theorem q2260 : (Jvm.Cond.code ({ cls := "WillowPrintersModel", name := "isText", desc := "()Z" } : Jvm.MethodName) prog_24_method_72_code (1 : Nat) (Option.some Jvm.ClassFile.FieldType.boolean)) ∈ lw_all := lw_g (lw_at lw_m10 46 rfl) rfl
theorem q2261 : (Jvm.Cond.methodLink "WillowPrintersModel" (209 : Nat) ({ cls := "WillowPrintersModel", name := "itemHere", desc := "()Z" } : Jvm.MethodName)) ∈ lw_all := lw_g (lw_at lw_m10 47 rfl) rfl
theorem q2262 : (Jvm.Cond.privateMethod ({ cls := "WillowPrintersModel", name := "itemHere", desc := "()Z" } : Jvm.MethodName)) ∈ lw_tbl := lw_at lw_m10 48 rfl
theorem q2263 : (Jvm.Cond.instanceMethod ({ cls := "WillowPrintersModel", name := "itemHere", desc := "()Z" } : Jvm.MethodName)) ∈ lw_all := lw_g (lw_at lw_m10 49 rfl) rfl
theorem q2264 : (Jvm.Cond.code ({ cls := "WillowPrintersModel", name := "itemHere", desc := "()Z" } : Jvm.MethodName) prog_24_method_71_code (2 : Nat) (Option.some Jvm.ClassFile.FieldType.boolean)) ∈ lw_all := lw_g (lw_at lw_m10 50 rfl) rfl
theorem q2265 : (Jvm.Cond.methodLink "WillowPrintersModel" (194 : Nat) ({ cls := "WillowPrintersModel", name := "here", desc := "()I" } : Jvm.MethodName)) ∈ lw_all := lw_g (lw_at lw_m10 51 rfl) rfl
theorem q2266 : (Jvm.Cond.privateMethod ({ cls := "WillowPrintersModel", name := "here", desc := "()I" } : Jvm.MethodName)) ∈ lw_tbl := lw_at lw_m10 52 rfl
theorem q2267 : (Jvm.Cond.instanceMethod ({ cls := "WillowPrintersModel", name := "here", desc := "()I" } : Jvm.MethodName)) ∈ lw_all := lw_g (lw_at lw_m10 53 rfl) rfl
theorem q2268 : (Jvm.Cond.code ({ cls := "WillowPrintersModel", name := "here", desc := "()I" } : Jvm.MethodName) prog_24_method_67_code (1 : Nat) (Option.some Jvm.ClassFile.FieldType.int)) ∈ lw_all := lw_g (lw_at lw_m10 54 rfl) rfl
theorem q2269 : (Jvm.Cond.methodLink "WillowPrintersModel" (203 : Nat) ({ cls := "WillowPrintersModel", name := "skips", desc := "(I)Z" } : Jvm.MethodName)) ∈ lw_all := lw_g (lw_at lw_m10 55 rfl) rfl
theorem q2270 : (Jvm.Cond.privateMethod ({ cls := "WillowPrintersModel", name := "skips", desc := "(I)Z" } : Jvm.MethodName)) ∈ lw_tbl := lw_at lw_m10 56 rfl
theorem q2271 : (Jvm.Cond.instanceMethod ({ cls := "WillowPrintersModel", name := "skips", desc := "(I)Z" } : Jvm.MethodName)) ∈ lw_all := lw_g (lw_at lw_m10 57 rfl) rfl
theorem q2272 : (Jvm.Cond.code ({ cls := "WillowPrintersModel", name := "skips", desc := "(I)Z" } : Jvm.MethodName) prog_24_method_68_code (2 : Nat) (Option.some Jvm.ClassFile.FieldType.boolean)) ∈ lw_all := lw_g (lw_at lw_m10 58 rfl) rfl
theorem q2273 : (Jvm.Cond.methodLink "WillowPrintersModel" (206 : Nat) ({ cls := "WillowPrintersModel", name := "number", desc := "(I)Z" } : Jvm.MethodName)) ∈ lw_all := lw_g (lw_at lw_m10 59 rfl) rfl
theorem q2274 : (Jvm.Cond.privateMethod ({ cls := "WillowPrintersModel", name := "number", desc := "(I)Z" } : Jvm.MethodName)) ∈ lw_tbl := lw_at lw_m10 60 rfl
theorem q2275 : (Jvm.Cond.instanceMethod ({ cls := "WillowPrintersModel", name := "number", desc := "(I)Z" } : Jvm.MethodName)) ∈ lw_all := lw_g (lw_at lw_m10 61 rfl) rfl
theorem q2276 : (Jvm.Cond.code ({ cls := "WillowPrintersModel", name := "number", desc := "(I)Z" } : Jvm.MethodName) prog_24_method_70_code (2 : Nat) (Option.some Jvm.ClassFile.FieldType.boolean)) ∈ lw_all := lw_g (lw_at lw_m10 62 rfl) rfl
theorem q2277 : (Jvm.Cond.methodLink "WillowPrintersModel" (197 : Nat) ({ cls := "WillowPrintersModel", name := "digit", desc := "(I)Z" } : Jvm.MethodName)) ∈ lw_all := lw_g (lw_at lw_m10 63 rfl) rfl
theorem q2278 : (Jvm.Cond.privateMethod ({ cls := "WillowPrintersModel", name := "digit", desc := "(I)Z" } : Jvm.MethodName)) ∈ lw_tbl := lw_at lw_m10 64 rfl
theorem q2279 : (Jvm.Cond.instanceMethod ({ cls := "WillowPrintersModel", name := "digit", desc := "(I)Z" } : Jvm.MethodName)) ∈ lw_all := lw_g (lw_at lw_m10 65 rfl) rfl
theorem q2280 : (Jvm.Cond.code ({ cls := "WillowPrintersModel", name := "digit", desc := "(I)Z" } : Jvm.MethodName) prog_24_method_69_code (2 : Nat) (Option.some Jvm.ClassFile.FieldType.boolean)) ∈ lw_all := lw_g (lw_at lw_m10 66 rfl) rfl
theorem q2281 : (Jvm.Cond.methodLink "WillowPrintersModel" (240 : Nat) ({ cls := "WillowPrintersModel", name := "carries", desc := "(I)I" } : Jvm.MethodName)) ∈ lw_all := lw_g (lw_at lw_m10 67 rfl) rfl
theorem q2282 : (Jvm.Cond.privateMethod ({ cls := "WillowPrintersModel", name := "carries", desc := "(I)I" } : Jvm.MethodName)) ∈ lw_tbl := lw_at lw_m10 68 rfl
theorem q2283 : (Jvm.Cond.instanceMethod ({ cls := "WillowPrintersModel", name := "carries", desc := "(I)I" } : Jvm.MethodName)) ∈ lw_all := lw_g (lw_at lw_m10 69 rfl) rfl
theorem q2284 : (Jvm.Cond.code ({ cls := "WillowPrintersModel", name := "carries", desc := "(I)I" } : Jvm.MethodName) prog_24_method_73_code (2 : Nat) (Option.some Jvm.ClassFile.FieldType.int)) ∈ lw_all := lw_g (lw_at lw_m10 70 rfl) rfl
theorem q2285 : (Jvm.Cond.methodLink "WillowPrintersModel" (213 : Nat) ({ cls := "WillowPrintersModel", name := "print", desc := "(II)I" } : Jvm.MethodName)) ∈ lw_all := lw_g (lw_at lw_m10 71 rfl) rfl
theorem q2286 : (Jvm.Cond.methodLink "WillowPrintersModel" (216 : Nat) ({ cls := "WillowPrintersModel", name := "fire", desc := "(III)I" } : Jvm.MethodName)) ∈ lw_all := lw_g (lw_at lw_m10 72 rfl) rfl
theorem q2287 : (Jvm.Cond.methodLink "WillowPrintersModel" (219 : Nat) ({ cls := "WillowPrintersModel", name := "pack", desc := "(III)I" } : Jvm.MethodName)) ∈ lw_all := lw_g (lw_at lw_m10 73 rfl) rfl
theorem q2288 : (Jvm.Cond.methodLink "WillowPrintersModel" (222 : Nat) ({ cls := "WillowPrintersModel", name := "straw", desc := "(II)I" } : Jvm.MethodName)) ∈ lw_all := lw_g (lw_at lw_m10 74 rfl) rfl
theorem q2289 : (Jvm.Cond.methodLink "WillowPrintersModel" (225 : Nat) ({ cls := "WillowPrintersModel", name := "carry", desc := "(I)I" } : Jvm.MethodName)) ∈ lw_all := lw_g (lw_at lw_m10 75 rfl) rfl
theorem q2290 : (Jvm.Cond.methodLink "WillowPrintersModel" (228 : Nat) ({ cls := "WillowPrintersModel", name := "damp", desc := "(I)I" } : Jvm.MethodName)) ∈ lw_all := lw_g (lw_at lw_m10 76 rfl) rfl
theorem q2291 : (Jvm.Cond.methodLink "WillowPrintersModel" (231 : Nat) ({ cls := "WillowPrintersModel", name := "sell", desc := "()I" } : Jvm.MethodName)) ∈ lw_all := lw_g (lw_at lw_m10 77 rfl) rfl
theorem q2292 : (Jvm.Cond.methodLink "WillowPrintersModel" (234 : Nat) ({ cls := "WillowPrintersModel", name := "pass", desc := "(I)I" } : Jvm.MethodName)) ∈ lw_all := lw_g (lw_at lw_m10 78 rfl) rfl
theorem q2294 : (Jvm.Cond.instanceMethod ({ cls := "WillowPrintersModel", name := "errorPosition", desc := "()I" } : Jvm.MethodName)) ∈ lw_all := lw_g (lw_at lw_m10 80 rfl) rfl
theorem q2295 : (Jvm.Cond.selects "WillowPrintersModel" ({ cls := "WillowPrintersModel", name := "errorPosition", desc := "()I" } : Jvm.MethodName) ({ cls := "WillowPrintersModel", name := "errorPosition", desc := "()I" } : Jvm.MethodName)) ∈ lw_all := lw_g (lw_at lw_m10 81 rfl) rfl
theorem q2296 : (Jvm.Cond.code ({ cls := "WillowPrintersModel", name := "errorPosition", desc := "()I" } : Jvm.MethodName) prog_24_method_75_code (1 : Nat) (Option.some Jvm.ClassFile.FieldType.int)) ∈ lw_all := lw_g (lw_at lw_m10 82 rfl) rfl
theorem q2298 : (Jvm.Cond.instanceMethod ({ cls := "WillowPrintersModel", name := "refusedItem", desc := "()I" } : Jvm.MethodName)) ∈ lw_all := lw_g (lw_at lw_m10 84 rfl) rfl
theorem q2299 : (Jvm.Cond.selects "WillowPrintersModel" ({ cls := "WillowPrintersModel", name := "refusedItem", desc := "()I" } : Jvm.MethodName) ({ cls := "WillowPrintersModel", name := "refusedItem", desc := "()I" } : Jvm.MethodName)) ∈ lw_all := lw_g (lw_at lw_m10 85 rfl) rfl
theorem q2300 : (Jvm.Cond.code ({ cls := "WillowPrintersModel", name := "refusedItem", desc := "()I" } : Jvm.MethodName) prog_24_method_76_code (1 : Nat) (Option.some Jvm.ClassFile.FieldType.int)) ∈ lw_all := lw_g (lw_at lw_m10 86 rfl) rfl
theorem q2302 : (Jvm.Cond.instanceMethod ({ cls := "WillowPrintersModel", name := "undo", desc := "()I" } : Jvm.MethodName)) ∈ lw_all := lw_g (lw_at lw_m10 88 rfl) rfl
theorem q2303 : (Jvm.Cond.selects "WillowPrintersModel" ({ cls := "WillowPrintersModel", name := "undo", desc := "()I" } : Jvm.MethodName) ({ cls := "WillowPrintersModel", name := "undo", desc := "()I" } : Jvm.MethodName)) ∈ lw_all := lw_g (lw_at lw_m10 89 rfl) rfl
theorem q2304 : (Jvm.Cond.code ({ cls := "WillowPrintersModel", name := "undo", desc := "()I" } : Jvm.MethodName) prog_24_method_77_code (1 : Nat) (Option.some Jvm.ClassFile.FieldType.int)) ∈ lw_all := lw_g (lw_at lw_m10 90 rfl) rfl
theorem q2306 : (Jvm.Cond.instanceMethod ({ cls := "WillowPrintersModel", name := "snapshot", desc := "()I" } : Jvm.MethodName)) ∈ lw_all := lw_g (lw_at lw_m10 92 rfl) rfl
theorem q2307 : (Jvm.Cond.selects "WillowPrintersModel" ({ cls := "WillowPrintersModel", name := "snapshot", desc := "()I" } : Jvm.MethodName) ({ cls := "WillowPrintersModel", name := "snapshot", desc := "()I" } : Jvm.MethodName)) ∈ lw_all := lw_g (lw_at lw_m10 93 rfl) rfl
theorem q2308 : (Jvm.Cond.code ({ cls := "WillowPrintersModel", name := "snapshot", desc := "()I" } : Jvm.MethodName) prog_24_method_78_code (1 : Nat) (Option.some Jvm.ClassFile.FieldType.int)) ∈ lw_all := lw_g (lw_at lw_m10 94 rfl) rfl
theorem q2310 : (Jvm.Cond.instanceMethod ({ cls := "WillowPrintersModel", name := "restore", desc := "()I" } : Jvm.MethodName)) ∈ lw_all := lw_g (lw_at lw_m10 96 rfl) rfl
theorem q2311 : (Jvm.Cond.selects "WillowPrintersModel" ({ cls := "WillowPrintersModel", name := "restore", desc := "()I" } : Jvm.MethodName) ({ cls := "WillowPrintersModel", name := "restore", desc := "()I" } : Jvm.MethodName)) ∈ lw_all := lw_g (lw_at lw_m10 97 rfl) rfl
theorem q2312 : (Jvm.Cond.code ({ cls := "WillowPrintersModel", name := "restore", desc := "()I" } : Jvm.MethodName) prog_24_method_79_code (1 : Nat) (Option.some Jvm.ClassFile.FieldType.int)) ∈ lw_all := lw_g (lw_at lw_m10 98 rfl) rfl
theorem q2337 : (Jvm.Cond.castable "WillowPrintersModel" "java/lang/Object") ∈ lw_tbl := lw_at lw_m10 123 rfl
theorem in_X3 : ∀ w ∈ wsX30, w ∈ lw_all := lw_in wsX30 [1952, 1954, 1956, 1958, 1960, 1962, 1964, 1966, 1968, 1970, 1972, 1974, 1976, 1978, 1980, 1982, 1984, 1986, 1988] (by decide +kernel) (by decide +kernel)
