/-! WillowPrinters -/
set_option maxRecDepth 100000
def RX1 : String := "WillowPrinters"
def TX1 : u_T := fun k => match k with
  | 0 => ("WillowPrinters", "house", "LWillowPrinters$House;", false)
  | 1 => ("WillowPrinters", "undoSteps", "Ljava/util/ArrayDeque;", true)
  | 2 => ("WillowPrinters", "saved", "LWillowPrinters$House;", false)
  | 3 => ("WillowPrinters", "input", "Ljava/lang/StringBuilder;", false)
  | 4 => ("WillowPrinters", "line", "Ljava/lang/String;", false)
  | 5 => ("WillowPrinters", "lastError", "LWillowPrinters$SyntaxException;", false)
  | 6 => ("WillowPrinters", "lastItem", "I", false)
  | _ => ("WillowPrinters", "lastRefusal", "LWillowPrinters$Refused;", false)
def tyX1 : Nat → FieldType := fun k => match k with
  | 0 => .object "WillowPrinters$House"
  | 1 => .object "java/util/ArrayDeque"
  | 2 => .object "WillowPrinters$House"
  | 3 => .object "java/lang/StringBuilder"
  | 4 => .object "java/lang/String"
  | 5 => .object "WillowPrinters$SyntaxException"
  | 6 => .int
  | _ => .object "WillowPrinters$Refused"
abbrev wsX10 : List Cond := u_ws RX1 TX1 8
theorem nmX1 : ∀ a, a < 8 → ∀ b, b < 8 → a ≠ b → (TX1 a).2.1 ≠ (TX1 b).2.1 := by decide +kernel
theorem tyX1_ok : ∀ k, k < 8 → parseFieldDescriptor (TX1 k).2.2.1 = some (tyX1 k) := by decide +kernel
abbrev cX1_init : ByteArray := prog_1_method_10_code
def yX1_init : MethodName := ⟨RX1, "<init>", "()V"⟩
def dkwX1_init_2 : List UInt8 := [181, 0, 90, 177]
abbrev dktX1_init_2 : List UInt8 := dkwX1_init_2 ++ []
def dkwX1_init_1 : List UInt8 := [181, 0, 73, 42, 187, 0, 77, 89, 183, 0, 79, 181, 0, 80, 42, 18, 84, 181, 0, 86, 42, 2]
abbrev dktX1_init_1 : List UInt8 := dkwX1_init_1 ++ dktX1_init_2
def dkwX1_init_0 : List UInt8 := [42, 183, 0, 60, 42, 187, 0, 63, 89, 183, 0, 65, 181, 0, 66, 42, 187, 0, 70, 89, 183, 0, 72]
abbrev dktX1_init_0 : List UInt8 := dkwX1_init_0 ++ dktX1_init_1
theorem dksX1_init_0 : cX1_init.data.toList.drop 0 = dktX1_init_0 := by decide +kernel
theorem dksX1_init_1 : cX1_init.data.toList.drop 23 = dktX1_init_1 := dk_seg dksX1_init_0 23 rfl rfl
theorem dksX1_init_2 : cX1_init.data.toList.drop 45 = dktX1_init_2 := dk_seg dksX1_init_1 22 rfl rfl
theorem dX1_init_0 : decode cX1_init 0 = .ok (.aload_n 0, 1) := dk_42 (dk_at dksX1_init_0 0 rfl rfl)
theorem dX1_init_1 : decode cX1_init 1 = .ok (.invokespecial 60, 3) := dk_183 0 60 (dk_at dksX1_init_0 1 rfl rfl)
theorem dX1_init_4 : decode cX1_init 4 = .ok (.aload_n 0, 1) := dk_42 (dk_at dksX1_init_0 4 rfl rfl)
theorem dX1_init_5 : decode cX1_init 5 = .ok (.new 63, 3) := dk_187 0 63 (dk_at dksX1_init_0 5 rfl rfl)
theorem dX1_init_8 : decode cX1_init 8 = .ok (.dup, 1) := dk_89 (dk_at dksX1_init_0 8 rfl rfl)
theorem dX1_init_9 : decode cX1_init 9 = .ok (.invokespecial 65, 3) := dk_183 0 65 (dk_at dksX1_init_0 9 rfl rfl)
theorem dX1_init_12 : decode cX1_init 12 = .ok (.putfield 66, 3) := dk_181 0 66 (dk_at dksX1_init_0 12 rfl rfl)
theorem dX1_init_15 : decode cX1_init 15 = .ok (.aload_n 0, 1) := dk_42 (dk_at dksX1_init_0 15 rfl rfl)
theorem dX1_init_16 : decode cX1_init 16 = .ok (.new 70, 3) := dk_187 0 70 (dk_at dksX1_init_0 16 rfl rfl)
theorem dX1_init_19 : decode cX1_init 19 = .ok (.dup, 1) := dk_89 (dk_at dksX1_init_0 19 rfl rfl)
theorem dX1_init_20 : decode cX1_init 20 = .ok (.invokespecial 72, 3) := dk_183 0 72 (dk_at dksX1_init_0 20 rfl rfl)
theorem dX1_init_23 : decode cX1_init 23 = .ok (.putfield 73, 3) := dk_181 0 73 (dk_at dksX1_init_1 0 rfl rfl)
theorem dX1_init_26 : decode cX1_init 26 = .ok (.aload_n 0, 1) := dk_42 (dk_at dksX1_init_1 3 rfl rfl)
theorem dX1_init_27 : decode cX1_init 27 = .ok (.new 77, 3) := dk_187 0 77 (dk_at dksX1_init_1 4 rfl rfl)
theorem dX1_init_30 : decode cX1_init 30 = .ok (.dup, 1) := dk_89 (dk_at dksX1_init_1 7 rfl rfl)
theorem dX1_init_31 : decode cX1_init 31 = .ok (.invokespecial 79, 3) := dk_183 0 79 (dk_at dksX1_init_1 8 rfl rfl)
theorem dX1_init_34 : decode cX1_init 34 = .ok (.putfield 80, 3) := dk_181 0 80 (dk_at dksX1_init_1 11 rfl rfl)
theorem dX1_init_37 : decode cX1_init 37 = .ok (.aload_n 0, 1) := dk_42 (dk_at dksX1_init_1 14 rfl rfl)
theorem dX1_init_38 : decode cX1_init 38 = .ok (.ldc 84, 2) := dk_18 84 (dk_at dksX1_init_1 15 rfl rfl)
theorem dX1_init_40 : decode cX1_init 40 = .ok (.putfield 86, 3) := dk_181 0 86 (dk_at dksX1_init_1 17 rfl rfl)
theorem dX1_init_43 : decode cX1_init 43 = .ok (.aload_n 0, 1) := dk_42 (dk_at dksX1_init_1 20 rfl rfl)
theorem dX1_init_44 : decode cX1_init 44 = .ok (.iconst (-1), 1) := dk_2 (dk_at dksX1_init_1 21 rfl rfl)
theorem dX1_init_45 : decode cX1_init 45 = .ok (.putfield 90, 3) := dk_181 0 90 (dk_at dksX1_init_2 0 rfl rfl)
theorem dX1_init_48 : decode cX1_init 48 = .ok (.return_, 1) := dk_177 (dk_at dksX1_init_2 3 rfl rfl)
abbrev cX1_clear : ByteArray := prog_1_method_13_code
def yX1_clear : MethodName := ⟨RX1, "clear", "()I"⟩
def dkwX1_clear_1 : List UInt8 := [182, 0, 129, 27, 172]
abbrev dktX1_clear_1 : List UInt8 := dkwX1_clear_1 ++ []
def dkwX1_clear_0 : List UInt8 := [42, 180, 0, 66, 180, 0, 126, 60, 42, 187, 0, 63, 89, 183, 0, 65, 181, 0, 66, 42, 180, 0, 73]
abbrev dktX1_clear_0 : List UInt8 := dkwX1_clear_0 ++ dktX1_clear_1
theorem dksX1_clear_0 : cX1_clear.data.toList.drop 0 = dktX1_clear_0 := by decide +kernel
theorem dksX1_clear_1 : cX1_clear.data.toList.drop 23 = dktX1_clear_1 := dk_seg dksX1_clear_0 23 rfl rfl
theorem dX1_clear_0 : decode cX1_clear 0 = .ok (.aload_n 0, 1) := dk_42 (dk_at dksX1_clear_0 0 rfl rfl)
theorem dX1_clear_1 : decode cX1_clear 1 = .ok (.getfield 66, 3) := dk_180 0 66 (dk_at dksX1_clear_0 1 rfl rfl)
theorem dX1_clear_4 : decode cX1_clear 4 = .ok (.getfield 126, 3) := dk_180 0 126 (dk_at dksX1_clear_0 4 rfl rfl)
theorem dX1_clear_7 : decode cX1_clear 7 = .ok (.istore_n 1, 1) := dk_60 (dk_at dksX1_clear_0 7 rfl rfl)
theorem dX1_clear_8 : decode cX1_clear 8 = .ok (.aload_n 0, 1) := dk_42 (dk_at dksX1_clear_0 8 rfl rfl)
theorem dX1_clear_9 : decode cX1_clear 9 = .ok (.new 63, 3) := dk_187 0 63 (dk_at dksX1_clear_0 9 rfl rfl)
theorem dX1_clear_12 : decode cX1_clear 12 = .ok (.dup, 1) := dk_89 (dk_at dksX1_clear_0 12 rfl rfl)
theorem dX1_clear_13 : decode cX1_clear 13 = .ok (.invokespecial 65, 3) := dk_183 0 65 (dk_at dksX1_clear_0 13 rfl rfl)
theorem dX1_clear_16 : decode cX1_clear 16 = .ok (.putfield 66, 3) := dk_181 0 66 (dk_at dksX1_clear_0 16 rfl rfl)
theorem dX1_clear_19 : decode cX1_clear 19 = .ok (.aload_n 0, 1) := dk_42 (dk_at dksX1_clear_0 19 rfl rfl)
theorem dX1_clear_20 : decode cX1_clear 20 = .ok (.getfield 73, 3) := dk_180 0 73 (dk_at dksX1_clear_0 20 rfl rfl)
theorem dX1_clear_23 : decode cX1_clear 23 = .ok (.invokevirtual 129, 3) := dk_182 0 129 (dk_at dksX1_clear_1 0 rfl rfl)
theorem dX1_clear_26 : decode cX1_clear 26 = .ok (.iload_n 1, 1) := dk_27 (dk_at dksX1_clear_1 3 rfl rfl)
theorem dX1_clear_27 : decode cX1_clear 27 = .ok (.ireturn, 1) := dk_172 (dk_at dksX1_clear_1 4 rfl rfl)
abbrev cX1_platesAgain : ByteArray := prog_1_method_40_code
def yX1_platesAgain : MethodName := ⟨RX1, "platesAgain", "()I"⟩
def dkwX1_platesAgain_1 : List UInt8 := [180, 0, 66, 180, 1, 71, 100, 42, 180, 0, 66, 180, 1, 74, 100, 172]
abbrev dktX1_platesAgain_1 : List UInt8 := dkwX1_platesAgain_1 ++ []
def dkwX1_platesAgain_0 : List UInt8 := [42, 180, 0, 66, 180, 1, 54, 42, 180, 0, 66, 182, 1, 65, 100, 42, 180, 0, 66, 180, 1, 68, 100, 42]
abbrev dktX1_platesAgain_0 : List UInt8 := dkwX1_platesAgain_0 ++ dktX1_platesAgain_1
theorem dksX1_platesAgain_0 : cX1_platesAgain.data.toList.drop 0 = dktX1_platesAgain_0 := by decide +kernel
theorem dksX1_platesAgain_1 : cX1_platesAgain.data.toList.drop 24 = dktX1_platesAgain_1 := dk_seg dksX1_platesAgain_0 24 rfl rfl
theorem dX1_platesAgain_0 : decode cX1_platesAgain 0 = .ok (.aload_n 0, 1) := dk_42 (dk_at dksX1_platesAgain_0 0 rfl rfl)
theorem dX1_platesAgain_1 : decode cX1_platesAgain 1 = .ok (.getfield 66, 3) := dk_180 0 66 (dk_at dksX1_platesAgain_0 1 rfl rfl)
theorem dX1_platesAgain_4 : decode cX1_platesAgain 4 = .ok (.getfield 310, 3) := dk_180 1 54 (dk_at dksX1_platesAgain_0 4 rfl rfl)
theorem dX1_platesAgain_7 : decode cX1_platesAgain 7 = .ok (.aload_n 0, 1) := dk_42 (dk_at dksX1_platesAgain_0 7 rfl rfl)
theorem dX1_platesAgain_8 : decode cX1_platesAgain 8 = .ok (.getfield 66, 3) := dk_180 0 66 (dk_at dksX1_platesAgain_0 8 rfl rfl)
theorem dX1_platesAgain_11 : decode cX1_platesAgain 11 = .ok (.invokevirtual 321, 3) := dk_182 1 65 (dk_at dksX1_platesAgain_0 11 rfl rfl)
theorem dX1_platesAgain_14 : decode cX1_platesAgain 14 = .ok (.isub, 1) := dk_100 (dk_at dksX1_platesAgain_0 14 rfl rfl)
theorem dX1_platesAgain_15 : decode cX1_platesAgain 15 = .ok (.aload_n 0, 1) := dk_42 (dk_at dksX1_platesAgain_0 15 rfl rfl)
theorem dX1_platesAgain_16 : decode cX1_platesAgain 16 = .ok (.getfield 66, 3) := dk_180 0 66 (dk_at dksX1_platesAgain_0 16 rfl rfl)
theorem dX1_platesAgain_19 : decode cX1_platesAgain 19 = .ok (.getfield 324, 3) := dk_180 1 68 (dk_at dksX1_platesAgain_0 19 rfl rfl)
theorem dX1_platesAgain_22 : decode cX1_platesAgain 22 = .ok (.isub, 1) := dk_100 (dk_at dksX1_platesAgain_0 22 rfl rfl)
theorem dX1_platesAgain_23 : decode cX1_platesAgain 23 = .ok (.aload_n 0, 1) := dk_42 (dk_at dksX1_platesAgain_0 23 rfl rfl)
theorem dX1_platesAgain_24 : decode cX1_platesAgain 24 = .ok (.getfield 66, 3) := dk_180 0 66 (dk_at dksX1_platesAgain_1 0 rfl rfl)
theorem dX1_platesAgain_27 : decode cX1_platesAgain 27 = .ok (.getfield 327, 3) := dk_180 1 71 (dk_at dksX1_platesAgain_1 3 rfl rfl)
theorem dX1_platesAgain_30 : decode cX1_platesAgain 30 = .ok (.isub, 1) := dk_100 (dk_at dksX1_platesAgain_1 6 rfl rfl)
theorem dX1_platesAgain_31 : decode cX1_platesAgain 31 = .ok (.aload_n 0, 1) := dk_42 (dk_at dksX1_platesAgain_1 7 rfl rfl)
theorem dX1_platesAgain_32 : decode cX1_platesAgain 32 = .ok (.getfield 66, 3) := dk_180 0 66 (dk_at dksX1_platesAgain_1 8 rfl rfl)
theorem dX1_platesAgain_35 : decode cX1_platesAgain 35 = .ok (.getfield 330, 3) := dk_180 1 74 (dk_at dksX1_platesAgain_1 11 rfl rfl)
theorem dX1_platesAgain_38 : decode cX1_platesAgain 38 = .ok (.isub, 1) := dk_100 (dk_at dksX1_platesAgain_1 14 rfl rfl)
theorem dX1_platesAgain_39 : decode cX1_platesAgain 39 = .ok (.ireturn, 1) := dk_172 (dk_at dksX1_platesAgain_1 15 rfl rfl)
abbrev cX1_sum : ByteArray := prog_1_method_8_code
def yX1_sum : MethodName := ⟨RX1, "sum", "(Ljava/util/ArrayList;LWillowPrinters$Test;LWillowPrinters$Measure;)I"⟩
def dkwX1_sum_2 : List UInt8 := [96, 62, 132, 4, 1, 167, 255, 210, 29, 172]
abbrev dktX1_sum_2 : List UInt8 := dkwX1_sum_2 ++ []
def dkwX1_sum_1 : List UInt8 := [185, 0, 41, 2, 0, 153, 0, 18, 44, 42, 21, 4, 182, 0, 37, 185, 0, 47, 2, 0, 167, 0, 4, 3]
abbrev dktX1_sum_1 : List UInt8 := dkwX1_sum_1 ++ dktX1_sum_2
def dkwX1_sum_0 : List UInt8 := [3, 62, 3, 54, 4, 21, 4, 42, 182, 0, 31, 162, 0, 43, 29, 43, 42, 21, 4, 182, 0, 37]
abbrev dktX1_sum_0 : List UInt8 := dkwX1_sum_0 ++ dktX1_sum_1
theorem dksX1_sum_0 : cX1_sum.data.toList.drop 0 = dktX1_sum_0 := by decide +kernel
theorem dksX1_sum_1 : cX1_sum.data.toList.drop 22 = dktX1_sum_1 := dk_seg dksX1_sum_0 22 rfl rfl
theorem dksX1_sum_2 : cX1_sum.data.toList.drop 46 = dktX1_sum_2 := dk_seg dksX1_sum_1 24 rfl rfl
theorem dX1_sum_0 : decode cX1_sum 0 = .ok (.iconst 0, 1) := dk_3 (dk_at dksX1_sum_0 0 rfl rfl)
theorem dX1_sum_1 : decode cX1_sum 1 = .ok (.istore_n 3, 1) := dk_62 (dk_at dksX1_sum_0 1 rfl rfl)
theorem dX1_sum_2 : decode cX1_sum 2 = .ok (.iconst 0, 1) := dk_3 (dk_at dksX1_sum_0 2 rfl rfl)
theorem dX1_sum_3 : decode cX1_sum 3 = .ok (.istore 4, 2) := dk_54 4 (dk_at dksX1_sum_0 3 rfl rfl)
theorem dX1_sum_5 : decode cX1_sum 5 = .ok (.iload 4, 2) := dk_21 4 (dk_at dksX1_sum_0 5 rfl rfl)
theorem dX1_sum_7 : decode cX1_sum 7 = .ok (.aload_n 0, 1) := dk_42 (dk_at dksX1_sum_0 7 rfl rfl)
theorem dX1_sum_8 : decode cX1_sum 8 = .ok (.invokevirtual 31, 3) := dk_182 0 31 (dk_at dksX1_sum_0 8 rfl rfl)
theorem dX1_sum_11 : decode cX1_sum 11 = .ok (.if_icmp .ge 43, 3) := dk_162 0 43 (dk_at dksX1_sum_0 11 rfl rfl)
theorem dX1_sum_14 : decode cX1_sum 14 = .ok (.iload_n 3, 1) := dk_29 (dk_at dksX1_sum_0 14 rfl rfl)
theorem dX1_sum_15 : decode cX1_sum 15 = .ok (.aload_n 1, 1) := dk_43 (dk_at dksX1_sum_0 15 rfl rfl)
theorem dX1_sum_16 : decode cX1_sum 16 = .ok (.aload_n 0, 1) := dk_42 (dk_at dksX1_sum_0 16 rfl rfl)
theorem dX1_sum_17 : decode cX1_sum 17 = .ok (.iload 4, 2) := dk_21 4 (dk_at dksX1_sum_0 17 rfl rfl)
theorem dX1_sum_19 : decode cX1_sum 19 = .ok (.invokevirtual 37, 3) := dk_182 0 37 (dk_at dksX1_sum_0 19 rfl rfl)
theorem dX1_sum_22 : decode cX1_sum 22 = .ok (.invokeinterface 41 2, 5) := by decide +kernel
theorem dX1_sum_27 : decode cX1_sum 27 = .ok (.ifCond .eq 18, 3) := dk_153 0 18 (dk_at dksX1_sum_1 5 rfl rfl)
theorem dX1_sum_30 : decode cX1_sum 30 = .ok (.aload_n 2, 1) := dk_44 (dk_at dksX1_sum_1 8 rfl rfl)
theorem dX1_sum_31 : decode cX1_sum 31 = .ok (.aload_n 0, 1) := dk_42 (dk_at dksX1_sum_1 9 rfl rfl)
theorem dX1_sum_32 : decode cX1_sum 32 = .ok (.iload 4, 2) := dk_21 4 (dk_at dksX1_sum_1 10 rfl rfl)
theorem dX1_sum_34 : decode cX1_sum 34 = .ok (.invokevirtual 37, 3) := dk_182 0 37 (dk_at dksX1_sum_1 12 rfl rfl)
theorem dX1_sum_37 : decode cX1_sum 37 = .ok (.invokeinterface 47 2, 5) := by decide +kernel
theorem dX1_sum_42 : decode cX1_sum 42 = .ok (.goto 4, 3) := dk_167 0 4 (dk_at dksX1_sum_1 20 rfl rfl)
theorem dX1_sum_45 : decode cX1_sum 45 = .ok (.iconst 0, 1) := dk_3 (dk_at dksX1_sum_1 23 rfl rfl)
theorem dX1_sum_46 : decode cX1_sum 46 = .ok (.iadd, 1) := dk_96 (dk_at dksX1_sum_2 0 rfl rfl)
theorem dX1_sum_47 : decode cX1_sum 47 = .ok (.istore_n 3, 1) := dk_62 (dk_at dksX1_sum_2 1 rfl rfl)
theorem dX1_sum_48 : decode cX1_sum 48 = .ok (.iinc 4 1, 3) := dk_132 4 1 (dk_at dksX1_sum_2 2 rfl rfl)
theorem dX1_sum_51 : decode cX1_sum 51 = .ok (.goto (-46), 3) := dk_167 255 210 (dk_at dksX1_sum_2 5 rfl rfl)
theorem dX1_sum_54 : decode cX1_sum 54 = .ok (.iload_n 3, 1) := dk_29 (dk_at dksX1_sum_2 8 rfl rfl)
theorem dX1_sum_55 : decode cX1_sum 55 = .ok (.ireturn, 1) := dk_172 (dk_at dksX1_sum_2 9 rfl rfl)
abbrev cX1_snapshot : ByteArray := prog_1_method_49_code
def yX1_snapshot : MethodName := ⟨RX1, "snapshot", "()I"⟩
def dkwX1_snapshot_0 : List UInt8 := [42, 42, 180, 0, 66, 181, 1, 150, 42, 180, 0, 66, 180, 0, 126, 172]
abbrev dktX1_snapshot_0 : List UInt8 := dkwX1_snapshot_0 ++ []
theorem dksX1_snapshot_0 : cX1_snapshot.data.toList.drop 0 = dktX1_snapshot_0 := by decide +kernel
theorem dX1_snapshot_0 : decode cX1_snapshot 0 = .ok (.aload_n 0, 1) := dk_42 (dk_at dksX1_snapshot_0 0 rfl rfl)
theorem dX1_snapshot_1 : decode cX1_snapshot 1 = .ok (.aload_n 0, 1) := dk_42 (dk_at dksX1_snapshot_0 1 rfl rfl)
theorem dX1_snapshot_2 : decode cX1_snapshot 2 = .ok (.getfield 66, 3) := dk_180 0 66 (dk_at dksX1_snapshot_0 2 rfl rfl)
theorem dX1_snapshot_5 : decode cX1_snapshot 5 = .ok (.putfield 406, 3) := dk_181 1 150 (dk_at dksX1_snapshot_0 5 rfl rfl)
theorem dX1_snapshot_8 : decode cX1_snapshot 8 = .ok (.aload_n 0, 1) := dk_42 (dk_at dksX1_snapshot_0 8 rfl rfl)
theorem dX1_snapshot_9 : decode cX1_snapshot 9 = .ok (.getfield 66, 3) := dk_180 0 66 (dk_at dksX1_snapshot_0 9 rfl rfl)
theorem dX1_snapshot_12 : decode cX1_snapshot 12 = .ok (.getfield 126, 3) := dk_180 0 126 (dk_at dksX1_snapshot_0 12 rfl rfl)
theorem dX1_snapshot_15 : decode cX1_snapshot 15 = .ok (.ireturn, 1) := dk_172 (dk_at dksX1_snapshot_0 15 rfl rfl)
abbrev cX1_sheets : ByteArray := prog_1_method_14_code
def yX1_sheets : MethodName := ⟨RX1, "sheets", "(I)I"⟩
def dkwX1_sheets_0 : List UInt8 := [42, 27, 186, 0, 132, 0, 0, 182, 0, 135, 172]
abbrev dktX1_sheets_0 : List UInt8 := dkwX1_sheets_0 ++ []
theorem dksX1_sheets_0 : cX1_sheets.data.toList.drop 0 = dktX1_sheets_0 := by decide +kernel
theorem dX1_sheets_0 : decode cX1_sheets 0 = .ok (.aload_n 0, 1) := dk_42 (dk_at dksX1_sheets_0 0 rfl rfl)
theorem dX1_sheets_1 : decode cX1_sheets 1 = .ok (.iload_n 1, 1) := dk_27 (dk_at dksX1_sheets_0 1 rfl rfl)
theorem dX1_sheets_2 : decode cX1_sheets 2 = .ok (.invokedynamic 132, 5) := by decide +kernel
theorem dX1_sheets_7 : decode cX1_sheets 7 = .ok (.invokevirtual 135, 3) := dk_182 0 135 (dk_at dksX1_sheets_0 7 rfl rfl)
theorem dX1_sheets_10 : decode cX1_sheets 10 = .ok (.ireturn, 1) := dk_172 (dk_at dksX1_sheets_0 10 rfl rfl)
abbrev cX1_lambda_sheets_1 : ByteArray := prog_1_method_67_code
def yX1_lambda_sheets_1 : MethodName := ⟨RX1, "lambda$sheets$1", "(ILWillowPrinters$House;)I"⟩
def dkwX1_lambda_sheets_1_0 : List UInt8 := [43, 26, 182, 1, 195, 172]
abbrev dktX1_lambda_sheets_1_0 : List UInt8 := dkwX1_lambda_sheets_1_0 ++ []
theorem dksX1_lambda_sheets_1_0 : cX1_lambda_sheets_1.data.toList.drop 0 = dktX1_lambda_sheets_1_0 := by decide +kernel
theorem dX1_lambda_sheets_1_0 : decode cX1_lambda_sheets_1 0 = .ok (.aload_n 1, 1) := dk_43 (dk_at dksX1_lambda_sheets_1_0 0 rfl rfl)
theorem dX1_lambda_sheets_1_1 : decode cX1_lambda_sheets_1 1 = .ok (.iload_n 0, 1) := dk_26 (dk_at dksX1_lambda_sheets_1_0 1 rfl rfl)
theorem dX1_lambda_sheets_1_2 : decode cX1_lambda_sheets_1 2 = .ok (.invokevirtual 451, 3) := dk_182 1 195 (dk_at dksX1_lambda_sheets_1_0 2 rfl rfl)
theorem dX1_lambda_sheets_1_5 : decode cX1_lambda_sheets_1 5 = .ok (.ireturn, 1) := dk_172 (dk_at dksX1_lambda_sheets_1_0 5 rfl rfl)
abbrev cX1_inRange : ByteArray := prog_1_method_1_code
def yX1_inRange : MethodName := ⟨RX1, "inRange", "(JJJ)Z"⟩
def dkwX1_inRange_0 : List UInt8 := [30, 32, 148, 155, 0, 14, 30, 22, 4, 148, 157, 0, 7, 4, 167, 0, 4, 3, 172]
abbrev dktX1_inRange_0 : List UInt8 := dkwX1_inRange_0 ++ []
theorem dksX1_inRange_0 : cX1_inRange.data.toList.drop 0 = dktX1_inRange_0 := by decide +kernel
theorem dX1_inRange_0 : decode cX1_inRange 0 = .ok (.lload_n 0, 1) := dk_30 (dk_at dksX1_inRange_0 0 rfl rfl)
theorem dX1_inRange_1 : decode cX1_inRange 1 = .ok (.lload_n 2, 1) := dk_32 (dk_at dksX1_inRange_0 1 rfl rfl)
theorem dX1_inRange_2 : decode cX1_inRange 2 = .ok (.lcmp, 1) := dk_148 (dk_at dksX1_inRange_0 2 rfl rfl)
theorem dX1_inRange_3 : decode cX1_inRange 3 = .ok (.ifCond .lt 14, 3) := dk_155 0 14 (dk_at dksX1_inRange_0 3 rfl rfl)
theorem dX1_inRange_6 : decode cX1_inRange 6 = .ok (.lload_n 0, 1) := dk_30 (dk_at dksX1_inRange_0 6 rfl rfl)
theorem dX1_inRange_7 : decode cX1_inRange 7 = .ok (.lload 4, 2) := dk_22 4 (dk_at dksX1_inRange_0 7 rfl rfl)
theorem dX1_inRange_9 : decode cX1_inRange 9 = .ok (.lcmp, 1) := dk_148 (dk_at dksX1_inRange_0 9 rfl rfl)
theorem dX1_inRange_10 : decode cX1_inRange 10 = .ok (.ifCond .gt 7, 3) := dk_157 0 7 (dk_at dksX1_inRange_0 10 rfl rfl)
theorem dX1_inRange_13 : decode cX1_inRange 13 = .ok (.iconst 1, 1) := dk_4 (dk_at dksX1_inRange_0 13 rfl rfl)
theorem dX1_inRange_14 : decode cX1_inRange 14 = .ok (.goto 4, 3) := dk_167 0 4 (dk_at dksX1_inRange_0 14 rfl rfl)
theorem dX1_inRange_17 : decode cX1_inRange 17 = .ok (.iconst 0, 1) := dk_3 (dk_at dksX1_inRange_0 17 rfl rfl)
theorem dX1_inRange_18 : decode cX1_inRange 18 = .ok (.ireturn, 1) := dk_172 (dk_at dksX1_inRange_0 18 rfl rfl)
abbrev cX1_checkArgument : ByteArray := prog_1_method_2_code
def yX1_checkArgument : MethodName := ⟨RX1, "checkArgument", "(Z)V"⟩
def dkwX1_checkArgument_0 : List UInt8 := [26, 154, 0, 11, 187, 0, 1, 89, 183, 0, 3, 191, 177]
abbrev dktX1_checkArgument_0 : List UInt8 := dkwX1_checkArgument_0 ++ []
theorem dksX1_checkArgument_0 : cX1_checkArgument.data.toList.drop 0 = dktX1_checkArgument_0 := by decide +kernel
theorem dX1_checkArgument_0 : decode cX1_checkArgument 0 = .ok (.iload_n 0, 1) := dk_26 (dk_at dksX1_checkArgument_0 0 rfl rfl)
theorem dX1_checkArgument_1 : decode cX1_checkArgument 1 = .ok (.ifCond .ne 11, 3) := dk_154 0 11 (dk_at dksX1_checkArgument_0 1 rfl rfl)
theorem dX1_checkArgument_4 : decode cX1_checkArgument 4 = .ok (.new 1, 3) := dk_187 0 1 (dk_at dksX1_checkArgument_0 4 rfl rfl)
theorem dX1_checkArgument_7 : decode cX1_checkArgument 7 = .ok (.dup, 1) := dk_89 (dk_at dksX1_checkArgument_0 7 rfl rfl)
theorem dX1_checkArgument_8 : decode cX1_checkArgument 8 = .ok (.invokespecial 3, 3) := dk_183 0 3 (dk_at dksX1_checkArgument_0 8 rfl rfl)
theorem dX1_checkArgument_11 : decode cX1_checkArgument 11 = .ok (.athrow, 1) := dk_191 (dk_at dksX1_checkArgument_0 11 rfl rfl)
theorem dX1_checkArgument_12 : decode cX1_checkArgument 12 = .ok (.return_, 1) := dk_177 (dk_at dksX1_checkArgument_0 12 rfl rfl)
abbrev cX1_change : ByteArray := prog_1_method_12_code
def yX1_change : MethodName := ⟨RX1, "change", "(LWillowPrinters$Change;)I"⟩
def dkwX1_change_1 : List UInt8 := [181, 0, 115, 187, 0, 119, 89, 183, 0, 121, 191, 42, 44, 182, 0, 122, 29, 172]
abbrev dktX1_change_1 : List UInt8 := dkwX1_change_1 ++ []
def dkwX1_change_0 : List UInt8 := [42, 180, 0, 66, 182, 0, 103, 77, 43, 44, 185, 0, 107, 2, 0, 62, 167, 0, 19, 58, 4, 42, 25, 4]
abbrev dktX1_change_0 : List UInt8 := dkwX1_change_0 ++ dktX1_change_1
theorem dksX1_change_0 : cX1_change.data.toList.drop 0 = dktX1_change_0 := by decide +kernel
theorem dksX1_change_1 : cX1_change.data.toList.drop 24 = dktX1_change_1 := dk_seg dksX1_change_0 24 rfl rfl
theorem dX1_change_0 : decode cX1_change 0 = .ok (.aload_n 0, 1) := dk_42 (dk_at dksX1_change_0 0 rfl rfl)
theorem dX1_change_1 : decode cX1_change 1 = .ok (.getfield 66, 3) := dk_180 0 66 (dk_at dksX1_change_0 1 rfl rfl)
theorem dX1_change_4 : decode cX1_change 4 = .ok (.invokevirtual 103, 3) := dk_182 0 103 (dk_at dksX1_change_0 4 rfl rfl)
theorem dX1_change_7 : decode cX1_change 7 = .ok (.astore_n 2, 1) := dk_77 (dk_at dksX1_change_0 7 rfl rfl)
theorem dX1_change_8 : decode cX1_change 8 = .ok (.aload_n 1, 1) := dk_43 (dk_at dksX1_change_0 8 rfl rfl)
theorem dX1_change_9 : decode cX1_change 9 = .ok (.aload_n 2, 1) := dk_44 (dk_at dksX1_change_0 9 rfl rfl)
theorem dX1_change_10 : decode cX1_change 10 = .ok (.invokeinterface 107 2, 5) := by decide +kernel
theorem dX1_change_15 : decode cX1_change 15 = .ok (.istore_n 3, 1) := dk_62 (dk_at dksX1_change_0 15 rfl rfl)
theorem dX1_change_16 : decode cX1_change 16 = .ok (.goto 19, 3) := dk_167 0 19 (dk_at dksX1_change_0 16 rfl rfl)
theorem dX1_change_19 : decode cX1_change 19 = .ok (.astore 4, 2) := dk_58 4 (dk_at dksX1_change_0 19 rfl rfl)
theorem dX1_change_21 : decode cX1_change 21 = .ok (.aload_n 0, 1) := dk_42 (dk_at dksX1_change_0 21 rfl rfl)
theorem dX1_change_22 : decode cX1_change 22 = .ok (.aload 4, 2) := dk_25 4 (dk_at dksX1_change_0 22 rfl rfl)
theorem dX1_change_24 : decode cX1_change 24 = .ok (.putfield 115, 3) := dk_181 0 115 (dk_at dksX1_change_1 0 rfl rfl)
theorem dX1_change_27 : decode cX1_change 27 = .ok (.new 119, 3) := dk_187 0 119 (dk_at dksX1_change_1 3 rfl rfl)
theorem dX1_change_30 : decode cX1_change 30 = .ok (.dup, 1) := dk_89 (dk_at dksX1_change_1 6 rfl rfl)
theorem dX1_change_31 : decode cX1_change 31 = .ok (.invokespecial 121, 3) := dk_183 0 121 (dk_at dksX1_change_1 7 rfl rfl)
theorem dX1_change_34 : decode cX1_change 34 = .ok (.athrow, 1) := dk_191 (dk_at dksX1_change_1 10 rfl rfl)
theorem dX1_change_35 : decode cX1_change 35 = .ok (.aload_n 0, 1) := dk_42 (dk_at dksX1_change_1 11 rfl rfl)
theorem dX1_change_36 : decode cX1_change 36 = .ok (.aload_n 2, 1) := dk_44 (dk_at dksX1_change_1 12 rfl rfl)
theorem dX1_change_37 : decode cX1_change 37 = .ok (.invokevirtual 122, 3) := dk_182 0 122 (dk_at dksX1_change_1 13 rfl rfl)
theorem dX1_change_40 : decode cX1_change 40 = .ok (.iload_n 3, 1) := dk_29 (dk_at dksX1_change_1 16 rfl rfl)
theorem dX1_change_41 : decode cX1_change 41 = .ok (.ireturn, 1) := dk_172 (dk_at dksX1_change_1 17 rfl rfl)
abbrev cX1_become : ByteArray := prog_1_method_11_code
def yX1_become : MethodName := ⟨RX1, "become", "(LWillowPrinters$House;)V"⟩
def dkwX1_become_1 : List UInt8 := [180, 0, 73, 42, 180, 0, 66, 182, 0, 99, 42, 43, 181, 0, 66, 177]
abbrev dktX1_become_1 : List UInt8 := dkwX1_become_1 ++ []
def dkwX1_become_0 : List UInt8 := [42, 180, 0, 73, 182, 0, 94, 16, 8, 160, 0, 14, 42, 180, 0, 73, 182, 0, 95, 192, 0, 63, 77, 42]
abbrev dktX1_become_0 : List UInt8 := dkwX1_become_0 ++ dktX1_become_1
theorem dksX1_become_0 : cX1_become.data.toList.drop 0 = dktX1_become_0 := by decide +kernel
theorem dksX1_become_1 : cX1_become.data.toList.drop 24 = dktX1_become_1 := dk_seg dksX1_become_0 24 rfl rfl
theorem dX1_become_0 : decode cX1_become 0 = .ok (.aload_n 0, 1) := dk_42 (dk_at dksX1_become_0 0 rfl rfl)
theorem dX1_become_1 : decode cX1_become 1 = .ok (.getfield 73, 3) := dk_180 0 73 (dk_at dksX1_become_0 1 rfl rfl)
theorem dX1_become_4 : decode cX1_become 4 = .ok (.invokevirtual 94, 3) := dk_182 0 94 (dk_at dksX1_become_0 4 rfl rfl)
theorem dX1_become_7 : decode cX1_become 7 = .ok (.bipush 8, 2) := dk_16 8 (dk_at dksX1_become_0 7 rfl rfl)
theorem dX1_become_9 : decode cX1_become 9 = .ok (.if_icmp .ne 14, 3) := dk_160 0 14 (dk_at dksX1_become_0 9 rfl rfl)
theorem dX1_become_12 : decode cX1_become 12 = .ok (.aload_n 0, 1) := dk_42 (dk_at dksX1_become_0 12 rfl rfl)
theorem dX1_become_13 : decode cX1_become 13 = .ok (.getfield 73, 3) := dk_180 0 73 (dk_at dksX1_become_0 13 rfl rfl)
theorem dX1_become_16 : decode cX1_become 16 = .ok (.invokevirtual 95, 3) := dk_182 0 95 (dk_at dksX1_become_0 16 rfl rfl)
theorem dX1_become_19 : decode cX1_become 19 = .ok (.checkcast 63, 3) := dk_192 0 63 (dk_at dksX1_become_0 19 rfl rfl)
theorem dX1_become_22 : decode cX1_become 22 = .ok (.astore_n 2, 1) := dk_77 (dk_at dksX1_become_0 22 rfl rfl)
theorem dX1_become_23 : decode cX1_become 23 = .ok (.aload_n 0, 1) := dk_42 (dk_at dksX1_become_0 23 rfl rfl)
theorem dX1_become_24 : decode cX1_become 24 = .ok (.getfield 73, 3) := dk_180 0 73 (dk_at dksX1_become_1 0 rfl rfl)
theorem dX1_become_27 : decode cX1_become 27 = .ok (.aload_n 0, 1) := dk_42 (dk_at dksX1_become_1 3 rfl rfl)
theorem dX1_become_28 : decode cX1_become 28 = .ok (.getfield 66, 3) := dk_180 0 66 (dk_at dksX1_become_1 4 rfl rfl)
theorem dX1_become_31 : decode cX1_become 31 = .ok (.invokevirtual 99, 3) := dk_182 0 99 (dk_at dksX1_become_1 7 rfl rfl)
theorem dX1_become_34 : decode cX1_become 34 = .ok (.aload_n 0, 1) := dk_42 (dk_at dksX1_become_1 10 rfl rfl)
theorem dX1_become_35 : decode cX1_become 35 = .ok (.aload_n 1, 1) := dk_43 (dk_at dksX1_become_1 11 rfl rfl)
theorem dX1_become_36 : decode cX1_become 36 = .ok (.putfield 66, 3) := dk_181 0 66 (dk_at dksX1_become_1 12 rfl rfl)
theorem dX1_become_39 : decode cX1_become 39 = .ok (.return_, 1) := dk_177 (dk_at dksX1_become_1 15 rfl rfl)
abbrev cX1_damp : ByteArray := prog_1_method_15_code
def yX1_damp : MethodName := ⟨RX1, "damp", "(I)I"⟩
def dkwX1_damp_0 : List UInt8 := [42, 27, 186, 0, 139, 0, 0, 182, 0, 135, 172]
abbrev dktX1_damp_0 : List UInt8 := dkwX1_damp_0 ++ []
theorem dksX1_damp_0 : cX1_damp.data.toList.drop 0 = dktX1_damp_0 := by decide +kernel
theorem dX1_damp_0 : decode cX1_damp 0 = .ok (.aload_n 0, 1) := dk_42 (dk_at dksX1_damp_0 0 rfl rfl)
theorem dX1_damp_1 : decode cX1_damp 1 = .ok (.iload_n 1, 1) := dk_27 (dk_at dksX1_damp_0 1 rfl rfl)
theorem dX1_damp_2 : decode cX1_damp 2 = .ok (.invokedynamic 139, 5) := by decide +kernel
theorem dX1_damp_7 : decode cX1_damp 7 = .ok (.invokevirtual 135, 3) := dk_182 0 135 (dk_at dksX1_damp_0 7 rfl rfl)
theorem dX1_damp_10 : decode cX1_damp 10 = .ok (.ireturn, 1) := dk_172 (dk_at dksX1_damp_0 10 rfl rfl)
abbrev cX1_lambda_damp_2 : ByteArray := prog_1_method_66_code
def yX1_lambda_damp_2 : MethodName := ⟨RX1, "lambda$damp$2", "(ILWillowPrinters$House;)I"⟩
def dkwX1_lambda_damp_2_0 : List UInt8 := [43, 26, 182, 1, 192, 172]
abbrev dktX1_lambda_damp_2_0 : List UInt8 := dkwX1_lambda_damp_2_0 ++ []
theorem dksX1_lambda_damp_2_0 : cX1_lambda_damp_2.data.toList.drop 0 = dktX1_lambda_damp_2_0 := by decide +kernel
theorem dX1_lambda_damp_2_0 : decode cX1_lambda_damp_2 0 = .ok (.aload_n 1, 1) := dk_43 (dk_at dksX1_lambda_damp_2_0 0 rfl rfl)
theorem dX1_lambda_damp_2_1 : decode cX1_lambda_damp_2 1 = .ok (.iload_n 0, 1) := dk_26 (dk_at dksX1_lambda_damp_2_0 1 rfl rfl)
theorem dX1_lambda_damp_2_2 : decode cX1_lambda_damp_2 2 = .ok (.invokevirtual 448, 3) := dk_182 1 192 (dk_at dksX1_lambda_damp_2_0 2 rfl rfl)
theorem dX1_lambda_damp_2_5 : decode cX1_lambda_damp_2 5 = .ok (.ireturn, 1) := dk_172 (dk_at dksX1_lambda_damp_2_0 5 rfl rfl)
abbrev cX1_copper : ByteArray := prog_1_method_16_code
def yX1_copper : MethodName := ⟨RX1, "copper", "(I)I"⟩
def dkwX1_copper_0 : List UInt8 := [42, 27, 186, 0, 140, 0, 0, 182, 0, 135, 172]
abbrev dktX1_copper_0 : List UInt8 := dkwX1_copper_0 ++ []
theorem dksX1_copper_0 : cX1_copper.data.toList.drop 0 = dktX1_copper_0 := by decide +kernel
theorem dX1_copper_0 : decode cX1_copper 0 = .ok (.aload_n 0, 1) := dk_42 (dk_at dksX1_copper_0 0 rfl rfl)
theorem dX1_copper_1 : decode cX1_copper 1 = .ok (.iload_n 1, 1) := dk_27 (dk_at dksX1_copper_0 1 rfl rfl)
theorem dX1_copper_2 : decode cX1_copper 2 = .ok (.invokedynamic 140, 5) := by decide +kernel
theorem dX1_copper_7 : decode cX1_copper 7 = .ok (.invokevirtual 135, 3) := dk_182 0 135 (dk_at dksX1_copper_0 7 rfl rfl)
theorem dX1_copper_10 : decode cX1_copper 10 = .ok (.ireturn, 1) := dk_172 (dk_at dksX1_copper_0 10 rfl rfl)
abbrev cX1_lambda_copper_3 : ByteArray := prog_1_method_65_code
def yX1_lambda_copper_3 : MethodName := ⟨RX1, "lambda$copper$3", "(ILWillowPrinters$House;)I"⟩
def dkwX1_lambda_copper_3_0 : List UInt8 := [43, 26, 182, 1, 189, 172]
abbrev dktX1_lambda_copper_3_0 : List UInt8 := dkwX1_lambda_copper_3_0 ++ []
theorem dksX1_lambda_copper_3_0 : cX1_lambda_copper_3.data.toList.drop 0 = dktX1_lambda_copper_3_0 := by decide +kernel
theorem dX1_lambda_copper_3_0 : decode cX1_lambda_copper_3 0 = .ok (.aload_n 1, 1) := dk_43 (dk_at dksX1_lambda_copper_3_0 0 rfl rfl)
theorem dX1_lambda_copper_3_1 : decode cX1_lambda_copper_3 1 = .ok (.iload_n 0, 1) := dk_26 (dk_at dksX1_lambda_copper_3_0 1 rfl rfl)
theorem dX1_lambda_copper_3_2 : decode cX1_lambda_copper_3 2 = .ok (.invokevirtual 445, 3) := dk_182 1 189 (dk_at dksX1_lambda_copper_3_0 2 rfl rfl)
theorem dX1_lambda_copper_3_5 : decode cX1_lambda_copper_3 5 = .ok (.ireturn, 1) := dk_172 (dk_at dksX1_lambda_copper_3_0 5 rfl rfl)
abbrev cX1_checkState : ByteArray := prog_1_method_4_code
def yX1_checkState : MethodName := ⟨RX1, "checkState", "(Z)V"⟩
def dkwX1_checkState_0 : List UInt8 := [26, 154, 0, 11, 187, 0, 10, 89, 183, 0, 12, 191, 177]
abbrev dktX1_checkState_0 : List UInt8 := dkwX1_checkState_0 ++ []
theorem dksX1_checkState_0 : cX1_checkState.data.toList.drop 0 = dktX1_checkState_0 := by decide +kernel
theorem dX1_checkState_0 : decode cX1_checkState 0 = .ok (.iload_n 0, 1) := dk_26 (dk_at dksX1_checkState_0 0 rfl rfl)
theorem dX1_checkState_1 : decode cX1_checkState 1 = .ok (.ifCond .ne 11, 3) := dk_154 0 11 (dk_at dksX1_checkState_0 1 rfl rfl)
theorem dX1_checkState_4 : decode cX1_checkState 4 = .ok (.new 10, 3) := dk_187 0 10 (dk_at dksX1_checkState_0 4 rfl rfl)
theorem dX1_checkState_7 : decode cX1_checkState 7 = .ok (.dup, 1) := dk_89 (dk_at dksX1_checkState_0 7 rfl rfl)
theorem dX1_checkState_8 : decode cX1_checkState 8 = .ok (.invokespecial 12, 3) := dk_183 0 12 (dk_at dksX1_checkState_0 8 rfl rfl)
theorem dX1_checkState_11 : decode cX1_checkState 11 = .ok (.athrow, 1) := dk_191 (dk_at dksX1_checkState_0 11 rfl rfl)
theorem dX1_checkState_12 : decode cX1_checkState 12 = .ok (.return_, 1) := dk_177 (dk_at dksX1_checkState_0 12 rfl rfl)
abbrev cX1_copperOf : ByteArray := prog_1_method_17_code
def yX1_copperOf : MethodName := ⟨RX1, "copperOf", "(II)I"⟩
def dkwX1_copperOf_3 : List UInt8 := [180, 0, 160, 172, 187, 0, 1, 89, 183, 0, 3, 191]
abbrev dktX1_copperOf_3 : List UInt8 := dkwX1_copperOf_3 ++ []
def dkwX1_copperOf_2 : List UInt8 := [45, 180, 0, 145, 172, 45, 180, 0, 150, 172, 45, 42, 180, 0, 66, 180, 0, 153, 182, 0, 156, 172, 45]
abbrev dktX1_copperOf_2 : List UInt8 := dkwX1_copperOf_2 ++ dktX1_copperOf_3
def dkwX1_copperOf_1 : List UInt8 := [170, 0, 0, 0, 0, 57, 0, 0, 0, 0, 0, 0, 0, 3, 0, 0, 0, 30, 0, 0, 0, 35, 0, 0, 0, 40, 0, 0, 0, 52]
abbrev dktX1_copperOf_1 : List UInt8 := dkwX1_copperOf_1 ++ dktX1_copperOf_2
def dkwX1_copperOf_0 : List UInt8 := [42, 180, 0, 66, 27, 182, 0, 141, 78, 28]
abbrev dktX1_copperOf_0 : List UInt8 := dkwX1_copperOf_0 ++ dktX1_copperOf_1
theorem dksX1_copperOf_0 : cX1_copperOf.data.toList.drop 0 = dktX1_copperOf_0 := by decide +kernel
theorem dksX1_copperOf_1 : cX1_copperOf.data.toList.drop 10 = dktX1_copperOf_1 := dk_seg dksX1_copperOf_0 10 rfl rfl
theorem dksX1_copperOf_2 : cX1_copperOf.data.toList.drop 40 = dktX1_copperOf_2 := dk_seg dksX1_copperOf_1 30 rfl rfl
theorem dksX1_copperOf_3 : cX1_copperOf.data.toList.drop 63 = dktX1_copperOf_3 := dk_seg dksX1_copperOf_2 23 rfl rfl
theorem dX1_copperOf_0 : decode cX1_copperOf 0 = .ok (.aload_n 0, 1) := dk_42 (dk_at dksX1_copperOf_0 0 rfl rfl)
theorem dX1_copperOf_1 : decode cX1_copperOf 1 = .ok (.getfield 66, 3) := dk_180 0 66 (dk_at dksX1_copperOf_0 1 rfl rfl)
theorem dX1_copperOf_4 : decode cX1_copperOf 4 = .ok (.iload_n 1, 1) := dk_27 (dk_at dksX1_copperOf_0 4 rfl rfl)
theorem dX1_copperOf_5 : decode cX1_copperOf 5 = .ok (.invokevirtual 141, 3) := dk_182 0 141 (dk_at dksX1_copperOf_0 5 rfl rfl)
theorem dX1_copperOf_8 : decode cX1_copperOf 8 = .ok (.astore_n 3, 1) := dk_78 (dk_at dksX1_copperOf_0 8 rfl rfl)
theorem dX1_copperOf_9 : decode cX1_copperOf 9 = .ok (.iload_n 2, 1) := dk_28 (dk_at dksX1_copperOf_0 9 rfl rfl)
theorem dX1_copperOf_10 : decode cX1_copperOf 10 = .ok (.tableswitch 57 0 3 #[30, 35, 40, 52], 30) := by decide +kernel
theorem dX1_copperOf_40 : decode cX1_copperOf 40 = .ok (.aload_n 3, 1) := dk_45 (dk_at dksX1_copperOf_2 0 rfl rfl)
theorem dX1_copperOf_41 : decode cX1_copperOf 41 = .ok (.getfield 145, 3) := dk_180 0 145 (dk_at dksX1_copperOf_2 1 rfl rfl)
theorem dX1_copperOf_44 : decode cX1_copperOf 44 = .ok (.ireturn, 1) := dk_172 (dk_at dksX1_copperOf_2 4 rfl rfl)
theorem dX1_copperOf_45 : decode cX1_copperOf 45 = .ok (.aload_n 3, 1) := dk_45 (dk_at dksX1_copperOf_2 5 rfl rfl)
theorem dX1_copperOf_46 : decode cX1_copperOf 46 = .ok (.getfield 150, 3) := dk_180 0 150 (dk_at dksX1_copperOf_2 6 rfl rfl)
theorem dX1_copperOf_49 : decode cX1_copperOf 49 = .ok (.ireturn, 1) := dk_172 (dk_at dksX1_copperOf_2 9 rfl rfl)
theorem dX1_copperOf_50 : decode cX1_copperOf 50 = .ok (.aload_n 3, 1) := dk_45 (dk_at dksX1_copperOf_2 10 rfl rfl)
theorem dX1_copperOf_51 : decode cX1_copperOf 51 = .ok (.aload_n 0, 1) := dk_42 (dk_at dksX1_copperOf_2 11 rfl rfl)
theorem dX1_copperOf_52 : decode cX1_copperOf 52 = .ok (.getfield 66, 3) := dk_180 0 66 (dk_at dksX1_copperOf_2 12 rfl rfl)
theorem dX1_copperOf_55 : decode cX1_copperOf 55 = .ok (.getfield 153, 3) := dk_180 0 153 (dk_at dksX1_copperOf_2 15 rfl rfl)
theorem dX1_copperOf_58 : decode cX1_copperOf 58 = .ok (.invokevirtual 156, 3) := dk_182 0 156 (dk_at dksX1_copperOf_2 18 rfl rfl)
theorem dX1_copperOf_61 : decode cX1_copperOf 61 = .ok (.ireturn, 1) := dk_172 (dk_at dksX1_copperOf_2 21 rfl rfl)
theorem dX1_copperOf_62 : decode cX1_copperOf 62 = .ok (.aload_n 3, 1) := dk_45 (dk_at dksX1_copperOf_2 22 rfl rfl)
theorem dX1_copperOf_63 : decode cX1_copperOf 63 = .ok (.getfield 160, 3) := dk_180 0 160 (dk_at dksX1_copperOf_3 0 rfl rfl)
theorem dX1_copperOf_66 : decode cX1_copperOf 66 = .ok (.ireturn, 1) := dk_172 (dk_at dksX1_copperOf_3 3 rfl rfl)
theorem dX1_copperOf_67 : decode cX1_copperOf 67 = .ok (.new 1, 3) := dk_187 0 1 (dk_at dksX1_copperOf_3 4 rfl rfl)
theorem dX1_copperOf_70 : decode cX1_copperOf 70 = .ok (.dup, 1) := dk_89 (dk_at dksX1_copperOf_3 7 rfl rfl)
theorem dX1_copperOf_71 : decode cX1_copperOf 71 = .ok (.invokespecial 3, 3) := dk_183 0 3 (dk_at dksX1_copperOf_3 8 rfl rfl)
theorem dX1_copperOf_74 : decode cX1_copperOf 74 = .ok (.athrow, 1) := dk_191 (dk_at dksX1_copperOf_3 11 rfl rfl)
abbrev cX1_checkIndex : ByteArray := prog_1_method_3_code
def yX1_checkIndex : MethodName := ⟨RX1, "checkIndex", "(Z)V"⟩
def dkwX1_checkIndex_0 : List UInt8 := [26, 154, 0, 11, 187, 0, 7, 89, 183, 0, 9, 191, 177]
abbrev dktX1_checkIndex_0 : List UInt8 := dkwX1_checkIndex_0 ++ []
theorem dksX1_checkIndex_0 : cX1_checkIndex.data.toList.drop 0 = dktX1_checkIndex_0 := by decide +kernel
theorem dX1_checkIndex_0 : decode cX1_checkIndex 0 = .ok (.iload_n 0, 1) := dk_26 (dk_at dksX1_checkIndex_0 0 rfl rfl)
theorem dX1_checkIndex_1 : decode cX1_checkIndex 1 = .ok (.ifCond .ne 11, 3) := dk_154 0 11 (dk_at dksX1_checkIndex_0 1 rfl rfl)
theorem dX1_checkIndex_4 : decode cX1_checkIndex 4 = .ok (.new 7, 3) := dk_187 0 7 (dk_at dksX1_checkIndex_0 4 rfl rfl)
theorem dX1_checkIndex_7 : decode cX1_checkIndex 7 = .ok (.dup, 1) := dk_89 (dk_at dksX1_checkIndex_0 7 rfl rfl)
theorem dX1_checkIndex_8 : decode cX1_checkIndex 8 = .ok (.invokespecial 9, 3) := dk_183 0 9 (dk_at dksX1_checkIndex_0 8 rfl rfl)
theorem dX1_checkIndex_11 : decode cX1_checkIndex 11 = .ok (.athrow, 1) := dk_191 (dk_at dksX1_checkIndex_0 11 rfl rfl)
theorem dX1_checkIndex_12 : decode cX1_checkIndex 12 = .ok (.return_, 1) := dk_177 (dk_at dksX1_checkIndex_0 12 rfl rfl)
abbrev cX1_wellAgain : ByteArray := prog_1_method_18_code
def yX1_wellAgain : MethodName := ⟨RX1, "wellAgain", "(I)I"⟩
def dkwX1_wellAgain_0 : List UInt8 := [42, 180, 0, 66, 27, 182, 0, 141, 42, 180, 0, 66, 180, 0, 153, 182, 0, 163, 172]
abbrev dktX1_wellAgain_0 : List UInt8 := dkwX1_wellAgain_0 ++ []
theorem dksX1_wellAgain_0 : cX1_wellAgain.data.toList.drop 0 = dktX1_wellAgain_0 := by decide +kernel
theorem dX1_wellAgain_0 : decode cX1_wellAgain 0 = .ok (.aload_n 0, 1) := dk_42 (dk_at dksX1_wellAgain_0 0 rfl rfl)
theorem dX1_wellAgain_1 : decode cX1_wellAgain 1 = .ok (.getfield 66, 3) := dk_180 0 66 (dk_at dksX1_wellAgain_0 1 rfl rfl)
theorem dX1_wellAgain_4 : decode cX1_wellAgain 4 = .ok (.iload_n 1, 1) := dk_27 (dk_at dksX1_wellAgain_0 4 rfl rfl)
theorem dX1_wellAgain_5 : decode cX1_wellAgain 5 = .ok (.invokevirtual 141, 3) := dk_182 0 141 (dk_at dksX1_wellAgain_0 5 rfl rfl)
theorem dX1_wellAgain_8 : decode cX1_wellAgain 8 = .ok (.aload_n 0, 1) := dk_42 (dk_at dksX1_wellAgain_0 8 rfl rfl)
theorem dX1_wellAgain_9 : decode cX1_wellAgain 9 = .ok (.getfield 66, 3) := dk_180 0 66 (dk_at dksX1_wellAgain_0 9 rfl rfl)
theorem dX1_wellAgain_12 : decode cX1_wellAgain 12 = .ok (.getfield 153, 3) := dk_180 0 153 (dk_at dksX1_wellAgain_0 12 rfl rfl)
theorem dX1_wellAgain_15 : decode cX1_wellAgain 15 = .ok (.invokevirtual 163, 3) := dk_182 0 163 (dk_at dksX1_wellAgain_0 15 rfl rfl)
theorem dX1_wellAgain_18 : decode cX1_wellAgain 18 = .ok (.ireturn, 1) := dk_172 (dk_at dksX1_wellAgain_0 18 rfl rfl)
abbrev cX1_bestCopper : ByteArray := prog_1_method_19_code
def yX1_bestCopper : MethodName := ⟨RX1, "bestCopper", "(I)I"⟩
def dkwX1_bestCopper_1 : List UInt8 := [3, 184, 0, 174, 44, 180, 0, 177, 172]
abbrev dktX1_bestCopper_1 : List UInt8 := dkwX1_bestCopper_1 ++ []
def dkwX1_bestCopper_0 : List UInt8 := [42, 180, 0, 66, 42, 180, 0, 66, 27, 182, 0, 166, 182, 0, 170, 77, 44, 198, 0, 7, 4, 167, 0, 4]
abbrev dktX1_bestCopper_0 : List UInt8 := dkwX1_bestCopper_0 ++ dktX1_bestCopper_1
theorem dksX1_bestCopper_0 : cX1_bestCopper.data.toList.drop 0 = dktX1_bestCopper_0 := by decide +kernel
theorem dksX1_bestCopper_1 : cX1_bestCopper.data.toList.drop 24 = dktX1_bestCopper_1 := dk_seg dksX1_bestCopper_0 24 rfl rfl
theorem dX1_bestCopper_0 : decode cX1_bestCopper 0 = .ok (.aload_n 0, 1) := dk_42 (dk_at dksX1_bestCopper_0 0 rfl rfl)
theorem dX1_bestCopper_1 : decode cX1_bestCopper 1 = .ok (.getfield 66, 3) := dk_180 0 66 (dk_at dksX1_bestCopper_0 1 rfl rfl)
theorem dX1_bestCopper_4 : decode cX1_bestCopper 4 = .ok (.aload_n 0, 1) := dk_42 (dk_at dksX1_bestCopper_0 4 rfl rfl)
theorem dX1_bestCopper_5 : decode cX1_bestCopper 5 = .ok (.getfield 66, 3) := dk_180 0 66 (dk_at dksX1_bestCopper_0 5 rfl rfl)
theorem dX1_bestCopper_8 : decode cX1_bestCopper 8 = .ok (.iload_n 1, 1) := dk_27 (dk_at dksX1_bestCopper_0 8 rfl rfl)
theorem dX1_bestCopper_9 : decode cX1_bestCopper 9 = .ok (.invokevirtual 166, 3) := dk_182 0 166 (dk_at dksX1_bestCopper_0 9 rfl rfl)
theorem dX1_bestCopper_12 : decode cX1_bestCopper 12 = .ok (.invokevirtual 170, 3) := dk_182 0 170 (dk_at dksX1_bestCopper_0 12 rfl rfl)
theorem dX1_bestCopper_15 : decode cX1_bestCopper 15 = .ok (.astore_n 2, 1) := dk_77 (dk_at dksX1_bestCopper_0 15 rfl rfl)
theorem dX1_bestCopper_16 : decode cX1_bestCopper 16 = .ok (.aload_n 2, 1) := dk_44 (dk_at dksX1_bestCopper_0 16 rfl rfl)
theorem dX1_bestCopper_17 : decode cX1_bestCopper 17 = .ok (.ifnull 7, 3) := dk_198 0 7 (dk_at dksX1_bestCopper_0 17 rfl rfl)
theorem dX1_bestCopper_20 : decode cX1_bestCopper 20 = .ok (.iconst 1, 1) := dk_4 (dk_at dksX1_bestCopper_0 20 rfl rfl)
theorem dX1_bestCopper_21 : decode cX1_bestCopper 21 = .ok (.goto 4, 3) := dk_167 0 4 (dk_at dksX1_bestCopper_0 21 rfl rfl)
theorem dX1_bestCopper_24 : decode cX1_bestCopper 24 = .ok (.iconst 0, 1) := dk_3 (dk_at dksX1_bestCopper_1 0 rfl rfl)
theorem dX1_bestCopper_25 : decode cX1_bestCopper 25 = .ok (.invokestatic 174, 3) := dk_184 0 174 (dk_at dksX1_bestCopper_1 1 rfl rfl)
theorem dX1_bestCopper_28 : decode cX1_bestCopper 28 = .ok (.aload_n 2, 1) := dk_44 (dk_at dksX1_bestCopper_1 4 rfl rfl)
theorem dX1_bestCopper_29 : decode cX1_bestCopper 29 = .ok (.getfield 177, 3) := dk_180 0 177 (dk_at dksX1_bestCopper_1 5 rfl rfl)
theorem dX1_bestCopper_32 : decode cX1_bestCopper 32 = .ok (.ireturn, 1) := dk_172 (dk_at dksX1_bestCopper_1 8 rfl rfl)
abbrev cX1_checkElement : ByteArray := prog_1_method_5_code
def yX1_checkElement : MethodName := ⟨RX1, "checkElement", "(Z)V"⟩
def dkwX1_checkElement_0 : List UInt8 := [26, 154, 0, 11, 187, 0, 13, 89, 183, 0, 15, 191, 177]
abbrev dktX1_checkElement_0 : List UInt8 := dkwX1_checkElement_0 ++ []
theorem dksX1_checkElement_0 : cX1_checkElement.data.toList.drop 0 = dktX1_checkElement_0 := by decide +kernel
theorem dX1_checkElement_0 : decode cX1_checkElement 0 = .ok (.iload_n 0, 1) := dk_26 (dk_at dksX1_checkElement_0 0 rfl rfl)
theorem dX1_checkElement_1 : decode cX1_checkElement 1 = .ok (.ifCond .ne 11, 3) := dk_154 0 11 (dk_at dksX1_checkElement_0 1 rfl rfl)
theorem dX1_checkElement_4 : decode cX1_checkElement 4 = .ok (.new 13, 3) := dk_187 0 13 (dk_at dksX1_checkElement_0 4 rfl rfl)
theorem dX1_checkElement_7 : decode cX1_checkElement 7 = .ok (.dup, 1) := dk_89 (dk_at dksX1_checkElement_0 7 rfl rfl)
theorem dX1_checkElement_8 : decode cX1_checkElement 8 = .ok (.invokespecial 15, 3) := dk_183 0 15 (dk_at dksX1_checkElement_0 8 rfl rfl)
theorem dX1_checkElement_11 : decode cX1_checkElement 11 = .ok (.athrow, 1) := dk_191 (dk_at dksX1_checkElement_0 11 rfl rfl)
theorem dX1_checkElement_12 : decode cX1_checkElement 12 = .ok (.return_, 1) := dk_177 (dk_at dksX1_checkElement_0 12 rfl rfl)
abbrev cX1_lot : ByteArray := prog_1_method_20_code
def yX1_lot : MethodName := ⟨RX1, "lot", "(I)I"⟩
def dkwX1_lot_0 : List UInt8 := [42, 27, 186, 0, 180, 0, 0, 182, 0, 135, 172]
abbrev dktX1_lot_0 : List UInt8 := dkwX1_lot_0 ++ []
theorem dksX1_lot_0 : cX1_lot.data.toList.drop 0 = dktX1_lot_0 := by decide +kernel
theorem dX1_lot_0 : decode cX1_lot 0 = .ok (.aload_n 0, 1) := dk_42 (dk_at dksX1_lot_0 0 rfl rfl)
theorem dX1_lot_1 : decode cX1_lot 1 = .ok (.iload_n 1, 1) := dk_27 (dk_at dksX1_lot_0 1 rfl rfl)
theorem dX1_lot_2 : decode cX1_lot 2 = .ok (.invokedynamic 180, 5) := by decide +kernel
theorem dX1_lot_7 : decode cX1_lot 7 = .ok (.invokevirtual 135, 3) := dk_182 0 135 (dk_at dksX1_lot_0 7 rfl rfl)
theorem dX1_lot_10 : decode cX1_lot 10 = .ok (.ireturn, 1) := dk_172 (dk_at dksX1_lot_0 10 rfl rfl)
abbrev cX1_lambda_lot_4 : ByteArray := prog_1_method_64_code
def yX1_lambda_lot_4 : MethodName := ⟨RX1, "lambda$lot$4", "(ILWillowPrinters$House;)I"⟩
def dkwX1_lambda_lot_4_0 : List UInt8 := [43, 26, 182, 1, 186, 172]
abbrev dktX1_lambda_lot_4_0 : List UInt8 := dkwX1_lambda_lot_4_0 ++ []
theorem dksX1_lambda_lot_4_0 : cX1_lambda_lot_4.data.toList.drop 0 = dktX1_lambda_lot_4_0 := by decide +kernel
theorem dX1_lambda_lot_4_0 : decode cX1_lambda_lot_4 0 = .ok (.aload_n 1, 1) := dk_43 (dk_at dksX1_lambda_lot_4_0 0 rfl rfl)
theorem dX1_lambda_lot_4_1 : decode cX1_lambda_lot_4 1 = .ok (.iload_n 0, 1) := dk_26 (dk_at dksX1_lambda_lot_4_0 1 rfl rfl)
theorem dX1_lambda_lot_4_2 : decode cX1_lambda_lot_4 2 = .ok (.invokevirtual 442, 3) := dk_182 1 186 (dk_at dksX1_lambda_lot_4_0 2 rfl rfl)
theorem dX1_lambda_lot_4_5 : decode cX1_lambda_lot_4 5 = .ok (.ireturn, 1) := dk_172 (dk_at dksX1_lambda_lot_4_0 5 rfl rfl)
abbrev cX1_lotOf : ByteArray := prog_1_method_21_code
def yX1_lotOf : MethodName := ⟨RX1, "lotOf", "(II)I"⟩
def dkwX1_lotOf_4 : List UInt8 := [89, 183, 0, 3, 191]
abbrev dktX1_lotOf_4 : List UInt8 := dkwX1_lotOf_4 ++ []
def dkwX1_lotOf_3 : List UInt8 := [185, 0, 201, 1, 0, 172, 45, 182, 0, 203, 172, 45, 182, 0, 206, 172, 45, 182, 0, 209, 172, 187, 0, 1]
abbrev dktX1_lotOf_3 : List UInt8 := dkwX1_lotOf_3 ++ dktX1_lotOf_4
def dkwX1_lotOf_2 : List UInt8 := [45, 180, 0, 181, 172, 45, 180, 0, 186, 185, 0, 190, 1, 0, 182, 0, 196, 172, 45, 180, 0, 186]
abbrev dktX1_lotOf_2 : List UInt8 := dkwX1_lotOf_2 ++ dktX1_lotOf_3
def dkwX1_lotOf_1 : List UInt8 := [170, 0, 0, 0, 0, 81, 0, 0, 0, 0, 0, 0, 0, 5, 0, 0, 0, 38, 0, 0, 0, 43, 0, 0, 0, 56, 0, 0, 0, 66, 0, 0, 0, 71, 0, 0, 0, 76]
abbrev dktX1_lotOf_1 : List UInt8 := dkwX1_lotOf_1 ++ dktX1_lotOf_2
def dkwX1_lotOf_0 : List UInt8 := [42, 180, 0, 66, 27, 182, 0, 166, 78, 28]
abbrev dktX1_lotOf_0 : List UInt8 := dkwX1_lotOf_0 ++ dktX1_lotOf_1
theorem dksX1_lotOf_0 : cX1_lotOf.data.toList.drop 0 = dktX1_lotOf_0 := by decide +kernel
theorem dksX1_lotOf_1 : cX1_lotOf.data.toList.drop 10 = dktX1_lotOf_1 := dk_seg dksX1_lotOf_0 10 rfl rfl
theorem dksX1_lotOf_2 : cX1_lotOf.data.toList.drop 48 = dktX1_lotOf_2 := dk_seg dksX1_lotOf_1 38 rfl rfl
theorem dksX1_lotOf_3 : cX1_lotOf.data.toList.drop 70 = dktX1_lotOf_3 := dk_seg dksX1_lotOf_2 22 rfl rfl
theorem dksX1_lotOf_4 : cX1_lotOf.data.toList.drop 94 = dktX1_lotOf_4 := dk_seg dksX1_lotOf_3 24 rfl rfl
theorem dX1_lotOf_0 : decode cX1_lotOf 0 = .ok (.aload_n 0, 1) := dk_42 (dk_at dksX1_lotOf_0 0 rfl rfl)
theorem dX1_lotOf_1 : decode cX1_lotOf 1 = .ok (.getfield 66, 3) := dk_180 0 66 (dk_at dksX1_lotOf_0 1 rfl rfl)
theorem dX1_lotOf_4 : decode cX1_lotOf 4 = .ok (.iload_n 1, 1) := dk_27 (dk_at dksX1_lotOf_0 4 rfl rfl)
theorem dX1_lotOf_5 : decode cX1_lotOf 5 = .ok (.invokevirtual 166, 3) := dk_182 0 166 (dk_at dksX1_lotOf_0 5 rfl rfl)
theorem dX1_lotOf_8 : decode cX1_lotOf 8 = .ok (.astore_n 3, 1) := dk_78 (dk_at dksX1_lotOf_0 8 rfl rfl)
theorem dX1_lotOf_9 : decode cX1_lotOf 9 = .ok (.iload_n 2, 1) := dk_28 (dk_at dksX1_lotOf_0 9 rfl rfl)
theorem dX1_lotOf_10 : decode cX1_lotOf 10 = .ok (.tableswitch 81 0 5 #[38, 43, 56, 66, 71, 76], 38) := by decide +kernel
theorem dX1_lotOf_48 : decode cX1_lotOf 48 = .ok (.aload_n 3, 1) := dk_45 (dk_at dksX1_lotOf_2 0 rfl rfl)
theorem dX1_lotOf_49 : decode cX1_lotOf 49 = .ok (.getfield 181, 3) := dk_180 0 181 (dk_at dksX1_lotOf_2 1 rfl rfl)
theorem dX1_lotOf_52 : decode cX1_lotOf 52 = .ok (.ireturn, 1) := dk_172 (dk_at dksX1_lotOf_2 4 rfl rfl)
theorem dX1_lotOf_53 : decode cX1_lotOf 53 = .ok (.aload_n 3, 1) := dk_45 (dk_at dksX1_lotOf_2 5 rfl rfl)
theorem dX1_lotOf_54 : decode cX1_lotOf 54 = .ok (.getfield 186, 3) := dk_180 0 186 (dk_at dksX1_lotOf_2 6 rfl rfl)
theorem dX1_lotOf_57 : decode cX1_lotOf 57 = .ok (.invokeinterface 190 1, 5) := by decide +kernel
theorem dX1_lotOf_62 : decode cX1_lotOf 62 = .ok (.invokevirtual 196, 3) := dk_182 0 196 (dk_at dksX1_lotOf_2 14 rfl rfl)
theorem dX1_lotOf_65 : decode cX1_lotOf 65 = .ok (.ireturn, 1) := dk_172 (dk_at dksX1_lotOf_2 17 rfl rfl)
theorem dX1_lotOf_66 : decode cX1_lotOf 66 = .ok (.aload_n 3, 1) := dk_45 (dk_at dksX1_lotOf_2 18 rfl rfl)
theorem dX1_lotOf_67 : decode cX1_lotOf 67 = .ok (.getfield 186, 3) := dk_180 0 186 (dk_at dksX1_lotOf_2 19 rfl rfl)
theorem dX1_lotOf_70 : decode cX1_lotOf 70 = .ok (.invokeinterface 201 1, 5) := by decide +kernel
theorem dX1_lotOf_75 : decode cX1_lotOf 75 = .ok (.ireturn, 1) := dk_172 (dk_at dksX1_lotOf_3 5 rfl rfl)
theorem dX1_lotOf_76 : decode cX1_lotOf 76 = .ok (.aload_n 3, 1) := dk_45 (dk_at dksX1_lotOf_3 6 rfl rfl)
theorem dX1_lotOf_77 : decode cX1_lotOf 77 = .ok (.invokevirtual 203, 3) := dk_182 0 203 (dk_at dksX1_lotOf_3 7 rfl rfl)
theorem dX1_lotOf_80 : decode cX1_lotOf 80 = .ok (.ireturn, 1) := dk_172 (dk_at dksX1_lotOf_3 10 rfl rfl)
theorem dX1_lotOf_81 : decode cX1_lotOf 81 = .ok (.aload_n 3, 1) := dk_45 (dk_at dksX1_lotOf_3 11 rfl rfl)
theorem dX1_lotOf_82 : decode cX1_lotOf 82 = .ok (.invokevirtual 206, 3) := dk_182 0 206 (dk_at dksX1_lotOf_3 12 rfl rfl)
theorem dX1_lotOf_85 : decode cX1_lotOf 85 = .ok (.ireturn, 1) := dk_172 (dk_at dksX1_lotOf_3 15 rfl rfl)
theorem dX1_lotOf_86 : decode cX1_lotOf 86 = .ok (.aload_n 3, 1) := dk_45 (dk_at dksX1_lotOf_3 16 rfl rfl)
theorem dX1_lotOf_87 : decode cX1_lotOf 87 = .ok (.invokevirtual 209, 3) := dk_182 0 209 (dk_at dksX1_lotOf_3 17 rfl rfl)
theorem dX1_lotOf_90 : decode cX1_lotOf 90 = .ok (.ireturn, 1) := dk_172 (dk_at dksX1_lotOf_3 20 rfl rfl)
theorem dX1_lotOf_91 : decode cX1_lotOf 91 = .ok (.new 1, 3) := dk_187 0 1 (dk_at dksX1_lotOf_3 21 rfl rfl)
theorem dX1_lotOf_94 : decode cX1_lotOf 94 = .ok (.dup, 1) := dk_89 (dk_at dksX1_lotOf_4 0 rfl rfl)
theorem dX1_lotOf_95 : decode cX1_lotOf 95 = .ok (.invokespecial 3, 3) := dk_183 0 3 (dk_at dksX1_lotOf_4 1 rfl rfl)
theorem dX1_lotOf_98 : decode cX1_lotOf 98 = .ok (.athrow, 1) := dk_191 (dk_at dksX1_lotOf_4 4 rfl rfl)
abbrev cX1_print : ByteArray := prog_1_method_22_code
def yX1_print : MethodName := ⟨RX1, "print", "(II)I"⟩
def dkwX1_print_0 : List UInt8 := [42, 27, 28, 186, 0, 212, 0, 0, 182, 0, 135, 172]
abbrev dktX1_print_0 : List UInt8 := dkwX1_print_0 ++ []
theorem dksX1_print_0 : cX1_print.data.toList.drop 0 = dktX1_print_0 := by decide +kernel
theorem dX1_print_0 : decode cX1_print 0 = .ok (.aload_n 0, 1) := dk_42 (dk_at dksX1_print_0 0 rfl rfl)
theorem dX1_print_1 : decode cX1_print 1 = .ok (.iload_n 1, 1) := dk_27 (dk_at dksX1_print_0 1 rfl rfl)
theorem dX1_print_2 : decode cX1_print 2 = .ok (.iload_n 2, 1) := dk_28 (dk_at dksX1_print_0 2 rfl rfl)
theorem dX1_print_3 : decode cX1_print 3 = .ok (.invokedynamic 212, 5) := by decide +kernel
theorem dX1_print_8 : decode cX1_print 8 = .ok (.invokevirtual 135, 3) := dk_182 0 135 (dk_at dksX1_print_0 8 rfl rfl)
theorem dX1_print_11 : decode cX1_print 11 = .ok (.ireturn, 1) := dk_172 (dk_at dksX1_print_0 11 rfl rfl)
abbrev cX1_lambda_print_5 : ByteArray := prog_1_method_63_code
def yX1_lambda_print_5 : MethodName := ⟨RX1, "lambda$print$5", "(IILWillowPrinters$House;)I"⟩
def dkwX1_lambda_print_5_0 : List UInt8 := [44, 26, 27, 182, 1, 183, 172]
abbrev dktX1_lambda_print_5_0 : List UInt8 := dkwX1_lambda_print_5_0 ++ []
theorem dksX1_lambda_print_5_0 : cX1_lambda_print_5.data.toList.drop 0 = dktX1_lambda_print_5_0 := by decide +kernel
theorem dX1_lambda_print_5_0 : decode cX1_lambda_print_5 0 = .ok (.aload_n 2, 1) := dk_44 (dk_at dksX1_lambda_print_5_0 0 rfl rfl)
theorem dX1_lambda_print_5_1 : decode cX1_lambda_print_5 1 = .ok (.iload_n 0, 1) := dk_26 (dk_at dksX1_lambda_print_5_0 1 rfl rfl)
theorem dX1_lambda_print_5_2 : decode cX1_lambda_print_5 2 = .ok (.iload_n 1, 1) := dk_27 (dk_at dksX1_lambda_print_5_0 2 rfl rfl)
theorem dX1_lambda_print_5_3 : decode cX1_lambda_print_5 3 = .ok (.invokevirtual 439, 3) := dk_182 1 183 (dk_at dksX1_lambda_print_5_0 3 rfl rfl)
theorem dX1_lambda_print_5_6 : decode cX1_lambda_print_5 6 = .ok (.ireturn, 1) := dk_172 (dk_at dksX1_lambda_print_5_0 6 rfl rfl)
abbrev cX1_kiln : ByteArray := prog_1_method_23_code
def yX1_kiln : MethodName := ⟨RX1, "kiln", "(I)I"⟩
def dkwX1_kiln_0 : List UInt8 := [42, 27, 186, 0, 215, 0, 0, 182, 0, 135, 172]
abbrev dktX1_kiln_0 : List UInt8 := dkwX1_kiln_0 ++ []
theorem dksX1_kiln_0 : cX1_kiln.data.toList.drop 0 = dktX1_kiln_0 := by decide +kernel
theorem dX1_kiln_0 : decode cX1_kiln 0 = .ok (.aload_n 0, 1) := dk_42 (dk_at dksX1_kiln_0 0 rfl rfl)
theorem dX1_kiln_1 : decode cX1_kiln 1 = .ok (.iload_n 1, 1) := dk_27 (dk_at dksX1_kiln_0 1 rfl rfl)
theorem dX1_kiln_2 : decode cX1_kiln 2 = .ok (.invokedynamic 215, 5) := by decide +kernel
theorem dX1_kiln_7 : decode cX1_kiln 7 = .ok (.invokevirtual 135, 3) := dk_182 0 135 (dk_at dksX1_kiln_0 7 rfl rfl)
theorem dX1_kiln_10 : decode cX1_kiln 10 = .ok (.ireturn, 1) := dk_172 (dk_at dksX1_kiln_0 10 rfl rfl)
abbrev cX1_lambda_kiln_6 : ByteArray := prog_1_method_62_code
def yX1_lambda_kiln_6 : MethodName := ⟨RX1, "lambda$kiln$6", "(ILWillowPrinters$House;)I"⟩
def dkwX1_lambda_kiln_6_0 : List UInt8 := [43, 26, 182, 1, 180, 172]
abbrev dktX1_lambda_kiln_6_0 : List UInt8 := dkwX1_lambda_kiln_6_0 ++ []
theorem dksX1_lambda_kiln_6_0 : cX1_lambda_kiln_6.data.toList.drop 0 = dktX1_lambda_kiln_6_0 := by decide +kernel
theorem dX1_lambda_kiln_6_0 : decode cX1_lambda_kiln_6 0 = .ok (.aload_n 1, 1) := dk_43 (dk_at dksX1_lambda_kiln_6_0 0 rfl rfl)
theorem dX1_lambda_kiln_6_1 : decode cX1_lambda_kiln_6 1 = .ok (.iload_n 0, 1) := dk_26 (dk_at dksX1_lambda_kiln_6_0 1 rfl rfl)
theorem dX1_lambda_kiln_6_2 : decode cX1_lambda_kiln_6 2 = .ok (.invokevirtual 436, 3) := dk_182 1 180 (dk_at dksX1_lambda_kiln_6_0 2 rfl rfl)
theorem dX1_lambda_kiln_6_5 : decode cX1_lambda_kiln_6 5 = .ok (.ireturn, 1) := dk_172 (dk_at dksX1_lambda_kiln_6_0 5 rfl rfl)
abbrev cX1_kilnOf : ByteArray := prog_1_method_24_code
def yX1_kilnOf : MethodName := ⟨RX1, "kilnOf", "(II)I"⟩
def dkwX1_kilnOf_4 : List UInt8 := [183, 0, 3, 191]
abbrev dktX1_kilnOf_4 : List UInt8 := dkwX1_kilnOf_4 ++ []
def dkwX1_kilnOf_3 : List UInt8 := [199, 0, 7, 3, 167, 0, 8, 25, 4, 182, 0, 209, 172, 45, 180, 0, 228, 172, 187, 0, 1, 89]
abbrev dktX1_kilnOf_3 : List UInt8 := dkwX1_kilnOf_3 ++ dktX1_kilnOf_4
def dkwX1_kilnOf_2 : List UInt8 := [45, 180, 0, 222, 172, 25, 4, 199, 0, 7, 2, 167, 0, 8, 25, 4, 180, 0, 227, 172, 25, 4]
abbrev dktX1_kilnOf_2 : List UInt8 := dkwX1_kilnOf_2 ++ dktX1_kilnOf_3
def dkwX1_kilnOf_1 : List UInt8 := [170, 0, 0, 0, 0, 0, 0, 72, 0, 0, 0, 0, 0, 0, 0, 3, 0, 0, 0, 32, 0, 0, 0, 37, 0, 0, 0, 52, 0, 0, 0, 67]
abbrev dktX1_kilnOf_1 : List UInt8 := dkwX1_kilnOf_1 ++ dktX1_kilnOf_2
def dkwX1_kilnOf_0 : List UInt8 := [42, 180, 0, 66, 27, 182, 0, 216, 78, 42, 180, 0, 66, 27, 182, 0, 219, 58, 4, 28]
abbrev dktX1_kilnOf_0 : List UInt8 := dkwX1_kilnOf_0 ++ dktX1_kilnOf_1
theorem dksX1_kilnOf_0 : cX1_kilnOf.data.toList.drop 0 = dktX1_kilnOf_0 := by decide +kernel
theorem dksX1_kilnOf_1 : cX1_kilnOf.data.toList.drop 20 = dktX1_kilnOf_1 := dk_seg dksX1_kilnOf_0 20 rfl rfl
theorem dksX1_kilnOf_2 : cX1_kilnOf.data.toList.drop 52 = dktX1_kilnOf_2 := dk_seg dksX1_kilnOf_1 32 rfl rfl
theorem dksX1_kilnOf_3 : cX1_kilnOf.data.toList.drop 74 = dktX1_kilnOf_3 := dk_seg dksX1_kilnOf_2 22 rfl rfl
theorem dksX1_kilnOf_4 : cX1_kilnOf.data.toList.drop 96 = dktX1_kilnOf_4 := dk_seg dksX1_kilnOf_3 22 rfl rfl
theorem dX1_kilnOf_0 : decode cX1_kilnOf 0 = .ok (.aload_n 0, 1) := dk_42 (dk_at dksX1_kilnOf_0 0 rfl rfl)
theorem dX1_kilnOf_1 : decode cX1_kilnOf 1 = .ok (.getfield 66, 3) := dk_180 0 66 (dk_at dksX1_kilnOf_0 1 rfl rfl)
theorem dX1_kilnOf_4 : decode cX1_kilnOf 4 = .ok (.iload_n 1, 1) := dk_27 (dk_at dksX1_kilnOf_0 4 rfl rfl)
theorem dX1_kilnOf_5 : decode cX1_kilnOf 5 = .ok (.invokevirtual 216, 3) := dk_182 0 216 (dk_at dksX1_kilnOf_0 5 rfl rfl)
theorem dX1_kilnOf_8 : decode cX1_kilnOf 8 = .ok (.astore_n 3, 1) := dk_78 (dk_at dksX1_kilnOf_0 8 rfl rfl)
theorem dX1_kilnOf_9 : decode cX1_kilnOf 9 = .ok (.aload_n 0, 1) := dk_42 (dk_at dksX1_kilnOf_0 9 rfl rfl)
theorem dX1_kilnOf_10 : decode cX1_kilnOf 10 = .ok (.getfield 66, 3) := dk_180 0 66 (dk_at dksX1_kilnOf_0 10 rfl rfl)
theorem dX1_kilnOf_13 : decode cX1_kilnOf 13 = .ok (.iload_n 1, 1) := dk_27 (dk_at dksX1_kilnOf_0 13 rfl rfl)
theorem dX1_kilnOf_14 : decode cX1_kilnOf 14 = .ok (.invokevirtual 219, 3) := dk_182 0 219 (dk_at dksX1_kilnOf_0 14 rfl rfl)
theorem dX1_kilnOf_17 : decode cX1_kilnOf 17 = .ok (.astore 4, 2) := dk_58 4 (dk_at dksX1_kilnOf_0 17 rfl rfl)
theorem dX1_kilnOf_19 : decode cX1_kilnOf 19 = .ok (.iload_n 2, 1) := dk_28 (dk_at dksX1_kilnOf_0 19 rfl rfl)
theorem dX1_kilnOf_20 : decode cX1_kilnOf 20 = .ok (.tableswitch 72 0 3 #[32, 37, 52, 67], 32) := by decide +kernel
theorem dX1_kilnOf_52 : decode cX1_kilnOf 52 = .ok (.aload_n 3, 1) := dk_45 (dk_at dksX1_kilnOf_2 0 rfl rfl)
theorem dX1_kilnOf_53 : decode cX1_kilnOf 53 = .ok (.getfield 222, 3) := dk_180 0 222 (dk_at dksX1_kilnOf_2 1 rfl rfl)
theorem dX1_kilnOf_56 : decode cX1_kilnOf 56 = .ok (.ireturn, 1) := dk_172 (dk_at dksX1_kilnOf_2 4 rfl rfl)
theorem dX1_kilnOf_57 : decode cX1_kilnOf 57 = .ok (.aload 4, 2) := dk_25 4 (dk_at dksX1_kilnOf_2 5 rfl rfl)
theorem dX1_kilnOf_59 : decode cX1_kilnOf 59 = .ok (.ifnonnull 7, 3) := dk_199 0 7 (dk_at dksX1_kilnOf_2 7 rfl rfl)
theorem dX1_kilnOf_62 : decode cX1_kilnOf 62 = .ok (.iconst (-1), 1) := dk_2 (dk_at dksX1_kilnOf_2 10 rfl rfl)
theorem dX1_kilnOf_63 : decode cX1_kilnOf 63 = .ok (.goto 8, 3) := dk_167 0 8 (dk_at dksX1_kilnOf_2 11 rfl rfl)
theorem dX1_kilnOf_66 : decode cX1_kilnOf 66 = .ok (.aload 4, 2) := dk_25 4 (dk_at dksX1_kilnOf_2 14 rfl rfl)
theorem dX1_kilnOf_68 : decode cX1_kilnOf 68 = .ok (.getfield 227, 3) := dk_180 0 227 (dk_at dksX1_kilnOf_2 16 rfl rfl)
theorem dX1_kilnOf_71 : decode cX1_kilnOf 71 = .ok (.ireturn, 1) := dk_172 (dk_at dksX1_kilnOf_2 19 rfl rfl)
theorem dX1_kilnOf_72 : decode cX1_kilnOf 72 = .ok (.aload 4, 2) := dk_25 4 (dk_at dksX1_kilnOf_2 20 rfl rfl)
theorem dX1_kilnOf_74 : decode cX1_kilnOf 74 = .ok (.ifnonnull 7, 3) := dk_199 0 7 (dk_at dksX1_kilnOf_3 0 rfl rfl)
theorem dX1_kilnOf_77 : decode cX1_kilnOf 77 = .ok (.iconst 0, 1) := dk_3 (dk_at dksX1_kilnOf_3 3 rfl rfl)
theorem dX1_kilnOf_78 : decode cX1_kilnOf 78 = .ok (.goto 8, 3) := dk_167 0 8 (dk_at dksX1_kilnOf_3 4 rfl rfl)
theorem dX1_kilnOf_81 : decode cX1_kilnOf 81 = .ok (.aload 4, 2) := dk_25 4 (dk_at dksX1_kilnOf_3 7 rfl rfl)
theorem dX1_kilnOf_83 : decode cX1_kilnOf 83 = .ok (.invokevirtual 209, 3) := dk_182 0 209 (dk_at dksX1_kilnOf_3 9 rfl rfl)
theorem dX1_kilnOf_86 : decode cX1_kilnOf 86 = .ok (.ireturn, 1) := dk_172 (dk_at dksX1_kilnOf_3 12 rfl rfl)
theorem dX1_kilnOf_87 : decode cX1_kilnOf 87 = .ok (.aload_n 3, 1) := dk_45 (dk_at dksX1_kilnOf_3 13 rfl rfl)
theorem dX1_kilnOf_88 : decode cX1_kilnOf 88 = .ok (.getfield 228, 3) := dk_180 0 228 (dk_at dksX1_kilnOf_3 14 rfl rfl)
theorem dX1_kilnOf_91 : decode cX1_kilnOf 91 = .ok (.ireturn, 1) := dk_172 (dk_at dksX1_kilnOf_3 17 rfl rfl)
theorem dX1_kilnOf_92 : decode cX1_kilnOf 92 = .ok (.new 1, 3) := dk_187 0 1 (dk_at dksX1_kilnOf_3 18 rfl rfl)
theorem dX1_kilnOf_95 : decode cX1_kilnOf 95 = .ok (.dup, 1) := dk_89 (dk_at dksX1_kilnOf_3 21 rfl rfl)
theorem dX1_kilnOf_96 : decode cX1_kilnOf 96 = .ok (.invokespecial 3, 3) := dk_183 0 3 (dk_at dksX1_kilnOf_4 0 rfl rfl)
theorem dX1_kilnOf_99 : decode cX1_kilnOf 99 = .ok (.athrow, 1) := dk_191 (dk_at dksX1_kilnOf_4 3 rfl rfl)
abbrev cX1_fire : ByteArray := prog_1_method_25_code
def yX1_fire : MethodName := ⟨RX1, "fire", "(III)I"⟩
def dkwX1_fire_0 : List UInt8 := [42, 27, 28, 29, 186, 0, 231, 0, 0, 182, 0, 135, 172]
abbrev dktX1_fire_0 : List UInt8 := dkwX1_fire_0 ++ []
theorem dksX1_fire_0 : cX1_fire.data.toList.drop 0 = dktX1_fire_0 := by decide +kernel
theorem dX1_fire_0 : decode cX1_fire 0 = .ok (.aload_n 0, 1) := dk_42 (dk_at dksX1_fire_0 0 rfl rfl)
theorem dX1_fire_1 : decode cX1_fire 1 = .ok (.iload_n 1, 1) := dk_27 (dk_at dksX1_fire_0 1 rfl rfl)
theorem dX1_fire_2 : decode cX1_fire 2 = .ok (.iload_n 2, 1) := dk_28 (dk_at dksX1_fire_0 2 rfl rfl)
theorem dX1_fire_3 : decode cX1_fire 3 = .ok (.iload_n 3, 1) := dk_29 (dk_at dksX1_fire_0 3 rfl rfl)
theorem dX1_fire_4 : decode cX1_fire 4 = .ok (.invokedynamic 231, 5) := by decide +kernel
theorem dX1_fire_9 : decode cX1_fire 9 = .ok (.invokevirtual 135, 3) := dk_182 0 135 (dk_at dksX1_fire_0 9 rfl rfl)
theorem dX1_fire_12 : decode cX1_fire 12 = .ok (.ireturn, 1) := dk_172 (dk_at dksX1_fire_0 12 rfl rfl)
abbrev cX1_lambda_fire_7 : ByteArray := prog_1_method_61_code
def yX1_lambda_fire_7 : MethodName := ⟨RX1, "lambda$fire$7", "(IIILWillowPrinters$House;)I"⟩
def dkwX1_lambda_fire_7_0 : List UInt8 := [45, 26, 27, 28, 182, 1, 177, 172]
abbrev dktX1_lambda_fire_7_0 : List UInt8 := dkwX1_lambda_fire_7_0 ++ []
theorem dksX1_lambda_fire_7_0 : cX1_lambda_fire_7.data.toList.drop 0 = dktX1_lambda_fire_7_0 := by decide +kernel
theorem dX1_lambda_fire_7_0 : decode cX1_lambda_fire_7 0 = .ok (.aload_n 3, 1) := dk_45 (dk_at dksX1_lambda_fire_7_0 0 rfl rfl)
theorem dX1_lambda_fire_7_1 : decode cX1_lambda_fire_7 1 = .ok (.iload_n 0, 1) := dk_26 (dk_at dksX1_lambda_fire_7_0 1 rfl rfl)
theorem dX1_lambda_fire_7_2 : decode cX1_lambda_fire_7 2 = .ok (.iload_n 1, 1) := dk_27 (dk_at dksX1_lambda_fire_7_0 2 rfl rfl)
theorem dX1_lambda_fire_7_3 : decode cX1_lambda_fire_7 3 = .ok (.iload_n 2, 1) := dk_28 (dk_at dksX1_lambda_fire_7_0 3 rfl rfl)
theorem dX1_lambda_fire_7_4 : decode cX1_lambda_fire_7 4 = .ok (.invokevirtual 433, 3) := dk_182 1 177 (dk_at dksX1_lambda_fire_7_0 4 rfl rfl)
theorem dX1_lambda_fire_7_7 : decode cX1_lambda_fire_7 7 = .ok (.ireturn, 1) := dk_172 (dk_at dksX1_lambda_fire_7_0 7 rfl rfl)
abbrev cX1_checkCone : ByteArray := prog_1_method_7_code
def yX1_checkCone : MethodName := ⟨RX1, "checkCone", "(I)V"⟩
def dkwX1_checkCone_0 : List UInt8 := [26, 133, 9, 20, 0, 21, 184, 0, 23, 184, 0, 27, 177]
abbrev dktX1_checkCone_0 : List UInt8 := dkwX1_checkCone_0 ++ []
theorem dksX1_checkCone_0 : cX1_checkCone.data.toList.drop 0 = dktX1_checkCone_0 := by decide +kernel
theorem dX1_checkCone_0 : decode cX1_checkCone 0 = .ok (.iload_n 0, 1) := dk_26 (dk_at dksX1_checkCone_0 0 rfl rfl)
theorem dX1_checkCone_1 : decode cX1_checkCone 1 = .ok (.i2l, 1) := dk_133 (dk_at dksX1_checkCone_0 1 rfl rfl)
theorem dX1_checkCone_2 : decode cX1_checkCone 2 = .ok (.lconst 0, 1) := dk_9 (dk_at dksX1_checkCone_0 2 rfl rfl)
theorem dX1_checkCone_3 : decode cX1_checkCone 3 = .ok (.ldc2_w 21, 3) := dk_20 0 21 (dk_at dksX1_checkCone_0 3 rfl rfl)
theorem dX1_checkCone_6 : decode cX1_checkCone 6 = .ok (.invokestatic 23, 3) := dk_184 0 23 (dk_at dksX1_checkCone_0 6 rfl rfl)
theorem dX1_checkCone_9 : decode cX1_checkCone 9 = .ok (.invokestatic 27, 3) := dk_184 0 27 (dk_at dksX1_checkCone_0 9 rfl rfl)
theorem dX1_checkCone_12 : decode cX1_checkCone 12 = .ok (.return_, 1) := dk_177 (dk_at dksX1_checkCone_0 12 rfl rfl)
abbrev cX1_wouldChip : ByteArray := prog_1_method_26_code
def yX1_wouldChip : MethodName := ⟨RX1, "wouldChip", "(II)I"⟩
def dkwX1_wouldChip_0 : List UInt8 := [42, 180, 0, 66, 27, 182, 0, 166, 78, 28, 184, 0, 234, 45, 28, 182, 0, 238, 172]
abbrev dktX1_wouldChip_0 : List UInt8 := dkwX1_wouldChip_0 ++ []
theorem dksX1_wouldChip_0 : cX1_wouldChip.data.toList.drop 0 = dktX1_wouldChip_0 := by decide +kernel
theorem dX1_wouldChip_0 : decode cX1_wouldChip 0 = .ok (.aload_n 0, 1) := dk_42 (dk_at dksX1_wouldChip_0 0 rfl rfl)
theorem dX1_wouldChip_1 : decode cX1_wouldChip 1 = .ok (.getfield 66, 3) := dk_180 0 66 (dk_at dksX1_wouldChip_0 1 rfl rfl)
theorem dX1_wouldChip_4 : decode cX1_wouldChip 4 = .ok (.iload_n 1, 1) := dk_27 (dk_at dksX1_wouldChip_0 4 rfl rfl)
theorem dX1_wouldChip_5 : decode cX1_wouldChip 5 = .ok (.invokevirtual 166, 3) := dk_182 0 166 (dk_at dksX1_wouldChip_0 5 rfl rfl)
theorem dX1_wouldChip_8 : decode cX1_wouldChip 8 = .ok (.astore_n 3, 1) := dk_78 (dk_at dksX1_wouldChip_0 8 rfl rfl)
theorem dX1_wouldChip_9 : decode cX1_wouldChip 9 = .ok (.iload_n 2, 1) := dk_28 (dk_at dksX1_wouldChip_0 9 rfl rfl)
theorem dX1_wouldChip_10 : decode cX1_wouldChip 10 = .ok (.invokestatic 234, 3) := dk_184 0 234 (dk_at dksX1_wouldChip_0 10 rfl rfl)
theorem dX1_wouldChip_13 : decode cX1_wouldChip 13 = .ok (.aload_n 3, 1) := dk_45 (dk_at dksX1_wouldChip_0 13 rfl rfl)
theorem dX1_wouldChip_14 : decode cX1_wouldChip 14 = .ok (.iload_n 2, 1) := dk_28 (dk_at dksX1_wouldChip_0 14 rfl rfl)
theorem dX1_wouldChip_15 : decode cX1_wouldChip 15 = .ok (.invokevirtual 238, 3) := dk_182 0 238 (dk_at dksX1_wouldChip_0 15 rfl rfl)
theorem dX1_wouldChip_18 : decode cX1_wouldChip 18 = .ok (.ireturn, 1) := dk_172 (dk_at dksX1_wouldChip_0 18 rfl rfl)
abbrev cX1_firstDone : ByteArray := prog_1_method_27_code
def yX1_firstDone : MethodName := ⟨RX1, "firstDone", "()I"⟩
def dkwX1_firstDone_0 : List UInt8 := [42, 180, 0, 66, 182, 0, 241, 60, 27, 2, 159, 0, 7, 4, 167, 0, 4, 3, 184, 0, 174, 27, 172]
abbrev dktX1_firstDone_0 : List UInt8 := dkwX1_firstDone_0 ++ []
theorem dksX1_firstDone_0 : cX1_firstDone.data.toList.drop 0 = dktX1_firstDone_0 := by decide +kernel
theorem dX1_firstDone_0 : decode cX1_firstDone 0 = .ok (.aload_n 0, 1) := dk_42 (dk_at dksX1_firstDone_0 0 rfl rfl)
theorem dX1_firstDone_1 : decode cX1_firstDone 1 = .ok (.getfield 66, 3) := dk_180 0 66 (dk_at dksX1_firstDone_0 1 rfl rfl)
theorem dX1_firstDone_4 : decode cX1_firstDone 4 = .ok (.invokevirtual 241, 3) := dk_182 0 241 (dk_at dksX1_firstDone_0 4 rfl rfl)
theorem dX1_firstDone_7 : decode cX1_firstDone 7 = .ok (.istore_n 1, 1) := dk_60 (dk_at dksX1_firstDone_0 7 rfl rfl)
theorem dX1_firstDone_8 : decode cX1_firstDone 8 = .ok (.iload_n 1, 1) := dk_27 (dk_at dksX1_firstDone_0 8 rfl rfl)
theorem dX1_firstDone_9 : decode cX1_firstDone 9 = .ok (.iconst (-1), 1) := dk_2 (dk_at dksX1_firstDone_0 9 rfl rfl)
theorem dX1_firstDone_10 : decode cX1_firstDone 10 = .ok (.if_icmp .eq 7, 3) := dk_159 0 7 (dk_at dksX1_firstDone_0 10 rfl rfl)
theorem dX1_firstDone_13 : decode cX1_firstDone 13 = .ok (.iconst 1, 1) := dk_4 (dk_at dksX1_firstDone_0 13 rfl rfl)
theorem dX1_firstDone_14 : decode cX1_firstDone 14 = .ok (.goto 4, 3) := dk_167 0 4 (dk_at dksX1_firstDone_0 14 rfl rfl)
theorem dX1_firstDone_17 : decode cX1_firstDone 17 = .ok (.iconst 0, 1) := dk_3 (dk_at dksX1_firstDone_0 17 rfl rfl)
theorem dX1_firstDone_18 : decode cX1_firstDone 18 = .ok (.invokestatic 174, 3) := dk_184 0 174 (dk_at dksX1_firstDone_0 18 rfl rfl)
theorem dX1_firstDone_21 : decode cX1_firstDone 21 = .ok (.iload_n 1, 1) := dk_27 (dk_at dksX1_firstDone_0 21 rfl rfl)
theorem dX1_firstDone_22 : decode cX1_firstDone 22 = .ok (.ireturn, 1) := dk_172 (dk_at dksX1_firstDone_0 22 rfl rfl)
abbrev cX1_crate : ByteArray := prog_1_method_28_code
def yX1_crate : MethodName := ⟨RX1, "crate", "(I)I"⟩
def dkwX1_crate_0 : List UInt8 := [42, 27, 186, 0, 244, 0, 0, 182, 0, 135, 172]
abbrev dktX1_crate_0 : List UInt8 := dkwX1_crate_0 ++ []
theorem dksX1_crate_0 : cX1_crate.data.toList.drop 0 = dktX1_crate_0 := by decide +kernel
theorem dX1_crate_0 : decode cX1_crate 0 = .ok (.aload_n 0, 1) := dk_42 (dk_at dksX1_crate_0 0 rfl rfl)
theorem dX1_crate_1 : decode cX1_crate 1 = .ok (.iload_n 1, 1) := dk_27 (dk_at dksX1_crate_0 1 rfl rfl)
theorem dX1_crate_2 : decode cX1_crate 2 = .ok (.invokedynamic 244, 5) := by decide +kernel
theorem dX1_crate_7 : decode cX1_crate 7 = .ok (.invokevirtual 135, 3) := dk_182 0 135 (dk_at dksX1_crate_0 7 rfl rfl)
theorem dX1_crate_10 : decode cX1_crate 10 = .ok (.ireturn, 1) := dk_172 (dk_at dksX1_crate_0 10 rfl rfl)
abbrev cX1_lambda_crate_8 : ByteArray := prog_1_method_60_code
def yX1_lambda_crate_8 : MethodName := ⟨RX1, "lambda$crate$8", "(ILWillowPrinters$House;)I"⟩
def dkwX1_lambda_crate_8_0 : List UInt8 := [43, 26, 182, 1, 174, 172]
abbrev dktX1_lambda_crate_8_0 : List UInt8 := dkwX1_lambda_crate_8_0 ++ []
theorem dksX1_lambda_crate_8_0 : cX1_lambda_crate_8.data.toList.drop 0 = dktX1_lambda_crate_8_0 := by decide +kernel
theorem dX1_lambda_crate_8_0 : decode cX1_lambda_crate_8 0 = .ok (.aload_n 1, 1) := dk_43 (dk_at dksX1_lambda_crate_8_0 0 rfl rfl)
theorem dX1_lambda_crate_8_1 : decode cX1_lambda_crate_8 1 = .ok (.iload_n 0, 1) := dk_26 (dk_at dksX1_lambda_crate_8_0 1 rfl rfl)
theorem dX1_lambda_crate_8_2 : decode cX1_lambda_crate_8 2 = .ok (.invokevirtual 430, 3) := dk_182 1 174 (dk_at dksX1_lambda_crate_8_0 2 rfl rfl)
theorem dX1_lambda_crate_8_5 : decode cX1_lambda_crate_8 5 = .ok (.ireturn, 1) := dk_172 (dk_at dksX1_lambda_crate_8_0 5 rfl rfl)
abbrev cX1_crateOf : ByteArray := prog_1_method_29_code
def yX1_crateOf : MethodName := ⟨RX1, "crateOf", "(II)I"⟩
def dkwX1_crateOf_3 : List UInt8 := [172, 45, 182, 1, 6, 172, 187, 0, 1, 89, 183, 0, 3, 191]
abbrev dktX1_crateOf_3 : List UInt8 := dkwX1_crateOf_3 ++ []
def dkwX1_crateOf_2 : List UInt8 := [45, 180, 0, 249, 172, 45, 180, 0, 252, 172, 45, 180, 0, 253, 172, 45, 180, 1, 0, 172, 45, 182, 1, 3]
abbrev dktX1_crateOf_2 : List UInt8 := dkwX1_crateOf_2 ++ dktX1_crateOf_3
def dkwX1_crateOf_1 : List UInt8 := [170, 0, 0, 0, 0, 68, 0, 0, 0, 0, 0, 0, 0, 5, 0, 0, 0, 38, 0, 0, 0, 43, 0, 0, 0, 48, 0, 0, 0, 53, 0, 0, 0, 58, 0, 0, 0, 63]
abbrev dktX1_crateOf_1 : List UInt8 := dkwX1_crateOf_1 ++ dktX1_crateOf_2
def dkwX1_crateOf_0 : List UInt8 := [42, 180, 0, 66, 27, 182, 0, 245, 78, 28]
abbrev dktX1_crateOf_0 : List UInt8 := dkwX1_crateOf_0 ++ dktX1_crateOf_1
theorem dksX1_crateOf_0 : cX1_crateOf.data.toList.drop 0 = dktX1_crateOf_0 := by decide +kernel
theorem dksX1_crateOf_1 : cX1_crateOf.data.toList.drop 10 = dktX1_crateOf_1 := dk_seg dksX1_crateOf_0 10 rfl rfl
theorem dksX1_crateOf_2 : cX1_crateOf.data.toList.drop 48 = dktX1_crateOf_2 := dk_seg dksX1_crateOf_1 38 rfl rfl
theorem dksX1_crateOf_3 : cX1_crateOf.data.toList.drop 72 = dktX1_crateOf_3 := dk_seg dksX1_crateOf_2 24 rfl rfl
theorem dX1_crateOf_0 : decode cX1_crateOf 0 = .ok (.aload_n 0, 1) := dk_42 (dk_at dksX1_crateOf_0 0 rfl rfl)
theorem dX1_crateOf_1 : decode cX1_crateOf 1 = .ok (.getfield 66, 3) := dk_180 0 66 (dk_at dksX1_crateOf_0 1 rfl rfl)
theorem dX1_crateOf_4 : decode cX1_crateOf 4 = .ok (.iload_n 1, 1) := dk_27 (dk_at dksX1_crateOf_0 4 rfl rfl)
theorem dX1_crateOf_5 : decode cX1_crateOf 5 = .ok (.invokevirtual 245, 3) := dk_182 0 245 (dk_at dksX1_crateOf_0 5 rfl rfl)
theorem dX1_crateOf_8 : decode cX1_crateOf 8 = .ok (.astore_n 3, 1) := dk_78 (dk_at dksX1_crateOf_0 8 rfl rfl)
theorem dX1_crateOf_9 : decode cX1_crateOf 9 = .ok (.iload_n 2, 1) := dk_28 (dk_at dksX1_crateOf_0 9 rfl rfl)
theorem dX1_crateOf_10 : decode cX1_crateOf 10 = .ok (.tableswitch 68 0 5 #[38, 43, 48, 53, 58, 63], 38) := by decide +kernel
theorem dX1_crateOf_48 : decode cX1_crateOf 48 = .ok (.aload_n 3, 1) := dk_45 (dk_at dksX1_crateOf_2 0 rfl rfl)
theorem dX1_crateOf_49 : decode cX1_crateOf 49 = .ok (.getfield 249, 3) := dk_180 0 249 (dk_at dksX1_crateOf_2 1 rfl rfl)
theorem dX1_crateOf_52 : decode cX1_crateOf 52 = .ok (.ireturn, 1) := dk_172 (dk_at dksX1_crateOf_2 4 rfl rfl)
theorem dX1_crateOf_53 : decode cX1_crateOf 53 = .ok (.aload_n 3, 1) := dk_45 (dk_at dksX1_crateOf_2 5 rfl rfl)
theorem dX1_crateOf_54 : decode cX1_crateOf 54 = .ok (.getfield 252, 3) := dk_180 0 252 (dk_at dksX1_crateOf_2 6 rfl rfl)
theorem dX1_crateOf_57 : decode cX1_crateOf 57 = .ok (.ireturn, 1) := dk_172 (dk_at dksX1_crateOf_2 9 rfl rfl)
theorem dX1_crateOf_58 : decode cX1_crateOf 58 = .ok (.aload_n 3, 1) := dk_45 (dk_at dksX1_crateOf_2 10 rfl rfl)
theorem dX1_crateOf_59 : decode cX1_crateOf 59 = .ok (.getfield 253, 3) := dk_180 0 253 (dk_at dksX1_crateOf_2 11 rfl rfl)
theorem dX1_crateOf_62 : decode cX1_crateOf 62 = .ok (.ireturn, 1) := dk_172 (dk_at dksX1_crateOf_2 14 rfl rfl)
theorem dX1_crateOf_63 : decode cX1_crateOf 63 = .ok (.aload_n 3, 1) := dk_45 (dk_at dksX1_crateOf_2 15 rfl rfl)
theorem dX1_crateOf_64 : decode cX1_crateOf 64 = .ok (.getfield 256, 3) := dk_180 1 0 (dk_at dksX1_crateOf_2 16 rfl rfl)
theorem dX1_crateOf_67 : decode cX1_crateOf 67 = .ok (.ireturn, 1) := dk_172 (dk_at dksX1_crateOf_2 19 rfl rfl)
theorem dX1_crateOf_68 : decode cX1_crateOf 68 = .ok (.aload_n 3, 1) := dk_45 (dk_at dksX1_crateOf_2 20 rfl rfl)
theorem dX1_crateOf_69 : decode cX1_crateOf 69 = .ok (.invokevirtual 259, 3) := dk_182 1 3 (dk_at dksX1_crateOf_2 21 rfl rfl)
theorem dX1_crateOf_72 : decode cX1_crateOf 72 = .ok (.ireturn, 1) := dk_172 (dk_at dksX1_crateOf_3 0 rfl rfl)
theorem dX1_crateOf_73 : decode cX1_crateOf 73 = .ok (.aload_n 3, 1) := dk_45 (dk_at dksX1_crateOf_3 1 rfl rfl)
theorem dX1_crateOf_74 : decode cX1_crateOf 74 = .ok (.invokevirtual 262, 3) := dk_182 1 6 (dk_at dksX1_crateOf_3 2 rfl rfl)
theorem dX1_crateOf_77 : decode cX1_crateOf 77 = .ok (.ireturn, 1) := dk_172 (dk_at dksX1_crateOf_3 5 rfl rfl)
theorem dX1_crateOf_78 : decode cX1_crateOf 78 = .ok (.new 1, 3) := dk_187 0 1 (dk_at dksX1_crateOf_3 6 rfl rfl)
theorem dX1_crateOf_81 : decode cX1_crateOf 81 = .ok (.dup, 1) := dk_89 (dk_at dksX1_crateOf_3 9 rfl rfl)
theorem dX1_crateOf_82 : decode cX1_crateOf 82 = .ok (.invokespecial 3, 3) := dk_183 0 3 (dk_at dksX1_crateOf_3 10 rfl rfl)
theorem dX1_crateOf_85 : decode cX1_crateOf 85 = .ok (.athrow, 1) := dk_191 (dk_at dksX1_crateOf_3 13 rfl rfl)
abbrev cX1_straw : ByteArray := prog_1_method_30_code
def yX1_straw : MethodName := ⟨RX1, "straw", "(II)I"⟩
def dkwX1_straw_0 : List UInt8 := [42, 27, 28, 186, 1, 9, 0, 0, 182, 0, 135, 172]
abbrev dktX1_straw_0 : List UInt8 := dkwX1_straw_0 ++ []
theorem dksX1_straw_0 : cX1_straw.data.toList.drop 0 = dktX1_straw_0 := by decide +kernel
theorem dX1_straw_0 : decode cX1_straw 0 = .ok (.aload_n 0, 1) := dk_42 (dk_at dksX1_straw_0 0 rfl rfl)
theorem dX1_straw_1 : decode cX1_straw 1 = .ok (.iload_n 1, 1) := dk_27 (dk_at dksX1_straw_0 1 rfl rfl)
theorem dX1_straw_2 : decode cX1_straw 2 = .ok (.iload_n 2, 1) := dk_28 (dk_at dksX1_straw_0 2 rfl rfl)
theorem dX1_straw_3 : decode cX1_straw 3 = .ok (.invokedynamic 265, 5) := by decide +kernel
theorem dX1_straw_8 : decode cX1_straw 8 = .ok (.invokevirtual 135, 3) := dk_182 0 135 (dk_at dksX1_straw_0 8 rfl rfl)
theorem dX1_straw_11 : decode cX1_straw 11 = .ok (.ireturn, 1) := dk_172 (dk_at dksX1_straw_0 11 rfl rfl)
abbrev cX1_lambda_straw_9 : ByteArray := prog_1_method_59_code
def yX1_lambda_straw_9 : MethodName := ⟨RX1, "lambda$straw$9", "(IILWillowPrinters$House;)I"⟩
def dkwX1_lambda_straw_9_0 : List UInt8 := [44, 26, 27, 182, 1, 170, 172]
abbrev dktX1_lambda_straw_9_0 : List UInt8 := dkwX1_lambda_straw_9_0 ++ []
theorem dksX1_lambda_straw_9_0 : cX1_lambda_straw_9.data.toList.drop 0 = dktX1_lambda_straw_9_0 := by decide +kernel
theorem dX1_lambda_straw_9_0 : decode cX1_lambda_straw_9 0 = .ok (.aload_n 2, 1) := dk_44 (dk_at dksX1_lambda_straw_9_0 0 rfl rfl)
theorem dX1_lambda_straw_9_1 : decode cX1_lambda_straw_9 1 = .ok (.iload_n 0, 1) := dk_26 (dk_at dksX1_lambda_straw_9_0 1 rfl rfl)
theorem dX1_lambda_straw_9_2 : decode cX1_lambda_straw_9 2 = .ok (.iload_n 1, 1) := dk_27 (dk_at dksX1_lambda_straw_9_0 2 rfl rfl)
theorem dX1_lambda_straw_9_3 : decode cX1_lambda_straw_9 3 = .ok (.invokevirtual 426, 3) := dk_182 1 170 (dk_at dksX1_lambda_straw_9_0 3 rfl rfl)
theorem dX1_lambda_straw_9_6 : decode cX1_lambda_straw_9 6 = .ok (.ireturn, 1) := dk_172 (dk_at dksX1_lambda_straw_9_0 6 rfl rfl)
abbrev cX1_pack : ByteArray := prog_1_method_31_code
def yX1_pack : MethodName := ⟨RX1, "pack", "(III)I"⟩
def dkwX1_pack_0 : List UInt8 := [42, 27, 28, 29, 186, 1, 10, 0, 0, 182, 0, 135, 172]
abbrev dktX1_pack_0 : List UInt8 := dkwX1_pack_0 ++ []
theorem dksX1_pack_0 : cX1_pack.data.toList.drop 0 = dktX1_pack_0 := by decide +kernel
theorem dX1_pack_0 : decode cX1_pack 0 = .ok (.aload_n 0, 1) := dk_42 (dk_at dksX1_pack_0 0 rfl rfl)
theorem dX1_pack_1 : decode cX1_pack 1 = .ok (.iload_n 1, 1) := dk_27 (dk_at dksX1_pack_0 1 rfl rfl)
theorem dX1_pack_2 : decode cX1_pack 2 = .ok (.iload_n 2, 1) := dk_28 (dk_at dksX1_pack_0 2 rfl rfl)
theorem dX1_pack_3 : decode cX1_pack 3 = .ok (.iload_n 3, 1) := dk_29 (dk_at dksX1_pack_0 3 rfl rfl)
theorem dX1_pack_4 : decode cX1_pack 4 = .ok (.invokedynamic 266, 5) := by decide +kernel
theorem dX1_pack_9 : decode cX1_pack 9 = .ok (.invokevirtual 135, 3) := dk_182 0 135 (dk_at dksX1_pack_0 9 rfl rfl)
theorem dX1_pack_12 : decode cX1_pack 12 = .ok (.ireturn, 1) := dk_172 (dk_at dksX1_pack_0 12 rfl rfl)
abbrev cX1_lambda_pack_10 : ByteArray := prog_1_method_58_code
def yX1_lambda_pack_10 : MethodName := ⟨RX1, "lambda$pack$10", "(IIILWillowPrinters$House;)I"⟩
def dkwX1_lambda_pack_10_0 : List UInt8 := [45, 26, 27, 28, 182, 1, 166, 172]
abbrev dktX1_lambda_pack_10_0 : List UInt8 := dkwX1_lambda_pack_10_0 ++ []
theorem dksX1_lambda_pack_10_0 : cX1_lambda_pack_10.data.toList.drop 0 = dktX1_lambda_pack_10_0 := by decide +kernel
theorem dX1_lambda_pack_10_0 : decode cX1_lambda_pack_10 0 = .ok (.aload_n 3, 1) := dk_45 (dk_at dksX1_lambda_pack_10_0 0 rfl rfl)
theorem dX1_lambda_pack_10_1 : decode cX1_lambda_pack_10 1 = .ok (.iload_n 0, 1) := dk_26 (dk_at dksX1_lambda_pack_10_0 1 rfl rfl)
theorem dX1_lambda_pack_10_2 : decode cX1_lambda_pack_10 2 = .ok (.iload_n 1, 1) := dk_27 (dk_at dksX1_lambda_pack_10_0 2 rfl rfl)
theorem dX1_lambda_pack_10_3 : decode cX1_lambda_pack_10 3 = .ok (.iload_n 2, 1) := dk_28 (dk_at dksX1_lambda_pack_10_0 3 rfl rfl)
theorem dX1_lambda_pack_10_4 : decode cX1_lambda_pack_10 4 = .ok (.invokevirtual 422, 3) := dk_182 1 166 (dk_at dksX1_lambda_pack_10_0 4 rfl rfl)
theorem dX1_lambda_pack_10_7 : decode cX1_lambda_pack_10 7 = .ok (.ireturn, 1) := dk_172 (dk_at dksX1_lambda_pack_10_0 7 rfl rfl)
abbrev cX1_carry : ByteArray := prog_1_method_32_code
def yX1_carry : MethodName := ⟨RX1, "carry", "(I)I"⟩
def dkwX1_carry_0 : List UInt8 := [42, 27, 186, 1, 11, 0, 0, 182, 0, 135, 172]
abbrev dktX1_carry_0 : List UInt8 := dkwX1_carry_0 ++ []
theorem dksX1_carry_0 : cX1_carry.data.toList.drop 0 = dktX1_carry_0 := by decide +kernel
theorem dX1_carry_0 : decode cX1_carry 0 = .ok (.aload_n 0, 1) := dk_42 (dk_at dksX1_carry_0 0 rfl rfl)
theorem dX1_carry_1 : decode cX1_carry 1 = .ok (.iload_n 1, 1) := dk_27 (dk_at dksX1_carry_0 1 rfl rfl)
theorem dX1_carry_2 : decode cX1_carry 2 = .ok (.invokedynamic 267, 5) := by decide +kernel
theorem dX1_carry_7 : decode cX1_carry 7 = .ok (.invokevirtual 135, 3) := dk_182 0 135 (dk_at dksX1_carry_0 7 rfl rfl)
theorem dX1_carry_10 : decode cX1_carry 10 = .ok (.ireturn, 1) := dk_172 (dk_at dksX1_carry_0 10 rfl rfl)
abbrev cX1_lambda_carry_11 : ByteArray := prog_1_method_57_code
def yX1_lambda_carry_11 : MethodName := ⟨RX1, "lambda$carry$11", "(ILWillowPrinters$House;)I"⟩
def dkwX1_lambda_carry_11_0 : List UInt8 := [43, 26, 182, 1, 163, 172]
abbrev dktX1_lambda_carry_11_0 : List UInt8 := dkwX1_lambda_carry_11_0 ++ []
theorem dksX1_lambda_carry_11_0 : cX1_lambda_carry_11.data.toList.drop 0 = dktX1_lambda_carry_11_0 := by decide +kernel
theorem dX1_lambda_carry_11_0 : decode cX1_lambda_carry_11 0 = .ok (.aload_n 1, 1) := dk_43 (dk_at dksX1_lambda_carry_11_0 0 rfl rfl)
theorem dX1_lambda_carry_11_1 : decode cX1_lambda_carry_11 1 = .ok (.iload_n 0, 1) := dk_26 (dk_at dksX1_lambda_carry_11_0 1 rfl rfl)
theorem dX1_lambda_carry_11_2 : decode cX1_lambda_carry_11 2 = .ok (.invokevirtual 419, 3) := dk_182 1 163 (dk_at dksX1_lambda_carry_11_0 2 rfl rfl)
theorem dX1_lambda_carry_11_5 : decode cX1_lambda_carry_11 5 = .ok (.ireturn, 1) := dk_172 (dk_at dksX1_lambda_carry_11_0 5 rfl rfl)
abbrev cX1_sell : ByteArray := prog_1_method_33_code
def yX1_sell : MethodName := ⟨RX1, "sell", "()I"⟩
def dkwX1_sell_0 : List UInt8 := [42, 186, 1, 12, 0, 0, 182, 0, 135, 172]
abbrev dktX1_sell_0 : List UInt8 := dkwX1_sell_0 ++ []
theorem dksX1_sell_0 : cX1_sell.data.toList.drop 0 = dktX1_sell_0 := by decide +kernel
theorem dX1_sell_0 : decode cX1_sell 0 = .ok (.aload_n 0, 1) := dk_42 (dk_at dksX1_sell_0 0 rfl rfl)
theorem dX1_sell_1 : decode cX1_sell 1 = .ok (.invokedynamic 268, 5) := by decide +kernel
theorem dX1_sell_6 : decode cX1_sell 6 = .ok (.invokevirtual 135, 3) := dk_182 0 135 (dk_at dksX1_sell_0 6 rfl rfl)
theorem dX1_sell_9 : decode cX1_sell 9 = .ok (.ireturn, 1) := dk_172 (dk_at dksX1_sell_0 9 rfl rfl)
abbrev cX1_lambda_sell_12 : ByteArray := prog_1_method_56_code
def yX1_lambda_sell_12 : MethodName := ⟨RX1, "lambda$sell$12", "(LWillowPrinters$House;)I"⟩
theorem dX1_lambda_sell_12_0 : decode cX1_lambda_sell_12 0 = .ok (.aload_n 0, 1) := by decide +kernel
theorem dX1_lambda_sell_12_1 : decode cX1_lambda_sell_12 1 = .ok (.invokevirtual 416, 3) := by decide +kernel
theorem dX1_lambda_sell_12_4 : decode cX1_lambda_sell_12 4 = .ok (.ireturn, 1) := by decide +kernel
abbrev cX1_pass : ByteArray := prog_1_method_34_code
def yX1_pass : MethodName := ⟨RX1, "pass", "(I)I"⟩
def dkwX1_pass_0 : List UInt8 := [42, 27, 186, 1, 15, 0, 0, 182, 0, 135, 172]
abbrev dktX1_pass_0 : List UInt8 := dkwX1_pass_0 ++ []
theorem dksX1_pass_0 : cX1_pass.data.toList.drop 0 = dktX1_pass_0 := by decide +kernel
theorem dX1_pass_0 : decode cX1_pass 0 = .ok (.aload_n 0, 1) := dk_42 (dk_at dksX1_pass_0 0 rfl rfl)
theorem dX1_pass_1 : decode cX1_pass 1 = .ok (.iload_n 1, 1) := dk_27 (dk_at dksX1_pass_0 1 rfl rfl)
theorem dX1_pass_2 : decode cX1_pass 2 = .ok (.invokedynamic 271, 5) := by decide +kernel
theorem dX1_pass_7 : decode cX1_pass 7 = .ok (.invokevirtual 135, 3) := dk_182 0 135 (dk_at dksX1_pass_0 7 rfl rfl)
theorem dX1_pass_10 : decode cX1_pass 10 = .ok (.ireturn, 1) := dk_172 (dk_at dksX1_pass_0 10 rfl rfl)
abbrev cX1_lambda_pass_13 : ByteArray := prog_1_method_55_code
def yX1_lambda_pass_13 : MethodName := ⟨RX1, "lambda$pass$13", "(ILWillowPrinters$House;)I"⟩
def dkwX1_lambda_pass_13_0 : List UInt8 := [43, 26, 182, 1, 157, 172]
abbrev dktX1_lambda_pass_13_0 : List UInt8 := dkwX1_lambda_pass_13_0 ++ []
theorem dksX1_lambda_pass_13_0 : cX1_lambda_pass_13.data.toList.drop 0 = dktX1_lambda_pass_13_0 := by decide +kernel
theorem dX1_lambda_pass_13_0 : decode cX1_lambda_pass_13 0 = .ok (.aload_n 1, 1) := dk_43 (dk_at dksX1_lambda_pass_13_0 0 rfl rfl)
theorem dX1_lambda_pass_13_1 : decode cX1_lambda_pass_13 1 = .ok (.iload_n 0, 1) := dk_26 (dk_at dksX1_lambda_pass_13_0 1 rfl rfl)
theorem dX1_lambda_pass_13_2 : decode cX1_lambda_pass_13 2 = .ok (.invokevirtual 413, 3) := dk_182 1 157 (dk_at dksX1_lambda_pass_13_0 2 rfl rfl)
theorem dX1_lambda_pass_13_5 : decode cX1_lambda_pass_13 5 = .ok (.ireturn, 1) := dk_172 (dk_at dksX1_lambda_pass_13_0 5 rfl rfl)
abbrev cX1_line : ByteArray := prog_1_method_35_code
def yX1_line : MethodName := ⟨RX1, "line", "(I)I"⟩
def dkwX1_line_0 : List UInt8 := [42, 42, 180, 0, 66, 27, 182, 0, 166, 182, 1, 16, 181, 0, 86, 42, 180, 0, 86, 182, 1, 20, 172]
abbrev dktX1_line_0 : List UInt8 := dkwX1_line_0 ++ []
theorem dksX1_line_0 : cX1_line.data.toList.drop 0 = dktX1_line_0 := by decide +kernel
theorem dX1_line_0 : decode cX1_line 0 = .ok (.aload_n 0, 1) := dk_42 (dk_at dksX1_line_0 0 rfl rfl)
theorem dX1_line_1 : decode cX1_line 1 = .ok (.aload_n 0, 1) := dk_42 (dk_at dksX1_line_0 1 rfl rfl)
theorem dX1_line_2 : decode cX1_line 2 = .ok (.getfield 66, 3) := dk_180 0 66 (dk_at dksX1_line_0 2 rfl rfl)
theorem dX1_line_5 : decode cX1_line 5 = .ok (.iload_n 1, 1) := dk_27 (dk_at dksX1_line_0 5 rfl rfl)
theorem dX1_line_6 : decode cX1_line 6 = .ok (.invokevirtual 166, 3) := dk_182 0 166 (dk_at dksX1_line_0 6 rfl rfl)
theorem dX1_line_9 : decode cX1_line 9 = .ok (.invokevirtual 272, 3) := dk_182 1 16 (dk_at dksX1_line_0 9 rfl rfl)
theorem dX1_line_12 : decode cX1_line 12 = .ok (.putfield 86, 3) := dk_181 0 86 (dk_at dksX1_line_0 12 rfl rfl)
theorem dX1_line_15 : decode cX1_line 15 = .ok (.aload_n 0, 1) := dk_42 (dk_at dksX1_line_0 15 rfl rfl)
theorem dX1_line_16 : decode cX1_line 16 = .ok (.getfield 86, 3) := dk_180 0 86 (dk_at dksX1_line_0 16 rfl rfl)
theorem dX1_line_19 : decode cX1_line 19 = .ok (.invokevirtual 276, 3) := dk_182 1 20 (dk_at dksX1_line_0 19 rfl rfl)
theorem dX1_line_22 : decode cX1_line 22 = .ok (.ireturn, 1) := dk_172 (dk_at dksX1_line_0 22 rfl rfl)
abbrev cX1_crateLine : ByteArray := prog_1_method_36_code
def yX1_crateLine : MethodName := ⟨RX1, "crateLine", "(I)I"⟩
def dkwX1_crateLine_0 : List UInt8 := [42, 42, 180, 0, 66, 27, 182, 0, 245, 182, 1, 25, 181, 0, 86, 42, 180, 0, 86, 182, 1, 20, 172]
abbrev dktX1_crateLine_0 : List UInt8 := dkwX1_crateLine_0 ++ []
theorem dksX1_crateLine_0 : cX1_crateLine.data.toList.drop 0 = dktX1_crateLine_0 := by decide +kernel
theorem dX1_crateLine_0 : decode cX1_crateLine 0 = .ok (.aload_n 0, 1) := dk_42 (dk_at dksX1_crateLine_0 0 rfl rfl)
theorem dX1_crateLine_1 : decode cX1_crateLine 1 = .ok (.aload_n 0, 1) := dk_42 (dk_at dksX1_crateLine_0 1 rfl rfl)
theorem dX1_crateLine_2 : decode cX1_crateLine 2 = .ok (.getfield 66, 3) := dk_180 0 66 (dk_at dksX1_crateLine_0 2 rfl rfl)
theorem dX1_crateLine_5 : decode cX1_crateLine 5 = .ok (.iload_n 1, 1) := dk_27 (dk_at dksX1_crateLine_0 5 rfl rfl)
theorem dX1_crateLine_6 : decode cX1_crateLine 6 = .ok (.invokevirtual 245, 3) := dk_182 0 245 (dk_at dksX1_crateLine_0 6 rfl rfl)
theorem dX1_crateLine_9 : decode cX1_crateLine 9 = .ok (.invokevirtual 281, 3) := dk_182 1 25 (dk_at dksX1_crateLine_0 9 rfl rfl)
theorem dX1_crateLine_12 : decode cX1_crateLine 12 = .ok (.putfield 86, 3) := dk_181 0 86 (dk_at dksX1_crateLine_0 12 rfl rfl)
theorem dX1_crateLine_15 : decode cX1_crateLine 15 = .ok (.aload_n 0, 1) := dk_42 (dk_at dksX1_crateLine_0 15 rfl rfl)
theorem dX1_crateLine_16 : decode cX1_crateLine 16 = .ok (.getfield 86, 3) := dk_180 0 86 (dk_at dksX1_crateLine_0 16 rfl rfl)
theorem dX1_crateLine_19 : decode cX1_crateLine 19 = .ok (.invokevirtual 276, 3) := dk_182 1 20 (dk_at dksX1_crateLine_0 19 rfl rfl)
theorem dX1_crateLine_22 : decode cX1_crateLine 22 = .ok (.ireturn, 1) := dk_172 (dk_at dksX1_crateLine_0 22 rfl rfl)
abbrev cX1_character : ByteArray := prog_1_method_37_code
def yX1_character : MethodName := ⟨RX1, "character", "(I)C"⟩
def dkwX1_character_1 : List UInt8 := [182, 1, 29, 172]
abbrev dktX1_character_1 : List UInt8 := dkwX1_character_1 ++ []
def dkwX1_character_0 : List UInt8 := [27, 133, 9, 42, 180, 0, 86, 182, 1, 20, 4, 100, 133, 184, 0, 23, 184, 1, 26, 42, 180, 0, 86, 27]
abbrev dktX1_character_0 : List UInt8 := dkwX1_character_0 ++ dktX1_character_1
theorem dksX1_character_0 : cX1_character.data.toList.drop 0 = dktX1_character_0 := by decide +kernel
theorem dksX1_character_1 : cX1_character.data.toList.drop 24 = dktX1_character_1 := dk_seg dksX1_character_0 24 rfl rfl
theorem dX1_character_0 : decode cX1_character 0 = .ok (.iload_n 1, 1) := dk_27 (dk_at dksX1_character_0 0 rfl rfl)
theorem dX1_character_1 : decode cX1_character 1 = .ok (.i2l, 1) := dk_133 (dk_at dksX1_character_0 1 rfl rfl)
theorem dX1_character_2 : decode cX1_character 2 = .ok (.lconst 0, 1) := dk_9 (dk_at dksX1_character_0 2 rfl rfl)
theorem dX1_character_3 : decode cX1_character 3 = .ok (.aload_n 0, 1) := dk_42 (dk_at dksX1_character_0 3 rfl rfl)
theorem dX1_character_4 : decode cX1_character 4 = .ok (.getfield 86, 3) := dk_180 0 86 (dk_at dksX1_character_0 4 rfl rfl)
theorem dX1_character_7 : decode cX1_character 7 = .ok (.invokevirtual 276, 3) := dk_182 1 20 (dk_at dksX1_character_0 7 rfl rfl)
theorem dX1_character_10 : decode cX1_character 10 = .ok (.iconst 1, 1) := dk_4 (dk_at dksX1_character_0 10 rfl rfl)
theorem dX1_character_11 : decode cX1_character 11 = .ok (.isub, 1) := dk_100 (dk_at dksX1_character_0 11 rfl rfl)
theorem dX1_character_12 : decode cX1_character 12 = .ok (.i2l, 1) := dk_133 (dk_at dksX1_character_0 12 rfl rfl)
theorem dX1_character_13 : decode cX1_character 13 = .ok (.invokestatic 23, 3) := dk_184 0 23 (dk_at dksX1_character_0 13 rfl rfl)
theorem dX1_character_16 : decode cX1_character 16 = .ok (.invokestatic 282, 3) := dk_184 1 26 (dk_at dksX1_character_0 16 rfl rfl)
theorem dX1_character_19 : decode cX1_character 19 = .ok (.aload_n 0, 1) := dk_42 (dk_at dksX1_character_0 19 rfl rfl)
theorem dX1_character_20 : decode cX1_character 20 = .ok (.getfield 86, 3) := dk_180 0 86 (dk_at dksX1_character_0 20 rfl rfl)
theorem dX1_character_23 : decode cX1_character 23 = .ok (.iload_n 1, 1) := dk_27 (dk_at dksX1_character_0 23 rfl rfl)
theorem dX1_character_24 : decode cX1_character 24 = .ok (.invokevirtual 285, 3) := dk_182 1 29 (dk_at dksX1_character_1 0 rfl rfl)
theorem dX1_character_27 : decode cX1_character 27 = .ok (.ireturn, 1) := dk_172 (dk_at dksX1_character_1 3 rfl rfl)
abbrev cX1_refusal : ByteArray := prog_1_method_38_code
def yX1_refusal : MethodName := ⟨RX1, "refusal", "(Z)I"⟩
def dkwX1_refusal_1 : List UInt8 := [180, 1, 36, 167, 0, 10, 42, 180, 0, 115, 180, 1, 39, 172]
abbrev dktX1_refusal_1 : List UInt8 := dkwX1_refusal_1 ++ []
def dkwX1_refusal_0 : List UInt8 := [42, 180, 0, 115, 198, 0, 7, 4, 167, 0, 4, 3, 184, 1, 33, 27, 153, 0, 13, 42, 180, 0, 115]
abbrev dktX1_refusal_0 : List UInt8 := dkwX1_refusal_0 ++ dktX1_refusal_1
theorem dksX1_refusal_0 : cX1_refusal.data.toList.drop 0 = dktX1_refusal_0 := by decide +kernel
theorem dksX1_refusal_1 : cX1_refusal.data.toList.drop 23 = dktX1_refusal_1 := dk_seg dksX1_refusal_0 23 rfl rfl
theorem dX1_refusal_0 : decode cX1_refusal 0 = .ok (.aload_n 0, 1) := dk_42 (dk_at dksX1_refusal_0 0 rfl rfl)
theorem dX1_refusal_1 : decode cX1_refusal 1 = .ok (.getfield 115, 3) := dk_180 0 115 (dk_at dksX1_refusal_0 1 rfl rfl)
theorem dX1_refusal_4 : decode cX1_refusal 4 = .ok (.ifnull 7, 3) := dk_198 0 7 (dk_at dksX1_refusal_0 4 rfl rfl)
theorem dX1_refusal_7 : decode cX1_refusal 7 = .ok (.iconst 1, 1) := dk_4 (dk_at dksX1_refusal_0 7 rfl rfl)
theorem dX1_refusal_8 : decode cX1_refusal 8 = .ok (.goto 4, 3) := dk_167 0 4 (dk_at dksX1_refusal_0 8 rfl rfl)
theorem dX1_refusal_11 : decode cX1_refusal 11 = .ok (.iconst 0, 1) := dk_3 (dk_at dksX1_refusal_0 11 rfl rfl)
theorem dX1_refusal_12 : decode cX1_refusal 12 = .ok (.invokestatic 289, 3) := dk_184 1 33 (dk_at dksX1_refusal_0 12 rfl rfl)
theorem dX1_refusal_15 : decode cX1_refusal 15 = .ok (.iload_n 1, 1) := dk_27 (dk_at dksX1_refusal_0 15 rfl rfl)
theorem dX1_refusal_16 : decode cX1_refusal 16 = .ok (.ifCond .eq 13, 3) := dk_153 0 13 (dk_at dksX1_refusal_0 16 rfl rfl)
theorem dX1_refusal_19 : decode cX1_refusal 19 = .ok (.aload_n 0, 1) := dk_42 (dk_at dksX1_refusal_0 19 rfl rfl)
theorem dX1_refusal_20 : decode cX1_refusal 20 = .ok (.getfield 115, 3) := dk_180 0 115 (dk_at dksX1_refusal_0 20 rfl rfl)
theorem dX1_refusal_23 : decode cX1_refusal 23 = .ok (.getfield 292, 3) := dk_180 1 36 (dk_at dksX1_refusal_1 0 rfl rfl)
theorem dX1_refusal_26 : decode cX1_refusal 26 = .ok (.goto 10, 3) := dk_167 0 10 (dk_at dksX1_refusal_1 3 rfl rfl)
theorem dX1_refusal_29 : decode cX1_refusal 29 = .ok (.aload_n 0, 1) := dk_42 (dk_at dksX1_refusal_1 6 rfl rfl)
theorem dX1_refusal_30 : decode cX1_refusal 30 = .ok (.getfield 115, 3) := dk_180 0 115 (dk_at dksX1_refusal_1 7 rfl rfl)
theorem dX1_refusal_33 : decode cX1_refusal 33 = .ok (.getfield 295, 3) := dk_180 1 39 (dk_at dksX1_refusal_1 10 rfl rfl)
theorem dX1_refusal_36 : decode cX1_refusal 36 = .ok (.ireturn, 1) := dk_172 (dk_at dksX1_refusal_1 13 rfl rfl)
abbrev cX1_account : ByteArray := prog_1_method_39_code
def yX1_account : MethodName := ⟨RX1, "account", "(I)I"⟩
def dkwX1_account_9 : List UInt8 := [180, 0, 80, 182, 1, 92, 172, 42, 180, 0, 73, 182, 0, 94, 172, 187, 0, 1, 89, 183, 0, 3, 191]
abbrev dktX1_account_9 : List UInt8 := dkwX1_account_9 ++ []
def dkwX1_account_8 : List UInt8 := [180, 1, 83, 182, 0, 31, 172, 42, 180, 0, 66, 180, 1, 86, 172, 42, 180, 0, 66, 180, 1, 89, 172, 42]
abbrev dktX1_account_8 : List UInt8 := dkwX1_account_8 ++ dktX1_account_9
def dkwX1_account_7 : List UInt8 := [172, 42, 180, 0, 66, 180, 1, 77, 182, 0, 31, 172, 42, 180, 0, 66, 182, 1, 80, 172, 42, 180, 0, 66]
abbrev dktX1_account_7 : List UInt8 := dkwX1_account_7 ++ dktX1_account_8
def dkwX1_account_6 : List UInt8 := [172, 42, 180, 0, 66, 180, 1, 68, 172, 42, 180, 0, 66, 180, 1, 71, 172, 42, 180, 0, 66, 180, 1, 74]
abbrev dktX1_account_6 : List UInt8 := dkwX1_account_6 ++ dktX1_account_7
def dkwX1_account_5 : List UInt8 := [182, 1, 60, 172, 42, 180, 0, 66, 186, 1, 64, 0, 0, 182, 1, 60, 172, 42, 180, 0, 66, 182, 1, 65]
abbrev dktX1_account_5 : List UInt8 := dkwX1_account_5 ++ dktX1_account_6
def dkwX1_account_4 : List UInt8 := [180, 1, 51, 182, 0, 31, 172, 42, 180, 0, 66, 180, 1, 54, 172, 42, 180, 0, 66, 186, 1, 57, 0, 0]
abbrev dktX1_account_4 : List UInt8 := dkwX1_account_4 ++ dktX1_account_5
def dkwX1_account_3 : List UInt8 := [42, 180, 0, 66, 180, 1, 45, 172, 42, 180, 0, 66, 180, 1, 47, 182, 0, 31, 172, 42, 180, 0, 66]
abbrev dktX1_account_3 : List UInt8 := dkwX1_account_3 ++ dktX1_account_4
def dkwX1_account_2 : List UInt8 := [42, 180, 0, 66, 180, 0, 126, 172, 42, 180, 0, 66, 180, 0, 153, 172, 42, 180, 0, 66, 180, 1, 42, 172]
abbrev dktX1_account_2 : List UInt8 := dkwX1_account_2 ++ dktX1_account_3
def dkwX1_account_1 : List UInt8 := [170, 0, 0, 0, 0, 1, 21, 0, 0, 0, 0, 0, 0, 0, 19, 0, 0, 0, 95, 0, 0, 0, 103, 0, 0, 0, 111, 0, 0, 0, 119, 0, 0, 0, 127, 0, 0, 0, 138, 0, 0, 0, 149, 0, 0, 0, 157, 0, 0, 0, 170, 0, 0, 0, 183, 0, 0, 0, 191, 0, 0, 0, 199, 0, 0, 0, 207, 0, 0, 0, 215, 0, 0, 0, 226, 0, 0, 0, 234, 0, 0, 0, 245, 0, 0, 0, 253, 0, 0, 1, 5, 0, 0, 1, 13]
abbrev dktX1_account_1 : List UInt8 := dkwX1_account_1 ++ dktX1_account_2
def dkwX1_account_0 : List UInt8 := [27]
abbrev dktX1_account_0 : List UInt8 := dkwX1_account_0 ++ dktX1_account_1
theorem dksX1_account_0 : cX1_account.data.toList.drop 0 = dktX1_account_0 := by decide +kernel
theorem dksX1_account_1 : cX1_account.data.toList.drop 1 = dktX1_account_1 := dk_seg dksX1_account_0 1 rfl rfl
theorem dksX1_account_2 : cX1_account.data.toList.drop 96 = dktX1_account_2 := dk_seg dksX1_account_1 95 rfl rfl
theorem dksX1_account_3 : cX1_account.data.toList.drop 120 = dktX1_account_3 := dk_seg dksX1_account_2 24 rfl rfl
theorem dksX1_account_4 : cX1_account.data.toList.drop 143 = dktX1_account_4 := dk_seg dksX1_account_3 23 rfl rfl
theorem dksX1_account_5 : cX1_account.data.toList.drop 167 = dktX1_account_5 := dk_seg dksX1_account_4 24 rfl rfl
theorem dksX1_account_6 : cX1_account.data.toList.drop 191 = dktX1_account_6 := dk_seg dksX1_account_5 24 rfl rfl
theorem dksX1_account_7 : cX1_account.data.toList.drop 215 = dktX1_account_7 := dk_seg dksX1_account_6 24 rfl rfl
theorem dksX1_account_8 : cX1_account.data.toList.drop 239 = dktX1_account_8 := dk_seg dksX1_account_7 24 rfl rfl
theorem dksX1_account_9 : cX1_account.data.toList.drop 263 = dktX1_account_9 := dk_seg dksX1_account_8 24 rfl rfl
theorem dX1_account_0 : decode cX1_account 0 = .ok (.iload_n 1, 1) := dk_27 (dk_at dksX1_account_0 0 rfl rfl)
theorem dX1_account_1 : decode cX1_account 1 = .ok (.tableswitch 277 0 19 #[95, 103, 111, 119, 127, 138, 149, 157, 170, 183, 191, 199, 207, 215, 226, 234, 245, 253, 261, 269], 95) := by decide +kernel
theorem dX1_account_96 : decode cX1_account 96 = .ok (.aload_n 0, 1) := dk_42 (dk_at dksX1_account_2 0 rfl rfl)
theorem dX1_account_97 : decode cX1_account 97 = .ok (.getfield 66, 3) := dk_180 0 66 (dk_at dksX1_account_2 1 rfl rfl)
theorem dX1_account_100 : decode cX1_account 100 = .ok (.getfield 126, 3) := dk_180 0 126 (dk_at dksX1_account_2 4 rfl rfl)
theorem dX1_account_103 : decode cX1_account 103 = .ok (.ireturn, 1) := dk_172 (dk_at dksX1_account_2 7 rfl rfl)
theorem dX1_account_104 : decode cX1_account 104 = .ok (.aload_n 0, 1) := dk_42 (dk_at dksX1_account_2 8 rfl rfl)
theorem dX1_account_105 : decode cX1_account 105 = .ok (.getfield 66, 3) := dk_180 0 66 (dk_at dksX1_account_2 9 rfl rfl)
theorem dX1_account_108 : decode cX1_account 108 = .ok (.getfield 153, 3) := dk_180 0 153 (dk_at dksX1_account_2 12 rfl rfl)
theorem dX1_account_111 : decode cX1_account 111 = .ok (.ireturn, 1) := dk_172 (dk_at dksX1_account_2 15 rfl rfl)
theorem dX1_account_112 : decode cX1_account 112 = .ok (.aload_n 0, 1) := dk_42 (dk_at dksX1_account_2 16 rfl rfl)
theorem dX1_account_113 : decode cX1_account 113 = .ok (.getfield 66, 3) := dk_180 0 66 (dk_at dksX1_account_2 17 rfl rfl)
theorem dX1_account_116 : decode cX1_account 116 = .ok (.getfield 298, 3) := dk_180 1 42 (dk_at dksX1_account_2 20 rfl rfl)
theorem dX1_account_119 : decode cX1_account 119 = .ok (.ireturn, 1) := dk_172 (dk_at dksX1_account_2 23 rfl rfl)
theorem dX1_account_120 : decode cX1_account 120 = .ok (.aload_n 0, 1) := dk_42 (dk_at dksX1_account_3 0 rfl rfl)
theorem dX1_account_121 : decode cX1_account 121 = .ok (.getfield 66, 3) := dk_180 0 66 (dk_at dksX1_account_3 1 rfl rfl)
theorem dX1_account_124 : decode cX1_account 124 = .ok (.getfield 301, 3) := dk_180 1 45 (dk_at dksX1_account_3 4 rfl rfl)
theorem dX1_account_127 : decode cX1_account 127 = .ok (.ireturn, 1) := dk_172 (dk_at dksX1_account_3 7 rfl rfl)
theorem dX1_account_128 : decode cX1_account 128 = .ok (.aload_n 0, 1) := dk_42 (dk_at dksX1_account_3 8 rfl rfl)
theorem dX1_account_129 : decode cX1_account 129 = .ok (.getfield 66, 3) := dk_180 0 66 (dk_at dksX1_account_3 9 rfl rfl)
theorem dX1_account_132 : decode cX1_account 132 = .ok (.getfield 303, 3) := dk_180 1 47 (dk_at dksX1_account_3 12 rfl rfl)
theorem dX1_account_135 : decode cX1_account 135 = .ok (.invokevirtual 31, 3) := dk_182 0 31 (dk_at dksX1_account_3 15 rfl rfl)
theorem dX1_account_138 : decode cX1_account 138 = .ok (.ireturn, 1) := dk_172 (dk_at dksX1_account_3 18 rfl rfl)
theorem dX1_account_139 : decode cX1_account 139 = .ok (.aload_n 0, 1) := dk_42 (dk_at dksX1_account_3 19 rfl rfl)
theorem dX1_account_140 : decode cX1_account 140 = .ok (.getfield 66, 3) := dk_180 0 66 (dk_at dksX1_account_3 20 rfl rfl)
theorem dX1_account_143 : decode cX1_account 143 = .ok (.getfield 307, 3) := dk_180 1 51 (dk_at dksX1_account_4 0 rfl rfl)
theorem dX1_account_146 : decode cX1_account 146 = .ok (.invokevirtual 31, 3) := dk_182 0 31 (dk_at dksX1_account_4 3 rfl rfl)
theorem dX1_account_149 : decode cX1_account 149 = .ok (.ireturn, 1) := dk_172 (dk_at dksX1_account_4 6 rfl rfl)
theorem dX1_account_150 : decode cX1_account 150 = .ok (.aload_n 0, 1) := dk_42 (dk_at dksX1_account_4 7 rfl rfl)
theorem dX1_account_151 : decode cX1_account 151 = .ok (.getfield 66, 3) := dk_180 0 66 (dk_at dksX1_account_4 8 rfl rfl)
theorem dX1_account_154 : decode cX1_account 154 = .ok (.getfield 310, 3) := dk_180 1 54 (dk_at dksX1_account_4 11 rfl rfl)
theorem dX1_account_157 : decode cX1_account 157 = .ok (.ireturn, 1) := dk_172 (dk_at dksX1_account_4 14 rfl rfl)
theorem dX1_account_158 : decode cX1_account 158 = .ok (.aload_n 0, 1) := dk_42 (dk_at dksX1_account_4 15 rfl rfl)
theorem dX1_account_159 : decode cX1_account 159 = .ok (.getfield 66, 3) := dk_180 0 66 (dk_at dksX1_account_4 16 rfl rfl)
theorem dX1_account_162 : decode cX1_account 162 = .ok (.invokedynamic 313, 5) := by decide +kernel
theorem dX1_account_167 : decode cX1_account 167 = .ok (.invokevirtual 316, 3) := dk_182 1 60 (dk_at dksX1_account_5 0 rfl rfl)
theorem dX1_account_170 : decode cX1_account 170 = .ok (.ireturn, 1) := dk_172 (dk_at dksX1_account_5 3 rfl rfl)
theorem dX1_account_171 : decode cX1_account 171 = .ok (.aload_n 0, 1) := dk_42 (dk_at dksX1_account_5 4 rfl rfl)
theorem dX1_account_172 : decode cX1_account 172 = .ok (.getfield 66, 3) := dk_180 0 66 (dk_at dksX1_account_5 5 rfl rfl)
theorem dX1_account_175 : decode cX1_account 175 = .ok (.invokedynamic 320, 5) := by decide +kernel
theorem dX1_account_180 : decode cX1_account 180 = .ok (.invokevirtual 316, 3) := dk_182 1 60 (dk_at dksX1_account_5 13 rfl rfl)
theorem dX1_account_183 : decode cX1_account 183 = .ok (.ireturn, 1) := dk_172 (dk_at dksX1_account_5 16 rfl rfl)
theorem dX1_account_184 : decode cX1_account 184 = .ok (.aload_n 0, 1) := dk_42 (dk_at dksX1_account_5 17 rfl rfl)
theorem dX1_account_185 : decode cX1_account 185 = .ok (.getfield 66, 3) := dk_180 0 66 (dk_at dksX1_account_5 18 rfl rfl)
theorem dX1_account_188 : decode cX1_account 188 = .ok (.invokevirtual 321, 3) := dk_182 1 65 (dk_at dksX1_account_5 21 rfl rfl)
theorem dX1_account_191 : decode cX1_account 191 = .ok (.ireturn, 1) := dk_172 (dk_at dksX1_account_6 0 rfl rfl)
theorem dX1_account_192 : decode cX1_account 192 = .ok (.aload_n 0, 1) := dk_42 (dk_at dksX1_account_6 1 rfl rfl)
theorem dX1_account_193 : decode cX1_account 193 = .ok (.getfield 66, 3) := dk_180 0 66 (dk_at dksX1_account_6 2 rfl rfl)
theorem dX1_account_196 : decode cX1_account 196 = .ok (.getfield 324, 3) := dk_180 1 68 (dk_at dksX1_account_6 5 rfl rfl)
theorem dX1_account_199 : decode cX1_account 199 = .ok (.ireturn, 1) := dk_172 (dk_at dksX1_account_6 8 rfl rfl)
theorem dX1_account_200 : decode cX1_account 200 = .ok (.aload_n 0, 1) := dk_42 (dk_at dksX1_account_6 9 rfl rfl)
theorem dX1_account_201 : decode cX1_account 201 = .ok (.getfield 66, 3) := dk_180 0 66 (dk_at dksX1_account_6 10 rfl rfl)
theorem dX1_account_204 : decode cX1_account 204 = .ok (.getfield 327, 3) := dk_180 1 71 (dk_at dksX1_account_6 13 rfl rfl)
theorem dX1_account_207 : decode cX1_account 207 = .ok (.ireturn, 1) := dk_172 (dk_at dksX1_account_6 16 rfl rfl)
theorem dX1_account_208 : decode cX1_account 208 = .ok (.aload_n 0, 1) := dk_42 (dk_at dksX1_account_6 17 rfl rfl)
theorem dX1_account_209 : decode cX1_account 209 = .ok (.getfield 66, 3) := dk_180 0 66 (dk_at dksX1_account_6 18 rfl rfl)
theorem dX1_account_212 : decode cX1_account 212 = .ok (.getfield 330, 3) := dk_180 1 74 (dk_at dksX1_account_6 21 rfl rfl)
theorem dX1_account_215 : decode cX1_account 215 = .ok (.ireturn, 1) := dk_172 (dk_at dksX1_account_7 0 rfl rfl)
theorem dX1_account_216 : decode cX1_account 216 = .ok (.aload_n 0, 1) := dk_42 (dk_at dksX1_account_7 1 rfl rfl)
theorem dX1_account_217 : decode cX1_account 217 = .ok (.getfield 66, 3) := dk_180 0 66 (dk_at dksX1_account_7 2 rfl rfl)
theorem dX1_account_220 : decode cX1_account 220 = .ok (.getfield 333, 3) := dk_180 1 77 (dk_at dksX1_account_7 5 rfl rfl)
theorem dX1_account_223 : decode cX1_account 223 = .ok (.invokevirtual 31, 3) := dk_182 0 31 (dk_at dksX1_account_7 8 rfl rfl)
theorem dX1_account_226 : decode cX1_account 226 = .ok (.ireturn, 1) := dk_172 (dk_at dksX1_account_7 11 rfl rfl)
theorem dX1_account_227 : decode cX1_account 227 = .ok (.aload_n 0, 1) := dk_42 (dk_at dksX1_account_7 12 rfl rfl)
theorem dX1_account_228 : decode cX1_account 228 = .ok (.getfield 66, 3) := dk_180 0 66 (dk_at dksX1_account_7 13 rfl rfl)
theorem dX1_account_231 : decode cX1_account 231 = .ok (.invokevirtual 336, 3) := dk_182 1 80 (dk_at dksX1_account_7 16 rfl rfl)
theorem dX1_account_234 : decode cX1_account 234 = .ok (.ireturn, 1) := dk_172 (dk_at dksX1_account_7 19 rfl rfl)
theorem dX1_account_235 : decode cX1_account 235 = .ok (.aload_n 0, 1) := dk_42 (dk_at dksX1_account_7 20 rfl rfl)
theorem dX1_account_236 : decode cX1_account 236 = .ok (.getfield 66, 3) := dk_180 0 66 (dk_at dksX1_account_7 21 rfl rfl)
theorem dX1_account_239 : decode cX1_account 239 = .ok (.getfield 339, 3) := dk_180 1 83 (dk_at dksX1_account_8 0 rfl rfl)
theorem dX1_account_242 : decode cX1_account 242 = .ok (.invokevirtual 31, 3) := dk_182 0 31 (dk_at dksX1_account_8 3 rfl rfl)
theorem dX1_account_245 : decode cX1_account 245 = .ok (.ireturn, 1) := dk_172 (dk_at dksX1_account_8 6 rfl rfl)
theorem dX1_account_246 : decode cX1_account 246 = .ok (.aload_n 0, 1) := dk_42 (dk_at dksX1_account_8 7 rfl rfl)
theorem dX1_account_247 : decode cX1_account 247 = .ok (.getfield 66, 3) := dk_180 0 66 (dk_at dksX1_account_8 8 rfl rfl)
theorem dX1_account_250 : decode cX1_account 250 = .ok (.getfield 342, 3) := dk_180 1 86 (dk_at dksX1_account_8 11 rfl rfl)
theorem dX1_account_253 : decode cX1_account 253 = .ok (.ireturn, 1) := dk_172 (dk_at dksX1_account_8 14 rfl rfl)
theorem dX1_account_254 : decode cX1_account 254 = .ok (.aload_n 0, 1) := dk_42 (dk_at dksX1_account_8 15 rfl rfl)
theorem dX1_account_255 : decode cX1_account 255 = .ok (.getfield 66, 3) := dk_180 0 66 (dk_at dksX1_account_8 16 rfl rfl)
theorem dX1_account_258 : decode cX1_account 258 = .ok (.getfield 345, 3) := dk_180 1 89 (dk_at dksX1_account_8 19 rfl rfl)
theorem dX1_account_261 : decode cX1_account 261 = .ok (.ireturn, 1) := dk_172 (dk_at dksX1_account_8 22 rfl rfl)
theorem dX1_account_262 : decode cX1_account 262 = .ok (.aload_n 0, 1) := dk_42 (dk_at dksX1_account_8 23 rfl rfl)
theorem dX1_account_263 : decode cX1_account 263 = .ok (.getfield 80, 3) := dk_180 0 80 (dk_at dksX1_account_9 0 rfl rfl)
theorem dX1_account_266 : decode cX1_account 266 = .ok (.invokevirtual 348, 3) := dk_182 1 92 (dk_at dksX1_account_9 3 rfl rfl)
theorem dX1_account_269 : decode cX1_account 269 = .ok (.ireturn, 1) := dk_172 (dk_at dksX1_account_9 6 rfl rfl)
theorem dX1_account_270 : decode cX1_account 270 = .ok (.aload_n 0, 1) := dk_42 (dk_at dksX1_account_9 7 rfl rfl)
theorem dX1_account_271 : decode cX1_account 271 = .ok (.getfield 73, 3) := dk_180 0 73 (dk_at dksX1_account_9 8 rfl rfl)
theorem dX1_account_274 : decode cX1_account 274 = .ok (.invokevirtual 94, 3) := dk_182 0 94 (dk_at dksX1_account_9 11 rfl rfl)
theorem dX1_account_277 : decode cX1_account 277 = .ok (.ireturn, 1) := dk_172 (dk_at dksX1_account_9 14 rfl rfl)
theorem dX1_account_278 : decode cX1_account 278 = .ok (.new 1, 3) := dk_187 0 1 (dk_at dksX1_account_9 15 rfl rfl)
theorem dX1_account_281 : decode cX1_account 281 = .ok (.dup, 1) := dk_89 (dk_at dksX1_account_9 18 rfl rfl)
theorem dX1_account_282 : decode cX1_account 282 = .ok (.invokespecial 3, 3) := dk_183 0 3 (dk_at dksX1_account_9 19 rfl rfl)
theorem dX1_account_285 : decode cX1_account 285 = .ok (.athrow, 1) := dk_191 (dk_at dksX1_account_9 22 rfl rfl)
abbrev cX1_lambda_account_14 : ByteArray := prog_1_method_54_code
def yX1_lambda_account_14 : MethodName := ⟨RX1, "lambda$account$14", "(LWillowPrinters$Lot;)Z"⟩
theorem dX1_lambda_account_14_0 : decode cX1_lambda_account_14 0 = .ok (.iconst 1, 1) := by decide +kernel
theorem dX1_lambda_account_14_1 : decode cX1_lambda_account_14 1 = .ok (.ireturn, 1) := by decide +kernel
abbrev cX1_lambda_account_15 : ByteArray := prog_1_method_53_code
def yX1_lambda_account_15 : MethodName := ⟨RX1, "lambda$account$15", "(LWillowPrinters$Lot;)Z"⟩
def dkwX1_lambda_account_15_0 : List UInt8 := [42, 180, 0, 186, 193, 1, 155, 172]
abbrev dktX1_lambda_account_15_0 : List UInt8 := dkwX1_lambda_account_15_0 ++ []
theorem dksX1_lambda_account_15_0 : cX1_lambda_account_15.data.toList.drop 0 = dktX1_lambda_account_15_0 := by decide +kernel
theorem dX1_lambda_account_15_0 : decode cX1_lambda_account_15 0 = .ok (.aload_n 0, 1) := dk_42 (dk_at dksX1_lambda_account_15_0 0 rfl rfl)
theorem dX1_lambda_account_15_1 : decode cX1_lambda_account_15 1 = .ok (.getfield 186, 3) := dk_180 0 186 (dk_at dksX1_lambda_account_15_0 1 rfl rfl)
theorem dX1_lambda_account_15_4 : decode cX1_lambda_account_15 4 = .ok (.instanceof 411, 3) := dk_193 1 155 (dk_at dksX1_lambda_account_15_0 4 rfl rfl)
theorem dX1_lambda_account_15_7 : decode cX1_lambda_account_15 7 = .ok (.ireturn, 1) := dk_172 (dk_at dksX1_lambda_account_15_0 7 rfl rfl)
abbrev cX1_count : ByteArray := prog_1_method_9_code
def yX1_count : MethodName := ⟨RX1, "count", "(Ljava/util/ArrayList;LWillowPrinters$Test;)I"⟩
def dkwX1_count_0 : List UInt8 := [42, 43, 186, 0, 53, 0, 0, 184, 0, 56, 172]
abbrev dktX1_count_0 : List UInt8 := dkwX1_count_0 ++ []
theorem dksX1_count_0 : cX1_count.data.toList.drop 0 = dktX1_count_0 := by decide +kernel
theorem dX1_count_0 : decode cX1_count 0 = .ok (.aload_n 0, 1) := dk_42 (dk_at dksX1_count_0 0 rfl rfl)
theorem dX1_count_1 : decode cX1_count 1 = .ok (.aload_n 1, 1) := dk_43 (dk_at dksX1_count_0 1 rfl rfl)
theorem dX1_count_2 : decode cX1_count 2 = .ok (.invokedynamic 53, 5) := by decide +kernel
theorem dX1_count_7 : decode cX1_count 7 = .ok (.invokestatic 56, 3) := dk_184 0 56 (dk_at dksX1_count_0 7 rfl rfl)
theorem dX1_count_10 : decode cX1_count 10 = .ok (.ireturn, 1) := dk_172 (dk_at dksX1_count_0 10 rfl rfl)
abbrev cX1_lambda_count_0 : ByteArray := prog_1_method_68_code
def yX1_lambda_count_0 : MethodName := ⟨RX1, "lambda$count$0", "(Ljava/lang/Object;)I"⟩
theorem dX1_lambda_count_0_0 : decode cX1_lambda_count_0 0 = .ok (.iconst 1, 1) := by decide +kernel
theorem dX1_lambda_count_0_1 : decode cX1_lambda_count_0 1 = .ok (.ireturn, 1) := by decide +kernel
abbrev cX1_meanWell : ByteArray := prog_1_method_41_code
def yX1_meanWell : MethodName := ⟨RX1, "meanWell", "()D"⟩
def dkwX1_meanWell_2 : List UInt8 := [28, 135, 111, 175]
abbrev dktX1_meanWell_2 : List UInt8 := dkwX1_meanWell_2 ++ []
def dkwX1_meanWell_1 : List UInt8 := [167, 0, 4, 3, 184, 1, 98, 42, 180, 0, 66, 180, 1, 51, 43, 186, 1, 101, 0, 0, 184, 0, 56, 135]
abbrev dktX1_meanWell_1 : List UInt8 := dkwX1_meanWell_1 ++ dktX1_meanWell_2
def dkwX1_meanWell_0 : List UInt8 := [186, 1, 93, 0, 0, 76, 42, 180, 0, 66, 180, 1, 51, 43, 184, 1, 94, 61, 28, 158, 0, 7, 4]
abbrev dktX1_meanWell_0 : List UInt8 := dkwX1_meanWell_0 ++ dktX1_meanWell_1
theorem dksX1_meanWell_0 : cX1_meanWell.data.toList.drop 0 = dktX1_meanWell_0 := by decide +kernel
theorem dksX1_meanWell_1 : cX1_meanWell.data.toList.drop 23 = dktX1_meanWell_1 := dk_seg dksX1_meanWell_0 23 rfl rfl
theorem dksX1_meanWell_2 : cX1_meanWell.data.toList.drop 47 = dktX1_meanWell_2 := dk_seg dksX1_meanWell_1 24 rfl rfl
theorem dX1_meanWell_0 : decode cX1_meanWell 0 = .ok (.invokedynamic 349, 5) := by decide +kernel
theorem dX1_meanWell_5 : decode cX1_meanWell 5 = .ok (.astore_n 1, 1) := dk_76 (dk_at dksX1_meanWell_0 5 rfl rfl)
theorem dX1_meanWell_6 : decode cX1_meanWell 6 = .ok (.aload_n 0, 1) := dk_42 (dk_at dksX1_meanWell_0 6 rfl rfl)
theorem dX1_meanWell_7 : decode cX1_meanWell 7 = .ok (.getfield 66, 3) := dk_180 0 66 (dk_at dksX1_meanWell_0 7 rfl rfl)
theorem dX1_meanWell_10 : decode cX1_meanWell 10 = .ok (.getfield 307, 3) := dk_180 1 51 (dk_at dksX1_meanWell_0 10 rfl rfl)
theorem dX1_meanWell_13 : decode cX1_meanWell 13 = .ok (.aload_n 1, 1) := dk_43 (dk_at dksX1_meanWell_0 13 rfl rfl)
theorem dX1_meanWell_14 : decode cX1_meanWell 14 = .ok (.invokestatic 350, 3) := dk_184 1 94 (dk_at dksX1_meanWell_0 14 rfl rfl)
theorem dX1_meanWell_17 : decode cX1_meanWell 17 = .ok (.istore_n 2, 1) := dk_61 (dk_at dksX1_meanWell_0 17 rfl rfl)
theorem dX1_meanWell_18 : decode cX1_meanWell 18 = .ok (.iload_n 2, 1) := dk_28 (dk_at dksX1_meanWell_0 18 rfl rfl)
theorem dX1_meanWell_19 : decode cX1_meanWell 19 = .ok (.ifCond .le 7, 3) := dk_158 0 7 (dk_at dksX1_meanWell_0 19 rfl rfl)
theorem dX1_meanWell_22 : decode cX1_meanWell 22 = .ok (.iconst 1, 1) := dk_4 (dk_at dksX1_meanWell_0 22 rfl rfl)
theorem dX1_meanWell_23 : decode cX1_meanWell 23 = .ok (.goto 4, 3) := dk_167 0 4 (dk_at dksX1_meanWell_1 0 rfl rfl)
theorem dX1_meanWell_26 : decode cX1_meanWell 26 = .ok (.iconst 0, 1) := dk_3 (dk_at dksX1_meanWell_1 3 rfl rfl)
theorem dX1_meanWell_27 : decode cX1_meanWell 27 = .ok (.invokestatic 354, 3) := dk_184 1 98 (dk_at dksX1_meanWell_1 4 rfl rfl)
theorem dX1_meanWell_30 : decode cX1_meanWell 30 = .ok (.aload_n 0, 1) := dk_42 (dk_at dksX1_meanWell_1 7 rfl rfl)
theorem dX1_meanWell_31 : decode cX1_meanWell 31 = .ok (.getfield 66, 3) := dk_180 0 66 (dk_at dksX1_meanWell_1 8 rfl rfl)
theorem dX1_meanWell_34 : decode cX1_meanWell 34 = .ok (.getfield 307, 3) := dk_180 1 51 (dk_at dksX1_meanWell_1 11 rfl rfl)
theorem dX1_meanWell_37 : decode cX1_meanWell 37 = .ok (.aload_n 1, 1) := dk_43 (dk_at dksX1_meanWell_1 14 rfl rfl)
theorem dX1_meanWell_38 : decode cX1_meanWell 38 = .ok (.invokedynamic 357, 5) := by decide +kernel
theorem dX1_meanWell_43 : decode cX1_meanWell 43 = .ok (.invokestatic 56, 3) := dk_184 0 56 (dk_at dksX1_meanWell_1 20 rfl rfl)
theorem dX1_meanWell_46 : decode cX1_meanWell 46 = .ok (.i2d, 1) := dk_135 (dk_at dksX1_meanWell_1 23 rfl rfl)
theorem dX1_meanWell_47 : decode cX1_meanWell 47 = .ok (.iload_n 2, 1) := dk_28 (dk_at dksX1_meanWell_2 0 rfl rfl)
theorem dX1_meanWell_48 : decode cX1_meanWell 48 = .ok (.i2d, 1) := dk_135 (dk_at dksX1_meanWell_2 1 rfl rfl)
theorem dX1_meanWell_49 : decode cX1_meanWell 49 = .ok (.ddiv, 1) := dk_111 (dk_at dksX1_meanWell_2 2 rfl rfl)
theorem dX1_meanWell_50 : decode cX1_meanWell 50 = .ok (.dreturn, 1) := dk_175 (dk_at dksX1_meanWell_2 3 rfl rfl)
abbrev cX1_lambda_meanWell_16 : ByteArray := prog_1_method_52_code
def yX1_lambda_meanWell_16 : MethodName := ⟨RX1, "lambda$meanWell$16", "(LWillowPrinters$Lot;)Z"⟩
def dkwX1_lambda_meanWell_16_0 : List UInt8 := [42, 180, 0, 186, 193, 1, 153, 154, 0, 7, 4, 167, 0, 4, 3, 172]
abbrev dktX1_lambda_meanWell_16_0 : List UInt8 := dkwX1_lambda_meanWell_16_0 ++ []
theorem dksX1_lambda_meanWell_16_0 : cX1_lambda_meanWell_16.data.toList.drop 0 = dktX1_lambda_meanWell_16_0 := by decide +kernel
theorem dX1_lambda_meanWell_16_0 : decode cX1_lambda_meanWell_16 0 = .ok (.aload_n 0, 1) := dk_42 (dk_at dksX1_lambda_meanWell_16_0 0 rfl rfl)
theorem dX1_lambda_meanWell_16_1 : decode cX1_lambda_meanWell_16 1 = .ok (.getfield 186, 3) := dk_180 0 186 (dk_at dksX1_lambda_meanWell_16_0 1 rfl rfl)
theorem dX1_lambda_meanWell_16_4 : decode cX1_lambda_meanWell_16 4 = .ok (.instanceof 409, 3) := dk_193 1 153 (dk_at dksX1_lambda_meanWell_16_0 4 rfl rfl)
theorem dX1_lambda_meanWell_16_7 : decode cX1_lambda_meanWell_16 7 = .ok (.ifCond .ne 7, 3) := dk_154 0 7 (dk_at dksX1_lambda_meanWell_16_0 7 rfl rfl)
theorem dX1_lambda_meanWell_16_10 : decode cX1_lambda_meanWell_16 10 = .ok (.iconst 1, 1) := dk_4 (dk_at dksX1_lambda_meanWell_16_0 10 rfl rfl)
theorem dX1_lambda_meanWell_16_11 : decode cX1_lambda_meanWell_16 11 = .ok (.goto 4, 3) := dk_167 0 4 (dk_at dksX1_lambda_meanWell_16_0 11 rfl rfl)
theorem dX1_lambda_meanWell_16_14 : decode cX1_lambda_meanWell_16 14 = .ok (.iconst 0, 1) := dk_3 (dk_at dksX1_lambda_meanWell_16_0 14 rfl rfl)
theorem dX1_lambda_meanWell_16_15 : decode cX1_lambda_meanWell_16 15 = .ok (.ireturn, 1) := dk_172 (dk_at dksX1_lambda_meanWell_16_0 15 rfl rfl)
abbrev cX1_checkNumbers : ByteArray := prog_1_method_6_code
def yX1_checkNumbers : MethodName := ⟨RX1, "checkNumbers", "(Z)V"⟩
def dkwX1_checkNumbers_0 : List UInt8 := [26, 154, 0, 11, 187, 0, 16, 89, 183, 0, 18, 191, 177]
abbrev dktX1_checkNumbers_0 : List UInt8 := dkwX1_checkNumbers_0 ++ []
theorem dksX1_checkNumbers_0 : cX1_checkNumbers.data.toList.drop 0 = dktX1_checkNumbers_0 := by decide +kernel
theorem dX1_checkNumbers_0 : decode cX1_checkNumbers 0 = .ok (.iload_n 0, 1) := dk_26 (dk_at dksX1_checkNumbers_0 0 rfl rfl)
theorem dX1_checkNumbers_1 : decode cX1_checkNumbers 1 = .ok (.ifCond .ne 11, 3) := dk_154 0 11 (dk_at dksX1_checkNumbers_0 1 rfl rfl)
theorem dX1_checkNumbers_4 : decode cX1_checkNumbers 4 = .ok (.new 16, 3) := dk_187 0 16 (dk_at dksX1_checkNumbers_0 4 rfl rfl)
theorem dX1_checkNumbers_7 : decode cX1_checkNumbers 7 = .ok (.dup, 1) := dk_89 (dk_at dksX1_checkNumbers_0 7 rfl rfl)
theorem dX1_checkNumbers_8 : decode cX1_checkNumbers 8 = .ok (.invokespecial 18, 3) := dk_183 0 18 (dk_at dksX1_checkNumbers_0 8 rfl rfl)
theorem dX1_checkNumbers_11 : decode cX1_checkNumbers 11 = .ok (.athrow, 1) := dk_191 (dk_at dksX1_checkNumbers_0 11 rfl rfl)
theorem dX1_checkNumbers_12 : decode cX1_checkNumbers 12 = .ok (.return_, 1) := dk_177 (dk_at dksX1_checkNumbers_0 12 rfl rfl)
abbrev cX1_lambda_meanWell_17 : ByteArray := prog_1_method_51_code
def yX1_lambda_meanWell_17 : MethodName := ⟨RX1, "lambda$meanWell$17", "(LWillowPrinters$Lot;)I"⟩
def dkwX1_lambda_meanWell_17_0 : List UInt8 := [42, 180, 0, 186, 185, 0, 201, 1, 0, 172]
abbrev dktX1_lambda_meanWell_17_0 : List UInt8 := dkwX1_lambda_meanWell_17_0 ++ []
theorem dksX1_lambda_meanWell_17_0 : cX1_lambda_meanWell_17.data.toList.drop 0 = dktX1_lambda_meanWell_17_0 := by decide +kernel
theorem dX1_lambda_meanWell_17_0 : decode cX1_lambda_meanWell_17 0 = .ok (.aload_n 0, 1) := dk_42 (dk_at dksX1_lambda_meanWell_17_0 0 rfl rfl)
theorem dX1_lambda_meanWell_17_1 : decode cX1_lambda_meanWell_17 1 = .ok (.getfield 186, 3) := dk_180 0 186 (dk_at dksX1_lambda_meanWell_17_0 1 rfl rfl)
theorem dX1_lambda_meanWell_17_4 : decode cX1_lambda_meanWell_17 4 = .ok (.invokeinterface 201 1, 5) := by decide +kernel
theorem dX1_lambda_meanWell_17_9 : decode cX1_lambda_meanWell_17 9 = .ok (.ireturn, 1) := dk_172 (dk_at dksX1_lambda_meanWell_17_0 9 rfl rfl)
abbrev cX1_secondShare : ByteArray := prog_1_method_42_code
def yX1_secondShare : MethodName := ⟨RX1, "secondShare", "()F"⟩
def dkwX1_secondShare_1 : List UInt8 := [180, 1, 71, 42, 180, 0, 66, 180, 1, 74, 96, 134, 42, 180, 0, 66, 180, 1, 54, 134, 110, 174]
abbrev dktX1_secondShare_1 : List UInt8 := dkwX1_secondShare_1 ++ []
def dkwX1_secondShare_0 : List UInt8 := [42, 180, 0, 66, 180, 1, 54, 158, 0, 7, 4, 167, 0, 4, 3, 184, 1, 98, 42, 180, 0, 66]
abbrev dktX1_secondShare_0 : List UInt8 := dkwX1_secondShare_0 ++ dktX1_secondShare_1
theorem dksX1_secondShare_0 : cX1_secondShare.data.toList.drop 0 = dktX1_secondShare_0 := by decide +kernel
theorem dksX1_secondShare_1 : cX1_secondShare.data.toList.drop 22 = dktX1_secondShare_1 := dk_seg dksX1_secondShare_0 22 rfl rfl
theorem dX1_secondShare_0 : decode cX1_secondShare 0 = .ok (.aload_n 0, 1) := dk_42 (dk_at dksX1_secondShare_0 0 rfl rfl)
theorem dX1_secondShare_1 : decode cX1_secondShare 1 = .ok (.getfield 66, 3) := dk_180 0 66 (dk_at dksX1_secondShare_0 1 rfl rfl)
theorem dX1_secondShare_4 : decode cX1_secondShare 4 = .ok (.getfield 310, 3) := dk_180 1 54 (dk_at dksX1_secondShare_0 4 rfl rfl)
theorem dX1_secondShare_7 : decode cX1_secondShare 7 = .ok (.ifCond .le 7, 3) := dk_158 0 7 (dk_at dksX1_secondShare_0 7 rfl rfl)
theorem dX1_secondShare_10 : decode cX1_secondShare 10 = .ok (.iconst 1, 1) := dk_4 (dk_at dksX1_secondShare_0 10 rfl rfl)
theorem dX1_secondShare_11 : decode cX1_secondShare 11 = .ok (.goto 4, 3) := dk_167 0 4 (dk_at dksX1_secondShare_0 11 rfl rfl)
theorem dX1_secondShare_14 : decode cX1_secondShare 14 = .ok (.iconst 0, 1) := dk_3 (dk_at dksX1_secondShare_0 14 rfl rfl)
theorem dX1_secondShare_15 : decode cX1_secondShare 15 = .ok (.invokestatic 354, 3) := dk_184 1 98 (dk_at dksX1_secondShare_0 15 rfl rfl)
theorem dX1_secondShare_18 : decode cX1_secondShare 18 = .ok (.aload_n 0, 1) := dk_42 (dk_at dksX1_secondShare_0 18 rfl rfl)
theorem dX1_secondShare_19 : decode cX1_secondShare 19 = .ok (.getfield 66, 3) := dk_180 0 66 (dk_at dksX1_secondShare_0 19 rfl rfl)
theorem dX1_secondShare_22 : decode cX1_secondShare 22 = .ok (.getfield 327, 3) := dk_180 1 71 (dk_at dksX1_secondShare_1 0 rfl rfl)
theorem dX1_secondShare_25 : decode cX1_secondShare 25 = .ok (.aload_n 0, 1) := dk_42 (dk_at dksX1_secondShare_1 3 rfl rfl)
theorem dX1_secondShare_26 : decode cX1_secondShare 26 = .ok (.getfield 66, 3) := dk_180 0 66 (dk_at dksX1_secondShare_1 4 rfl rfl)
theorem dX1_secondShare_29 : decode cX1_secondShare 29 = .ok (.getfield 330, 3) := dk_180 1 74 (dk_at dksX1_secondShare_1 7 rfl rfl)
theorem dX1_secondShare_32 : decode cX1_secondShare 32 = .ok (.iadd, 1) := dk_96 (dk_at dksX1_secondShare_1 10 rfl rfl)
theorem dX1_secondShare_33 : decode cX1_secondShare 33 = .ok (.i2f, 1) := dk_134 (dk_at dksX1_secondShare_1 11 rfl rfl)
theorem dX1_secondShare_34 : decode cX1_secondShare 34 = .ok (.aload_n 0, 1) := dk_42 (dk_at dksX1_secondShare_1 12 rfl rfl)
theorem dX1_secondShare_35 : decode cX1_secondShare 35 = .ok (.getfield 66, 3) := dk_180 0 66 (dk_at dksX1_secondShare_1 13 rfl rfl)
theorem dX1_secondShare_38 : decode cX1_secondShare 38 = .ok (.getfield 310, 3) := dk_180 1 54 (dk_at dksX1_secondShare_1 16 rfl rfl)
theorem dX1_secondShare_41 : decode cX1_secondShare 41 = .ok (.i2f, 1) := dk_134 (dk_at dksX1_secondShare_1 19 rfl rfl)
theorem dX1_secondShare_42 : decode cX1_secondShare 42 = .ok (.fdiv, 1) := dk_110 (dk_at dksX1_secondShare_1 20 rfl rfl)
theorem dX1_secondShare_43 : decode cX1_secondShare 43 = .ok (.freturn, 1) := dk_174 (dk_at dksX1_secondShare_1 21 rfl rfl)
abbrev cX1_append : ByteArray := prog_1_method_43_code
def yX1_append : MethodName := ⟨RX1, "append", "(I)I"⟩
def dkwX1_append_5 : List UInt8 := [182, 1, 106, 87, 132, 3, 248, 167, 255, 224, 42, 180, 0, 80, 182, 1, 92, 172]
abbrev dktX1_append_5 : List UInt8 := dkwX1_append_5 ++ []
def dkwX1_append_4 : List UInt8 := [155, 0, 34, 27, 29, 124, 17, 0, 255, 126, 54, 4, 21, 4, 153, 0, 14, 42, 180, 0, 80, 21, 4, 146]
abbrev dktX1_append_4 : List UInt8 := dkwX1_append_4 ++ dktX1_append_5
def dkwX1_append_3 : List UInt8 := [182, 1, 92, 28, 96, 16, 60, 163, 0, 7, 4, 167, 0, 4, 3, 184, 1, 33, 16, 24, 62, 29]
abbrev dktX1_append_3 : List UInt8 := dkwX1_append_3 ++ dktX1_append_4
def dkwX1_append_2 : List UInt8 := [21, 4, 154, 0, 7, 3, 167, 0, 4, 4, 96, 61, 132, 3, 248, 167, 255, 199, 42, 180, 0, 80]
abbrev dktX1_append_2 : List UInt8 := dkwX1_append_2 ++ dktX1_append_3
def dkwX1_append_1 : List UInt8 := [21, 4, 133, 20, 1, 102, 20, 1, 104, 184, 0, 23, 153, 0, 7, 4, 167, 0, 4, 3, 184, 0, 27, 28]
abbrev dktX1_append_1 : List UInt8 := dkwX1_append_1 ++ dktX1_append_2
def dkwX1_append_0 : List UInt8 := [3, 61, 16, 24, 62, 29, 155, 0, 59, 27, 29, 124, 17, 0, 255, 126, 54, 4, 21, 4, 153, 0, 18]
abbrev dktX1_append_0 : List UInt8 := dkwX1_append_0 ++ dktX1_append_1
theorem dksX1_append_0 : cX1_append.data.toList.drop 0 = dktX1_append_0 := by decide +kernel
theorem dksX1_append_1 : cX1_append.data.toList.drop 23 = dktX1_append_1 := dk_seg dksX1_append_0 23 rfl rfl
theorem dksX1_append_2 : cX1_append.data.toList.drop 47 = dktX1_append_2 := dk_seg dksX1_append_1 24 rfl rfl
theorem dksX1_append_3 : cX1_append.data.toList.drop 69 = dktX1_append_3 := dk_seg dksX1_append_2 22 rfl rfl
theorem dksX1_append_4 : cX1_append.data.toList.drop 91 = dktX1_append_4 := dk_seg dksX1_append_3 22 rfl rfl
theorem dksX1_append_5 : cX1_append.data.toList.drop 115 = dktX1_append_5 := dk_seg dksX1_append_4 24 rfl rfl
theorem dX1_append_0 : decode cX1_append 0 = .ok (.iconst 0, 1) := dk_3 (dk_at dksX1_append_0 0 rfl rfl)
theorem dX1_append_1 : decode cX1_append 1 = .ok (.istore_n 2, 1) := dk_61 (dk_at dksX1_append_0 1 rfl rfl)
theorem dX1_append_2 : decode cX1_append 2 = .ok (.bipush 24, 2) := dk_16 24 (dk_at dksX1_append_0 2 rfl rfl)
theorem dX1_append_4 : decode cX1_append 4 = .ok (.istore_n 3, 1) := dk_62 (dk_at dksX1_append_0 4 rfl rfl)
theorem dX1_append_5 : decode cX1_append 5 = .ok (.iload_n 3, 1) := dk_29 (dk_at dksX1_append_0 5 rfl rfl)
theorem dX1_append_6 : decode cX1_append 6 = .ok (.ifCond .lt 59, 3) := dk_155 0 59 (dk_at dksX1_append_0 6 rfl rfl)
theorem dX1_append_9 : decode cX1_append 9 = .ok (.iload_n 1, 1) := dk_27 (dk_at dksX1_append_0 9 rfl rfl)
theorem dX1_append_10 : decode cX1_append 10 = .ok (.iload_n 3, 1) := dk_29 (dk_at dksX1_append_0 10 rfl rfl)
theorem dX1_append_11 : decode cX1_append 11 = .ok (.iushr, 1) := dk_124 (dk_at dksX1_append_0 11 rfl rfl)
theorem dX1_append_12 : decode cX1_append 12 = .ok (.sipush 255, 3) := dk_17 0 255 (dk_at dksX1_append_0 12 rfl rfl)
theorem dX1_append_15 : decode cX1_append 15 = .ok (.iand, 1) := dk_126 (dk_at dksX1_append_0 15 rfl rfl)
theorem dX1_append_16 : decode cX1_append 16 = .ok (.istore 4, 2) := dk_54 4 (dk_at dksX1_append_0 16 rfl rfl)
theorem dX1_append_18 : decode cX1_append 18 = .ok (.iload 4, 2) := dk_21 4 (dk_at dksX1_append_0 18 rfl rfl)
theorem dX1_append_20 : decode cX1_append 20 = .ok (.ifCond .eq 18, 3) := dk_153 0 18 (dk_at dksX1_append_0 20 rfl rfl)
theorem dX1_append_23 : decode cX1_append 23 = .ok (.iload 4, 2) := dk_21 4 (dk_at dksX1_append_1 0 rfl rfl)
theorem dX1_append_25 : decode cX1_append 25 = .ok (.i2l, 1) := dk_133 (dk_at dksX1_append_1 2 rfl rfl)
theorem dX1_append_26 : decode cX1_append 26 = .ok (.ldc2_w 358, 3) := dk_20 1 102 (dk_at dksX1_append_1 3 rfl rfl)
theorem dX1_append_29 : decode cX1_append 29 = .ok (.ldc2_w 360, 3) := dk_20 1 104 (dk_at dksX1_append_1 6 rfl rfl)
theorem dX1_append_32 : decode cX1_append 32 = .ok (.invokestatic 23, 3) := dk_184 0 23 (dk_at dksX1_append_1 9 rfl rfl)
theorem dX1_append_35 : decode cX1_append 35 = .ok (.ifCond .eq 7, 3) := dk_153 0 7 (dk_at dksX1_append_1 12 rfl rfl)
theorem dX1_append_38 : decode cX1_append 38 = .ok (.iconst 1, 1) := dk_4 (dk_at dksX1_append_1 15 rfl rfl)
theorem dX1_append_39 : decode cX1_append 39 = .ok (.goto 4, 3) := dk_167 0 4 (dk_at dksX1_append_1 16 rfl rfl)
theorem dX1_append_42 : decode cX1_append 42 = .ok (.iconst 0, 1) := dk_3 (dk_at dksX1_append_1 19 rfl rfl)
theorem dX1_append_43 : decode cX1_append 43 = .ok (.invokestatic 27, 3) := dk_184 0 27 (dk_at dksX1_append_1 20 rfl rfl)
theorem dX1_append_46 : decode cX1_append 46 = .ok (.iload_n 2, 1) := dk_28 (dk_at dksX1_append_1 23 rfl rfl)
theorem dX1_append_47 : decode cX1_append 47 = .ok (.iload 4, 2) := dk_21 4 (dk_at dksX1_append_2 0 rfl rfl)
theorem dX1_append_49 : decode cX1_append 49 = .ok (.ifCond .ne 7, 3) := dk_154 0 7 (dk_at dksX1_append_2 2 rfl rfl)
theorem dX1_append_52 : decode cX1_append 52 = .ok (.iconst 0, 1) := dk_3 (dk_at dksX1_append_2 5 rfl rfl)
theorem dX1_append_53 : decode cX1_append 53 = .ok (.goto 4, 3) := dk_167 0 4 (dk_at dksX1_append_2 6 rfl rfl)
theorem dX1_append_56 : decode cX1_append 56 = .ok (.iconst 1, 1) := dk_4 (dk_at dksX1_append_2 9 rfl rfl)
theorem dX1_append_57 : decode cX1_append 57 = .ok (.iadd, 1) := dk_96 (dk_at dksX1_append_2 10 rfl rfl)
theorem dX1_append_58 : decode cX1_append 58 = .ok (.istore_n 2, 1) := dk_61 (dk_at dksX1_append_2 11 rfl rfl)
theorem dX1_append_59 : decode cX1_append 59 = .ok (.iinc 3 (-8), 3) := dk_132 3 248 (dk_at dksX1_append_2 12 rfl rfl)
theorem dX1_append_62 : decode cX1_append 62 = .ok (.goto (-57), 3) := dk_167 255 199 (dk_at dksX1_append_2 15 rfl rfl)
theorem dX1_append_65 : decode cX1_append 65 = .ok (.aload_n 0, 1) := dk_42 (dk_at dksX1_append_2 18 rfl rfl)
theorem dX1_append_66 : decode cX1_append 66 = .ok (.getfield 80, 3) := dk_180 0 80 (dk_at dksX1_append_2 19 rfl rfl)
theorem dX1_append_69 : decode cX1_append 69 = .ok (.invokevirtual 348, 3) := dk_182 1 92 (dk_at dksX1_append_3 0 rfl rfl)
theorem dX1_append_72 : decode cX1_append 72 = .ok (.iload_n 2, 1) := dk_28 (dk_at dksX1_append_3 3 rfl rfl)
theorem dX1_append_73 : decode cX1_append 73 = .ok (.iadd, 1) := dk_96 (dk_at dksX1_append_3 4 rfl rfl)
theorem dX1_append_74 : decode cX1_append 74 = .ok (.bipush 60, 2) := dk_16 60 (dk_at dksX1_append_3 5 rfl rfl)
theorem dX1_append_76 : decode cX1_append 76 = .ok (.if_icmp .gt 7, 3) := dk_163 0 7 (dk_at dksX1_append_3 7 rfl rfl)
theorem dX1_append_79 : decode cX1_append 79 = .ok (.iconst 1, 1) := dk_4 (dk_at dksX1_append_3 10 rfl rfl)
theorem dX1_append_80 : decode cX1_append 80 = .ok (.goto 4, 3) := dk_167 0 4 (dk_at dksX1_append_3 11 rfl rfl)
theorem dX1_append_83 : decode cX1_append 83 = .ok (.iconst 0, 1) := dk_3 (dk_at dksX1_append_3 14 rfl rfl)
theorem dX1_append_84 : decode cX1_append 84 = .ok (.invokestatic 289, 3) := dk_184 1 33 (dk_at dksX1_append_3 15 rfl rfl)
theorem dX1_append_87 : decode cX1_append 87 = .ok (.bipush 24, 2) := dk_16 24 (dk_at dksX1_append_3 18 rfl rfl)
theorem dX1_append_89 : decode cX1_append 89 = .ok (.istore_n 3, 1) := dk_62 (dk_at dksX1_append_3 20 rfl rfl)
theorem dX1_append_90 : decode cX1_append 90 = .ok (.iload_n 3, 1) := dk_29 (dk_at dksX1_append_3 21 rfl rfl)
theorem dX1_append_91 : decode cX1_append 91 = .ok (.ifCond .lt 34, 3) := dk_155 0 34 (dk_at dksX1_append_4 0 rfl rfl)
theorem dX1_append_94 : decode cX1_append 94 = .ok (.iload_n 1, 1) := dk_27 (dk_at dksX1_append_4 3 rfl rfl)
theorem dX1_append_95 : decode cX1_append 95 = .ok (.iload_n 3, 1) := dk_29 (dk_at dksX1_append_4 4 rfl rfl)
theorem dX1_append_96 : decode cX1_append 96 = .ok (.iushr, 1) := dk_124 (dk_at dksX1_append_4 5 rfl rfl)
theorem dX1_append_97 : decode cX1_append 97 = .ok (.sipush 255, 3) := dk_17 0 255 (dk_at dksX1_append_4 6 rfl rfl)
theorem dX1_append_100 : decode cX1_append 100 = .ok (.iand, 1) := dk_126 (dk_at dksX1_append_4 9 rfl rfl)
theorem dX1_append_101 : decode cX1_append 101 = .ok (.istore 4, 2) := dk_54 4 (dk_at dksX1_append_4 10 rfl rfl)
theorem dX1_append_103 : decode cX1_append 103 = .ok (.iload 4, 2) := dk_21 4 (dk_at dksX1_append_4 12 rfl rfl)
theorem dX1_append_105 : decode cX1_append 105 = .ok (.ifCond .eq 14, 3) := dk_153 0 14 (dk_at dksX1_append_4 14 rfl rfl)
theorem dX1_append_108 : decode cX1_append 108 = .ok (.aload_n 0, 1) := dk_42 (dk_at dksX1_append_4 17 rfl rfl)
theorem dX1_append_109 : decode cX1_append 109 = .ok (.getfield 80, 3) := dk_180 0 80 (dk_at dksX1_append_4 18 rfl rfl)
theorem dX1_append_112 : decode cX1_append 112 = .ok (.iload 4, 2) := dk_21 4 (dk_at dksX1_append_4 21 rfl rfl)
theorem dX1_append_114 : decode cX1_append 114 = .ok (.i2c, 1) := dk_146 (dk_at dksX1_append_4 23 rfl rfl)
theorem dX1_append_115 : decode cX1_append 115 = .ok (.invokevirtual 362, 3) := dk_182 1 106 (dk_at dksX1_append_5 0 rfl rfl)
theorem dX1_append_118 : decode cX1_append 118 = .ok (.pop, 1) := dk_87 (dk_at dksX1_append_5 3 rfl rfl)
theorem dX1_append_119 : decode cX1_append 119 = .ok (.iinc 3 (-8), 3) := dk_132 3 248 (dk_at dksX1_append_5 4 rfl rfl)
theorem dX1_append_122 : decode cX1_append 122 = .ok (.goto (-32), 3) := dk_167 255 224 (dk_at dksX1_append_5 7 rfl rfl)
theorem dX1_append_125 : decode cX1_append 125 = .ok (.aload_n 0, 1) := dk_42 (dk_at dksX1_append_5 10 rfl rfl)
theorem dX1_append_126 : decode cX1_append 126 = .ok (.getfield 80, 3) := dk_180 0 80 (dk_at dksX1_append_5 11 rfl rfl)
theorem dX1_append_129 : decode cX1_append 129 = .ok (.invokevirtual 348, 3) := dk_182 1 92 (dk_at dksX1_append_5 14 rfl rfl)
theorem dX1_append_132 : decode cX1_append 132 = .ok (.ireturn, 1) := dk_172 (dk_at dksX1_append_5 17 rfl rfl)
abbrev cX1_read : ByteArray := prog_1_method_45_code
def yX1_read : MethodName := ⟨RX1, "read", "()I"⟩
def dkwX1_read_4 : List UInt8 := [183, 0, 121, 191, 42, 44, 182, 0, 122, 29, 172]
abbrev dktX1_read_4 : List UInt8 := dkwX1_read_4 ++ []
def dkwX1_read_3 : List UInt8 := [25, 4, 181, 0, 115, 187, 0, 119, 89, 183, 0, 121, 191, 58, 4, 42, 29, 181, 0, 90, 187, 0, 119, 89]
abbrev dktX1_read_3 : List UInt8 := dkwX1_read_3 ++ dktX1_read_4
def dkwX1_read_2 : List UInt8 := [185, 0, 107, 2, 0, 54, 6, 132, 3, 1, 167, 255, 221, 167, 0, 39, 58, 4, 42, 29, 181, 0, 90, 42]
abbrev dktX1_read_2 : List UInt8 := dkwX1_read_2 ++ dktX1_read_3
def dkwX1_read_1 : List UInt8 := [185, 1, 132, 1, 0, 153, 0, 31, 25, 4, 185, 1, 138, 1, 0, 192, 0, 108, 58, 5, 25, 5, 44]
abbrev dktX1_read_1 : List UInt8 := dkwX1_read_1 ++ dktX1_read_2
def dkwX1_read_0 : List UInt8 := [42, 182, 1, 125, 76, 42, 180, 0, 66, 182, 0, 103, 77, 3, 62, 43, 182, 1, 128, 58, 4, 25, 4]
abbrev dktX1_read_0 : List UInt8 := dkwX1_read_0 ++ dktX1_read_1
theorem dksX1_read_0 : cX1_read.data.toList.drop 0 = dktX1_read_0 := by decide +kernel
theorem dksX1_read_1 : cX1_read.data.toList.drop 23 = dktX1_read_1 := dk_seg dksX1_read_0 23 rfl rfl
theorem dksX1_read_2 : cX1_read.data.toList.drop 46 = dktX1_read_2 := dk_seg dksX1_read_1 23 rfl rfl
theorem dksX1_read_3 : cX1_read.data.toList.drop 70 = dktX1_read_3 := dk_seg dksX1_read_2 24 rfl rfl
theorem dksX1_read_4 : cX1_read.data.toList.drop 94 = dktX1_read_4 := dk_seg dksX1_read_3 24 rfl rfl
theorem dX1_read_0 : decode cX1_read 0 = .ok (.aload_n 0, 1) := dk_42 (dk_at dksX1_read_0 0 rfl rfl)
theorem dX1_read_1 : decode cX1_read 1 = .ok (.invokevirtual 381, 3) := dk_182 1 125 (dk_at dksX1_read_0 1 rfl rfl)
theorem dX1_read_4 : decode cX1_read 4 = .ok (.astore_n 1, 1) := dk_76 (dk_at dksX1_read_0 4 rfl rfl)
theorem dX1_read_5 : decode cX1_read 5 = .ok (.aload_n 0, 1) := dk_42 (dk_at dksX1_read_0 5 rfl rfl)
theorem dX1_read_6 : decode cX1_read 6 = .ok (.getfield 66, 3) := dk_180 0 66 (dk_at dksX1_read_0 6 rfl rfl)
theorem dX1_read_9 : decode cX1_read 9 = .ok (.invokevirtual 103, 3) := dk_182 0 103 (dk_at dksX1_read_0 9 rfl rfl)
theorem dX1_read_12 : decode cX1_read 12 = .ok (.astore_n 2, 1) := dk_77 (dk_at dksX1_read_0 12 rfl rfl)
theorem dX1_read_13 : decode cX1_read 13 = .ok (.iconst 0, 1) := dk_3 (dk_at dksX1_read_0 13 rfl rfl)
theorem dX1_read_14 : decode cX1_read 14 = .ok (.istore_n 3, 1) := dk_62 (dk_at dksX1_read_0 14 rfl rfl)
theorem dX1_read_15 : decode cX1_read 15 = .ok (.aload_n 1, 1) := dk_43 (dk_at dksX1_read_0 15 rfl rfl)
theorem dX1_read_16 : decode cX1_read 16 = .ok (.invokevirtual 384, 3) := dk_182 1 128 (dk_at dksX1_read_0 16 rfl rfl)
theorem dX1_read_19 : decode cX1_read 19 = .ok (.astore 4, 2) := dk_58 4 (dk_at dksX1_read_0 19 rfl rfl)
theorem dX1_read_21 : decode cX1_read 21 = .ok (.aload 4, 2) := dk_25 4 (dk_at dksX1_read_0 21 rfl rfl)
theorem dX1_read_23 : decode cX1_read 23 = .ok (.invokeinterface 388 1, 5) := by decide +kernel
theorem dX1_read_28 : decode cX1_read 28 = .ok (.ifCond .eq 31, 3) := dk_153 0 31 (dk_at dksX1_read_1 5 rfl rfl)
theorem dX1_read_31 : decode cX1_read 31 = .ok (.aload 4, 2) := dk_25 4 (dk_at dksX1_read_1 8 rfl rfl)
theorem dX1_read_33 : decode cX1_read 33 = .ok (.invokeinterface 394 1, 5) := by decide +kernel
theorem dX1_read_38 : decode cX1_read 38 = .ok (.checkcast 108, 3) := dk_192 0 108 (dk_at dksX1_read_1 15 rfl rfl)
theorem dX1_read_41 : decode cX1_read 41 = .ok (.astore 5, 2) := dk_58 5 (dk_at dksX1_read_1 18 rfl rfl)
theorem dX1_read_43 : decode cX1_read 43 = .ok (.aload 5, 2) := dk_25 5 (dk_at dksX1_read_1 20 rfl rfl)
theorem dX1_read_45 : decode cX1_read 45 = .ok (.aload_n 2, 1) := dk_44 (dk_at dksX1_read_1 22 rfl rfl)
theorem dX1_read_46 : decode cX1_read 46 = .ok (.invokeinterface 107 2, 5) := by decide +kernel
theorem dX1_read_51 : decode cX1_read 51 = .ok (.istore 6, 2) := dk_54 6 (dk_at dksX1_read_2 5 rfl rfl)
theorem dX1_read_53 : decode cX1_read 53 = .ok (.iinc 3 1, 3) := dk_132 3 1 (dk_at dksX1_read_2 7 rfl rfl)
theorem dX1_read_56 : decode cX1_read 56 = .ok (.goto (-35), 3) := dk_167 255 221 (dk_at dksX1_read_2 10 rfl rfl)
theorem dX1_read_59 : decode cX1_read 59 = .ok (.goto 39, 3) := dk_167 0 39 (dk_at dksX1_read_2 13 rfl rfl)
theorem dX1_read_62 : decode cX1_read 62 = .ok (.astore 4, 2) := dk_58 4 (dk_at dksX1_read_2 16 rfl rfl)
theorem dX1_read_64 : decode cX1_read 64 = .ok (.aload_n 0, 1) := dk_42 (dk_at dksX1_read_2 18 rfl rfl)
theorem dX1_read_65 : decode cX1_read 65 = .ok (.iload_n 3, 1) := dk_29 (dk_at dksX1_read_2 19 rfl rfl)
theorem dX1_read_66 : decode cX1_read 66 = .ok (.putfield 90, 3) := dk_181 0 90 (dk_at dksX1_read_2 20 rfl rfl)
theorem dX1_read_69 : decode cX1_read 69 = .ok (.aload_n 0, 1) := dk_42 (dk_at dksX1_read_2 23 rfl rfl)
theorem dX1_read_70 : decode cX1_read 70 = .ok (.aload 4, 2) := dk_25 4 (dk_at dksX1_read_3 0 rfl rfl)
theorem dX1_read_72 : decode cX1_read 72 = .ok (.putfield 115, 3) := dk_181 0 115 (dk_at dksX1_read_3 2 rfl rfl)
theorem dX1_read_75 : decode cX1_read 75 = .ok (.new 119, 3) := dk_187 0 119 (dk_at dksX1_read_3 5 rfl rfl)
theorem dX1_read_78 : decode cX1_read 78 = .ok (.dup, 1) := dk_89 (dk_at dksX1_read_3 8 rfl rfl)
theorem dX1_read_79 : decode cX1_read 79 = .ok (.invokespecial 121, 3) := dk_183 0 121 (dk_at dksX1_read_3 9 rfl rfl)
theorem dX1_read_82 : decode cX1_read 82 = .ok (.athrow, 1) := dk_191 (dk_at dksX1_read_3 12 rfl rfl)
theorem dX1_read_83 : decode cX1_read 83 = .ok (.astore 4, 2) := dk_58 4 (dk_at dksX1_read_3 13 rfl rfl)
theorem dX1_read_85 : decode cX1_read 85 = .ok (.aload_n 0, 1) := dk_42 (dk_at dksX1_read_3 15 rfl rfl)
theorem dX1_read_86 : decode cX1_read 86 = .ok (.iload_n 3, 1) := dk_29 (dk_at dksX1_read_3 16 rfl rfl)
theorem dX1_read_87 : decode cX1_read 87 = .ok (.putfield 90, 3) := dk_181 0 90 (dk_at dksX1_read_3 17 rfl rfl)
theorem dX1_read_90 : decode cX1_read 90 = .ok (.new 119, 3) := dk_187 0 119 (dk_at dksX1_read_3 20 rfl rfl)
theorem dX1_read_93 : decode cX1_read 93 = .ok (.dup, 1) := dk_89 (dk_at dksX1_read_3 23 rfl rfl)
theorem dX1_read_94 : decode cX1_read 94 = .ok (.invokespecial 121, 3) := dk_183 0 121 (dk_at dksX1_read_4 0 rfl rfl)
theorem dX1_read_97 : decode cX1_read 97 = .ok (.athrow, 1) := dk_191 (dk_at dksX1_read_4 3 rfl rfl)
theorem dX1_read_98 : decode cX1_read 98 = .ok (.aload_n 0, 1) := dk_42 (dk_at dksX1_read_4 4 rfl rfl)
theorem dX1_read_99 : decode cX1_read 99 = .ok (.aload_n 2, 1) := dk_44 (dk_at dksX1_read_4 5 rfl rfl)
theorem dX1_read_100 : decode cX1_read 100 = .ok (.invokevirtual 122, 3) := dk_182 0 122 (dk_at dksX1_read_4 6 rfl rfl)
theorem dX1_read_103 : decode cX1_read 103 = .ok (.iload_n 3, 1) := dk_29 (dk_at dksX1_read_4 9 rfl rfl)
theorem dX1_read_104 : decode cX1_read 104 = .ok (.ireturn, 1) := dk_172 (dk_at dksX1_read_4 10 rfl rfl)
abbrev cX1_takeItems : ByteArray := prog_1_method_44_code
def yX1_takeItems : MethodName := ⟨RX1, "takeItems", "()Ljava/util/ArrayList;"⟩
def dkwX1_takeItems_1 : List UInt8 := [182, 1, 115, 176, 77, 42, 44, 181, 1, 121, 187, 0, 1, 89, 183, 0, 3, 191]
abbrev dktX1_takeItems_1 : List UInt8 := dkwX1_takeItems_1 ++ []
def dkwX1_takeItems_0 : List UInt8 := [187, 1, 110, 89, 42, 180, 0, 80, 183, 1, 112, 76, 42, 187, 0, 77, 89, 183, 0, 79, 181, 0, 80, 43]
abbrev dktX1_takeItems_0 : List UInt8 := dkwX1_takeItems_0 ++ dktX1_takeItems_1
theorem dksX1_takeItems_0 : cX1_takeItems.data.toList.drop 0 = dktX1_takeItems_0 := by decide +kernel
theorem dksX1_takeItems_1 : cX1_takeItems.data.toList.drop 24 = dktX1_takeItems_1 := dk_seg dksX1_takeItems_0 24 rfl rfl
theorem dX1_takeItems_0 : decode cX1_takeItems 0 = .ok (.new 366, 3) := dk_187 1 110 (dk_at dksX1_takeItems_0 0 rfl rfl)
theorem dX1_takeItems_3 : decode cX1_takeItems 3 = .ok (.dup, 1) := dk_89 (dk_at dksX1_takeItems_0 3 rfl rfl)
theorem dX1_takeItems_4 : decode cX1_takeItems 4 = .ok (.aload_n 0, 1) := dk_42 (dk_at dksX1_takeItems_0 4 rfl rfl)
theorem dX1_takeItems_5 : decode cX1_takeItems 5 = .ok (.getfield 80, 3) := dk_180 0 80 (dk_at dksX1_takeItems_0 5 rfl rfl)
theorem dX1_takeItems_8 : decode cX1_takeItems 8 = .ok (.invokespecial 368, 3) := dk_183 1 112 (dk_at dksX1_takeItems_0 8 rfl rfl)
theorem dX1_takeItems_11 : decode cX1_takeItems 11 = .ok (.astore_n 1, 1) := dk_76 (dk_at dksX1_takeItems_0 11 rfl rfl)
theorem dX1_takeItems_12 : decode cX1_takeItems 12 = .ok (.aload_n 0, 1) := dk_42 (dk_at dksX1_takeItems_0 12 rfl rfl)
theorem dX1_takeItems_13 : decode cX1_takeItems 13 = .ok (.new 77, 3) := dk_187 0 77 (dk_at dksX1_takeItems_0 13 rfl rfl)
theorem dX1_takeItems_16 : decode cX1_takeItems 16 = .ok (.dup, 1) := dk_89 (dk_at dksX1_takeItems_0 16 rfl rfl)
theorem dX1_takeItems_17 : decode cX1_takeItems 17 = .ok (.invokespecial 79, 3) := dk_183 0 79 (dk_at dksX1_takeItems_0 17 rfl rfl)
theorem dX1_takeItems_20 : decode cX1_takeItems 20 = .ok (.putfield 80, 3) := dk_181 0 80 (dk_at dksX1_takeItems_0 20 rfl rfl)
theorem dX1_takeItems_23 : decode cX1_takeItems 23 = .ok (.aload_n 1, 1) := dk_43 (dk_at dksX1_takeItems_0 23 rfl rfl)
theorem dX1_takeItems_24 : decode cX1_takeItems 24 = .ok (.invokevirtual 371, 3) := dk_182 1 115 (dk_at dksX1_takeItems_1 0 rfl rfl)
theorem dX1_takeItems_27 : decode cX1_takeItems 27 = .ok (.areturn, 1) := dk_176 (dk_at dksX1_takeItems_1 3 rfl rfl)
theorem dX1_takeItems_28 : decode cX1_takeItems 28 = .ok (.astore_n 2, 1) := dk_77 (dk_at dksX1_takeItems_1 4 rfl rfl)
theorem dX1_takeItems_29 : decode cX1_takeItems 29 = .ok (.aload_n 0, 1) := dk_42 (dk_at dksX1_takeItems_1 5 rfl rfl)
theorem dX1_takeItems_30 : decode cX1_takeItems 30 = .ok (.aload_n 2, 1) := dk_44 (dk_at dksX1_takeItems_1 6 rfl rfl)
theorem dX1_takeItems_31 : decode cX1_takeItems 31 = .ok (.putfield 377, 3) := dk_181 1 121 (dk_at dksX1_takeItems_1 7 rfl rfl)
theorem dX1_takeItems_34 : decode cX1_takeItems 34 = .ok (.new 1, 3) := dk_187 0 1 (dk_at dksX1_takeItems_1 10 rfl rfl)
theorem dX1_takeItems_37 : decode cX1_takeItems 37 = .ok (.dup, 1) := dk_89 (dk_at dksX1_takeItems_1 13 rfl rfl)
theorem dX1_takeItems_38 : decode cX1_takeItems 38 = .ok (.invokespecial 3, 3) := dk_183 0 3 (dk_at dksX1_takeItems_1 14 rfl rfl)
theorem dX1_takeItems_41 : decode cX1_takeItems 41 = .ok (.athrow, 1) := dk_191 (dk_at dksX1_takeItems_1 17 rfl rfl)
abbrev cX1_errorPosition : ByteArray := prog_1_method_46_code
def yX1_errorPosition : MethodName := ⟨RX1, "errorPosition", "()I"⟩
def dkwX1_errorPosition_0 : List UInt8 := [42, 180, 1, 121, 198, 0, 7, 4, 167, 0, 4, 3, 184, 0, 174, 42, 180, 1, 121, 180, 1, 141, 172]
abbrev dktX1_errorPosition_0 : List UInt8 := dkwX1_errorPosition_0 ++ []
theorem dksX1_errorPosition_0 : cX1_errorPosition.data.toList.drop 0 = dktX1_errorPosition_0 := by decide +kernel
theorem dX1_errorPosition_0 : decode cX1_errorPosition 0 = .ok (.aload_n 0, 1) := dk_42 (dk_at dksX1_errorPosition_0 0 rfl rfl)
theorem dX1_errorPosition_1 : decode cX1_errorPosition 1 = .ok (.getfield 377, 3) := dk_180 1 121 (dk_at dksX1_errorPosition_0 1 rfl rfl)
theorem dX1_errorPosition_4 : decode cX1_errorPosition 4 = .ok (.ifnull 7, 3) := dk_198 0 7 (dk_at dksX1_errorPosition_0 4 rfl rfl)
theorem dX1_errorPosition_7 : decode cX1_errorPosition 7 = .ok (.iconst 1, 1) := dk_4 (dk_at dksX1_errorPosition_0 7 rfl rfl)
theorem dX1_errorPosition_8 : decode cX1_errorPosition 8 = .ok (.goto 4, 3) := dk_167 0 4 (dk_at dksX1_errorPosition_0 8 rfl rfl)
theorem dX1_errorPosition_11 : decode cX1_errorPosition 11 = .ok (.iconst 0, 1) := dk_3 (dk_at dksX1_errorPosition_0 11 rfl rfl)
theorem dX1_errorPosition_12 : decode cX1_errorPosition 12 = .ok (.invokestatic 174, 3) := dk_184 0 174 (dk_at dksX1_errorPosition_0 12 rfl rfl)
theorem dX1_errorPosition_15 : decode cX1_errorPosition 15 = .ok (.aload_n 0, 1) := dk_42 (dk_at dksX1_errorPosition_0 15 rfl rfl)
theorem dX1_errorPosition_16 : decode cX1_errorPosition 16 = .ok (.getfield 377, 3) := dk_180 1 121 (dk_at dksX1_errorPosition_0 16 rfl rfl)
theorem dX1_errorPosition_19 : decode cX1_errorPosition 19 = .ok (.getfield 397, 3) := dk_180 1 141 (dk_at dksX1_errorPosition_0 19 rfl rfl)
theorem dX1_errorPosition_22 : decode cX1_errorPosition 22 = .ok (.ireturn, 1) := dk_172 (dk_at dksX1_errorPosition_0 22 rfl rfl)
abbrev cX1_refusedItem : ByteArray := prog_1_method_47_code
def yX1_refusedItem : MethodName := ⟨RX1, "refusedItem", "()I"⟩
def dkwX1_refusedItem_0 : List UInt8 := [42, 180, 0, 90, 2, 159, 0, 7, 4, 167, 0, 4, 3, 184, 0, 174, 42, 180, 0, 90, 172]
abbrev dktX1_refusedItem_0 : List UInt8 := dkwX1_refusedItem_0 ++ []
theorem dksX1_refusedItem_0 : cX1_refusedItem.data.toList.drop 0 = dktX1_refusedItem_0 := by decide +kernel
theorem dX1_refusedItem_0 : decode cX1_refusedItem 0 = .ok (.aload_n 0, 1) := dk_42 (dk_at dksX1_refusedItem_0 0 rfl rfl)
theorem dX1_refusedItem_1 : decode cX1_refusedItem 1 = .ok (.getfield 90, 3) := dk_180 0 90 (dk_at dksX1_refusedItem_0 1 rfl rfl)
theorem dX1_refusedItem_4 : decode cX1_refusedItem 4 = .ok (.iconst (-1), 1) := dk_2 (dk_at dksX1_refusedItem_0 4 rfl rfl)
theorem dX1_refusedItem_5 : decode cX1_refusedItem 5 = .ok (.if_icmp .eq 7, 3) := dk_159 0 7 (dk_at dksX1_refusedItem_0 5 rfl rfl)
theorem dX1_refusedItem_8 : decode cX1_refusedItem 8 = .ok (.iconst 1, 1) := dk_4 (dk_at dksX1_refusedItem_0 8 rfl rfl)
theorem dX1_refusedItem_9 : decode cX1_refusedItem 9 = .ok (.goto 4, 3) := dk_167 0 4 (dk_at dksX1_refusedItem_0 9 rfl rfl)
theorem dX1_refusedItem_12 : decode cX1_refusedItem 12 = .ok (.iconst 0, 1) := dk_3 (dk_at dksX1_refusedItem_0 12 rfl rfl)
theorem dX1_refusedItem_13 : decode cX1_refusedItem 13 = .ok (.invokestatic 174, 3) := dk_184 0 174 (dk_at dksX1_refusedItem_0 13 rfl rfl)
theorem dX1_refusedItem_16 : decode cX1_refusedItem 16 = .ok (.aload_n 0, 1) := dk_42 (dk_at dksX1_refusedItem_0 16 rfl rfl)
theorem dX1_refusedItem_17 : decode cX1_refusedItem 17 = .ok (.getfield 90, 3) := dk_180 0 90 (dk_at dksX1_refusedItem_0 17 rfl rfl)
theorem dX1_refusedItem_20 : decode cX1_refusedItem 20 = .ok (.ireturn, 1) := dk_172 (dk_at dksX1_refusedItem_0 20 rfl rfl)
abbrev cX1_undo : ByteArray := prog_1_method_48_code
def yX1_undo : MethodName := ⟨RX1, "undo", "()I"⟩
def dkwX1_undo_1 : List UInt8 := [182, 1, 147, 192, 0, 63, 181, 0, 66, 42, 180, 0, 73, 182, 0, 94, 172]
abbrev dktX1_undo_1 : List UInt8 := dkwX1_undo_1 ++ []
def dkwX1_undo_0 : List UInt8 := [42, 180, 0, 73, 182, 1, 144, 154, 0, 7, 4, 167, 0, 4, 3, 184, 1, 33, 42, 42, 180, 0, 73]
abbrev dktX1_undo_0 : List UInt8 := dkwX1_undo_0 ++ dktX1_undo_1
theorem dksX1_undo_0 : cX1_undo.data.toList.drop 0 = dktX1_undo_0 := by decide +kernel
theorem dksX1_undo_1 : cX1_undo.data.toList.drop 23 = dktX1_undo_1 := dk_seg dksX1_undo_0 23 rfl rfl
theorem dX1_undo_0 : decode cX1_undo 0 = .ok (.aload_n 0, 1) := dk_42 (dk_at dksX1_undo_0 0 rfl rfl)
theorem dX1_undo_1 : decode cX1_undo 1 = .ok (.getfield 73, 3) := dk_180 0 73 (dk_at dksX1_undo_0 1 rfl rfl)
theorem dX1_undo_4 : decode cX1_undo 4 = .ok (.invokevirtual 400, 3) := dk_182 1 144 (dk_at dksX1_undo_0 4 rfl rfl)
theorem dX1_undo_7 : decode cX1_undo 7 = .ok (.ifCond .ne 7, 3) := dk_154 0 7 (dk_at dksX1_undo_0 7 rfl rfl)
theorem dX1_undo_10 : decode cX1_undo 10 = .ok (.iconst 1, 1) := dk_4 (dk_at dksX1_undo_0 10 rfl rfl)
theorem dX1_undo_11 : decode cX1_undo 11 = .ok (.goto 4, 3) := dk_167 0 4 (dk_at dksX1_undo_0 11 rfl rfl)
theorem dX1_undo_14 : decode cX1_undo 14 = .ok (.iconst 0, 1) := dk_3 (dk_at dksX1_undo_0 14 rfl rfl)
theorem dX1_undo_15 : decode cX1_undo 15 = .ok (.invokestatic 289, 3) := dk_184 1 33 (dk_at dksX1_undo_0 15 rfl rfl)
theorem dX1_undo_18 : decode cX1_undo 18 = .ok (.aload_n 0, 1) := dk_42 (dk_at dksX1_undo_0 18 rfl rfl)
theorem dX1_undo_19 : decode cX1_undo 19 = .ok (.aload_n 0, 1) := dk_42 (dk_at dksX1_undo_0 19 rfl rfl)
theorem dX1_undo_20 : decode cX1_undo 20 = .ok (.getfield 73, 3) := dk_180 0 73 (dk_at dksX1_undo_0 20 rfl rfl)
theorem dX1_undo_23 : decode cX1_undo 23 = .ok (.invokevirtual 403, 3) := dk_182 1 147 (dk_at dksX1_undo_1 0 rfl rfl)
theorem dX1_undo_26 : decode cX1_undo 26 = .ok (.checkcast 63, 3) := dk_192 0 63 (dk_at dksX1_undo_1 3 rfl rfl)
theorem dX1_undo_29 : decode cX1_undo 29 = .ok (.putfield 66, 3) := dk_181 0 66 (dk_at dksX1_undo_1 6 rfl rfl)
theorem dX1_undo_32 : decode cX1_undo 32 = .ok (.aload_n 0, 1) := dk_42 (dk_at dksX1_undo_1 9 rfl rfl)
theorem dX1_undo_33 : decode cX1_undo 33 = .ok (.getfield 73, 3) := dk_180 0 73 (dk_at dksX1_undo_1 10 rfl rfl)
theorem dX1_undo_36 : decode cX1_undo 36 = .ok (.invokevirtual 94, 3) := dk_182 0 94 (dk_at dksX1_undo_1 13 rfl rfl)
theorem dX1_undo_39 : decode cX1_undo 39 = .ok (.ireturn, 1) := dk_172 (dk_at dksX1_undo_1 16 rfl rfl)
abbrev cX1_restore : ByteArray := prog_1_method_50_code
def yX1_restore : MethodName := ⟨RX1, "restore", "()I"⟩
def dkwX1_restore_1 : List UInt8 := [180, 0, 73, 182, 0, 129, 42, 180, 0, 66, 180, 0, 126, 172]
abbrev dktX1_restore_1 : List UInt8 := dkwX1_restore_1 ++ []
def dkwX1_restore_0 : List UInt8 := [42, 180, 1, 150, 198, 0, 7, 4, 167, 0, 4, 3, 184, 1, 33, 42, 42, 180, 1, 150, 181, 0, 66, 42]
abbrev dktX1_restore_0 : List UInt8 := dkwX1_restore_0 ++ dktX1_restore_1
theorem dksX1_restore_0 : cX1_restore.data.toList.drop 0 = dktX1_restore_0 := by decide +kernel
theorem dksX1_restore_1 : cX1_restore.data.toList.drop 24 = dktX1_restore_1 := dk_seg dksX1_restore_0 24 rfl rfl
theorem dX1_restore_0 : decode cX1_restore 0 = .ok (.aload_n 0, 1) := dk_42 (dk_at dksX1_restore_0 0 rfl rfl)
theorem dX1_restore_1 : decode cX1_restore 1 = .ok (.getfield 406, 3) := dk_180 1 150 (dk_at dksX1_restore_0 1 rfl rfl)
theorem dX1_restore_4 : decode cX1_restore 4 = .ok (.ifnull 7, 3) := dk_198 0 7 (dk_at dksX1_restore_0 4 rfl rfl)
theorem dX1_restore_7 : decode cX1_restore 7 = .ok (.iconst 1, 1) := dk_4 (dk_at dksX1_restore_0 7 rfl rfl)
theorem dX1_restore_8 : decode cX1_restore 8 = .ok (.goto 4, 3) := dk_167 0 4 (dk_at dksX1_restore_0 8 rfl rfl)
theorem dX1_restore_11 : decode cX1_restore 11 = .ok (.iconst 0, 1) := dk_3 (dk_at dksX1_restore_0 11 rfl rfl)
theorem dX1_restore_12 : decode cX1_restore 12 = .ok (.invokestatic 289, 3) := dk_184 1 33 (dk_at dksX1_restore_0 12 rfl rfl)
theorem dX1_restore_15 : decode cX1_restore 15 = .ok (.aload_n 0, 1) := dk_42 (dk_at dksX1_restore_0 15 rfl rfl)
theorem dX1_restore_16 : decode cX1_restore 16 = .ok (.aload_n 0, 1) := dk_42 (dk_at dksX1_restore_0 16 rfl rfl)
theorem dX1_restore_17 : decode cX1_restore 17 = .ok (.getfield 406, 3) := dk_180 1 150 (dk_at dksX1_restore_0 17 rfl rfl)
theorem dX1_restore_20 : decode cX1_restore 20 = .ok (.putfield 66, 3) := dk_181 0 66 (dk_at dksX1_restore_0 20 rfl rfl)
theorem dX1_restore_23 : decode cX1_restore 23 = .ok (.aload_n 0, 1) := dk_42 (dk_at dksX1_restore_0 23 rfl rfl)
theorem dX1_restore_24 : decode cX1_restore 24 = .ok (.getfield 73, 3) := dk_180 0 73 (dk_at dksX1_restore_1 0 rfl rfl)
theorem dX1_restore_27 : decode cX1_restore 27 = .ok (.invokevirtual 129, 3) := dk_182 0 129 (dk_at dksX1_restore_1 3 rfl rfl)
theorem dX1_restore_30 : decode cX1_restore 30 = .ok (.aload_n 0, 1) := dk_42 (dk_at dksX1_restore_1 6 rfl rfl)
theorem dX1_restore_31 : decode cX1_restore 31 = .ok (.getfield 66, 3) := dk_180 0 66 (dk_at dksX1_restore_1 7 rfl rfl)
theorem dX1_restore_34 : decode cX1_restore 34 = .ok (.getfield 126, 3) := dk_180 0 126 (dk_at dksX1_restore_1 10 rfl rfl)
theorem dX1_restore_37 : decode cX1_restore 37 = .ok (.ireturn, 1) := dk_172 (dk_at dksX1_restore_1 13 rfl rfl)
theorem q55 : (Jvm.Cond.initialized "WillowPrinters") ∈ lw_all := lw_g (lw_at lw_m1 1 rfl) rfl
theorem q100 : (Jvm.Cond.instantiable "WillowPrinters" (8 : Nat)) ∈ lw_all := lw_g (lw_at lw_m1 46 rfl) rfl
theorem q102 : (Jvm.Cond.instanceMethod ({ cls := "WillowPrinters", name := "<init>", desc := "()V" } : Jvm.MethodName)) ∈ lw_all := lw_g (lw_at lw_m1 48 rfl) rfl
theorem q103 : (Jvm.Cond.code ({ cls := "WillowPrinters", name := "<init>", desc := "()V" } : Jvm.MethodName) prog_1_method_10_code (1 : Nat) (Option.none : Option Jvm.ClassFile.FieldType)) ∈ lw_all := lw_g (lw_at lw_m1 49 rfl) rfl
theorem q104 : (Jvm.Cond.methodLink "WillowPrinters" (60 : Nat) ({ cls := "java/lang/Object", name := "<init>", desc := "()V" } : Jvm.MethodName)) ∈ lw_all := lw_g (lw_at lw_m1 50 rfl) rfl
theorem q107 : (Jvm.Cond.classLink "WillowPrinters" (63 : Nat) "WillowPrinters$House") ∈ lw_all := lw_g (lw_at lw_m1 53 rfl) rfl
theorem q109 : (Jvm.Cond.methodLinkNest "WillowPrinters" (65 : Nat) ({ cls := "WillowPrinters$House", name := "<init>", desc := "()V" } : Jvm.MethodName) "WillowPrinters") ∈ lw_tbl := lw_at lw_m1 55 rfl
theorem q463 : (Jvm.Cond.fieldLinkNest "WillowPrinters" (303 : Nat) "WillowPrinters$House" "coppers" "Ljava/util/ArrayList;" "WillowPrinters") ∈ lw_tbl := lw_at lw_m2 169 rfl
theorem q465 : (Jvm.Cond.fieldLinkNest "WillowPrinters" (307 : Nat) "WillowPrinters$House" "lots" "Ljava/util/ArrayList;" "WillowPrinters") ∈ lw_tbl := lw_at lw_m2 171 rfl
theorem q467 : (Jvm.Cond.fieldLinkNest "WillowPrinters" (333 : Nat) "WillowPrinters$House" "kilns" "Ljava/util/ArrayList;" "WillowPrinters") ∈ lw_tbl := lw_at lw_m2 173 rfl
theorem q469 : (Jvm.Cond.fieldLinkNest "WillowPrinters" (339 : Nat) "WillowPrinters$House" "crates" "Ljava/util/ArrayList;" "WillowPrinters") ∈ lw_tbl := lw_at lw_m2 175 rfl
theorem q471 : (Jvm.Cond.fieldLinkNest "WillowPrinters" (126 : Nat) "WillowPrinters$House" "hour" "I" "WillowPrinters") ∈ lw_tbl := lw_at lw_m2 177 rfl
theorem q473 : (Jvm.Cond.fieldLinkNest "WillowPrinters" (298 : Nat) "WillowPrinters$House" "sheets" "I" "WillowPrinters") ∈ lw_tbl := lw_at lw_m2 179 rfl
theorem q475 : (Jvm.Cond.fieldLinkNest "WillowPrinters" (153 : Nat) "WillowPrinters$House" "damp" "I" "WillowPrinters") ∈ lw_tbl := lw_at lw_m2 181 rfl
theorem q477 : (Jvm.Cond.fieldLinkNest "WillowPrinters" (301 : Nat) "WillowPrinters$House" "coins" "I" "WillowPrinters") ∈ lw_tbl := lw_at lw_m2 183 rfl
theorem q479 : (Jvm.Cond.fieldLinkNest "WillowPrinters" (342 : Nat) "WillowPrinters$House" "got" "I" "WillowPrinters") ∈ lw_tbl := lw_at lw_m2 185 rfl
theorem q481 : (Jvm.Cond.fieldLinkNest "WillowPrinters" (345 : Nat) "WillowPrinters$House" "spent" "I" "WillowPrinters") ∈ lw_tbl := lw_at lw_m2 187 rfl
theorem q483 : (Jvm.Cond.fieldLinkNest "WillowPrinters" (310 : Nat) "WillowPrinters$House" "bought" "I" "WillowPrinters") ∈ lw_tbl := lw_at lw_m2 189 rfl
theorem q485 : (Jvm.Cond.fieldLinkNest "WillowPrinters" (324 : Nat) "WillowPrinters$House" "carried" "I" "WillowPrinters") ∈ lw_tbl := lw_at lw_m2 191 rfl
theorem q487 : (Jvm.Cond.fieldLinkNest "WillowPrinters" (327 : Nat) "WillowPrinters$House" "seconds" "I" "WillowPrinters") ∈ lw_tbl := lw_at lw_m2 193 rfl
theorem q489 : (Jvm.Cond.fieldLinkNest "WillowPrinters" (330 : Nat) "WillowPrinters$House" "secondsSold" "I" "WillowPrinters") ∈ lw_tbl := lw_at lw_m2 195 rfl
theorem q519 : (Jvm.Cond.classLink "WillowPrinters" (70 : Nat) "java/util/ArrayDeque") ∈ lw_all := lw_g (lw_at lw_m2 225 rfl) rfl
theorem q521 : (Jvm.Cond.methodLink "WillowPrinters" (72 : Nat) ({ cls := "java/util/ArrayDeque", name := "<init>", desc := "()V" } : Jvm.MethodName)) ∈ lw_all := lw_g (lw_at lw_m2 227 rfl) rfl
theorem q536 : (Jvm.Cond.classLink "WillowPrinters" (77 : Nat) "java/lang/StringBuilder") ∈ lw_all := lw_g (lw_at lw_m3 2 rfl) rfl
theorem q537 : (Jvm.Cond.methodLink "WillowPrinters" (79 : Nat) ({ cls := "java/lang/StringBuilder", name := "<init>", desc := "()V" } : Jvm.MethodName)) ∈ lw_all := lw_g (lw_at lw_m3 3 rfl) rfl
theorem q538 : (Jvm.Cond.stringRef "WillowPrinters" (84 : Nat) "") ∈ lw_tbl := lw_at lw_m3 4 rfl
theorem q539 : (Jvm.Cond.fieldLink "WillowPrinters" (66 : Nat) "WillowPrinters" "house" "LWillowPrinters$House;") ∈ lw_all := lw_g (lw_at lw_m3 5 rfl) rfl
theorem q540 : (Jvm.Cond.fieldLink "WillowPrinters" (73 : Nat) "WillowPrinters" "undoSteps" "Ljava/util/ArrayDeque;") ∈ lw_all := lw_g (lw_at lw_m3 6 rfl) rfl
theorem q541 : (Jvm.Cond.fieldLink "WillowPrinters" (406 : Nat) "WillowPrinters" "saved" "LWillowPrinters$House;") ∈ lw_all := lw_g (lw_at lw_m3 7 rfl) rfl
theorem q542 : (Jvm.Cond.fieldLink "WillowPrinters" (80 : Nat) "WillowPrinters" "input" "Ljava/lang/StringBuilder;") ∈ lw_all := lw_g (lw_at lw_m3 8 rfl) rfl
theorem q543 : (Jvm.Cond.fieldLink "WillowPrinters" (86 : Nat) "WillowPrinters" "line" "Ljava/lang/String;") ∈ lw_all := lw_g (lw_at lw_m3 9 rfl) rfl
theorem q544 : (Jvm.Cond.fieldLink "WillowPrinters" (377 : Nat) "WillowPrinters" "lastError" "LWillowPrinters$SyntaxException;") ∈ lw_all := lw_g (lw_at lw_m3 10 rfl) rfl
theorem q545 : (Jvm.Cond.fieldLink "WillowPrinters" (90 : Nat) "WillowPrinters" "lastItem" "I") ∈ lw_all := lw_g (lw_at lw_m3 11 rfl) rfl
theorem q546 : (Jvm.Cond.fieldLink "WillowPrinters" (115 : Nat) "WillowPrinters" "lastRefusal" "LWillowPrinters$Refused;") ∈ lw_all := lw_g (lw_at lw_m3 12 rfl) rfl
theorem q547 : (Jvm.Cond.lays "WillowPrinters" "WillowPrinters" "house" "LWillowPrinters$House;") ∈ lw_all := lw_g (lw_at lw_m3 13 rfl) rfl
theorem q548 : (Jvm.Cond.soleField "WillowPrinters" "house") ∈ lw_all := lw_g (lw_at lw_m3 14 rfl) rfl
theorem q549 : (Jvm.Cond.laysFinal "WillowPrinters" "WillowPrinters" "undoSteps" "Ljava/util/ArrayDeque;") ∈ lw_all := lw_g (lw_at lw_m3 15 rfl) rfl
theorem q550 : (Jvm.Cond.soleField "WillowPrinters" "undoSteps") ∈ lw_all := lw_g (lw_at lw_m3 16 rfl) rfl
theorem q551 : (Jvm.Cond.lays "WillowPrinters" "WillowPrinters" "saved" "LWillowPrinters$House;") ∈ lw_all := lw_g (lw_at lw_m3 17 rfl) rfl
theorem q552 : (Jvm.Cond.soleField "WillowPrinters" "saved") ∈ lw_all := lw_g (lw_at lw_m3 18 rfl) rfl
theorem q553 : (Jvm.Cond.lays "WillowPrinters" "WillowPrinters" "input" "Ljava/lang/StringBuilder;") ∈ lw_all := lw_g (lw_at lw_m3 19 rfl) rfl
theorem q554 : (Jvm.Cond.soleField "WillowPrinters" "input") ∈ lw_all := lw_g (lw_at lw_m3 20 rfl) rfl
theorem q555 : (Jvm.Cond.lays "WillowPrinters" "WillowPrinters" "line" "Ljava/lang/String;") ∈ lw_all := lw_g (lw_at lw_m3 21 rfl) rfl
theorem q556 : (Jvm.Cond.soleField "WillowPrinters" "line") ∈ lw_all := lw_g (lw_at lw_m3 22 rfl) rfl
theorem q557 : (Jvm.Cond.lays "WillowPrinters" "WillowPrinters" "lastError" "LWillowPrinters$SyntaxException;") ∈ lw_all := lw_g (lw_at lw_m3 23 rfl) rfl
theorem q558 : (Jvm.Cond.soleField "WillowPrinters" "lastError") ∈ lw_all := lw_g (lw_at lw_m3 24 rfl) rfl
theorem q559 : (Jvm.Cond.lays "WillowPrinters" "WillowPrinters" "lastItem" "I") ∈ lw_all := lw_g (lw_at lw_m3 25 rfl) rfl
theorem q560 : (Jvm.Cond.soleField "WillowPrinters" "lastItem") ∈ lw_all := lw_g (lw_at lw_m3 26 rfl) rfl
theorem q561 : (Jvm.Cond.lays "WillowPrinters" "WillowPrinters" "lastRefusal" "LWillowPrinters$Refused;") ∈ lw_all := lw_g (lw_at lw_m3 27 rfl) rfl
theorem q562 : (Jvm.Cond.soleField "WillowPrinters" "lastRefusal") ∈ lw_all := lw_g (lw_at lw_m3 28 rfl) rfl
theorem q563 : (Jvm.Cond.superclass "WillowPrinters" "java/lang/Object") ∈ lw_all := lw_g (lw_at lw_m3 29 rfl) rfl
theorem q565 : (Jvm.Cond.instanceMethod ({ cls := "WillowPrinters", name := "clear", desc := "()I" } : Jvm.MethodName)) ∈ lw_all := lw_g (lw_at lw_m3 31 rfl) rfl
theorem q566 : (Jvm.Cond.selects "WillowPrinters" ({ cls := "WillowPrinters", name := "clear", desc := "()I" } : Jvm.MethodName) ({ cls := "WillowPrinters", name := "clear", desc := "()I" } : Jvm.MethodName)) ∈ lw_all := lw_g (lw_at lw_m3 32 rfl) rfl
theorem q567 : (Jvm.Cond.code ({ cls := "WillowPrinters", name := "clear", desc := "()I" } : Jvm.MethodName) prog_1_method_13_code (2 : Nat) (Option.some Jvm.ClassFile.FieldType.int)) ∈ lw_all := lw_g (lw_at lw_m3 33 rfl) rfl
theorem q568 : (Jvm.Cond.methodLink "WillowPrinters" (129 : Nat) ({ cls := "java/util/ArrayDeque", name := "clear", desc := "()V" } : Jvm.MethodName)) ∈ lw_all := lw_g (lw_at lw_m3 34 rfl) rfl
theorem q576 : (Jvm.Cond.instanceMethod ({ cls := "WillowPrinters", name := "platesAgain", desc := "()I" } : Jvm.MethodName)) ∈ lw_all := lw_g (lw_at lw_m3 42 rfl) rfl
theorem q577 : (Jvm.Cond.selects "WillowPrinters" ({ cls := "WillowPrinters", name := "platesAgain", desc := "()I" } : Jvm.MethodName) ({ cls := "WillowPrinters", name := "platesAgain", desc := "()I" } : Jvm.MethodName)) ∈ lw_all := lw_g (lw_at lw_m3 43 rfl) rfl
theorem q578 : (Jvm.Cond.code ({ cls := "WillowPrinters", name := "platesAgain", desc := "()I" } : Jvm.MethodName) prog_1_method_40_code (1 : Nat) (Option.some Jvm.ClassFile.FieldType.int)) ∈ lw_all := lw_g (lw_at lw_m3 44 rfl) rfl
theorem q579 : (Jvm.Cond.methodLink "WillowPrinters" (321 : Nat) ({ cls := "WillowPrinters$House", name := "inCrates", desc := "()I" } : Jvm.MethodName)) ∈ lw_all := lw_g (lw_at lw_m3 45 rfl) rfl
theorem q588 : (Jvm.Cond.static ({ cls := "WillowPrinters", name := "sum", desc := "(Ljava/util/ArrayList;LWillowPrinters$Test;LWillowPrinters$Measure;)I" } : Jvm.MethodName)) ∈ lw_all := lw_g (lw_at lw_m3 54 rfl) rfl
theorem q589 : (Jvm.Cond.code ({ cls := "WillowPrinters", name := "sum", desc := "(Ljava/util/ArrayList;LWillowPrinters$Test;LWillowPrinters$Measure;)I" } : Jvm.MethodName) prog_1_method_8_code (5 : Nat) (Option.some Jvm.ClassFile.FieldType.int)) ∈ lw_all := lw_g (lw_at lw_m3 55 rfl) rfl
theorem q590 : (Jvm.Cond.methodLink "WillowPrinters" (31 : Nat) ({ cls := "java/util/ArrayList", name := "size", desc := "()I" } : Jvm.MethodName)) ∈ lw_all := lw_g (lw_at lw_m3 56 rfl) rfl
theorem q594 : (Jvm.Cond.methodLink "WillowPrinters" (37 : Nat) ({ cls := "java/util/ArrayList", name := "get", desc := "(I)Ljava/lang/Object;" } : Jvm.MethodName)) ∈ lw_all := lw_g (lw_at lw_m3 60 rfl) rfl
theorem q608 : (Jvm.Cond.interfaceEntry "WillowPrinters" (41 : Nat)) ∈ lw_tbl := lw_at lw_m3 74 rfl
theorem q609 : (Jvm.Cond.methodLink "WillowPrinters" (41 : Nat) ({ cls := "WillowPrinters$Test", name := "is", desc := "(Ljava/lang/Object;)Z" } : Jvm.MethodName)) ∈ lw_all := lw_g (lw_at lw_m3 75 rfl) rfl
theorem q612 : (Jvm.Cond.interfaceEntry "WillowPrinters" (47 : Nat)) ∈ lw_tbl := lw_at lw_m3 78 rfl
theorem q613 : (Jvm.Cond.methodLink "WillowPrinters" (47 : Nat) ({ cls := "WillowPrinters$Measure", name := "of", desc := "(Ljava/lang/Object;)I" } : Jvm.MethodName)) ∈ lw_all := lw_g (lw_at lw_m3 79 rfl) rfl
theorem q617 : (Jvm.Cond.instanceMethod ({ cls := "WillowPrinters", name := "snapshot", desc := "()I" } : Jvm.MethodName)) ∈ lw_all := lw_g (lw_at lw_m3 83 rfl) rfl
theorem q618 : (Jvm.Cond.selects "WillowPrinters" ({ cls := "WillowPrinters", name := "snapshot", desc := "()I" } : Jvm.MethodName) ({ cls := "WillowPrinters", name := "snapshot", desc := "()I" } : Jvm.MethodName)) ∈ lw_all := lw_g (lw_at lw_m3 84 rfl) rfl
theorem q619 : (Jvm.Cond.code ({ cls := "WillowPrinters", name := "snapshot", desc := "()I" } : Jvm.MethodName) prog_1_method_49_code (1 : Nat) (Option.some Jvm.ClassFile.FieldType.int)) ∈ lw_all := lw_g (lw_at lw_m3 85 rfl) rfl
theorem q626 : (Jvm.Cond.instanceMethod ({ cls := "WillowPrinters", name := "sheets", desc := "(I)I" } : Jvm.MethodName)) ∈ lw_all := lw_g (lw_at lw_m3 92 rfl) rfl
theorem q627 : (Jvm.Cond.selects "WillowPrinters" ({ cls := "WillowPrinters", name := "sheets", desc := "(I)I" } : Jvm.MethodName) ({ cls := "WillowPrinters", name := "sheets", desc := "(I)I" } : Jvm.MethodName)) ∈ lw_all := lw_g (lw_at lw_m3 93 rfl) rfl
theorem q628 : (Jvm.Cond.code ({ cls := "WillowPrinters", name := "sheets", desc := "(I)I" } : Jvm.MethodName) prog_1_method_14_code (2 : Nat) (Option.some Jvm.ClassFile.FieldType.int)) ∈ lw_all := lw_g (lw_at lw_m3 94 rfl) rfl
theorem q629 : (Jvm.Cond.static ({ cls := "WillowPrinters", name := "lambda$sheets$1", desc := "(ILWillowPrinters$House;)I" } : Jvm.MethodName)) ∈ lw_all := lw_g (lw_at lw_m3 95 rfl) rfl
theorem q630 : (Jvm.Cond.code ({ cls := "WillowPrinters", name := "lambda$sheets$1", desc := "(ILWillowPrinters$House;)I" } : Jvm.MethodName) prog_1_method_67_code (2 : Nat) (Option.some Jvm.ClassFile.FieldType.int)) ∈ lw_all := lw_g (lw_at lw_m3 96 rfl) rfl
theorem q631 : (Jvm.Cond.methodLink "WillowPrinters" (451 : Nat) ({ cls := "WillowPrinters$House", name := "buySheets", desc := "(I)I" } : Jvm.MethodName)) ∈ lw_all := lw_g (lw_at lw_m3 97 rfl) rfl
theorem q637 : (Jvm.Cond.static ({ cls := "WillowPrinters", name := "inRange", desc := "(JJJ)Z" } : Jvm.MethodName)) ∈ lw_all := lw_g (lw_at lw_m3 103 rfl) rfl
theorem q638 : (Jvm.Cond.code ({ cls := "WillowPrinters", name := "inRange", desc := "(JJJ)Z" } : Jvm.MethodName) prog_1_method_1_code (6 : Nat) (Option.some Jvm.ClassFile.FieldType.boolean)) ∈ lw_all := lw_g (lw_at lw_m3 104 rfl) rfl
theorem q640 : (Jvm.Cond.static ({ cls := "WillowPrinters", name := "checkArgument", desc := "(Z)V" } : Jvm.MethodName)) ∈ lw_all := lw_g (lw_at lw_m3 106 rfl) rfl
theorem q641 : (Jvm.Cond.code ({ cls := "WillowPrinters", name := "checkArgument", desc := "(Z)V" } : Jvm.MethodName) prog_1_method_2_code (1 : Nat) (Option.none : Option Jvm.ClassFile.FieldType)) ∈ lw_all := lw_g (lw_at lw_m3 107 rfl) rfl
theorem q642 : (Jvm.Cond.classLink "WillowPrinters" (1 : Nat) "java/lang/IllegalArgumentException") ∈ lw_all := lw_g (lw_at lw_m3 108 rfl) rfl
theorem q643 : (Jvm.Cond.methodLink "WillowPrinters" (3 : Nat) ({ cls := "java/lang/IllegalArgumentException", name := "<init>", desc := "()V" } : Jvm.MethodName)) ∈ lw_all := lw_g (lw_at lw_m3 109 rfl) rfl
theorem q679 : (Jvm.Cond.fieldLinkNest "WillowPrinters" (295 : Nat) "WillowPrinters$Refused" "reason" "I" "WillowPrinters") ∈ lw_tbl := lw_at lw_m3 145 rfl
theorem q681 : (Jvm.Cond.fieldLinkNest "WillowPrinters" (292 : Nat) "WillowPrinters$Refused" "detail" "I" "WillowPrinters") ∈ lw_tbl := lw_at lw_m3 147 rfl
theorem q688 : (Jvm.Cond.methodLink "WillowPrinters" (135 : Nat) ({ cls := "WillowPrinters", name := "change", desc := "(LWillowPrinters$Change;)I" } : Jvm.MethodName)) ∈ lw_all := lw_g (lw_at lw_m3 154 rfl) rfl
theorem q689 : (Jvm.Cond.privateMethod ({ cls := "WillowPrinters", name := "change", desc := "(LWillowPrinters$Change;)I" } : Jvm.MethodName)) ∈ lw_tbl := lw_at lw_m3 155 rfl
theorem q690 : (Jvm.Cond.instanceMethod ({ cls := "WillowPrinters", name := "change", desc := "(LWillowPrinters$Change;)I" } : Jvm.MethodName)) ∈ lw_all := lw_g (lw_at lw_m3 156 rfl) rfl
theorem q691 : (Jvm.Cond.codeWith ({ cls := "WillowPrinters", name := "change", desc := "(LWillowPrinters$Change;)I" } : Jvm.MethodName) prog_1_method_12_code (5 : Nat) (Option.some Jvm.ClassFile.FieldType.int) [((8 : Nat), (16 : Nat), (19 : Nat), (113 : Nat))]) ∈ lw_all := lw_g (lw_at lw_m3 157 rfl) rfl
theorem q692 : (Jvm.Cond.classLink "WillowPrinters" (113 : Nat) "WillowPrinters$Refused") ∈ lw_all := lw_g (lw_at lw_m3 158 rfl) rfl
theorem q693 : (Jvm.Cond.methodLink "WillowPrinters" (103 : Nat) ({ cls := "WillowPrinters$House", name := "copy", desc := "()LWillowPrinters$House;" } : Jvm.MethodName)) ∈ lw_all := lw_g (lw_at lw_m3 159 rfl) rfl
theorem q772 : (Jvm.Cond.fieldLinkNest "WillowPrinters" (177 : Nat) "WillowPrinters$Copper" "number" "I" "WillowPrinters") ∈ lw_tbl := lw_at lw_m3 238 rfl
theorem q774 : (Jvm.Cond.fieldLinkNest "WillowPrinters" (145 : Nat) "WillowPrinters$Copper" "lines" "I" "WillowPrinters") ∈ lw_tbl := lw_at lw_m4 0 rfl
theorem q777 : (Jvm.Cond.fieldLinkNest "WillowPrinters" (150 : Nat) "WillowPrinters$Copper" "worn" "I" "WillowPrinters") ∈ lw_tbl := lw_at lw_m4 3 rfl
theorem q780 : (Jvm.Cond.fieldLinkNest "WillowPrinters" (160 : Nat) "WillowPrinters$Copper" "printed" "I" "WillowPrinters") ∈ lw_tbl := lw_at lw_m4 6 rfl
theorem q815 : (Jvm.Cond.selects "WillowPrinters" ({ cls := "java/lang/Object", name := "getClass", desc := "()Ljava/lang/Class;" } : Jvm.MethodName) ({ cls := "java/lang/Object", name := "getClass", desc := "()Ljava/lang/Class;" } : Jvm.MethodName)) ∈ lw_all := lw_g (lw_at lw_m4 41 rfl) rfl
theorem q872 : (Jvm.Cond.fieldLinkNest "WillowPrinters" (227 : Nat) "WillowPrinters$Lot" "number" "I" "WillowPrinters") ∈ lw_tbl := lw_at lw_m4 98 rfl
theorem q876 : (Jvm.Cond.fieldLinkNest "WillowPrinters" (181 : Nat) "WillowPrinters$Lot" "plates" "I" "WillowPrinters") ∈ lw_tbl := lw_at lw_m4 102 rfl
theorem q880 : (Jvm.Cond.fieldLinkNest "WillowPrinters" (186 : Nat) "WillowPrinters$Lot" "state" "LWillowPrinters$State;" "WillowPrinters") ∈ lw_tbl := lw_at lw_m4 106 rfl
theorem q901 : (Jvm.Cond.fieldLinkNest "WillowPrinters" (222 : Nat) "WillowPrinters$Kiln" "room" "I" "WillowPrinters") ∈ lw_tbl := lw_at lw_m4 127 rfl
theorem q903 : (Jvm.Cond.fieldLinkNest "WillowPrinters" (228 : Nat) "WillowPrinters$Kiln" "fired" "I" "WillowPrinters") ∈ lw_tbl := lw_at lw_m4 129 rfl
theorem q923 : (Jvm.Cond.fieldLinkNest "WillowPrinters" (249 : Nat) "WillowPrinters$Crate" "room" "I" "WillowPrinters") ∈ lw_tbl := lw_at lw_m4 149 rfl
theorem q926 : (Jvm.Cond.fieldLinkNest "WillowPrinters" (252 : Nat) "WillowPrinters$Crate" "plates" "I" "WillowPrinters") ∈ lw_tbl := lw_at lw_m4 152 rfl
theorem q929 : (Jvm.Cond.fieldLinkNest "WillowPrinters" (256 : Nat) "WillowPrinters$Crate" "worth" "I" "WillowPrinters") ∈ lw_tbl := lw_at lw_m4 155 rfl
theorem q932 : (Jvm.Cond.fieldLinkNest "WillowPrinters" (253 : Nat) "WillowPrinters$Crate" "straw" "I" "WillowPrinters") ∈ lw_tbl := lw_at lw_m4 158 rfl
theorem q942 : (Jvm.Cond.interfaceEntry "WillowPrinters" (107 : Nat)) ∈ lw_tbl := lw_at lw_m4 168 rfl
theorem q943 : (Jvm.Cond.methodLink "WillowPrinters" (107 : Nat) ({ cls := "WillowPrinters$Change", name := "make", desc := "(LWillowPrinters$House;)I" } : Jvm.MethodName)) ∈ lw_all := lw_g (lw_at lw_m4 169 rfl) rfl
theorem q946 : (Jvm.Cond.classLink "WillowPrinters" (119 : Nat) "java/lang/UnsupportedOperationException") ∈ lw_all := lw_g (lw_at lw_m4 172 rfl) rfl
theorem q955 : (Jvm.Cond.methodLink "WillowPrinters" (121 : Nat) ({ cls := "java/lang/UnsupportedOperationException", name := "<init>", desc := "()V" } : Jvm.MethodName)) ∈ lw_all := lw_g (lw_at lw_m4 181 rfl) rfl
theorem q961 : (Jvm.Cond.methodLink "WillowPrinters" (122 : Nat) ({ cls := "WillowPrinters", name := "become", desc := "(LWillowPrinters$House;)V" } : Jvm.MethodName)) ∈ lw_all := lw_g (lw_at lw_m4 187 rfl) rfl
theorem q962 : (Jvm.Cond.privateMethod ({ cls := "WillowPrinters", name := "become", desc := "(LWillowPrinters$House;)V" } : Jvm.MethodName)) ∈ lw_tbl := lw_at lw_m4 188 rfl
theorem q963 : (Jvm.Cond.instanceMethod ({ cls := "WillowPrinters", name := "become", desc := "(LWillowPrinters$House;)V" } : Jvm.MethodName)) ∈ lw_all := lw_g (lw_at lw_m4 189 rfl) rfl
theorem q964 : (Jvm.Cond.code ({ cls := "WillowPrinters", name := "become", desc := "(LWillowPrinters$House;)V" } : Jvm.MethodName) prog_1_method_11_code (3 : Nat) (Option.none : Option Jvm.ClassFile.FieldType)) ∈ lw_all := lw_g (lw_at lw_m4 190 rfl) rfl
theorem q965 : (Jvm.Cond.methodLink "WillowPrinters" (94 : Nat) ({ cls := "java/util/ArrayDeque", name := "size", desc := "()I" } : Jvm.MethodName)) ∈ lw_all := lw_g (lw_at lw_m4 191 rfl) rfl
theorem q972 : (Jvm.Cond.methodLink "WillowPrinters" (95 : Nat) ({ cls := "java/util/ArrayDeque", name := "removeFirst", desc := "()Ljava/lang/Object;" } : Jvm.MethodName)) ∈ lw_all := lw_g (lw_at lw_m4 198 rfl) rfl
theorem q988 : (Jvm.Cond.methodLink "WillowPrinters" (99 : Nat) ({ cls := "java/util/ArrayDeque", name := "addLast", desc := "(Ljava/lang/Object;)V" } : Jvm.MethodName)) ∈ lw_all := lw_g (lw_at lw_m4 214 rfl) rfl
theorem q1024 : (Jvm.Cond.instanceMethod ({ cls := "WillowPrinters", name := "damp", desc := "(I)I" } : Jvm.MethodName)) ∈ lw_all := lw_g (lw_at lw_m5 10 rfl) rfl
theorem q1025 : (Jvm.Cond.selects "WillowPrinters" ({ cls := "WillowPrinters", name := "damp", desc := "(I)I" } : Jvm.MethodName) ({ cls := "WillowPrinters", name := "damp", desc := "(I)I" } : Jvm.MethodName)) ∈ lw_all := lw_g (lw_at lw_m5 11 rfl) rfl
theorem q1026 : (Jvm.Cond.code ({ cls := "WillowPrinters", name := "damp", desc := "(I)I" } : Jvm.MethodName) prog_1_method_15_code (2 : Nat) (Option.some Jvm.ClassFile.FieldType.int)) ∈ lw_all := lw_g (lw_at lw_m5 12 rfl) rfl
theorem q1027 : (Jvm.Cond.static ({ cls := "WillowPrinters", name := "lambda$damp$2", desc := "(ILWillowPrinters$House;)I" } : Jvm.MethodName)) ∈ lw_all := lw_g (lw_at lw_m5 13 rfl) rfl
theorem q1028 : (Jvm.Cond.code ({ cls := "WillowPrinters", name := "lambda$damp$2", desc := "(ILWillowPrinters$House;)I" } : Jvm.MethodName) prog_1_method_66_code (2 : Nat) (Option.some Jvm.ClassFile.FieldType.int)) ∈ lw_all := lw_g (lw_at lw_m5 14 rfl) rfl
theorem q1029 : (Jvm.Cond.methodLink "WillowPrinters" (448 : Nat) ({ cls := "WillowPrinters$House", name := "setDamp", desc := "(I)I" } : Jvm.MethodName)) ∈ lw_all := lw_g (lw_at lw_m5 15 rfl) rfl
theorem q1039 : (Jvm.Cond.instanceMethod ({ cls := "WillowPrinters", name := "copper", desc := "(I)I" } : Jvm.MethodName)) ∈ lw_all := lw_g (lw_at lw_m5 25 rfl) rfl
theorem q1040 : (Jvm.Cond.selects "WillowPrinters" ({ cls := "WillowPrinters", name := "copper", desc := "(I)I" } : Jvm.MethodName) ({ cls := "WillowPrinters", name := "copper", desc := "(I)I" } : Jvm.MethodName)) ∈ lw_all := lw_g (lw_at lw_m5 26 rfl) rfl
theorem q1041 : (Jvm.Cond.code ({ cls := "WillowPrinters", name := "copper", desc := "(I)I" } : Jvm.MethodName) prog_1_method_16_code (2 : Nat) (Option.some Jvm.ClassFile.FieldType.int)) ∈ lw_all := lw_g (lw_at lw_m5 27 rfl) rfl
theorem q1042 : (Jvm.Cond.static ({ cls := "WillowPrinters", name := "lambda$copper$3", desc := "(ILWillowPrinters$House;)I" } : Jvm.MethodName)) ∈ lw_all := lw_g (lw_at lw_m5 28 rfl) rfl
theorem q1043 : (Jvm.Cond.code ({ cls := "WillowPrinters", name := "lambda$copper$3", desc := "(ILWillowPrinters$House;)I" } : Jvm.MethodName) prog_1_method_65_code (2 : Nat) (Option.some Jvm.ClassFile.FieldType.int)) ∈ lw_all := lw_g (lw_at lw_m5 29 rfl) rfl
theorem q1044 : (Jvm.Cond.methodLink "WillowPrinters" (445 : Nat) ({ cls := "WillowPrinters$House", name := "addCopper", desc := "(I)I" } : Jvm.MethodName)) ∈ lw_all := lw_g (lw_at lw_m5 30 rfl) rfl
theorem q1050 : (Jvm.Cond.static ({ cls := "WillowPrinters", name := "checkState", desc := "(Z)V" } : Jvm.MethodName)) ∈ lw_all := lw_g (lw_at lw_m5 36 rfl) rfl
theorem q1051 : (Jvm.Cond.code ({ cls := "WillowPrinters", name := "checkState", desc := "(Z)V" } : Jvm.MethodName) prog_1_method_4_code (1 : Nat) (Option.none : Option Jvm.ClassFile.FieldType)) ∈ lw_all := lw_g (lw_at lw_m5 37 rfl) rfl
theorem q1052 : (Jvm.Cond.classLink "WillowPrinters" (10 : Nat) "java/lang/IllegalStateException") ∈ lw_all := lw_g (lw_at lw_m5 38 rfl) rfl
theorem q1053 : (Jvm.Cond.methodLink "WillowPrinters" (12 : Nat) ({ cls := "java/lang/IllegalStateException", name := "<init>", desc := "()V" } : Jvm.MethodName)) ∈ lw_all := lw_g (lw_at lw_m5 39 rfl) rfl
theorem q1084 : (Jvm.Cond.instanceMethod ({ cls := "WillowPrinters", name := "copperOf", desc := "(II)I" } : Jvm.MethodName)) ∈ lw_all := lw_g (lw_at lw_m5 70 rfl) rfl
theorem q1085 : (Jvm.Cond.selects "WillowPrinters" ({ cls := "WillowPrinters", name := "copperOf", desc := "(II)I" } : Jvm.MethodName) ({ cls := "WillowPrinters", name := "copperOf", desc := "(II)I" } : Jvm.MethodName)) ∈ lw_all := lw_g (lw_at lw_m5 71 rfl) rfl
theorem q1086 : (Jvm.Cond.code ({ cls := "WillowPrinters", name := "copperOf", desc := "(II)I" } : Jvm.MethodName) prog_1_method_17_code (4 : Nat) (Option.some Jvm.ClassFile.FieldType.int)) ∈ lw_all := lw_g (lw_at lw_m5 72 rfl) rfl
theorem q1087 : (Jvm.Cond.methodLink "WillowPrinters" (141 : Nat) ({ cls := "WillowPrinters$House", name := "copper", desc := "(I)LWillowPrinters$Copper;" } : Jvm.MethodName)) ∈ lw_all := lw_g (lw_at lw_m5 73 rfl) rfl
theorem q1095 : (Jvm.Cond.static ({ cls := "WillowPrinters", name := "checkIndex", desc := "(Z)V" } : Jvm.MethodName)) ∈ lw_all := lw_g (lw_at lw_m5 81 rfl) rfl
theorem q1096 : (Jvm.Cond.code ({ cls := "WillowPrinters", name := "checkIndex", desc := "(Z)V" } : Jvm.MethodName) prog_1_method_3_code (1 : Nat) (Option.none : Option Jvm.ClassFile.FieldType)) ∈ lw_all := lw_g (lw_at lw_m5 82 rfl) rfl
theorem q1097 : (Jvm.Cond.classLink "WillowPrinters" (7 : Nat) "java/lang/IndexOutOfBoundsException") ∈ lw_all := lw_g (lw_at lw_m5 83 rfl) rfl
theorem q1106 : (Jvm.Cond.methodLink "WillowPrinters" (9 : Nat) ({ cls := "java/lang/IndexOutOfBoundsException", name := "<init>", desc := "()V" } : Jvm.MethodName)) ∈ lw_all := lw_g (lw_at lw_m5 92 rfl) rfl
theorem q1113 : (Jvm.Cond.methodLink "WillowPrinters" (156 : Nat) ({ cls := "WillowPrinters$Copper", name := "well", desc := "(I)I" } : Jvm.MethodName)) ∈ lw_all := lw_g (lw_at lw_m5 99 rfl) rfl
theorem q1125 : (Jvm.Cond.instanceMethod ({ cls := "WillowPrinters", name := "wellAgain", desc := "(I)I" } : Jvm.MethodName)) ∈ lw_all := lw_g (lw_at lw_m5 111 rfl) rfl
theorem q1126 : (Jvm.Cond.selects "WillowPrinters" ({ cls := "WillowPrinters", name := "wellAgain", desc := "(I)I" } : Jvm.MethodName) ({ cls := "WillowPrinters", name := "wellAgain", desc := "(I)I" } : Jvm.MethodName)) ∈ lw_all := lw_g (lw_at lw_m5 112 rfl) rfl
theorem q1127 : (Jvm.Cond.code ({ cls := "WillowPrinters", name := "wellAgain", desc := "(I)I" } : Jvm.MethodName) prog_1_method_18_code (2 : Nat) (Option.some Jvm.ClassFile.FieldType.int)) ∈ lw_all := lw_g (lw_at lw_m5 113 rfl) rfl
theorem q1128 : (Jvm.Cond.methodLink "WillowPrinters" (163 : Nat) ({ cls := "WillowPrinters$Copper", name := "wellAgain", desc := "(I)I" } : Jvm.MethodName)) ∈ lw_all := lw_g (lw_at lw_m5 114 rfl) rfl
theorem q1138 : (Jvm.Cond.instanceMethod ({ cls := "WillowPrinters", name := "bestCopper", desc := "(I)I" } : Jvm.MethodName)) ∈ lw_all := lw_g (lw_at lw_m5 124 rfl) rfl
theorem q1139 : (Jvm.Cond.selects "WillowPrinters" ({ cls := "WillowPrinters", name := "bestCopper", desc := "(I)I" } : Jvm.MethodName) ({ cls := "WillowPrinters", name := "bestCopper", desc := "(I)I" } : Jvm.MethodName)) ∈ lw_all := lw_g (lw_at lw_m5 125 rfl) rfl
theorem q1140 : (Jvm.Cond.code ({ cls := "WillowPrinters", name := "bestCopper", desc := "(I)I" } : Jvm.MethodName) prog_1_method_19_code (3 : Nat) (Option.some Jvm.ClassFile.FieldType.int)) ∈ lw_all := lw_g (lw_at lw_m5 126 rfl) rfl
theorem q1141 : (Jvm.Cond.methodLink "WillowPrinters" (166 : Nat) ({ cls := "WillowPrinters$House", name := "lot", desc := "(I)LWillowPrinters$Lot;" } : Jvm.MethodName)) ∈ lw_all := lw_g (lw_at lw_m5 127 rfl) rfl
theorem q1145 : (Jvm.Cond.methodLink "WillowPrinters" (170 : Nat) ({ cls := "WillowPrinters$House", name := "bestCopper", desc := "(LWillowPrinters$Lot;)LWillowPrinters$Copper;" } : Jvm.MethodName)) ∈ lw_all := lw_g (lw_at lw_m5 131 rfl) rfl
theorem q1158 : (Jvm.Cond.methodLink "WillowPrinters" (174 : Nat) ({ cls := "WillowPrinters", name := "checkElement", desc := "(Z)V" } : Jvm.MethodName)) ∈ lw_all := lw_g (lw_at lw_m5 144 rfl) rfl
theorem q1159 : (Jvm.Cond.static ({ cls := "WillowPrinters", name := "checkElement", desc := "(Z)V" } : Jvm.MethodName)) ∈ lw_all := lw_g (lw_at lw_m5 145 rfl) rfl
theorem q1160 : (Jvm.Cond.code ({ cls := "WillowPrinters", name := "checkElement", desc := "(Z)V" } : Jvm.MethodName) prog_1_method_5_code (1 : Nat) (Option.none : Option Jvm.ClassFile.FieldType)) ∈ lw_all := lw_g (lw_at lw_m5 146 rfl) rfl
theorem q1161 : (Jvm.Cond.classLink "WillowPrinters" (13 : Nat) "java/util/NoSuchElementException") ∈ lw_all := lw_g (lw_at lw_m5 147 rfl) rfl
theorem q1162 : (Jvm.Cond.methodLink "WillowPrinters" (15 : Nat) ({ cls := "java/util/NoSuchElementException", name := "<init>", desc := "()V" } : Jvm.MethodName)) ∈ lw_all := lw_g (lw_at lw_m5 148 rfl) rfl
theorem q1167 : (Jvm.Cond.instanceMethod ({ cls := "WillowPrinters", name := "lot", desc := "(I)I" } : Jvm.MethodName)) ∈ lw_all := lw_g (lw_at lw_m5 153 rfl) rfl
theorem q1168 : (Jvm.Cond.selects "WillowPrinters" ({ cls := "WillowPrinters", name := "lot", desc := "(I)I" } : Jvm.MethodName) ({ cls := "WillowPrinters", name := "lot", desc := "(I)I" } : Jvm.MethodName)) ∈ lw_all := lw_g (lw_at lw_m5 154 rfl) rfl
theorem q1169 : (Jvm.Cond.code ({ cls := "WillowPrinters", name := "lot", desc := "(I)I" } : Jvm.MethodName) prog_1_method_20_code (2 : Nat) (Option.some Jvm.ClassFile.FieldType.int)) ∈ lw_all := lw_g (lw_at lw_m5 155 rfl) rfl
theorem q1170 : (Jvm.Cond.static ({ cls := "WillowPrinters", name := "lambda$lot$4", desc := "(ILWillowPrinters$House;)I" } : Jvm.MethodName)) ∈ lw_all := lw_g (lw_at lw_m5 156 rfl) rfl
theorem q1171 : (Jvm.Cond.code ({ cls := "WillowPrinters", name := "lambda$lot$4", desc := "(ILWillowPrinters$House;)I" } : Jvm.MethodName) prog_1_method_64_code (2 : Nat) (Option.some Jvm.ClassFile.FieldType.int)) ∈ lw_all := lw_g (lw_at lw_m5 157 rfl) rfl
theorem q1172 : (Jvm.Cond.methodLink "WillowPrinters" (442 : Nat) ({ cls := "WillowPrinters$House", name := "buyLot", desc := "(I)I" } : Jvm.MethodName)) ∈ lw_all := lw_g (lw_at lw_m5 158 rfl) rfl
theorem q1182 : (Jvm.Cond.instanceMethod ({ cls := "WillowPrinters", name := "lotOf", desc := "(II)I" } : Jvm.MethodName)) ∈ lw_all := lw_g (lw_at lw_m5 168 rfl) rfl
theorem q1183 : (Jvm.Cond.selects "WillowPrinters" ({ cls := "WillowPrinters", name := "lotOf", desc := "(II)I" } : Jvm.MethodName) ({ cls := "WillowPrinters", name := "lotOf", desc := "(II)I" } : Jvm.MethodName)) ∈ lw_all := lw_g (lw_at lw_m5 169 rfl) rfl
theorem q1184 : (Jvm.Cond.code ({ cls := "WillowPrinters", name := "lotOf", desc := "(II)I" } : Jvm.MethodName) prog_1_method_21_code (4 : Nat) (Option.some Jvm.ClassFile.FieldType.int)) ∈ lw_all := lw_g (lw_at lw_m5 170 rfl) rfl
theorem q1185 : (Jvm.Cond.interfaceEntry "WillowPrinters" (190 : Nat)) ∈ lw_tbl := lw_at lw_m5 171 rfl
theorem q1186 : (Jvm.Cond.methodLink "WillowPrinters" (190 : Nat) ({ cls := "WillowPrinters$State", name := "stage", desc := "()LWillowPrinters$Stage;" } : Jvm.MethodName)) ∈ lw_all := lw_g (lw_at lw_m5 172 rfl) rfl
theorem q1221 : (Jvm.Cond.methodLink "WillowPrinters" (196 : Nat) ({ cls := "WillowPrinters$Stage", name := "ordinal", desc := "()I" } : Jvm.MethodName)) ∈ lw_all := lw_g (lw_at lw_m5 207 rfl) rfl
theorem q1230 : (Jvm.Cond.interfaceEntry "WillowPrinters" (201 : Nat)) ∈ lw_tbl := lw_at lw_m5 216 rfl
theorem q1231 : (Jvm.Cond.methodLink "WillowPrinters" (201 : Nat) ({ cls := "WillowPrinters$State", name := "well", desc := "()I" } : Jvm.MethodName)) ∈ lw_all := lw_g (lw_at lw_m5 217 rfl) rfl
theorem q1253 : (Jvm.Cond.methodLink "WillowPrinters" (203 : Nat) ({ cls := "WillowPrinters$Lot", name := "kiln", desc := "()I" } : Jvm.MethodName)) ∈ lw_all := lw_g (lw_at lw_m5 239 rfl) rfl
theorem q1258 : (Jvm.Cond.methodLink "WillowPrinters" (206 : Nat) ({ cls := "WillowPrinters$Lot", name := "cone", desc := "()I" } : Jvm.MethodName)) ∈ lw_all := lw_g (lw_at lw_m6 4 rfl) rfl
theorem q1263 : (Jvm.Cond.methodLink "WillowPrinters" (209 : Nat) ({ cls := "WillowPrinters$Lot", name := "hours", desc := "()I" } : Jvm.MethodName)) ∈ lw_all := lw_g (lw_at lw_m6 9 rfl) rfl
theorem q1271 : (Jvm.Cond.instanceMethod ({ cls := "WillowPrinters", name := "print", desc := "(II)I" } : Jvm.MethodName)) ∈ lw_all := lw_g (lw_at lw_m6 17 rfl) rfl
theorem q1272 : (Jvm.Cond.selects "WillowPrinters" ({ cls := "WillowPrinters", name := "print", desc := "(II)I" } : Jvm.MethodName) ({ cls := "WillowPrinters", name := "print", desc := "(II)I" } : Jvm.MethodName)) ∈ lw_all := lw_g (lw_at lw_m6 18 rfl) rfl
theorem q1273 : (Jvm.Cond.code ({ cls := "WillowPrinters", name := "print", desc := "(II)I" } : Jvm.MethodName) prog_1_method_22_code (3 : Nat) (Option.some Jvm.ClassFile.FieldType.int)) ∈ lw_all := lw_g (lw_at lw_m6 19 rfl) rfl
theorem q1274 : (Jvm.Cond.static ({ cls := "WillowPrinters", name := "lambda$print$5", desc := "(IILWillowPrinters$House;)I" } : Jvm.MethodName)) ∈ lw_all := lw_g (lw_at lw_m6 20 rfl) rfl
theorem q1275 : (Jvm.Cond.code ({ cls := "WillowPrinters", name := "lambda$print$5", desc := "(IILWillowPrinters$House;)I" } : Jvm.MethodName) prog_1_method_63_code (3 : Nat) (Option.some Jvm.ClassFile.FieldType.int)) ∈ lw_all := lw_g (lw_at lw_m6 21 rfl) rfl
theorem q1276 : (Jvm.Cond.methodLink "WillowPrinters" (439 : Nat) ({ cls := "WillowPrinters$House", name := "print", desc := "(II)I" } : Jvm.MethodName)) ∈ lw_all := lw_g (lw_at lw_m6 22 rfl) rfl
theorem q1310 : (Jvm.Cond.instanceMethod ({ cls := "WillowPrinters", name := "kiln", desc := "(I)I" } : Jvm.MethodName)) ∈ lw_all := lw_g (lw_at lw_m6 56 rfl) rfl
theorem q1311 : (Jvm.Cond.selects "WillowPrinters" ({ cls := "WillowPrinters", name := "kiln", desc := "(I)I" } : Jvm.MethodName) ({ cls := "WillowPrinters", name := "kiln", desc := "(I)I" } : Jvm.MethodName)) ∈ lw_all := lw_g (lw_at lw_m6 57 rfl) rfl
theorem q1312 : (Jvm.Cond.code ({ cls := "WillowPrinters", name := "kiln", desc := "(I)I" } : Jvm.MethodName) prog_1_method_23_code (2 : Nat) (Option.some Jvm.ClassFile.FieldType.int)) ∈ lw_all := lw_g (lw_at lw_m6 58 rfl) rfl
theorem q1313 : (Jvm.Cond.static ({ cls := "WillowPrinters", name := "lambda$kiln$6", desc := "(ILWillowPrinters$House;)I" } : Jvm.MethodName)) ∈ lw_all := lw_g (lw_at lw_m6 59 rfl) rfl
theorem q1314 : (Jvm.Cond.code ({ cls := "WillowPrinters", name := "lambda$kiln$6", desc := "(ILWillowPrinters$House;)I" } : Jvm.MethodName) prog_1_method_62_code (2 : Nat) (Option.some Jvm.ClassFile.FieldType.int)) ∈ lw_all := lw_g (lw_at lw_m6 60 rfl) rfl
theorem q1315 : (Jvm.Cond.methodLink "WillowPrinters" (436 : Nat) ({ cls := "WillowPrinters$House", name := "addKiln", desc := "(I)I" } : Jvm.MethodName)) ∈ lw_all := lw_g (lw_at lw_m6 61 rfl) rfl
theorem q1326 : (Jvm.Cond.instanceMethod ({ cls := "WillowPrinters", name := "kilnOf", desc := "(II)I" } : Jvm.MethodName)) ∈ lw_all := lw_g (lw_at lw_m6 72 rfl) rfl
theorem q1327 : (Jvm.Cond.selects "WillowPrinters" ({ cls := "WillowPrinters", name := "kilnOf", desc := "(II)I" } : Jvm.MethodName) ({ cls := "WillowPrinters", name := "kilnOf", desc := "(II)I" } : Jvm.MethodName)) ∈ lw_all := lw_g (lw_at lw_m6 73 rfl) rfl
theorem q1328 : (Jvm.Cond.code ({ cls := "WillowPrinters", name := "kilnOf", desc := "(II)I" } : Jvm.MethodName) prog_1_method_24_code (5 : Nat) (Option.some Jvm.ClassFile.FieldType.int)) ∈ lw_all := lw_g (lw_at lw_m6 74 rfl) rfl
theorem q1329 : (Jvm.Cond.methodLink "WillowPrinters" (216 : Nat) ({ cls := "WillowPrinters$House", name := "kiln", desc := "(I)LWillowPrinters$Kiln;" } : Jvm.MethodName)) ∈ lw_all := lw_g (lw_at lw_m6 75 rfl) rfl
theorem q1333 : (Jvm.Cond.methodLink "WillowPrinters" (219 : Nat) ({ cls := "WillowPrinters$House", name := "lotIn", desc := "(I)LWillowPrinters$Lot;" } : Jvm.MethodName)) ∈ lw_all := lw_g (lw_at lw_m6 79 rfl) rfl
theorem q1342 : (Jvm.Cond.instanceMethod ({ cls := "WillowPrinters", name := "fire", desc := "(III)I" } : Jvm.MethodName)) ∈ lw_all := lw_g (lw_at lw_m6 88 rfl) rfl
theorem q1343 : (Jvm.Cond.selects "WillowPrinters" ({ cls := "WillowPrinters", name := "fire", desc := "(III)I" } : Jvm.MethodName) ({ cls := "WillowPrinters", name := "fire", desc := "(III)I" } : Jvm.MethodName)) ∈ lw_all := lw_g (lw_at lw_m6 89 rfl) rfl
theorem q1344 : (Jvm.Cond.code ({ cls := "WillowPrinters", name := "fire", desc := "(III)I" } : Jvm.MethodName) prog_1_method_25_code (4 : Nat) (Option.some Jvm.ClassFile.FieldType.int)) ∈ lw_all := lw_g (lw_at lw_m6 90 rfl) rfl
theorem q1345 : (Jvm.Cond.static ({ cls := "WillowPrinters", name := "lambda$fire$7", desc := "(IIILWillowPrinters$House;)I" } : Jvm.MethodName)) ∈ lw_all := lw_g (lw_at lw_m6 91 rfl) rfl
theorem q1346 : (Jvm.Cond.code ({ cls := "WillowPrinters", name := "lambda$fire$7", desc := "(IIILWillowPrinters$House;)I" } : Jvm.MethodName) prog_1_method_61_code (4 : Nat) (Option.some Jvm.ClassFile.FieldType.int)) ∈ lw_all := lw_g (lw_at lw_m6 92 rfl) rfl
theorem q1347 : (Jvm.Cond.methodLink "WillowPrinters" (433 : Nat) ({ cls := "WillowPrinters$House", name := "fire", desc := "(III)I" } : Jvm.MethodName)) ∈ lw_all := lw_g (lw_at lw_m6 93 rfl) rfl
theorem q1353 : (Jvm.Cond.static ({ cls := "WillowPrinters", name := "checkCone", desc := "(I)V" } : Jvm.MethodName)) ∈ lw_all := lw_g (lw_at lw_m6 99 rfl) rfl
theorem q1354 : (Jvm.Cond.code ({ cls := "WillowPrinters", name := "checkCone", desc := "(I)V" } : Jvm.MethodName) prog_1_method_7_code (1 : Nat) (Option.none : Option Jvm.ClassFile.FieldType)) ∈ lw_all := lw_g (lw_at lw_m6 100 rfl) rfl
theorem q1355 : (Jvm.Cond.constantLong "WillowPrinters" (21 : Nat) (9 : Int64)) ∈ lw_all := lw_g (lw_at lw_m6 101 rfl) rfl
theorem q1356 : (Jvm.Cond.methodLink "WillowPrinters" (23 : Nat) ({ cls := "WillowPrinters", name := "inRange", desc := "(JJJ)Z" } : Jvm.MethodName)) ∈ lw_all := lw_g (lw_at lw_m6 102 rfl) rfl
theorem q1357 : (Jvm.Cond.methodLink "WillowPrinters" (27 : Nat) ({ cls := "WillowPrinters", name := "checkArgument", desc := "(Z)V" } : Jvm.MethodName)) ∈ lw_all := lw_g (lw_at lw_m6 103 rfl) rfl
theorem q1388 : (Jvm.Cond.instanceMethod ({ cls := "WillowPrinters", name := "wouldChip", desc := "(II)I" } : Jvm.MethodName)) ∈ lw_all := lw_g (lw_at lw_m6 134 rfl) rfl
theorem q1389 : (Jvm.Cond.selects "WillowPrinters" ({ cls := "WillowPrinters", name := "wouldChip", desc := "(II)I" } : Jvm.MethodName) ({ cls := "WillowPrinters", name := "wouldChip", desc := "(II)I" } : Jvm.MethodName)) ∈ lw_all := lw_g (lw_at lw_m6 135 rfl) rfl
theorem q1390 : (Jvm.Cond.code ({ cls := "WillowPrinters", name := "wouldChip", desc := "(II)I" } : Jvm.MethodName) prog_1_method_26_code (4 : Nat) (Option.some Jvm.ClassFile.FieldType.int)) ∈ lw_all := lw_g (lw_at lw_m6 136 rfl) rfl
theorem q1391 : (Jvm.Cond.methodLink "WillowPrinters" (234 : Nat) ({ cls := "WillowPrinters", name := "checkCone", desc := "(I)V" } : Jvm.MethodName)) ∈ lw_all := lw_g (lw_at lw_m6 137 rfl) rfl
theorem q1392 : (Jvm.Cond.methodLink "WillowPrinters" (238 : Nat) ({ cls := "WillowPrinters$Lot", name := "wouldChip", desc := "(I)I" } : Jvm.MethodName)) ∈ lw_all := lw_g (lw_at lw_m6 138 rfl) rfl
theorem q1402 : (Jvm.Cond.instanceMethod ({ cls := "WillowPrinters", name := "firstDone", desc := "()I" } : Jvm.MethodName)) ∈ lw_all := lw_g (lw_at lw_m6 148 rfl) rfl
theorem q1403 : (Jvm.Cond.selects "WillowPrinters" ({ cls := "WillowPrinters", name := "firstDone", desc := "()I" } : Jvm.MethodName) ({ cls := "WillowPrinters", name := "firstDone", desc := "()I" } : Jvm.MethodName)) ∈ lw_all := lw_g (lw_at lw_m6 149 rfl) rfl
theorem q1404 : (Jvm.Cond.code ({ cls := "WillowPrinters", name := "firstDone", desc := "()I" } : Jvm.MethodName) prog_1_method_27_code (2 : Nat) (Option.some Jvm.ClassFile.FieldType.int)) ∈ lw_all := lw_g (lw_at lw_m6 150 rfl) rfl
theorem q1405 : (Jvm.Cond.methodLink "WillowPrinters" (241 : Nat) ({ cls := "WillowPrinters$House", name := "firstDone", desc := "()I" } : Jvm.MethodName)) ∈ lw_all := lw_g (lw_at lw_m6 151 rfl) rfl
theorem q1415 : (Jvm.Cond.instanceMethod ({ cls := "WillowPrinters", name := "crate", desc := "(I)I" } : Jvm.MethodName)) ∈ lw_all := lw_g (lw_at lw_m6 161 rfl) rfl
theorem q1416 : (Jvm.Cond.selects "WillowPrinters" ({ cls := "WillowPrinters", name := "crate", desc := "(I)I" } : Jvm.MethodName) ({ cls := "WillowPrinters", name := "crate", desc := "(I)I" } : Jvm.MethodName)) ∈ lw_all := lw_g (lw_at lw_m6 162 rfl) rfl
theorem q1417 : (Jvm.Cond.code ({ cls := "WillowPrinters", name := "crate", desc := "(I)I" } : Jvm.MethodName) prog_1_method_28_code (2 : Nat) (Option.some Jvm.ClassFile.FieldType.int)) ∈ lw_all := lw_g (lw_at lw_m6 163 rfl) rfl
theorem q1418 : (Jvm.Cond.static ({ cls := "WillowPrinters", name := "lambda$crate$8", desc := "(ILWillowPrinters$House;)I" } : Jvm.MethodName)) ∈ lw_all := lw_g (lw_at lw_m6 164 rfl) rfl
theorem q1419 : (Jvm.Cond.code ({ cls := "WillowPrinters", name := "lambda$crate$8", desc := "(ILWillowPrinters$House;)I" } : Jvm.MethodName) prog_1_method_60_code (2 : Nat) (Option.some Jvm.ClassFile.FieldType.int)) ∈ lw_all := lw_g (lw_at lw_m6 165 rfl) rfl
theorem q1420 : (Jvm.Cond.methodLink "WillowPrinters" (430 : Nat) ({ cls := "WillowPrinters$House", name := "addCrate", desc := "(I)I" } : Jvm.MethodName)) ∈ lw_all := lw_g (lw_at lw_m6 166 rfl) rfl
theorem q1430 : (Jvm.Cond.instanceMethod ({ cls := "WillowPrinters", name := "crateOf", desc := "(II)I" } : Jvm.MethodName)) ∈ lw_all := lw_g (lw_at lw_m6 176 rfl) rfl
theorem q1431 : (Jvm.Cond.selects "WillowPrinters" ({ cls := "WillowPrinters", name := "crateOf", desc := "(II)I" } : Jvm.MethodName) ({ cls := "WillowPrinters", name := "crateOf", desc := "(II)I" } : Jvm.MethodName)) ∈ lw_all := lw_g (lw_at lw_m6 177 rfl) rfl
theorem q1432 : (Jvm.Cond.code ({ cls := "WillowPrinters", name := "crateOf", desc := "(II)I" } : Jvm.MethodName) prog_1_method_29_code (4 : Nat) (Option.some Jvm.ClassFile.FieldType.int)) ∈ lw_all := lw_g (lw_at lw_m6 178 rfl) rfl
theorem q1433 : (Jvm.Cond.methodLink "WillowPrinters" (245 : Nat) ({ cls := "WillowPrinters$House", name := "crate", desc := "(I)LWillowPrinters$Crate;" } : Jvm.MethodName)) ∈ lw_all := lw_g (lw_at lw_m6 179 rfl) rfl
theorem q1437 : (Jvm.Cond.methodLink "WillowPrinters" (259 : Nat) ({ cls := "WillowPrinters$Crate", name := "coins", desc := "()I" } : Jvm.MethodName)) ∈ lw_all := lw_g (lw_at lw_m6 183 rfl) rfl
theorem q1446 : (Jvm.Cond.methodLink "WillowPrinters" (262 : Nat) ({ cls := "WillowPrinters$Crate", name := "chips", desc := "()I" } : Jvm.MethodName)) ∈ lw_all := lw_g (lw_at lw_m6 192 rfl) rfl
theorem q1451 : (Jvm.Cond.instanceMethod ({ cls := "WillowPrinters", name := "straw", desc := "(II)I" } : Jvm.MethodName)) ∈ lw_all := lw_g (lw_at lw_m6 197 rfl) rfl
theorem q1452 : (Jvm.Cond.selects "WillowPrinters" ({ cls := "WillowPrinters", name := "straw", desc := "(II)I" } : Jvm.MethodName) ({ cls := "WillowPrinters", name := "straw", desc := "(II)I" } : Jvm.MethodName)) ∈ lw_all := lw_g (lw_at lw_m6 198 rfl) rfl
theorem q1453 : (Jvm.Cond.code ({ cls := "WillowPrinters", name := "straw", desc := "(II)I" } : Jvm.MethodName) prog_1_method_30_code (3 : Nat) (Option.some Jvm.ClassFile.FieldType.int)) ∈ lw_all := lw_g (lw_at lw_m6 199 rfl) rfl
theorem q1454 : (Jvm.Cond.static ({ cls := "WillowPrinters", name := "lambda$straw$9", desc := "(IILWillowPrinters$House;)I" } : Jvm.MethodName)) ∈ lw_all := lw_g (lw_at lw_m6 200 rfl) rfl
theorem q1455 : (Jvm.Cond.code ({ cls := "WillowPrinters", name := "lambda$straw$9", desc := "(IILWillowPrinters$House;)I" } : Jvm.MethodName) prog_1_method_59_code (3 : Nat) (Option.some Jvm.ClassFile.FieldType.int)) ∈ lw_all := lw_g (lw_at lw_m6 201 rfl) rfl
theorem q1456 : (Jvm.Cond.methodLink "WillowPrinters" (426 : Nat) ({ cls := "WillowPrinters$House", name := "addStraw", desc := "(II)I" } : Jvm.MethodName)) ∈ lw_all := lw_g (lw_at lw_m6 202 rfl) rfl
theorem q1465 : (Jvm.Cond.instanceMethod ({ cls := "WillowPrinters", name := "pack", desc := "(III)I" } : Jvm.MethodName)) ∈ lw_all := lw_g (lw_at lw_m6 211 rfl) rfl
theorem q1466 : (Jvm.Cond.selects "WillowPrinters" ({ cls := "WillowPrinters", name := "pack", desc := "(III)I" } : Jvm.MethodName) ({ cls := "WillowPrinters", name := "pack", desc := "(III)I" } : Jvm.MethodName)) ∈ lw_all := lw_g (lw_at lw_m6 212 rfl) rfl
theorem q1467 : (Jvm.Cond.code ({ cls := "WillowPrinters", name := "pack", desc := "(III)I" } : Jvm.MethodName) prog_1_method_31_code (4 : Nat) (Option.some Jvm.ClassFile.FieldType.int)) ∈ lw_all := lw_g (lw_at lw_m6 213 rfl) rfl
theorem q1468 : (Jvm.Cond.static ({ cls := "WillowPrinters", name := "lambda$pack$10", desc := "(IIILWillowPrinters$House;)I" } : Jvm.MethodName)) ∈ lw_all := lw_g (lw_at lw_m6 214 rfl) rfl
theorem q1469 : (Jvm.Cond.code ({ cls := "WillowPrinters", name := "lambda$pack$10", desc := "(IIILWillowPrinters$House;)I" } : Jvm.MethodName) prog_1_method_58_code (4 : Nat) (Option.some Jvm.ClassFile.FieldType.int)) ∈ lw_all := lw_g (lw_at lw_m6 215 rfl) rfl
theorem q1470 : (Jvm.Cond.methodLink "WillowPrinters" (422 : Nat) ({ cls := "WillowPrinters$House", name := "pack", desc := "(III)I" } : Jvm.MethodName)) ∈ lw_all := lw_g (lw_at lw_m6 216 rfl) rfl
theorem q1479 : (Jvm.Cond.instanceMethod ({ cls := "WillowPrinters", name := "carry", desc := "(I)I" } : Jvm.MethodName)) ∈ lw_all := lw_g (lw_at lw_m6 225 rfl) rfl
theorem q1480 : (Jvm.Cond.selects "WillowPrinters" ({ cls := "WillowPrinters", name := "carry", desc := "(I)I" } : Jvm.MethodName) ({ cls := "WillowPrinters", name := "carry", desc := "(I)I" } : Jvm.MethodName)) ∈ lw_all := lw_g (lw_at lw_m6 226 rfl) rfl
theorem q1481 : (Jvm.Cond.code ({ cls := "WillowPrinters", name := "carry", desc := "(I)I" } : Jvm.MethodName) prog_1_method_32_code (2 : Nat) (Option.some Jvm.ClassFile.FieldType.int)) ∈ lw_all := lw_g (lw_at lw_m6 227 rfl) rfl
theorem q1482 : (Jvm.Cond.static ({ cls := "WillowPrinters", name := "lambda$carry$11", desc := "(ILWillowPrinters$House;)I" } : Jvm.MethodName)) ∈ lw_all := lw_g (lw_at lw_m6 228 rfl) rfl
theorem q1483 : (Jvm.Cond.code ({ cls := "WillowPrinters", name := "lambda$carry$11", desc := "(ILWillowPrinters$House;)I" } : Jvm.MethodName) prog_1_method_57_code (2 : Nat) (Option.some Jvm.ClassFile.FieldType.int)) ∈ lw_all := lw_g (lw_at lw_m6 229 rfl) rfl
theorem q1484 : (Jvm.Cond.methodLink "WillowPrinters" (419 : Nat) ({ cls := "WillowPrinters$House", name := "carry", desc := "(I)I" } : Jvm.MethodName)) ∈ lw_all := lw_g (lw_at lw_m6 230 rfl) rfl
theorem q1498 : (Jvm.Cond.instanceMethod ({ cls := "WillowPrinters", name := "sell", desc := "()I" } : Jvm.MethodName)) ∈ lw_all := lw_g (lw_at lw_m7 4 rfl) rfl
theorem q1499 : (Jvm.Cond.selects "WillowPrinters" ({ cls := "WillowPrinters", name := "sell", desc := "()I" } : Jvm.MethodName) ({ cls := "WillowPrinters", name := "sell", desc := "()I" } : Jvm.MethodName)) ∈ lw_all := lw_g (lw_at lw_m7 5 rfl) rfl
theorem q1500 : (Jvm.Cond.code ({ cls := "WillowPrinters", name := "sell", desc := "()I" } : Jvm.MethodName) prog_1_method_33_code (1 : Nat) (Option.some Jvm.ClassFile.FieldType.int)) ∈ lw_all := lw_g (lw_at lw_m7 6 rfl) rfl
theorem q1501 : (Jvm.Cond.static ({ cls := "WillowPrinters", name := "lambda$sell$12", desc := "(LWillowPrinters$House;)I" } : Jvm.MethodName)) ∈ lw_all := lw_g (lw_at lw_m7 7 rfl) rfl
theorem q1502 : (Jvm.Cond.code ({ cls := "WillowPrinters", name := "lambda$sell$12", desc := "(LWillowPrinters$House;)I" } : Jvm.MethodName) prog_1_method_56_code (1 : Nat) (Option.some Jvm.ClassFile.FieldType.int)) ∈ lw_all := lw_g (lw_at lw_m7 8 rfl) rfl
theorem q1503 : (Jvm.Cond.methodLink "WillowPrinters" (416 : Nat) ({ cls := "WillowPrinters$House", name := "sell", desc := "()I" } : Jvm.MethodName)) ∈ lw_all := lw_g (lw_at lw_m7 9 rfl) rfl
theorem q1511 : (Jvm.Cond.instanceMethod ({ cls := "WillowPrinters", name := "pass", desc := "(I)I" } : Jvm.MethodName)) ∈ lw_all := lw_g (lw_at lw_m7 17 rfl) rfl
theorem q1512 : (Jvm.Cond.selects "WillowPrinters" ({ cls := "WillowPrinters", name := "pass", desc := "(I)I" } : Jvm.MethodName) ({ cls := "WillowPrinters", name := "pass", desc := "(I)I" } : Jvm.MethodName)) ∈ lw_all := lw_g (lw_at lw_m7 18 rfl) rfl
theorem q1513 : (Jvm.Cond.code ({ cls := "WillowPrinters", name := "pass", desc := "(I)I" } : Jvm.MethodName) prog_1_method_34_code (2 : Nat) (Option.some Jvm.ClassFile.FieldType.int)) ∈ lw_all := lw_g (lw_at lw_m7 19 rfl) rfl
theorem q1514 : (Jvm.Cond.static ({ cls := "WillowPrinters", name := "lambda$pass$13", desc := "(ILWillowPrinters$House;)I" } : Jvm.MethodName)) ∈ lw_all := lw_g (lw_at lw_m7 20 rfl) rfl
theorem q1515 : (Jvm.Cond.code ({ cls := "WillowPrinters", name := "lambda$pass$13", desc := "(ILWillowPrinters$House;)I" } : Jvm.MethodName) prog_1_method_55_code (2 : Nat) (Option.some Jvm.ClassFile.FieldType.int)) ∈ lw_all := lw_g (lw_at lw_m7 21 rfl) rfl
theorem q1516 : (Jvm.Cond.methodLink "WillowPrinters" (413 : Nat) ({ cls := "WillowPrinters$House", name := "pass", desc := "(I)I" } : Jvm.MethodName)) ∈ lw_all := lw_g (lw_at lw_m7 22 rfl) rfl
theorem q1555 : (Jvm.Cond.instanceMethod ({ cls := "WillowPrinters", name := "line", desc := "(I)I" } : Jvm.MethodName)) ∈ lw_all := lw_g (lw_at lw_m7 61 rfl) rfl
theorem q1556 : (Jvm.Cond.selects "WillowPrinters" ({ cls := "WillowPrinters", name := "line", desc := "(I)I" } : Jvm.MethodName) ({ cls := "WillowPrinters", name := "line", desc := "(I)I" } : Jvm.MethodName)) ∈ lw_all := lw_g (lw_at lw_m7 62 rfl) rfl
theorem q1557 : (Jvm.Cond.code ({ cls := "WillowPrinters", name := "line", desc := "(I)I" } : Jvm.MethodName) prog_1_method_35_code (2 : Nat) (Option.some Jvm.ClassFile.FieldType.int)) ∈ lw_all := lw_g (lw_at lw_m7 63 rfl) rfl
theorem q1558 : (Jvm.Cond.methodLink "WillowPrinters" (272 : Nat) ({ cls := "WillowPrinters$Lot", name := "told", desc := "()Ljava/lang/String;" } : Jvm.MethodName)) ∈ lw_all := lw_g (lw_at lw_m7 64 rfl) rfl
theorem q1612 : (Jvm.Cond.methodLink "WillowPrinters" (276 : Nat) ({ cls := "java/lang/String", name := "length", desc := "()I" } : Jvm.MethodName)) ∈ lw_all := lw_g (lw_at lw_m7 118 rfl) rfl
theorem q1617 : (Jvm.Cond.instanceMethod ({ cls := "WillowPrinters", name := "crateLine", desc := "(I)I" } : Jvm.MethodName)) ∈ lw_all := lw_g (lw_at lw_m7 123 rfl) rfl
theorem q1618 : (Jvm.Cond.selects "WillowPrinters" ({ cls := "WillowPrinters", name := "crateLine", desc := "(I)I" } : Jvm.MethodName) ({ cls := "WillowPrinters", name := "crateLine", desc := "(I)I" } : Jvm.MethodName)) ∈ lw_all := lw_g (lw_at lw_m7 124 rfl) rfl
theorem q1619 : (Jvm.Cond.code ({ cls := "WillowPrinters", name := "crateLine", desc := "(I)I" } : Jvm.MethodName) prog_1_method_36_code (2 : Nat) (Option.some Jvm.ClassFile.FieldType.int)) ∈ lw_all := lw_g (lw_at lw_m7 125 rfl) rfl
theorem q1620 : (Jvm.Cond.methodLink "WillowPrinters" (281 : Nat) ({ cls := "WillowPrinters$Crate", name := "told", desc := "()Ljava/lang/String;" } : Jvm.MethodName)) ∈ lw_all := lw_g (lw_at lw_m7 126 rfl) rfl
theorem q1632 : (Jvm.Cond.instanceMethod ({ cls := "WillowPrinters", name := "character", desc := "(I)C" } : Jvm.MethodName)) ∈ lw_all := lw_g (lw_at lw_m7 138 rfl) rfl
theorem q1633 : (Jvm.Cond.selects "WillowPrinters" ({ cls := "WillowPrinters", name := "character", desc := "(I)C" } : Jvm.MethodName) ({ cls := "WillowPrinters", name := "character", desc := "(I)C" } : Jvm.MethodName)) ∈ lw_all := lw_g (lw_at lw_m7 139 rfl) rfl
theorem q1634 : (Jvm.Cond.code ({ cls := "WillowPrinters", name := "character", desc := "(I)C" } : Jvm.MethodName) prog_1_method_37_code (2 : Nat) (Option.some Jvm.ClassFile.FieldType.char)) ∈ lw_all := lw_g (lw_at lw_m7 140 rfl) rfl
theorem q1635 : (Jvm.Cond.methodLink "WillowPrinters" (282 : Nat) ({ cls := "WillowPrinters", name := "checkIndex", desc := "(Z)V" } : Jvm.MethodName)) ∈ lw_all := lw_g (lw_at lw_m7 141 rfl) rfl
theorem q1636 : (Jvm.Cond.methodLink "WillowPrinters" (285 : Nat) ({ cls := "java/lang/String", name := "charAt", desc := "(I)C" } : Jvm.MethodName)) ∈ lw_all := lw_g (lw_at lw_m7 142 rfl) rfl
theorem q1655 : (Jvm.Cond.instanceMethod ({ cls := "WillowPrinters", name := "refusal", desc := "(Z)I" } : Jvm.MethodName)) ∈ lw_all := lw_g (lw_at lw_m7 161 rfl) rfl
theorem q1656 : (Jvm.Cond.selects "WillowPrinters" ({ cls := "WillowPrinters", name := "refusal", desc := "(Z)I" } : Jvm.MethodName) ({ cls := "WillowPrinters", name := "refusal", desc := "(Z)I" } : Jvm.MethodName)) ∈ lw_all := lw_g (lw_at lw_m7 162 rfl) rfl
theorem q1657 : (Jvm.Cond.code ({ cls := "WillowPrinters", name := "refusal", desc := "(Z)I" } : Jvm.MethodName) prog_1_method_38_code (2 : Nat) (Option.some Jvm.ClassFile.FieldType.int)) ∈ lw_all := lw_g (lw_at lw_m7 163 rfl) rfl
theorem q1658 : (Jvm.Cond.methodLink "WillowPrinters" (289 : Nat) ({ cls := "WillowPrinters", name := "checkState", desc := "(Z)V" } : Jvm.MethodName)) ∈ lw_all := lw_g (lw_at lw_m7 164 rfl) rfl
theorem q1663 : (Jvm.Cond.instanceMethod ({ cls := "WillowPrinters", name := "account", desc := "(I)I" } : Jvm.MethodName)) ∈ lw_all := lw_g (lw_at lw_m7 169 rfl) rfl
theorem q1664 : (Jvm.Cond.selects "WillowPrinters" ({ cls := "WillowPrinters", name := "account", desc := "(I)I" } : Jvm.MethodName) ({ cls := "WillowPrinters", name := "account", desc := "(I)I" } : Jvm.MethodName)) ∈ lw_all := lw_g (lw_at lw_m7 170 rfl) rfl
theorem q1665 : (Jvm.Cond.code ({ cls := "WillowPrinters", name := "account", desc := "(I)I" } : Jvm.MethodName) prog_1_method_39_code (2 : Nat) (Option.some Jvm.ClassFile.FieldType.int)) ∈ lw_all := lw_g (lw_at lw_m7 171 rfl) rfl
theorem q1666 : (Jvm.Cond.static ({ cls := "WillowPrinters", name := "lambda$account$14", desc := "(LWillowPrinters$Lot;)Z" } : Jvm.MethodName)) ∈ lw_all := lw_g (lw_at lw_m7 172 rfl) rfl
theorem q1667 : (Jvm.Cond.code ({ cls := "WillowPrinters", name := "lambda$account$14", desc := "(LWillowPrinters$Lot;)Z" } : Jvm.MethodName) prog_1_method_54_code (1 : Nat) (Option.some Jvm.ClassFile.FieldType.boolean)) ∈ lw_all := lw_g (lw_at lw_m7 173 rfl) rfl
theorem q1668 : (Jvm.Cond.methodLink "WillowPrinters" (316 : Nat) ({ cls := "WillowPrinters$House", name := "platesOf", desc := "(LWillowPrinters$Test;)I" } : Jvm.MethodName)) ∈ lw_all := lw_g (lw_at lw_m7 174 rfl) rfl
theorem q1674 : (Jvm.Cond.static ({ cls := "WillowPrinters", name := "lambda$account$15", desc := "(LWillowPrinters$Lot;)Z" } : Jvm.MethodName)) ∈ lw_all := lw_g (lw_at lw_m7 180 rfl) rfl
theorem q1675 : (Jvm.Cond.code ({ cls := "WillowPrinters", name := "lambda$account$15", desc := "(LWillowPrinters$Lot;)Z" } : Jvm.MethodName) prog_1_method_53_code (1 : Nat) (Option.some Jvm.ClassFile.FieldType.boolean)) ∈ lw_all := lw_g (lw_at lw_m7 181 rfl) rfl
theorem q1676 : (Jvm.Cond.classLink "WillowPrinters" (411 : Nat) "WillowPrinters$Fired") ∈ lw_all := lw_g (lw_at lw_m7 182 rfl) rfl
theorem q1677 : (Jvm.Cond.methodLink "WillowPrinters" (336 : Nat) ({ cls := "WillowPrinters$House", name := "burning", desc := "()I" } : Jvm.MethodName)) ∈ lw_all := lw_g (lw_at lw_m7 183 rfl) rfl
theorem q1684 : (Jvm.Cond.static ({ cls := "WillowPrinters", name := "count", desc := "(Ljava/util/ArrayList;LWillowPrinters$Test;)I" } : Jvm.MethodName)) ∈ lw_all := lw_g (lw_at lw_m7 190 rfl) rfl
theorem q1685 : (Jvm.Cond.code ({ cls := "WillowPrinters", name := "count", desc := "(Ljava/util/ArrayList;LWillowPrinters$Test;)I" } : Jvm.MethodName) prog_1_method_9_code (2 : Nat) (Option.some Jvm.ClassFile.FieldType.int)) ∈ lw_all := lw_g (lw_at lw_m7 191 rfl) rfl
theorem q1686 : (Jvm.Cond.static ({ cls := "WillowPrinters", name := "lambda$count$0", desc := "(Ljava/lang/Object;)I" } : Jvm.MethodName)) ∈ lw_all := lw_g (lw_at lw_m7 192 rfl) rfl
theorem q1687 : (Jvm.Cond.code ({ cls := "WillowPrinters", name := "lambda$count$0", desc := "(Ljava/lang/Object;)I" } : Jvm.MethodName) prog_1_method_68_code (1 : Nat) (Option.some Jvm.ClassFile.FieldType.int)) ∈ lw_all := lw_g (lw_at lw_m7 193 rfl) rfl
theorem q1688 : (Jvm.Cond.methodLink "WillowPrinters" (56 : Nat) ({ cls := "WillowPrinters", name := "sum", desc := "(Ljava/util/ArrayList;LWillowPrinters$Test;LWillowPrinters$Measure;)I" } : Jvm.MethodName)) ∈ lw_all := lw_g (lw_at lw_m7 194 rfl) rfl
theorem q1689 : (Jvm.Cond.methodLink "WillowPrinters" (348 : Nat) ({ cls := "java/lang/StringBuilder", name := "length", desc := "()I" } : Jvm.MethodName)) ∈ lw_all := lw_g (lw_at lw_m7 195 rfl) rfl
theorem q1708 : (Jvm.Cond.instanceMethod ({ cls := "WillowPrinters", name := "meanWell", desc := "()D" } : Jvm.MethodName)) ∈ lw_all := lw_g (lw_at lw_m7 214 rfl) rfl
theorem q1709 : (Jvm.Cond.selects "WillowPrinters" ({ cls := "WillowPrinters", name := "meanWell", desc := "()D" } : Jvm.MethodName) ({ cls := "WillowPrinters", name := "meanWell", desc := "()D" } : Jvm.MethodName)) ∈ lw_all := lw_g (lw_at lw_m7 215 rfl) rfl
theorem q1710 : (Jvm.Cond.code ({ cls := "WillowPrinters", name := "meanWell", desc := "()D" } : Jvm.MethodName) prog_1_method_41_code (3 : Nat) (Option.some Jvm.ClassFile.FieldType.double)) ∈ lw_all := lw_g (lw_at lw_m7 216 rfl) rfl
theorem q1711 : (Jvm.Cond.static ({ cls := "WillowPrinters", name := "lambda$meanWell$16", desc := "(LWillowPrinters$Lot;)Z" } : Jvm.MethodName)) ∈ lw_all := lw_g (lw_at lw_m7 217 rfl) rfl
theorem q1712 : (Jvm.Cond.code ({ cls := "WillowPrinters", name := "lambda$meanWell$16", desc := "(LWillowPrinters$Lot;)Z" } : Jvm.MethodName) prog_1_method_52_code (1 : Nat) (Option.some Jvm.ClassFile.FieldType.boolean)) ∈ lw_all := lw_g (lw_at lw_m7 218 rfl) rfl
theorem q1713 : (Jvm.Cond.classLink "WillowPrinters" (409 : Nat) "WillowPrinters$Plain") ∈ lw_all := lw_g (lw_at lw_m7 219 rfl) rfl
theorem q1714 : (Jvm.Cond.methodLink "WillowPrinters" (350 : Nat) ({ cls := "WillowPrinters", name := "count", desc := "(Ljava/util/ArrayList;LWillowPrinters$Test;)I" } : Jvm.MethodName)) ∈ lw_all := lw_g (lw_at lw_m7 220 rfl) rfl
theorem q1715 : (Jvm.Cond.methodLink "WillowPrinters" (354 : Nat) ({ cls := "WillowPrinters", name := "checkNumbers", desc := "(Z)V" } : Jvm.MethodName)) ∈ lw_all := lw_g (lw_at lw_m7 221 rfl) rfl
theorem q1716 : (Jvm.Cond.static ({ cls := "WillowPrinters", name := "checkNumbers", desc := "(Z)V" } : Jvm.MethodName)) ∈ lw_all := lw_g (lw_at lw_m7 222 rfl) rfl
theorem q1717 : (Jvm.Cond.code ({ cls := "WillowPrinters", name := "checkNumbers", desc := "(Z)V" } : Jvm.MethodName) prog_1_method_6_code (1 : Nat) (Option.none : Option Jvm.ClassFile.FieldType)) ∈ lw_all := lw_g (lw_at lw_m7 223 rfl) rfl
theorem q1718 : (Jvm.Cond.classLink "WillowPrinters" (16 : Nat) "java/lang/ArithmeticException") ∈ lw_all := lw_g (lw_at lw_m7 224 rfl) rfl
theorem q1719 : (Jvm.Cond.methodLink "WillowPrinters" (18 : Nat) ({ cls := "java/lang/ArithmeticException", name := "<init>", desc := "()V" } : Jvm.MethodName)) ∈ lw_all := lw_g (lw_at lw_m7 225 rfl) rfl
theorem q1723 : (Jvm.Cond.static ({ cls := "WillowPrinters", name := "lambda$meanWell$17", desc := "(LWillowPrinters$Lot;)I" } : Jvm.MethodName)) ∈ lw_all := lw_g (lw_at lw_m7 229 rfl) rfl
theorem q1724 : (Jvm.Cond.code ({ cls := "WillowPrinters", name := "lambda$meanWell$17", desc := "(LWillowPrinters$Lot;)I" } : Jvm.MethodName) prog_1_method_51_code (1 : Nat) (Option.some Jvm.ClassFile.FieldType.int)) ∈ lw_all := lw_g (lw_at lw_m7 230 rfl) rfl
theorem q1729 : (Jvm.Cond.instanceMethod ({ cls := "WillowPrinters", name := "secondShare", desc := "()F" } : Jvm.MethodName)) ∈ lw_all := lw_g (lw_at lw_m7 235 rfl) rfl
theorem q1730 : (Jvm.Cond.selects "WillowPrinters" ({ cls := "WillowPrinters", name := "secondShare", desc := "()F" } : Jvm.MethodName) ({ cls := "WillowPrinters", name := "secondShare", desc := "()F" } : Jvm.MethodName)) ∈ lw_all := lw_g (lw_at lw_m7 236 rfl) rfl
theorem q1731 : (Jvm.Cond.code ({ cls := "WillowPrinters", name := "secondShare", desc := "()F" } : Jvm.MethodName) prog_1_method_42_code (1 : Nat) (Option.some Jvm.ClassFile.FieldType.float)) ∈ lw_all := lw_g (lw_at lw_m7 237 rfl) rfl
theorem q1736 : (Jvm.Cond.instanceMethod ({ cls := "WillowPrinters", name := "append", desc := "(I)I" } : Jvm.MethodName)) ∈ lw_all := lw_g (lw_at lw_m8 2 rfl) rfl
theorem q1737 : (Jvm.Cond.selects "WillowPrinters" ({ cls := "WillowPrinters", name := "append", desc := "(I)I" } : Jvm.MethodName) ({ cls := "WillowPrinters", name := "append", desc := "(I)I" } : Jvm.MethodName)) ∈ lw_all := lw_g (lw_at lw_m8 3 rfl) rfl
theorem q1738 : (Jvm.Cond.code ({ cls := "WillowPrinters", name := "append", desc := "(I)I" } : Jvm.MethodName) prog_1_method_43_code (5 : Nat) (Option.some Jvm.ClassFile.FieldType.int)) ∈ lw_all := lw_g (lw_at lw_m8 4 rfl) rfl
theorem q1739 : (Jvm.Cond.constantLong "WillowPrinters" (358 : Nat) (32 : Int64)) ∈ lw_all := lw_g (lw_at lw_m8 5 rfl) rfl
theorem q1740 : (Jvm.Cond.constantLong "WillowPrinters" (360 : Nat) (126 : Int64)) ∈ lw_all := lw_g (lw_at lw_m8 6 rfl) rfl
theorem q1741 : (Jvm.Cond.methodLink "WillowPrinters" (362 : Nat) ({ cls := "java/lang/StringBuilder", name := "append", desc := "(C)Ljava/lang/StringBuilder;" } : Jvm.MethodName)) ∈ lw_all := lw_g (lw_at lw_m8 7 rfl) rfl
theorem q1746 : (Jvm.Cond.instanceMethod ({ cls := "WillowPrinters", name := "read", desc := "()I" } : Jvm.MethodName)) ∈ lw_all := lw_g (lw_at lw_m8 12 rfl) rfl
theorem q1747 : (Jvm.Cond.selects "WillowPrinters" ({ cls := "WillowPrinters", name := "read", desc := "()I" } : Jvm.MethodName) ({ cls := "WillowPrinters", name := "read", desc := "()I" } : Jvm.MethodName)) ∈ lw_all := lw_g (lw_at lw_m8 13 rfl) rfl
theorem q1748 : (Jvm.Cond.codeWith ({ cls := "WillowPrinters", name := "read", desc := "()I" } : Jvm.MethodName) prog_1_method_45_code (7 : Nat) (Option.some Jvm.ClassFile.FieldType.int) [((15 : Nat), (59 : Nat), (62 : Nat), (113 : Nat)), ((15 : Nat), (59 : Nat), (83 : Nat), (7 : Nat)), ((15 : Nat), (59 : Nat), (83 : Nat), (1 : Nat))]) ∈ lw_all := lw_g (lw_at lw_m8 14 rfl) rfl
theorem q1749 : (Jvm.Cond.methodLink "WillowPrinters" (381 : Nat) ({ cls := "WillowPrinters", name := "takeItems", desc := "()Ljava/util/ArrayList;" } : Jvm.MethodName)) ∈ lw_all := lw_g (lw_at lw_m8 15 rfl) rfl
theorem q1750 : (Jvm.Cond.privateMethod ({ cls := "WillowPrinters", name := "takeItems", desc := "()Ljava/util/ArrayList;" } : Jvm.MethodName)) ∈ lw_tbl := lw_at lw_m8 16 rfl
theorem q1751 : (Jvm.Cond.instanceMethod ({ cls := "WillowPrinters", name := "takeItems", desc := "()Ljava/util/ArrayList;" } : Jvm.MethodName)) ∈ lw_all := lw_g (lw_at lw_m8 17 rfl) rfl
theorem q1752 : (Jvm.Cond.codeWith ({ cls := "WillowPrinters", name := "takeItems", desc := "()Ljava/util/ArrayList;" } : Jvm.MethodName) prog_1_method_44_code (3 : Nat) (Option.some (Jvm.ClassFile.FieldType.object "java/util/ArrayList")) [((23 : Nat), (27 : Nat), (28 : Nat), (375 : Nat))]) ∈ lw_all := lw_g (lw_at lw_m8 18 rfl) rfl
theorem q1753 : (Jvm.Cond.classLink "WillowPrinters" (375 : Nat) "WillowPrinters$SyntaxException") ∈ lw_all := lw_g (lw_at lw_m8 19 rfl) rfl
theorem q1754 : (Jvm.Cond.classLink "WillowPrinters" (366 : Nat) "WillowPrinters$Parser") ∈ lw_all := lw_g (lw_at lw_m8 20 rfl) rfl
theorem q1756 : (Jvm.Cond.methodLink "WillowPrinters" (368 : Nat) ({ cls := "WillowPrinters$Parser", name := "<init>", desc := "(Ljava/lang/CharSequence;)V" } : Jvm.MethodName)) ∈ lw_all := lw_g (lw_at lw_m8 22 rfl) rfl
theorem q1767 : (Jvm.Cond.methodLink "WillowPrinters" (371 : Nat) ({ cls := "WillowPrinters$Parser", name := "items", desc := "()Ljava/util/ArrayList;" } : Jvm.MethodName)) ∈ lw_all := lw_g (lw_at lw_m8 33 rfl) rfl
theorem q1832 : (Jvm.Cond.fieldLinkNest "WillowPrinters" (397 : Nat) "WillowPrinters$SyntaxException" "position" "I" "WillowPrinters") ∈ lw_tbl := lw_at lw_m8 98 rfl
theorem q1874 : (Jvm.Cond.methodLink "WillowPrinters" (384 : Nat) ({ cls := "java/util/ArrayList", name := "iterator", desc := "()Ljava/util/Iterator;" } : Jvm.MethodName)) ∈ lw_all := lw_g (lw_at lw_m8 140 rfl) rfl
theorem q1875 : (Jvm.Cond.interfaceEntry "WillowPrinters" (388 : Nat)) ∈ lw_tbl := lw_at lw_m8 141 rfl
theorem q1876 : (Jvm.Cond.methodLink "WillowPrinters" (388 : Nat) ({ cls := "java/util/Iterator", name := "hasNext", desc := "()Z" } : Jvm.MethodName)) ∈ lw_all := lw_g (lw_at lw_m8 142 rfl) rfl
theorem q1877 : (Jvm.Cond.interfaceEntry "WillowPrinters" (394 : Nat)) ∈ lw_tbl := lw_at lw_m8 143 rfl
theorem q1878 : (Jvm.Cond.methodLink "WillowPrinters" (394 : Nat) ({ cls := "java/util/Iterator", name := "next", desc := "()Ljava/lang/Object;" } : Jvm.MethodName)) ∈ lw_all := lw_g (lw_at lw_m8 144 rfl) rfl
theorem q1879 : (Jvm.Cond.classLink "WillowPrinters" (108 : Nat) "WillowPrinters$Change") ∈ lw_all := lw_g (lw_at lw_m8 145 rfl) rfl
theorem q1884 : (Jvm.Cond.instanceMethod ({ cls := "WillowPrinters", name := "errorPosition", desc := "()I" } : Jvm.MethodName)) ∈ lw_all := lw_g (lw_at lw_m8 150 rfl) rfl
theorem q1885 : (Jvm.Cond.selects "WillowPrinters" ({ cls := "WillowPrinters", name := "errorPosition", desc := "()I" } : Jvm.MethodName) ({ cls := "WillowPrinters", name := "errorPosition", desc := "()I" } : Jvm.MethodName)) ∈ lw_all := lw_g (lw_at lw_m8 151 rfl) rfl
theorem q1886 : (Jvm.Cond.code ({ cls := "WillowPrinters", name := "errorPosition", desc := "()I" } : Jvm.MethodName) prog_1_method_46_code (1 : Nat) (Option.some Jvm.ClassFile.FieldType.int)) ∈ lw_all := lw_g (lw_at lw_m8 152 rfl) rfl
theorem q1891 : (Jvm.Cond.instanceMethod ({ cls := "WillowPrinters", name := "refusedItem", desc := "()I" } : Jvm.MethodName)) ∈ lw_all := lw_g (lw_at lw_m8 157 rfl) rfl
theorem q1892 : (Jvm.Cond.selects "WillowPrinters" ({ cls := "WillowPrinters", name := "refusedItem", desc := "()I" } : Jvm.MethodName) ({ cls := "WillowPrinters", name := "refusedItem", desc := "()I" } : Jvm.MethodName)) ∈ lw_all := lw_g (lw_at lw_m8 158 rfl) rfl
theorem q1893 : (Jvm.Cond.code ({ cls := "WillowPrinters", name := "refusedItem", desc := "()I" } : Jvm.MethodName) prog_1_method_47_code (1 : Nat) (Option.some Jvm.ClassFile.FieldType.int)) ∈ lw_all := lw_g (lw_at lw_m8 159 rfl) rfl
theorem q1898 : (Jvm.Cond.instanceMethod ({ cls := "WillowPrinters", name := "undo", desc := "()I" } : Jvm.MethodName)) ∈ lw_all := lw_g (lw_at lw_m8 164 rfl) rfl
theorem q1899 : (Jvm.Cond.selects "WillowPrinters" ({ cls := "WillowPrinters", name := "undo", desc := "()I" } : Jvm.MethodName) ({ cls := "WillowPrinters", name := "undo", desc := "()I" } : Jvm.MethodName)) ∈ lw_all := lw_g (lw_at lw_m8 165 rfl) rfl
theorem q1900 : (Jvm.Cond.code ({ cls := "WillowPrinters", name := "undo", desc := "()I" } : Jvm.MethodName) prog_1_method_48_code (1 : Nat) (Option.some Jvm.ClassFile.FieldType.int)) ∈ lw_all := lw_g (lw_at lw_m8 166 rfl) rfl
theorem q1901 : (Jvm.Cond.methodLink "WillowPrinters" (400 : Nat) ({ cls := "java/util/ArrayDeque", name := "isEmpty", desc := "()Z" } : Jvm.MethodName)) ∈ lw_all := lw_g (lw_at lw_m8 167 rfl) rfl
theorem q1905 : (Jvm.Cond.methodLink "WillowPrinters" (403 : Nat) ({ cls := "java/util/ArrayDeque", name := "removeLast", desc := "()Ljava/lang/Object;" } : Jvm.MethodName)) ∈ lw_all := lw_g (lw_at lw_m8 171 rfl) rfl
theorem q1920 : (Jvm.Cond.instanceMethod ({ cls := "WillowPrinters", name := "restore", desc := "()I" } : Jvm.MethodName)) ∈ lw_all := lw_g (lw_at lw_m8 186 rfl) rfl
theorem q1921 : (Jvm.Cond.selects "WillowPrinters" ({ cls := "WillowPrinters", name := "restore", desc := "()I" } : Jvm.MethodName) ({ cls := "WillowPrinters", name := "restore", desc := "()I" } : Jvm.MethodName)) ∈ lw_all := lw_g (lw_at lw_m8 187 rfl) rfl
theorem q1922 : (Jvm.Cond.code ({ cls := "WillowPrinters", name := "restore", desc := "()I" } : Jvm.MethodName) prog_1_method_50_code (1 : Nat) (Option.some Jvm.ClassFile.FieldType.int)) ∈ lw_all := lw_g (lw_at lw_m8 188 rfl) rfl
theorem q2330 : (Jvm.Cond.castable "WillowPrinters" "java/lang/Object") ∈ lw_tbl := lw_at lw_m10 116 rfl
theorem in_X1 : ∀ w ∈ wsX10, w ∈ lw_all := lw_in wsX10 [547, 549, 551, 553, 555, 557, 559, 561] (by decide +kernel) (by decide +kernel)

/-! WillowPrinters$House -/
set_option maxRecDepth 100000
def RX2 : String := "WillowPrinters$House"
def TX2 : u_T := fun k => match k with
  | 0 => ("WillowPrinters$House", "coppers", "Ljava/util/ArrayList;", true)
  | 1 => ("WillowPrinters$House", "lots", "Ljava/util/ArrayList;", true)
  | 2 => ("WillowPrinters$House", "kilns", "Ljava/util/ArrayList;", true)
  | 3 => ("WillowPrinters$House", "crates", "Ljava/util/ArrayList;", true)
  | 4 => ("WillowPrinters$House", "hour", "I", false)
  | 5 => ("WillowPrinters$House", "sheets", "I", false)
  | 6 => ("WillowPrinters$House", "damp", "I", false)
  | 7 => ("WillowPrinters$House", "coins", "I", false)
  | 8 => ("WillowPrinters$House", "got", "I", false)
  | 9 => ("WillowPrinters$House", "spent", "I", false)
  | 10 => ("WillowPrinters$House", "bought", "I", false)
  | 11 => ("WillowPrinters$House", "carried", "I", false)
  | 12 => ("WillowPrinters$House", "seconds", "I", false)
  | _ => ("WillowPrinters$House", "secondsSold", "I", false)
def tyX2 : Nat → FieldType := fun k => match k with
  | 0 => .object "java/util/ArrayList"
  | 1 => .object "java/util/ArrayList"
  | 2 => .object "java/util/ArrayList"
  | 3 => .object "java/util/ArrayList"
  | 4 => .int
  | 5 => .int
  | 6 => .int
  | 7 => .int
  | 8 => .int
  | 9 => .int
  | 10 => .int
  | 11 => .int
  | 12 => .int
  | _ => .int
abbrev wsX20 : List Cond := u_ws RX2 TX2 14
set_option maxRecDepth 100000 in
theorem nmX2 : ∀ a, a < 14 → ∀ b, b < 14 → a ≠ b → (TX2 a).2.1 ≠ (TX2 b).2.1 := by decide +kernel
set_option maxRecDepth 100000 in
theorem tyX2_ok : ∀ k, k < 14 → parseFieldDescriptor (TX2 k).2.2.1 = some (tyX2 k) := by decide +kernel
abbrev cX2_init : ByteArray := prog_7_method_1_code
def yX2_init : MethodName := ⟨RX2, "<init>", "()V"⟩
def dkwX2_init_3 : List UInt8 := [181, 0, 36, 177]
abbrev dktX2_init_3 : List UInt8 := dkwX2_init_3 ++ []
def dkwX2_init_2 : List UInt8 := [16, 6, 183, 0, 11, 181, 0, 26, 42, 16, 40, 181, 0, 29, 42, 8, 181, 0, 33, 42, 16, 60]
abbrev dktX2_init_2 : List UInt8 := dkwX2_init_2 ++ dktX2_init_3
def dkwX2_init_1 : List UInt8 := [183, 0, 11, 181, 0, 20, 42, 187, 0, 9, 89, 6, 183, 0, 11, 181, 0, 23, 42, 187, 0, 9, 89]
abbrev dktX2_init_1 : List UInt8 := dkwX2_init_1 ++ dktX2_init_2
def dkwX2_init_0 : List UInt8 := [42, 183, 0, 3, 42, 187, 0, 9, 89, 8, 183, 0, 11, 181, 0, 14, 42, 187, 0, 9, 89, 16, 12]
abbrev dktX2_init_0 : List UInt8 := dkwX2_init_0 ++ dktX2_init_1
theorem dksX2_init_0 : cX2_init.data.toList.drop 0 = dktX2_init_0 := by decide +kernel
theorem dksX2_init_1 : cX2_init.data.toList.drop 23 = dktX2_init_1 := dk_seg dksX2_init_0 23 rfl rfl
theorem dksX2_init_2 : cX2_init.data.toList.drop 46 = dktX2_init_2 := dk_seg dksX2_init_1 23 rfl rfl
theorem dksX2_init_3 : cX2_init.data.toList.drop 68 = dktX2_init_3 := dk_seg dksX2_init_2 22 rfl rfl
theorem dX2_init_0 : decode cX2_init 0 = .ok (.aload_n 0, 1) := dk_42 (dk_at dksX2_init_0 0 rfl rfl)
theorem dX2_init_1 : decode cX2_init 1 = .ok (.invokespecial 3, 3) := dk_183 0 3 (dk_at dksX2_init_0 1 rfl rfl)
theorem dX2_init_4 : decode cX2_init 4 = .ok (.aload_n 0, 1) := dk_42 (dk_at dksX2_init_0 4 rfl rfl)
theorem dX2_init_5 : decode cX2_init 5 = .ok (.new 9, 3) := dk_187 0 9 (dk_at dksX2_init_0 5 rfl rfl)
theorem dX2_init_8 : decode cX2_init 8 = .ok (.dup, 1) := dk_89 (dk_at dksX2_init_0 8 rfl rfl)
theorem dX2_init_9 : decode cX2_init 9 = .ok (.iconst 5, 1) := dk_8 (dk_at dksX2_init_0 9 rfl rfl)
theorem dX2_init_10 : decode cX2_init 10 = .ok (.invokespecial 11, 3) := dk_183 0 11 (dk_at dksX2_init_0 10 rfl rfl)
theorem dX2_init_13 : decode cX2_init 13 = .ok (.putfield 14, 3) := dk_181 0 14 (dk_at dksX2_init_0 13 rfl rfl)
theorem dX2_init_16 : decode cX2_init 16 = .ok (.aload_n 0, 1) := dk_42 (dk_at dksX2_init_0 16 rfl rfl)
theorem dX2_init_17 : decode cX2_init 17 = .ok (.new 9, 3) := dk_187 0 9 (dk_at dksX2_init_0 17 rfl rfl)
theorem dX2_init_20 : decode cX2_init 20 = .ok (.dup, 1) := dk_89 (dk_at dksX2_init_0 20 rfl rfl)
theorem dX2_init_21 : decode cX2_init 21 = .ok (.bipush 12, 2) := dk_16 12 (dk_at dksX2_init_0 21 rfl rfl)
theorem dX2_init_23 : decode cX2_init 23 = .ok (.invokespecial 11, 3) := dk_183 0 11 (dk_at dksX2_init_1 0 rfl rfl)
theorem dX2_init_26 : decode cX2_init 26 = .ok (.putfield 20, 3) := dk_181 0 20 (dk_at dksX2_init_1 3 rfl rfl)
theorem dX2_init_29 : decode cX2_init 29 = .ok (.aload_n 0, 1) := dk_42 (dk_at dksX2_init_1 6 rfl rfl)
theorem dX2_init_30 : decode cX2_init 30 = .ok (.new 9, 3) := dk_187 0 9 (dk_at dksX2_init_1 7 rfl rfl)
theorem dX2_init_33 : decode cX2_init 33 = .ok (.dup, 1) := dk_89 (dk_at dksX2_init_1 10 rfl rfl)
theorem dX2_init_34 : decode cX2_init 34 = .ok (.iconst 3, 1) := dk_6 (dk_at dksX2_init_1 11 rfl rfl)
theorem dX2_init_35 : decode cX2_init 35 = .ok (.invokespecial 11, 3) := dk_183 0 11 (dk_at dksX2_init_1 12 rfl rfl)
theorem dX2_init_38 : decode cX2_init 38 = .ok (.putfield 23, 3) := dk_181 0 23 (dk_at dksX2_init_1 15 rfl rfl)
theorem dX2_init_41 : decode cX2_init 41 = .ok (.aload_n 0, 1) := dk_42 (dk_at dksX2_init_1 18 rfl rfl)
theorem dX2_init_42 : decode cX2_init 42 = .ok (.new 9, 3) := dk_187 0 9 (dk_at dksX2_init_1 19 rfl rfl)
theorem dX2_init_45 : decode cX2_init 45 = .ok (.dup, 1) := dk_89 (dk_at dksX2_init_1 22 rfl rfl)
theorem dX2_init_46 : decode cX2_init 46 = .ok (.bipush 6, 2) := dk_16 6 (dk_at dksX2_init_2 0 rfl rfl)
theorem dX2_init_48 : decode cX2_init 48 = .ok (.invokespecial 11, 3) := dk_183 0 11 (dk_at dksX2_init_2 2 rfl rfl)
theorem dX2_init_51 : decode cX2_init 51 = .ok (.putfield 26, 3) := dk_181 0 26 (dk_at dksX2_init_2 5 rfl rfl)
theorem dX2_init_54 : decode cX2_init 54 = .ok (.aload_n 0, 1) := dk_42 (dk_at dksX2_init_2 8 rfl rfl)
theorem dX2_init_55 : decode cX2_init 55 = .ok (.bipush 40, 2) := dk_16 40 (dk_at dksX2_init_2 9 rfl rfl)
theorem dX2_init_57 : decode cX2_init 57 = .ok (.putfield 29, 3) := dk_181 0 29 (dk_at dksX2_init_2 11 rfl rfl)
theorem dX2_init_60 : decode cX2_init 60 = .ok (.aload_n 0, 1) := dk_42 (dk_at dksX2_init_2 14 rfl rfl)
theorem dX2_init_61 : decode cX2_init 61 = .ok (.iconst 5, 1) := dk_8 (dk_at dksX2_init_2 15 rfl rfl)
theorem dX2_init_62 : decode cX2_init 62 = .ok (.putfield 33, 3) := dk_181 0 33 (dk_at dksX2_init_2 16 rfl rfl)
theorem dX2_init_65 : decode cX2_init 65 = .ok (.aload_n 0, 1) := dk_42 (dk_at dksX2_init_2 19 rfl rfl)
theorem dX2_init_66 : decode cX2_init 66 = .ok (.bipush 60, 2) := dk_16 60 (dk_at dksX2_init_2 20 rfl rfl)
theorem dX2_init_68 : decode cX2_init 68 = .ok (.putfield 36, 3) := dk_181 0 36 (dk_at dksX2_init_3 0 rfl rfl)
theorem dX2_init_71 : decode cX2_init 71 = .ok (.return_, 1) := dk_177 (dk_at dksX2_init_3 3 rfl rfl)
abbrev cX2_inCrates : ByteArray := prog_7_method_29_code
def yX2_inCrates : MethodName := ⟨RX2, "inCrates", "()I"⟩
def dkwX2_inCrates_0 : List UInt8 := [42, 180, 0, 26, 186, 1, 30, 0, 0, 186, 1, 34, 0, 0, 184, 1, 26, 172]
abbrev dktX2_inCrates_0 : List UInt8 := dkwX2_inCrates_0 ++ []
theorem dksX2_inCrates_0 : cX2_inCrates.data.toList.drop 0 = dktX2_inCrates_0 := by decide +kernel
theorem dX2_inCrates_0 : decode cX2_inCrates 0 = .ok (.aload_n 0, 1) := dk_42 (dk_at dksX2_inCrates_0 0 rfl rfl)
theorem dX2_inCrates_1 : decode cX2_inCrates 1 = .ok (.getfield 26, 3) := dk_180 0 26 (dk_at dksX2_inCrates_0 1 rfl rfl)
theorem dX2_inCrates_4 : decode cX2_inCrates 4 = .ok (.invokedynamic 286, 5) := by decide +kernel
theorem dX2_inCrates_9 : decode cX2_inCrates 9 = .ok (.invokedynamic 290, 5) := by decide +kernel
theorem dX2_inCrates_14 : decode cX2_inCrates 14 = .ok (.invokestatic 282, 3) := dk_184 1 26 (dk_at dksX2_inCrates_0 14 rfl rfl)
theorem dX2_inCrates_17 : decode cX2_inCrates 17 = .ok (.ireturn, 1) := dk_172 (dk_at dksX2_inCrates_0 17 rfl rfl)
abbrev cX2_lambda_inCrates_1 : ByteArray := prog_7_method_33_code
def yX2_lambda_inCrates_1 : MethodName := ⟨RX2, "lambda$inCrates$1", "(LWillowPrinters$Crate;)Z"⟩
theorem dX2_lambda_inCrates_1_0 : decode cX2_lambda_inCrates_1 0 = .ok (.iconst 1, 1) := by decide +kernel
theorem dX2_lambda_inCrates_1_1 : decode cX2_lambda_inCrates_1 1 = .ok (.ireturn, 1) := by decide +kernel
abbrev cX2_lambda_inCrates_2 : ByteArray := prog_7_method_32_code
def yX2_lambda_inCrates_2 : MethodName := ⟨RX2, "lambda$inCrates$2", "(LWillowPrinters$Crate;)I"⟩
theorem dX2_lambda_inCrates_2_0 : decode cX2_lambda_inCrates_2 0 = .ok (.aload_n 0, 1) := by decide +kernel
theorem dX2_lambda_inCrates_2_1 : decode cX2_lambda_inCrates_2 1 = .ok (.getfield 249, 3) := by decide +kernel
theorem dX2_lambda_inCrates_2_4 : decode cX2_lambda_inCrates_2 4 = .ok (.ireturn, 1) := by decide +kernel
abbrev cX2_buySheets : ByteArray := prog_7_method_11_code
def yX2_buySheets : MethodName := ⟨RX2, "buySheets", "(I)I"⟩
def dkwX2_buySheets_1 : List UInt8 := [180, 0, 29, 27, 96, 181, 0, 29, 42, 180, 0, 29, 172]
abbrev dktX2_buySheets_1 : List UInt8 := dkwX2_buySheets_1 ++ []
def dkwX2_buySheets_0 : List UInt8 := [27, 133, 10, 20, 0, 126, 184, 0, 104, 184, 0, 128, 42, 27, 7, 96, 8, 108, 182, 0, 131, 42, 89]
abbrev dktX2_buySheets_0 : List UInt8 := dkwX2_buySheets_0 ++ dktX2_buySheets_1
theorem dksX2_buySheets_0 : cX2_buySheets.data.toList.drop 0 = dktX2_buySheets_0 := by decide +kernel
theorem dksX2_buySheets_1 : cX2_buySheets.data.toList.drop 23 = dktX2_buySheets_1 := dk_seg dksX2_buySheets_0 23 rfl rfl
theorem dX2_buySheets_0 : decode cX2_buySheets 0 = .ok (.iload_n 1, 1) := dk_27 (dk_at dksX2_buySheets_0 0 rfl rfl)
theorem dX2_buySheets_1 : decode cX2_buySheets 1 = .ok (.i2l, 1) := dk_133 (dk_at dksX2_buySheets_0 1 rfl rfl)
theorem dX2_buySheets_2 : decode cX2_buySheets 2 = .ok (.lconst 1, 1) := dk_10 (dk_at dksX2_buySheets_0 2 rfl rfl)
theorem dX2_buySheets_3 : decode cX2_buySheets 3 = .ok (.ldc2_w 126, 3) := dk_20 0 126 (dk_at dksX2_buySheets_0 3 rfl rfl)
theorem dX2_buySheets_6 : decode cX2_buySheets 6 = .ok (.invokestatic 104, 3) := dk_184 0 104 (dk_at dksX2_buySheets_0 6 rfl rfl)
theorem dX2_buySheets_9 : decode cX2_buySheets 9 = .ok (.invokestatic 128, 3) := dk_184 0 128 (dk_at dksX2_buySheets_0 9 rfl rfl)
theorem dX2_buySheets_12 : decode cX2_buySheets 12 = .ok (.aload_n 0, 1) := dk_42 (dk_at dksX2_buySheets_0 12 rfl rfl)
theorem dX2_buySheets_13 : decode cX2_buySheets 13 = .ok (.iload_n 1, 1) := dk_27 (dk_at dksX2_buySheets_0 13 rfl rfl)
theorem dX2_buySheets_14 : decode cX2_buySheets 14 = .ok (.iconst 4, 1) := dk_7 (dk_at dksX2_buySheets_0 14 rfl rfl)
theorem dX2_buySheets_15 : decode cX2_buySheets 15 = .ok (.iadd, 1) := dk_96 (dk_at dksX2_buySheets_0 15 rfl rfl)
theorem dX2_buySheets_16 : decode cX2_buySheets 16 = .ok (.iconst 5, 1) := dk_8 (dk_at dksX2_buySheets_0 16 rfl rfl)
theorem dX2_buySheets_17 : decode cX2_buySheets 17 = .ok (.idiv, 1) := dk_108 (dk_at dksX2_buySheets_0 17 rfl rfl)
theorem dX2_buySheets_18 : decode cX2_buySheets 18 = .ok (.invokevirtual 131, 3) := dk_182 0 131 (dk_at dksX2_buySheets_0 18 rfl rfl)
theorem dX2_buySheets_21 : decode cX2_buySheets 21 = .ok (.aload_n 0, 1) := dk_42 (dk_at dksX2_buySheets_0 21 rfl rfl)
theorem dX2_buySheets_22 : decode cX2_buySheets 22 = .ok (.dup, 1) := dk_89 (dk_at dksX2_buySheets_0 22 rfl rfl)
theorem dX2_buySheets_23 : decode cX2_buySheets 23 = .ok (.getfield 29, 3) := dk_180 0 29 (dk_at dksX2_buySheets_1 0 rfl rfl)
theorem dX2_buySheets_26 : decode cX2_buySheets 26 = .ok (.iload_n 1, 1) := dk_27 (dk_at dksX2_buySheets_1 3 rfl rfl)
theorem dX2_buySheets_27 : decode cX2_buySheets 27 = .ok (.iadd, 1) := dk_96 (dk_at dksX2_buySheets_1 4 rfl rfl)
theorem dX2_buySheets_28 : decode cX2_buySheets 28 = .ok (.putfield 29, 3) := dk_181 0 29 (dk_at dksX2_buySheets_1 5 rfl rfl)
theorem dX2_buySheets_31 : decode cX2_buySheets 31 = .ok (.aload_n 0, 1) := dk_42 (dk_at dksX2_buySheets_1 8 rfl rfl)
theorem dX2_buySheets_32 : decode cX2_buySheets 32 = .ok (.getfield 29, 3) := dk_180 0 29 (dk_at dksX2_buySheets_1 9 rfl rfl)
theorem dX2_buySheets_35 : decode cX2_buySheets 35 = .ok (.ireturn, 1) := dk_172 (dk_at dksX2_buySheets_1 12 rfl rfl)
abbrev cX2_pay : ByteArray := prog_7_method_9_code
def yX2_pay : MethodName := ⟨RX2, "pay", "(I)V"⟩
def dkwX2_pay_1 : List UInt8 := [42, 89, 180, 0, 36, 27, 100, 181, 0, 36, 42, 89, 180, 0, 85, 27, 96, 181, 0, 85, 177]
abbrev dktX2_pay_1 : List UInt8 := dkwX2_pay_1 ++ []
def dkwX2_pay_0 : List UInt8 := [42, 180, 0, 36, 27, 161, 0, 7, 4, 167, 0, 4, 3, 16, 6, 27, 42, 180, 0, 36, 100, 184, 0, 120]
abbrev dktX2_pay_0 : List UInt8 := dkwX2_pay_0 ++ dktX2_pay_1
theorem dksX2_pay_0 : cX2_pay.data.toList.drop 0 = dktX2_pay_0 := by decide +kernel
theorem dksX2_pay_1 : cX2_pay.data.toList.drop 24 = dktX2_pay_1 := dk_seg dksX2_pay_0 24 rfl rfl
theorem dX2_pay_0 : decode cX2_pay 0 = .ok (.aload_n 0, 1) := dk_42 (dk_at dksX2_pay_0 0 rfl rfl)
theorem dX2_pay_1 : decode cX2_pay 1 = .ok (.getfield 36, 3) := dk_180 0 36 (dk_at dksX2_pay_0 1 rfl rfl)
theorem dX2_pay_4 : decode cX2_pay 4 = .ok (.iload_n 1, 1) := dk_27 (dk_at dksX2_pay_0 4 rfl rfl)
theorem dX2_pay_5 : decode cX2_pay 5 = .ok (.if_icmp .lt 7, 3) := dk_161 0 7 (dk_at dksX2_pay_0 5 rfl rfl)
theorem dX2_pay_8 : decode cX2_pay 8 = .ok (.iconst 1, 1) := dk_4 (dk_at dksX2_pay_0 8 rfl rfl)
theorem dX2_pay_9 : decode cX2_pay 9 = .ok (.goto 4, 3) := dk_167 0 4 (dk_at dksX2_pay_0 9 rfl rfl)
theorem dX2_pay_12 : decode cX2_pay 12 = .ok (.iconst 0, 1) := dk_3 (dk_at dksX2_pay_0 12 rfl rfl)
theorem dX2_pay_13 : decode cX2_pay 13 = .ok (.bipush 6, 2) := dk_16 6 (dk_at dksX2_pay_0 13 rfl rfl)
theorem dX2_pay_15 : decode cX2_pay 15 = .ok (.iload_n 1, 1) := dk_27 (dk_at dksX2_pay_0 15 rfl rfl)
theorem dX2_pay_16 : decode cX2_pay 16 = .ok (.aload_n 0, 1) := dk_42 (dk_at dksX2_pay_0 16 rfl rfl)
theorem dX2_pay_17 : decode cX2_pay 17 = .ok (.getfield 36, 3) := dk_180 0 36 (dk_at dksX2_pay_0 17 rfl rfl)
theorem dX2_pay_20 : decode cX2_pay 20 = .ok (.isub, 1) := dk_100 (dk_at dksX2_pay_0 20 rfl rfl)
theorem dX2_pay_21 : decode cX2_pay 21 = .ok (.invokestatic 120, 3) := dk_184 0 120 (dk_at dksX2_pay_0 21 rfl rfl)
theorem dX2_pay_24 : decode cX2_pay 24 = .ok (.aload_n 0, 1) := dk_42 (dk_at dksX2_pay_1 0 rfl rfl)
theorem dX2_pay_25 : decode cX2_pay 25 = .ok (.dup, 1) := dk_89 (dk_at dksX2_pay_1 1 rfl rfl)
theorem dX2_pay_26 : decode cX2_pay 26 = .ok (.getfield 36, 3) := dk_180 0 36 (dk_at dksX2_pay_1 2 rfl rfl)
theorem dX2_pay_29 : decode cX2_pay 29 = .ok (.iload_n 1, 1) := dk_27 (dk_at dksX2_pay_1 5 rfl rfl)
theorem dX2_pay_30 : decode cX2_pay 30 = .ok (.isub, 1) := dk_100 (dk_at dksX2_pay_1 6 rfl rfl)
theorem dX2_pay_31 : decode cX2_pay 31 = .ok (.putfield 36, 3) := dk_181 0 36 (dk_at dksX2_pay_1 7 rfl rfl)
theorem dX2_pay_34 : decode cX2_pay 34 = .ok (.aload_n 0, 1) := dk_42 (dk_at dksX2_pay_1 10 rfl rfl)
theorem dX2_pay_35 : decode cX2_pay 35 = .ok (.dup, 1) := dk_89 (dk_at dksX2_pay_1 11 rfl rfl)
theorem dX2_pay_36 : decode cX2_pay 36 = .ok (.getfield 85, 3) := dk_180 0 85 (dk_at dksX2_pay_1 12 rfl rfl)
theorem dX2_pay_39 : decode cX2_pay 39 = .ok (.iload_n 1, 1) := dk_27 (dk_at dksX2_pay_1 15 rfl rfl)
theorem dX2_pay_40 : decode cX2_pay 40 = .ok (.iadd, 1) := dk_96 (dk_at dksX2_pay_1 16 rfl rfl)
theorem dX2_pay_41 : decode cX2_pay 41 = .ok (.putfield 85, 3) := dk_181 0 85 (dk_at dksX2_pay_1 17 rfl rfl)
theorem dX2_pay_44 : decode cX2_pay 44 = .ok (.return_, 1) := dk_177 (dk_at dksX2_pay_1 20 rfl rfl)
abbrev cX2_copy : ByteArray := prog_7_method_2_code
def yX2_copy : MethodName := ⟨RX2, "copy", "()LWillowPrinters$House;"⟩
def dkwX2_copy_11 : List UInt8 := [181, 0, 94, 43, 42, 180, 0, 97, 181, 0, 97, 43, 176]
abbrev dktX2_copy_11 : List UInt8 := dkwX2_copy_11 ++ []
def dkwX2_copy_10 : List UInt8 := [181, 0, 85, 43, 42, 180, 0, 88, 181, 0, 88, 43, 42, 180, 0, 91, 181, 0, 91, 43, 42, 180, 0, 94]
abbrev dktX2_copy_10 : List UInt8 := dkwX2_copy_10 ++ dktX2_copy_11
def dkwX2_copy_9 : List UInt8 := [181, 0, 33, 43, 42, 180, 0, 36, 181, 0, 36, 43, 42, 180, 0, 82, 181, 0, 82, 43, 42, 180, 0, 85]
abbrev dktX2_copy_9 : List UInt8 := dkwX2_copy_9 ++ dktX2_copy_10
def dkwX2_copy_8 : List UInt8 := [167, 255, 223, 43, 42, 180, 0, 79, 181, 0, 79, 43, 42, 180, 0, 29, 181, 0, 29, 43, 42, 180, 0, 33]
abbrev dktX2_copy_8 : List UInt8 := dkwX2_copy_8 ++ dktX2_copy_9
def dkwX2_copy_7 : List UInt8 := [185, 0, 50, 1, 0, 192, 0, 74, 58, 4, 43, 180, 0, 26, 25, 4, 182, 0, 76, 182, 0, 60, 61]
abbrev dktX2_copy_7 : List UInt8 := dkwX2_copy_7 ++ dktX2_copy_8
def dkwX2_copy_6 : List UInt8 := [167, 255, 223, 42, 180, 0, 26, 182, 0, 40, 78, 45, 185, 0, 44, 1, 0, 153, 0, 30, 45]
abbrev dktX2_copy_6 : List UInt8 := dkwX2_copy_6 ++ dktX2_copy_7
def dkwX2_copy_5 : List UInt8 := [185, 0, 50, 1, 0, 192, 0, 69, 58, 4, 43, 180, 0, 23, 25, 4, 182, 0, 71, 182, 0, 60, 61]
abbrev dktX2_copy_5 : List UInt8 := dkwX2_copy_5 ++ dktX2_copy_6
def dkwX2_copy_4 : List UInt8 := [167, 255, 223, 42, 180, 0, 23, 182, 0, 40, 78, 45, 185, 0, 44, 1, 0, 153, 0, 30, 45]
abbrev dktX2_copy_4 : List UInt8 := dkwX2_copy_4 ++ dktX2_copy_5
def dkwX2_copy_3 : List UInt8 := [45, 185, 0, 50, 1, 0, 192, 0, 64, 58, 4, 43, 180, 0, 20, 25, 4, 182, 0, 66, 182, 0, 60, 61]
abbrev dktX2_copy_3 : List UInt8 := dkwX2_copy_3 ++ dktX2_copy_4
def dkwX2_copy_2 : List UInt8 := [182, 0, 60, 61, 167, 255, 223, 42, 180, 0, 20, 182, 0, 40, 78, 45, 185, 0, 44, 1, 0, 153, 0, 30]
abbrev dktX2_copy_2 : List UInt8 := dkwX2_copy_2 ++ dktX2_copy_3
def dkwX2_copy_1 : List UInt8 := [153, 0, 30, 45, 185, 0, 50, 1, 0, 192, 0, 54, 58, 4, 43, 180, 0, 14, 25, 4, 182, 0, 56]
abbrev dktX2_copy_1 : List UInt8 := dkwX2_copy_1 ++ dktX2_copy_2
def dkwX2_copy_0 : List UInt8 := [187, 0, 15, 89, 183, 0, 39, 76, 3, 61, 42, 180, 0, 14, 182, 0, 40, 78, 45, 185, 0, 44, 1, 0]
abbrev dktX2_copy_0 : List UInt8 := dkwX2_copy_0 ++ dktX2_copy_1
theorem dksX2_copy_0 : cX2_copy.data.toList.drop 0 = dktX2_copy_0 := by decide +kernel
theorem dksX2_copy_1 : cX2_copy.data.toList.drop 24 = dktX2_copy_1 := dk_seg dksX2_copy_0 24 rfl rfl
theorem dksX2_copy_2 : cX2_copy.data.toList.drop 47 = dktX2_copy_2 := dk_seg dksX2_copy_1 23 rfl rfl
theorem dksX2_copy_3 : cX2_copy.data.toList.drop 71 = dktX2_copy_3 := dk_seg dksX2_copy_2 24 rfl rfl
theorem dksX2_copy_4 : cX2_copy.data.toList.drop 95 = dktX2_copy_4 := dk_seg dksX2_copy_3 24 rfl rfl
theorem dksX2_copy_5 : cX2_copy.data.toList.drop 116 = dktX2_copy_5 := dk_seg dksX2_copy_4 21 rfl rfl
theorem dksX2_copy_6 : cX2_copy.data.toList.drop 139 = dktX2_copy_6 := dk_seg dksX2_copy_5 23 rfl rfl
theorem dksX2_copy_7 : cX2_copy.data.toList.drop 160 = dktX2_copy_7 := dk_seg dksX2_copy_6 21 rfl rfl
theorem dksX2_copy_8 : cX2_copy.data.toList.drop 183 = dktX2_copy_8 := dk_seg dksX2_copy_7 23 rfl rfl
theorem dksX2_copy_9 : cX2_copy.data.toList.drop 207 = dktX2_copy_9 := dk_seg dksX2_copy_8 24 rfl rfl
theorem dksX2_copy_10 : cX2_copy.data.toList.drop 231 = dktX2_copy_10 := dk_seg dksX2_copy_9 24 rfl rfl
theorem dksX2_copy_11 : cX2_copy.data.toList.drop 255 = dktX2_copy_11 := dk_seg dksX2_copy_10 24 rfl rfl
theorem dX2_copy_0 : decode cX2_copy 0 = .ok (.new 15, 3) := dk_187 0 15 (dk_at dksX2_copy_0 0 rfl rfl)
theorem dX2_copy_3 : decode cX2_copy 3 = .ok (.dup, 1) := dk_89 (dk_at dksX2_copy_0 3 rfl rfl)
theorem dX2_copy_4 : decode cX2_copy 4 = .ok (.invokespecial 39, 3) := dk_183 0 39 (dk_at dksX2_copy_0 4 rfl rfl)
theorem dX2_copy_7 : decode cX2_copy 7 = .ok (.astore_n 1, 1) := dk_76 (dk_at dksX2_copy_0 7 rfl rfl)
theorem dX2_copy_8 : decode cX2_copy 8 = .ok (.iconst 0, 1) := dk_3 (dk_at dksX2_copy_0 8 rfl rfl)
theorem dX2_copy_9 : decode cX2_copy 9 = .ok (.istore_n 2, 1) := dk_61 (dk_at dksX2_copy_0 9 rfl rfl)
theorem dX2_copy_10 : decode cX2_copy 10 = .ok (.aload_n 0, 1) := dk_42 (dk_at dksX2_copy_0 10 rfl rfl)
theorem dX2_copy_11 : decode cX2_copy 11 = .ok (.getfield 14, 3) := dk_180 0 14 (dk_at dksX2_copy_0 11 rfl rfl)
theorem dX2_copy_14 : decode cX2_copy 14 = .ok (.invokevirtual 40, 3) := dk_182 0 40 (dk_at dksX2_copy_0 14 rfl rfl)
theorem dX2_copy_17 : decode cX2_copy 17 = .ok (.astore_n 3, 1) := dk_78 (dk_at dksX2_copy_0 17 rfl rfl)
theorem dX2_copy_18 : decode cX2_copy 18 = .ok (.aload_n 3, 1) := dk_45 (dk_at dksX2_copy_0 18 rfl rfl)
theorem dX2_copy_19 : decode cX2_copy 19 = .ok (.invokeinterface 44 1, 5) := by decide +kernel
theorem dX2_copy_24 : decode cX2_copy 24 = .ok (.ifCond .eq 30, 3) := dk_153 0 30 (dk_at dksX2_copy_1 0 rfl rfl)
theorem dX2_copy_27 : decode cX2_copy 27 = .ok (.aload_n 3, 1) := dk_45 (dk_at dksX2_copy_1 3 rfl rfl)
theorem dX2_copy_28 : decode cX2_copy 28 = .ok (.invokeinterface 50 1, 5) := by decide +kernel
theorem dX2_copy_33 : decode cX2_copy 33 = .ok (.checkcast 54, 3) := dk_192 0 54 (dk_at dksX2_copy_1 9 rfl rfl)
theorem dX2_copy_36 : decode cX2_copy 36 = .ok (.astore 4, 2) := dk_58 4 (dk_at dksX2_copy_1 12 rfl rfl)
theorem dX2_copy_38 : decode cX2_copy 38 = .ok (.aload_n 1, 1) := dk_43 (dk_at dksX2_copy_1 14 rfl rfl)
theorem dX2_copy_39 : decode cX2_copy 39 = .ok (.getfield 14, 3) := dk_180 0 14 (dk_at dksX2_copy_1 15 rfl rfl)
theorem dX2_copy_42 : decode cX2_copy 42 = .ok (.aload 4, 2) := dk_25 4 (dk_at dksX2_copy_1 18 rfl rfl)
theorem dX2_copy_44 : decode cX2_copy 44 = .ok (.invokevirtual 56, 3) := dk_182 0 56 (dk_at dksX2_copy_1 20 rfl rfl)
theorem dX2_copy_47 : decode cX2_copy 47 = .ok (.invokevirtual 60, 3) := dk_182 0 60 (dk_at dksX2_copy_2 0 rfl rfl)
theorem dX2_copy_50 : decode cX2_copy 50 = .ok (.istore_n 2, 1) := dk_61 (dk_at dksX2_copy_2 3 rfl rfl)
theorem dX2_copy_51 : decode cX2_copy 51 = .ok (.goto (-33), 3) := dk_167 255 223 (dk_at dksX2_copy_2 4 rfl rfl)
theorem dX2_copy_54 : decode cX2_copy 54 = .ok (.aload_n 0, 1) := dk_42 (dk_at dksX2_copy_2 7 rfl rfl)
theorem dX2_copy_55 : decode cX2_copy 55 = .ok (.getfield 20, 3) := dk_180 0 20 (dk_at dksX2_copy_2 8 rfl rfl)
theorem dX2_copy_58 : decode cX2_copy 58 = .ok (.invokevirtual 40, 3) := dk_182 0 40 (dk_at dksX2_copy_2 11 rfl rfl)
theorem dX2_copy_61 : decode cX2_copy 61 = .ok (.astore_n 3, 1) := dk_78 (dk_at dksX2_copy_2 14 rfl rfl)
theorem dX2_copy_62 : decode cX2_copy 62 = .ok (.aload_n 3, 1) := dk_45 (dk_at dksX2_copy_2 15 rfl rfl)
theorem dX2_copy_63 : decode cX2_copy 63 = .ok (.invokeinterface 44 1, 5) := by decide +kernel
theorem dX2_copy_68 : decode cX2_copy 68 = .ok (.ifCond .eq 30, 3) := dk_153 0 30 (dk_at dksX2_copy_2 21 rfl rfl)
theorem dX2_copy_71 : decode cX2_copy 71 = .ok (.aload_n 3, 1) := dk_45 (dk_at dksX2_copy_3 0 rfl rfl)
theorem dX2_copy_72 : decode cX2_copy 72 = .ok (.invokeinterface 50 1, 5) := by decide +kernel
theorem dX2_copy_77 : decode cX2_copy 77 = .ok (.checkcast 64, 3) := dk_192 0 64 (dk_at dksX2_copy_3 6 rfl rfl)
theorem dX2_copy_80 : decode cX2_copy 80 = .ok (.astore 4, 2) := dk_58 4 (dk_at dksX2_copy_3 9 rfl rfl)
theorem dX2_copy_82 : decode cX2_copy 82 = .ok (.aload_n 1, 1) := dk_43 (dk_at dksX2_copy_3 11 rfl rfl)
theorem dX2_copy_83 : decode cX2_copy 83 = .ok (.getfield 20, 3) := dk_180 0 20 (dk_at dksX2_copy_3 12 rfl rfl)
theorem dX2_copy_86 : decode cX2_copy 86 = .ok (.aload 4, 2) := dk_25 4 (dk_at dksX2_copy_3 15 rfl rfl)
theorem dX2_copy_88 : decode cX2_copy 88 = .ok (.invokevirtual 66, 3) := dk_182 0 66 (dk_at dksX2_copy_3 17 rfl rfl)
theorem dX2_copy_91 : decode cX2_copy 91 = .ok (.invokevirtual 60, 3) := dk_182 0 60 (dk_at dksX2_copy_3 20 rfl rfl)
theorem dX2_copy_94 : decode cX2_copy 94 = .ok (.istore_n 2, 1) := dk_61 (dk_at dksX2_copy_3 23 rfl rfl)
theorem dX2_copy_95 : decode cX2_copy 95 = .ok (.goto (-33), 3) := dk_167 255 223 (dk_at dksX2_copy_4 0 rfl rfl)
theorem dX2_copy_98 : decode cX2_copy 98 = .ok (.aload_n 0, 1) := dk_42 (dk_at dksX2_copy_4 3 rfl rfl)
theorem dX2_copy_99 : decode cX2_copy 99 = .ok (.getfield 23, 3) := dk_180 0 23 (dk_at dksX2_copy_4 4 rfl rfl)
theorem dX2_copy_102 : decode cX2_copy 102 = .ok (.invokevirtual 40, 3) := dk_182 0 40 (dk_at dksX2_copy_4 7 rfl rfl)
theorem dX2_copy_105 : decode cX2_copy 105 = .ok (.astore_n 3, 1) := dk_78 (dk_at dksX2_copy_4 10 rfl rfl)
theorem dX2_copy_106 : decode cX2_copy 106 = .ok (.aload_n 3, 1) := dk_45 (dk_at dksX2_copy_4 11 rfl rfl)
theorem dX2_copy_107 : decode cX2_copy 107 = .ok (.invokeinterface 44 1, 5) := by decide +kernel
theorem dX2_copy_112 : decode cX2_copy 112 = .ok (.ifCond .eq 30, 3) := dk_153 0 30 (dk_at dksX2_copy_4 17 rfl rfl)
theorem dX2_copy_115 : decode cX2_copy 115 = .ok (.aload_n 3, 1) := dk_45 (dk_at dksX2_copy_4 20 rfl rfl)
theorem dX2_copy_116 : decode cX2_copy 116 = .ok (.invokeinterface 50 1, 5) := by decide +kernel
theorem dX2_copy_121 : decode cX2_copy 121 = .ok (.checkcast 69, 3) := dk_192 0 69 (dk_at dksX2_copy_5 5 rfl rfl)
theorem dX2_copy_124 : decode cX2_copy 124 = .ok (.astore 4, 2) := dk_58 4 (dk_at dksX2_copy_5 8 rfl rfl)
theorem dX2_copy_126 : decode cX2_copy 126 = .ok (.aload_n 1, 1) := dk_43 (dk_at dksX2_copy_5 10 rfl rfl)
theorem dX2_copy_127 : decode cX2_copy 127 = .ok (.getfield 23, 3) := dk_180 0 23 (dk_at dksX2_copy_5 11 rfl rfl)
theorem dX2_copy_130 : decode cX2_copy 130 = .ok (.aload 4, 2) := dk_25 4 (dk_at dksX2_copy_5 14 rfl rfl)
theorem dX2_copy_132 : decode cX2_copy 132 = .ok (.invokevirtual 71, 3) := dk_182 0 71 (dk_at dksX2_copy_5 16 rfl rfl)
theorem dX2_copy_135 : decode cX2_copy 135 = .ok (.invokevirtual 60, 3) := dk_182 0 60 (dk_at dksX2_copy_5 19 rfl rfl)
theorem dX2_copy_138 : decode cX2_copy 138 = .ok (.istore_n 2, 1) := dk_61 (dk_at dksX2_copy_5 22 rfl rfl)
theorem dX2_copy_139 : decode cX2_copy 139 = .ok (.goto (-33), 3) := dk_167 255 223 (dk_at dksX2_copy_6 0 rfl rfl)
theorem dX2_copy_142 : decode cX2_copy 142 = .ok (.aload_n 0, 1) := dk_42 (dk_at dksX2_copy_6 3 rfl rfl)
theorem dX2_copy_143 : decode cX2_copy 143 = .ok (.getfield 26, 3) := dk_180 0 26 (dk_at dksX2_copy_6 4 rfl rfl)
theorem dX2_copy_146 : decode cX2_copy 146 = .ok (.invokevirtual 40, 3) := dk_182 0 40 (dk_at dksX2_copy_6 7 rfl rfl)
theorem dX2_copy_149 : decode cX2_copy 149 = .ok (.astore_n 3, 1) := dk_78 (dk_at dksX2_copy_6 10 rfl rfl)
theorem dX2_copy_150 : decode cX2_copy 150 = .ok (.aload_n 3, 1) := dk_45 (dk_at dksX2_copy_6 11 rfl rfl)
theorem dX2_copy_151 : decode cX2_copy 151 = .ok (.invokeinterface 44 1, 5) := by decide +kernel
theorem dX2_copy_156 : decode cX2_copy 156 = .ok (.ifCond .eq 30, 3) := dk_153 0 30 (dk_at dksX2_copy_6 17 rfl rfl)
theorem dX2_copy_159 : decode cX2_copy 159 = .ok (.aload_n 3, 1) := dk_45 (dk_at dksX2_copy_6 20 rfl rfl)
theorem dX2_copy_160 : decode cX2_copy 160 = .ok (.invokeinterface 50 1, 5) := by decide +kernel
theorem dX2_copy_165 : decode cX2_copy 165 = .ok (.checkcast 74, 3) := dk_192 0 74 (dk_at dksX2_copy_7 5 rfl rfl)
theorem dX2_copy_168 : decode cX2_copy 168 = .ok (.astore 4, 2) := dk_58 4 (dk_at dksX2_copy_7 8 rfl rfl)
theorem dX2_copy_170 : decode cX2_copy 170 = .ok (.aload_n 1, 1) := dk_43 (dk_at dksX2_copy_7 10 rfl rfl)
theorem dX2_copy_171 : decode cX2_copy 171 = .ok (.getfield 26, 3) := dk_180 0 26 (dk_at dksX2_copy_7 11 rfl rfl)
theorem dX2_copy_174 : decode cX2_copy 174 = .ok (.aload 4, 2) := dk_25 4 (dk_at dksX2_copy_7 14 rfl rfl)
theorem dX2_copy_176 : decode cX2_copy 176 = .ok (.invokevirtual 76, 3) := dk_182 0 76 (dk_at dksX2_copy_7 16 rfl rfl)
theorem dX2_copy_179 : decode cX2_copy 179 = .ok (.invokevirtual 60, 3) := dk_182 0 60 (dk_at dksX2_copy_7 19 rfl rfl)
theorem dX2_copy_182 : decode cX2_copy 182 = .ok (.istore_n 2, 1) := dk_61 (dk_at dksX2_copy_7 22 rfl rfl)
theorem dX2_copy_183 : decode cX2_copy 183 = .ok (.goto (-33), 3) := dk_167 255 223 (dk_at dksX2_copy_8 0 rfl rfl)
theorem dX2_copy_186 : decode cX2_copy 186 = .ok (.aload_n 1, 1) := dk_43 (dk_at dksX2_copy_8 3 rfl rfl)
theorem dX2_copy_187 : decode cX2_copy 187 = .ok (.aload_n 0, 1) := dk_42 (dk_at dksX2_copy_8 4 rfl rfl)
theorem dX2_copy_188 : decode cX2_copy 188 = .ok (.getfield 79, 3) := dk_180 0 79 (dk_at dksX2_copy_8 5 rfl rfl)
theorem dX2_copy_191 : decode cX2_copy 191 = .ok (.putfield 79, 3) := dk_181 0 79 (dk_at dksX2_copy_8 8 rfl rfl)
theorem dX2_copy_194 : decode cX2_copy 194 = .ok (.aload_n 1, 1) := dk_43 (dk_at dksX2_copy_8 11 rfl rfl)
theorem dX2_copy_195 : decode cX2_copy 195 = .ok (.aload_n 0, 1) := dk_42 (dk_at dksX2_copy_8 12 rfl rfl)
theorem dX2_copy_196 : decode cX2_copy 196 = .ok (.getfield 29, 3) := dk_180 0 29 (dk_at dksX2_copy_8 13 rfl rfl)
theorem dX2_copy_199 : decode cX2_copy 199 = .ok (.putfield 29, 3) := dk_181 0 29 (dk_at dksX2_copy_8 16 rfl rfl)
theorem dX2_copy_202 : decode cX2_copy 202 = .ok (.aload_n 1, 1) := dk_43 (dk_at dksX2_copy_8 19 rfl rfl)
theorem dX2_copy_203 : decode cX2_copy 203 = .ok (.aload_n 0, 1) := dk_42 (dk_at dksX2_copy_8 20 rfl rfl)
theorem dX2_copy_204 : decode cX2_copy 204 = .ok (.getfield 33, 3) := dk_180 0 33 (dk_at dksX2_copy_8 21 rfl rfl)
theorem dX2_copy_207 : decode cX2_copy 207 = .ok (.putfield 33, 3) := dk_181 0 33 (dk_at dksX2_copy_9 0 rfl rfl)
theorem dX2_copy_210 : decode cX2_copy 210 = .ok (.aload_n 1, 1) := dk_43 (dk_at dksX2_copy_9 3 rfl rfl)
theorem dX2_copy_211 : decode cX2_copy 211 = .ok (.aload_n 0, 1) := dk_42 (dk_at dksX2_copy_9 4 rfl rfl)
theorem dX2_copy_212 : decode cX2_copy 212 = .ok (.getfield 36, 3) := dk_180 0 36 (dk_at dksX2_copy_9 5 rfl rfl)
theorem dX2_copy_215 : decode cX2_copy 215 = .ok (.putfield 36, 3) := dk_181 0 36 (dk_at dksX2_copy_9 8 rfl rfl)
theorem dX2_copy_218 : decode cX2_copy 218 = .ok (.aload_n 1, 1) := dk_43 (dk_at dksX2_copy_9 11 rfl rfl)
theorem dX2_copy_219 : decode cX2_copy 219 = .ok (.aload_n 0, 1) := dk_42 (dk_at dksX2_copy_9 12 rfl rfl)
theorem dX2_copy_220 : decode cX2_copy 220 = .ok (.getfield 82, 3) := dk_180 0 82 (dk_at dksX2_copy_9 13 rfl rfl)
theorem dX2_copy_223 : decode cX2_copy 223 = .ok (.putfield 82, 3) := dk_181 0 82 (dk_at dksX2_copy_9 16 rfl rfl)
theorem dX2_copy_226 : decode cX2_copy 226 = .ok (.aload_n 1, 1) := dk_43 (dk_at dksX2_copy_9 19 rfl rfl)
theorem dX2_copy_227 : decode cX2_copy 227 = .ok (.aload_n 0, 1) := dk_42 (dk_at dksX2_copy_9 20 rfl rfl)
theorem dX2_copy_228 : decode cX2_copy 228 = .ok (.getfield 85, 3) := dk_180 0 85 (dk_at dksX2_copy_9 21 rfl rfl)
theorem dX2_copy_231 : decode cX2_copy 231 = .ok (.putfield 85, 3) := dk_181 0 85 (dk_at dksX2_copy_10 0 rfl rfl)
theorem dX2_copy_234 : decode cX2_copy 234 = .ok (.aload_n 1, 1) := dk_43 (dk_at dksX2_copy_10 3 rfl rfl)
theorem dX2_copy_235 : decode cX2_copy 235 = .ok (.aload_n 0, 1) := dk_42 (dk_at dksX2_copy_10 4 rfl rfl)
theorem dX2_copy_236 : decode cX2_copy 236 = .ok (.getfield 88, 3) := dk_180 0 88 (dk_at dksX2_copy_10 5 rfl rfl)
theorem dX2_copy_239 : decode cX2_copy 239 = .ok (.putfield 88, 3) := dk_181 0 88 (dk_at dksX2_copy_10 8 rfl rfl)
theorem dX2_copy_242 : decode cX2_copy 242 = .ok (.aload_n 1, 1) := dk_43 (dk_at dksX2_copy_10 11 rfl rfl)
theorem dX2_copy_243 : decode cX2_copy 243 = .ok (.aload_n 0, 1) := dk_42 (dk_at dksX2_copy_10 12 rfl rfl)
theorem dX2_copy_244 : decode cX2_copy 244 = .ok (.getfield 91, 3) := dk_180 0 91 (dk_at dksX2_copy_10 13 rfl rfl)
theorem dX2_copy_247 : decode cX2_copy 247 = .ok (.putfield 91, 3) := dk_181 0 91 (dk_at dksX2_copy_10 16 rfl rfl)
theorem dX2_copy_250 : decode cX2_copy 250 = .ok (.aload_n 1, 1) := dk_43 (dk_at dksX2_copy_10 19 rfl rfl)
theorem dX2_copy_251 : decode cX2_copy 251 = .ok (.aload_n 0, 1) := dk_42 (dk_at dksX2_copy_10 20 rfl rfl)
theorem dX2_copy_252 : decode cX2_copy 252 = .ok (.getfield 94, 3) := dk_180 0 94 (dk_at dksX2_copy_10 21 rfl rfl)
theorem dX2_copy_255 : decode cX2_copy 255 = .ok (.putfield 94, 3) := dk_181 0 94 (dk_at dksX2_copy_11 0 rfl rfl)
theorem dX2_copy_258 : decode cX2_copy 258 = .ok (.aload_n 1, 1) := dk_43 (dk_at dksX2_copy_11 3 rfl rfl)
theorem dX2_copy_259 : decode cX2_copy 259 = .ok (.aload_n 0, 1) := dk_42 (dk_at dksX2_copy_11 4 rfl rfl)
theorem dX2_copy_260 : decode cX2_copy 260 = .ok (.getfield 97, 3) := dk_180 0 97 (dk_at dksX2_copy_11 5 rfl rfl)
theorem dX2_copy_263 : decode cX2_copy 263 = .ok (.putfield 97, 3) := dk_181 0 97 (dk_at dksX2_copy_11 8 rfl rfl)
theorem dX2_copy_266 : decode cX2_copy 266 = .ok (.aload_n 1, 1) := dk_43 (dk_at dksX2_copy_11 11 rfl rfl)
theorem dX2_copy_267 : decode cX2_copy 267 = .ok (.areturn, 1) := dk_176 (dk_at dksX2_copy_11 12 rfl rfl)
abbrev cX2_setDamp : ByteArray := prog_7_method_12_code
def yX2_setDamp : MethodName := ⟨RX2, "setDamp", "(I)I"⟩
def dkwX2_setDamp_0 : List UInt8 := [27, 133, 9, 20, 0, 134, 184, 0, 104, 184, 0, 128, 42, 180, 0, 33, 61, 42, 27, 181, 0, 33, 28, 172]
abbrev dktX2_setDamp_0 : List UInt8 := dkwX2_setDamp_0 ++ []
theorem dksX2_setDamp_0 : cX2_setDamp.data.toList.drop 0 = dktX2_setDamp_0 := by decide +kernel
theorem dX2_setDamp_0 : decode cX2_setDamp 0 = .ok (.iload_n 1, 1) := dk_27 (dk_at dksX2_setDamp_0 0 rfl rfl)
theorem dX2_setDamp_1 : decode cX2_setDamp 1 = .ok (.i2l, 1) := dk_133 (dk_at dksX2_setDamp_0 1 rfl rfl)
theorem dX2_setDamp_2 : decode cX2_setDamp 2 = .ok (.lconst 0, 1) := dk_9 (dk_at dksX2_setDamp_0 2 rfl rfl)
theorem dX2_setDamp_3 : decode cX2_setDamp 3 = .ok (.ldc2_w 134, 3) := dk_20 0 134 (dk_at dksX2_setDamp_0 3 rfl rfl)
theorem dX2_setDamp_6 : decode cX2_setDamp 6 = .ok (.invokestatic 104, 3) := dk_184 0 104 (dk_at dksX2_setDamp_0 6 rfl rfl)
theorem dX2_setDamp_9 : decode cX2_setDamp 9 = .ok (.invokestatic 128, 3) := dk_184 0 128 (dk_at dksX2_setDamp_0 9 rfl rfl)
theorem dX2_setDamp_12 : decode cX2_setDamp 12 = .ok (.aload_n 0, 1) := dk_42 (dk_at dksX2_setDamp_0 12 rfl rfl)
theorem dX2_setDamp_13 : decode cX2_setDamp 13 = .ok (.getfield 33, 3) := dk_180 0 33 (dk_at dksX2_setDamp_0 13 rfl rfl)
theorem dX2_setDamp_16 : decode cX2_setDamp 16 = .ok (.istore_n 2, 1) := dk_61 (dk_at dksX2_setDamp_0 16 rfl rfl)
theorem dX2_setDamp_17 : decode cX2_setDamp 17 = .ok (.aload_n 0, 1) := dk_42 (dk_at dksX2_setDamp_0 17 rfl rfl)
theorem dX2_setDamp_18 : decode cX2_setDamp 18 = .ok (.iload_n 1, 1) := dk_27 (dk_at dksX2_setDamp_0 18 rfl rfl)
theorem dX2_setDamp_19 : decode cX2_setDamp 19 = .ok (.putfield 33, 3) := dk_181 0 33 (dk_at dksX2_setDamp_0 19 rfl rfl)
theorem dX2_setDamp_22 : decode cX2_setDamp 22 = .ok (.iload_n 2, 1) := dk_28 (dk_at dksX2_setDamp_0 22 rfl rfl)
theorem dX2_setDamp_23 : decode cX2_setDamp 23 = .ok (.ireturn, 1) := dk_172 (dk_at dksX2_setDamp_0 23 rfl rfl)
abbrev cX2_addCopper : ByteArray := prog_7_method_13_code
def yX2_addCopper : MethodName := ⟨RX2, "addCopper", "(I)I"⟩
def dkwX2_addCopper_2 : List UInt8 := [183, 0, 139, 184, 0, 142, 172]
abbrev dktX2_addCopper_2 : List UInt8 := dkwX2_addCopper_2 ++ []
def dkwX2_addCopper_1 : List UInt8 := [167, 0, 4, 3, 184, 0, 136, 42, 180, 0, 14, 187, 0, 54, 89, 42, 180, 0, 14, 182, 0, 100, 27]
abbrev dktX2_addCopper_1 : List UInt8 := dkwX2_addCopper_1 ++ dktX2_addCopper_2
def dkwX2_addCopper_0 : List UInt8 := [27, 133, 10, 20, 0, 134, 184, 0, 104, 184, 0, 128, 42, 180, 0, 14, 182, 0, 100, 8, 162, 0, 7, 4]
abbrev dktX2_addCopper_0 : List UInt8 := dkwX2_addCopper_0 ++ dktX2_addCopper_1
theorem dksX2_addCopper_0 : cX2_addCopper.data.toList.drop 0 = dktX2_addCopper_0 := by decide +kernel
theorem dksX2_addCopper_1 : cX2_addCopper.data.toList.drop 24 = dktX2_addCopper_1 := dk_seg dksX2_addCopper_0 24 rfl rfl
theorem dksX2_addCopper_2 : cX2_addCopper.data.toList.drop 47 = dktX2_addCopper_2 := dk_seg dksX2_addCopper_1 23 rfl rfl
theorem dX2_addCopper_0 : decode cX2_addCopper 0 = .ok (.iload_n 1, 1) := dk_27 (dk_at dksX2_addCopper_0 0 rfl rfl)
theorem dX2_addCopper_1 : decode cX2_addCopper 1 = .ok (.i2l, 1) := dk_133 (dk_at dksX2_addCopper_0 1 rfl rfl)
theorem dX2_addCopper_2 : decode cX2_addCopper 2 = .ok (.lconst 1, 1) := dk_10 (dk_at dksX2_addCopper_0 2 rfl rfl)
theorem dX2_addCopper_3 : decode cX2_addCopper 3 = .ok (.ldc2_w 134, 3) := dk_20 0 134 (dk_at dksX2_addCopper_0 3 rfl rfl)
theorem dX2_addCopper_6 : decode cX2_addCopper 6 = .ok (.invokestatic 104, 3) := dk_184 0 104 (dk_at dksX2_addCopper_0 6 rfl rfl)
theorem dX2_addCopper_9 : decode cX2_addCopper 9 = .ok (.invokestatic 128, 3) := dk_184 0 128 (dk_at dksX2_addCopper_0 9 rfl rfl)
theorem dX2_addCopper_12 : decode cX2_addCopper 12 = .ok (.aload_n 0, 1) := dk_42 (dk_at dksX2_addCopper_0 12 rfl rfl)
theorem dX2_addCopper_13 : decode cX2_addCopper 13 = .ok (.getfield 14, 3) := dk_180 0 14 (dk_at dksX2_addCopper_0 13 rfl rfl)
theorem dX2_addCopper_16 : decode cX2_addCopper 16 = .ok (.invokevirtual 100, 3) := dk_182 0 100 (dk_at dksX2_addCopper_0 16 rfl rfl)
theorem dX2_addCopper_19 : decode cX2_addCopper 19 = .ok (.iconst 5, 1) := dk_8 (dk_at dksX2_addCopper_0 19 rfl rfl)
theorem dX2_addCopper_20 : decode cX2_addCopper 20 = .ok (.if_icmp .ge 7, 3) := dk_162 0 7 (dk_at dksX2_addCopper_0 20 rfl rfl)
theorem dX2_addCopper_23 : decode cX2_addCopper 23 = .ok (.iconst 1, 1) := dk_4 (dk_at dksX2_addCopper_0 23 rfl rfl)
theorem dX2_addCopper_24 : decode cX2_addCopper 24 = .ok (.goto 4, 3) := dk_167 0 4 (dk_at dksX2_addCopper_1 0 rfl rfl)
theorem dX2_addCopper_27 : decode cX2_addCopper 27 = .ok (.iconst 0, 1) := dk_3 (dk_at dksX2_addCopper_1 3 rfl rfl)
theorem dX2_addCopper_28 : decode cX2_addCopper 28 = .ok (.invokestatic 136, 3) := dk_184 0 136 (dk_at dksX2_addCopper_1 4 rfl rfl)
theorem dX2_addCopper_31 : decode cX2_addCopper 31 = .ok (.aload_n 0, 1) := dk_42 (dk_at dksX2_addCopper_1 7 rfl rfl)
theorem dX2_addCopper_32 : decode cX2_addCopper 32 = .ok (.getfield 14, 3) := dk_180 0 14 (dk_at dksX2_addCopper_1 8 rfl rfl)
theorem dX2_addCopper_35 : decode cX2_addCopper 35 = .ok (.new 54, 3) := dk_187 0 54 (dk_at dksX2_addCopper_1 11 rfl rfl)
theorem dX2_addCopper_38 : decode cX2_addCopper 38 = .ok (.dup, 1) := dk_89 (dk_at dksX2_addCopper_1 14 rfl rfl)
theorem dX2_addCopper_39 : decode cX2_addCopper 39 = .ok (.aload_n 0, 1) := dk_42 (dk_at dksX2_addCopper_1 15 rfl rfl)
theorem dX2_addCopper_40 : decode cX2_addCopper 40 = .ok (.getfield 14, 3) := dk_180 0 14 (dk_at dksX2_addCopper_1 16 rfl rfl)
theorem dX2_addCopper_43 : decode cX2_addCopper 43 = .ok (.invokevirtual 100, 3) := dk_182 0 100 (dk_at dksX2_addCopper_1 19 rfl rfl)
theorem dX2_addCopper_46 : decode cX2_addCopper 46 = .ok (.iload_n 1, 1) := dk_27 (dk_at dksX2_addCopper_1 22 rfl rfl)
theorem dX2_addCopper_47 : decode cX2_addCopper 47 = .ok (.invokespecial 139, 3) := dk_183 0 139 (dk_at dksX2_addCopper_2 0 rfl rfl)
theorem dX2_addCopper_50 : decode cX2_addCopper 50 = .ok (.invokestatic 142, 3) := dk_184 0 142 (dk_at dksX2_addCopper_2 3 rfl rfl)
theorem dX2_addCopper_53 : decode cX2_addCopper 53 = .ok (.ireturn, 1) := dk_172 (dk_at dksX2_addCopper_2 6 rfl rfl)
abbrev cX2_added : ByteArray := prog_7_method_4_code
def yX2_added : MethodName := ⟨RX2, "added", "(Ljava/util/ArrayList;Ljava/lang/Object;)I"⟩
def dkwX2_added_0 : List UInt8 := [42, 43, 182, 0, 60, 61, 42, 182, 0, 100, 4, 100, 172]
abbrev dktX2_added_0 : List UInt8 := dkwX2_added_0 ++ []
theorem dksX2_added_0 : cX2_added.data.toList.drop 0 = dktX2_added_0 := by decide +kernel
theorem dX2_added_0 : decode cX2_added 0 = .ok (.aload_n 0, 1) := dk_42 (dk_at dksX2_added_0 0 rfl rfl)
theorem dX2_added_1 : decode cX2_added 1 = .ok (.aload_n 1, 1) := dk_43 (dk_at dksX2_added_0 1 rfl rfl)
theorem dX2_added_2 : decode cX2_added 2 = .ok (.invokevirtual 60, 3) := dk_182 0 60 (dk_at dksX2_added_0 2 rfl rfl)
theorem dX2_added_5 : decode cX2_added 5 = .ok (.istore_n 2, 1) := dk_61 (dk_at dksX2_added_0 5 rfl rfl)
theorem dX2_added_6 : decode cX2_added 6 = .ok (.aload_n 0, 1) := dk_42 (dk_at dksX2_added_0 6 rfl rfl)
theorem dX2_added_7 : decode cX2_added 7 = .ok (.invokevirtual 100, 3) := dk_182 0 100 (dk_at dksX2_added_0 7 rfl rfl)
theorem dX2_added_10 : decode cX2_added 10 = .ok (.iconst 1, 1) := dk_4 (dk_at dksX2_added_0 10 rfl rfl)
theorem dX2_added_11 : decode cX2_added 11 = .ok (.isub, 1) := dk_100 (dk_at dksX2_added_0 11 rfl rfl)
theorem dX2_added_12 : decode cX2_added 12 = .ok (.ireturn, 1) := dk_172 (dk_at dksX2_added_0 12 rfl rfl)
abbrev cX2_copper : ByteArray := prog_7_method_5_code
def yX2_copper : MethodName := ⟨RX2, "copper", "(I)LWillowPrinters$Copper;"⟩
def dkwX2_copper_0 : List UInt8 := [42, 180, 0, 14, 27, 184, 0, 116, 192, 0, 54, 176]
abbrev dktX2_copper_0 : List UInt8 := dkwX2_copper_0 ++ []
theorem dksX2_copper_0 : cX2_copper.data.toList.drop 0 = dktX2_copper_0 := by decide +kernel
theorem dX2_copper_0 : decode cX2_copper 0 = .ok (.aload_n 0, 1) := dk_42 (dk_at dksX2_copper_0 0 rfl rfl)
theorem dX2_copper_1 : decode cX2_copper 1 = .ok (.getfield 14, 3) := dk_180 0 14 (dk_at dksX2_copper_0 1 rfl rfl)
theorem dX2_copper_4 : decode cX2_copper 4 = .ok (.iload_n 1, 1) := dk_27 (dk_at dksX2_copper_0 4 rfl rfl)
theorem dX2_copper_5 : decode cX2_copper 5 = .ok (.invokestatic 116, 3) := dk_184 0 116 (dk_at dksX2_copper_0 5 rfl rfl)
theorem dX2_copper_8 : decode cX2_copper 8 = .ok (.checkcast 54, 3) := dk_192 0 54 (dk_at dksX2_copper_0 8 rfl rfl)
theorem dX2_copper_11 : decode cX2_copper 11 = .ok (.areturn, 1) := dk_176 (dk_at dksX2_copper_0 11 rfl rfl)
abbrev cX2_checked : ByteArray := prog_7_method_3_code
def yX2_checked : MethodName := ⟨RX2, "checked", "(Ljava/util/ArrayList;I)Ljava/lang/Object;"⟩
def dkwX2_checked_0 : List UInt8 := [27, 133, 9, 42, 182, 0, 100, 4, 100, 133, 184, 0, 104, 184, 0, 108, 42, 27, 182, 0, 112, 176]
abbrev dktX2_checked_0 : List UInt8 := dkwX2_checked_0 ++ []
theorem dksX2_checked_0 : cX2_checked.data.toList.drop 0 = dktX2_checked_0 := by decide +kernel
theorem dX2_checked_0 : decode cX2_checked 0 = .ok (.iload_n 1, 1) := dk_27 (dk_at dksX2_checked_0 0 rfl rfl)
theorem dX2_checked_1 : decode cX2_checked 1 = .ok (.i2l, 1) := dk_133 (dk_at dksX2_checked_0 1 rfl rfl)
theorem dX2_checked_2 : decode cX2_checked 2 = .ok (.lconst 0, 1) := dk_9 (dk_at dksX2_checked_0 2 rfl rfl)
theorem dX2_checked_3 : decode cX2_checked 3 = .ok (.aload_n 0, 1) := dk_42 (dk_at dksX2_checked_0 3 rfl rfl)
theorem dX2_checked_4 : decode cX2_checked 4 = .ok (.invokevirtual 100, 3) := dk_182 0 100 (dk_at dksX2_checked_0 4 rfl rfl)
theorem dX2_checked_7 : decode cX2_checked 7 = .ok (.iconst 1, 1) := dk_4 (dk_at dksX2_checked_0 7 rfl rfl)
theorem dX2_checked_8 : decode cX2_checked 8 = .ok (.isub, 1) := dk_100 (dk_at dksX2_checked_0 8 rfl rfl)
theorem dX2_checked_9 : decode cX2_checked 9 = .ok (.i2l, 1) := dk_133 (dk_at dksX2_checked_0 9 rfl rfl)
theorem dX2_checked_10 : decode cX2_checked 10 = .ok (.invokestatic 104, 3) := dk_184 0 104 (dk_at dksX2_checked_0 10 rfl rfl)
theorem dX2_checked_13 : decode cX2_checked 13 = .ok (.invokestatic 108, 3) := dk_184 0 108 (dk_at dksX2_checked_0 13 rfl rfl)
theorem dX2_checked_16 : decode cX2_checked 16 = .ok (.aload_n 0, 1) := dk_42 (dk_at dksX2_checked_0 16 rfl rfl)
theorem dX2_checked_17 : decode cX2_checked 17 = .ok (.iload_n 1, 1) := dk_27 (dk_at dksX2_checked_0 17 rfl rfl)
theorem dX2_checked_18 : decode cX2_checked 18 = .ok (.invokevirtual 112, 3) := dk_182 0 112 (dk_at dksX2_checked_0 18 rfl rfl)
theorem dX2_checked_21 : decode cX2_checked 21 = .ok (.areturn, 1) := dk_176 (dk_at dksX2_checked_0 21 rfl rfl)
abbrev cX2_lot : ByteArray := prog_7_method_6_code
def yX2_lot : MethodName := ⟨RX2, "lot", "(I)LWillowPrinters$Lot;"⟩
def dkwX2_lot_0 : List UInt8 := [42, 180, 0, 20, 27, 184, 0, 116, 192, 0, 64, 176]
abbrev dktX2_lot_0 : List UInt8 := dkwX2_lot_0 ++ []
theorem dksX2_lot_0 : cX2_lot.data.toList.drop 0 = dktX2_lot_0 := by decide +kernel
theorem dX2_lot_0 : decode cX2_lot 0 = .ok (.aload_n 0, 1) := dk_42 (dk_at dksX2_lot_0 0 rfl rfl)
theorem dX2_lot_1 : decode cX2_lot 1 = .ok (.getfield 20, 3) := dk_180 0 20 (dk_at dksX2_lot_0 1 rfl rfl)
theorem dX2_lot_4 : decode cX2_lot 4 = .ok (.iload_n 1, 1) := dk_27 (dk_at dksX2_lot_0 4 rfl rfl)
theorem dX2_lot_5 : decode cX2_lot 5 = .ok (.invokestatic 116, 3) := dk_184 0 116 (dk_at dksX2_lot_0 5 rfl rfl)
theorem dX2_lot_8 : decode cX2_lot 8 = .ok (.checkcast 64, 3) := dk_192 0 64 (dk_at dksX2_lot_0 8 rfl rfl)
theorem dX2_lot_11 : decode cX2_lot 11 = .ok (.areturn, 1) := dk_176 (dk_at dksX2_lot_0 11 rfl rfl)
abbrev cX2_bestCopper : ByteArray := prog_7_method_14_code
def yX2_bestCopper : MethodName := ⟨RX2, "bestCopper", "(LWillowPrinters$Lot;)LWillowPrinters$Copper;"⟩
def dkwX2_bestCopper_3 : List UInt8 := [153, 0, 8, 25, 4, 167, 0, 4, 44, 77, 167, 255, 191, 44, 176]
abbrev dktX2_bestCopper_3 : List UInt8 := dkwX2_bestCopper_3 ++ []
def dkwX2_bestCopper_2 : List UInt8 := [25, 4, 44, 42, 180, 0, 33, 182, 0, 150, 153, 0, 7, 4, 167, 0, 4, 3, 54, 5, 21, 5]
abbrev dktX2_bestCopper_2 : List UInt8 := dkwX2_bestCopper_2 ++ dktX2_bestCopper_3
def dkwX2_bestCopper_1 : List UInt8 := [185, 0, 50, 1, 0, 192, 0, 54, 58, 4, 25, 4, 43, 182, 0, 146, 153, 0, 24, 44, 198, 0, 16]
abbrev dktX2_bestCopper_1 : List UInt8 := dkwX2_bestCopper_1 ++ dktX2_bestCopper_2
def dkwX2_bestCopper_0 : List UInt8 := [1, 77, 42, 180, 0, 14, 182, 0, 40, 78, 45, 185, 0, 44, 1, 0, 153, 0, 62, 45]
abbrev dktX2_bestCopper_0 : List UInt8 := dkwX2_bestCopper_0 ++ dktX2_bestCopper_1
theorem dksX2_bestCopper_0 : cX2_bestCopper.data.toList.drop 0 = dktX2_bestCopper_0 := by decide +kernel
theorem dksX2_bestCopper_1 : cX2_bestCopper.data.toList.drop 20 = dktX2_bestCopper_1 := dk_seg dksX2_bestCopper_0 20 rfl rfl
theorem dksX2_bestCopper_2 : cX2_bestCopper.data.toList.drop 43 = dktX2_bestCopper_2 := dk_seg dksX2_bestCopper_1 23 rfl rfl
theorem dksX2_bestCopper_3 : cX2_bestCopper.data.toList.drop 65 = dktX2_bestCopper_3 := dk_seg dksX2_bestCopper_2 22 rfl rfl
theorem dX2_bestCopper_0 : decode cX2_bestCopper 0 = .ok (.aconst_null, 1) := dk_1 (dk_at dksX2_bestCopper_0 0 rfl rfl)
theorem dX2_bestCopper_1 : decode cX2_bestCopper 1 = .ok (.astore_n 2, 1) := dk_77 (dk_at dksX2_bestCopper_0 1 rfl rfl)
theorem dX2_bestCopper_2 : decode cX2_bestCopper 2 = .ok (.aload_n 0, 1) := dk_42 (dk_at dksX2_bestCopper_0 2 rfl rfl)
theorem dX2_bestCopper_3 : decode cX2_bestCopper 3 = .ok (.getfield 14, 3) := dk_180 0 14 (dk_at dksX2_bestCopper_0 3 rfl rfl)
theorem dX2_bestCopper_6 : decode cX2_bestCopper 6 = .ok (.invokevirtual 40, 3) := dk_182 0 40 (dk_at dksX2_bestCopper_0 6 rfl rfl)
theorem dX2_bestCopper_9 : decode cX2_bestCopper 9 = .ok (.astore_n 3, 1) := dk_78 (dk_at dksX2_bestCopper_0 9 rfl rfl)
theorem dX2_bestCopper_10 : decode cX2_bestCopper 10 = .ok (.aload_n 3, 1) := dk_45 (dk_at dksX2_bestCopper_0 10 rfl rfl)
theorem dX2_bestCopper_11 : decode cX2_bestCopper 11 = .ok (.invokeinterface 44 1, 5) := by decide +kernel
theorem dX2_bestCopper_16 : decode cX2_bestCopper 16 = .ok (.ifCond .eq 62, 3) := dk_153 0 62 (dk_at dksX2_bestCopper_0 16 rfl rfl)
theorem dX2_bestCopper_19 : decode cX2_bestCopper 19 = .ok (.aload_n 3, 1) := dk_45 (dk_at dksX2_bestCopper_0 19 rfl rfl)
theorem dX2_bestCopper_20 : decode cX2_bestCopper 20 = .ok (.invokeinterface 50 1, 5) := by decide +kernel
theorem dX2_bestCopper_25 : decode cX2_bestCopper 25 = .ok (.checkcast 54, 3) := dk_192 0 54 (dk_at dksX2_bestCopper_1 5 rfl rfl)
theorem dX2_bestCopper_28 : decode cX2_bestCopper 28 = .ok (.astore 4, 2) := dk_58 4 (dk_at dksX2_bestCopper_1 8 rfl rfl)
theorem dX2_bestCopper_30 : decode cX2_bestCopper 30 = .ok (.aload 4, 2) := dk_25 4 (dk_at dksX2_bestCopper_1 10 rfl rfl)
theorem dX2_bestCopper_32 : decode cX2_bestCopper 32 = .ok (.aload_n 1, 1) := dk_43 (dk_at dksX2_bestCopper_1 12 rfl rfl)
theorem dX2_bestCopper_33 : decode cX2_bestCopper 33 = .ok (.invokevirtual 146, 3) := dk_182 0 146 (dk_at dksX2_bestCopper_1 13 rfl rfl)
theorem dX2_bestCopper_36 : decode cX2_bestCopper 36 = .ok (.ifCond .eq 24, 3) := dk_153 0 24 (dk_at dksX2_bestCopper_1 16 rfl rfl)
theorem dX2_bestCopper_39 : decode cX2_bestCopper 39 = .ok (.aload_n 2, 1) := dk_44 (dk_at dksX2_bestCopper_1 19 rfl rfl)
theorem dX2_bestCopper_40 : decode cX2_bestCopper 40 = .ok (.ifnull 16, 3) := dk_198 0 16 (dk_at dksX2_bestCopper_1 20 rfl rfl)
theorem dX2_bestCopper_43 : decode cX2_bestCopper 43 = .ok (.aload 4, 2) := dk_25 4 (dk_at dksX2_bestCopper_2 0 rfl rfl)
theorem dX2_bestCopper_45 : decode cX2_bestCopper 45 = .ok (.aload_n 2, 1) := dk_44 (dk_at dksX2_bestCopper_2 2 rfl rfl)
theorem dX2_bestCopper_46 : decode cX2_bestCopper 46 = .ok (.aload_n 0, 1) := dk_42 (dk_at dksX2_bestCopper_2 3 rfl rfl)
theorem dX2_bestCopper_47 : decode cX2_bestCopper 47 = .ok (.getfield 33, 3) := dk_180 0 33 (dk_at dksX2_bestCopper_2 4 rfl rfl)
theorem dX2_bestCopper_50 : decode cX2_bestCopper 50 = .ok (.invokevirtual 150, 3) := dk_182 0 150 (dk_at dksX2_bestCopper_2 7 rfl rfl)
theorem dX2_bestCopper_53 : decode cX2_bestCopper 53 = .ok (.ifCond .eq 7, 3) := dk_153 0 7 (dk_at dksX2_bestCopper_2 10 rfl rfl)
theorem dX2_bestCopper_56 : decode cX2_bestCopper 56 = .ok (.iconst 1, 1) := dk_4 (dk_at dksX2_bestCopper_2 13 rfl rfl)
theorem dX2_bestCopper_57 : decode cX2_bestCopper 57 = .ok (.goto 4, 3) := dk_167 0 4 (dk_at dksX2_bestCopper_2 14 rfl rfl)
theorem dX2_bestCopper_60 : decode cX2_bestCopper 60 = .ok (.iconst 0, 1) := dk_3 (dk_at dksX2_bestCopper_2 17 rfl rfl)
theorem dX2_bestCopper_61 : decode cX2_bestCopper 61 = .ok (.istore 5, 2) := dk_54 5 (dk_at dksX2_bestCopper_2 18 rfl rfl)
theorem dX2_bestCopper_63 : decode cX2_bestCopper 63 = .ok (.iload 5, 2) := dk_21 5 (dk_at dksX2_bestCopper_2 20 rfl rfl)
theorem dX2_bestCopper_65 : decode cX2_bestCopper 65 = .ok (.ifCond .eq 8, 3) := dk_153 0 8 (dk_at dksX2_bestCopper_3 0 rfl rfl)
theorem dX2_bestCopper_68 : decode cX2_bestCopper 68 = .ok (.aload 4, 2) := dk_25 4 (dk_at dksX2_bestCopper_3 3 rfl rfl)
theorem dX2_bestCopper_70 : decode cX2_bestCopper 70 = .ok (.goto 4, 3) := dk_167 0 4 (dk_at dksX2_bestCopper_3 5 rfl rfl)
theorem dX2_bestCopper_73 : decode cX2_bestCopper 73 = .ok (.aload_n 2, 1) := dk_44 (dk_at dksX2_bestCopper_3 8 rfl rfl)
theorem dX2_bestCopper_74 : decode cX2_bestCopper 74 = .ok (.astore_n 2, 1) := dk_77 (dk_at dksX2_bestCopper_3 9 rfl rfl)
theorem dX2_bestCopper_75 : decode cX2_bestCopper 75 = .ok (.goto (-65), 3) := dk_167 255 191 (dk_at dksX2_bestCopper_3 10 rfl rfl)
theorem dX2_bestCopper_78 : decode cX2_bestCopper 78 = .ok (.aload_n 2, 1) := dk_44 (dk_at dksX2_bestCopper_3 13 rfl rfl)
theorem dX2_bestCopper_79 : decode cX2_bestCopper 79 = .ok (.areturn, 1) := dk_176 (dk_at dksX2_bestCopper_3 14 rfl rfl)
abbrev cX2_buyLot : ByteArray := prog_7_method_15_code
def yX2_buyLot : MethodName := ⟨RX2, "buyLot", "(I)I"⟩
def dkwX2_buyLot_3 : List UInt8 := [184, 0, 142, 172]
abbrev dktX2_buyLot_3 : List UInt8 := dkwX2_buyLot_3 ++ []
def dkwX2_buyLot_2 : List UInt8 := [181, 0, 88, 42, 180, 0, 20, 187, 0, 64, 89, 42, 180, 0, 20, 182, 0, 100, 27, 183, 0, 156]
abbrev dktX2_buyLot_2 : List UInt8 := dkwX2_buyLot_2 ++ dktX2_buyLot_3
def dkwX2_buyLot_1 : List UInt8 := [4, 167, 0, 4, 3, 184, 0, 136, 42, 27, 6, 96, 7, 108, 182, 0, 131, 42, 89, 180, 0, 88, 27, 96]
abbrev dktX2_buyLot_1 : List UInt8 := dkwX2_buyLot_1 ++ dktX2_buyLot_2
def dkwX2_buyLot_0 : List UInt8 := [27, 133, 10, 20, 0, 154, 184, 0, 104, 184, 0, 128, 42, 180, 0, 20, 182, 0, 100, 16, 12, 162, 0, 7]
abbrev dktX2_buyLot_0 : List UInt8 := dkwX2_buyLot_0 ++ dktX2_buyLot_1
theorem dksX2_buyLot_0 : cX2_buyLot.data.toList.drop 0 = dktX2_buyLot_0 := by decide +kernel
theorem dksX2_buyLot_1 : cX2_buyLot.data.toList.drop 24 = dktX2_buyLot_1 := dk_seg dksX2_buyLot_0 24 rfl rfl
theorem dksX2_buyLot_2 : cX2_buyLot.data.toList.drop 48 = dktX2_buyLot_2 := dk_seg dksX2_buyLot_1 24 rfl rfl
theorem dksX2_buyLot_3 : cX2_buyLot.data.toList.drop 70 = dktX2_buyLot_3 := dk_seg dksX2_buyLot_2 22 rfl rfl
theorem dX2_buyLot_0 : decode cX2_buyLot 0 = .ok (.iload_n 1, 1) := dk_27 (dk_at dksX2_buyLot_0 0 rfl rfl)
theorem dX2_buyLot_1 : decode cX2_buyLot 1 = .ok (.i2l, 1) := dk_133 (dk_at dksX2_buyLot_0 1 rfl rfl)
theorem dX2_buyLot_2 : decode cX2_buyLot 2 = .ok (.lconst 1, 1) := dk_10 (dk_at dksX2_buyLot_0 2 rfl rfl)
theorem dX2_buyLot_3 : decode cX2_buyLot 3 = .ok (.ldc2_w 154, 3) := dk_20 0 154 (dk_at dksX2_buyLot_0 3 rfl rfl)
theorem dX2_buyLot_6 : decode cX2_buyLot 6 = .ok (.invokestatic 104, 3) := dk_184 0 104 (dk_at dksX2_buyLot_0 6 rfl rfl)
theorem dX2_buyLot_9 : decode cX2_buyLot 9 = .ok (.invokestatic 128, 3) := dk_184 0 128 (dk_at dksX2_buyLot_0 9 rfl rfl)
theorem dX2_buyLot_12 : decode cX2_buyLot 12 = .ok (.aload_n 0, 1) := dk_42 (dk_at dksX2_buyLot_0 12 rfl rfl)
theorem dX2_buyLot_13 : decode cX2_buyLot 13 = .ok (.getfield 20, 3) := dk_180 0 20 (dk_at dksX2_buyLot_0 13 rfl rfl)
theorem dX2_buyLot_16 : decode cX2_buyLot 16 = .ok (.invokevirtual 100, 3) := dk_182 0 100 (dk_at dksX2_buyLot_0 16 rfl rfl)
theorem dX2_buyLot_19 : decode cX2_buyLot 19 = .ok (.bipush 12, 2) := dk_16 12 (dk_at dksX2_buyLot_0 19 rfl rfl)
theorem dX2_buyLot_21 : decode cX2_buyLot 21 = .ok (.if_icmp .ge 7, 3) := dk_162 0 7 (dk_at dksX2_buyLot_0 21 rfl rfl)
theorem dX2_buyLot_24 : decode cX2_buyLot 24 = .ok (.iconst 1, 1) := dk_4 (dk_at dksX2_buyLot_1 0 rfl rfl)
theorem dX2_buyLot_25 : decode cX2_buyLot 25 = .ok (.goto 4, 3) := dk_167 0 4 (dk_at dksX2_buyLot_1 1 rfl rfl)
theorem dX2_buyLot_28 : decode cX2_buyLot 28 = .ok (.iconst 0, 1) := dk_3 (dk_at dksX2_buyLot_1 4 rfl rfl)
theorem dX2_buyLot_29 : decode cX2_buyLot 29 = .ok (.invokestatic 136, 3) := dk_184 0 136 (dk_at dksX2_buyLot_1 5 rfl rfl)
theorem dX2_buyLot_32 : decode cX2_buyLot 32 = .ok (.aload_n 0, 1) := dk_42 (dk_at dksX2_buyLot_1 8 rfl rfl)
theorem dX2_buyLot_33 : decode cX2_buyLot 33 = .ok (.iload_n 1, 1) := dk_27 (dk_at dksX2_buyLot_1 9 rfl rfl)
theorem dX2_buyLot_34 : decode cX2_buyLot 34 = .ok (.iconst 3, 1) := dk_6 (dk_at dksX2_buyLot_1 10 rfl rfl)
theorem dX2_buyLot_35 : decode cX2_buyLot 35 = .ok (.iadd, 1) := dk_96 (dk_at dksX2_buyLot_1 11 rfl rfl)
theorem dX2_buyLot_36 : decode cX2_buyLot 36 = .ok (.iconst 4, 1) := dk_7 (dk_at dksX2_buyLot_1 12 rfl rfl)
theorem dX2_buyLot_37 : decode cX2_buyLot 37 = .ok (.idiv, 1) := dk_108 (dk_at dksX2_buyLot_1 13 rfl rfl)
theorem dX2_buyLot_38 : decode cX2_buyLot 38 = .ok (.invokevirtual 131, 3) := dk_182 0 131 (dk_at dksX2_buyLot_1 14 rfl rfl)
theorem dX2_buyLot_41 : decode cX2_buyLot 41 = .ok (.aload_n 0, 1) := dk_42 (dk_at dksX2_buyLot_1 17 rfl rfl)
theorem dX2_buyLot_42 : decode cX2_buyLot 42 = .ok (.dup, 1) := dk_89 (dk_at dksX2_buyLot_1 18 rfl rfl)
theorem dX2_buyLot_43 : decode cX2_buyLot 43 = .ok (.getfield 88, 3) := dk_180 0 88 (dk_at dksX2_buyLot_1 19 rfl rfl)
theorem dX2_buyLot_46 : decode cX2_buyLot 46 = .ok (.iload_n 1, 1) := dk_27 (dk_at dksX2_buyLot_1 22 rfl rfl)
theorem dX2_buyLot_47 : decode cX2_buyLot 47 = .ok (.iadd, 1) := dk_96 (dk_at dksX2_buyLot_1 23 rfl rfl)
theorem dX2_buyLot_48 : decode cX2_buyLot 48 = .ok (.putfield 88, 3) := dk_181 0 88 (dk_at dksX2_buyLot_2 0 rfl rfl)
theorem dX2_buyLot_51 : decode cX2_buyLot 51 = .ok (.aload_n 0, 1) := dk_42 (dk_at dksX2_buyLot_2 3 rfl rfl)
theorem dX2_buyLot_52 : decode cX2_buyLot 52 = .ok (.getfield 20, 3) := dk_180 0 20 (dk_at dksX2_buyLot_2 4 rfl rfl)
theorem dX2_buyLot_55 : decode cX2_buyLot 55 = .ok (.new 64, 3) := dk_187 0 64 (dk_at dksX2_buyLot_2 7 rfl rfl)
theorem dX2_buyLot_58 : decode cX2_buyLot 58 = .ok (.dup, 1) := dk_89 (dk_at dksX2_buyLot_2 10 rfl rfl)
theorem dX2_buyLot_59 : decode cX2_buyLot 59 = .ok (.aload_n 0, 1) := dk_42 (dk_at dksX2_buyLot_2 11 rfl rfl)
theorem dX2_buyLot_60 : decode cX2_buyLot 60 = .ok (.getfield 20, 3) := dk_180 0 20 (dk_at dksX2_buyLot_2 12 rfl rfl)
theorem dX2_buyLot_63 : decode cX2_buyLot 63 = .ok (.invokevirtual 100, 3) := dk_182 0 100 (dk_at dksX2_buyLot_2 15 rfl rfl)
theorem dX2_buyLot_66 : decode cX2_buyLot 66 = .ok (.iload_n 1, 1) := dk_27 (dk_at dksX2_buyLot_2 18 rfl rfl)
theorem dX2_buyLot_67 : decode cX2_buyLot 67 = .ok (.invokespecial 156, 3) := dk_183 0 156 (dk_at dksX2_buyLot_2 19 rfl rfl)
theorem dX2_buyLot_70 : decode cX2_buyLot 70 = .ok (.invokestatic 142, 3) := dk_184 0 142 (dk_at dksX2_buyLot_3 0 rfl rfl)
theorem dX2_buyLot_73 : decode cX2_buyLot 73 = .ok (.ireturn, 1) := dk_172 (dk_at dksX2_buyLot_3 3 rfl rfl)
abbrev cX2_print : ByteArray := prog_7_method_16_code
def yX2_print : MethodName := ⟨RX2, "print", "(II)I"⟩
def dkwX2_print_5 : List UInt8 := [21, 5, 183, 0, 189, 181, 0, 190, 21, 5, 172]
abbrev dktX2_print_5 : List UInt8 := dkwX2_print_5 ++ []
def dkwX2_print_4 : List UInt8 := [45, 180, 0, 174, 96, 181, 0, 177, 25, 4, 89, 180, 0, 184, 4, 96, 181, 0, 184, 45, 187, 0, 187, 89]
abbrev dktX2_print_4 : List UInt8 := dkwX2_print_4 ++ dktX2_print_5
def dkwX2_print_3 : List UInt8 := [182, 0, 180, 54, 5, 42, 89, 180, 0, 29, 45, 180, 0, 174, 100, 181, 0, 29, 25, 4, 89, 180, 0, 177]
abbrev dktX2_print_3 : List UInt8 := dkwX2_print_3 ++ dktX2_print_4
def dkwX2_print_2 : List UInt8 := [184, 0, 120, 25, 4, 45, 182, 0, 146, 6, 25, 4, 180, 0, 177, 184, 0, 120, 25, 4, 42, 180, 0, 33]
abbrev dktX2_print_2 : List UInt8 := dkwX2_print_2 ++ dktX2_print_3
def dkwX2_print_1 : List UInt8 := [45, 180, 0, 174, 161, 0, 7, 4, 167, 0, 4, 3, 5, 45, 180, 0, 174, 42, 180, 0, 29, 100]
abbrev dktX2_print_1 : List UInt8 := dkwX2_print_1 ++ dktX2_print_2
def dkwX2_print_0 : List UInt8 := [42, 27, 182, 0, 157, 78, 42, 28, 182, 0, 161, 58, 4, 178, 0, 165, 45, 182, 0, 171, 42, 180, 0, 29]
abbrev dktX2_print_0 : List UInt8 := dkwX2_print_0 ++ dktX2_print_1
theorem dksX2_print_0 : cX2_print.data.toList.drop 0 = dktX2_print_0 := by decide +kernel
theorem dksX2_print_1 : cX2_print.data.toList.drop 24 = dktX2_print_1 := dk_seg dksX2_print_0 24 rfl rfl
theorem dksX2_print_2 : cX2_print.data.toList.drop 46 = dktX2_print_2 := dk_seg dksX2_print_1 22 rfl rfl
theorem dksX2_print_3 : cX2_print.data.toList.drop 70 = dktX2_print_3 := dk_seg dksX2_print_2 24 rfl rfl
theorem dksX2_print_4 : cX2_print.data.toList.drop 94 = dktX2_print_4 := dk_seg dksX2_print_3 24 rfl rfl
theorem dksX2_print_5 : cX2_print.data.toList.drop 118 = dktX2_print_5 := dk_seg dksX2_print_4 24 rfl rfl
theorem dX2_print_0 : decode cX2_print 0 = .ok (.aload_n 0, 1) := dk_42 (dk_at dksX2_print_0 0 rfl rfl)
theorem dX2_print_1 : decode cX2_print 1 = .ok (.iload_n 1, 1) := dk_27 (dk_at dksX2_print_0 1 rfl rfl)
theorem dX2_print_2 : decode cX2_print 2 = .ok (.invokevirtual 157, 3) := dk_182 0 157 (dk_at dksX2_print_0 2 rfl rfl)
theorem dX2_print_5 : decode cX2_print 5 = .ok (.astore_n 3, 1) := dk_78 (dk_at dksX2_print_0 5 rfl rfl)
theorem dX2_print_6 : decode cX2_print 6 = .ok (.aload_n 0, 1) := dk_42 (dk_at dksX2_print_0 6 rfl rfl)
theorem dX2_print_7 : decode cX2_print 7 = .ok (.iload_n 2, 1) := dk_28 (dk_at dksX2_print_0 7 rfl rfl)
theorem dX2_print_8 : decode cX2_print 8 = .ok (.invokevirtual 161, 3) := dk_182 0 161 (dk_at dksX2_print_0 8 rfl rfl)
theorem dX2_print_11 : decode cX2_print 11 = .ok (.astore 4, 2) := dk_58 4 (dk_at dksX2_print_0 11 rfl rfl)
theorem dX2_print_13 : decode cX2_print 13 = .ok (.getstatic 165, 3) := dk_178 0 165 (dk_at dksX2_print_0 13 rfl rfl)
theorem dX2_print_16 : decode cX2_print 16 = .ok (.aload_n 3, 1) := dk_45 (dk_at dksX2_print_0 16 rfl rfl)
theorem dX2_print_17 : decode cX2_print 17 = .ok (.invokevirtual 171, 3) := dk_182 0 171 (dk_at dksX2_print_0 17 rfl rfl)
theorem dX2_print_20 : decode cX2_print 20 = .ok (.aload_n 0, 1) := dk_42 (dk_at dksX2_print_0 20 rfl rfl)
theorem dX2_print_21 : decode cX2_print 21 = .ok (.getfield 29, 3) := dk_180 0 29 (dk_at dksX2_print_0 21 rfl rfl)
theorem dX2_print_24 : decode cX2_print 24 = .ok (.aload_n 3, 1) := dk_45 (dk_at dksX2_print_1 0 rfl rfl)
theorem dX2_print_25 : decode cX2_print 25 = .ok (.getfield 174, 3) := dk_180 0 174 (dk_at dksX2_print_1 1 rfl rfl)
theorem dX2_print_28 : decode cX2_print 28 = .ok (.if_icmp .lt 7, 3) := dk_161 0 7 (dk_at dksX2_print_1 4 rfl rfl)
theorem dX2_print_31 : decode cX2_print 31 = .ok (.iconst 1, 1) := dk_4 (dk_at dksX2_print_1 7 rfl rfl)
theorem dX2_print_32 : decode cX2_print 32 = .ok (.goto 4, 3) := dk_167 0 4 (dk_at dksX2_print_1 8 rfl rfl)
theorem dX2_print_35 : decode cX2_print 35 = .ok (.iconst 0, 1) := dk_3 (dk_at dksX2_print_1 11 rfl rfl)
theorem dX2_print_36 : decode cX2_print 36 = .ok (.iconst 2, 1) := dk_5 (dk_at dksX2_print_1 12 rfl rfl)
theorem dX2_print_37 : decode cX2_print 37 = .ok (.aload_n 3, 1) := dk_45 (dk_at dksX2_print_1 13 rfl rfl)
theorem dX2_print_38 : decode cX2_print 38 = .ok (.getfield 174, 3) := dk_180 0 174 (dk_at dksX2_print_1 14 rfl rfl)
theorem dX2_print_41 : decode cX2_print 41 = .ok (.aload_n 0, 1) := dk_42 (dk_at dksX2_print_1 17 rfl rfl)
theorem dX2_print_42 : decode cX2_print 42 = .ok (.getfield 29, 3) := dk_180 0 29 (dk_at dksX2_print_1 18 rfl rfl)
theorem dX2_print_45 : decode cX2_print 45 = .ok (.isub, 1) := dk_100 (dk_at dksX2_print_1 21 rfl rfl)
theorem dX2_print_46 : decode cX2_print 46 = .ok (.invokestatic 120, 3) := dk_184 0 120 (dk_at dksX2_print_2 0 rfl rfl)
theorem dX2_print_49 : decode cX2_print 49 = .ok (.aload 4, 2) := dk_25 4 (dk_at dksX2_print_2 3 rfl rfl)
theorem dX2_print_51 : decode cX2_print 51 = .ok (.aload_n 3, 1) := dk_45 (dk_at dksX2_print_2 5 rfl rfl)
theorem dX2_print_52 : decode cX2_print 52 = .ok (.invokevirtual 146, 3) := dk_182 0 146 (dk_at dksX2_print_2 6 rfl rfl)
theorem dX2_print_55 : decode cX2_print 55 = .ok (.iconst 3, 1) := dk_6 (dk_at dksX2_print_2 9 rfl rfl)
theorem dX2_print_56 : decode cX2_print 56 = .ok (.aload 4, 2) := dk_25 4 (dk_at dksX2_print_2 10 rfl rfl)
theorem dX2_print_58 : decode cX2_print 58 = .ok (.getfield 177, 3) := dk_180 0 177 (dk_at dksX2_print_2 12 rfl rfl)
theorem dX2_print_61 : decode cX2_print 61 = .ok (.invokestatic 120, 3) := dk_184 0 120 (dk_at dksX2_print_2 15 rfl rfl)
theorem dX2_print_64 : decode cX2_print 64 = .ok (.aload 4, 2) := dk_25 4 (dk_at dksX2_print_2 18 rfl rfl)
theorem dX2_print_66 : decode cX2_print 66 = .ok (.aload_n 0, 1) := dk_42 (dk_at dksX2_print_2 20 rfl rfl)
theorem dX2_print_67 : decode cX2_print 67 = .ok (.getfield 33, 3) := dk_180 0 33 (dk_at dksX2_print_2 21 rfl rfl)
theorem dX2_print_70 : decode cX2_print 70 = .ok (.invokevirtual 180, 3) := dk_182 0 180 (dk_at dksX2_print_3 0 rfl rfl)
theorem dX2_print_73 : decode cX2_print 73 = .ok (.istore 5, 2) := dk_54 5 (dk_at dksX2_print_3 3 rfl rfl)
theorem dX2_print_75 : decode cX2_print 75 = .ok (.aload_n 0, 1) := dk_42 (dk_at dksX2_print_3 5 rfl rfl)
theorem dX2_print_76 : decode cX2_print 76 = .ok (.dup, 1) := dk_89 (dk_at dksX2_print_3 6 rfl rfl)
theorem dX2_print_77 : decode cX2_print 77 = .ok (.getfield 29, 3) := dk_180 0 29 (dk_at dksX2_print_3 7 rfl rfl)
theorem dX2_print_80 : decode cX2_print 80 = .ok (.aload_n 3, 1) := dk_45 (dk_at dksX2_print_3 10 rfl rfl)
theorem dX2_print_81 : decode cX2_print 81 = .ok (.getfield 174, 3) := dk_180 0 174 (dk_at dksX2_print_3 11 rfl rfl)
theorem dX2_print_84 : decode cX2_print 84 = .ok (.isub, 1) := dk_100 (dk_at dksX2_print_3 14 rfl rfl)
theorem dX2_print_85 : decode cX2_print 85 = .ok (.putfield 29, 3) := dk_181 0 29 (dk_at dksX2_print_3 15 rfl rfl)
theorem dX2_print_88 : decode cX2_print 88 = .ok (.aload 4, 2) := dk_25 4 (dk_at dksX2_print_3 18 rfl rfl)
theorem dX2_print_90 : decode cX2_print 90 = .ok (.dup, 1) := dk_89 (dk_at dksX2_print_3 20 rfl rfl)
theorem dX2_print_91 : decode cX2_print 91 = .ok (.getfield 177, 3) := dk_180 0 177 (dk_at dksX2_print_3 21 rfl rfl)
theorem dX2_print_94 : decode cX2_print 94 = .ok (.aload_n 3, 1) := dk_45 (dk_at dksX2_print_4 0 rfl rfl)
theorem dX2_print_95 : decode cX2_print 95 = .ok (.getfield 174, 3) := dk_180 0 174 (dk_at dksX2_print_4 1 rfl rfl)
theorem dX2_print_98 : decode cX2_print 98 = .ok (.iadd, 1) := dk_96 (dk_at dksX2_print_4 4 rfl rfl)
theorem dX2_print_99 : decode cX2_print 99 = .ok (.putfield 177, 3) := dk_181 0 177 (dk_at dksX2_print_4 5 rfl rfl)
theorem dX2_print_102 : decode cX2_print 102 = .ok (.aload 4, 2) := dk_25 4 (dk_at dksX2_print_4 8 rfl rfl)
theorem dX2_print_104 : decode cX2_print 104 = .ok (.dup, 1) := dk_89 (dk_at dksX2_print_4 10 rfl rfl)
theorem dX2_print_105 : decode cX2_print 105 = .ok (.getfield 184, 3) := dk_180 0 184 (dk_at dksX2_print_4 11 rfl rfl)
theorem dX2_print_108 : decode cX2_print 108 = .ok (.iconst 1, 1) := dk_4 (dk_at dksX2_print_4 14 rfl rfl)
theorem dX2_print_109 : decode cX2_print 109 = .ok (.iadd, 1) := dk_96 (dk_at dksX2_print_4 15 rfl rfl)
theorem dX2_print_110 : decode cX2_print 110 = .ok (.putfield 184, 3) := dk_181 0 184 (dk_at dksX2_print_4 16 rfl rfl)
theorem dX2_print_113 : decode cX2_print 113 = .ok (.aload_n 3, 1) := dk_45 (dk_at dksX2_print_4 19 rfl rfl)
theorem dX2_print_114 : decode cX2_print 114 = .ok (.new 187, 3) := dk_187 0 187 (dk_at dksX2_print_4 20 rfl rfl)
theorem dX2_print_117 : decode cX2_print 117 = .ok (.dup, 1) := dk_89 (dk_at dksX2_print_4 23 rfl rfl)
theorem dX2_print_118 : decode cX2_print 118 = .ok (.iload 5, 2) := dk_21 5 (dk_at dksX2_print_5 0 rfl rfl)
theorem dX2_print_120 : decode cX2_print 120 = .ok (.invokespecial 189, 3) := dk_183 0 189 (dk_at dksX2_print_5 2 rfl rfl)
theorem dX2_print_123 : decode cX2_print 123 = .ok (.putfield 190, 3) := dk_181 0 190 (dk_at dksX2_print_5 5 rfl rfl)
theorem dX2_print_126 : decode cX2_print 126 = .ok (.iload 5, 2) := dk_21 5 (dk_at dksX2_print_5 8 rfl rfl)
theorem dX2_print_128 : decode cX2_print 128 = .ok (.ireturn, 1) := dk_172 (dk_at dksX2_print_5 10 rfl rfl)
abbrev cX2_addKiln : ByteArray := prog_7_method_17_code
def yX2_addKiln : MethodName := ⟨RX2, "addKiln", "(I)I"⟩
def dkwX2_addKiln_2 : List UInt8 := [184, 0, 142, 172]
abbrev dktX2_addKiln_2 : List UInt8 := dkwX2_addKiln_2 ++ []
def dkwX2_addKiln_1 : List UInt8 := [162, 0, 7, 4, 167, 0, 4, 3, 184, 0, 136, 42, 180, 0, 23, 187, 0, 69, 89, 27, 183, 0, 198]
abbrev dktX2_addKiln_1 : List UInt8 := dkwX2_addKiln_1 ++ dktX2_addKiln_2
def dkwX2_addKiln_0 : List UInt8 := [27, 133, 20, 0, 194, 20, 0, 196, 184, 0, 104, 184, 0, 128, 42, 180, 0, 23, 182, 0, 100, 6]
abbrev dktX2_addKiln_0 : List UInt8 := dkwX2_addKiln_0 ++ dktX2_addKiln_1
theorem dksX2_addKiln_0 : cX2_addKiln.data.toList.drop 0 = dktX2_addKiln_0 := by decide +kernel
theorem dksX2_addKiln_1 : cX2_addKiln.data.toList.drop 22 = dktX2_addKiln_1 := dk_seg dksX2_addKiln_0 22 rfl rfl
theorem dksX2_addKiln_2 : cX2_addKiln.data.toList.drop 45 = dktX2_addKiln_2 := dk_seg dksX2_addKiln_1 23 rfl rfl
theorem dX2_addKiln_0 : decode cX2_addKiln 0 = .ok (.iload_n 1, 1) := dk_27 (dk_at dksX2_addKiln_0 0 rfl rfl)
theorem dX2_addKiln_1 : decode cX2_addKiln 1 = .ok (.i2l, 1) := dk_133 (dk_at dksX2_addKiln_0 1 rfl rfl)
theorem dX2_addKiln_2 : decode cX2_addKiln 2 = .ok (.ldc2_w 194, 3) := dk_20 0 194 (dk_at dksX2_addKiln_0 2 rfl rfl)
theorem dX2_addKiln_5 : decode cX2_addKiln 5 = .ok (.ldc2_w 196, 3) := dk_20 0 196 (dk_at dksX2_addKiln_0 5 rfl rfl)
theorem dX2_addKiln_8 : decode cX2_addKiln 8 = .ok (.invokestatic 104, 3) := dk_184 0 104 (dk_at dksX2_addKiln_0 8 rfl rfl)
theorem dX2_addKiln_11 : decode cX2_addKiln 11 = .ok (.invokestatic 128, 3) := dk_184 0 128 (dk_at dksX2_addKiln_0 11 rfl rfl)
theorem dX2_addKiln_14 : decode cX2_addKiln 14 = .ok (.aload_n 0, 1) := dk_42 (dk_at dksX2_addKiln_0 14 rfl rfl)
theorem dX2_addKiln_15 : decode cX2_addKiln 15 = .ok (.getfield 23, 3) := dk_180 0 23 (dk_at dksX2_addKiln_0 15 rfl rfl)
theorem dX2_addKiln_18 : decode cX2_addKiln 18 = .ok (.invokevirtual 100, 3) := dk_182 0 100 (dk_at dksX2_addKiln_0 18 rfl rfl)
theorem dX2_addKiln_21 : decode cX2_addKiln 21 = .ok (.iconst 3, 1) := dk_6 (dk_at dksX2_addKiln_0 21 rfl rfl)
theorem dX2_addKiln_22 : decode cX2_addKiln 22 = .ok (.if_icmp .ge 7, 3) := dk_162 0 7 (dk_at dksX2_addKiln_1 0 rfl rfl)
theorem dX2_addKiln_25 : decode cX2_addKiln 25 = .ok (.iconst 1, 1) := dk_4 (dk_at dksX2_addKiln_1 3 rfl rfl)
theorem dX2_addKiln_26 : decode cX2_addKiln 26 = .ok (.goto 4, 3) := dk_167 0 4 (dk_at dksX2_addKiln_1 4 rfl rfl)
theorem dX2_addKiln_29 : decode cX2_addKiln 29 = .ok (.iconst 0, 1) := dk_3 (dk_at dksX2_addKiln_1 7 rfl rfl)
theorem dX2_addKiln_30 : decode cX2_addKiln 30 = .ok (.invokestatic 136, 3) := dk_184 0 136 (dk_at dksX2_addKiln_1 8 rfl rfl)
theorem dX2_addKiln_33 : decode cX2_addKiln 33 = .ok (.aload_n 0, 1) := dk_42 (dk_at dksX2_addKiln_1 11 rfl rfl)
theorem dX2_addKiln_34 : decode cX2_addKiln 34 = .ok (.getfield 23, 3) := dk_180 0 23 (dk_at dksX2_addKiln_1 12 rfl rfl)
theorem dX2_addKiln_37 : decode cX2_addKiln 37 = .ok (.new 69, 3) := dk_187 0 69 (dk_at dksX2_addKiln_1 15 rfl rfl)
theorem dX2_addKiln_40 : decode cX2_addKiln 40 = .ok (.dup, 1) := dk_89 (dk_at dksX2_addKiln_1 18 rfl rfl)
theorem dX2_addKiln_41 : decode cX2_addKiln 41 = .ok (.iload_n 1, 1) := dk_27 (dk_at dksX2_addKiln_1 19 rfl rfl)
theorem dX2_addKiln_42 : decode cX2_addKiln 42 = .ok (.invokespecial 198, 3) := dk_183 0 198 (dk_at dksX2_addKiln_1 20 rfl rfl)
theorem dX2_addKiln_45 : decode cX2_addKiln 45 = .ok (.invokestatic 142, 3) := dk_184 0 142 (dk_at dksX2_addKiln_2 0 rfl rfl)
theorem dX2_addKiln_48 : decode cX2_addKiln 48 = .ok (.ireturn, 1) := dk_172 (dk_at dksX2_addKiln_2 3 rfl rfl)
abbrev cX2_kiln : ByteArray := prog_7_method_7_code
def yX2_kiln : MethodName := ⟨RX2, "kiln", "(I)LWillowPrinters$Kiln;"⟩
def dkwX2_kiln_0 : List UInt8 := [42, 180, 0, 23, 27, 184, 0, 116, 192, 0, 69, 176]
abbrev dktX2_kiln_0 : List UInt8 := dkwX2_kiln_0 ++ []
theorem dksX2_kiln_0 : cX2_kiln.data.toList.drop 0 = dktX2_kiln_0 := by decide +kernel
theorem dX2_kiln_0 : decode cX2_kiln 0 = .ok (.aload_n 0, 1) := dk_42 (dk_at dksX2_kiln_0 0 rfl rfl)
theorem dX2_kiln_1 : decode cX2_kiln 1 = .ok (.getfield 23, 3) := dk_180 0 23 (dk_at dksX2_kiln_0 1 rfl rfl)
theorem dX2_kiln_4 : decode cX2_kiln 4 = .ok (.iload_n 1, 1) := dk_27 (dk_at dksX2_kiln_0 4 rfl rfl)
theorem dX2_kiln_5 : decode cX2_kiln 5 = .ok (.invokestatic 116, 3) := dk_184 0 116 (dk_at dksX2_kiln_0 5 rfl rfl)
theorem dX2_kiln_8 : decode cX2_kiln 8 = .ok (.checkcast 69, 3) := dk_192 0 69 (dk_at dksX2_kiln_0 8 rfl rfl)
theorem dX2_kiln_11 : decode cX2_kiln 11 = .ok (.areturn, 1) := dk_176 (dk_at dksX2_kiln_0 11 rfl rfl)
abbrev cX2_lotIn : ByteArray := prog_7_method_18_code
def yX2_lotIn : MethodName := ⟨RX2, "lotIn", "(I)LWillowPrinters$Lot;"⟩
def dkwX2_lotIn_2 : List UInt8 := [44, 77, 167, 255, 220, 44, 176]
abbrev dktX2_lotIn_2 : List UInt8 := dkwX2_lotIn_2 ++ []
def dkwX2_lotIn_1 : List UInt8 := [185, 0, 50, 1, 0, 192, 0, 64, 58, 4, 25, 4, 182, 0, 199, 27, 160, 0, 8, 25, 4, 167, 0, 4]
abbrev dktX2_lotIn_1 : List UInt8 := dkwX2_lotIn_1 ++ dktX2_lotIn_2
def dkwX2_lotIn_0 : List UInt8 := [1, 77, 42, 180, 0, 20, 182, 0, 40, 78, 45, 185, 0, 44, 1, 0, 153, 0, 33, 45]
abbrev dktX2_lotIn_0 : List UInt8 := dkwX2_lotIn_0 ++ dktX2_lotIn_1
theorem dksX2_lotIn_0 : cX2_lotIn.data.toList.drop 0 = dktX2_lotIn_0 := by decide +kernel
theorem dksX2_lotIn_1 : cX2_lotIn.data.toList.drop 20 = dktX2_lotIn_1 := dk_seg dksX2_lotIn_0 20 rfl rfl
theorem dksX2_lotIn_2 : cX2_lotIn.data.toList.drop 44 = dktX2_lotIn_2 := dk_seg dksX2_lotIn_1 24 rfl rfl
theorem dX2_lotIn_0 : decode cX2_lotIn 0 = .ok (.aconst_null, 1) := dk_1 (dk_at dksX2_lotIn_0 0 rfl rfl)
theorem dX2_lotIn_1 : decode cX2_lotIn 1 = .ok (.astore_n 2, 1) := dk_77 (dk_at dksX2_lotIn_0 1 rfl rfl)
theorem dX2_lotIn_2 : decode cX2_lotIn 2 = .ok (.aload_n 0, 1) := dk_42 (dk_at dksX2_lotIn_0 2 rfl rfl)
theorem dX2_lotIn_3 : decode cX2_lotIn 3 = .ok (.getfield 20, 3) := dk_180 0 20 (dk_at dksX2_lotIn_0 3 rfl rfl)
theorem dX2_lotIn_6 : decode cX2_lotIn 6 = .ok (.invokevirtual 40, 3) := dk_182 0 40 (dk_at dksX2_lotIn_0 6 rfl rfl)
theorem dX2_lotIn_9 : decode cX2_lotIn 9 = .ok (.astore_n 3, 1) := dk_78 (dk_at dksX2_lotIn_0 9 rfl rfl)
theorem dX2_lotIn_10 : decode cX2_lotIn 10 = .ok (.aload_n 3, 1) := dk_45 (dk_at dksX2_lotIn_0 10 rfl rfl)
theorem dX2_lotIn_11 : decode cX2_lotIn 11 = .ok (.invokeinterface 44 1, 5) := by decide +kernel
theorem dX2_lotIn_16 : decode cX2_lotIn 16 = .ok (.ifCond .eq 33, 3) := dk_153 0 33 (dk_at dksX2_lotIn_0 16 rfl rfl)
theorem dX2_lotIn_19 : decode cX2_lotIn 19 = .ok (.aload_n 3, 1) := dk_45 (dk_at dksX2_lotIn_0 19 rfl rfl)
theorem dX2_lotIn_20 : decode cX2_lotIn 20 = .ok (.invokeinterface 50 1, 5) := by decide +kernel
theorem dX2_lotIn_25 : decode cX2_lotIn 25 = .ok (.checkcast 64, 3) := dk_192 0 64 (dk_at dksX2_lotIn_1 5 rfl rfl)
theorem dX2_lotIn_28 : decode cX2_lotIn 28 = .ok (.astore 4, 2) := dk_58 4 (dk_at dksX2_lotIn_1 8 rfl rfl)
theorem dX2_lotIn_30 : decode cX2_lotIn 30 = .ok (.aload 4, 2) := dk_25 4 (dk_at dksX2_lotIn_1 10 rfl rfl)
theorem dX2_lotIn_32 : decode cX2_lotIn 32 = .ok (.invokevirtual 199, 3) := dk_182 0 199 (dk_at dksX2_lotIn_1 12 rfl rfl)
theorem dX2_lotIn_35 : decode cX2_lotIn 35 = .ok (.iload_n 1, 1) := dk_27 (dk_at dksX2_lotIn_1 15 rfl rfl)
theorem dX2_lotIn_36 : decode cX2_lotIn 36 = .ok (.if_icmp .ne 8, 3) := dk_160 0 8 (dk_at dksX2_lotIn_1 16 rfl rfl)
theorem dX2_lotIn_39 : decode cX2_lotIn 39 = .ok (.aload 4, 2) := dk_25 4 (dk_at dksX2_lotIn_1 19 rfl rfl)
theorem dX2_lotIn_41 : decode cX2_lotIn 41 = .ok (.goto 4, 3) := dk_167 0 4 (dk_at dksX2_lotIn_1 21 rfl rfl)
theorem dX2_lotIn_44 : decode cX2_lotIn 44 = .ok (.aload_n 2, 1) := dk_44 (dk_at dksX2_lotIn_2 0 rfl rfl)
theorem dX2_lotIn_45 : decode cX2_lotIn 45 = .ok (.astore_n 2, 1) := dk_77 (dk_at dksX2_lotIn_2 1 rfl rfl)
theorem dX2_lotIn_46 : decode cX2_lotIn 46 = .ok (.goto (-36), 3) := dk_167 255 220 (dk_at dksX2_lotIn_2 2 rfl rfl)
theorem dX2_lotIn_49 : decode cX2_lotIn 49 = .ok (.aload_n 2, 1) := dk_44 (dk_at dksX2_lotIn_2 5 rfl rfl)
theorem dX2_lotIn_50 : decode cX2_lotIn 50 = .ok (.areturn, 1) := dk_176 (dk_at dksX2_lotIn_2 6 rfl rfl)
abbrev cX2_fire : ByteArray := prog_7_method_19_code
def yX2_fire : MethodName := ⟨RX2, "fire", "(III)I"⟩
def dkwX2_fire_5 : List UInt8 := [185, 0, 222, 1, 0, 28, 29, 21, 7, 183, 0, 226, 181, 0, 190, 21, 7, 172]
abbrev dktX2_fire_5 : List UInt8 := dkwX2_fire_5 ++ []
def dkwX2_fire_4 : List UInt8 := [182, 0, 131, 16, 8, 5, 29, 104, 96, 54, 7, 25, 4, 187, 0, 220, 89, 25, 4, 180, 0, 190]
abbrev dktX2_fire_4 : List UInt8 := dkwX2_fire_4 ++ dktX2_fire_5
def dkwX2_fire_3 : List UInt8 := [180, 0, 174, 161, 0, 7, 4, 167, 0, 4, 3, 8, 25, 5, 180, 0, 217, 184, 0, 120, 42, 29, 5, 96]
abbrev dktX2_fire_3 : List UInt8 := dkwX2_fire_3 ++ dktX2_fire_4
def dkwX2_fire_2 : List UInt8 := [199, 0, 7, 2, 167, 0, 8, 25, 6, 180, 0, 214, 184, 0, 120, 25, 5, 180, 0, 217, 25, 4]
abbrev dktX2_fire_2 : List UInt8 := dkwX2_fire_2 ++ dktX2_fire_3
def dkwX2_fire_1 : List UInt8 := [182, 0, 171, 42, 28, 182, 0, 211, 58, 6, 25, 6, 199, 0, 7, 4, 167, 0, 4, 3, 7, 25, 6]
abbrev dktX2_fire_1 : List UInt8 := dkwX2_fire_1 ++ dktX2_fire_2
def dkwX2_fire_0 : List UInt8 := [42, 27, 182, 0, 157, 58, 4, 42, 28, 182, 0, 202, 58, 5, 29, 184, 0, 205, 178, 0, 208, 25, 4]
abbrev dktX2_fire_0 : List UInt8 := dkwX2_fire_0 ++ dktX2_fire_1
theorem dksX2_fire_0 : cX2_fire.data.toList.drop 0 = dktX2_fire_0 := by decide +kernel
theorem dksX2_fire_1 : cX2_fire.data.toList.drop 23 = dktX2_fire_1 := dk_seg dksX2_fire_0 23 rfl rfl
theorem dksX2_fire_2 : cX2_fire.data.toList.drop 46 = dktX2_fire_2 := dk_seg dksX2_fire_1 23 rfl rfl
theorem dksX2_fire_3 : cX2_fire.data.toList.drop 68 = dktX2_fire_3 := dk_seg dksX2_fire_2 22 rfl rfl
theorem dksX2_fire_4 : cX2_fire.data.toList.drop 92 = dktX2_fire_4 := dk_seg dksX2_fire_3 24 rfl rfl
theorem dksX2_fire_5 : cX2_fire.data.toList.drop 114 = dktX2_fire_5 := dk_seg dksX2_fire_4 22 rfl rfl
theorem dX2_fire_0 : decode cX2_fire 0 = .ok (.aload_n 0, 1) := dk_42 (dk_at dksX2_fire_0 0 rfl rfl)
theorem dX2_fire_1 : decode cX2_fire 1 = .ok (.iload_n 1, 1) := dk_27 (dk_at dksX2_fire_0 1 rfl rfl)
theorem dX2_fire_2 : decode cX2_fire 2 = .ok (.invokevirtual 157, 3) := dk_182 0 157 (dk_at dksX2_fire_0 2 rfl rfl)
theorem dX2_fire_5 : decode cX2_fire 5 = .ok (.astore 4, 2) := dk_58 4 (dk_at dksX2_fire_0 5 rfl rfl)
theorem dX2_fire_7 : decode cX2_fire 7 = .ok (.aload_n 0, 1) := dk_42 (dk_at dksX2_fire_0 7 rfl rfl)
theorem dX2_fire_8 : decode cX2_fire 8 = .ok (.iload_n 2, 1) := dk_28 (dk_at dksX2_fire_0 8 rfl rfl)
theorem dX2_fire_9 : decode cX2_fire 9 = .ok (.invokevirtual 202, 3) := dk_182 0 202 (dk_at dksX2_fire_0 9 rfl rfl)
theorem dX2_fire_12 : decode cX2_fire 12 = .ok (.astore 5, 2) := dk_58 5 (dk_at dksX2_fire_0 12 rfl rfl)
theorem dX2_fire_14 : decode cX2_fire 14 = .ok (.iload_n 3, 1) := dk_29 (dk_at dksX2_fire_0 14 rfl rfl)
theorem dX2_fire_15 : decode cX2_fire 15 = .ok (.invokestatic 205, 3) := dk_184 0 205 (dk_at dksX2_fire_0 15 rfl rfl)
theorem dX2_fire_18 : decode cX2_fire 18 = .ok (.getstatic 208, 3) := dk_178 0 208 (dk_at dksX2_fire_0 18 rfl rfl)
theorem dX2_fire_21 : decode cX2_fire 21 = .ok (.aload 4, 2) := dk_25 4 (dk_at dksX2_fire_0 21 rfl rfl)
theorem dX2_fire_23 : decode cX2_fire 23 = .ok (.invokevirtual 171, 3) := dk_182 0 171 (dk_at dksX2_fire_1 0 rfl rfl)
theorem dX2_fire_26 : decode cX2_fire 26 = .ok (.aload_n 0, 1) := dk_42 (dk_at dksX2_fire_1 3 rfl rfl)
theorem dX2_fire_27 : decode cX2_fire 27 = .ok (.iload_n 2, 1) := dk_28 (dk_at dksX2_fire_1 4 rfl rfl)
theorem dX2_fire_28 : decode cX2_fire 28 = .ok (.invokevirtual 211, 3) := dk_182 0 211 (dk_at dksX2_fire_1 5 rfl rfl)
theorem dX2_fire_31 : decode cX2_fire 31 = .ok (.astore 6, 2) := dk_58 6 (dk_at dksX2_fire_1 8 rfl rfl)
theorem dX2_fire_33 : decode cX2_fire 33 = .ok (.aload 6, 2) := dk_25 6 (dk_at dksX2_fire_1 10 rfl rfl)
theorem dX2_fire_35 : decode cX2_fire 35 = .ok (.ifnonnull 7, 3) := dk_199 0 7 (dk_at dksX2_fire_1 12 rfl rfl)
theorem dX2_fire_38 : decode cX2_fire 38 = .ok (.iconst 1, 1) := dk_4 (dk_at dksX2_fire_1 15 rfl rfl)
theorem dX2_fire_39 : decode cX2_fire 39 = .ok (.goto 4, 3) := dk_167 0 4 (dk_at dksX2_fire_1 16 rfl rfl)
theorem dX2_fire_42 : decode cX2_fire 42 = .ok (.iconst 0, 1) := dk_3 (dk_at dksX2_fire_1 19 rfl rfl)
theorem dX2_fire_43 : decode cX2_fire 43 = .ok (.iconst 4, 1) := dk_7 (dk_at dksX2_fire_1 20 rfl rfl)
theorem dX2_fire_44 : decode cX2_fire 44 = .ok (.aload 6, 2) := dk_25 6 (dk_at dksX2_fire_1 21 rfl rfl)
theorem dX2_fire_46 : decode cX2_fire 46 = .ok (.ifnonnull 7, 3) := dk_199 0 7 (dk_at dksX2_fire_2 0 rfl rfl)
theorem dX2_fire_49 : decode cX2_fire 49 = .ok (.iconst (-1), 1) := dk_2 (dk_at dksX2_fire_2 3 rfl rfl)
theorem dX2_fire_50 : decode cX2_fire 50 = .ok (.goto 8, 3) := dk_167 0 8 (dk_at dksX2_fire_2 4 rfl rfl)
theorem dX2_fire_53 : decode cX2_fire 53 = .ok (.aload 6, 2) := dk_25 6 (dk_at dksX2_fire_2 7 rfl rfl)
theorem dX2_fire_55 : decode cX2_fire 55 = .ok (.getfield 214, 3) := dk_180 0 214 (dk_at dksX2_fire_2 9 rfl rfl)
theorem dX2_fire_58 : decode cX2_fire 58 = .ok (.invokestatic 120, 3) := dk_184 0 120 (dk_at dksX2_fire_2 12 rfl rfl)
theorem dX2_fire_61 : decode cX2_fire 61 = .ok (.aload 5, 2) := dk_25 5 (dk_at dksX2_fire_2 15 rfl rfl)
theorem dX2_fire_63 : decode cX2_fire 63 = .ok (.getfield 217, 3) := dk_180 0 217 (dk_at dksX2_fire_2 17 rfl rfl)
theorem dX2_fire_66 : decode cX2_fire 66 = .ok (.aload 4, 2) := dk_25 4 (dk_at dksX2_fire_2 20 rfl rfl)
theorem dX2_fire_68 : decode cX2_fire 68 = .ok (.getfield 174, 3) := dk_180 0 174 (dk_at dksX2_fire_3 0 rfl rfl)
theorem dX2_fire_71 : decode cX2_fire 71 = .ok (.if_icmp .lt 7, 3) := dk_161 0 7 (dk_at dksX2_fire_3 3 rfl rfl)
theorem dX2_fire_74 : decode cX2_fire 74 = .ok (.iconst 1, 1) := dk_4 (dk_at dksX2_fire_3 6 rfl rfl)
theorem dX2_fire_75 : decode cX2_fire 75 = .ok (.goto 4, 3) := dk_167 0 4 (dk_at dksX2_fire_3 7 rfl rfl)
theorem dX2_fire_78 : decode cX2_fire 78 = .ok (.iconst 0, 1) := dk_3 (dk_at dksX2_fire_3 10 rfl rfl)
theorem dX2_fire_79 : decode cX2_fire 79 = .ok (.iconst 5, 1) := dk_8 (dk_at dksX2_fire_3 11 rfl rfl)
theorem dX2_fire_80 : decode cX2_fire 80 = .ok (.aload 5, 2) := dk_25 5 (dk_at dksX2_fire_3 12 rfl rfl)
theorem dX2_fire_82 : decode cX2_fire 82 = .ok (.getfield 217, 3) := dk_180 0 217 (dk_at dksX2_fire_3 14 rfl rfl)
theorem dX2_fire_85 : decode cX2_fire 85 = .ok (.invokestatic 120, 3) := dk_184 0 120 (dk_at dksX2_fire_3 17 rfl rfl)
theorem dX2_fire_88 : decode cX2_fire 88 = .ok (.aload_n 0, 1) := dk_42 (dk_at dksX2_fire_3 20 rfl rfl)
theorem dX2_fire_89 : decode cX2_fire 89 = .ok (.iload_n 3, 1) := dk_29 (dk_at dksX2_fire_3 21 rfl rfl)
theorem dX2_fire_90 : decode cX2_fire 90 = .ok (.iconst 2, 1) := dk_5 (dk_at dksX2_fire_3 22 rfl rfl)
theorem dX2_fire_91 : decode cX2_fire 91 = .ok (.iadd, 1) := dk_96 (dk_at dksX2_fire_3 23 rfl rfl)
theorem dX2_fire_92 : decode cX2_fire 92 = .ok (.invokevirtual 131, 3) := dk_182 0 131 (dk_at dksX2_fire_4 0 rfl rfl)
theorem dX2_fire_95 : decode cX2_fire 95 = .ok (.bipush 8, 2) := dk_16 8 (dk_at dksX2_fire_4 3 rfl rfl)
theorem dX2_fire_97 : decode cX2_fire 97 = .ok (.iconst 2, 1) := dk_5 (dk_at dksX2_fire_4 5 rfl rfl)
theorem dX2_fire_98 : decode cX2_fire 98 = .ok (.iload_n 3, 1) := dk_29 (dk_at dksX2_fire_4 6 rfl rfl)
theorem dX2_fire_99 : decode cX2_fire 99 = .ok (.imul, 1) := dk_104 (dk_at dksX2_fire_4 7 rfl rfl)
theorem dX2_fire_100 : decode cX2_fire 100 = .ok (.iadd, 1) := dk_96 (dk_at dksX2_fire_4 8 rfl rfl)
theorem dX2_fire_101 : decode cX2_fire 101 = .ok (.istore 7, 2) := dk_54 7 (dk_at dksX2_fire_4 9 rfl rfl)
theorem dX2_fire_103 : decode cX2_fire 103 = .ok (.aload 4, 2) := dk_25 4 (dk_at dksX2_fire_4 11 rfl rfl)
theorem dX2_fire_105 : decode cX2_fire 105 = .ok (.new 220, 3) := dk_187 0 220 (dk_at dksX2_fire_4 13 rfl rfl)
theorem dX2_fire_108 : decode cX2_fire 108 = .ok (.dup, 1) := dk_89 (dk_at dksX2_fire_4 16 rfl rfl)
theorem dX2_fire_109 : decode cX2_fire 109 = .ok (.aload 4, 2) := dk_25 4 (dk_at dksX2_fire_4 17 rfl rfl)
theorem dX2_fire_111 : decode cX2_fire 111 = .ok (.getfield 190, 3) := dk_180 0 190 (dk_at dksX2_fire_4 19 rfl rfl)
theorem dX2_fire_114 : decode cX2_fire 114 = .ok (.invokeinterface 222 1, 5) := by decide +kernel
theorem dX2_fire_119 : decode cX2_fire 119 = .ok (.iload_n 2, 1) := dk_28 (dk_at dksX2_fire_5 5 rfl rfl)
theorem dX2_fire_120 : decode cX2_fire 120 = .ok (.iload_n 3, 1) := dk_29 (dk_at dksX2_fire_5 6 rfl rfl)
theorem dX2_fire_121 : decode cX2_fire 121 = .ok (.iload 7, 2) := dk_21 7 (dk_at dksX2_fire_5 7 rfl rfl)
theorem dX2_fire_123 : decode cX2_fire 123 = .ok (.invokespecial 226, 3) := dk_183 0 226 (dk_at dksX2_fire_5 9 rfl rfl)
theorem dX2_fire_126 : decode cX2_fire 126 = .ok (.putfield 190, 3) := dk_181 0 190 (dk_at dksX2_fire_5 12 rfl rfl)
theorem dX2_fire_129 : decode cX2_fire 129 = .ok (.iload 7, 2) := dk_21 7 (dk_at dksX2_fire_5 15 rfl rfl)
theorem dX2_fire_131 : decode cX2_fire 131 = .ok (.ireturn, 1) := dk_172 (dk_at dksX2_fire_5 17 rfl rfl)
abbrev cX2_firstDone : ByteArray := prog_7_method_20_code
def yX2_firstDone : MethodName := ⟨RX2, "firstDone", "()I"⟩
def dkwX2_firstDone_2 : List UInt8 := [132, 3, 1, 167, 255, 213, 27, 172]
abbrev dktX2_firstDone_2 : List UInt8 := dkwX2_firstDone_2 ++ []
def dkwX2_firstDone_1 : List UInt8 := [58, 4, 25, 4, 198, 0, 20, 25, 4, 182, 0, 232, 28, 162, 0, 11, 29, 60, 25, 4, 182, 0, 232, 61]
abbrev dktX2_firstDone_1 : List UInt8 := dkwX2_firstDone_1 ++ dktX2_firstDone_2
def dkwX2_firstDone_0 : List UInt8 := [2, 60, 18, 231, 61, 3, 62, 29, 42, 180, 0, 23, 182, 0, 100, 162, 0, 38, 42, 29, 182, 0, 211]
abbrev dktX2_firstDone_0 : List UInt8 := dkwX2_firstDone_0 ++ dktX2_firstDone_1
theorem dksX2_firstDone_0 : cX2_firstDone.data.toList.drop 0 = dktX2_firstDone_0 := by decide +kernel
theorem dksX2_firstDone_1 : cX2_firstDone.data.toList.drop 23 = dktX2_firstDone_1 := dk_seg dksX2_firstDone_0 23 rfl rfl
theorem dksX2_firstDone_2 : cX2_firstDone.data.toList.drop 47 = dktX2_firstDone_2 := dk_seg dksX2_firstDone_1 24 rfl rfl
theorem dX2_firstDone_0 : decode cX2_firstDone 0 = .ok (.iconst (-1), 1) := dk_2 (dk_at dksX2_firstDone_0 0 rfl rfl)
theorem dX2_firstDone_1 : decode cX2_firstDone 1 = .ok (.istore_n 1, 1) := dk_60 (dk_at dksX2_firstDone_0 1 rfl rfl)
theorem dX2_firstDone_2 : decode cX2_firstDone 2 = .ok (.ldc 231, 2) := dk_18 231 (dk_at dksX2_firstDone_0 2 rfl rfl)
theorem dX2_firstDone_4 : decode cX2_firstDone 4 = .ok (.istore_n 2, 1) := dk_61 (dk_at dksX2_firstDone_0 4 rfl rfl)
theorem dX2_firstDone_5 : decode cX2_firstDone 5 = .ok (.iconst 0, 1) := dk_3 (dk_at dksX2_firstDone_0 5 rfl rfl)
theorem dX2_firstDone_6 : decode cX2_firstDone 6 = .ok (.istore_n 3, 1) := dk_62 (dk_at dksX2_firstDone_0 6 rfl rfl)
theorem dX2_firstDone_7 : decode cX2_firstDone 7 = .ok (.iload_n 3, 1) := dk_29 (dk_at dksX2_firstDone_0 7 rfl rfl)
theorem dX2_firstDone_8 : decode cX2_firstDone 8 = .ok (.aload_n 0, 1) := dk_42 (dk_at dksX2_firstDone_0 8 rfl rfl)
theorem dX2_firstDone_9 : decode cX2_firstDone 9 = .ok (.getfield 23, 3) := dk_180 0 23 (dk_at dksX2_firstDone_0 9 rfl rfl)
theorem dX2_firstDone_12 : decode cX2_firstDone 12 = .ok (.invokevirtual 100, 3) := dk_182 0 100 (dk_at dksX2_firstDone_0 12 rfl rfl)
theorem dX2_firstDone_15 : decode cX2_firstDone 15 = .ok (.if_icmp .ge 38, 3) := dk_162 0 38 (dk_at dksX2_firstDone_0 15 rfl rfl)
theorem dX2_firstDone_18 : decode cX2_firstDone 18 = .ok (.aload_n 0, 1) := dk_42 (dk_at dksX2_firstDone_0 18 rfl rfl)
theorem dX2_firstDone_19 : decode cX2_firstDone 19 = .ok (.iload_n 3, 1) := dk_29 (dk_at dksX2_firstDone_0 19 rfl rfl)
theorem dX2_firstDone_20 : decode cX2_firstDone 20 = .ok (.invokevirtual 211, 3) := dk_182 0 211 (dk_at dksX2_firstDone_0 20 rfl rfl)
theorem dX2_firstDone_23 : decode cX2_firstDone 23 = .ok (.astore 4, 2) := dk_58 4 (dk_at dksX2_firstDone_1 0 rfl rfl)
theorem dX2_firstDone_25 : decode cX2_firstDone 25 = .ok (.aload 4, 2) := dk_25 4 (dk_at dksX2_firstDone_1 2 rfl rfl)
theorem dX2_firstDone_27 : decode cX2_firstDone 27 = .ok (.ifnull 20, 3) := dk_198 0 20 (dk_at dksX2_firstDone_1 4 rfl rfl)
theorem dX2_firstDone_30 : decode cX2_firstDone 30 = .ok (.aload 4, 2) := dk_25 4 (dk_at dksX2_firstDone_1 7 rfl rfl)
theorem dX2_firstDone_32 : decode cX2_firstDone 32 = .ok (.invokevirtual 232, 3) := dk_182 0 232 (dk_at dksX2_firstDone_1 9 rfl rfl)
theorem dX2_firstDone_35 : decode cX2_firstDone 35 = .ok (.iload_n 2, 1) := dk_28 (dk_at dksX2_firstDone_1 12 rfl rfl)
theorem dX2_firstDone_36 : decode cX2_firstDone 36 = .ok (.if_icmp .ge 11, 3) := dk_162 0 11 (dk_at dksX2_firstDone_1 13 rfl rfl)
theorem dX2_firstDone_39 : decode cX2_firstDone 39 = .ok (.iload_n 3, 1) := dk_29 (dk_at dksX2_firstDone_1 16 rfl rfl)
theorem dX2_firstDone_40 : decode cX2_firstDone 40 = .ok (.istore_n 1, 1) := dk_60 (dk_at dksX2_firstDone_1 17 rfl rfl)
theorem dX2_firstDone_41 : decode cX2_firstDone 41 = .ok (.aload 4, 2) := dk_25 4 (dk_at dksX2_firstDone_1 18 rfl rfl)
theorem dX2_firstDone_43 : decode cX2_firstDone 43 = .ok (.invokevirtual 232, 3) := dk_182 0 232 (dk_at dksX2_firstDone_1 20 rfl rfl)
theorem dX2_firstDone_46 : decode cX2_firstDone 46 = .ok (.istore_n 2, 1) := dk_61 (dk_at dksX2_firstDone_1 23 rfl rfl)
theorem dX2_firstDone_47 : decode cX2_firstDone 47 = .ok (.iinc 3 1, 3) := dk_132 3 1 (dk_at dksX2_firstDone_2 0 rfl rfl)
theorem dX2_firstDone_50 : decode cX2_firstDone 50 = .ok (.goto (-43), 3) := dk_167 255 213 (dk_at dksX2_firstDone_2 3 rfl rfl)
theorem dX2_firstDone_53 : decode cX2_firstDone 53 = .ok (.iload_n 1, 1) := dk_27 (dk_at dksX2_firstDone_2 6 rfl rfl)
theorem dX2_firstDone_54 : decode cX2_firstDone 54 = .ok (.ireturn, 1) := dk_172 (dk_at dksX2_firstDone_2 7 rfl rfl)
abbrev cX2_addCrate : ByteArray := prog_7_method_21_code
def yX2_addCrate : MethodName := ⟨RX2, "addCrate", "(I)I"⟩
def dkwX2_addCrate_2 : List UInt8 := [184, 0, 142, 172]
abbrev dktX2_addCrate_2 : List UInt8 := dkwX2_addCrate_2 ++ []
def dkwX2_addCrate_1 : List UInt8 := [162, 0, 7, 4, 167, 0, 4, 3, 184, 0, 136, 42, 180, 0, 26, 187, 0, 74, 89, 27, 183, 0, 237]
abbrev dktX2_addCrate_1 : List UInt8 := dkwX2_addCrate_1 ++ dktX2_addCrate_2
def dkwX2_addCrate_0 : List UInt8 := [27, 133, 20, 0, 194, 20, 0, 235, 184, 0, 104, 184, 0, 128, 42, 180, 0, 26, 182, 0, 100, 16, 6]
abbrev dktX2_addCrate_0 : List UInt8 := dkwX2_addCrate_0 ++ dktX2_addCrate_1
theorem dksX2_addCrate_0 : cX2_addCrate.data.toList.drop 0 = dktX2_addCrate_0 := by decide +kernel
theorem dksX2_addCrate_1 : cX2_addCrate.data.toList.drop 23 = dktX2_addCrate_1 := dk_seg dksX2_addCrate_0 23 rfl rfl
theorem dksX2_addCrate_2 : cX2_addCrate.data.toList.drop 46 = dktX2_addCrate_2 := dk_seg dksX2_addCrate_1 23 rfl rfl
theorem dX2_addCrate_0 : decode cX2_addCrate 0 = .ok (.iload_n 1, 1) := dk_27 (dk_at dksX2_addCrate_0 0 rfl rfl)
theorem dX2_addCrate_1 : decode cX2_addCrate 1 = .ok (.i2l, 1) := dk_133 (dk_at dksX2_addCrate_0 1 rfl rfl)
theorem dX2_addCrate_2 : decode cX2_addCrate 2 = .ok (.ldc2_w 194, 3) := dk_20 0 194 (dk_at dksX2_addCrate_0 2 rfl rfl)
theorem dX2_addCrate_5 : decode cX2_addCrate 5 = .ok (.ldc2_w 235, 3) := dk_20 0 235 (dk_at dksX2_addCrate_0 5 rfl rfl)
theorem dX2_addCrate_8 : decode cX2_addCrate 8 = .ok (.invokestatic 104, 3) := dk_184 0 104 (dk_at dksX2_addCrate_0 8 rfl rfl)
theorem dX2_addCrate_11 : decode cX2_addCrate 11 = .ok (.invokestatic 128, 3) := dk_184 0 128 (dk_at dksX2_addCrate_0 11 rfl rfl)
theorem dX2_addCrate_14 : decode cX2_addCrate 14 = .ok (.aload_n 0, 1) := dk_42 (dk_at dksX2_addCrate_0 14 rfl rfl)
theorem dX2_addCrate_15 : decode cX2_addCrate 15 = .ok (.getfield 26, 3) := dk_180 0 26 (dk_at dksX2_addCrate_0 15 rfl rfl)
theorem dX2_addCrate_18 : decode cX2_addCrate 18 = .ok (.invokevirtual 100, 3) := dk_182 0 100 (dk_at dksX2_addCrate_0 18 rfl rfl)
theorem dX2_addCrate_21 : decode cX2_addCrate 21 = .ok (.bipush 6, 2) := dk_16 6 (dk_at dksX2_addCrate_0 21 rfl rfl)
theorem dX2_addCrate_23 : decode cX2_addCrate 23 = .ok (.if_icmp .ge 7, 3) := dk_162 0 7 (dk_at dksX2_addCrate_1 0 rfl rfl)
theorem dX2_addCrate_26 : decode cX2_addCrate 26 = .ok (.iconst 1, 1) := dk_4 (dk_at dksX2_addCrate_1 3 rfl rfl)
theorem dX2_addCrate_27 : decode cX2_addCrate 27 = .ok (.goto 4, 3) := dk_167 0 4 (dk_at dksX2_addCrate_1 4 rfl rfl)
theorem dX2_addCrate_30 : decode cX2_addCrate 30 = .ok (.iconst 0, 1) := dk_3 (dk_at dksX2_addCrate_1 7 rfl rfl)
theorem dX2_addCrate_31 : decode cX2_addCrate 31 = .ok (.invokestatic 136, 3) := dk_184 0 136 (dk_at dksX2_addCrate_1 8 rfl rfl)
theorem dX2_addCrate_34 : decode cX2_addCrate 34 = .ok (.aload_n 0, 1) := dk_42 (dk_at dksX2_addCrate_1 11 rfl rfl)
theorem dX2_addCrate_35 : decode cX2_addCrate 35 = .ok (.getfield 26, 3) := dk_180 0 26 (dk_at dksX2_addCrate_1 12 rfl rfl)
theorem dX2_addCrate_38 : decode cX2_addCrate 38 = .ok (.new 74, 3) := dk_187 0 74 (dk_at dksX2_addCrate_1 15 rfl rfl)
theorem dX2_addCrate_41 : decode cX2_addCrate 41 = .ok (.dup, 1) := dk_89 (dk_at dksX2_addCrate_1 18 rfl rfl)
theorem dX2_addCrate_42 : decode cX2_addCrate 42 = .ok (.iload_n 1, 1) := dk_27 (dk_at dksX2_addCrate_1 19 rfl rfl)
theorem dX2_addCrate_43 : decode cX2_addCrate 43 = .ok (.invokespecial 237, 3) := dk_183 0 237 (dk_at dksX2_addCrate_1 20 rfl rfl)
theorem dX2_addCrate_46 : decode cX2_addCrate 46 = .ok (.invokestatic 142, 3) := dk_184 0 142 (dk_at dksX2_addCrate_2 0 rfl rfl)
theorem dX2_addCrate_49 : decode cX2_addCrate 49 = .ok (.ireturn, 1) := dk_172 (dk_at dksX2_addCrate_2 3 rfl rfl)
abbrev cX2_crate : ByteArray := prog_7_method_8_code
def yX2_crate : MethodName := ⟨RX2, "crate", "(I)LWillowPrinters$Crate;"⟩
def dkwX2_crate_0 : List UInt8 := [42, 180, 0, 26, 27, 184, 0, 116, 192, 0, 74, 176]
abbrev dktX2_crate_0 : List UInt8 := dkwX2_crate_0 ++ []
theorem dksX2_crate_0 : cX2_crate.data.toList.drop 0 = dktX2_crate_0 := by decide +kernel
theorem dX2_crate_0 : decode cX2_crate 0 = .ok (.aload_n 0, 1) := dk_42 (dk_at dksX2_crate_0 0 rfl rfl)
theorem dX2_crate_1 : decode cX2_crate 1 = .ok (.getfield 26, 3) := dk_180 0 26 (dk_at dksX2_crate_0 1 rfl rfl)
theorem dX2_crate_4 : decode cX2_crate 4 = .ok (.iload_n 1, 1) := dk_27 (dk_at dksX2_crate_0 4 rfl rfl)
theorem dX2_crate_5 : decode cX2_crate 5 = .ok (.invokestatic 116, 3) := dk_184 0 116 (dk_at dksX2_crate_0 5 rfl rfl)
theorem dX2_crate_8 : decode cX2_crate 8 = .ok (.checkcast 74, 3) := dk_192 0 74 (dk_at dksX2_crate_0 8 rfl rfl)
theorem dX2_crate_11 : decode cX2_crate 11 = .ok (.areturn, 1) := dk_176 (dk_at dksX2_crate_0 11 rfl rfl)
abbrev cX2_addStraw : ByteArray := prog_7_method_22_code
def yX2_addStraw : MethodName := ⟨RX2, "addStraw", "(II)I"⟩
def dkwX2_addStraw_2 : List UInt8 := [28, 96, 181, 0, 242, 45, 180, 0, 242, 172]
abbrev dktX2_addStraw_2 : List UInt8 := dkwX2_addStraw_2 ++ []
def dkwX2_addStraw_1 : List UInt8 := [16, 9, 163, 0, 7, 4, 167, 0, 4, 3, 16, 11, 45, 180, 0, 242, 184, 0, 120, 45, 89, 180, 0, 242]
abbrev dktX2_addStraw_1 : List UInt8 := dkwX2_addStraw_1 ++ dktX2_addStraw_2
def dkwX2_addStraw_0 : List UInt8 := [42, 27, 182, 0, 238, 78, 28, 133, 10, 20, 0, 134, 184, 0, 104, 184, 0, 128, 45, 180, 0, 242, 28, 96]
abbrev dktX2_addStraw_0 : List UInt8 := dkwX2_addStraw_0 ++ dktX2_addStraw_1
theorem dksX2_addStraw_0 : cX2_addStraw.data.toList.drop 0 = dktX2_addStraw_0 := by decide +kernel
theorem dksX2_addStraw_1 : cX2_addStraw.data.toList.drop 24 = dktX2_addStraw_1 := dk_seg dksX2_addStraw_0 24 rfl rfl
theorem dksX2_addStraw_2 : cX2_addStraw.data.toList.drop 48 = dktX2_addStraw_2 := dk_seg dksX2_addStraw_1 24 rfl rfl
theorem dX2_addStraw_0 : decode cX2_addStraw 0 = .ok (.aload_n 0, 1) := dk_42 (dk_at dksX2_addStraw_0 0 rfl rfl)
theorem dX2_addStraw_1 : decode cX2_addStraw 1 = .ok (.iload_n 1, 1) := dk_27 (dk_at dksX2_addStraw_0 1 rfl rfl)
theorem dX2_addStraw_2 : decode cX2_addStraw 2 = .ok (.invokevirtual 238, 3) := dk_182 0 238 (dk_at dksX2_addStraw_0 2 rfl rfl)
theorem dX2_addStraw_5 : decode cX2_addStraw 5 = .ok (.astore_n 3, 1) := dk_78 (dk_at dksX2_addStraw_0 5 rfl rfl)
theorem dX2_addStraw_6 : decode cX2_addStraw 6 = .ok (.iload_n 2, 1) := dk_28 (dk_at dksX2_addStraw_0 6 rfl rfl)
theorem dX2_addStraw_7 : decode cX2_addStraw 7 = .ok (.i2l, 1) := dk_133 (dk_at dksX2_addStraw_0 7 rfl rfl)
theorem dX2_addStraw_8 : decode cX2_addStraw 8 = .ok (.lconst 1, 1) := dk_10 (dk_at dksX2_addStraw_0 8 rfl rfl)
theorem dX2_addStraw_9 : decode cX2_addStraw 9 = .ok (.ldc2_w 134, 3) := dk_20 0 134 (dk_at dksX2_addStraw_0 9 rfl rfl)
theorem dX2_addStraw_12 : decode cX2_addStraw 12 = .ok (.invokestatic 104, 3) := dk_184 0 104 (dk_at dksX2_addStraw_0 12 rfl rfl)
theorem dX2_addStraw_15 : decode cX2_addStraw 15 = .ok (.invokestatic 128, 3) := dk_184 0 128 (dk_at dksX2_addStraw_0 15 rfl rfl)
theorem dX2_addStraw_18 : decode cX2_addStraw 18 = .ok (.aload_n 3, 1) := dk_45 (dk_at dksX2_addStraw_0 18 rfl rfl)
theorem dX2_addStraw_19 : decode cX2_addStraw 19 = .ok (.getfield 242, 3) := dk_180 0 242 (dk_at dksX2_addStraw_0 19 rfl rfl)
theorem dX2_addStraw_22 : decode cX2_addStraw 22 = .ok (.iload_n 2, 1) := dk_28 (dk_at dksX2_addStraw_0 22 rfl rfl)
theorem dX2_addStraw_23 : decode cX2_addStraw 23 = .ok (.iadd, 1) := dk_96 (dk_at dksX2_addStraw_0 23 rfl rfl)
theorem dX2_addStraw_24 : decode cX2_addStraw 24 = .ok (.bipush 9, 2) := dk_16 9 (dk_at dksX2_addStraw_1 0 rfl rfl)
theorem dX2_addStraw_26 : decode cX2_addStraw 26 = .ok (.if_icmp .gt 7, 3) := dk_163 0 7 (dk_at dksX2_addStraw_1 2 rfl rfl)
theorem dX2_addStraw_29 : decode cX2_addStraw 29 = .ok (.iconst 1, 1) := dk_4 (dk_at dksX2_addStraw_1 5 rfl rfl)
theorem dX2_addStraw_30 : decode cX2_addStraw 30 = .ok (.goto 4, 3) := dk_167 0 4 (dk_at dksX2_addStraw_1 6 rfl rfl)
theorem dX2_addStraw_33 : decode cX2_addStraw 33 = .ok (.iconst 0, 1) := dk_3 (dk_at dksX2_addStraw_1 9 rfl rfl)
theorem dX2_addStraw_34 : decode cX2_addStraw 34 = .ok (.bipush 11, 2) := dk_16 11 (dk_at dksX2_addStraw_1 10 rfl rfl)
theorem dX2_addStraw_36 : decode cX2_addStraw 36 = .ok (.aload_n 3, 1) := dk_45 (dk_at dksX2_addStraw_1 12 rfl rfl)
theorem dX2_addStraw_37 : decode cX2_addStraw 37 = .ok (.getfield 242, 3) := dk_180 0 242 (dk_at dksX2_addStraw_1 13 rfl rfl)
theorem dX2_addStraw_40 : decode cX2_addStraw 40 = .ok (.invokestatic 120, 3) := dk_184 0 120 (dk_at dksX2_addStraw_1 16 rfl rfl)
theorem dX2_addStraw_43 : decode cX2_addStraw 43 = .ok (.aload_n 3, 1) := dk_45 (dk_at dksX2_addStraw_1 19 rfl rfl)
theorem dX2_addStraw_44 : decode cX2_addStraw 44 = .ok (.dup, 1) := dk_89 (dk_at dksX2_addStraw_1 20 rfl rfl)
theorem dX2_addStraw_45 : decode cX2_addStraw 45 = .ok (.getfield 242, 3) := dk_180 0 242 (dk_at dksX2_addStraw_1 21 rfl rfl)
theorem dX2_addStraw_48 : decode cX2_addStraw 48 = .ok (.iload_n 2, 1) := dk_28 (dk_at dksX2_addStraw_2 0 rfl rfl)
theorem dX2_addStraw_49 : decode cX2_addStraw 49 = .ok (.iadd, 1) := dk_96 (dk_at dksX2_addStraw_2 1 rfl rfl)
theorem dX2_addStraw_50 : decode cX2_addStraw 50 = .ok (.putfield 242, 3) := dk_181 0 242 (dk_at dksX2_addStraw_2 2 rfl rfl)
theorem dX2_addStraw_53 : decode cX2_addStraw 53 = .ok (.aload_n 3, 1) := dk_45 (dk_at dksX2_addStraw_2 5 rfl rfl)
theorem dX2_addStraw_54 : decode cX2_addStraw 54 = .ok (.getfield 242, 3) := dk_180 0 242 (dk_at dksX2_addStraw_2 6 rfl rfl)
theorem dX2_addStraw_57 : decode cX2_addStraw 57 = .ok (.ireturn, 1) := dk_172 (dk_at dksX2_addStraw_2 9 rfl rfl)
abbrev cX2_pack : ByteArray := prog_7_method_23_code
def yX2_pack : MethodName := ⟨RX2, "pack", "(III)I"⟩
def dkwX2_pack_5 : List UInt8 := [25, 5, 180, 0, 190, 185, 0, 222, 1, 0, 96, 104, 96, 181, 0, 250, 25, 4, 180, 0, 249, 172]
abbrev dktX2_pack_5 : List UInt8 := dkwX2_pack_5 ++ []
def dkwX2_pack_4 : List UInt8 := [29, 100, 181, 0, 174, 25, 4, 89, 180, 0, 249, 29, 96, 181, 0, 249, 25, 4, 89, 180, 0, 250, 29, 5]
abbrev dktX2_pack_4 : List UInt8 := dkwX2_pack_4 ++ dktX2_pack_5
def dkwX2_pack_3 : List UInt8 := [29, 21, 6, 163, 0, 7, 4, 167, 0, 4, 3, 16, 8, 21, 6, 184, 0, 120, 25, 5, 89, 180, 0, 174]
abbrev dktX2_pack_3 : List UInt8 := dkwX2_pack_3 ++ dktX2_pack_4
def dkwX2_pack_2 : List UInt8 := [3, 16, 7, 25, 5, 180, 0, 174, 184, 0, 120, 25, 4, 180, 0, 248, 25, 4, 180, 0, 249, 100, 54, 6]
abbrev dktX2_pack_2 : List UInt8 := dkwX2_pack_2 ++ dktX2_pack_3
def dkwX2_pack_1 : List UInt8 := [184, 0, 128, 178, 0, 245, 25, 5, 182, 0, 171, 25, 5, 180, 0, 174, 29, 161, 0, 7, 4, 167, 0, 4]
abbrev dktX2_pack_1 : List UInt8 := dkwX2_pack_1 ++ dktX2_pack_2
def dkwX2_pack_0 : List UInt8 := [42, 27, 182, 0, 238, 58, 4, 42, 28, 182, 0, 157, 58, 5, 29, 133, 10, 20, 0, 235, 184, 0, 104]
abbrev dktX2_pack_0 : List UInt8 := dkwX2_pack_0 ++ dktX2_pack_1
theorem dksX2_pack_0 : cX2_pack.data.toList.drop 0 = dktX2_pack_0 := by decide +kernel
theorem dksX2_pack_1 : cX2_pack.data.toList.drop 23 = dktX2_pack_1 := dk_seg dksX2_pack_0 23 rfl rfl
theorem dksX2_pack_2 : cX2_pack.data.toList.drop 47 = dktX2_pack_2 := dk_seg dksX2_pack_1 24 rfl rfl
theorem dksX2_pack_3 : cX2_pack.data.toList.drop 71 = dktX2_pack_3 := dk_seg dksX2_pack_2 24 rfl rfl
theorem dksX2_pack_4 : cX2_pack.data.toList.drop 95 = dktX2_pack_4 := dk_seg dksX2_pack_3 24 rfl rfl
theorem dksX2_pack_5 : cX2_pack.data.toList.drop 119 = dktX2_pack_5 := dk_seg dksX2_pack_4 24 rfl rfl
theorem dX2_pack_0 : decode cX2_pack 0 = .ok (.aload_n 0, 1) := dk_42 (dk_at dksX2_pack_0 0 rfl rfl)
theorem dX2_pack_1 : decode cX2_pack 1 = .ok (.iload_n 1, 1) := dk_27 (dk_at dksX2_pack_0 1 rfl rfl)
theorem dX2_pack_2 : decode cX2_pack 2 = .ok (.invokevirtual 238, 3) := dk_182 0 238 (dk_at dksX2_pack_0 2 rfl rfl)
theorem dX2_pack_5 : decode cX2_pack 5 = .ok (.astore 4, 2) := dk_58 4 (dk_at dksX2_pack_0 5 rfl rfl)
theorem dX2_pack_7 : decode cX2_pack 7 = .ok (.aload_n 0, 1) := dk_42 (dk_at dksX2_pack_0 7 rfl rfl)
theorem dX2_pack_8 : decode cX2_pack 8 = .ok (.iload_n 2, 1) := dk_28 (dk_at dksX2_pack_0 8 rfl rfl)
theorem dX2_pack_9 : decode cX2_pack 9 = .ok (.invokevirtual 157, 3) := dk_182 0 157 (dk_at dksX2_pack_0 9 rfl rfl)
theorem dX2_pack_12 : decode cX2_pack 12 = .ok (.astore 5, 2) := dk_58 5 (dk_at dksX2_pack_0 12 rfl rfl)
theorem dX2_pack_14 : decode cX2_pack 14 = .ok (.iload_n 3, 1) := dk_29 (dk_at dksX2_pack_0 14 rfl rfl)
theorem dX2_pack_15 : decode cX2_pack 15 = .ok (.i2l, 1) := dk_133 (dk_at dksX2_pack_0 15 rfl rfl)
theorem dX2_pack_16 : decode cX2_pack 16 = .ok (.lconst 1, 1) := dk_10 (dk_at dksX2_pack_0 16 rfl rfl)
theorem dX2_pack_17 : decode cX2_pack 17 = .ok (.ldc2_w 235, 3) := dk_20 0 235 (dk_at dksX2_pack_0 17 rfl rfl)
theorem dX2_pack_20 : decode cX2_pack 20 = .ok (.invokestatic 104, 3) := dk_184 0 104 (dk_at dksX2_pack_0 20 rfl rfl)
theorem dX2_pack_23 : decode cX2_pack 23 = .ok (.invokestatic 128, 3) := dk_184 0 128 (dk_at dksX2_pack_1 0 rfl rfl)
theorem dX2_pack_26 : decode cX2_pack 26 = .ok (.getstatic 245, 3) := dk_178 0 245 (dk_at dksX2_pack_1 3 rfl rfl)
theorem dX2_pack_29 : decode cX2_pack 29 = .ok (.aload 5, 2) := dk_25 5 (dk_at dksX2_pack_1 6 rfl rfl)
theorem dX2_pack_31 : decode cX2_pack 31 = .ok (.invokevirtual 171, 3) := dk_182 0 171 (dk_at dksX2_pack_1 8 rfl rfl)
theorem dX2_pack_34 : decode cX2_pack 34 = .ok (.aload 5, 2) := dk_25 5 (dk_at dksX2_pack_1 11 rfl rfl)
theorem dX2_pack_36 : decode cX2_pack 36 = .ok (.getfield 174, 3) := dk_180 0 174 (dk_at dksX2_pack_1 13 rfl rfl)
theorem dX2_pack_39 : decode cX2_pack 39 = .ok (.iload_n 3, 1) := dk_29 (dk_at dksX2_pack_1 16 rfl rfl)
theorem dX2_pack_40 : decode cX2_pack 40 = .ok (.if_icmp .lt 7, 3) := dk_161 0 7 (dk_at dksX2_pack_1 17 rfl rfl)
theorem dX2_pack_43 : decode cX2_pack 43 = .ok (.iconst 1, 1) := dk_4 (dk_at dksX2_pack_1 20 rfl rfl)
theorem dX2_pack_44 : decode cX2_pack 44 = .ok (.goto 4, 3) := dk_167 0 4 (dk_at dksX2_pack_1 21 rfl rfl)
theorem dX2_pack_47 : decode cX2_pack 47 = .ok (.iconst 0, 1) := dk_3 (dk_at dksX2_pack_2 0 rfl rfl)
theorem dX2_pack_48 : decode cX2_pack 48 = .ok (.bipush 7, 2) := dk_16 7 (dk_at dksX2_pack_2 1 rfl rfl)
theorem dX2_pack_50 : decode cX2_pack 50 = .ok (.aload 5, 2) := dk_25 5 (dk_at dksX2_pack_2 3 rfl rfl)
theorem dX2_pack_52 : decode cX2_pack 52 = .ok (.getfield 174, 3) := dk_180 0 174 (dk_at dksX2_pack_2 5 rfl rfl)
theorem dX2_pack_55 : decode cX2_pack 55 = .ok (.invokestatic 120, 3) := dk_184 0 120 (dk_at dksX2_pack_2 8 rfl rfl)
theorem dX2_pack_58 : decode cX2_pack 58 = .ok (.aload 4, 2) := dk_25 4 (dk_at dksX2_pack_2 11 rfl rfl)
theorem dX2_pack_60 : decode cX2_pack 60 = .ok (.getfield 248, 3) := dk_180 0 248 (dk_at dksX2_pack_2 13 rfl rfl)
theorem dX2_pack_63 : decode cX2_pack 63 = .ok (.aload 4, 2) := dk_25 4 (dk_at dksX2_pack_2 16 rfl rfl)
theorem dX2_pack_65 : decode cX2_pack 65 = .ok (.getfield 249, 3) := dk_180 0 249 (dk_at dksX2_pack_2 18 rfl rfl)
theorem dX2_pack_68 : decode cX2_pack 68 = .ok (.isub, 1) := dk_100 (dk_at dksX2_pack_2 21 rfl rfl)
theorem dX2_pack_69 : decode cX2_pack 69 = .ok (.istore 6, 2) := dk_54 6 (dk_at dksX2_pack_2 22 rfl rfl)
theorem dX2_pack_71 : decode cX2_pack 71 = .ok (.iload_n 3, 1) := dk_29 (dk_at dksX2_pack_3 0 rfl rfl)
theorem dX2_pack_72 : decode cX2_pack 72 = .ok (.iload 6, 2) := dk_21 6 (dk_at dksX2_pack_3 1 rfl rfl)
theorem dX2_pack_74 : decode cX2_pack 74 = .ok (.if_icmp .gt 7, 3) := dk_163 0 7 (dk_at dksX2_pack_3 3 rfl rfl)
theorem dX2_pack_77 : decode cX2_pack 77 = .ok (.iconst 1, 1) := dk_4 (dk_at dksX2_pack_3 6 rfl rfl)
theorem dX2_pack_78 : decode cX2_pack 78 = .ok (.goto 4, 3) := dk_167 0 4 (dk_at dksX2_pack_3 7 rfl rfl)
theorem dX2_pack_81 : decode cX2_pack 81 = .ok (.iconst 0, 1) := dk_3 (dk_at dksX2_pack_3 10 rfl rfl)
theorem dX2_pack_82 : decode cX2_pack 82 = .ok (.bipush 8, 2) := dk_16 8 (dk_at dksX2_pack_3 11 rfl rfl)
theorem dX2_pack_84 : decode cX2_pack 84 = .ok (.iload 6, 2) := dk_21 6 (dk_at dksX2_pack_3 13 rfl rfl)
theorem dX2_pack_86 : decode cX2_pack 86 = .ok (.invokestatic 120, 3) := dk_184 0 120 (dk_at dksX2_pack_3 15 rfl rfl)
theorem dX2_pack_89 : decode cX2_pack 89 = .ok (.aload 5, 2) := dk_25 5 (dk_at dksX2_pack_3 18 rfl rfl)
theorem dX2_pack_91 : decode cX2_pack 91 = .ok (.dup, 1) := dk_89 (dk_at dksX2_pack_3 20 rfl rfl)
theorem dX2_pack_92 : decode cX2_pack 92 = .ok (.getfield 174, 3) := dk_180 0 174 (dk_at dksX2_pack_3 21 rfl rfl)
theorem dX2_pack_95 : decode cX2_pack 95 = .ok (.iload_n 3, 1) := dk_29 (dk_at dksX2_pack_4 0 rfl rfl)
theorem dX2_pack_96 : decode cX2_pack 96 = .ok (.isub, 1) := dk_100 (dk_at dksX2_pack_4 1 rfl rfl)
theorem dX2_pack_97 : decode cX2_pack 97 = .ok (.putfield 174, 3) := dk_181 0 174 (dk_at dksX2_pack_4 2 rfl rfl)
theorem dX2_pack_100 : decode cX2_pack 100 = .ok (.aload 4, 2) := dk_25 4 (dk_at dksX2_pack_4 5 rfl rfl)
theorem dX2_pack_102 : decode cX2_pack 102 = .ok (.dup, 1) := dk_89 (dk_at dksX2_pack_4 7 rfl rfl)
theorem dX2_pack_103 : decode cX2_pack 103 = .ok (.getfield 249, 3) := dk_180 0 249 (dk_at dksX2_pack_4 8 rfl rfl)
theorem dX2_pack_106 : decode cX2_pack 106 = .ok (.iload_n 3, 1) := dk_29 (dk_at dksX2_pack_4 11 rfl rfl)
theorem dX2_pack_107 : decode cX2_pack 107 = .ok (.iadd, 1) := dk_96 (dk_at dksX2_pack_4 12 rfl rfl)
theorem dX2_pack_108 : decode cX2_pack 108 = .ok (.putfield 249, 3) := dk_181 0 249 (dk_at dksX2_pack_4 13 rfl rfl)
theorem dX2_pack_111 : decode cX2_pack 111 = .ok (.aload 4, 2) := dk_25 4 (dk_at dksX2_pack_4 16 rfl rfl)
theorem dX2_pack_113 : decode cX2_pack 113 = .ok (.dup, 1) := dk_89 (dk_at dksX2_pack_4 18 rfl rfl)
theorem dX2_pack_114 : decode cX2_pack 114 = .ok (.getfield 250, 3) := dk_180 0 250 (dk_at dksX2_pack_4 19 rfl rfl)
theorem dX2_pack_117 : decode cX2_pack 117 = .ok (.iload_n 3, 1) := dk_29 (dk_at dksX2_pack_4 22 rfl rfl)
theorem dX2_pack_118 : decode cX2_pack 118 = .ok (.iconst 2, 1) := dk_5 (dk_at dksX2_pack_4 23 rfl rfl)
theorem dX2_pack_119 : decode cX2_pack 119 = .ok (.aload 5, 2) := dk_25 5 (dk_at dksX2_pack_5 0 rfl rfl)
theorem dX2_pack_121 : decode cX2_pack 121 = .ok (.getfield 190, 3) := dk_180 0 190 (dk_at dksX2_pack_5 2 rfl rfl)
theorem dX2_pack_124 : decode cX2_pack 124 = .ok (.invokeinterface 222 1, 5) := by decide +kernel
theorem dX2_pack_129 : decode cX2_pack 129 = .ok (.iadd, 1) := dk_96 (dk_at dksX2_pack_5 10 rfl rfl)
theorem dX2_pack_130 : decode cX2_pack 130 = .ok (.imul, 1) := dk_104 (dk_at dksX2_pack_5 11 rfl rfl)
theorem dX2_pack_131 : decode cX2_pack 131 = .ok (.iadd, 1) := dk_96 (dk_at dksX2_pack_5 12 rfl rfl)
theorem dX2_pack_132 : decode cX2_pack 132 = .ok (.putfield 250, 3) := dk_181 0 250 (dk_at dksX2_pack_5 13 rfl rfl)
theorem dX2_pack_135 : decode cX2_pack 135 = .ok (.aload 4, 2) := dk_25 4 (dk_at dksX2_pack_5 16 rfl rfl)
theorem dX2_pack_137 : decode cX2_pack 137 = .ok (.getfield 249, 3) := dk_180 0 249 (dk_at dksX2_pack_5 18 rfl rfl)
theorem dX2_pack_140 : decode cX2_pack 140 = .ok (.ireturn, 1) := dk_172 (dk_at dksX2_pack_5 21 rfl rfl)
abbrev cX2_carry : ByteArray := prog_7_method_24_code
def yX2_carry : MethodName := ⟨RX2, "carry", "(I)I"⟩
def dkwX2_carry_3 : List UInt8 := [181, 0, 250, 44, 3, 181, 0, 242, 29, 172]
abbrev dktX2_carry_3 : List UInt8 := dkwX2_carry_3 ++ []
def dkwX2_carry_2 : List UInt8 := [180, 0, 91, 44, 180, 0, 249, 44, 182, 1, 2, 100, 96, 181, 0, 91, 44, 3, 181, 0, 249, 44, 3]
abbrev dktX2_carry_2 : List UInt8 := dkwX2_carry_2 ++ dktX2_carry_3
def dkwX2_carry_1 : List UInt8 := [42, 44, 182, 0, 253, 182, 0, 255, 62, 42, 89, 180, 0, 94, 44, 182, 1, 2, 96, 181, 0, 94, 42, 89]
abbrev dktX2_carry_1 : List UInt8 := dkwX2_carry_1 ++ dktX2_carry_2
def dkwX2_carry_0 : List UInt8 := [42, 27, 182, 0, 238, 77, 44, 180, 0, 249, 158, 0, 7, 4, 167, 0, 4, 3, 16, 9, 27, 184, 0, 120]
abbrev dktX2_carry_0 : List UInt8 := dkwX2_carry_0 ++ dktX2_carry_1
theorem dksX2_carry_0 : cX2_carry.data.toList.drop 0 = dktX2_carry_0 := by decide +kernel
theorem dksX2_carry_1 : cX2_carry.data.toList.drop 24 = dktX2_carry_1 := dk_seg dksX2_carry_0 24 rfl rfl
theorem dksX2_carry_2 : cX2_carry.data.toList.drop 48 = dktX2_carry_2 := dk_seg dksX2_carry_1 24 rfl rfl
theorem dksX2_carry_3 : cX2_carry.data.toList.drop 71 = dktX2_carry_3 := dk_seg dksX2_carry_2 23 rfl rfl
theorem dX2_carry_0 : decode cX2_carry 0 = .ok (.aload_n 0, 1) := dk_42 (dk_at dksX2_carry_0 0 rfl rfl)
theorem dX2_carry_1 : decode cX2_carry 1 = .ok (.iload_n 1, 1) := dk_27 (dk_at dksX2_carry_0 1 rfl rfl)
theorem dX2_carry_2 : decode cX2_carry 2 = .ok (.invokevirtual 238, 3) := dk_182 0 238 (dk_at dksX2_carry_0 2 rfl rfl)
theorem dX2_carry_5 : decode cX2_carry 5 = .ok (.astore_n 2, 1) := dk_77 (dk_at dksX2_carry_0 5 rfl rfl)
theorem dX2_carry_6 : decode cX2_carry 6 = .ok (.aload_n 2, 1) := dk_44 (dk_at dksX2_carry_0 6 rfl rfl)
theorem dX2_carry_7 : decode cX2_carry 7 = .ok (.getfield 249, 3) := dk_180 0 249 (dk_at dksX2_carry_0 7 rfl rfl)
theorem dX2_carry_10 : decode cX2_carry 10 = .ok (.ifCond .le 7, 3) := dk_158 0 7 (dk_at dksX2_carry_0 10 rfl rfl)
theorem dX2_carry_13 : decode cX2_carry 13 = .ok (.iconst 1, 1) := dk_4 (dk_at dksX2_carry_0 13 rfl rfl)
theorem dX2_carry_14 : decode cX2_carry 14 = .ok (.goto 4, 3) := dk_167 0 4 (dk_at dksX2_carry_0 14 rfl rfl)
theorem dX2_carry_17 : decode cX2_carry 17 = .ok (.iconst 0, 1) := dk_3 (dk_at dksX2_carry_0 17 rfl rfl)
theorem dX2_carry_18 : decode cX2_carry 18 = .ok (.bipush 9, 2) := dk_16 9 (dk_at dksX2_carry_0 18 rfl rfl)
theorem dX2_carry_20 : decode cX2_carry 20 = .ok (.iload_n 1, 1) := dk_27 (dk_at dksX2_carry_0 20 rfl rfl)
theorem dX2_carry_21 : decode cX2_carry 21 = .ok (.invokestatic 120, 3) := dk_184 0 120 (dk_at dksX2_carry_0 21 rfl rfl)
theorem dX2_carry_24 : decode cX2_carry 24 = .ok (.aload_n 0, 1) := dk_42 (dk_at dksX2_carry_1 0 rfl rfl)
theorem dX2_carry_25 : decode cX2_carry 25 = .ok (.aload_n 2, 1) := dk_44 (dk_at dksX2_carry_1 1 rfl rfl)
theorem dX2_carry_26 : decode cX2_carry 26 = .ok (.invokevirtual 253, 3) := dk_182 0 253 (dk_at dksX2_carry_1 2 rfl rfl)
theorem dX2_carry_29 : decode cX2_carry 29 = .ok (.invokevirtual 255, 3) := dk_182 0 255 (dk_at dksX2_carry_1 5 rfl rfl)
theorem dX2_carry_32 : decode cX2_carry 32 = .ok (.istore_n 3, 1) := dk_62 (dk_at dksX2_carry_1 8 rfl rfl)
theorem dX2_carry_33 : decode cX2_carry 33 = .ok (.aload_n 0, 1) := dk_42 (dk_at dksX2_carry_1 9 rfl rfl)
theorem dX2_carry_34 : decode cX2_carry 34 = .ok (.dup, 1) := dk_89 (dk_at dksX2_carry_1 10 rfl rfl)
theorem dX2_carry_35 : decode cX2_carry 35 = .ok (.getfield 94, 3) := dk_180 0 94 (dk_at dksX2_carry_1 11 rfl rfl)
theorem dX2_carry_38 : decode cX2_carry 38 = .ok (.aload_n 2, 1) := dk_44 (dk_at dksX2_carry_1 14 rfl rfl)
theorem dX2_carry_39 : decode cX2_carry 39 = .ok (.invokevirtual 258, 3) := dk_182 1 2 (dk_at dksX2_carry_1 15 rfl rfl)
theorem dX2_carry_42 : decode cX2_carry 42 = .ok (.iadd, 1) := dk_96 (dk_at dksX2_carry_1 18 rfl rfl)
theorem dX2_carry_43 : decode cX2_carry 43 = .ok (.putfield 94, 3) := dk_181 0 94 (dk_at dksX2_carry_1 19 rfl rfl)
theorem dX2_carry_46 : decode cX2_carry 46 = .ok (.aload_n 0, 1) := dk_42 (dk_at dksX2_carry_1 22 rfl rfl)
theorem dX2_carry_47 : decode cX2_carry 47 = .ok (.dup, 1) := dk_89 (dk_at dksX2_carry_1 23 rfl rfl)
theorem dX2_carry_48 : decode cX2_carry 48 = .ok (.getfield 91, 3) := dk_180 0 91 (dk_at dksX2_carry_2 0 rfl rfl)
theorem dX2_carry_51 : decode cX2_carry 51 = .ok (.aload_n 2, 1) := dk_44 (dk_at dksX2_carry_2 3 rfl rfl)
theorem dX2_carry_52 : decode cX2_carry 52 = .ok (.getfield 249, 3) := dk_180 0 249 (dk_at dksX2_carry_2 4 rfl rfl)
theorem dX2_carry_55 : decode cX2_carry 55 = .ok (.aload_n 2, 1) := dk_44 (dk_at dksX2_carry_2 7 rfl rfl)
theorem dX2_carry_56 : decode cX2_carry 56 = .ok (.invokevirtual 258, 3) := dk_182 1 2 (dk_at dksX2_carry_2 8 rfl rfl)
theorem dX2_carry_59 : decode cX2_carry 59 = .ok (.isub, 1) := dk_100 (dk_at dksX2_carry_2 11 rfl rfl)
theorem dX2_carry_60 : decode cX2_carry 60 = .ok (.iadd, 1) := dk_96 (dk_at dksX2_carry_2 12 rfl rfl)
theorem dX2_carry_61 : decode cX2_carry 61 = .ok (.putfield 91, 3) := dk_181 0 91 (dk_at dksX2_carry_2 13 rfl rfl)
theorem dX2_carry_64 : decode cX2_carry 64 = .ok (.aload_n 2, 1) := dk_44 (dk_at dksX2_carry_2 16 rfl rfl)
theorem dX2_carry_65 : decode cX2_carry 65 = .ok (.iconst 0, 1) := dk_3 (dk_at dksX2_carry_2 17 rfl rfl)
theorem dX2_carry_66 : decode cX2_carry 66 = .ok (.putfield 249, 3) := dk_181 0 249 (dk_at dksX2_carry_2 18 rfl rfl)
theorem dX2_carry_69 : decode cX2_carry 69 = .ok (.aload_n 2, 1) := dk_44 (dk_at dksX2_carry_2 21 rfl rfl)
theorem dX2_carry_70 : decode cX2_carry 70 = .ok (.iconst 0, 1) := dk_3 (dk_at dksX2_carry_2 22 rfl rfl)
theorem dX2_carry_71 : decode cX2_carry 71 = .ok (.putfield 250, 3) := dk_181 0 250 (dk_at dksX2_carry_3 0 rfl rfl)
theorem dX2_carry_74 : decode cX2_carry 74 = .ok (.aload_n 2, 1) := dk_44 (dk_at dksX2_carry_3 3 rfl rfl)
theorem dX2_carry_75 : decode cX2_carry 75 = .ok (.iconst 0, 1) := dk_3 (dk_at dksX2_carry_3 4 rfl rfl)
theorem dX2_carry_76 : decode cX2_carry 76 = .ok (.putfield 242, 3) := dk_181 0 242 (dk_at dksX2_carry_3 5 rfl rfl)
theorem dX2_carry_79 : decode cX2_carry 79 = .ok (.iload_n 3, 1) := dk_29 (dk_at dksX2_carry_3 8 rfl rfl)
theorem dX2_carry_80 : decode cX2_carry 80 = .ok (.ireturn, 1) := dk_172 (dk_at dksX2_carry_3 9 rfl rfl)
abbrev cX2_earn : ByteArray := prog_7_method_10_code
def yX2_earn : MethodName := ⟨RX2, "earn", "(I)I"⟩
def dkwX2_earn_0 : List UInt8 := [42, 89, 180, 0, 36, 27, 96, 181, 0, 36, 42, 89, 180, 0, 82, 27, 96, 181, 0, 82, 27, 172]
abbrev dktX2_earn_0 : List UInt8 := dkwX2_earn_0 ++ []
theorem dksX2_earn_0 : cX2_earn.data.toList.drop 0 = dktX2_earn_0 := by decide +kernel
theorem dX2_earn_0 : decode cX2_earn 0 = .ok (.aload_n 0, 1) := dk_42 (dk_at dksX2_earn_0 0 rfl rfl)
theorem dX2_earn_1 : decode cX2_earn 1 = .ok (.dup, 1) := dk_89 (dk_at dksX2_earn_0 1 rfl rfl)
theorem dX2_earn_2 : decode cX2_earn 2 = .ok (.getfield 36, 3) := dk_180 0 36 (dk_at dksX2_earn_0 2 rfl rfl)
theorem dX2_earn_5 : decode cX2_earn 5 = .ok (.iload_n 1, 1) := dk_27 (dk_at dksX2_earn_0 5 rfl rfl)
theorem dX2_earn_6 : decode cX2_earn 6 = .ok (.iadd, 1) := dk_96 (dk_at dksX2_earn_0 6 rfl rfl)
theorem dX2_earn_7 : decode cX2_earn 7 = .ok (.putfield 36, 3) := dk_181 0 36 (dk_at dksX2_earn_0 7 rfl rfl)
theorem dX2_earn_10 : decode cX2_earn 10 = .ok (.aload_n 0, 1) := dk_42 (dk_at dksX2_earn_0 10 rfl rfl)
theorem dX2_earn_11 : decode cX2_earn 11 = .ok (.dup, 1) := dk_89 (dk_at dksX2_earn_0 11 rfl rfl)
theorem dX2_earn_12 : decode cX2_earn 12 = .ok (.getfield 82, 3) := dk_180 0 82 (dk_at dksX2_earn_0 12 rfl rfl)
theorem dX2_earn_15 : decode cX2_earn 15 = .ok (.iload_n 1, 1) := dk_27 (dk_at dksX2_earn_0 15 rfl rfl)
theorem dX2_earn_16 : decode cX2_earn 16 = .ok (.iadd, 1) := dk_96 (dk_at dksX2_earn_0 16 rfl rfl)
theorem dX2_earn_17 : decode cX2_earn 17 = .ok (.putfield 82, 3) := dk_181 0 82 (dk_at dksX2_earn_0 17 rfl rfl)
theorem dX2_earn_20 : decode cX2_earn 20 = .ok (.iload_n 1, 1) := dk_27 (dk_at dksX2_earn_0 20 rfl rfl)
theorem dX2_earn_21 : decode cX2_earn 21 = .ok (.ireturn, 1) := dk_172 (dk_at dksX2_earn_0 21 rfl rfl)
abbrev cX2_sell : ByteArray := prog_7_method_25_code
def yX2_sell : MethodName := ⟨RX2, "sell", "()I"⟩
def dkwX2_sell_2 : List UInt8 := [42, 3, 181, 0, 94, 27, 172]
abbrev dktX2_sell_2 : List UInt8 := dkwX2_sell_2 ++ []
def dkwX2_sell_1 : List UInt8 := [180, 0, 94, 4, 96, 5, 108, 182, 0, 255, 60, 42, 89, 180, 0, 97, 42, 180, 0, 94, 96, 181, 0, 97]
abbrev dktX2_sell_1 : List UInt8 := dkwX2_sell_1 ++ dktX2_sell_2
def dkwX2_sell_0 : List UInt8 := [42, 180, 0, 94, 158, 0, 7, 4, 167, 0, 4, 3, 16, 10, 42, 180, 0, 97, 184, 0, 120, 42, 42]
abbrev dktX2_sell_0 : List UInt8 := dkwX2_sell_0 ++ dktX2_sell_1
theorem dksX2_sell_0 : cX2_sell.data.toList.drop 0 = dktX2_sell_0 := by decide +kernel
theorem dksX2_sell_1 : cX2_sell.data.toList.drop 23 = dktX2_sell_1 := dk_seg dksX2_sell_0 23 rfl rfl
theorem dksX2_sell_2 : cX2_sell.data.toList.drop 47 = dktX2_sell_2 := dk_seg dksX2_sell_1 24 rfl rfl
theorem dX2_sell_0 : decode cX2_sell 0 = .ok (.aload_n 0, 1) := dk_42 (dk_at dksX2_sell_0 0 rfl rfl)
theorem dX2_sell_1 : decode cX2_sell 1 = .ok (.getfield 94, 3) := dk_180 0 94 (dk_at dksX2_sell_0 1 rfl rfl)
theorem dX2_sell_4 : decode cX2_sell 4 = .ok (.ifCond .le 7, 3) := dk_158 0 7 (dk_at dksX2_sell_0 4 rfl rfl)
theorem dX2_sell_7 : decode cX2_sell 7 = .ok (.iconst 1, 1) := dk_4 (dk_at dksX2_sell_0 7 rfl rfl)
theorem dX2_sell_8 : decode cX2_sell 8 = .ok (.goto 4, 3) := dk_167 0 4 (dk_at dksX2_sell_0 8 rfl rfl)
theorem dX2_sell_11 : decode cX2_sell 11 = .ok (.iconst 0, 1) := dk_3 (dk_at dksX2_sell_0 11 rfl rfl)
theorem dX2_sell_12 : decode cX2_sell 12 = .ok (.bipush 10, 2) := dk_16 10 (dk_at dksX2_sell_0 12 rfl rfl)
theorem dX2_sell_14 : decode cX2_sell 14 = .ok (.aload_n 0, 1) := dk_42 (dk_at dksX2_sell_0 14 rfl rfl)
theorem dX2_sell_15 : decode cX2_sell 15 = .ok (.getfield 97, 3) := dk_180 0 97 (dk_at dksX2_sell_0 15 rfl rfl)
theorem dX2_sell_18 : decode cX2_sell 18 = .ok (.invokestatic 120, 3) := dk_184 0 120 (dk_at dksX2_sell_0 18 rfl rfl)
theorem dX2_sell_21 : decode cX2_sell 21 = .ok (.aload_n 0, 1) := dk_42 (dk_at dksX2_sell_0 21 rfl rfl)
theorem dX2_sell_22 : decode cX2_sell 22 = .ok (.aload_n 0, 1) := dk_42 (dk_at dksX2_sell_0 22 rfl rfl)
theorem dX2_sell_23 : decode cX2_sell 23 = .ok (.getfield 94, 3) := dk_180 0 94 (dk_at dksX2_sell_1 0 rfl rfl)
theorem dX2_sell_26 : decode cX2_sell 26 = .ok (.iconst 1, 1) := dk_4 (dk_at dksX2_sell_1 3 rfl rfl)
theorem dX2_sell_27 : decode cX2_sell 27 = .ok (.iadd, 1) := dk_96 (dk_at dksX2_sell_1 4 rfl rfl)
theorem dX2_sell_28 : decode cX2_sell 28 = .ok (.iconst 2, 1) := dk_5 (dk_at dksX2_sell_1 5 rfl rfl)
theorem dX2_sell_29 : decode cX2_sell 29 = .ok (.idiv, 1) := dk_108 (dk_at dksX2_sell_1 6 rfl rfl)
theorem dX2_sell_30 : decode cX2_sell 30 = .ok (.invokevirtual 255, 3) := dk_182 0 255 (dk_at dksX2_sell_1 7 rfl rfl)
theorem dX2_sell_33 : decode cX2_sell 33 = .ok (.istore_n 1, 1) := dk_60 (dk_at dksX2_sell_1 10 rfl rfl)
theorem dX2_sell_34 : decode cX2_sell 34 = .ok (.aload_n 0, 1) := dk_42 (dk_at dksX2_sell_1 11 rfl rfl)
theorem dX2_sell_35 : decode cX2_sell 35 = .ok (.dup, 1) := dk_89 (dk_at dksX2_sell_1 12 rfl rfl)
theorem dX2_sell_36 : decode cX2_sell 36 = .ok (.getfield 97, 3) := dk_180 0 97 (dk_at dksX2_sell_1 13 rfl rfl)
theorem dX2_sell_39 : decode cX2_sell 39 = .ok (.aload_n 0, 1) := dk_42 (dk_at dksX2_sell_1 16 rfl rfl)
theorem dX2_sell_40 : decode cX2_sell 40 = .ok (.getfield 94, 3) := dk_180 0 94 (dk_at dksX2_sell_1 17 rfl rfl)
theorem dX2_sell_43 : decode cX2_sell 43 = .ok (.iadd, 1) := dk_96 (dk_at dksX2_sell_1 20 rfl rfl)
theorem dX2_sell_44 : decode cX2_sell 44 = .ok (.putfield 97, 3) := dk_181 0 97 (dk_at dksX2_sell_1 21 rfl rfl)
theorem dX2_sell_47 : decode cX2_sell 47 = .ok (.aload_n 0, 1) := dk_42 (dk_at dksX2_sell_2 0 rfl rfl)
theorem dX2_sell_48 : decode cX2_sell 48 = .ok (.iconst 0, 1) := dk_3 (dk_at dksX2_sell_2 1 rfl rfl)
theorem dX2_sell_49 : decode cX2_sell 49 = .ok (.putfield 94, 3) := dk_181 0 94 (dk_at dksX2_sell_2 2 rfl rfl)
theorem dX2_sell_52 : decode cX2_sell 52 = .ok (.iload_n 1, 1) := dk_27 (dk_at dksX2_sell_2 5 rfl rfl)
theorem dX2_sell_53 : decode cX2_sell 53 = .ok (.ireturn, 1) := dk_172 (dk_at dksX2_sell_2 6 rfl rfl)
abbrev cX2_pass : ByteArray := prog_7_method_27_code
def yX2_pass : MethodName := ⟨RX2, "pass", "(I)I"⟩
def dkwX2_pass_4 : List UInt8 := [167, 255, 225, 42, 89, 180, 0, 79, 4, 96, 181, 0, 79, 132, 3, 1, 167, 255, 165, 28, 172]
abbrev dktX2_pass_4 : List UInt8 := dkwX2_pass_4 ++ []
def dkwX2_pass_3 : List UInt8 := [153, 0, 27, 25, 4, 185, 0, 50, 1, 0, 192, 0, 64, 58, 5, 28, 42, 25, 5, 182, 1, 19, 96, 61]
abbrev dktX2_pass_3 : List UInt8 := dkwX2_pass_3 ++ dktX2_pass_4
def dkwX2_pass_2 : List UInt8 := [180, 0, 33, 181, 0, 33, 42, 180, 0, 20, 182, 0, 40, 58, 4, 25, 4, 185, 0, 44, 1, 0]
abbrev dktX2_pass_2 : List UInt8 := dkwX2_pass_2 ++ dktX2_pass_3
def dkwX2_pass_1 : List UInt8 := [180, 0, 79, 6, 112, 154, 0, 16, 3, 42, 180, 0, 33, 4, 100, 184, 1, 13, 167, 0, 7, 42]
abbrev dktX2_pass_1 : List UInt8 := dkwX2_pass_1 ++ dktX2_pass_2
def dkwX2_pass_0 : List UInt8 := [27, 133, 10, 20, 1, 11, 184, 0, 104, 184, 0, 128, 3, 61, 3, 62, 29, 27, 162, 0, 92, 42, 42]
abbrev dktX2_pass_0 : List UInt8 := dkwX2_pass_0 ++ dktX2_pass_1
theorem dksX2_pass_0 : cX2_pass.data.toList.drop 0 = dktX2_pass_0 := by decide +kernel
theorem dksX2_pass_1 : cX2_pass.data.toList.drop 23 = dktX2_pass_1 := dk_seg dksX2_pass_0 23 rfl rfl
theorem dksX2_pass_2 : cX2_pass.data.toList.drop 45 = dktX2_pass_2 := dk_seg dksX2_pass_1 22 rfl rfl
theorem dksX2_pass_3 : cX2_pass.data.toList.drop 67 = dktX2_pass_3 := dk_seg dksX2_pass_2 22 rfl rfl
theorem dksX2_pass_4 : cX2_pass.data.toList.drop 91 = dktX2_pass_4 := dk_seg dksX2_pass_3 24 rfl rfl
theorem dX2_pass_0 : decode cX2_pass 0 = .ok (.iload_n 1, 1) := dk_27 (dk_at dksX2_pass_0 0 rfl rfl)
theorem dX2_pass_1 : decode cX2_pass 1 = .ok (.i2l, 1) := dk_133 (dk_at dksX2_pass_0 1 rfl rfl)
theorem dX2_pass_2 : decode cX2_pass 2 = .ok (.lconst 1, 1) := dk_10 (dk_at dksX2_pass_0 2 rfl rfl)
theorem dX2_pass_3 : decode cX2_pass 3 = .ok (.ldc2_w 267, 3) := dk_20 1 11 (dk_at dksX2_pass_0 3 rfl rfl)
theorem dX2_pass_6 : decode cX2_pass 6 = .ok (.invokestatic 104, 3) := dk_184 0 104 (dk_at dksX2_pass_0 6 rfl rfl)
theorem dX2_pass_9 : decode cX2_pass 9 = .ok (.invokestatic 128, 3) := dk_184 0 128 (dk_at dksX2_pass_0 9 rfl rfl)
theorem dX2_pass_12 : decode cX2_pass 12 = .ok (.iconst 0, 1) := dk_3 (dk_at dksX2_pass_0 12 rfl rfl)
theorem dX2_pass_13 : decode cX2_pass 13 = .ok (.istore_n 2, 1) := dk_61 (dk_at dksX2_pass_0 13 rfl rfl)
theorem dX2_pass_14 : decode cX2_pass 14 = .ok (.iconst 0, 1) := dk_3 (dk_at dksX2_pass_0 14 rfl rfl)
theorem dX2_pass_15 : decode cX2_pass 15 = .ok (.istore_n 3, 1) := dk_62 (dk_at dksX2_pass_0 15 rfl rfl)
theorem dX2_pass_16 : decode cX2_pass 16 = .ok (.iload_n 3, 1) := dk_29 (dk_at dksX2_pass_0 16 rfl rfl)
theorem dX2_pass_17 : decode cX2_pass 17 = .ok (.iload_n 1, 1) := dk_27 (dk_at dksX2_pass_0 17 rfl rfl)
theorem dX2_pass_18 : decode cX2_pass 18 = .ok (.if_icmp .ge 92, 3) := dk_162 0 92 (dk_at dksX2_pass_0 18 rfl rfl)
theorem dX2_pass_21 : decode cX2_pass 21 = .ok (.aload_n 0, 1) := dk_42 (dk_at dksX2_pass_0 21 rfl rfl)
theorem dX2_pass_22 : decode cX2_pass 22 = .ok (.aload_n 0, 1) := dk_42 (dk_at dksX2_pass_0 22 rfl rfl)
theorem dX2_pass_23 : decode cX2_pass 23 = .ok (.getfield 79, 3) := dk_180 0 79 (dk_at dksX2_pass_1 0 rfl rfl)
theorem dX2_pass_26 : decode cX2_pass 26 = .ok (.iconst 3, 1) := dk_6 (dk_at dksX2_pass_1 3 rfl rfl)
theorem dX2_pass_27 : decode cX2_pass 27 = .ok (.irem, 1) := dk_112 (dk_at dksX2_pass_1 4 rfl rfl)
theorem dX2_pass_28 : decode cX2_pass 28 = .ok (.ifCond .ne 16, 3) := dk_154 0 16 (dk_at dksX2_pass_1 5 rfl rfl)
theorem dX2_pass_31 : decode cX2_pass 31 = .ok (.iconst 0, 1) := dk_3 (dk_at dksX2_pass_1 8 rfl rfl)
theorem dX2_pass_32 : decode cX2_pass 32 = .ok (.aload_n 0, 1) := dk_42 (dk_at dksX2_pass_1 9 rfl rfl)
theorem dX2_pass_33 : decode cX2_pass 33 = .ok (.getfield 33, 3) := dk_180 0 33 (dk_at dksX2_pass_1 10 rfl rfl)
theorem dX2_pass_36 : decode cX2_pass 36 = .ok (.iconst 1, 1) := dk_4 (dk_at dksX2_pass_1 13 rfl rfl)
theorem dX2_pass_37 : decode cX2_pass 37 = .ok (.isub, 1) := dk_100 (dk_at dksX2_pass_1 14 rfl rfl)
theorem dX2_pass_38 : decode cX2_pass 38 = .ok (.invokestatic 269, 3) := dk_184 1 13 (dk_at dksX2_pass_1 15 rfl rfl)
theorem dX2_pass_41 : decode cX2_pass 41 = .ok (.goto 7, 3) := dk_167 0 7 (dk_at dksX2_pass_1 18 rfl rfl)
theorem dX2_pass_44 : decode cX2_pass 44 = .ok (.aload_n 0, 1) := dk_42 (dk_at dksX2_pass_1 21 rfl rfl)
theorem dX2_pass_45 : decode cX2_pass 45 = .ok (.getfield 33, 3) := dk_180 0 33 (dk_at dksX2_pass_2 0 rfl rfl)
theorem dX2_pass_48 : decode cX2_pass 48 = .ok (.putfield 33, 3) := dk_181 0 33 (dk_at dksX2_pass_2 3 rfl rfl)
theorem dX2_pass_51 : decode cX2_pass 51 = .ok (.aload_n 0, 1) := dk_42 (dk_at dksX2_pass_2 6 rfl rfl)
theorem dX2_pass_52 : decode cX2_pass 52 = .ok (.getfield 20, 3) := dk_180 0 20 (dk_at dksX2_pass_2 7 rfl rfl)
theorem dX2_pass_55 : decode cX2_pass 55 = .ok (.invokevirtual 40, 3) := dk_182 0 40 (dk_at dksX2_pass_2 10 rfl rfl)
theorem dX2_pass_58 : decode cX2_pass 58 = .ok (.astore 4, 2) := dk_58 4 (dk_at dksX2_pass_2 13 rfl rfl)
theorem dX2_pass_60 : decode cX2_pass 60 = .ok (.aload 4, 2) := dk_25 4 (dk_at dksX2_pass_2 15 rfl rfl)
theorem dX2_pass_62 : decode cX2_pass 62 = .ok (.invokeinterface 44 1, 5) := by decide +kernel
theorem dX2_pass_67 : decode cX2_pass 67 = .ok (.ifCond .eq 27, 3) := dk_153 0 27 (dk_at dksX2_pass_3 0 rfl rfl)
theorem dX2_pass_70 : decode cX2_pass 70 = .ok (.aload 4, 2) := dk_25 4 (dk_at dksX2_pass_3 3 rfl rfl)
theorem dX2_pass_72 : decode cX2_pass 72 = .ok (.invokeinterface 50 1, 5) := by decide +kernel
theorem dX2_pass_77 : decode cX2_pass 77 = .ok (.checkcast 64, 3) := dk_192 0 64 (dk_at dksX2_pass_3 10 rfl rfl)
theorem dX2_pass_80 : decode cX2_pass 80 = .ok (.astore 5, 2) := dk_58 5 (dk_at dksX2_pass_3 13 rfl rfl)
theorem dX2_pass_82 : decode cX2_pass 82 = .ok (.iload_n 2, 1) := dk_28 (dk_at dksX2_pass_3 15 rfl rfl)
theorem dX2_pass_83 : decode cX2_pass 83 = .ok (.aload_n 0, 1) := dk_42 (dk_at dksX2_pass_3 16 rfl rfl)
theorem dX2_pass_84 : decode cX2_pass 84 = .ok (.aload 5, 2) := dk_25 5 (dk_at dksX2_pass_3 17 rfl rfl)
theorem dX2_pass_86 : decode cX2_pass 86 = .ok (.invokevirtual 275, 3) := dk_182 1 19 (dk_at dksX2_pass_3 19 rfl rfl)
theorem dX2_pass_89 : decode cX2_pass 89 = .ok (.iadd, 1) := dk_96 (dk_at dksX2_pass_3 22 rfl rfl)
theorem dX2_pass_90 : decode cX2_pass 90 = .ok (.istore_n 2, 1) := dk_61 (dk_at dksX2_pass_3 23 rfl rfl)
theorem dX2_pass_91 : decode cX2_pass 91 = .ok (.goto (-31), 3) := dk_167 255 225 (dk_at dksX2_pass_4 0 rfl rfl)
theorem dX2_pass_94 : decode cX2_pass 94 = .ok (.aload_n 0, 1) := dk_42 (dk_at dksX2_pass_4 3 rfl rfl)
theorem dX2_pass_95 : decode cX2_pass 95 = .ok (.dup, 1) := dk_89 (dk_at dksX2_pass_4 4 rfl rfl)
theorem dX2_pass_96 : decode cX2_pass 96 = .ok (.getfield 79, 3) := dk_180 0 79 (dk_at dksX2_pass_4 5 rfl rfl)
theorem dX2_pass_99 : decode cX2_pass 99 = .ok (.iconst 1, 1) := dk_4 (dk_at dksX2_pass_4 8 rfl rfl)
theorem dX2_pass_100 : decode cX2_pass 100 = .ok (.iadd, 1) := dk_96 (dk_at dksX2_pass_4 9 rfl rfl)
theorem dX2_pass_101 : decode cX2_pass 101 = .ok (.putfield 79, 3) := dk_181 0 79 (dk_at dksX2_pass_4 10 rfl rfl)
theorem dX2_pass_104 : decode cX2_pass 104 = .ok (.iinc 3 1, 3) := dk_132 3 1 (dk_at dksX2_pass_4 13 rfl rfl)
theorem dX2_pass_107 : decode cX2_pass 107 = .ok (.goto (-91), 3) := dk_167 255 165 (dk_at dksX2_pass_4 16 rfl rfl)
theorem dX2_pass_110 : decode cX2_pass 110 = .ok (.iload_n 2, 1) := dk_28 (dk_at dksX2_pass_4 19 rfl rfl)
theorem dX2_pass_111 : decode cX2_pass 111 = .ok (.ireturn, 1) := dk_172 (dk_at dksX2_pass_4 20 rfl rfl)
abbrev cX2_burn : ByteArray := prog_7_method_26_code
def yX2_burn : MethodName := ⟨RX2, "burn", "(LWillowPrinters$Lot;)I"⟩
def dkwX2_burn_2 : List UInt8 := [172]
abbrev dktX2_burn_2 : List UInt8 := dkwX2_burn_2 ++ []
def dkwX2_burn_1 : List UInt8 := [181, 0, 94, 42, 180, 0, 23, 28, 182, 0, 112, 192, 0, 69, 89, 180, 1, 8, 4, 96, 181, 1, 8, 4]
abbrev dktX2_burn_1 : List UInt8 := dkwX2_burn_1 ++ dktX2_burn_2
def dkwX2_burn_0 : List UInt8 := [43, 182, 0, 199, 61, 43, 182, 1, 5, 62, 29, 2, 160, 0, 5, 3, 172, 42, 89, 180, 0, 94, 29, 96]
abbrev dktX2_burn_0 : List UInt8 := dkwX2_burn_0 ++ dktX2_burn_1
theorem dksX2_burn_0 : cX2_burn.data.toList.drop 0 = dktX2_burn_0 := by decide +kernel
theorem dksX2_burn_1 : cX2_burn.data.toList.drop 24 = dktX2_burn_1 := dk_seg dksX2_burn_0 24 rfl rfl
theorem dksX2_burn_2 : cX2_burn.data.toList.drop 48 = dktX2_burn_2 := dk_seg dksX2_burn_1 24 rfl rfl
theorem dX2_burn_0 : decode cX2_burn 0 = .ok (.aload_n 1, 1) := dk_43 (dk_at dksX2_burn_0 0 rfl rfl)
theorem dX2_burn_1 : decode cX2_burn 1 = .ok (.invokevirtual 199, 3) := dk_182 0 199 (dk_at dksX2_burn_0 1 rfl rfl)
theorem dX2_burn_4 : decode cX2_burn 4 = .ok (.istore_n 2, 1) := dk_61 (dk_at dksX2_burn_0 4 rfl rfl)
theorem dX2_burn_5 : decode cX2_burn 5 = .ok (.aload_n 1, 1) := dk_43 (dk_at dksX2_burn_0 5 rfl rfl)
theorem dX2_burn_6 : decode cX2_burn 6 = .ok (.invokevirtual 261, 3) := dk_182 1 5 (dk_at dksX2_burn_0 6 rfl rfl)
theorem dX2_burn_9 : decode cX2_burn 9 = .ok (.istore_n 3, 1) := dk_62 (dk_at dksX2_burn_0 9 rfl rfl)
theorem dX2_burn_10 : decode cX2_burn 10 = .ok (.iload_n 3, 1) := dk_29 (dk_at dksX2_burn_0 10 rfl rfl)
theorem dX2_burn_11 : decode cX2_burn 11 = .ok (.iconst (-1), 1) := dk_2 (dk_at dksX2_burn_0 11 rfl rfl)
theorem dX2_burn_12 : decode cX2_burn 12 = .ok (.if_icmp .ne 5, 3) := dk_160 0 5 (dk_at dksX2_burn_0 12 rfl rfl)
theorem dX2_burn_15 : decode cX2_burn 15 = .ok (.iconst 0, 1) := dk_3 (dk_at dksX2_burn_0 15 rfl rfl)
theorem dX2_burn_16 : decode cX2_burn 16 = .ok (.ireturn, 1) := dk_172 (dk_at dksX2_burn_0 16 rfl rfl)
theorem dX2_burn_17 : decode cX2_burn 17 = .ok (.aload_n 0, 1) := dk_42 (dk_at dksX2_burn_0 17 rfl rfl)
theorem dX2_burn_18 : decode cX2_burn 18 = .ok (.dup, 1) := dk_89 (dk_at dksX2_burn_0 18 rfl rfl)
theorem dX2_burn_19 : decode cX2_burn 19 = .ok (.getfield 94, 3) := dk_180 0 94 (dk_at dksX2_burn_0 19 rfl rfl)
theorem dX2_burn_22 : decode cX2_burn 22 = .ok (.iload_n 3, 1) := dk_29 (dk_at dksX2_burn_0 22 rfl rfl)
theorem dX2_burn_23 : decode cX2_burn 23 = .ok (.iadd, 1) := dk_96 (dk_at dksX2_burn_0 23 rfl rfl)
theorem dX2_burn_24 : decode cX2_burn 24 = .ok (.putfield 94, 3) := dk_181 0 94 (dk_at dksX2_burn_1 0 rfl rfl)
theorem dX2_burn_27 : decode cX2_burn 27 = .ok (.aload_n 0, 1) := dk_42 (dk_at dksX2_burn_1 3 rfl rfl)
theorem dX2_burn_28 : decode cX2_burn 28 = .ok (.getfield 23, 3) := dk_180 0 23 (dk_at dksX2_burn_1 4 rfl rfl)
theorem dX2_burn_31 : decode cX2_burn 31 = .ok (.iload_n 2, 1) := dk_28 (dk_at dksX2_burn_1 7 rfl rfl)
theorem dX2_burn_32 : decode cX2_burn 32 = .ok (.invokevirtual 112, 3) := dk_182 0 112 (dk_at dksX2_burn_1 8 rfl rfl)
theorem dX2_burn_35 : decode cX2_burn 35 = .ok (.checkcast 69, 3) := dk_192 0 69 (dk_at dksX2_burn_1 11 rfl rfl)
theorem dX2_burn_38 : decode cX2_burn 38 = .ok (.dup, 1) := dk_89 (dk_at dksX2_burn_1 14 rfl rfl)
theorem dX2_burn_39 : decode cX2_burn 39 = .ok (.getfield 264, 3) := dk_180 1 8 (dk_at dksX2_burn_1 15 rfl rfl)
theorem dX2_burn_42 : decode cX2_burn 42 = .ok (.iconst 1, 1) := dk_4 (dk_at dksX2_burn_1 18 rfl rfl)
theorem dX2_burn_43 : decode cX2_burn 43 = .ok (.iadd, 1) := dk_96 (dk_at dksX2_burn_1 19 rfl rfl)
theorem dX2_burn_44 : decode cX2_burn 44 = .ok (.putfield 264, 3) := dk_181 1 8 (dk_at dksX2_burn_1 20 rfl rfl)
theorem dX2_burn_47 : decode cX2_burn 47 = .ok (.iconst 1, 1) := dk_4 (dk_at dksX2_burn_1 23 rfl rfl)
theorem dX2_burn_48 : decode cX2_burn 48 = .ok (.ireturn, 1) := dk_172 (dk_at dksX2_burn_2 0 rfl rfl)
abbrev cX2_platesOf : ByteArray := prog_7_method_28_code
def yX2_platesOf : MethodName := ⟨RX2, "platesOf", "(LWillowPrinters$Test;)I"⟩
def dkwX2_platesOf_0 : List UInt8 := [42, 180, 0, 20, 43, 186, 1, 22, 0, 0, 184, 1, 26, 172]
abbrev dktX2_platesOf_0 : List UInt8 := dkwX2_platesOf_0 ++ []
theorem dksX2_platesOf_0 : cX2_platesOf.data.toList.drop 0 = dktX2_platesOf_0 := by decide +kernel
theorem dX2_platesOf_0 : decode cX2_platesOf 0 = .ok (.aload_n 0, 1) := dk_42 (dk_at dksX2_platesOf_0 0 rfl rfl)
theorem dX2_platesOf_1 : decode cX2_platesOf 1 = .ok (.getfield 20, 3) := dk_180 0 20 (dk_at dksX2_platesOf_0 1 rfl rfl)
theorem dX2_platesOf_4 : decode cX2_platesOf 4 = .ok (.aload_n 1, 1) := dk_43 (dk_at dksX2_platesOf_0 4 rfl rfl)
theorem dX2_platesOf_5 : decode cX2_platesOf 5 = .ok (.invokedynamic 278, 5) := by decide +kernel
theorem dX2_platesOf_10 : decode cX2_platesOf 10 = .ok (.invokestatic 282, 3) := dk_184 1 26 (dk_at dksX2_platesOf_0 10 rfl rfl)
theorem dX2_platesOf_13 : decode cX2_platesOf 13 = .ok (.ireturn, 1) := dk_172 (dk_at dksX2_platesOf_0 13 rfl rfl)
abbrev cX2_lambda_platesOf_0 : ByteArray := prog_7_method_34_code
def yX2_lambda_platesOf_0 : MethodName := ⟨RX2, "lambda$platesOf$0", "(LWillowPrinters$Lot;)I"⟩
theorem dX2_lambda_platesOf_0_0 : decode cX2_lambda_platesOf_0 0 = .ok (.aload_n 0, 1) := by decide +kernel
theorem dX2_lambda_platesOf_0_1 : decode cX2_lambda_platesOf_0 1 = .ok (.getfield 174, 3) := by decide +kernel
theorem dX2_lambda_platesOf_0_4 : decode cX2_lambda_platesOf_0 4 = .ok (.ireturn, 1) := by decide +kernel
abbrev cX2_burning : ByteArray := prog_7_method_30_code
def yX2_burning : MethodName := ⟨RX2, "burning", "()I"⟩
def dkwX2_burning_0 : List UInt8 := [42, 180, 0, 20, 186, 1, 35, 0, 0, 184, 1, 36, 172]
abbrev dktX2_burning_0 : List UInt8 := dkwX2_burning_0 ++ []
theorem dksX2_burning_0 : cX2_burning.data.toList.drop 0 = dktX2_burning_0 := by decide +kernel
theorem dX2_burning_0 : decode cX2_burning 0 = .ok (.aload_n 0, 1) := dk_42 (dk_at dksX2_burning_0 0 rfl rfl)
theorem dX2_burning_1 : decode cX2_burning 1 = .ok (.getfield 20, 3) := dk_180 0 20 (dk_at dksX2_burning_0 1 rfl rfl)
theorem dX2_burning_4 : decode cX2_burning 4 = .ok (.invokedynamic 291, 5) := by decide +kernel
theorem dX2_burning_9 : decode cX2_burning 9 = .ok (.invokestatic 292, 3) := dk_184 1 36 (dk_at dksX2_burning_0 9 rfl rfl)
theorem dX2_burning_12 : decode cX2_burning 12 = .ok (.ireturn, 1) := dk_172 (dk_at dksX2_burning_0 12 rfl rfl)
abbrev cX2_lambda_burning_3 : ByteArray := prog_7_method_31_code
def yX2_lambda_burning_3 : MethodName := ⟨RX2, "lambda$burning$3", "(LWillowPrinters$Lot;)Z"⟩
def dkwX2_lambda_burning_3_0 : List UInt8 := [42, 180, 0, 190, 193, 0, 220, 172]
abbrev dktX2_lambda_burning_3_0 : List UInt8 := dkwX2_lambda_burning_3_0 ++ []
theorem dksX2_lambda_burning_3_0 : cX2_lambda_burning_3.data.toList.drop 0 = dktX2_lambda_burning_3_0 := by decide +kernel
theorem dX2_lambda_burning_3_0 : decode cX2_lambda_burning_3 0 = .ok (.aload_n 0, 1) := dk_42 (dk_at dksX2_lambda_burning_3_0 0 rfl rfl)
theorem dX2_lambda_burning_3_1 : decode cX2_lambda_burning_3 1 = .ok (.getfield 190, 3) := dk_180 0 190 (dk_at dksX2_lambda_burning_3_0 1 rfl rfl)
theorem dX2_lambda_burning_3_4 : decode cX2_lambda_burning_3 4 = .ok (.instanceof 220, 3) := dk_193 0 220 (dk_at dksX2_lambda_burning_3_0 4 rfl rfl)
theorem dX2_lambda_burning_3_7 : decode cX2_lambda_burning_3 7 = .ok (.ireturn, 1) := dk_172 (dk_at dksX2_lambda_burning_3_0 7 rfl rfl)
theorem q56 : (Jvm.Cond.initialized "WillowPrinters$House") ∈ lw_all := lw_g (lw_at lw_m1 2 rfl) rfl
theorem q108 : (Jvm.Cond.instantiable "WillowPrinters$House" (14 : Nat)) ∈ lw_all := lw_g (lw_at lw_m1 54 rfl) rfl
theorem q110 : (Jvm.Cond.instanceMethod ({ cls := "WillowPrinters$House", name := "<init>", desc := "()V" } : Jvm.MethodName)) ∈ lw_all := lw_g (lw_at lw_m1 56 rfl) rfl
theorem q111 : (Jvm.Cond.code ({ cls := "WillowPrinters$House", name := "<init>", desc := "()V" } : Jvm.MethodName) prog_7_method_1_code (1 : Nat) (Option.none : Option Jvm.ClassFile.FieldType)) ∈ lw_all := lw_g (lw_at lw_m1 57 rfl) rfl
theorem q112 : (Jvm.Cond.methodLink "WillowPrinters$House" (3 : Nat) ({ cls := "java/lang/Object", name := "<init>", desc := "()V" } : Jvm.MethodName)) ∈ lw_all := lw_g (lw_at lw_m1 58 rfl) rfl
theorem q113 : (Jvm.Cond.classLink "WillowPrinters$House" (9 : Nat) "java/util/ArrayList") ∈ lw_all := lw_g (lw_at lw_m1 59 rfl) rfl
theorem q115 : (Jvm.Cond.methodLink "WillowPrinters$House" (11 : Nat) ({ cls := "java/util/ArrayList", name := "<init>", desc := "(I)V" } : Jvm.MethodName)) ∈ lw_all := lw_g (lw_at lw_m1 61 rfl) rfl
theorem q462 : (Jvm.Cond.fieldLink "WillowPrinters$House" (14 : Nat) "WillowPrinters$House" "coppers" "Ljava/util/ArrayList;") ∈ lw_all := lw_g (lw_at lw_m2 168 rfl) rfl
theorem q464 : (Jvm.Cond.fieldLink "WillowPrinters$House" (20 : Nat) "WillowPrinters$House" "lots" "Ljava/util/ArrayList;") ∈ lw_all := lw_g (lw_at lw_m2 170 rfl) rfl
theorem q466 : (Jvm.Cond.fieldLink "WillowPrinters$House" (23 : Nat) "WillowPrinters$House" "kilns" "Ljava/util/ArrayList;") ∈ lw_all := lw_g (lw_at lw_m2 172 rfl) rfl
theorem q468 : (Jvm.Cond.fieldLink "WillowPrinters$House" (26 : Nat) "WillowPrinters$House" "crates" "Ljava/util/ArrayList;") ∈ lw_all := lw_g (lw_at lw_m2 174 rfl) rfl
theorem q470 : (Jvm.Cond.fieldLink "WillowPrinters$House" (79 : Nat) "WillowPrinters$House" "hour" "I") ∈ lw_all := lw_g (lw_at lw_m2 176 rfl) rfl
theorem q472 : (Jvm.Cond.fieldLink "WillowPrinters$House" (29 : Nat) "WillowPrinters$House" "sheets" "I") ∈ lw_all := lw_g (lw_at lw_m2 178 rfl) rfl
theorem q474 : (Jvm.Cond.fieldLink "WillowPrinters$House" (33 : Nat) "WillowPrinters$House" "damp" "I") ∈ lw_all := lw_g (lw_at lw_m2 180 rfl) rfl
theorem q476 : (Jvm.Cond.fieldLink "WillowPrinters$House" (36 : Nat) "WillowPrinters$House" "coins" "I") ∈ lw_all := lw_g (lw_at lw_m2 182 rfl) rfl
theorem q478 : (Jvm.Cond.fieldLink "WillowPrinters$House" (82 : Nat) "WillowPrinters$House" "got" "I") ∈ lw_all := lw_g (lw_at lw_m2 184 rfl) rfl
theorem q480 : (Jvm.Cond.fieldLink "WillowPrinters$House" (85 : Nat) "WillowPrinters$House" "spent" "I") ∈ lw_all := lw_g (lw_at lw_m2 186 rfl) rfl
theorem q482 : (Jvm.Cond.fieldLink "WillowPrinters$House" (88 : Nat) "WillowPrinters$House" "bought" "I") ∈ lw_all := lw_g (lw_at lw_m2 188 rfl) rfl
theorem q484 : (Jvm.Cond.fieldLink "WillowPrinters$House" (91 : Nat) "WillowPrinters$House" "carried" "I") ∈ lw_all := lw_g (lw_at lw_m2 190 rfl) rfl
theorem q486 : (Jvm.Cond.fieldLink "WillowPrinters$House" (94 : Nat) "WillowPrinters$House" "seconds" "I") ∈ lw_all := lw_g (lw_at lw_m2 192 rfl) rfl
theorem q488 : (Jvm.Cond.fieldLink "WillowPrinters$House" (97 : Nat) "WillowPrinters$House" "secondsSold" "I") ∈ lw_all := lw_g (lw_at lw_m2 194 rfl) rfl
theorem q490 : (Jvm.Cond.laysFinal "WillowPrinters$House" "WillowPrinters$House" "coppers" "Ljava/util/ArrayList;") ∈ lw_all := lw_g (lw_at lw_m2 196 rfl) rfl
theorem q491 : (Jvm.Cond.soleField "WillowPrinters$House" "coppers") ∈ lw_all := lw_g (lw_at lw_m2 197 rfl) rfl
theorem q492 : (Jvm.Cond.laysFinal "WillowPrinters$House" "WillowPrinters$House" "lots" "Ljava/util/ArrayList;") ∈ lw_all := lw_g (lw_at lw_m2 198 rfl) rfl
theorem q493 : (Jvm.Cond.soleField "WillowPrinters$House" "lots") ∈ lw_all := lw_g (lw_at lw_m2 199 rfl) rfl
theorem q494 : (Jvm.Cond.laysFinal "WillowPrinters$House" "WillowPrinters$House" "kilns" "Ljava/util/ArrayList;") ∈ lw_all := lw_g (lw_at lw_m2 200 rfl) rfl
theorem q495 : (Jvm.Cond.soleField "WillowPrinters$House" "kilns") ∈ lw_all := lw_g (lw_at lw_m2 201 rfl) rfl
theorem q496 : (Jvm.Cond.laysFinal "WillowPrinters$House" "WillowPrinters$House" "crates" "Ljava/util/ArrayList;") ∈ lw_all := lw_g (lw_at lw_m2 202 rfl) rfl
theorem q497 : (Jvm.Cond.soleField "WillowPrinters$House" "crates") ∈ lw_all := lw_g (lw_at lw_m2 203 rfl) rfl
theorem q498 : (Jvm.Cond.lays "WillowPrinters$House" "WillowPrinters$House" "hour" "I") ∈ lw_all := lw_g (lw_at lw_m2 204 rfl) rfl
theorem q499 : (Jvm.Cond.soleField "WillowPrinters$House" "hour") ∈ lw_all := lw_g (lw_at lw_m2 205 rfl) rfl
theorem q500 : (Jvm.Cond.lays "WillowPrinters$House" "WillowPrinters$House" "sheets" "I") ∈ lw_all := lw_g (lw_at lw_m2 206 rfl) rfl
theorem q501 : (Jvm.Cond.soleField "WillowPrinters$House" "sheets") ∈ lw_all := lw_g (lw_at lw_m2 207 rfl) rfl
theorem q502 : (Jvm.Cond.lays "WillowPrinters$House" "WillowPrinters$House" "damp" "I") ∈ lw_all := lw_g (lw_at lw_m2 208 rfl) rfl
theorem q503 : (Jvm.Cond.soleField "WillowPrinters$House" "damp") ∈ lw_all := lw_g (lw_at lw_m2 209 rfl) rfl
theorem q504 : (Jvm.Cond.lays "WillowPrinters$House" "WillowPrinters$House" "coins" "I") ∈ lw_all := lw_g (lw_at lw_m2 210 rfl) rfl
theorem q505 : (Jvm.Cond.soleField "WillowPrinters$House" "coins") ∈ lw_all := lw_g (lw_at lw_m2 211 rfl) rfl
theorem q506 : (Jvm.Cond.lays "WillowPrinters$House" "WillowPrinters$House" "got" "I") ∈ lw_all := lw_g (lw_at lw_m2 212 rfl) rfl
theorem q507 : (Jvm.Cond.soleField "WillowPrinters$House" "got") ∈ lw_all := lw_g (lw_at lw_m2 213 rfl) rfl
theorem q508 : (Jvm.Cond.lays "WillowPrinters$House" "WillowPrinters$House" "spent" "I") ∈ lw_all := lw_g (lw_at lw_m2 214 rfl) rfl
theorem q509 : (Jvm.Cond.soleField "WillowPrinters$House" "spent") ∈ lw_all := lw_g (lw_at lw_m2 215 rfl) rfl
theorem q510 : (Jvm.Cond.lays "WillowPrinters$House" "WillowPrinters$House" "bought" "I") ∈ lw_all := lw_g (lw_at lw_m2 216 rfl) rfl
theorem q511 : (Jvm.Cond.soleField "WillowPrinters$House" "bought") ∈ lw_all := lw_g (lw_at lw_m2 217 rfl) rfl
theorem q512 : (Jvm.Cond.lays "WillowPrinters$House" "WillowPrinters$House" "carried" "I") ∈ lw_all := lw_g (lw_at lw_m2 218 rfl) rfl
theorem q513 : (Jvm.Cond.soleField "WillowPrinters$House" "carried") ∈ lw_all := lw_g (lw_at lw_m2 219 rfl) rfl
theorem q514 : (Jvm.Cond.lays "WillowPrinters$House" "WillowPrinters$House" "seconds" "I") ∈ lw_all := lw_g (lw_at lw_m2 220 rfl) rfl
theorem q515 : (Jvm.Cond.soleField "WillowPrinters$House" "seconds") ∈ lw_all := lw_g (lw_at lw_m2 221 rfl) rfl
theorem q516 : (Jvm.Cond.lays "WillowPrinters$House" "WillowPrinters$House" "secondsSold" "I") ∈ lw_all := lw_g (lw_at lw_m2 222 rfl) rfl
theorem q517 : (Jvm.Cond.soleField "WillowPrinters$House" "secondsSold") ∈ lw_all := lw_g (lw_at lw_m2 223 rfl) rfl
theorem q518 : (Jvm.Cond.superclass "WillowPrinters$House" "java/lang/Object") ∈ lw_all := lw_g (lw_at lw_m2 224 rfl) rfl
theorem q580 : (Jvm.Cond.instanceMethod ({ cls := "WillowPrinters$House", name := "inCrates", desc := "()I" } : Jvm.MethodName)) ∈ lw_all := lw_g (lw_at lw_m3 46 rfl) rfl
theorem q581 : (Jvm.Cond.selects "WillowPrinters$House" ({ cls := "WillowPrinters$House", name := "inCrates", desc := "()I" } : Jvm.MethodName) ({ cls := "WillowPrinters$House", name := "inCrates", desc := "()I" } : Jvm.MethodName)) ∈ lw_all := lw_g (lw_at lw_m3 47 rfl) rfl
theorem q582 : (Jvm.Cond.code ({ cls := "WillowPrinters$House", name := "inCrates", desc := "()I" } : Jvm.MethodName) prog_7_method_29_code (1 : Nat) (Option.some Jvm.ClassFile.FieldType.int)) ∈ lw_all := lw_g (lw_at lw_m3 48 rfl) rfl
theorem q583 : (Jvm.Cond.static ({ cls := "WillowPrinters$House", name := "lambda$inCrates$1", desc := "(LWillowPrinters$Crate;)Z" } : Jvm.MethodName)) ∈ lw_all := lw_g (lw_at lw_m3 49 rfl) rfl
theorem q584 : (Jvm.Cond.code ({ cls := "WillowPrinters$House", name := "lambda$inCrates$1", desc := "(LWillowPrinters$Crate;)Z" } : Jvm.MethodName) prog_7_method_33_code (1 : Nat) (Option.some Jvm.ClassFile.FieldType.boolean)) ∈ lw_all := lw_g (lw_at lw_m3 50 rfl) rfl
theorem q585 : (Jvm.Cond.static ({ cls := "WillowPrinters$House", name := "lambda$inCrates$2", desc := "(LWillowPrinters$Crate;)I" } : Jvm.MethodName)) ∈ lw_all := lw_g (lw_at lw_m3 51 rfl) rfl
theorem q586 : (Jvm.Cond.code ({ cls := "WillowPrinters$House", name := "lambda$inCrates$2", desc := "(LWillowPrinters$Crate;)I" } : Jvm.MethodName) prog_7_method_32_code (1 : Nat) (Option.some Jvm.ClassFile.FieldType.int)) ∈ lw_all := lw_g (lw_at lw_m3 52 rfl) rfl
theorem q587 : (Jvm.Cond.methodLinkNest "WillowPrinters$House" (282 : Nat) ({ cls := "WillowPrinters", name := "sum", desc := "(Ljava/util/ArrayList;LWillowPrinters$Test;LWillowPrinters$Measure;)I" } : Jvm.MethodName) "WillowPrinters") ∈ lw_tbl := lw_at lw_m3 53 rfl
theorem q632 : (Jvm.Cond.instanceMethod ({ cls := "WillowPrinters$House", name := "buySheets", desc := "(I)I" } : Jvm.MethodName)) ∈ lw_all := lw_g (lw_at lw_m3 98 rfl) rfl
theorem q633 : (Jvm.Cond.selects "WillowPrinters$House" ({ cls := "WillowPrinters$House", name := "buySheets", desc := "(I)I" } : Jvm.MethodName) ({ cls := "WillowPrinters$House", name := "buySheets", desc := "(I)I" } : Jvm.MethodName)) ∈ lw_all := lw_g (lw_at lw_m3 99 rfl) rfl
theorem q634 : (Jvm.Cond.code ({ cls := "WillowPrinters$House", name := "buySheets", desc := "(I)I" } : Jvm.MethodName) prog_7_method_11_code (2 : Nat) (Option.some Jvm.ClassFile.FieldType.int)) ∈ lw_all := lw_g (lw_at lw_m3 100 rfl) rfl
theorem q635 : (Jvm.Cond.constantLong "WillowPrinters$House" (126 : Nat) (50 : Int64)) ∈ lw_all := lw_g (lw_at lw_m3 101 rfl) rfl
theorem q636 : (Jvm.Cond.methodLinkNest "WillowPrinters$House" (104 : Nat) ({ cls := "WillowPrinters", name := "inRange", desc := "(JJJ)Z" } : Jvm.MethodName) "WillowPrinters") ∈ lw_tbl := lw_at lw_m3 102 rfl
theorem q639 : (Jvm.Cond.methodLinkNest "WillowPrinters$House" (128 : Nat) ({ cls := "WillowPrinters", name := "checkArgument", desc := "(Z)V" } : Jvm.MethodName) "WillowPrinters") ∈ lw_tbl := lw_at lw_m3 105 rfl
theorem q653 : (Jvm.Cond.methodLink "WillowPrinters$House" (131 : Nat) ({ cls := "WillowPrinters$House", name := "pay", desc := "(I)V" } : Jvm.MethodName)) ∈ lw_all := lw_g (lw_at lw_m3 119 rfl) rfl
theorem q654 : (Jvm.Cond.privateMethod ({ cls := "WillowPrinters$House", name := "pay", desc := "(I)V" } : Jvm.MethodName)) ∈ lw_tbl := lw_at lw_m3 120 rfl
theorem q655 : (Jvm.Cond.instanceMethod ({ cls := "WillowPrinters$House", name := "pay", desc := "(I)V" } : Jvm.MethodName)) ∈ lw_all := lw_g (lw_at lw_m3 121 rfl) rfl
theorem q656 : (Jvm.Cond.code ({ cls := "WillowPrinters$House", name := "pay", desc := "(I)V" } : Jvm.MethodName) prog_7_method_9_code (2 : Nat) (Option.none : Option Jvm.ClassFile.FieldType)) ∈ lw_all := lw_g (lw_at lw_m3 122 rfl) rfl
theorem q657 : (Jvm.Cond.methodLink "WillowPrinters$House" (120 : Nat) ({ cls := "WillowPrinters$Refused", name := "check", desc := "(ZII)V" } : Jvm.MethodName)) ∈ lw_all := lw_g (lw_at lw_m3 123 rfl) rfl
theorem q694 : (Jvm.Cond.instanceMethod ({ cls := "WillowPrinters$House", name := "copy", desc := "()LWillowPrinters$House;" } : Jvm.MethodName)) ∈ lw_all := lw_g (lw_at lw_m3 160 rfl) rfl
theorem q695 : (Jvm.Cond.selects "WillowPrinters$House" ({ cls := "WillowPrinters$House", name := "copy", desc := "()LWillowPrinters$House;" } : Jvm.MethodName) ({ cls := "WillowPrinters$House", name := "copy", desc := "()LWillowPrinters$House;" } : Jvm.MethodName)) ∈ lw_all := lw_g (lw_at lw_m3 161 rfl) rfl
theorem q696 : (Jvm.Cond.code ({ cls := "WillowPrinters$House", name := "copy", desc := "()LWillowPrinters$House;" } : Jvm.MethodName) prog_7_method_2_code (5 : Nat) (Option.some (Jvm.ClassFile.FieldType.object "WillowPrinters$House"))) ∈ lw_all := lw_g (lw_at lw_m3 162 rfl) rfl
theorem q697 : (Jvm.Cond.classLink "WillowPrinters$House" (15 : Nat) "WillowPrinters$House") ∈ lw_all := lw_g (lw_at lw_m3 163 rfl) rfl
theorem q698 : (Jvm.Cond.methodLink "WillowPrinters$House" (39 : Nat) ({ cls := "WillowPrinters$House", name := "<init>", desc := "()V" } : Jvm.MethodName)) ∈ lw_all := lw_g (lw_at lw_m3 164 rfl) rfl
theorem q699 : (Jvm.Cond.methodLink "WillowPrinters$House" (40 : Nat) ({ cls := "java/util/ArrayList", name := "iterator", desc := "()Ljava/util/Iterator;" } : Jvm.MethodName)) ∈ lw_all := lw_g (lw_at lw_m3 165 rfl) rfl
theorem q722 : (Jvm.Cond.interfaceEntry "WillowPrinters$House" (44 : Nat)) ∈ lw_tbl := lw_at lw_m3 188 rfl
theorem q723 : (Jvm.Cond.methodLink "WillowPrinters$House" (44 : Nat) ({ cls := "java/util/Iterator", name := "hasNext", desc := "()Z" } : Jvm.MethodName)) ∈ lw_all := lw_g (lw_at lw_m3 189 rfl) rfl
theorem q732 : (Jvm.Cond.interfaceEntry "WillowPrinters$House" (50 : Nat)) ∈ lw_tbl := lw_at lw_m3 198 rfl
theorem q733 : (Jvm.Cond.methodLink "WillowPrinters$House" (50 : Nat) ({ cls := "java/util/Iterator", name := "next", desc := "()Ljava/lang/Object;" } : Jvm.MethodName)) ∈ lw_all := lw_g (lw_at lw_m3 199 rfl) rfl
theorem q760 : (Jvm.Cond.classLink "WillowPrinters$House" (54 : Nat) "WillowPrinters$Copper") ∈ lw_all := lw_g (lw_at lw_m3 226 rfl) rfl
theorem q761 : (Jvm.Cond.methodLink "WillowPrinters$House" (56 : Nat) ({ cls := "WillowPrinters$Copper", name := "copy", desc := "()LWillowPrinters$Copper;" } : Jvm.MethodName)) ∈ lw_all := lw_g (lw_at lw_m3 227 rfl) rfl
theorem q776 : (Jvm.Cond.fieldLinkNest "WillowPrinters$House" (177 : Nat) "WillowPrinters$Copper" "worn" "I" "WillowPrinters") ∈ lw_tbl := lw_at lw_m4 2 rfl
theorem q779 : (Jvm.Cond.fieldLinkNest "WillowPrinters$House" (184 : Nat) "WillowPrinters$Copper" "printed" "I" "WillowPrinters") ∈ lw_tbl := lw_at lw_m4 5 rfl
theorem q790 : (Jvm.Cond.methodLink "WillowPrinters$House" (60 : Nat) ({ cls := "java/util/ArrayList", name := "add", desc := "(Ljava/lang/Object;)Z" } : Jvm.MethodName)) ∈ lw_all := lw_g (lw_at lw_m4 16 rfl) rfl
theorem q820 : (Jvm.Cond.selects "WillowPrinters$House" ({ cls := "java/lang/Object", name := "getClass", desc := "()Ljava/lang/Class;" } : Jvm.MethodName) ({ cls := "java/lang/Object", name := "getClass", desc := "()Ljava/lang/Class;" } : Jvm.MethodName)) ∈ lw_all := lw_g (lw_at lw_m4 46 rfl) rfl
theorem q852 : (Jvm.Cond.classLink "WillowPrinters$House" (64 : Nat) "WillowPrinters$Lot") ∈ lw_all := lw_g (lw_at lw_m4 78 rfl) rfl
theorem q853 : (Jvm.Cond.methodLink "WillowPrinters$House" (66 : Nat) ({ cls := "WillowPrinters$Lot", name := "copy", desc := "()LWillowPrinters$Lot;" } : Jvm.MethodName)) ∈ lw_all := lw_g (lw_at lw_m4 79 rfl) rfl
theorem q871 : (Jvm.Cond.fieldLinkNest "WillowPrinters$House" (214 : Nat) "WillowPrinters$Lot" "number" "I" "WillowPrinters") ∈ lw_tbl := lw_at lw_m4 97 rfl
theorem q875 : (Jvm.Cond.fieldLinkNest "WillowPrinters$House" (174 : Nat) "WillowPrinters$Lot" "plates" "I" "WillowPrinters") ∈ lw_tbl := lw_at lw_m4 101 rfl
theorem q879 : (Jvm.Cond.fieldLinkNest "WillowPrinters$House" (190 : Nat) "WillowPrinters$Lot" "state" "LWillowPrinters$State;" "WillowPrinters") ∈ lw_tbl := lw_at lw_m4 105 rfl
theorem q888 : (Jvm.Cond.classLink "WillowPrinters$House" (69 : Nat) "WillowPrinters$Kiln") ∈ lw_all := lw_g (lw_at lw_m4 114 rfl) rfl
theorem q889 : (Jvm.Cond.methodLink "WillowPrinters$House" (71 : Nat) ({ cls := "WillowPrinters$Kiln", name := "copy", desc := "()LWillowPrinters$Kiln;" } : Jvm.MethodName)) ∈ lw_all := lw_g (lw_at lw_m4 115 rfl) rfl
theorem q900 : (Jvm.Cond.fieldLinkNest "WillowPrinters$House" (217 : Nat) "WillowPrinters$Kiln" "room" "I" "WillowPrinters") ∈ lw_tbl := lw_at lw_m4 126 rfl
theorem q904 : (Jvm.Cond.fieldLinkNest "WillowPrinters$House" (264 : Nat) "WillowPrinters$Kiln" "fired" "I" "WillowPrinters") ∈ lw_tbl := lw_at lw_m4 130 rfl
theorem q910 : (Jvm.Cond.classLink "WillowPrinters$House" (74 : Nat) "WillowPrinters$Crate") ∈ lw_all := lw_g (lw_at lw_m4 136 rfl) rfl
theorem q911 : (Jvm.Cond.methodLink "WillowPrinters$House" (76 : Nat) ({ cls := "WillowPrinters$Crate", name := "copy", desc := "()LWillowPrinters$Crate;" } : Jvm.MethodName)) ∈ lw_all := lw_g (lw_at lw_m4 137 rfl) rfl
theorem q922 : (Jvm.Cond.fieldLinkNest "WillowPrinters$House" (248 : Nat) "WillowPrinters$Crate" "room" "I" "WillowPrinters") ∈ lw_tbl := lw_at lw_m4 148 rfl
theorem q925 : (Jvm.Cond.fieldLinkNest "WillowPrinters$House" (249 : Nat) "WillowPrinters$Crate" "plates" "I" "WillowPrinters") ∈ lw_tbl := lw_at lw_m4 151 rfl
theorem q928 : (Jvm.Cond.fieldLinkNest "WillowPrinters$House" (250 : Nat) "WillowPrinters$Crate" "worth" "I" "WillowPrinters") ∈ lw_tbl := lw_at lw_m4 154 rfl
theorem q931 : (Jvm.Cond.fieldLinkNest "WillowPrinters$House" (242 : Nat) "WillowPrinters$Crate" "straw" "I" "WillowPrinters") ∈ lw_tbl := lw_at lw_m4 157 rfl
theorem q1030 : (Jvm.Cond.instanceMethod ({ cls := "WillowPrinters$House", name := "setDamp", desc := "(I)I" } : Jvm.MethodName)) ∈ lw_all := lw_g (lw_at lw_m5 16 rfl) rfl
theorem q1031 : (Jvm.Cond.selects "WillowPrinters$House" ({ cls := "WillowPrinters$House", name := "setDamp", desc := "(I)I" } : Jvm.MethodName) ({ cls := "WillowPrinters$House", name := "setDamp", desc := "(I)I" } : Jvm.MethodName)) ∈ lw_all := lw_g (lw_at lw_m5 17 rfl) rfl
theorem q1032 : (Jvm.Cond.code ({ cls := "WillowPrinters$House", name := "setDamp", desc := "(I)I" } : Jvm.MethodName) prog_7_method_12_code (3 : Nat) (Option.some Jvm.ClassFile.FieldType.int)) ∈ lw_all := lw_g (lw_at lw_m5 18 rfl) rfl
theorem q1033 : (Jvm.Cond.constantLong "WillowPrinters$House" (134 : Nat) (9 : Int64)) ∈ lw_all := lw_g (lw_at lw_m5 19 rfl) rfl
theorem q1045 : (Jvm.Cond.instanceMethod ({ cls := "WillowPrinters$House", name := "addCopper", desc := "(I)I" } : Jvm.MethodName)) ∈ lw_all := lw_g (lw_at lw_m5 31 rfl) rfl
theorem q1046 : (Jvm.Cond.selects "WillowPrinters$House" ({ cls := "WillowPrinters$House", name := "addCopper", desc := "(I)I" } : Jvm.MethodName) ({ cls := "WillowPrinters$House", name := "addCopper", desc := "(I)I" } : Jvm.MethodName)) ∈ lw_all := lw_g (lw_at lw_m5 32 rfl) rfl
theorem q1047 : (Jvm.Cond.code ({ cls := "WillowPrinters$House", name := "addCopper", desc := "(I)I" } : Jvm.MethodName) prog_7_method_13_code (2 : Nat) (Option.some Jvm.ClassFile.FieldType.int)) ∈ lw_all := lw_g (lw_at lw_m5 33 rfl) rfl
theorem q1048 : (Jvm.Cond.methodLink "WillowPrinters$House" (100 : Nat) ({ cls := "java/util/ArrayList", name := "size", desc := "()I" } : Jvm.MethodName)) ∈ lw_all := lw_g (lw_at lw_m5 34 rfl) rfl
theorem q1049 : (Jvm.Cond.methodLinkNest "WillowPrinters$House" (136 : Nat) ({ cls := "WillowPrinters", name := "checkState", desc := "(Z)V" } : Jvm.MethodName) "WillowPrinters") ∈ lw_tbl := lw_at lw_m5 35 rfl
theorem q1057 : (Jvm.Cond.methodLink "WillowPrinters$House" (139 : Nat) ({ cls := "WillowPrinters$Copper", name := "<init>", desc := "(II)V" } : Jvm.MethodName)) ∈ lw_all := lw_g (lw_at lw_m5 43 rfl) rfl
theorem q1058 : (Jvm.Cond.methodLink "WillowPrinters$House" (142 : Nat) ({ cls := "WillowPrinters$House", name := "added", desc := "(Ljava/util/ArrayList;Ljava/lang/Object;)I" } : Jvm.MethodName)) ∈ lw_all := lw_g (lw_at lw_m5 44 rfl) rfl
theorem q1059 : (Jvm.Cond.static ({ cls := "WillowPrinters$House", name := "added", desc := "(Ljava/util/ArrayList;Ljava/lang/Object;)I" } : Jvm.MethodName)) ∈ lw_all := lw_g (lw_at lw_m5 45 rfl) rfl
theorem q1060 : (Jvm.Cond.code ({ cls := "WillowPrinters$House", name := "added", desc := "(Ljava/util/ArrayList;Ljava/lang/Object;)I" } : Jvm.MethodName) prog_7_method_4_code (3 : Nat) (Option.some Jvm.ClassFile.FieldType.int)) ∈ lw_all := lw_g (lw_at lw_m5 46 rfl) rfl
theorem q1088 : (Jvm.Cond.instanceMethod ({ cls := "WillowPrinters$House", name := "copper", desc := "(I)LWillowPrinters$Copper;" } : Jvm.MethodName)) ∈ lw_all := lw_g (lw_at lw_m5 74 rfl) rfl
theorem q1089 : (Jvm.Cond.selects "WillowPrinters$House" ({ cls := "WillowPrinters$House", name := "copper", desc := "(I)LWillowPrinters$Copper;" } : Jvm.MethodName) ({ cls := "WillowPrinters$House", name := "copper", desc := "(I)LWillowPrinters$Copper;" } : Jvm.MethodName)) ∈ lw_all := lw_g (lw_at lw_m5 75 rfl) rfl
theorem q1090 : (Jvm.Cond.code ({ cls := "WillowPrinters$House", name := "copper", desc := "(I)LWillowPrinters$Copper;" } : Jvm.MethodName) prog_7_method_5_code (2 : Nat) (Option.some (Jvm.ClassFile.FieldType.object "WillowPrinters$Copper"))) ∈ lw_all := lw_g (lw_at lw_m5 76 rfl) rfl
theorem q1091 : (Jvm.Cond.methodLink "WillowPrinters$House" (116 : Nat) ({ cls := "WillowPrinters$House", name := "checked", desc := "(Ljava/util/ArrayList;I)Ljava/lang/Object;" } : Jvm.MethodName)) ∈ lw_all := lw_g (lw_at lw_m5 77 rfl) rfl
theorem q1092 : (Jvm.Cond.static ({ cls := "WillowPrinters$House", name := "checked", desc := "(Ljava/util/ArrayList;I)Ljava/lang/Object;" } : Jvm.MethodName)) ∈ lw_all := lw_g (lw_at lw_m5 78 rfl) rfl
theorem q1093 : (Jvm.Cond.code ({ cls := "WillowPrinters$House", name := "checked", desc := "(Ljava/util/ArrayList;I)Ljava/lang/Object;" } : Jvm.MethodName) prog_7_method_3_code (2 : Nat) (Option.some (Jvm.ClassFile.FieldType.object "java/lang/Object"))) ∈ lw_all := lw_g (lw_at lw_m5 79 rfl) rfl
theorem q1094 : (Jvm.Cond.methodLinkNest "WillowPrinters$House" (108 : Nat) ({ cls := "WillowPrinters", name := "checkIndex", desc := "(Z)V" } : Jvm.MethodName) "WillowPrinters") ∈ lw_tbl := lw_at lw_m5 80 rfl
theorem q1112 : (Jvm.Cond.methodLink "WillowPrinters$House" (112 : Nat) ({ cls := "java/util/ArrayList", name := "get", desc := "(I)Ljava/lang/Object;" } : Jvm.MethodName)) ∈ lw_all := lw_g (lw_at lw_m5 98 rfl) rfl
theorem q1142 : (Jvm.Cond.instanceMethod ({ cls := "WillowPrinters$House", name := "lot", desc := "(I)LWillowPrinters$Lot;" } : Jvm.MethodName)) ∈ lw_all := lw_g (lw_at lw_m5 128 rfl) rfl
theorem q1143 : (Jvm.Cond.selects "WillowPrinters$House" ({ cls := "WillowPrinters$House", name := "lot", desc := "(I)LWillowPrinters$Lot;" } : Jvm.MethodName) ({ cls := "WillowPrinters$House", name := "lot", desc := "(I)LWillowPrinters$Lot;" } : Jvm.MethodName)) ∈ lw_all := lw_g (lw_at lw_m5 129 rfl) rfl
theorem q1144 : (Jvm.Cond.code ({ cls := "WillowPrinters$House", name := "lot", desc := "(I)LWillowPrinters$Lot;" } : Jvm.MethodName) prog_7_method_6_code (2 : Nat) (Option.some (Jvm.ClassFile.FieldType.object "WillowPrinters$Lot"))) ∈ lw_all := lw_g (lw_at lw_m5 130 rfl) rfl
theorem q1146 : (Jvm.Cond.instanceMethod ({ cls := "WillowPrinters$House", name := "bestCopper", desc := "(LWillowPrinters$Lot;)LWillowPrinters$Copper;" } : Jvm.MethodName)) ∈ lw_all := lw_g (lw_at lw_m5 132 rfl) rfl
theorem q1147 : (Jvm.Cond.selects "WillowPrinters$House" ({ cls := "WillowPrinters$House", name := "bestCopper", desc := "(LWillowPrinters$Lot;)LWillowPrinters$Copper;" } : Jvm.MethodName) ({ cls := "WillowPrinters$House", name := "bestCopper", desc := "(LWillowPrinters$Lot;)LWillowPrinters$Copper;" } : Jvm.MethodName)) ∈ lw_all := lw_g (lw_at lw_m5 133 rfl) rfl
theorem q1148 : (Jvm.Cond.code ({ cls := "WillowPrinters$House", name := "bestCopper", desc := "(LWillowPrinters$Lot;)LWillowPrinters$Copper;" } : Jvm.MethodName) prog_7_method_14_code (6 : Nat) (Option.some (Jvm.ClassFile.FieldType.object "WillowPrinters$Copper"))) ∈ lw_all := lw_g (lw_at lw_m5 134 rfl) rfl
theorem q1149 : (Jvm.Cond.methodLink "WillowPrinters$House" (146 : Nat) ({ cls := "WillowPrinters$Copper", name := "can", desc := "(LWillowPrinters$Lot;)Z" } : Jvm.MethodName)) ∈ lw_all := lw_g (lw_at lw_m5 135 rfl) rfl
theorem q1153 : (Jvm.Cond.methodLink "WillowPrinters$House" (150 : Nat) ({ cls := "WillowPrinters$Copper", name := "isAheadOf", desc := "(LWillowPrinters$Copper;I)Z" } : Jvm.MethodName)) ∈ lw_all := lw_g (lw_at lw_m5 139 rfl) rfl
theorem q1173 : (Jvm.Cond.instanceMethod ({ cls := "WillowPrinters$House", name := "buyLot", desc := "(I)I" } : Jvm.MethodName)) ∈ lw_all := lw_g (lw_at lw_m5 159 rfl) rfl
theorem q1174 : (Jvm.Cond.selects "WillowPrinters$House" ({ cls := "WillowPrinters$House", name := "buyLot", desc := "(I)I" } : Jvm.MethodName) ({ cls := "WillowPrinters$House", name := "buyLot", desc := "(I)I" } : Jvm.MethodName)) ∈ lw_all := lw_g (lw_at lw_m5 160 rfl) rfl
theorem q1175 : (Jvm.Cond.code ({ cls := "WillowPrinters$House", name := "buyLot", desc := "(I)I" } : Jvm.MethodName) prog_7_method_15_code (2 : Nat) (Option.some Jvm.ClassFile.FieldType.int)) ∈ lw_all := lw_g (lw_at lw_m5 161 rfl) rfl
theorem q1176 : (Jvm.Cond.constantLong "WillowPrinters$House" (154 : Nat) (30 : Int64)) ∈ lw_all := lw_g (lw_at lw_m5 162 rfl) rfl
theorem q1177 : (Jvm.Cond.methodLink "WillowPrinters$House" (156 : Nat) ({ cls := "WillowPrinters$Lot", name := "<init>", desc := "(II)V" } : Jvm.MethodName)) ∈ lw_all := lw_g (lw_at lw_m5 163 rfl) rfl
theorem q1277 : (Jvm.Cond.instanceMethod ({ cls := "WillowPrinters$House", name := "print", desc := "(II)I" } : Jvm.MethodName)) ∈ lw_all := lw_g (lw_at lw_m6 23 rfl) rfl
theorem q1278 : (Jvm.Cond.selects "WillowPrinters$House" ({ cls := "WillowPrinters$House", name := "print", desc := "(II)I" } : Jvm.MethodName) ({ cls := "WillowPrinters$House", name := "print", desc := "(II)I" } : Jvm.MethodName)) ∈ lw_all := lw_g (lw_at lw_m6 24 rfl) rfl
theorem q1279 : (Jvm.Cond.code ({ cls := "WillowPrinters$House", name := "print", desc := "(II)I" } : Jvm.MethodName) prog_7_method_16_code (6 : Nat) (Option.some Jvm.ClassFile.FieldType.int)) ∈ lw_all := lw_g (lw_at lw_m6 25 rfl) rfl
theorem q1280 : (Jvm.Cond.methodLink "WillowPrinters$House" (157 : Nat) ({ cls := "WillowPrinters$House", name := "lot", desc := "(I)LWillowPrinters$Lot;" } : Jvm.MethodName)) ∈ lw_all := lw_g (lw_at lw_m6 26 rfl) rfl
theorem q1281 : (Jvm.Cond.methodLink "WillowPrinters$House" (161 : Nat) ({ cls := "WillowPrinters$House", name := "copper", desc := "(I)LWillowPrinters$Copper;" } : Jvm.MethodName)) ∈ lw_all := lw_g (lw_at lw_m6 27 rfl) rfl
theorem q1282 : (Jvm.Cond.fieldLink "WillowPrinters$House" (165 : Nat) "WillowPrinters$Stage" "PLAIN" "LWillowPrinters$Stage;") ∈ lw_all := lw_g (lw_at lw_m6 28 rfl) rfl
theorem q1283 : (Jvm.Cond.methodLink "WillowPrinters$House" (171 : Nat) ({ cls := "WillowPrinters$Stage", name := "check", desc := "(LWillowPrinters$Lot;)V" } : Jvm.MethodName)) ∈ lw_all := lw_g (lw_at lw_m6 29 rfl) rfl
theorem q1295 : (Jvm.Cond.methodLink "WillowPrinters$House" (180 : Nat) ({ cls := "WillowPrinters$Copper", name := "well", desc := "(I)I" } : Jvm.MethodName)) ∈ lw_all := lw_g (lw_at lw_m6 41 rfl) rfl
theorem q1296 : (Jvm.Cond.classLink "WillowPrinters$House" (187 : Nat) "WillowPrinters$Printed") ∈ lw_all := lw_g (lw_at lw_m6 42 rfl) rfl
theorem q1298 : (Jvm.Cond.methodLink "WillowPrinters$House" (189 : Nat) ({ cls := "WillowPrinters$Printed", name := "<init>", desc := "(I)V" } : Jvm.MethodName)) ∈ lw_all := lw_g (lw_at lw_m6 44 rfl) rfl
theorem q1316 : (Jvm.Cond.instanceMethod ({ cls := "WillowPrinters$House", name := "addKiln", desc := "(I)I" } : Jvm.MethodName)) ∈ lw_all := lw_g (lw_at lw_m6 62 rfl) rfl
theorem q1317 : (Jvm.Cond.selects "WillowPrinters$House" ({ cls := "WillowPrinters$House", name := "addKiln", desc := "(I)I" } : Jvm.MethodName) ({ cls := "WillowPrinters$House", name := "addKiln", desc := "(I)I" } : Jvm.MethodName)) ∈ lw_all := lw_g (lw_at lw_m6 63 rfl) rfl
theorem q1318 : (Jvm.Cond.code ({ cls := "WillowPrinters$House", name := "addKiln", desc := "(I)I" } : Jvm.MethodName) prog_7_method_17_code (2 : Nat) (Option.some Jvm.ClassFile.FieldType.int)) ∈ lw_all := lw_g (lw_at lw_m6 64 rfl) rfl
theorem q1319 : (Jvm.Cond.constantLong "WillowPrinters$House" (194 : Nat) (4 : Int64)) ∈ lw_all := lw_g (lw_at lw_m6 65 rfl) rfl
theorem q1320 : (Jvm.Cond.constantLong "WillowPrinters$House" (196 : Nat) (40 : Int64)) ∈ lw_all := lw_g (lw_at lw_m6 66 rfl) rfl
theorem q1321 : (Jvm.Cond.methodLink "WillowPrinters$House" (198 : Nat) ({ cls := "WillowPrinters$Kiln", name := "<init>", desc := "(I)V" } : Jvm.MethodName)) ∈ lw_all := lw_g (lw_at lw_m6 67 rfl) rfl
theorem q1330 : (Jvm.Cond.instanceMethod ({ cls := "WillowPrinters$House", name := "kiln", desc := "(I)LWillowPrinters$Kiln;" } : Jvm.MethodName)) ∈ lw_all := lw_g (lw_at lw_m6 76 rfl) rfl
theorem q1331 : (Jvm.Cond.selects "WillowPrinters$House" ({ cls := "WillowPrinters$House", name := "kiln", desc := "(I)LWillowPrinters$Kiln;" } : Jvm.MethodName) ({ cls := "WillowPrinters$House", name := "kiln", desc := "(I)LWillowPrinters$Kiln;" } : Jvm.MethodName)) ∈ lw_all := lw_g (lw_at lw_m6 77 rfl) rfl
theorem q1332 : (Jvm.Cond.code ({ cls := "WillowPrinters$House", name := "kiln", desc := "(I)LWillowPrinters$Kiln;" } : Jvm.MethodName) prog_7_method_7_code (2 : Nat) (Option.some (Jvm.ClassFile.FieldType.object "WillowPrinters$Kiln"))) ∈ lw_all := lw_g (lw_at lw_m6 78 rfl) rfl
theorem q1334 : (Jvm.Cond.instanceMethod ({ cls := "WillowPrinters$House", name := "lotIn", desc := "(I)LWillowPrinters$Lot;" } : Jvm.MethodName)) ∈ lw_all := lw_g (lw_at lw_m6 80 rfl) rfl
theorem q1335 : (Jvm.Cond.selects "WillowPrinters$House" ({ cls := "WillowPrinters$House", name := "lotIn", desc := "(I)LWillowPrinters$Lot;" } : Jvm.MethodName) ({ cls := "WillowPrinters$House", name := "lotIn", desc := "(I)LWillowPrinters$Lot;" } : Jvm.MethodName)) ∈ lw_all := lw_g (lw_at lw_m6 81 rfl) rfl
theorem q1336 : (Jvm.Cond.code ({ cls := "WillowPrinters$House", name := "lotIn", desc := "(I)LWillowPrinters$Lot;" } : Jvm.MethodName) prog_7_method_18_code (5 : Nat) (Option.some (Jvm.ClassFile.FieldType.object "WillowPrinters$Lot"))) ∈ lw_all := lw_g (lw_at lw_m6 82 rfl) rfl
theorem q1337 : (Jvm.Cond.methodLink "WillowPrinters$House" (199 : Nat) ({ cls := "WillowPrinters$Lot", name := "kiln", desc := "()I" } : Jvm.MethodName)) ∈ lw_all := lw_g (lw_at lw_m6 83 rfl) rfl
theorem q1348 : (Jvm.Cond.instanceMethod ({ cls := "WillowPrinters$House", name := "fire", desc := "(III)I" } : Jvm.MethodName)) ∈ lw_all := lw_g (lw_at lw_m6 94 rfl) rfl
theorem q1349 : (Jvm.Cond.selects "WillowPrinters$House" ({ cls := "WillowPrinters$House", name := "fire", desc := "(III)I" } : Jvm.MethodName) ({ cls := "WillowPrinters$House", name := "fire", desc := "(III)I" } : Jvm.MethodName)) ∈ lw_all := lw_g (lw_at lw_m6 95 rfl) rfl
theorem q1350 : (Jvm.Cond.code ({ cls := "WillowPrinters$House", name := "fire", desc := "(III)I" } : Jvm.MethodName) prog_7_method_19_code (8 : Nat) (Option.some Jvm.ClassFile.FieldType.int)) ∈ lw_all := lw_g (lw_at lw_m6 96 rfl) rfl
theorem q1351 : (Jvm.Cond.methodLink "WillowPrinters$House" (202 : Nat) ({ cls := "WillowPrinters$House", name := "kiln", desc := "(I)LWillowPrinters$Kiln;" } : Jvm.MethodName)) ∈ lw_all := lw_g (lw_at lw_m6 97 rfl) rfl
theorem q1352 : (Jvm.Cond.methodLinkNest "WillowPrinters$House" (205 : Nat) ({ cls := "WillowPrinters", name := "checkCone", desc := "(I)V" } : Jvm.MethodName) "WillowPrinters") ∈ lw_tbl := lw_at lw_m6 98 rfl
theorem q1358 : (Jvm.Cond.fieldLink "WillowPrinters$House" (208 : Nat) "WillowPrinters$Stage" "PRINTED" "LWillowPrinters$Stage;") ∈ lw_all := lw_g (lw_at lw_m6 104 rfl) rfl
theorem q1359 : (Jvm.Cond.methodLink "WillowPrinters$House" (211 : Nat) ({ cls := "WillowPrinters$House", name := "lotIn", desc := "(I)LWillowPrinters$Lot;" } : Jvm.MethodName)) ∈ lw_all := lw_g (lw_at lw_m6 105 rfl) rfl
theorem q1360 : (Jvm.Cond.classLink "WillowPrinters$House" (220 : Nat) "WillowPrinters$Burning") ∈ lw_all := lw_g (lw_at lw_m6 106 rfl) rfl
theorem q1362 : (Jvm.Cond.interfaceEntry "WillowPrinters$House" (222 : Nat)) ∈ lw_tbl := lw_at lw_m6 108 rfl
theorem q1363 : (Jvm.Cond.methodLink "WillowPrinters$House" (222 : Nat) ({ cls := "WillowPrinters$State", name := "well", desc := "()I" } : Jvm.MethodName)) ∈ lw_all := lw_g (lw_at lw_m6 109 rfl) rfl
theorem q1364 : (Jvm.Cond.methodLink "WillowPrinters$House" (226 : Nat) ({ cls := "WillowPrinters$Burning", name := "<init>", desc := "(IIII)V" } : Jvm.MethodName)) ∈ lw_all := lw_g (lw_at lw_m6 110 rfl) rfl
theorem q1406 : (Jvm.Cond.instanceMethod ({ cls := "WillowPrinters$House", name := "firstDone", desc := "()I" } : Jvm.MethodName)) ∈ lw_all := lw_g (lw_at lw_m6 152 rfl) rfl
theorem q1407 : (Jvm.Cond.selects "WillowPrinters$House" ({ cls := "WillowPrinters$House", name := "firstDone", desc := "()I" } : Jvm.MethodName) ({ cls := "WillowPrinters$House", name := "firstDone", desc := "()I" } : Jvm.MethodName)) ∈ lw_all := lw_g (lw_at lw_m6 153 rfl) rfl
theorem q1408 : (Jvm.Cond.code ({ cls := "WillowPrinters$House", name := "firstDone", desc := "()I" } : Jvm.MethodName) prog_7_method_20_code (5 : Nat) (Option.some Jvm.ClassFile.FieldType.int)) ∈ lw_all := lw_g (lw_at lw_m6 154 rfl) rfl
theorem q1409 : (Jvm.Cond.constant "WillowPrinters$House" (231 : Nat) (2147483647 : Int32)) ∈ lw_all := lw_g (lw_at lw_m6 155 rfl) rfl
theorem q1410 : (Jvm.Cond.methodLink "WillowPrinters$House" (232 : Nat) ({ cls := "WillowPrinters$Lot", name := "hours", desc := "()I" } : Jvm.MethodName)) ∈ lw_all := lw_g (lw_at lw_m6 156 rfl) rfl
theorem q1421 : (Jvm.Cond.instanceMethod ({ cls := "WillowPrinters$House", name := "addCrate", desc := "(I)I" } : Jvm.MethodName)) ∈ lw_all := lw_g (lw_at lw_m6 167 rfl) rfl
theorem q1422 : (Jvm.Cond.selects "WillowPrinters$House" ({ cls := "WillowPrinters$House", name := "addCrate", desc := "(I)I" } : Jvm.MethodName) ({ cls := "WillowPrinters$House", name := "addCrate", desc := "(I)I" } : Jvm.MethodName)) ∈ lw_all := lw_g (lw_at lw_m6 168 rfl) rfl
theorem q1423 : (Jvm.Cond.code ({ cls := "WillowPrinters$House", name := "addCrate", desc := "(I)I" } : Jvm.MethodName) prog_7_method_21_code (2 : Nat) (Option.some Jvm.ClassFile.FieldType.int)) ∈ lw_all := lw_g (lw_at lw_m6 169 rfl) rfl
theorem q1424 : (Jvm.Cond.constantLong "WillowPrinters$House" (235 : Nat) (24 : Int64)) ∈ lw_all := lw_g (lw_at lw_m6 170 rfl) rfl
theorem q1425 : (Jvm.Cond.methodLink "WillowPrinters$House" (237 : Nat) ({ cls := "WillowPrinters$Crate", name := "<init>", desc := "(I)V" } : Jvm.MethodName)) ∈ lw_all := lw_g (lw_at lw_m6 171 rfl) rfl
theorem q1434 : (Jvm.Cond.instanceMethod ({ cls := "WillowPrinters$House", name := "crate", desc := "(I)LWillowPrinters$Crate;" } : Jvm.MethodName)) ∈ lw_all := lw_g (lw_at lw_m6 180 rfl) rfl
theorem q1435 : (Jvm.Cond.selects "WillowPrinters$House" ({ cls := "WillowPrinters$House", name := "crate", desc := "(I)LWillowPrinters$Crate;" } : Jvm.MethodName) ({ cls := "WillowPrinters$House", name := "crate", desc := "(I)LWillowPrinters$Crate;" } : Jvm.MethodName)) ∈ lw_all := lw_g (lw_at lw_m6 181 rfl) rfl
theorem q1436 : (Jvm.Cond.code ({ cls := "WillowPrinters$House", name := "crate", desc := "(I)LWillowPrinters$Crate;" } : Jvm.MethodName) prog_7_method_8_code (2 : Nat) (Option.some (Jvm.ClassFile.FieldType.object "WillowPrinters$Crate"))) ∈ lw_all := lw_g (lw_at lw_m6 182 rfl) rfl
theorem q1457 : (Jvm.Cond.instanceMethod ({ cls := "WillowPrinters$House", name := "addStraw", desc := "(II)I" } : Jvm.MethodName)) ∈ lw_all := lw_g (lw_at lw_m6 203 rfl) rfl
theorem q1458 : (Jvm.Cond.selects "WillowPrinters$House" ({ cls := "WillowPrinters$House", name := "addStraw", desc := "(II)I" } : Jvm.MethodName) ({ cls := "WillowPrinters$House", name := "addStraw", desc := "(II)I" } : Jvm.MethodName)) ∈ lw_all := lw_g (lw_at lw_m6 204 rfl) rfl
theorem q1459 : (Jvm.Cond.code ({ cls := "WillowPrinters$House", name := "addStraw", desc := "(II)I" } : Jvm.MethodName) prog_7_method_22_code (4 : Nat) (Option.some Jvm.ClassFile.FieldType.int)) ∈ lw_all := lw_g (lw_at lw_m6 205 rfl) rfl
theorem q1460 : (Jvm.Cond.methodLink "WillowPrinters$House" (238 : Nat) ({ cls := "WillowPrinters$House", name := "crate", desc := "(I)LWillowPrinters$Crate;" } : Jvm.MethodName)) ∈ lw_all := lw_g (lw_at lw_m6 206 rfl) rfl
theorem q1471 : (Jvm.Cond.instanceMethod ({ cls := "WillowPrinters$House", name := "pack", desc := "(III)I" } : Jvm.MethodName)) ∈ lw_all := lw_g (lw_at lw_m6 217 rfl) rfl
theorem q1472 : (Jvm.Cond.selects "WillowPrinters$House" ({ cls := "WillowPrinters$House", name := "pack", desc := "(III)I" } : Jvm.MethodName) ({ cls := "WillowPrinters$House", name := "pack", desc := "(III)I" } : Jvm.MethodName)) ∈ lw_all := lw_g (lw_at lw_m6 218 rfl) rfl
theorem q1473 : (Jvm.Cond.code ({ cls := "WillowPrinters$House", name := "pack", desc := "(III)I" } : Jvm.MethodName) prog_7_method_23_code (7 : Nat) (Option.some Jvm.ClassFile.FieldType.int)) ∈ lw_all := lw_g (lw_at lw_m6 219 rfl) rfl
theorem q1474 : (Jvm.Cond.fieldLink "WillowPrinters$House" (245 : Nat) "WillowPrinters$Stage" "FIRED" "LWillowPrinters$Stage;") ∈ lw_all := lw_g (lw_at lw_m6 220 rfl) rfl
theorem q1485 : (Jvm.Cond.instanceMethod ({ cls := "WillowPrinters$House", name := "carry", desc := "(I)I" } : Jvm.MethodName)) ∈ lw_all := lw_g (lw_at lw_m6 231 rfl) rfl
theorem q1486 : (Jvm.Cond.selects "WillowPrinters$House" ({ cls := "WillowPrinters$House", name := "carry", desc := "(I)I" } : Jvm.MethodName) ({ cls := "WillowPrinters$House", name := "carry", desc := "(I)I" } : Jvm.MethodName)) ∈ lw_all := lw_g (lw_at lw_m6 232 rfl) rfl
theorem q1487 : (Jvm.Cond.code ({ cls := "WillowPrinters$House", name := "carry", desc := "(I)I" } : Jvm.MethodName) prog_7_method_24_code (4 : Nat) (Option.some Jvm.ClassFile.FieldType.int)) ∈ lw_all := lw_g (lw_at lw_m6 233 rfl) rfl
theorem q1488 : (Jvm.Cond.methodLink "WillowPrinters$House" (253 : Nat) ({ cls := "WillowPrinters$Crate", name := "coins", desc := "()I" } : Jvm.MethodName)) ∈ lw_all := lw_g (lw_at lw_m6 234 rfl) rfl
theorem q1489 : (Jvm.Cond.methodLink "WillowPrinters$House" (255 : Nat) ({ cls := "WillowPrinters$House", name := "earn", desc := "(I)I" } : Jvm.MethodName)) ∈ lw_all := lw_g (lw_at lw_m6 235 rfl) rfl
theorem q1490 : (Jvm.Cond.privateMethod ({ cls := "WillowPrinters$House", name := "earn", desc := "(I)I" } : Jvm.MethodName)) ∈ lw_tbl := lw_at lw_m6 236 rfl
theorem q1491 : (Jvm.Cond.instanceMethod ({ cls := "WillowPrinters$House", name := "earn", desc := "(I)I" } : Jvm.MethodName)) ∈ lw_all := lw_g (lw_at lw_m6 237 rfl) rfl
theorem q1492 : (Jvm.Cond.code ({ cls := "WillowPrinters$House", name := "earn", desc := "(I)I" } : Jvm.MethodName) prog_7_method_10_code (2 : Nat) (Option.some Jvm.ClassFile.FieldType.int)) ∈ lw_all := lw_g (lw_at lw_m6 238 rfl) rfl
theorem q1493 : (Jvm.Cond.methodLink "WillowPrinters$House" (258 : Nat) ({ cls := "WillowPrinters$Crate", name := "chips", desc := "()I" } : Jvm.MethodName)) ∈ lw_all := lw_g (lw_at lw_m6 239 rfl) rfl
theorem q1504 : (Jvm.Cond.instanceMethod ({ cls := "WillowPrinters$House", name := "sell", desc := "()I" } : Jvm.MethodName)) ∈ lw_all := lw_g (lw_at lw_m7 10 rfl) rfl
theorem q1505 : (Jvm.Cond.selects "WillowPrinters$House" ({ cls := "WillowPrinters$House", name := "sell", desc := "()I" } : Jvm.MethodName) ({ cls := "WillowPrinters$House", name := "sell", desc := "()I" } : Jvm.MethodName)) ∈ lw_all := lw_g (lw_at lw_m7 11 rfl) rfl
theorem q1506 : (Jvm.Cond.code ({ cls := "WillowPrinters$House", name := "sell", desc := "()I" } : Jvm.MethodName) prog_7_method_25_code (2 : Nat) (Option.some Jvm.ClassFile.FieldType.int)) ∈ lw_all := lw_g (lw_at lw_m7 12 rfl) rfl
theorem q1517 : (Jvm.Cond.instanceMethod ({ cls := "WillowPrinters$House", name := "pass", desc := "(I)I" } : Jvm.MethodName)) ∈ lw_all := lw_g (lw_at lw_m7 23 rfl) rfl
theorem q1518 : (Jvm.Cond.selects "WillowPrinters$House" ({ cls := "WillowPrinters$House", name := "pass", desc := "(I)I" } : Jvm.MethodName) ({ cls := "WillowPrinters$House", name := "pass", desc := "(I)I" } : Jvm.MethodName)) ∈ lw_all := lw_g (lw_at lw_m7 24 rfl) rfl
theorem q1519 : (Jvm.Cond.code ({ cls := "WillowPrinters$House", name := "pass", desc := "(I)I" } : Jvm.MethodName) prog_7_method_27_code (6 : Nat) (Option.some Jvm.ClassFile.FieldType.int)) ∈ lw_all := lw_g (lw_at lw_m7 25 rfl) rfl
theorem q1520 : (Jvm.Cond.constantLong "WillowPrinters$House" (267 : Nat) (48 : Int64)) ∈ lw_all := lw_g (lw_at lw_m7 26 rfl) rfl
theorem q1521 : (Jvm.Cond.methodLink "WillowPrinters$House" (269 : Nat) ({ cls := "java/lang/Math", name := "max", desc := "(II)I" } : Jvm.MethodName)) ∈ lw_all := lw_g (lw_at lw_m7 27 rfl) rfl
theorem q1522 : (Jvm.Cond.methodLink "WillowPrinters$House" (275 : Nat) ({ cls := "WillowPrinters$House", name := "burn", desc := "(LWillowPrinters$Lot;)I" } : Jvm.MethodName)) ∈ lw_all := lw_g (lw_at lw_m7 28 rfl) rfl
theorem q1523 : (Jvm.Cond.privateMethod ({ cls := "WillowPrinters$House", name := "burn", desc := "(LWillowPrinters$Lot;)I" } : Jvm.MethodName)) ∈ lw_tbl := lw_at lw_m7 29 rfl
theorem q1524 : (Jvm.Cond.instanceMethod ({ cls := "WillowPrinters$House", name := "burn", desc := "(LWillowPrinters$Lot;)I" } : Jvm.MethodName)) ∈ lw_all := lw_g (lw_at lw_m7 30 rfl) rfl
theorem q1525 : (Jvm.Cond.code ({ cls := "WillowPrinters$House", name := "burn", desc := "(LWillowPrinters$Lot;)I" } : Jvm.MethodName) prog_7_method_26_code (4 : Nat) (Option.some Jvm.ClassFile.FieldType.int)) ∈ lw_all := lw_g (lw_at lw_m7 31 rfl) rfl
theorem q1526 : (Jvm.Cond.methodLink "WillowPrinters$House" (261 : Nat) ({ cls := "WillowPrinters$Lot", name := "burn", desc := "()I" } : Jvm.MethodName)) ∈ lw_all := lw_g (lw_at lw_m7 32 rfl) rfl
theorem q1669 : (Jvm.Cond.instanceMethod ({ cls := "WillowPrinters$House", name := "platesOf", desc := "(LWillowPrinters$Test;)I" } : Jvm.MethodName)) ∈ lw_all := lw_g (lw_at lw_m7 175 rfl) rfl
theorem q1670 : (Jvm.Cond.selects "WillowPrinters$House" ({ cls := "WillowPrinters$House", name := "platesOf", desc := "(LWillowPrinters$Test;)I" } : Jvm.MethodName) ({ cls := "WillowPrinters$House", name := "platesOf", desc := "(LWillowPrinters$Test;)I" } : Jvm.MethodName)) ∈ lw_all := lw_g (lw_at lw_m7 176 rfl) rfl
theorem q1671 : (Jvm.Cond.code ({ cls := "WillowPrinters$House", name := "platesOf", desc := "(LWillowPrinters$Test;)I" } : Jvm.MethodName) prog_7_method_28_code (2 : Nat) (Option.some Jvm.ClassFile.FieldType.int)) ∈ lw_all := lw_g (lw_at lw_m7 177 rfl) rfl
theorem q1672 : (Jvm.Cond.static ({ cls := "WillowPrinters$House", name := "lambda$platesOf$0", desc := "(LWillowPrinters$Lot;)I" } : Jvm.MethodName)) ∈ lw_all := lw_g (lw_at lw_m7 178 rfl) rfl
theorem q1673 : (Jvm.Cond.code ({ cls := "WillowPrinters$House", name := "lambda$platesOf$0", desc := "(LWillowPrinters$Lot;)I" } : Jvm.MethodName) prog_7_method_34_code (1 : Nat) (Option.some Jvm.ClassFile.FieldType.int)) ∈ lw_all := lw_g (lw_at lw_m7 179 rfl) rfl
theorem q1678 : (Jvm.Cond.instanceMethod ({ cls := "WillowPrinters$House", name := "burning", desc := "()I" } : Jvm.MethodName)) ∈ lw_all := lw_g (lw_at lw_m7 184 rfl) rfl
theorem q1679 : (Jvm.Cond.selects "WillowPrinters$House" ({ cls := "WillowPrinters$House", name := "burning", desc := "()I" } : Jvm.MethodName) ({ cls := "WillowPrinters$House", name := "burning", desc := "()I" } : Jvm.MethodName)) ∈ lw_all := lw_g (lw_at lw_m7 185 rfl) rfl
theorem q1680 : (Jvm.Cond.code ({ cls := "WillowPrinters$House", name := "burning", desc := "()I" } : Jvm.MethodName) prog_7_method_30_code (1 : Nat) (Option.some Jvm.ClassFile.FieldType.int)) ∈ lw_all := lw_g (lw_at lw_m7 186 rfl) rfl
theorem q1681 : (Jvm.Cond.static ({ cls := "WillowPrinters$House", name := "lambda$burning$3", desc := "(LWillowPrinters$Lot;)Z" } : Jvm.MethodName)) ∈ lw_all := lw_g (lw_at lw_m7 187 rfl) rfl
theorem q1682 : (Jvm.Cond.code ({ cls := "WillowPrinters$House", name := "lambda$burning$3", desc := "(LWillowPrinters$Lot;)Z" } : Jvm.MethodName) prog_7_method_31_code (1 : Nat) (Option.some Jvm.ClassFile.FieldType.boolean)) ∈ lw_all := lw_g (lw_at lw_m7 188 rfl) rfl
theorem q1683 : (Jvm.Cond.methodLinkNest "WillowPrinters$House" (292 : Nat) ({ cls := "WillowPrinters", name := "count", desc := "(Ljava/util/ArrayList;LWillowPrinters$Test;)I" } : Jvm.MethodName) "WillowPrinters") ∈ lw_tbl := lw_at lw_m7 189 rfl
theorem q2331 : (Jvm.Cond.castable "WillowPrinters$House" "java/lang/Object") ∈ lw_tbl := lw_at lw_m10 117 rfl
theorem in_X2 : ∀ w ∈ wsX20, w ∈ lw_all := lw_in wsX20 [490, 492, 494, 496, 498, 500, 502, 504, 506, 508, 510, 512, 514, 516] (by decide +kernel) (by decide +kernel)

/-! WillowPrinters$Refused -/
set_option maxRecDepth 100000
def RX4 : String := "WillowPrinters$Refused"
def TX4 : u_T := fun k => match k with
  | 0 => ("java/lang/Throwable", "cause", "Ljava/lang/Throwable;", false)
  | 1 => ("java/lang/Throwable", "stackTrace", "[Ljava/lang/StackTraceElement;", false)
  | 2 => ("java/lang/Throwable", "suppressedExceptions", "Ljava/util/List;", false)
  | 3 => ("java/lang/Throwable", "detailMessage", "Ljava/lang/String;", false)
  | 4 => ("java/lang/Throwable", "backtrace", "Ljava/lang/Object;", false)
  | 5 => ("java/lang/Throwable", "depth", "I", false)
  | 6 => ("WillowPrinters$Refused", "reason", "I", true)
  | _ => ("WillowPrinters$Refused", "detail", "I", true)
def tyX4 : Nat → FieldType := fun k => match k with
  | 0 => .object "java/lang/Throwable"
  | 1 => .array (.object "java/lang/StackTraceElement")
  | 2 => .object "java/util/List"
  | 3 => .object "java/lang/String"
  | 4 => .object "java/lang/Object"
  | 5 => .int
  | 6 => .int
  | _ => .int
abbrev wsX40 : List Cond := u_ws RX4 TX4 8
theorem nmX4 : ∀ a, a < 8 → ∀ b, b < 8 → a ≠ b → (TX4 a).2.1 ≠ (TX4 b).2.1 := by decide +kernel
theorem tyX4_ok : ∀ k, k < 8 → parseFieldDescriptor (TX4 k).2.2.1 = some (tyX4 k) := by decide +kernel
abbrev cX4_check : ByteArray := prog_14_method_2_code
def yX4_check : MethodName := ⟨RX4, "check", "(ZII)V"⟩
def dkwX4_check_0 : List UInt8 := [26, 154, 0, 13, 187, 0, 8, 89, 27, 28, 183, 0, 16, 191, 177]
abbrev dktX4_check_0 : List UInt8 := dkwX4_check_0 ++ []
theorem dksX4_check_0 : cX4_check.data.toList.drop 0 = dktX4_check_0 := by decide +kernel
theorem dX4_check_0 : decode cX4_check 0 = .ok (.iload_n 0, 1) := dk_26 (dk_at dksX4_check_0 0 rfl rfl)
theorem dX4_check_1 : decode cX4_check 1 = .ok (.ifCond .ne 13, 3) := dk_154 0 13 (dk_at dksX4_check_0 1 rfl rfl)
theorem dX4_check_4 : decode cX4_check 4 = .ok (.new 8, 3) := dk_187 0 8 (dk_at dksX4_check_0 4 rfl rfl)
theorem dX4_check_7 : decode cX4_check 7 = .ok (.dup, 1) := dk_89 (dk_at dksX4_check_0 7 rfl rfl)
theorem dX4_check_8 : decode cX4_check 8 = .ok (.iload_n 1, 1) := dk_27 (dk_at dksX4_check_0 8 rfl rfl)
theorem dX4_check_9 : decode cX4_check 9 = .ok (.iload_n 2, 1) := dk_28 (dk_at dksX4_check_0 9 rfl rfl)
theorem dX4_check_10 : decode cX4_check 10 = .ok (.invokespecial 16, 3) := dk_183 0 16 (dk_at dksX4_check_0 10 rfl rfl)
theorem dX4_check_13 : decode cX4_check 13 = .ok (.athrow, 1) := dk_191 (dk_at dksX4_check_0 13 rfl rfl)
theorem dX4_check_14 : decode cX4_check 14 = .ok (.return_, 1) := dk_177 (dk_at dksX4_check_0 14 rfl rfl)
abbrev cX4_init : ByteArray := prog_14_method_1_code
def yX4_init : MethodName := ⟨RX4, "<init>", "(II)V"⟩
def dkwX4_init_0 : List UInt8 := [42, 1, 1, 3, 3, 183, 0, 1, 42, 27, 181, 0, 7, 42, 28, 181, 0, 13, 177]
abbrev dktX4_init_0 : List UInt8 := dkwX4_init_0 ++ []
theorem dksX4_init_0 : cX4_init.data.toList.drop 0 = dktX4_init_0 := by decide +kernel
theorem dX4_init_0 : decode cX4_init 0 = .ok (.aload_n 0, 1) := dk_42 (dk_at dksX4_init_0 0 rfl rfl)
theorem dX4_init_1 : decode cX4_init 1 = .ok (.aconst_null, 1) := dk_1 (dk_at dksX4_init_0 1 rfl rfl)
theorem dX4_init_2 : decode cX4_init 2 = .ok (.aconst_null, 1) := dk_1 (dk_at dksX4_init_0 2 rfl rfl)
theorem dX4_init_3 : decode cX4_init 3 = .ok (.iconst 0, 1) := dk_3 (dk_at dksX4_init_0 3 rfl rfl)
theorem dX4_init_4 : decode cX4_init 4 = .ok (.iconst 0, 1) := dk_3 (dk_at dksX4_init_0 4 rfl rfl)
theorem dX4_init_5 : decode cX4_init 5 = .ok (.invokespecial 1, 3) := dk_183 0 1 (dk_at dksX4_init_0 5 rfl rfl)
theorem dX4_init_8 : decode cX4_init 8 = .ok (.aload_n 0, 1) := dk_42 (dk_at dksX4_init_0 8 rfl rfl)
theorem dX4_init_9 : decode cX4_init 9 = .ok (.iload_n 1, 1) := dk_27 (dk_at dksX4_init_0 9 rfl rfl)
theorem dX4_init_10 : decode cX4_init 10 = .ok (.putfield 7, 3) := dk_181 0 7 (dk_at dksX4_init_0 10 rfl rfl)
theorem dX4_init_13 : decode cX4_init 13 = .ok (.aload_n 0, 1) := dk_42 (dk_at dksX4_init_0 13 rfl rfl)
theorem dX4_init_14 : decode cX4_init 14 = .ok (.iload_n 2, 1) := dk_28 (dk_at dksX4_init_0 14 rfl rfl)
theorem dX4_init_15 : decode cX4_init 15 = .ok (.putfield 13, 3) := dk_181 0 13 (dk_at dksX4_init_0 15 rfl rfl)
theorem dX4_init_18 : decode cX4_init 18 = .ok (.return_, 1) := dk_177 (dk_at dksX4_init_0 18 rfl rfl)
theorem q78 : (Jvm.Cond.initialized "WillowPrinters$Refused") ∈ lw_all := lw_g (lw_at lw_m1 24 rfl) rfl
theorem q162 : (Jvm.Cond.selects "WillowPrinters$Refused" ({ cls := "java/lang/Throwable", name := "fillInStackTrace", desc := "()Ljava/lang/Throwable;" } : Jvm.MethodName) ({ cls := "java/lang/Throwable", name := "fillInStackTrace", desc := "()Ljava/lang/Throwable;" } : Jvm.MethodName)) ∈ lw_all := lw_g (lw_at lw_m1 108 rfl) rfl
theorem q658 : (Jvm.Cond.static ({ cls := "WillowPrinters$Refused", name := "check", desc := "(ZII)V" } : Jvm.MethodName)) ∈ lw_all := lw_g (lw_at lw_m3 124 rfl) rfl
theorem q659 : (Jvm.Cond.code ({ cls := "WillowPrinters$Refused", name := "check", desc := "(ZII)V" } : Jvm.MethodName) prog_14_method_2_code (3 : Nat) (Option.none : Option Jvm.ClassFile.FieldType)) ∈ lw_all := lw_g (lw_at lw_m3 125 rfl) rfl
theorem q660 : (Jvm.Cond.classLink "WillowPrinters$Refused" (8 : Nat) "WillowPrinters$Refused") ∈ lw_all := lw_g (lw_at lw_m3 126 rfl) rfl
theorem q661 : (Jvm.Cond.instantiable "WillowPrinters$Refused" (8 : Nat)) ∈ lw_all := lw_g (lw_at lw_m3 127 rfl) rfl
theorem q662 : (Jvm.Cond.castable "WillowPrinters$Refused" "WillowPrinters$Refused") ∈ lw_tbl := lw_at lw_m3 128 rfl
theorem q663 : (Jvm.Cond.selects "WillowPrinters$Refused" ({ cls := "java/lang/Throwable", name := "fillInStackTrace", desc := "(I)Ljava/lang/Throwable;" } : Jvm.MethodName) ({ cls := "java/lang/Throwable", name := "fillInStackTrace", desc := "(I)Ljava/lang/Throwable;" } : Jvm.MethodName)) ∈ lw_all := lw_g (lw_at lw_m3 129 rfl) rfl
theorem q664 : (Jvm.Cond.lays "WillowPrinters$Refused" "java/lang/Throwable" "cause" "Ljava/lang/Throwable;") ∈ lw_all := lw_g (lw_at lw_m3 130 rfl) rfl
theorem q665 : (Jvm.Cond.lays "WillowPrinters$Refused" "java/lang/Throwable" "stackTrace" "[Ljava/lang/StackTraceElement;") ∈ lw_all := lw_g (lw_at lw_m3 131 rfl) rfl
theorem q666 : (Jvm.Cond.lays "WillowPrinters$Refused" "java/lang/Throwable" "suppressedExceptions" "Ljava/util/List;") ∈ lw_all := lw_g (lw_at lw_m3 132 rfl) rfl
theorem q667 : (Jvm.Cond.lays "WillowPrinters$Refused" "java/lang/Throwable" "detailMessage" "Ljava/lang/String;") ∈ lw_all := lw_g (lw_at lw_m3 133 rfl) rfl
theorem q668 : (Jvm.Cond.lays "WillowPrinters$Refused" "java/lang/Throwable" "backtrace" "Ljava/lang/Object;") ∈ lw_all := lw_g (lw_at lw_m3 134 rfl) rfl
theorem q669 : (Jvm.Cond.methodLink "WillowPrinters$Refused" (16 : Nat) ({ cls := "WillowPrinters$Refused", name := "<init>", desc := "(II)V" } : Jvm.MethodName)) ∈ lw_all := lw_g (lw_at lw_m3 135 rfl) rfl
theorem q670 : (Jvm.Cond.instanceMethod ({ cls := "WillowPrinters$Refused", name := "<init>", desc := "(II)V" } : Jvm.MethodName)) ∈ lw_all := lw_g (lw_at lw_m3 136 rfl) rfl
theorem q671 : (Jvm.Cond.code ({ cls := "WillowPrinters$Refused", name := "<init>", desc := "(II)V" } : Jvm.MethodName) prog_14_method_1_code (3 : Nat) (Option.none : Option Jvm.ClassFile.FieldType)) ∈ lw_all := lw_g (lw_at lw_m3 137 rfl) rfl
theorem q672 : (Jvm.Cond.methodLink "WillowPrinters$Refused" (1 : Nat) ({ cls := "java/lang/Exception", name := "<init>", desc := "(Ljava/lang/String;Ljava/lang/Throwable;ZZ)V" } : Jvm.MethodName)) ∈ lw_all := lw_g (lw_at lw_m3 138 rfl) rfl
theorem q678 : (Jvm.Cond.fieldLink "WillowPrinters$Refused" (7 : Nat) "WillowPrinters$Refused" "reason" "I") ∈ lw_all := lw_g (lw_at lw_m3 144 rfl) rfl
theorem q680 : (Jvm.Cond.fieldLink "WillowPrinters$Refused" (13 : Nat) "WillowPrinters$Refused" "detail" "I") ∈ lw_all := lw_g (lw_at lw_m3 146 rfl) rfl
theorem q682 : (Jvm.Cond.laysFinal "WillowPrinters$Refused" "WillowPrinters$Refused" "reason" "I") ∈ lw_all := lw_g (lw_at lw_m3 148 rfl) rfl
theorem q683 : (Jvm.Cond.soleField "WillowPrinters$Refused" "reason") ∈ lw_all := lw_g (lw_at lw_m3 149 rfl) rfl
theorem q684 : (Jvm.Cond.laysFinal "WillowPrinters$Refused" "WillowPrinters$Refused" "detail" "I") ∈ lw_all := lw_g (lw_at lw_m3 150 rfl) rfl
theorem q685 : (Jvm.Cond.soleField "WillowPrinters$Refused" "detail") ∈ lw_all := lw_g (lw_at lw_m3 151 rfl) rfl
theorem q686 : (Jvm.Cond.lays "WillowPrinters$Refused" "java/lang/Throwable" "depth" "I") ∈ lw_all := lw_g (lw_at lw_m3 152 rfl) rfl
theorem q687 : (Jvm.Cond.superclass "WillowPrinters$Refused" "java/lang/Exception") ∈ lw_all := lw_g (lw_at lw_m3 153 rfl) rfl
theorem q826 : (Jvm.Cond.selects "WillowPrinters$Refused" ({ cls := "java/lang/Object", name := "getClass", desc := "()Ljava/lang/Class;" } : Jvm.MethodName) ({ cls := "java/lang/Object", name := "getClass", desc := "()Ljava/lang/Class;" } : Jvm.MethodName)) ∈ lw_all := lw_g (lw_at lw_m4 52 rfl) rfl
theorem q2338 : (Jvm.Cond.castable "WillowPrinters$Refused" "java/lang/Object") ∈ lw_tbl := lw_at lw_m10 124 rfl
theorem in_X4 : ∀ w ∈ wsX40, w ∈ lw_all := lw_in wsX40 [664, 665, 666, 667, 668, 686, 682, 684] (by decide +kernel) (by decide +kernel)

/-! WillowPrinters$Copper -/
set_option maxRecDepth 100000
def RX5 : String := "WillowPrinters$Copper"
def TX5 : u_T := fun k => match k with
  | 0 => ("WillowPrinters$Copper", "number", "I", true)
  | 1 => ("WillowPrinters$Copper", "lines", "I", true)
  | 2 => ("WillowPrinters$Copper", "worn", "I", false)
  | _ => ("WillowPrinters$Copper", "printed", "I", false)
def tyX5 : Nat → FieldType := fun k => match k with
  | 0 => .int
  | 1 => .int
  | 2 => .int
  | _ => .int
abbrev wsX50 : List Cond := u_ws RX5 TX5 4
theorem nmX5 : ∀ a, a < 4 → ∀ b, b < 4 → a ≠ b → (TX5 a).2.1 ≠ (TX5 b).2.1 := by decide +kernel
theorem tyX5_ok : ∀ k, k < 4 → parseFieldDescriptor (TX5 k).2.2.1 = some (tyX5 k) := by decide +kernel
abbrev cX5_copy : ByteArray := prog_4_method_2_code
def yX5_copy : MethodName := ⟨RX5, "copy", "()LWillowPrinters$Copper;"⟩
def dkwX5_copy_1 : List UInt8 := [43, 42, 180, 0, 24, 181, 0, 24, 43, 176]
abbrev dktX5_copy_1 : List UInt8 := dkwX5_copy_1 ++ []
def dkwX5_copy_0 : List UInt8 := [187, 0, 10, 89, 42, 180, 0, 9, 42, 180, 0, 15, 183, 0, 18, 76, 43, 42, 180, 0, 21, 181, 0, 21]
abbrev dktX5_copy_0 : List UInt8 := dkwX5_copy_0 ++ dktX5_copy_1
theorem dksX5_copy_0 : cX5_copy.data.toList.drop 0 = dktX5_copy_0 := by decide +kernel
theorem dksX5_copy_1 : cX5_copy.data.toList.drop 24 = dktX5_copy_1 := dk_seg dksX5_copy_0 24 rfl rfl
theorem dX5_copy_0 : decode cX5_copy 0 = .ok (.new 10, 3) := dk_187 0 10 (dk_at dksX5_copy_0 0 rfl rfl)
theorem dX5_copy_3 : decode cX5_copy 3 = .ok (.dup, 1) := dk_89 (dk_at dksX5_copy_0 3 rfl rfl)
theorem dX5_copy_4 : decode cX5_copy 4 = .ok (.aload_n 0, 1) := dk_42 (dk_at dksX5_copy_0 4 rfl rfl)
theorem dX5_copy_5 : decode cX5_copy 5 = .ok (.getfield 9, 3) := dk_180 0 9 (dk_at dksX5_copy_0 5 rfl rfl)
theorem dX5_copy_8 : decode cX5_copy 8 = .ok (.aload_n 0, 1) := dk_42 (dk_at dksX5_copy_0 8 rfl rfl)
theorem dX5_copy_9 : decode cX5_copy 9 = .ok (.getfield 15, 3) := dk_180 0 15 (dk_at dksX5_copy_0 9 rfl rfl)
theorem dX5_copy_12 : decode cX5_copy 12 = .ok (.invokespecial 18, 3) := dk_183 0 18 (dk_at dksX5_copy_0 12 rfl rfl)
theorem dX5_copy_15 : decode cX5_copy 15 = .ok (.astore_n 1, 1) := dk_76 (dk_at dksX5_copy_0 15 rfl rfl)
theorem dX5_copy_16 : decode cX5_copy 16 = .ok (.aload_n 1, 1) := dk_43 (dk_at dksX5_copy_0 16 rfl rfl)
theorem dX5_copy_17 : decode cX5_copy 17 = .ok (.aload_n 0, 1) := dk_42 (dk_at dksX5_copy_0 17 rfl rfl)
theorem dX5_copy_18 : decode cX5_copy 18 = .ok (.getfield 21, 3) := dk_180 0 21 (dk_at dksX5_copy_0 18 rfl rfl)
theorem dX5_copy_21 : decode cX5_copy 21 = .ok (.putfield 21, 3) := dk_181 0 21 (dk_at dksX5_copy_0 21 rfl rfl)
theorem dX5_copy_24 : decode cX5_copy 24 = .ok (.aload_n 1, 1) := dk_43 (dk_at dksX5_copy_1 0 rfl rfl)
theorem dX5_copy_25 : decode cX5_copy 25 = .ok (.aload_n 0, 1) := dk_42 (dk_at dksX5_copy_1 1 rfl rfl)
theorem dX5_copy_26 : decode cX5_copy 26 = .ok (.getfield 24, 3) := dk_180 0 24 (dk_at dksX5_copy_1 2 rfl rfl)
theorem dX5_copy_29 : decode cX5_copy 29 = .ok (.putfield 24, 3) := dk_181 0 24 (dk_at dksX5_copy_1 5 rfl rfl)
theorem dX5_copy_32 : decode cX5_copy 32 = .ok (.aload_n 1, 1) := dk_43 (dk_at dksX5_copy_1 8 rfl rfl)
theorem dX5_copy_33 : decode cX5_copy 33 = .ok (.areturn, 1) := dk_176 (dk_at dksX5_copy_1 9 rfl rfl)
abbrev cX5_init : ByteArray := prog_4_method_1_code
def yX5_init : MethodName := ⟨RX5, "<init>", "(II)V"⟩
def dkwX5_init_0 : List UInt8 := [42, 183, 0, 3, 42, 27, 181, 0, 9, 42, 28, 181, 0, 15, 177]
abbrev dktX5_init_0 : List UInt8 := dkwX5_init_0 ++ []
theorem dksX5_init_0 : cX5_init.data.toList.drop 0 = dktX5_init_0 := by decide +kernel
theorem dX5_init_0 : decode cX5_init 0 = .ok (.aload_n 0, 1) := dk_42 (dk_at dksX5_init_0 0 rfl rfl)
theorem dX5_init_1 : decode cX5_init 1 = .ok (.invokespecial 3, 3) := dk_183 0 3 (dk_at dksX5_init_0 1 rfl rfl)
theorem dX5_init_4 : decode cX5_init 4 = .ok (.aload_n 0, 1) := dk_42 (dk_at dksX5_init_0 4 rfl rfl)
theorem dX5_init_5 : decode cX5_init 5 = .ok (.iload_n 1, 1) := dk_27 (dk_at dksX5_init_0 5 rfl rfl)
theorem dX5_init_6 : decode cX5_init 6 = .ok (.putfield 9, 3) := dk_181 0 9 (dk_at dksX5_init_0 6 rfl rfl)
theorem dX5_init_9 : decode cX5_init 9 = .ok (.aload_n 0, 1) := dk_42 (dk_at dksX5_init_0 9 rfl rfl)
theorem dX5_init_10 : decode cX5_init 10 = .ok (.iload_n 2, 1) := dk_28 (dk_at dksX5_init_0 10 rfl rfl)
theorem dX5_init_11 : decode cX5_init 11 = .ok (.putfield 15, 3) := dk_181 0 15 (dk_at dksX5_init_0 11 rfl rfl)
theorem dX5_init_14 : decode cX5_init 14 = .ok (.return_, 1) := dk_177 (dk_at dksX5_init_0 14 rfl rfl)
abbrev cX5_well : ByteArray := prog_4_method_3_code
def yX5_well : MethodName := ⟨RX5, "well", "(I)I"⟩
def dkwX5_well_0 : List UInt8 := [3, 42, 180, 0, 15, 42, 180, 0, 21, 16, 10, 108, 100, 27, 8, 100, 184, 0, 27, 100, 184, 0, 33, 172]
abbrev dktX5_well_0 : List UInt8 := dkwX5_well_0 ++ []
theorem dksX5_well_0 : cX5_well.data.toList.drop 0 = dktX5_well_0 := by decide +kernel
theorem dX5_well_0 : decode cX5_well 0 = .ok (.iconst 0, 1) := dk_3 (dk_at dksX5_well_0 0 rfl rfl)
theorem dX5_well_1 : decode cX5_well 1 = .ok (.aload_n 0, 1) := dk_42 (dk_at dksX5_well_0 1 rfl rfl)
theorem dX5_well_2 : decode cX5_well 2 = .ok (.getfield 15, 3) := dk_180 0 15 (dk_at dksX5_well_0 2 rfl rfl)
theorem dX5_well_5 : decode cX5_well 5 = .ok (.aload_n 0, 1) := dk_42 (dk_at dksX5_well_0 5 rfl rfl)
theorem dX5_well_6 : decode cX5_well 6 = .ok (.getfield 21, 3) := dk_180 0 21 (dk_at dksX5_well_0 6 rfl rfl)
theorem dX5_well_9 : decode cX5_well 9 = .ok (.bipush 10, 2) := dk_16 10 (dk_at dksX5_well_0 9 rfl rfl)
theorem dX5_well_11 : decode cX5_well 11 = .ok (.idiv, 1) := dk_108 (dk_at dksX5_well_0 11 rfl rfl)
theorem dX5_well_12 : decode cX5_well 12 = .ok (.isub, 1) := dk_100 (dk_at dksX5_well_0 12 rfl rfl)
theorem dX5_well_13 : decode cX5_well 13 = .ok (.iload_n 1, 1) := dk_27 (dk_at dksX5_well_0 13 rfl rfl)
theorem dX5_well_14 : decode cX5_well 14 = .ok (.iconst 5, 1) := dk_8 (dk_at dksX5_well_0 14 rfl rfl)
theorem dX5_well_15 : decode cX5_well 15 = .ok (.isub, 1) := dk_100 (dk_at dksX5_well_0 15 rfl rfl)
theorem dX5_well_16 : decode cX5_well 16 = .ok (.invokestatic 27, 3) := dk_184 0 27 (dk_at dksX5_well_0 16 rfl rfl)
theorem dX5_well_19 : decode cX5_well 19 = .ok (.isub, 1) := dk_100 (dk_at dksX5_well_0 19 rfl rfl)
theorem dX5_well_20 : decode cX5_well 20 = .ok (.invokestatic 33, 3) := dk_184 0 33 (dk_at dksX5_well_0 20 rfl rfl)
theorem dX5_well_23 : decode cX5_well 23 = .ok (.ireturn, 1) := dk_172 (dk_at dksX5_well_0 23 rfl rfl)
abbrev cX5_wellAgain : ByteArray := prog_4_method_4_code
def yX5_wellAgain : MethodName := ⟨RX5, "wellAgain", "(I)I"⟩
def dkwX5_wellAgain_2 : List UInt8 := [167, 255, 241, 28, 156, 0, 7, 3, 167, 0, 4, 28, 172]
abbrev dktX5_wellAgain_2 : List UInt8 := dkwX5_wellAgain_2 ++ []
def dkwX5_wellAgain_1 : List UInt8 := [167, 255, 242, 27, 8, 184, 0, 37, 62, 29, 27, 8, 184, 0, 33, 162, 0, 12, 132, 2, 255, 132, 3, 1]
abbrev dktX5_wellAgain_1 : List UInt8 := dkwX5_wellAgain_1 ++ dktX5_wellAgain_2
def dkwX5_wellAgain_0 : List UInt8 := [42, 180, 0, 15, 61, 16, 10, 62, 29, 42, 180, 0, 21, 163, 0, 12, 132, 2, 255, 132, 3, 10]
abbrev dktX5_wellAgain_0 : List UInt8 := dkwX5_wellAgain_0 ++ dktX5_wellAgain_1
theorem dksX5_wellAgain_0 : cX5_wellAgain.data.toList.drop 0 = dktX5_wellAgain_0 := by decide +kernel
theorem dksX5_wellAgain_1 : cX5_wellAgain.data.toList.drop 22 = dktX5_wellAgain_1 := dk_seg dksX5_wellAgain_0 22 rfl rfl
theorem dksX5_wellAgain_2 : cX5_wellAgain.data.toList.drop 46 = dktX5_wellAgain_2 := dk_seg dksX5_wellAgain_1 24 rfl rfl
theorem dX5_wellAgain_0 : decode cX5_wellAgain 0 = .ok (.aload_n 0, 1) := dk_42 (dk_at dksX5_wellAgain_0 0 rfl rfl)
theorem dX5_wellAgain_1 : decode cX5_wellAgain 1 = .ok (.getfield 15, 3) := dk_180 0 15 (dk_at dksX5_wellAgain_0 1 rfl rfl)
theorem dX5_wellAgain_4 : decode cX5_wellAgain 4 = .ok (.istore_n 2, 1) := dk_61 (dk_at dksX5_wellAgain_0 4 rfl rfl)
theorem dX5_wellAgain_5 : decode cX5_wellAgain 5 = .ok (.bipush 10, 2) := dk_16 10 (dk_at dksX5_wellAgain_0 5 rfl rfl)
theorem dX5_wellAgain_7 : decode cX5_wellAgain 7 = .ok (.istore_n 3, 1) := dk_62 (dk_at dksX5_wellAgain_0 7 rfl rfl)
theorem dX5_wellAgain_8 : decode cX5_wellAgain 8 = .ok (.iload_n 3, 1) := dk_29 (dk_at dksX5_wellAgain_0 8 rfl rfl)
theorem dX5_wellAgain_9 : decode cX5_wellAgain 9 = .ok (.aload_n 0, 1) := dk_42 (dk_at dksX5_wellAgain_0 9 rfl rfl)
theorem dX5_wellAgain_10 : decode cX5_wellAgain 10 = .ok (.getfield 21, 3) := dk_180 0 21 (dk_at dksX5_wellAgain_0 10 rfl rfl)
theorem dX5_wellAgain_13 : decode cX5_wellAgain 13 = .ok (.if_icmp .gt 12, 3) := dk_163 0 12 (dk_at dksX5_wellAgain_0 13 rfl rfl)
theorem dX5_wellAgain_16 : decode cX5_wellAgain 16 = .ok (.iinc 2 (-1), 3) := dk_132 2 255 (dk_at dksX5_wellAgain_0 16 rfl rfl)
theorem dX5_wellAgain_19 : decode cX5_wellAgain 19 = .ok (.iinc 3 10, 3) := dk_132 3 10 (dk_at dksX5_wellAgain_0 19 rfl rfl)
theorem dX5_wellAgain_22 : decode cX5_wellAgain 22 = .ok (.goto (-14), 3) := dk_167 255 242 (dk_at dksX5_wellAgain_1 0 rfl rfl)
theorem dX5_wellAgain_25 : decode cX5_wellAgain 25 = .ok (.iload_n 1, 1) := dk_27 (dk_at dksX5_wellAgain_1 3 rfl rfl)
theorem dX5_wellAgain_26 : decode cX5_wellAgain 26 = .ok (.iconst 5, 1) := dk_8 (dk_at dksX5_wellAgain_1 4 rfl rfl)
theorem dX5_wellAgain_27 : decode cX5_wellAgain 27 = .ok (.invokestatic 37, 3) := dk_184 0 37 (dk_at dksX5_wellAgain_1 5 rfl rfl)
theorem dX5_wellAgain_30 : decode cX5_wellAgain 30 = .ok (.istore_n 3, 1) := dk_62 (dk_at dksX5_wellAgain_1 8 rfl rfl)
theorem dX5_wellAgain_31 : decode cX5_wellAgain 31 = .ok (.iload_n 3, 1) := dk_29 (dk_at dksX5_wellAgain_1 9 rfl rfl)
theorem dX5_wellAgain_32 : decode cX5_wellAgain 32 = .ok (.iload_n 1, 1) := dk_27 (dk_at dksX5_wellAgain_1 10 rfl rfl)
theorem dX5_wellAgain_33 : decode cX5_wellAgain 33 = .ok (.iconst 5, 1) := dk_8 (dk_at dksX5_wellAgain_1 11 rfl rfl)
theorem dX5_wellAgain_34 : decode cX5_wellAgain 34 = .ok (.invokestatic 33, 3) := dk_184 0 33 (dk_at dksX5_wellAgain_1 12 rfl rfl)
theorem dX5_wellAgain_37 : decode cX5_wellAgain 37 = .ok (.if_icmp .ge 12, 3) := dk_162 0 12 (dk_at dksX5_wellAgain_1 15 rfl rfl)
theorem dX5_wellAgain_40 : decode cX5_wellAgain 40 = .ok (.iinc 2 (-1), 3) := dk_132 2 255 (dk_at dksX5_wellAgain_1 18 rfl rfl)
theorem dX5_wellAgain_43 : decode cX5_wellAgain 43 = .ok (.iinc 3 1, 3) := dk_132 3 1 (dk_at dksX5_wellAgain_1 21 rfl rfl)
theorem dX5_wellAgain_46 : decode cX5_wellAgain 46 = .ok (.goto (-15), 3) := dk_167 255 241 (dk_at dksX5_wellAgain_2 0 rfl rfl)
theorem dX5_wellAgain_49 : decode cX5_wellAgain 49 = .ok (.iload_n 2, 1) := dk_28 (dk_at dksX5_wellAgain_2 3 rfl rfl)
theorem dX5_wellAgain_50 : decode cX5_wellAgain 50 = .ok (.ifCond .ge 7, 3) := dk_156 0 7 (dk_at dksX5_wellAgain_2 4 rfl rfl)
theorem dX5_wellAgain_53 : decode cX5_wellAgain 53 = .ok (.iconst 0, 1) := dk_3 (dk_at dksX5_wellAgain_2 7 rfl rfl)
theorem dX5_wellAgain_54 : decode cX5_wellAgain 54 = .ok (.goto 4, 3) := dk_167 0 4 (dk_at dksX5_wellAgain_2 8 rfl rfl)
theorem dX5_wellAgain_57 : decode cX5_wellAgain 57 = .ok (.iload_n 2, 1) := dk_28 (dk_at dksX5_wellAgain_2 11 rfl rfl)
theorem dX5_wellAgain_58 : decode cX5_wellAgain 58 = .ok (.ireturn, 1) := dk_172 (dk_at dksX5_wellAgain_2 12 rfl rfl)
abbrev cX5_can : ByteArray := prog_4_method_5_code
def yX5_can : MethodName := ⟨RX5, "can", "(LWillowPrinters$Lot;)Z"⟩
def dkwX5_can_0 : List UInt8 := [42, 180, 0, 21, 43, 180, 0, 40, 96, 16, 80, 163, 0, 7, 4, 167, 0, 4, 3, 172]
abbrev dktX5_can_0 : List UInt8 := dkwX5_can_0 ++ []
theorem dksX5_can_0 : cX5_can.data.toList.drop 0 = dktX5_can_0 := by decide +kernel
theorem dX5_can_0 : decode cX5_can 0 = .ok (.aload_n 0, 1) := dk_42 (dk_at dksX5_can_0 0 rfl rfl)
theorem dX5_can_1 : decode cX5_can 1 = .ok (.getfield 21, 3) := dk_180 0 21 (dk_at dksX5_can_0 1 rfl rfl)
theorem dX5_can_4 : decode cX5_can 4 = .ok (.aload_n 1, 1) := dk_43 (dk_at dksX5_can_0 4 rfl rfl)
theorem dX5_can_5 : decode cX5_can 5 = .ok (.getfield 40, 3) := dk_180 0 40 (dk_at dksX5_can_0 5 rfl rfl)
theorem dX5_can_8 : decode cX5_can 8 = .ok (.iadd, 1) := dk_96 (dk_at dksX5_can_0 8 rfl rfl)
theorem dX5_can_9 : decode cX5_can 9 = .ok (.bipush 80, 2) := dk_16 80 (dk_at dksX5_can_0 9 rfl rfl)
theorem dX5_can_11 : decode cX5_can 11 = .ok (.if_icmp .gt 7, 3) := dk_163 0 7 (dk_at dksX5_can_0 11 rfl rfl)
theorem dX5_can_14 : decode cX5_can 14 = .ok (.iconst 1, 1) := dk_4 (dk_at dksX5_can_0 14 rfl rfl)
theorem dX5_can_15 : decode cX5_can 15 = .ok (.goto 4, 3) := dk_167 0 4 (dk_at dksX5_can_0 15 rfl rfl)
theorem dX5_can_18 : decode cX5_can 18 = .ok (.iconst 0, 1) := dk_3 (dk_at dksX5_can_0 18 rfl rfl)
theorem dX5_can_19 : decode cX5_can 19 = .ok (.ireturn, 1) := dk_172 (dk_at dksX5_can_0 19 rfl rfl)
abbrev cX5_isAheadOf : ByteArray := prog_4_method_6_code
def yX5_isAheadOf : MethodName := ⟨RX5, "isAheadOf", "(LWillowPrinters$Copper;I)Z"⟩
def dkwX5_isAheadOf_3 : List UInt8 := [162, 0, 7, 4, 167, 0, 4, 3, 172]
abbrev dktX5_isAheadOf_3 : List UInt8 := dkwX5_isAheadOf_3 ++ []
def dkwX5_isAheadOf_2 : List UInt8 := [43, 180, 0, 21, 162, 0, 7, 4, 167, 0, 23, 3, 167, 0, 19, 42, 180, 0, 9, 43, 180, 0, 9]
abbrev dktX5_isAheadOf_2 : List UInt8 := dkwX5_isAheadOf_2 ++ dktX5_isAheadOf_3
def dkwX5_isAheadOf_1 : List UInt8 := [164, 0, 7, 4, 167, 0, 4, 3, 172, 42, 180, 0, 21, 43, 180, 0, 21, 159, 0, 22, 42, 180, 0, 21]
abbrev dktX5_isAheadOf_1 : List UInt8 := dkwX5_isAheadOf_1 ++ dktX5_isAheadOf_2
def dkwX5_isAheadOf_0 : List UInt8 := [42, 28, 182, 0, 45, 43, 28, 182, 0, 45, 159, 0, 22, 42, 28, 182, 0, 45, 43, 28, 182, 0, 45]
abbrev dktX5_isAheadOf_0 : List UInt8 := dkwX5_isAheadOf_0 ++ dktX5_isAheadOf_1
theorem dksX5_isAheadOf_0 : cX5_isAheadOf.data.toList.drop 0 = dktX5_isAheadOf_0 := by decide +kernel
theorem dksX5_isAheadOf_1 : cX5_isAheadOf.data.toList.drop 23 = dktX5_isAheadOf_1 := dk_seg dksX5_isAheadOf_0 23 rfl rfl
theorem dksX5_isAheadOf_2 : cX5_isAheadOf.data.toList.drop 47 = dktX5_isAheadOf_2 := dk_seg dksX5_isAheadOf_1 24 rfl rfl
theorem dksX5_isAheadOf_3 : cX5_isAheadOf.data.toList.drop 70 = dktX5_isAheadOf_3 := dk_seg dksX5_isAheadOf_2 23 rfl rfl
theorem dX5_isAheadOf_0 : decode cX5_isAheadOf 0 = .ok (.aload_n 0, 1) := dk_42 (dk_at dksX5_isAheadOf_0 0 rfl rfl)
theorem dX5_isAheadOf_1 : decode cX5_isAheadOf 1 = .ok (.iload_n 2, 1) := dk_28 (dk_at dksX5_isAheadOf_0 1 rfl rfl)
theorem dX5_isAheadOf_2 : decode cX5_isAheadOf 2 = .ok (.invokevirtual 45, 3) := dk_182 0 45 (dk_at dksX5_isAheadOf_0 2 rfl rfl)
theorem dX5_isAheadOf_5 : decode cX5_isAheadOf 5 = .ok (.aload_n 1, 1) := dk_43 (dk_at dksX5_isAheadOf_0 5 rfl rfl)
theorem dX5_isAheadOf_6 : decode cX5_isAheadOf 6 = .ok (.iload_n 2, 1) := dk_28 (dk_at dksX5_isAheadOf_0 6 rfl rfl)
theorem dX5_isAheadOf_7 : decode cX5_isAheadOf 7 = .ok (.invokevirtual 45, 3) := dk_182 0 45 (dk_at dksX5_isAheadOf_0 7 rfl rfl)
theorem dX5_isAheadOf_10 : decode cX5_isAheadOf 10 = .ok (.if_icmp .eq 22, 3) := dk_159 0 22 (dk_at dksX5_isAheadOf_0 10 rfl rfl)
theorem dX5_isAheadOf_13 : decode cX5_isAheadOf 13 = .ok (.aload_n 0, 1) := dk_42 (dk_at dksX5_isAheadOf_0 13 rfl rfl)
theorem dX5_isAheadOf_14 : decode cX5_isAheadOf 14 = .ok (.iload_n 2, 1) := dk_28 (dk_at dksX5_isAheadOf_0 14 rfl rfl)
theorem dX5_isAheadOf_15 : decode cX5_isAheadOf 15 = .ok (.invokevirtual 45, 3) := dk_182 0 45 (dk_at dksX5_isAheadOf_0 15 rfl rfl)
theorem dX5_isAheadOf_18 : decode cX5_isAheadOf 18 = .ok (.aload_n 1, 1) := dk_43 (dk_at dksX5_isAheadOf_0 18 rfl rfl)
theorem dX5_isAheadOf_19 : decode cX5_isAheadOf 19 = .ok (.iload_n 2, 1) := dk_28 (dk_at dksX5_isAheadOf_0 19 rfl rfl)
theorem dX5_isAheadOf_20 : decode cX5_isAheadOf 20 = .ok (.invokevirtual 45, 3) := dk_182 0 45 (dk_at dksX5_isAheadOf_0 20 rfl rfl)
theorem dX5_isAheadOf_23 : decode cX5_isAheadOf 23 = .ok (.if_icmp .le 7, 3) := dk_164 0 7 (dk_at dksX5_isAheadOf_1 0 rfl rfl)
theorem dX5_isAheadOf_26 : decode cX5_isAheadOf 26 = .ok (.iconst 1, 1) := dk_4 (dk_at dksX5_isAheadOf_1 3 rfl rfl)
theorem dX5_isAheadOf_27 : decode cX5_isAheadOf 27 = .ok (.goto 4, 3) := dk_167 0 4 (dk_at dksX5_isAheadOf_1 4 rfl rfl)
theorem dX5_isAheadOf_30 : decode cX5_isAheadOf 30 = .ok (.iconst 0, 1) := dk_3 (dk_at dksX5_isAheadOf_1 7 rfl rfl)
theorem dX5_isAheadOf_31 : decode cX5_isAheadOf 31 = .ok (.ireturn, 1) := dk_172 (dk_at dksX5_isAheadOf_1 8 rfl rfl)
theorem dX5_isAheadOf_32 : decode cX5_isAheadOf 32 = .ok (.aload_n 0, 1) := dk_42 (dk_at dksX5_isAheadOf_1 9 rfl rfl)
theorem dX5_isAheadOf_33 : decode cX5_isAheadOf 33 = .ok (.getfield 21, 3) := dk_180 0 21 (dk_at dksX5_isAheadOf_1 10 rfl rfl)
theorem dX5_isAheadOf_36 : decode cX5_isAheadOf 36 = .ok (.aload_n 1, 1) := dk_43 (dk_at dksX5_isAheadOf_1 13 rfl rfl)
theorem dX5_isAheadOf_37 : decode cX5_isAheadOf 37 = .ok (.getfield 21, 3) := dk_180 0 21 (dk_at dksX5_isAheadOf_1 14 rfl rfl)
theorem dX5_isAheadOf_40 : decode cX5_isAheadOf 40 = .ok (.if_icmp .eq 22, 3) := dk_159 0 22 (dk_at dksX5_isAheadOf_1 17 rfl rfl)
theorem dX5_isAheadOf_43 : decode cX5_isAheadOf 43 = .ok (.aload_n 0, 1) := dk_42 (dk_at dksX5_isAheadOf_1 20 rfl rfl)
theorem dX5_isAheadOf_44 : decode cX5_isAheadOf 44 = .ok (.getfield 21, 3) := dk_180 0 21 (dk_at dksX5_isAheadOf_1 21 rfl rfl)
theorem dX5_isAheadOf_47 : decode cX5_isAheadOf 47 = .ok (.aload_n 1, 1) := dk_43 (dk_at dksX5_isAheadOf_2 0 rfl rfl)
theorem dX5_isAheadOf_48 : decode cX5_isAheadOf 48 = .ok (.getfield 21, 3) := dk_180 0 21 (dk_at dksX5_isAheadOf_2 1 rfl rfl)
theorem dX5_isAheadOf_51 : decode cX5_isAheadOf 51 = .ok (.if_icmp .ge 7, 3) := dk_162 0 7 (dk_at dksX5_isAheadOf_2 4 rfl rfl)
theorem dX5_isAheadOf_54 : decode cX5_isAheadOf 54 = .ok (.iconst 1, 1) := dk_4 (dk_at dksX5_isAheadOf_2 7 rfl rfl)
theorem dX5_isAheadOf_55 : decode cX5_isAheadOf 55 = .ok (.goto 23, 3) := dk_167 0 23 (dk_at dksX5_isAheadOf_2 8 rfl rfl)
theorem dX5_isAheadOf_58 : decode cX5_isAheadOf 58 = .ok (.iconst 0, 1) := dk_3 (dk_at dksX5_isAheadOf_2 11 rfl rfl)
theorem dX5_isAheadOf_59 : decode cX5_isAheadOf 59 = .ok (.goto 19, 3) := dk_167 0 19 (dk_at dksX5_isAheadOf_2 12 rfl rfl)
theorem dX5_isAheadOf_62 : decode cX5_isAheadOf 62 = .ok (.aload_n 0, 1) := dk_42 (dk_at dksX5_isAheadOf_2 15 rfl rfl)
theorem dX5_isAheadOf_63 : decode cX5_isAheadOf 63 = .ok (.getfield 9, 3) := dk_180 0 9 (dk_at dksX5_isAheadOf_2 16 rfl rfl)
theorem dX5_isAheadOf_66 : decode cX5_isAheadOf 66 = .ok (.aload_n 1, 1) := dk_43 (dk_at dksX5_isAheadOf_2 19 rfl rfl)
theorem dX5_isAheadOf_67 : decode cX5_isAheadOf 67 = .ok (.getfield 9, 3) := dk_180 0 9 (dk_at dksX5_isAheadOf_2 20 rfl rfl)
theorem dX5_isAheadOf_70 : decode cX5_isAheadOf 70 = .ok (.if_icmp .ge 7, 3) := dk_162 0 7 (dk_at dksX5_isAheadOf_3 0 rfl rfl)
theorem dX5_isAheadOf_73 : decode cX5_isAheadOf 73 = .ok (.iconst 1, 1) := dk_4 (dk_at dksX5_isAheadOf_3 3 rfl rfl)
theorem dX5_isAheadOf_74 : decode cX5_isAheadOf 74 = .ok (.goto 4, 3) := dk_167 0 4 (dk_at dksX5_isAheadOf_3 4 rfl rfl)
theorem dX5_isAheadOf_77 : decode cX5_isAheadOf 77 = .ok (.iconst 0, 1) := dk_3 (dk_at dksX5_isAheadOf_3 7 rfl rfl)
theorem dX5_isAheadOf_78 : decode cX5_isAheadOf 78 = .ok (.ireturn, 1) := dk_172 (dk_at dksX5_isAheadOf_3 8 rfl rfl)
theorem q81 : (Jvm.Cond.initialized "WillowPrinters$Copper") ∈ lw_all := lw_g (lw_at lw_m1 27 rfl) rfl
theorem q762 : (Jvm.Cond.instanceMethod ({ cls := "WillowPrinters$Copper", name := "copy", desc := "()LWillowPrinters$Copper;" } : Jvm.MethodName)) ∈ lw_all := lw_g (lw_at lw_m3 228 rfl) rfl
theorem q763 : (Jvm.Cond.selects "WillowPrinters$Copper" ({ cls := "WillowPrinters$Copper", name := "copy", desc := "()LWillowPrinters$Copper;" } : Jvm.MethodName) ({ cls := "WillowPrinters$Copper", name := "copy", desc := "()LWillowPrinters$Copper;" } : Jvm.MethodName)) ∈ lw_all := lw_g (lw_at lw_m3 229 rfl) rfl
theorem q764 : (Jvm.Cond.code ({ cls := "WillowPrinters$Copper", name := "copy", desc := "()LWillowPrinters$Copper;" } : Jvm.MethodName) prog_4_method_2_code (2 : Nat) (Option.some (Jvm.ClassFile.FieldType.object "WillowPrinters$Copper"))) ∈ lw_all := lw_g (lw_at lw_m3 230 rfl) rfl
theorem q765 : (Jvm.Cond.classLink "WillowPrinters$Copper" (10 : Nat) "WillowPrinters$Copper") ∈ lw_all := lw_g (lw_at lw_m3 231 rfl) rfl
theorem q766 : (Jvm.Cond.instantiable "WillowPrinters$Copper" (4 : Nat)) ∈ lw_all := lw_g (lw_at lw_m3 232 rfl) rfl
theorem q767 : (Jvm.Cond.methodLink "WillowPrinters$Copper" (18 : Nat) ({ cls := "WillowPrinters$Copper", name := "<init>", desc := "(II)V" } : Jvm.MethodName)) ∈ lw_all := lw_g (lw_at lw_m3 233 rfl) rfl
theorem q768 : (Jvm.Cond.instanceMethod ({ cls := "WillowPrinters$Copper", name := "<init>", desc := "(II)V" } : Jvm.MethodName)) ∈ lw_all := lw_g (lw_at lw_m3 234 rfl) rfl
theorem q769 : (Jvm.Cond.code ({ cls := "WillowPrinters$Copper", name := "<init>", desc := "(II)V" } : Jvm.MethodName) prog_4_method_1_code (3 : Nat) (Option.none : Option Jvm.ClassFile.FieldType)) ∈ lw_all := lw_g (lw_at lw_m3 235 rfl) rfl
theorem q770 : (Jvm.Cond.methodLink "WillowPrinters$Copper" (3 : Nat) ({ cls := "java/lang/Object", name := "<init>", desc := "()V" } : Jvm.MethodName)) ∈ lw_all := lw_g (lw_at lw_m3 236 rfl) rfl
theorem q771 : (Jvm.Cond.fieldLink "WillowPrinters$Copper" (9 : Nat) "WillowPrinters$Copper" "number" "I") ∈ lw_all := lw_g (lw_at lw_m3 237 rfl) rfl
theorem q773 : (Jvm.Cond.fieldLink "WillowPrinters$Copper" (15 : Nat) "WillowPrinters$Copper" "lines" "I") ∈ lw_all := lw_g (lw_at lw_m3 239 rfl) rfl
theorem q775 : (Jvm.Cond.fieldLink "WillowPrinters$Copper" (21 : Nat) "WillowPrinters$Copper" "worn" "I") ∈ lw_all := lw_g (lw_at lw_m4 1 rfl) rfl
theorem q778 : (Jvm.Cond.fieldLink "WillowPrinters$Copper" (24 : Nat) "WillowPrinters$Copper" "printed" "I") ∈ lw_all := lw_g (lw_at lw_m4 4 rfl) rfl
theorem q781 : (Jvm.Cond.laysFinal "WillowPrinters$Copper" "WillowPrinters$Copper" "number" "I") ∈ lw_all := lw_g (lw_at lw_m4 7 rfl) rfl
theorem q782 : (Jvm.Cond.soleField "WillowPrinters$Copper" "number") ∈ lw_all := lw_g (lw_at lw_m4 8 rfl) rfl
theorem q783 : (Jvm.Cond.laysFinal "WillowPrinters$Copper" "WillowPrinters$Copper" "lines" "I") ∈ lw_all := lw_g (lw_at lw_m4 9 rfl) rfl
theorem q784 : (Jvm.Cond.soleField "WillowPrinters$Copper" "lines") ∈ lw_all := lw_g (lw_at lw_m4 10 rfl) rfl
theorem q785 : (Jvm.Cond.lays "WillowPrinters$Copper" "WillowPrinters$Copper" "worn" "I") ∈ lw_all := lw_g (lw_at lw_m4 11 rfl) rfl
theorem q786 : (Jvm.Cond.soleField "WillowPrinters$Copper" "worn") ∈ lw_all := lw_g (lw_at lw_m4 12 rfl) rfl
theorem q787 : (Jvm.Cond.lays "WillowPrinters$Copper" "WillowPrinters$Copper" "printed" "I") ∈ lw_all := lw_g (lw_at lw_m4 13 rfl) rfl
theorem q788 : (Jvm.Cond.soleField "WillowPrinters$Copper" "printed") ∈ lw_all := lw_g (lw_at lw_m4 14 rfl) rfl
theorem q789 : (Jvm.Cond.superclass "WillowPrinters$Copper" "java/lang/Object") ∈ lw_all := lw_g (lw_at lw_m4 15 rfl) rfl
theorem q817 : (Jvm.Cond.selects "WillowPrinters$Copper" ({ cls := "java/lang/Object", name := "getClass", desc := "()Ljava/lang/Class;" } : Jvm.MethodName) ({ cls := "java/lang/Object", name := "getClass", desc := "()Ljava/lang/Class;" } : Jvm.MethodName)) ∈ lw_all := lw_g (lw_at lw_m4 43 rfl) rfl
theorem q874 : (Jvm.Cond.fieldLinkNest "WillowPrinters$Copper" (40 : Nat) "WillowPrinters$Lot" "plates" "I" "WillowPrinters") ∈ lw_tbl := lw_at lw_m4 100 rfl
theorem q1114 : (Jvm.Cond.instanceMethod ({ cls := "WillowPrinters$Copper", name := "well", desc := "(I)I" } : Jvm.MethodName)) ∈ lw_all := lw_g (lw_at lw_m5 100 rfl) rfl
theorem q1115 : (Jvm.Cond.selects "WillowPrinters$Copper" ({ cls := "WillowPrinters$Copper", name := "well", desc := "(I)I" } : Jvm.MethodName) ({ cls := "WillowPrinters$Copper", name := "well", desc := "(I)I" } : Jvm.MethodName)) ∈ lw_all := lw_g (lw_at lw_m5 101 rfl) rfl
theorem q1116 : (Jvm.Cond.code ({ cls := "WillowPrinters$Copper", name := "well", desc := "(I)I" } : Jvm.MethodName) prog_4_method_3_code (2 : Nat) (Option.some Jvm.ClassFile.FieldType.int)) ∈ lw_all := lw_g (lw_at lw_m5 102 rfl) rfl
theorem q1117 : (Jvm.Cond.methodLink "WillowPrinters$Copper" (27 : Nat) ({ cls := "java/lang/Math", name := "abs", desc := "(I)I" } : Jvm.MethodName)) ∈ lw_all := lw_g (lw_at lw_m5 103 rfl) rfl
theorem q1120 : (Jvm.Cond.methodLink "WillowPrinters$Copper" (33 : Nat) ({ cls := "java/lang/Math", name := "max", desc := "(II)I" } : Jvm.MethodName)) ∈ lw_all := lw_g (lw_at lw_m5 106 rfl) rfl
theorem q1129 : (Jvm.Cond.instanceMethod ({ cls := "WillowPrinters$Copper", name := "wellAgain", desc := "(I)I" } : Jvm.MethodName)) ∈ lw_all := lw_g (lw_at lw_m5 115 rfl) rfl
theorem q1130 : (Jvm.Cond.selects "WillowPrinters$Copper" ({ cls := "WillowPrinters$Copper", name := "wellAgain", desc := "(I)I" } : Jvm.MethodName) ({ cls := "WillowPrinters$Copper", name := "wellAgain", desc := "(I)I" } : Jvm.MethodName)) ∈ lw_all := lw_g (lw_at lw_m5 116 rfl) rfl
theorem q1131 : (Jvm.Cond.code ({ cls := "WillowPrinters$Copper", name := "wellAgain", desc := "(I)I" } : Jvm.MethodName) prog_4_method_4_code (4 : Nat) (Option.some Jvm.ClassFile.FieldType.int)) ∈ lw_all := lw_g (lw_at lw_m5 117 rfl) rfl
theorem q1132 : (Jvm.Cond.methodLink "WillowPrinters$Copper" (37 : Nat) ({ cls := "java/lang/Math", name := "min", desc := "(II)I" } : Jvm.MethodName)) ∈ lw_all := lw_g (lw_at lw_m5 118 rfl) rfl
theorem q1150 : (Jvm.Cond.instanceMethod ({ cls := "WillowPrinters$Copper", name := "can", desc := "(LWillowPrinters$Lot;)Z" } : Jvm.MethodName)) ∈ lw_all := lw_g (lw_at lw_m5 136 rfl) rfl
theorem q1151 : (Jvm.Cond.selects "WillowPrinters$Copper" ({ cls := "WillowPrinters$Copper", name := "can", desc := "(LWillowPrinters$Lot;)Z" } : Jvm.MethodName) ({ cls := "WillowPrinters$Copper", name := "can", desc := "(LWillowPrinters$Lot;)Z" } : Jvm.MethodName)) ∈ lw_all := lw_g (lw_at lw_m5 137 rfl) rfl
theorem q1152 : (Jvm.Cond.code ({ cls := "WillowPrinters$Copper", name := "can", desc := "(LWillowPrinters$Lot;)Z" } : Jvm.MethodName) prog_4_method_5_code (2 : Nat) (Option.some Jvm.ClassFile.FieldType.boolean)) ∈ lw_all := lw_g (lw_at lw_m5 138 rfl) rfl
theorem q1154 : (Jvm.Cond.instanceMethod ({ cls := "WillowPrinters$Copper", name := "isAheadOf", desc := "(LWillowPrinters$Copper;I)Z" } : Jvm.MethodName)) ∈ lw_all := lw_g (lw_at lw_m5 140 rfl) rfl
theorem q1155 : (Jvm.Cond.selects "WillowPrinters$Copper" ({ cls := "WillowPrinters$Copper", name := "isAheadOf", desc := "(LWillowPrinters$Copper;I)Z" } : Jvm.MethodName) ({ cls := "WillowPrinters$Copper", name := "isAheadOf", desc := "(LWillowPrinters$Copper;I)Z" } : Jvm.MethodName)) ∈ lw_all := lw_g (lw_at lw_m5 141 rfl) rfl
theorem q1156 : (Jvm.Cond.code ({ cls := "WillowPrinters$Copper", name := "isAheadOf", desc := "(LWillowPrinters$Copper;I)Z" } : Jvm.MethodName) prog_4_method_6_code (3 : Nat) (Option.some Jvm.ClassFile.FieldType.boolean)) ∈ lw_all := lw_g (lw_at lw_m5 142 rfl) rfl
theorem q1157 : (Jvm.Cond.methodLink "WillowPrinters$Copper" (45 : Nat) ({ cls := "WillowPrinters$Copper", name := "well", desc := "(I)I" } : Jvm.MethodName)) ∈ lw_all := lw_g (lw_at lw_m5 143 rfl) rfl
theorem q2341 : (Jvm.Cond.castable "WillowPrinters$Copper" "java/lang/Object") ∈ lw_tbl := lw_at lw_m10 127 rfl
theorem in_X5 : ∀ w ∈ wsX50, w ∈ lw_all := lw_in wsX50 [781, 783, 785, 787] (by decide +kernel) (by decide +kernel)

/-! WillowPrinters$Lot -/
set_option maxRecDepth 100000
def RX6 : String := "WillowPrinters$Lot"
def TX6 : u_T := fun k => match k with
  | 0 => ("WillowPrinters$Lot", "number", "I", true)
  | 1 => ("WillowPrinters$Lot", "plates", "I", false)
  | _ => ("WillowPrinters$Lot", "state", "LWillowPrinters$State;", false)
def tyX6 : Nat → FieldType := fun k => match k with
  | 0 => .int
  | 1 => .int
  | _ => .object "WillowPrinters$State"
abbrev wsX60 : List Cond := u_ws RX6 TX6 3
theorem nmX6 : ∀ a, a < 3 → ∀ b, b < 3 → a ≠ b → (TX6 a).2.1 ≠ (TX6 b).2.1 := by decide +kernel
theorem tyX6_ok : ∀ k, k < 3 → parseFieldDescriptor (TX6 k).2.2.1 = some (tyX6 k) := by decide +kernel
abbrev cX6_copy : ByteArray := prog_9_method_2_code
def yX6_copy : MethodName := ⟨RX6, "copy", "()LWillowPrinters$Lot;"⟩
def dkwX6_copy_1 : List UInt8 := [43, 176]
abbrev dktX6_copy_1 : List UInt8 := dkwX6_copy_1 ++ []
def dkwX6_copy_0 : List UInt8 := [187, 0, 13, 89, 42, 180, 0, 18, 42, 180, 0, 22, 183, 0, 25, 76, 43, 42, 180, 0, 12, 181, 0, 12]
abbrev dktX6_copy_0 : List UInt8 := dkwX6_copy_0 ++ dktX6_copy_1
theorem dksX6_copy_0 : cX6_copy.data.toList.drop 0 = dktX6_copy_0 := by decide +kernel
theorem dksX6_copy_1 : cX6_copy.data.toList.drop 24 = dktX6_copy_1 := dk_seg dksX6_copy_0 24 rfl rfl
theorem dX6_copy_0 : decode cX6_copy 0 = .ok (.new 13, 3) := dk_187 0 13 (dk_at dksX6_copy_0 0 rfl rfl)
theorem dX6_copy_3 : decode cX6_copy 3 = .ok (.dup, 1) := dk_89 (dk_at dksX6_copy_0 3 rfl rfl)
theorem dX6_copy_4 : decode cX6_copy 4 = .ok (.aload_n 0, 1) := dk_42 (dk_at dksX6_copy_0 4 rfl rfl)
theorem dX6_copy_5 : decode cX6_copy 5 = .ok (.getfield 18, 3) := dk_180 0 18 (dk_at dksX6_copy_0 5 rfl rfl)
theorem dX6_copy_8 : decode cX6_copy 8 = .ok (.aload_n 0, 1) := dk_42 (dk_at dksX6_copy_0 8 rfl rfl)
theorem dX6_copy_9 : decode cX6_copy 9 = .ok (.getfield 22, 3) := dk_180 0 22 (dk_at dksX6_copy_0 9 rfl rfl)
theorem dX6_copy_12 : decode cX6_copy 12 = .ok (.invokespecial 25, 3) := dk_183 0 25 (dk_at dksX6_copy_0 12 rfl rfl)
theorem dX6_copy_15 : decode cX6_copy 15 = .ok (.astore_n 1, 1) := dk_76 (dk_at dksX6_copy_0 15 rfl rfl)
theorem dX6_copy_16 : decode cX6_copy 16 = .ok (.aload_n 1, 1) := dk_43 (dk_at dksX6_copy_0 16 rfl rfl)
theorem dX6_copy_17 : decode cX6_copy 17 = .ok (.aload_n 0, 1) := dk_42 (dk_at dksX6_copy_0 17 rfl rfl)
theorem dX6_copy_18 : decode cX6_copy 18 = .ok (.getfield 12, 3) := dk_180 0 12 (dk_at dksX6_copy_0 18 rfl rfl)
theorem dX6_copy_21 : decode cX6_copy 21 = .ok (.putfield 12, 3) := dk_181 0 12 (dk_at dksX6_copy_0 21 rfl rfl)
theorem dX6_copy_24 : decode cX6_copy 24 = .ok (.aload_n 1, 1) := dk_43 (dk_at dksX6_copy_1 0 rfl rfl)
theorem dX6_copy_25 : decode cX6_copy 25 = .ok (.areturn, 1) := dk_176 (dk_at dksX6_copy_1 1 rfl rfl)
abbrev cX6_init : ByteArray := prog_9_method_1_code
def yX6_init : MethodName := ⟨RX6, "<init>", "(II)V"⟩
def dkwX6_init_1 : List UInt8 := [181, 0, 22, 177]
abbrev dktX6_init_1 : List UInt8 := dkwX6_init_1 ++ []
def dkwX6_init_0 : List UInt8 := [42, 183, 0, 3, 42, 187, 0, 9, 89, 183, 0, 11, 181, 0, 12, 42, 27, 181, 0, 18, 42, 28]
abbrev dktX6_init_0 : List UInt8 := dkwX6_init_0 ++ dktX6_init_1
theorem dksX6_init_0 : cX6_init.data.toList.drop 0 = dktX6_init_0 := by decide +kernel
theorem dksX6_init_1 : cX6_init.data.toList.drop 22 = dktX6_init_1 := dk_seg dksX6_init_0 22 rfl rfl
theorem dX6_init_0 : decode cX6_init 0 = .ok (.aload_n 0, 1) := dk_42 (dk_at dksX6_init_0 0 rfl rfl)
theorem dX6_init_1 : decode cX6_init 1 = .ok (.invokespecial 3, 3) := dk_183 0 3 (dk_at dksX6_init_0 1 rfl rfl)
theorem dX6_init_4 : decode cX6_init 4 = .ok (.aload_n 0, 1) := dk_42 (dk_at dksX6_init_0 4 rfl rfl)
theorem dX6_init_5 : decode cX6_init 5 = .ok (.new 9, 3) := dk_187 0 9 (dk_at dksX6_init_0 5 rfl rfl)
theorem dX6_init_8 : decode cX6_init 8 = .ok (.dup, 1) := dk_89 (dk_at dksX6_init_0 8 rfl rfl)
theorem dX6_init_9 : decode cX6_init 9 = .ok (.invokespecial 11, 3) := dk_183 0 11 (dk_at dksX6_init_0 9 rfl rfl)
theorem dX6_init_12 : decode cX6_init 12 = .ok (.putfield 12, 3) := dk_181 0 12 (dk_at dksX6_init_0 12 rfl rfl)
theorem dX6_init_15 : decode cX6_init 15 = .ok (.aload_n 0, 1) := dk_42 (dk_at dksX6_init_0 15 rfl rfl)
theorem dX6_init_16 : decode cX6_init 16 = .ok (.iload_n 1, 1) := dk_27 (dk_at dksX6_init_0 16 rfl rfl)
theorem dX6_init_17 : decode cX6_init 17 = .ok (.putfield 18, 3) := dk_181 0 18 (dk_at dksX6_init_0 17 rfl rfl)
theorem dX6_init_20 : decode cX6_init 20 = .ok (.aload_n 0, 1) := dk_42 (dk_at dksX6_init_0 20 rfl rfl)
theorem dX6_init_21 : decode cX6_init 21 = .ok (.iload_n 2, 1) := dk_28 (dk_at dksX6_init_0 21 rfl rfl)
theorem dX6_init_22 : decode cX6_init 22 = .ok (.putfield 22, 3) := dk_181 0 22 (dk_at dksX6_init_1 0 rfl rfl)
theorem dX6_init_25 : decode cX6_init 25 = .ok (.return_, 1) := dk_177 (dk_at dksX6_init_1 3 rfl rfl)
abbrev cX6_kiln : ByteArray := prog_9_method_4_code
def yX6_kiln : MethodName := ⟨RX6, "kiln", "()I"⟩
def dkwX6_kiln_1 : List UInt8 := [2, 172]
abbrev dktX6_kiln_1 : List UInt8 := dkwX6_kiln_1 ++ []
def dkwX6_kiln_0 : List UInt8 := [42, 180, 0, 12, 77, 44, 193, 0, 38, 153, 0, 15, 44, 192, 0, 38, 76, 43, 180, 0, 40, 167, 0, 4]
abbrev dktX6_kiln_0 : List UInt8 := dkwX6_kiln_0 ++ dktX6_kiln_1
theorem dksX6_kiln_0 : cX6_kiln.data.toList.drop 0 = dktX6_kiln_0 := by decide +kernel
theorem dksX6_kiln_1 : cX6_kiln.data.toList.drop 24 = dktX6_kiln_1 := dk_seg dksX6_kiln_0 24 rfl rfl
theorem dX6_kiln_0 : decode cX6_kiln 0 = .ok (.aload_n 0, 1) := dk_42 (dk_at dksX6_kiln_0 0 rfl rfl)
theorem dX6_kiln_1 : decode cX6_kiln 1 = .ok (.getfield 12, 3) := dk_180 0 12 (dk_at dksX6_kiln_0 1 rfl rfl)
theorem dX6_kiln_4 : decode cX6_kiln 4 = .ok (.astore_n 2, 1) := dk_77 (dk_at dksX6_kiln_0 4 rfl rfl)
theorem dX6_kiln_5 : decode cX6_kiln 5 = .ok (.aload_n 2, 1) := dk_44 (dk_at dksX6_kiln_0 5 rfl rfl)
theorem dX6_kiln_6 : decode cX6_kiln 6 = .ok (.instanceof 38, 3) := dk_193 0 38 (dk_at dksX6_kiln_0 6 rfl rfl)
theorem dX6_kiln_9 : decode cX6_kiln 9 = .ok (.ifCond .eq 15, 3) := dk_153 0 15 (dk_at dksX6_kiln_0 9 rfl rfl)
theorem dX6_kiln_12 : decode cX6_kiln 12 = .ok (.aload_n 2, 1) := dk_44 (dk_at dksX6_kiln_0 12 rfl rfl)
theorem dX6_kiln_13 : decode cX6_kiln 13 = .ok (.checkcast 38, 3) := dk_192 0 38 (dk_at dksX6_kiln_0 13 rfl rfl)
theorem dX6_kiln_16 : decode cX6_kiln 16 = .ok (.astore_n 1, 1) := dk_76 (dk_at dksX6_kiln_0 16 rfl rfl)
theorem dX6_kiln_17 : decode cX6_kiln 17 = .ok (.aload_n 1, 1) := dk_43 (dk_at dksX6_kiln_0 17 rfl rfl)
theorem dX6_kiln_18 : decode cX6_kiln 18 = .ok (.getfield 40, 3) := dk_180 0 40 (dk_at dksX6_kiln_0 18 rfl rfl)
theorem dX6_kiln_21 : decode cX6_kiln 21 = .ok (.goto 4, 3) := dk_167 0 4 (dk_at dksX6_kiln_0 21 rfl rfl)
theorem dX6_kiln_24 : decode cX6_kiln 24 = .ok (.iconst (-1), 1) := dk_2 (dk_at dksX6_kiln_1 0 rfl rfl)
theorem dX6_kiln_25 : decode cX6_kiln 25 = .ok (.ireturn, 1) := dk_172 (dk_at dksX6_kiln_1 1 rfl rfl)
abbrev cX6_cone : ByteArray := prog_9_method_6_code
def yX6_cone : MethodName := ⟨RX6, "cone", "()I"⟩
def dkwX6_cone_2 : List UInt8 := [172]
abbrev dktX6_cone_2 : List UInt8 := dkwX6_cone_2 ++ []
def dkwX6_cone_1 : List UInt8 := [180, 0, 12, 77, 44, 193, 0, 38, 153, 0, 15, 44, 192, 0, 38, 76, 43, 180, 0, 51, 167, 0, 4, 2]
abbrev dktX6_cone_1 : List UInt8 := dkwX6_cone_1 ++ dktX6_cone_2
def dkwX6_cone_0 : List UInt8 := [42, 180, 0, 12, 77, 44, 193, 0, 46, 153, 0, 13, 44, 192, 0, 46, 76, 43, 180, 0, 48, 172, 42]
abbrev dktX6_cone_0 : List UInt8 := dkwX6_cone_0 ++ dktX6_cone_1
theorem dksX6_cone_0 : cX6_cone.data.toList.drop 0 = dktX6_cone_0 := by decide +kernel
theorem dksX6_cone_1 : cX6_cone.data.toList.drop 23 = dktX6_cone_1 := dk_seg dksX6_cone_0 23 rfl rfl
theorem dksX6_cone_2 : cX6_cone.data.toList.drop 47 = dktX6_cone_2 := dk_seg dksX6_cone_1 24 rfl rfl
theorem dX6_cone_0 : decode cX6_cone 0 = .ok (.aload_n 0, 1) := dk_42 (dk_at dksX6_cone_0 0 rfl rfl)
theorem dX6_cone_1 : decode cX6_cone 1 = .ok (.getfield 12, 3) := dk_180 0 12 (dk_at dksX6_cone_0 1 rfl rfl)
theorem dX6_cone_4 : decode cX6_cone 4 = .ok (.astore_n 2, 1) := dk_77 (dk_at dksX6_cone_0 4 rfl rfl)
theorem dX6_cone_5 : decode cX6_cone 5 = .ok (.aload_n 2, 1) := dk_44 (dk_at dksX6_cone_0 5 rfl rfl)
theorem dX6_cone_6 : decode cX6_cone 6 = .ok (.instanceof 46, 3) := dk_193 0 46 (dk_at dksX6_cone_0 6 rfl rfl)
theorem dX6_cone_9 : decode cX6_cone 9 = .ok (.ifCond .eq 13, 3) := dk_153 0 13 (dk_at dksX6_cone_0 9 rfl rfl)
theorem dX6_cone_12 : decode cX6_cone 12 = .ok (.aload_n 2, 1) := dk_44 (dk_at dksX6_cone_0 12 rfl rfl)
theorem dX6_cone_13 : decode cX6_cone 13 = .ok (.checkcast 46, 3) := dk_192 0 46 (dk_at dksX6_cone_0 13 rfl rfl)
theorem dX6_cone_16 : decode cX6_cone 16 = .ok (.astore_n 1, 1) := dk_76 (dk_at dksX6_cone_0 16 rfl rfl)
theorem dX6_cone_17 : decode cX6_cone 17 = .ok (.aload_n 1, 1) := dk_43 (dk_at dksX6_cone_0 17 rfl rfl)
theorem dX6_cone_18 : decode cX6_cone 18 = .ok (.getfield 48, 3) := dk_180 0 48 (dk_at dksX6_cone_0 18 rfl rfl)
theorem dX6_cone_21 : decode cX6_cone 21 = .ok (.ireturn, 1) := dk_172 (dk_at dksX6_cone_0 21 rfl rfl)
theorem dX6_cone_22 : decode cX6_cone 22 = .ok (.aload_n 0, 1) := dk_42 (dk_at dksX6_cone_0 22 rfl rfl)
theorem dX6_cone_23 : decode cX6_cone 23 = .ok (.getfield 12, 3) := dk_180 0 12 (dk_at dksX6_cone_1 0 rfl rfl)
theorem dX6_cone_26 : decode cX6_cone 26 = .ok (.astore_n 2, 1) := dk_77 (dk_at dksX6_cone_1 3 rfl rfl)
theorem dX6_cone_27 : decode cX6_cone 27 = .ok (.aload_n 2, 1) := dk_44 (dk_at dksX6_cone_1 4 rfl rfl)
theorem dX6_cone_28 : decode cX6_cone 28 = .ok (.instanceof 38, 3) := dk_193 0 38 (dk_at dksX6_cone_1 5 rfl rfl)
theorem dX6_cone_31 : decode cX6_cone 31 = .ok (.ifCond .eq 15, 3) := dk_153 0 15 (dk_at dksX6_cone_1 8 rfl rfl)
theorem dX6_cone_34 : decode cX6_cone 34 = .ok (.aload_n 2, 1) := dk_44 (dk_at dksX6_cone_1 11 rfl rfl)
theorem dX6_cone_35 : decode cX6_cone 35 = .ok (.checkcast 38, 3) := dk_192 0 38 (dk_at dksX6_cone_1 12 rfl rfl)
theorem dX6_cone_38 : decode cX6_cone 38 = .ok (.astore_n 1, 1) := dk_76 (dk_at dksX6_cone_1 15 rfl rfl)
theorem dX6_cone_39 : decode cX6_cone 39 = .ok (.aload_n 1, 1) := dk_43 (dk_at dksX6_cone_1 16 rfl rfl)
theorem dX6_cone_40 : decode cX6_cone 40 = .ok (.getfield 51, 3) := dk_180 0 51 (dk_at dksX6_cone_1 17 rfl rfl)
theorem dX6_cone_43 : decode cX6_cone 43 = .ok (.goto 4, 3) := dk_167 0 4 (dk_at dksX6_cone_1 20 rfl rfl)
theorem dX6_cone_46 : decode cX6_cone 46 = .ok (.iconst (-1), 1) := dk_2 (dk_at dksX6_cone_1 23 rfl rfl)
theorem dX6_cone_47 : decode cX6_cone 47 = .ok (.ireturn, 1) := dk_172 (dk_at dksX6_cone_2 0 rfl rfl)
abbrev cX6_hours : ByteArray := prog_9_method_5_code
def yX6_hours : MethodName := ⟨RX6, "hours", "()I"⟩
def dkwX6_hours_1 : List UInt8 := [2, 172]
abbrev dktX6_hours_1 : List UInt8 := dkwX6_hours_1 ++ []
def dkwX6_hours_0 : List UInt8 := [42, 180, 0, 12, 77, 44, 193, 0, 38, 153, 0, 15, 44, 192, 0, 38, 76, 43, 180, 0, 43, 167, 0, 4]
abbrev dktX6_hours_0 : List UInt8 := dkwX6_hours_0 ++ dktX6_hours_1
theorem dksX6_hours_0 : cX6_hours.data.toList.drop 0 = dktX6_hours_0 := by decide +kernel
theorem dksX6_hours_1 : cX6_hours.data.toList.drop 24 = dktX6_hours_1 := dk_seg dksX6_hours_0 24 rfl rfl
theorem dX6_hours_0 : decode cX6_hours 0 = .ok (.aload_n 0, 1) := dk_42 (dk_at dksX6_hours_0 0 rfl rfl)
theorem dX6_hours_1 : decode cX6_hours 1 = .ok (.getfield 12, 3) := dk_180 0 12 (dk_at dksX6_hours_0 1 rfl rfl)
theorem dX6_hours_4 : decode cX6_hours 4 = .ok (.astore_n 2, 1) := dk_77 (dk_at dksX6_hours_0 4 rfl rfl)
theorem dX6_hours_5 : decode cX6_hours 5 = .ok (.aload_n 2, 1) := dk_44 (dk_at dksX6_hours_0 5 rfl rfl)
theorem dX6_hours_6 : decode cX6_hours 6 = .ok (.instanceof 38, 3) := dk_193 0 38 (dk_at dksX6_hours_0 6 rfl rfl)
theorem dX6_hours_9 : decode cX6_hours 9 = .ok (.ifCond .eq 15, 3) := dk_153 0 15 (dk_at dksX6_hours_0 9 rfl rfl)
theorem dX6_hours_12 : decode cX6_hours 12 = .ok (.aload_n 2, 1) := dk_44 (dk_at dksX6_hours_0 12 rfl rfl)
theorem dX6_hours_13 : decode cX6_hours 13 = .ok (.checkcast 38, 3) := dk_192 0 38 (dk_at dksX6_hours_0 13 rfl rfl)
theorem dX6_hours_16 : decode cX6_hours 16 = .ok (.astore_n 1, 1) := dk_76 (dk_at dksX6_hours_0 16 rfl rfl)
theorem dX6_hours_17 : decode cX6_hours 17 = .ok (.aload_n 1, 1) := dk_43 (dk_at dksX6_hours_0 17 rfl rfl)
theorem dX6_hours_18 : decode cX6_hours 18 = .ok (.getfield 43, 3) := dk_180 0 43 (dk_at dksX6_hours_0 18 rfl rfl)
theorem dX6_hours_21 : decode cX6_hours 21 = .ok (.goto 4, 3) := dk_167 0 4 (dk_at dksX6_hours_0 21 rfl rfl)
theorem dX6_hours_24 : decode cX6_hours 24 = .ok (.iconst (-1), 1) := dk_2 (dk_at dksX6_hours_1 0 rfl rfl)
theorem dX6_hours_25 : decode cX6_hours 25 = .ok (.ireturn, 1) := dk_172 (dk_at dksX6_hours_1 1 rfl rfl)
abbrev cX6_wouldChip : ByteArray := prog_9_method_3_code
def yX6_wouldChip : MethodName := ⟨RX6, "wouldChip", "(I)I"⟩
def dkwX6_wouldChip_0 : List UInt8 := [42, 180, 0, 22, 3, 27, 16, 6, 100, 184, 0, 28, 4, 100, 184, 0, 34, 104, 16, 10, 108, 172]
abbrev dktX6_wouldChip_0 : List UInt8 := dkwX6_wouldChip_0 ++ []
theorem dksX6_wouldChip_0 : cX6_wouldChip.data.toList.drop 0 = dktX6_wouldChip_0 := by decide +kernel
theorem dX6_wouldChip_0 : decode cX6_wouldChip 0 = .ok (.aload_n 0, 1) := dk_42 (dk_at dksX6_wouldChip_0 0 rfl rfl)
theorem dX6_wouldChip_1 : decode cX6_wouldChip 1 = .ok (.getfield 22, 3) := dk_180 0 22 (dk_at dksX6_wouldChip_0 1 rfl rfl)
theorem dX6_wouldChip_4 : decode cX6_wouldChip 4 = .ok (.iconst 0, 1) := dk_3 (dk_at dksX6_wouldChip_0 4 rfl rfl)
theorem dX6_wouldChip_5 : decode cX6_wouldChip 5 = .ok (.iload_n 1, 1) := dk_27 (dk_at dksX6_wouldChip_0 5 rfl rfl)
theorem dX6_wouldChip_6 : decode cX6_wouldChip 6 = .ok (.bipush 6, 2) := dk_16 6 (dk_at dksX6_wouldChip_0 6 rfl rfl)
theorem dX6_wouldChip_8 : decode cX6_wouldChip 8 = .ok (.isub, 1) := dk_100 (dk_at dksX6_wouldChip_0 8 rfl rfl)
theorem dX6_wouldChip_9 : decode cX6_wouldChip 9 = .ok (.invokestatic 28, 3) := dk_184 0 28 (dk_at dksX6_wouldChip_0 9 rfl rfl)
theorem dX6_wouldChip_12 : decode cX6_wouldChip 12 = .ok (.iconst 1, 1) := dk_4 (dk_at dksX6_wouldChip_0 12 rfl rfl)
theorem dX6_wouldChip_13 : decode cX6_wouldChip 13 = .ok (.isub, 1) := dk_100 (dk_at dksX6_wouldChip_0 13 rfl rfl)
theorem dX6_wouldChip_14 : decode cX6_wouldChip 14 = .ok (.invokestatic 34, 3) := dk_184 0 34 (dk_at dksX6_wouldChip_0 14 rfl rfl)
theorem dX6_wouldChip_17 : decode cX6_wouldChip 17 = .ok (.imul, 1) := dk_104 (dk_at dksX6_wouldChip_0 17 rfl rfl)
theorem dX6_wouldChip_18 : decode cX6_wouldChip 18 = .ok (.bipush 10, 2) := dk_16 10 (dk_at dksX6_wouldChip_0 18 rfl rfl)
theorem dX6_wouldChip_20 : decode cX6_wouldChip 20 = .ok (.idiv, 1) := dk_108 (dk_at dksX6_wouldChip_0 20 rfl rfl)
theorem dX6_wouldChip_21 : decode cX6_wouldChip 21 = .ok (.ireturn, 1) := dk_172 (dk_at dksX6_wouldChip_0 21 rfl rfl)
abbrev cX6_burn : ByteArray := prog_9_method_7_code
def yX6_burn : MethodName := ⟨RX6, "burn", "()I"⟩
def dkwX6_burn_3 : List UInt8 := [29, 172]
abbrev dktX6_burn_3 : List UInt8 := dkwX6_burn_3 ++ []
def dkwX6_burn_2 : List UInt8 := [167, 0, 5, 2, 172, 42, 44, 180, 0, 48, 182, 0, 56, 62, 42, 89, 180, 0, 22, 29, 100, 181, 0, 22]
abbrev dktX6_burn_2 : List UInt8 := dkwX6_burn_2 ++ dktX6_burn_3
def dkwX6_burn_1 : List UInt8 := [182, 0, 52, 181, 0, 12, 42, 180, 0, 12, 78, 45, 193, 0, 46, 153, 0, 11, 45, 192, 0, 46, 77]
abbrev dktX6_burn_1 : List UInt8 := dkwX6_burn_1 ++ dktX6_burn_2
def dkwX6_burn_0 : List UInt8 := [42, 180, 0, 12, 77, 44, 193, 0, 38, 153, 0, 11, 44, 192, 0, 38, 76, 167, 0, 5, 2, 172, 42, 43]
abbrev dktX6_burn_0 : List UInt8 := dkwX6_burn_0 ++ dktX6_burn_1
theorem dksX6_burn_0 : cX6_burn.data.toList.drop 0 = dktX6_burn_0 := by decide +kernel
theorem dksX6_burn_1 : cX6_burn.data.toList.drop 24 = dktX6_burn_1 := dk_seg dksX6_burn_0 24 rfl rfl
theorem dksX6_burn_2 : cX6_burn.data.toList.drop 47 = dktX6_burn_2 := dk_seg dksX6_burn_1 23 rfl rfl
theorem dksX6_burn_3 : cX6_burn.data.toList.drop 71 = dktX6_burn_3 := dk_seg dksX6_burn_2 24 rfl rfl
theorem dX6_burn_0 : decode cX6_burn 0 = .ok (.aload_n 0, 1) := dk_42 (dk_at dksX6_burn_0 0 rfl rfl)
theorem dX6_burn_1 : decode cX6_burn 1 = .ok (.getfield 12, 3) := dk_180 0 12 (dk_at dksX6_burn_0 1 rfl rfl)
theorem dX6_burn_4 : decode cX6_burn 4 = .ok (.astore_n 2, 1) := dk_77 (dk_at dksX6_burn_0 4 rfl rfl)
theorem dX6_burn_5 : decode cX6_burn 5 = .ok (.aload_n 2, 1) := dk_44 (dk_at dksX6_burn_0 5 rfl rfl)
theorem dX6_burn_6 : decode cX6_burn 6 = .ok (.instanceof 38, 3) := dk_193 0 38 (dk_at dksX6_burn_0 6 rfl rfl)
theorem dX6_burn_9 : decode cX6_burn 9 = .ok (.ifCond .eq 11, 3) := dk_153 0 11 (dk_at dksX6_burn_0 9 rfl rfl)
theorem dX6_burn_12 : decode cX6_burn 12 = .ok (.aload_n 2, 1) := dk_44 (dk_at dksX6_burn_0 12 rfl rfl)
theorem dX6_burn_13 : decode cX6_burn 13 = .ok (.checkcast 38, 3) := dk_192 0 38 (dk_at dksX6_burn_0 13 rfl rfl)
theorem dX6_burn_16 : decode cX6_burn 16 = .ok (.astore_n 1, 1) := dk_76 (dk_at dksX6_burn_0 16 rfl rfl)
theorem dX6_burn_17 : decode cX6_burn 17 = .ok (.goto 5, 3) := dk_167 0 5 (dk_at dksX6_burn_0 17 rfl rfl)
theorem dX6_burn_20 : decode cX6_burn 20 = .ok (.iconst (-1), 1) := dk_2 (dk_at dksX6_burn_0 20 rfl rfl)
theorem dX6_burn_21 : decode cX6_burn 21 = .ok (.ireturn, 1) := dk_172 (dk_at dksX6_burn_0 21 rfl rfl)
theorem dX6_burn_22 : decode cX6_burn 22 = .ok (.aload_n 0, 1) := dk_42 (dk_at dksX6_burn_0 22 rfl rfl)
theorem dX6_burn_23 : decode cX6_burn 23 = .ok (.aload_n 1, 1) := dk_43 (dk_at dksX6_burn_0 23 rfl rfl)
theorem dX6_burn_24 : decode cX6_burn 24 = .ok (.invokevirtual 52, 3) := dk_182 0 52 (dk_at dksX6_burn_1 0 rfl rfl)
theorem dX6_burn_27 : decode cX6_burn 27 = .ok (.putfield 12, 3) := dk_181 0 12 (dk_at dksX6_burn_1 3 rfl rfl)
theorem dX6_burn_30 : decode cX6_burn 30 = .ok (.aload_n 0, 1) := dk_42 (dk_at dksX6_burn_1 6 rfl rfl)
theorem dX6_burn_31 : decode cX6_burn 31 = .ok (.getfield 12, 3) := dk_180 0 12 (dk_at dksX6_burn_1 7 rfl rfl)
theorem dX6_burn_34 : decode cX6_burn 34 = .ok (.astore_n 3, 1) := dk_78 (dk_at dksX6_burn_1 10 rfl rfl)
theorem dX6_burn_35 : decode cX6_burn 35 = .ok (.aload_n 3, 1) := dk_45 (dk_at dksX6_burn_1 11 rfl rfl)
theorem dX6_burn_36 : decode cX6_burn 36 = .ok (.instanceof 46, 3) := dk_193 0 46 (dk_at dksX6_burn_1 12 rfl rfl)
theorem dX6_burn_39 : decode cX6_burn 39 = .ok (.ifCond .eq 11, 3) := dk_153 0 11 (dk_at dksX6_burn_1 15 rfl rfl)
theorem dX6_burn_42 : decode cX6_burn 42 = .ok (.aload_n 3, 1) := dk_45 (dk_at dksX6_burn_1 18 rfl rfl)
theorem dX6_burn_43 : decode cX6_burn 43 = .ok (.checkcast 46, 3) := dk_192 0 46 (dk_at dksX6_burn_1 19 rfl rfl)
theorem dX6_burn_46 : decode cX6_burn 46 = .ok (.astore_n 2, 1) := dk_77 (dk_at dksX6_burn_1 22 rfl rfl)
theorem dX6_burn_47 : decode cX6_burn 47 = .ok (.goto 5, 3) := dk_167 0 5 (dk_at dksX6_burn_2 0 rfl rfl)
theorem dX6_burn_50 : decode cX6_burn 50 = .ok (.iconst (-1), 1) := dk_2 (dk_at dksX6_burn_2 3 rfl rfl)
theorem dX6_burn_51 : decode cX6_burn 51 = .ok (.ireturn, 1) := dk_172 (dk_at dksX6_burn_2 4 rfl rfl)
theorem dX6_burn_52 : decode cX6_burn 52 = .ok (.aload_n 0, 1) := dk_42 (dk_at dksX6_burn_2 5 rfl rfl)
theorem dX6_burn_53 : decode cX6_burn 53 = .ok (.aload_n 2, 1) := dk_44 (dk_at dksX6_burn_2 6 rfl rfl)
theorem dX6_burn_54 : decode cX6_burn 54 = .ok (.getfield 48, 3) := dk_180 0 48 (dk_at dksX6_burn_2 7 rfl rfl)
theorem dX6_burn_57 : decode cX6_burn 57 = .ok (.invokevirtual 56, 3) := dk_182 0 56 (dk_at dksX6_burn_2 10 rfl rfl)
theorem dX6_burn_60 : decode cX6_burn 60 = .ok (.istore_n 3, 1) := dk_62 (dk_at dksX6_burn_2 13 rfl rfl)
theorem dX6_burn_61 : decode cX6_burn 61 = .ok (.aload_n 0, 1) := dk_42 (dk_at dksX6_burn_2 14 rfl rfl)
theorem dX6_burn_62 : decode cX6_burn 62 = .ok (.dup, 1) := dk_89 (dk_at dksX6_burn_2 15 rfl rfl)
theorem dX6_burn_63 : decode cX6_burn 63 = .ok (.getfield 22, 3) := dk_180 0 22 (dk_at dksX6_burn_2 16 rfl rfl)
theorem dX6_burn_66 : decode cX6_burn 66 = .ok (.iload_n 3, 1) := dk_29 (dk_at dksX6_burn_2 19 rfl rfl)
theorem dX6_burn_67 : decode cX6_burn 67 = .ok (.isub, 1) := dk_100 (dk_at dksX6_burn_2 20 rfl rfl)
theorem dX6_burn_68 : decode cX6_burn 68 = .ok (.putfield 22, 3) := dk_181 0 22 (dk_at dksX6_burn_2 21 rfl rfl)
theorem dX6_burn_71 : decode cX6_burn 71 = .ok (.iload_n 3, 1) := dk_29 (dk_at dksX6_burn_3 0 rfl rfl)
theorem dX6_burn_72 : decode cX6_burn 72 = .ok (.ireturn, 1) := dk_172 (dk_at dksX6_burn_3 1 rfl rfl)
abbrev cX6_told : ByteArray := prog_9_method_8_code
def yX6_told : MethodName := ⟨RX6, "told", "()Ljava/lang/String;"⟩
def dkwX6_told_5 : List UInt8 := [182, 0, 92, 176]
abbrev dktX6_told_5 : List UInt8 := dkwX6_told_5 ++ []
def dkwX6_told_4 : List UInt8 := [182, 0, 81, 45, 180, 0, 40, 182, 0, 62, 18, 90, 182, 0, 81, 45, 180, 0, 43, 182, 0, 62, 77, 44]
abbrev dktX6_told_4 : List UInt8 := dkwX6_told_4 ++ dktX6_told_5
def dkwX6_told_3 : List UInt8 := [180, 0, 12, 58, 4, 25, 4, 193, 0, 38, 153, 0, 35, 25, 4, 192, 0, 38, 78, 43, 18, 88]
abbrev dktX6_told_3 : List UInt8 := dkwX6_told_3 ++ dktX6_told_4
def dkwX6_told_2 : List UInt8 := [2, 160, 0, 7, 44, 167, 0, 16, 43, 42, 180, 0, 12, 185, 0, 84, 1, 0, 182, 0, 62, 77, 42]
abbrev dktX6_told_2 : List UInt8 := dkwX6_told_2 ++ dktX6_told_3
def dkwX6_told_1 : List UInt8 := [180, 0, 12, 185, 0, 69, 1, 0, 182, 0, 75, 182, 0, 81, 77, 42, 180, 0, 12, 185, 0, 84, 1, 0]
abbrev dktX6_told_1 : List UInt8 := dkwX6_told_1 ++ dktX6_told_2
def dkwX6_told_0 : List UInt8 := [187, 0, 59, 89, 183, 0, 61, 76, 43, 42, 180, 0, 22, 182, 0, 62, 16, 32, 182, 0, 66, 42]
abbrev dktX6_told_0 : List UInt8 := dkwX6_told_0 ++ dktX6_told_1
theorem dksX6_told_0 : cX6_told.data.toList.drop 0 = dktX6_told_0 := by decide +kernel
theorem dksX6_told_1 : cX6_told.data.toList.drop 22 = dktX6_told_1 := dk_seg dksX6_told_0 22 rfl rfl
theorem dksX6_told_2 : cX6_told.data.toList.drop 46 = dktX6_told_2 := dk_seg dksX6_told_1 24 rfl rfl
theorem dksX6_told_3 : cX6_told.data.toList.drop 69 = dktX6_told_3 := dk_seg dksX6_told_2 23 rfl rfl
theorem dksX6_told_4 : cX6_told.data.toList.drop 91 = dktX6_told_4 := dk_seg dksX6_told_3 22 rfl rfl
theorem dksX6_told_5 : cX6_told.data.toList.drop 115 = dktX6_told_5 := dk_seg dksX6_told_4 24 rfl rfl
theorem dX6_told_0 : decode cX6_told 0 = .ok (.new 59, 3) := dk_187 0 59 (dk_at dksX6_told_0 0 rfl rfl)
theorem dX6_told_3 : decode cX6_told 3 = .ok (.dup, 1) := dk_89 (dk_at dksX6_told_0 3 rfl rfl)
theorem dX6_told_4 : decode cX6_told 4 = .ok (.invokespecial 61, 3) := dk_183 0 61 (dk_at dksX6_told_0 4 rfl rfl)
theorem dX6_told_7 : decode cX6_told 7 = .ok (.astore_n 1, 1) := dk_76 (dk_at dksX6_told_0 7 rfl rfl)
theorem dX6_told_8 : decode cX6_told 8 = .ok (.aload_n 1, 1) := dk_43 (dk_at dksX6_told_0 8 rfl rfl)
theorem dX6_told_9 : decode cX6_told 9 = .ok (.aload_n 0, 1) := dk_42 (dk_at dksX6_told_0 9 rfl rfl)
theorem dX6_told_10 : decode cX6_told 10 = .ok (.getfield 22, 3) := dk_180 0 22 (dk_at dksX6_told_0 10 rfl rfl)
theorem dX6_told_13 : decode cX6_told 13 = .ok (.invokevirtual 62, 3) := dk_182 0 62 (dk_at dksX6_told_0 13 rfl rfl)
theorem dX6_told_16 : decode cX6_told 16 = .ok (.bipush 32, 2) := dk_16 32 (dk_at dksX6_told_0 16 rfl rfl)
theorem dX6_told_18 : decode cX6_told 18 = .ok (.invokevirtual 66, 3) := dk_182 0 66 (dk_at dksX6_told_0 18 rfl rfl)
theorem dX6_told_21 : decode cX6_told 21 = .ok (.aload_n 0, 1) := dk_42 (dk_at dksX6_told_0 21 rfl rfl)
theorem dX6_told_22 : decode cX6_told 22 = .ok (.getfield 12, 3) := dk_180 0 12 (dk_at dksX6_told_1 0 rfl rfl)
theorem dX6_told_25 : decode cX6_told 25 = .ok (.invokeinterface 69 1, 5) := by decide +kernel
theorem dX6_told_30 : decode cX6_told 30 = .ok (.invokevirtual 75, 3) := dk_182 0 75 (dk_at dksX6_told_1 8 rfl rfl)
theorem dX6_told_33 : decode cX6_told 33 = .ok (.invokevirtual 81, 3) := dk_182 0 81 (dk_at dksX6_told_1 11 rfl rfl)
theorem dX6_told_36 : decode cX6_told 36 = .ok (.astore_n 2, 1) := dk_77 (dk_at dksX6_told_1 14 rfl rfl)
theorem dX6_told_37 : decode cX6_told 37 = .ok (.aload_n 0, 1) := dk_42 (dk_at dksX6_told_1 15 rfl rfl)
theorem dX6_told_38 : decode cX6_told 38 = .ok (.getfield 12, 3) := dk_180 0 12 (dk_at dksX6_told_1 16 rfl rfl)
theorem dX6_told_41 : decode cX6_told 41 = .ok (.invokeinterface 84 1, 5) := by decide +kernel
theorem dX6_told_46 : decode cX6_told 46 = .ok (.iconst (-1), 1) := dk_2 (dk_at dksX6_told_2 0 rfl rfl)
theorem dX6_told_47 : decode cX6_told 47 = .ok (.if_icmp .ne 7, 3) := dk_160 0 7 (dk_at dksX6_told_2 1 rfl rfl)
theorem dX6_told_50 : decode cX6_told 50 = .ok (.aload_n 2, 1) := dk_44 (dk_at dksX6_told_2 4 rfl rfl)
theorem dX6_told_51 : decode cX6_told 51 = .ok (.goto 16, 3) := dk_167 0 16 (dk_at dksX6_told_2 5 rfl rfl)
theorem dX6_told_54 : decode cX6_told 54 = .ok (.aload_n 1, 1) := dk_43 (dk_at dksX6_told_2 8 rfl rfl)
theorem dX6_told_55 : decode cX6_told 55 = .ok (.aload_n 0, 1) := dk_42 (dk_at dksX6_told_2 9 rfl rfl)
theorem dX6_told_56 : decode cX6_told 56 = .ok (.getfield 12, 3) := dk_180 0 12 (dk_at dksX6_told_2 10 rfl rfl)
theorem dX6_told_59 : decode cX6_told 59 = .ok (.invokeinterface 84 1, 5) := by decide +kernel
theorem dX6_told_64 : decode cX6_told 64 = .ok (.invokevirtual 62, 3) := dk_182 0 62 (dk_at dksX6_told_2 18 rfl rfl)
theorem dX6_told_67 : decode cX6_told 67 = .ok (.astore_n 2, 1) := dk_77 (dk_at dksX6_told_2 21 rfl rfl)
theorem dX6_told_68 : decode cX6_told 68 = .ok (.aload_n 0, 1) := dk_42 (dk_at dksX6_told_2 22 rfl rfl)
theorem dX6_told_69 : decode cX6_told 69 = .ok (.getfield 12, 3) := dk_180 0 12 (dk_at dksX6_told_3 0 rfl rfl)
theorem dX6_told_72 : decode cX6_told 72 = .ok (.astore 4, 2) := dk_58 4 (dk_at dksX6_told_3 3 rfl rfl)
theorem dX6_told_74 : decode cX6_told 74 = .ok (.aload 4, 2) := dk_25 4 (dk_at dksX6_told_3 5 rfl rfl)
theorem dX6_told_76 : decode cX6_told 76 = .ok (.instanceof 38, 3) := dk_193 0 38 (dk_at dksX6_told_3 7 rfl rfl)
theorem dX6_told_79 : decode cX6_told 79 = .ok (.ifCond .eq 35, 3) := dk_153 0 35 (dk_at dksX6_told_3 10 rfl rfl)
theorem dX6_told_82 : decode cX6_told 82 = .ok (.aload 4, 2) := dk_25 4 (dk_at dksX6_told_3 13 rfl rfl)
theorem dX6_told_84 : decode cX6_told 84 = .ok (.checkcast 38, 3) := dk_192 0 38 (dk_at dksX6_told_3 15 rfl rfl)
theorem dX6_told_87 : decode cX6_told 87 = .ok (.astore_n 3, 1) := dk_78 (dk_at dksX6_told_3 18 rfl rfl)
theorem dX6_told_88 : decode cX6_told 88 = .ok (.aload_n 1, 1) := dk_43 (dk_at dksX6_told_3 19 rfl rfl)
theorem dX6_told_89 : decode cX6_told 89 = .ok (.ldc 88, 2) := dk_18 88 (dk_at dksX6_told_3 20 rfl rfl)
theorem dX6_told_91 : decode cX6_told 91 = .ok (.invokevirtual 81, 3) := dk_182 0 81 (dk_at dksX6_told_4 0 rfl rfl)
theorem dX6_told_94 : decode cX6_told 94 = .ok (.aload_n 3, 1) := dk_45 (dk_at dksX6_told_4 3 rfl rfl)
theorem dX6_told_95 : decode cX6_told 95 = .ok (.getfield 40, 3) := dk_180 0 40 (dk_at dksX6_told_4 4 rfl rfl)
theorem dX6_told_98 : decode cX6_told 98 = .ok (.invokevirtual 62, 3) := dk_182 0 62 (dk_at dksX6_told_4 7 rfl rfl)
theorem dX6_told_101 : decode cX6_told 101 = .ok (.ldc 90, 2) := dk_18 90 (dk_at dksX6_told_4 10 rfl rfl)
theorem dX6_told_103 : decode cX6_told 103 = .ok (.invokevirtual 81, 3) := dk_182 0 81 (dk_at dksX6_told_4 12 rfl rfl)
theorem dX6_told_106 : decode cX6_told 106 = .ok (.aload_n 3, 1) := dk_45 (dk_at dksX6_told_4 15 rfl rfl)
theorem dX6_told_107 : decode cX6_told 107 = .ok (.getfield 43, 3) := dk_180 0 43 (dk_at dksX6_told_4 16 rfl rfl)
theorem dX6_told_110 : decode cX6_told 110 = .ok (.invokevirtual 62, 3) := dk_182 0 62 (dk_at dksX6_told_4 19 rfl rfl)
theorem dX6_told_113 : decode cX6_told 113 = .ok (.astore_n 2, 1) := dk_77 (dk_at dksX6_told_4 22 rfl rfl)
theorem dX6_told_114 : decode cX6_told 114 = .ok (.aload_n 2, 1) := dk_44 (dk_at dksX6_told_4 23 rfl rfl)
theorem dX6_told_115 : decode cX6_told 115 = .ok (.invokevirtual 92, 3) := dk_182 0 92 (dk_at dksX6_told_5 0 rfl rfl)
theorem dX6_told_118 : decode cX6_told 118 = .ok (.areturn, 1) := dk_176 (dk_at dksX6_told_5 3 rfl rfl)
theorem q82 : (Jvm.Cond.initialized "WillowPrinters$Lot") ∈ lw_all := lw_g (lw_at lw_m1 28 rfl) rfl
theorem q822 : (Jvm.Cond.selects "WillowPrinters$Lot" ({ cls := "java/lang/Object", name := "getClass", desc := "()Ljava/lang/Class;" } : Jvm.MethodName) ({ cls := "java/lang/Object", name := "getClass", desc := "()Ljava/lang/Class;" } : Jvm.MethodName)) ∈ lw_all := lw_g (lw_at lw_m4 48 rfl) rfl
theorem q854 : (Jvm.Cond.instanceMethod ({ cls := "WillowPrinters$Lot", name := "copy", desc := "()LWillowPrinters$Lot;" } : Jvm.MethodName)) ∈ lw_all := lw_g (lw_at lw_m4 80 rfl) rfl
theorem q855 : (Jvm.Cond.selects "WillowPrinters$Lot" ({ cls := "WillowPrinters$Lot", name := "copy", desc := "()LWillowPrinters$Lot;" } : Jvm.MethodName) ({ cls := "WillowPrinters$Lot", name := "copy", desc := "()LWillowPrinters$Lot;" } : Jvm.MethodName)) ∈ lw_all := lw_g (lw_at lw_m4 81 rfl) rfl
theorem q856 : (Jvm.Cond.code ({ cls := "WillowPrinters$Lot", name := "copy", desc := "()LWillowPrinters$Lot;" } : Jvm.MethodName) prog_9_method_2_code (2 : Nat) (Option.some (Jvm.ClassFile.FieldType.object "WillowPrinters$Lot"))) ∈ lw_all := lw_g (lw_at lw_m4 82 rfl) rfl
theorem q857 : (Jvm.Cond.classLink "WillowPrinters$Lot" (13 : Nat) "WillowPrinters$Lot") ∈ lw_all := lw_g (lw_at lw_m4 83 rfl) rfl
theorem q858 : (Jvm.Cond.instantiable "WillowPrinters$Lot" (3 : Nat)) ∈ lw_all := lw_g (lw_at lw_m4 84 rfl) rfl
theorem q859 : (Jvm.Cond.methodLink "WillowPrinters$Lot" (25 : Nat) ({ cls := "WillowPrinters$Lot", name := "<init>", desc := "(II)V" } : Jvm.MethodName)) ∈ lw_all := lw_g (lw_at lw_m4 85 rfl) rfl
theorem q860 : (Jvm.Cond.instanceMethod ({ cls := "WillowPrinters$Lot", name := "<init>", desc := "(II)V" } : Jvm.MethodName)) ∈ lw_all := lw_g (lw_at lw_m4 86 rfl) rfl
theorem q861 : (Jvm.Cond.code ({ cls := "WillowPrinters$Lot", name := "<init>", desc := "(II)V" } : Jvm.MethodName) prog_9_method_1_code (3 : Nat) (Option.none : Option Jvm.ClassFile.FieldType)) ∈ lw_all := lw_g (lw_at lw_m4 87 rfl) rfl
theorem q862 : (Jvm.Cond.methodLink "WillowPrinters$Lot" (3 : Nat) ({ cls := "java/lang/Object", name := "<init>", desc := "()V" } : Jvm.MethodName)) ∈ lw_all := lw_g (lw_at lw_m4 88 rfl) rfl
theorem q863 : (Jvm.Cond.classLink "WillowPrinters$Lot" (9 : Nat) "WillowPrinters$Plain") ∈ lw_all := lw_g (lw_at lw_m4 89 rfl) rfl
theorem q865 : (Jvm.Cond.methodLinkNest "WillowPrinters$Lot" (11 : Nat) ({ cls := "WillowPrinters$Plain", name := "<init>", desc := "()V" } : Jvm.MethodName) "WillowPrinters") ∈ lw_tbl := lw_at lw_m4 91 rfl
theorem q870 : (Jvm.Cond.fieldLink "WillowPrinters$Lot" (18 : Nat) "WillowPrinters$Lot" "number" "I") ∈ lw_all := lw_g (lw_at lw_m4 96 rfl) rfl
theorem q873 : (Jvm.Cond.fieldLink "WillowPrinters$Lot" (22 : Nat) "WillowPrinters$Lot" "plates" "I") ∈ lw_all := lw_g (lw_at lw_m4 99 rfl) rfl
theorem q877 : (Jvm.Cond.fieldLink "WillowPrinters$Lot" (12 : Nat) "WillowPrinters$Lot" "state" "LWillowPrinters$State;") ∈ lw_all := lw_g (lw_at lw_m4 103 rfl) rfl
theorem q881 : (Jvm.Cond.laysFinal "WillowPrinters$Lot" "WillowPrinters$Lot" "number" "I") ∈ lw_all := lw_g (lw_at lw_m4 107 rfl) rfl
theorem q882 : (Jvm.Cond.soleField "WillowPrinters$Lot" "number") ∈ lw_all := lw_g (lw_at lw_m4 108 rfl) rfl
theorem q883 : (Jvm.Cond.lays "WillowPrinters$Lot" "WillowPrinters$Lot" "plates" "I") ∈ lw_all := lw_g (lw_at lw_m4 109 rfl) rfl
theorem q884 : (Jvm.Cond.soleField "WillowPrinters$Lot" "plates") ∈ lw_all := lw_g (lw_at lw_m4 110 rfl) rfl
theorem q885 : (Jvm.Cond.lays "WillowPrinters$Lot" "WillowPrinters$Lot" "state" "LWillowPrinters$State;") ∈ lw_all := lw_g (lw_at lw_m4 111 rfl) rfl
theorem q886 : (Jvm.Cond.soleField "WillowPrinters$Lot" "state") ∈ lw_all := lw_g (lw_at lw_m4 112 rfl) rfl
theorem q887 : (Jvm.Cond.superclass "WillowPrinters$Lot" "java/lang/Object") ∈ lw_all := lw_g (lw_at lw_m4 113 rfl) rfl
theorem q1254 : (Jvm.Cond.instanceMethod ({ cls := "WillowPrinters$Lot", name := "kiln", desc := "()I" } : Jvm.MethodName)) ∈ lw_all := lw_g (lw_at lw_m6 0 rfl) rfl
theorem q1255 : (Jvm.Cond.selects "WillowPrinters$Lot" ({ cls := "WillowPrinters$Lot", name := "kiln", desc := "()I" } : Jvm.MethodName) ({ cls := "WillowPrinters$Lot", name := "kiln", desc := "()I" } : Jvm.MethodName)) ∈ lw_all := lw_g (lw_at lw_m6 1 rfl) rfl
theorem q1256 : (Jvm.Cond.code ({ cls := "WillowPrinters$Lot", name := "kiln", desc := "()I" } : Jvm.MethodName) prog_9_method_4_code (3 : Nat) (Option.some Jvm.ClassFile.FieldType.int)) ∈ lw_all := lw_g (lw_at lw_m6 2 rfl) rfl
theorem q1257 : (Jvm.Cond.classLink "WillowPrinters$Lot" (38 : Nat) "WillowPrinters$Burning") ∈ lw_all := lw_g (lw_at lw_m6 3 rfl) rfl
theorem q1259 : (Jvm.Cond.instanceMethod ({ cls := "WillowPrinters$Lot", name := "cone", desc := "()I" } : Jvm.MethodName)) ∈ lw_all := lw_g (lw_at lw_m6 5 rfl) rfl
theorem q1260 : (Jvm.Cond.selects "WillowPrinters$Lot" ({ cls := "WillowPrinters$Lot", name := "cone", desc := "()I" } : Jvm.MethodName) ({ cls := "WillowPrinters$Lot", name := "cone", desc := "()I" } : Jvm.MethodName)) ∈ lw_all := lw_g (lw_at lw_m6 6 rfl) rfl
theorem q1261 : (Jvm.Cond.code ({ cls := "WillowPrinters$Lot", name := "cone", desc := "()I" } : Jvm.MethodName) prog_9_method_6_code (3 : Nat) (Option.some Jvm.ClassFile.FieldType.int)) ∈ lw_all := lw_g (lw_at lw_m6 7 rfl) rfl
theorem q1262 : (Jvm.Cond.classLink "WillowPrinters$Lot" (46 : Nat) "WillowPrinters$Fired") ∈ lw_all := lw_g (lw_at lw_m6 8 rfl) rfl
theorem q1264 : (Jvm.Cond.instanceMethod ({ cls := "WillowPrinters$Lot", name := "hours", desc := "()I" } : Jvm.MethodName)) ∈ lw_all := lw_g (lw_at lw_m6 10 rfl) rfl
theorem q1265 : (Jvm.Cond.selects "WillowPrinters$Lot" ({ cls := "WillowPrinters$Lot", name := "hours", desc := "()I" } : Jvm.MethodName) ({ cls := "WillowPrinters$Lot", name := "hours", desc := "()I" } : Jvm.MethodName)) ∈ lw_all := lw_g (lw_at lw_m6 11 rfl) rfl
theorem q1266 : (Jvm.Cond.code ({ cls := "WillowPrinters$Lot", name := "hours", desc := "()I" } : Jvm.MethodName) prog_9_method_5_code (3 : Nat) (Option.some Jvm.ClassFile.FieldType.int)) ∈ lw_all := lw_g (lw_at lw_m6 12 rfl) rfl
theorem q1370 : (Jvm.Cond.fieldLinkNest "WillowPrinters$Lot" (40 : Nat) "WillowPrinters$Burning" "kiln" "I" "WillowPrinters") ∈ lw_tbl := lw_at lw_m6 116 rfl
theorem q1372 : (Jvm.Cond.fieldLinkNest "WillowPrinters$Lot" (51 : Nat) "WillowPrinters$Burning" "cone" "I" "WillowPrinters") ∈ lw_tbl := lw_at lw_m6 118 rfl
theorem q1374 : (Jvm.Cond.fieldLinkNest "WillowPrinters$Lot" (43 : Nat) "WillowPrinters$Burning" "hours" "I" "WillowPrinters") ∈ lw_tbl := lw_at lw_m6 120 rfl
theorem q1393 : (Jvm.Cond.instanceMethod ({ cls := "WillowPrinters$Lot", name := "wouldChip", desc := "(I)I" } : Jvm.MethodName)) ∈ lw_all := lw_g (lw_at lw_m6 139 rfl) rfl
theorem q1394 : (Jvm.Cond.selects "WillowPrinters$Lot" ({ cls := "WillowPrinters$Lot", name := "wouldChip", desc := "(I)I" } : Jvm.MethodName) ({ cls := "WillowPrinters$Lot", name := "wouldChip", desc := "(I)I" } : Jvm.MethodName)) ∈ lw_all := lw_g (lw_at lw_m6 140 rfl) rfl
theorem q1395 : (Jvm.Cond.code ({ cls := "WillowPrinters$Lot", name := "wouldChip", desc := "(I)I" } : Jvm.MethodName) prog_9_method_3_code (2 : Nat) (Option.some Jvm.ClassFile.FieldType.int)) ∈ lw_all := lw_g (lw_at lw_m6 141 rfl) rfl
theorem q1396 : (Jvm.Cond.methodLink "WillowPrinters$Lot" (28 : Nat) ({ cls := "java/lang/Math", name := "abs", desc := "(I)I" } : Jvm.MethodName)) ∈ lw_all := lw_g (lw_at lw_m6 142 rfl) rfl
theorem q1397 : (Jvm.Cond.methodLink "WillowPrinters$Lot" (34 : Nat) ({ cls := "java/lang/Math", name := "max", desc := "(II)I" } : Jvm.MethodName)) ∈ lw_all := lw_g (lw_at lw_m6 143 rfl) rfl
theorem q1527 : (Jvm.Cond.instanceMethod ({ cls := "WillowPrinters$Lot", name := "burn", desc := "()I" } : Jvm.MethodName)) ∈ lw_all := lw_g (lw_at lw_m7 33 rfl) rfl
theorem q1528 : (Jvm.Cond.selects "WillowPrinters$Lot" ({ cls := "WillowPrinters$Lot", name := "burn", desc := "()I" } : Jvm.MethodName) ({ cls := "WillowPrinters$Lot", name := "burn", desc := "()I" } : Jvm.MethodName)) ∈ lw_all := lw_g (lw_at lw_m7 34 rfl) rfl
theorem q1529 : (Jvm.Cond.code ({ cls := "WillowPrinters$Lot", name := "burn", desc := "()I" } : Jvm.MethodName) prog_9_method_7_code (4 : Nat) (Option.some Jvm.ClassFile.FieldType.int)) ∈ lw_all := lw_g (lw_at lw_m7 35 rfl) rfl
theorem q1530 : (Jvm.Cond.methodLink "WillowPrinters$Lot" (52 : Nat) ({ cls := "WillowPrinters$Burning", name := "later", desc := "()LWillowPrinters$State;" } : Jvm.MethodName)) ∈ lw_all := lw_g (lw_at lw_m7 36 rfl) rfl
theorem q1542 : (Jvm.Cond.fieldLinkNest "WillowPrinters$Lot" (48 : Nat) "WillowPrinters$Fired" "cone" "I" "WillowPrinters") ∈ lw_tbl := lw_at lw_m7 48 rfl
theorem q1550 : (Jvm.Cond.methodLink "WillowPrinters$Lot" (56 : Nat) ({ cls := "WillowPrinters$Lot", name := "wouldChip", desc := "(I)I" } : Jvm.MethodName)) ∈ lw_all := lw_g (lw_at lw_m7 56 rfl) rfl
theorem q1559 : (Jvm.Cond.instanceMethod ({ cls := "WillowPrinters$Lot", name := "told", desc := "()Ljava/lang/String;" } : Jvm.MethodName)) ∈ lw_all := lw_g (lw_at lw_m7 65 rfl) rfl
theorem q1560 : (Jvm.Cond.selects "WillowPrinters$Lot" ({ cls := "WillowPrinters$Lot", name := "told", desc := "()Ljava/lang/String;" } : Jvm.MethodName) ({ cls := "WillowPrinters$Lot", name := "told", desc := "()Ljava/lang/String;" } : Jvm.MethodName)) ∈ lw_all := lw_g (lw_at lw_m7 66 rfl) rfl
theorem q1561 : (Jvm.Cond.code ({ cls := "WillowPrinters$Lot", name := "told", desc := "()Ljava/lang/String;" } : Jvm.MethodName) prog_9_method_8_code (5 : Nat) (Option.some (Jvm.ClassFile.FieldType.object "java/lang/String"))) ∈ lw_all := lw_g (lw_at lw_m7 67 rfl) rfl
theorem q1562 : (Jvm.Cond.classLink "WillowPrinters$Lot" (59 : Nat) "java/lang/StringBuilder") ∈ lw_all := lw_g (lw_at lw_m7 68 rfl) rfl
theorem q1563 : (Jvm.Cond.methodLink "WillowPrinters$Lot" (61 : Nat) ({ cls := "java/lang/StringBuilder", name := "<init>", desc := "()V" } : Jvm.MethodName)) ∈ lw_all := lw_g (lw_at lw_m7 69 rfl) rfl
theorem q1564 : (Jvm.Cond.methodLink "WillowPrinters$Lot" (62 : Nat) ({ cls := "java/lang/StringBuilder", name := "append", desc := "(I)Ljava/lang/StringBuilder;" } : Jvm.MethodName)) ∈ lw_all := lw_g (lw_at lw_m7 70 rfl) rfl
theorem q1565 : (Jvm.Cond.methodLink "WillowPrinters$Lot" (66 : Nat) ({ cls := "java/lang/StringBuilder", name := "append", desc := "(C)Ljava/lang/StringBuilder;" } : Jvm.MethodName)) ∈ lw_all := lw_g (lw_at lw_m7 71 rfl) rfl
theorem q1585 : (Jvm.Cond.interfaceEntry "WillowPrinters$Lot" (69 : Nat)) ∈ lw_tbl := lw_at lw_m7 91 rfl
theorem q1586 : (Jvm.Cond.methodLink "WillowPrinters$Lot" (69 : Nat) ({ cls := "WillowPrinters$State", name := "stage", desc := "()LWillowPrinters$Stage;" } : Jvm.MethodName)) ∈ lw_all := lw_g (lw_at lw_m7 92 rfl) rfl
theorem q1587 : (Jvm.Cond.methodLink "WillowPrinters$Lot" (75 : Nat) ({ cls := "WillowPrinters$Stage", name := "told", desc := "()Ljava/lang/String;" } : Jvm.MethodName)) ∈ lw_all := lw_g (lw_at lw_m7 93 rfl) rfl
theorem q1606 : (Jvm.Cond.methodLink "WillowPrinters$Lot" (81 : Nat) ({ cls := "java/lang/StringBuilder", name := "append", desc := "(Ljava/lang/String;)Ljava/lang/StringBuilder;" } : Jvm.MethodName)) ∈ lw_all := lw_g (lw_at lw_m7 112 rfl) rfl
theorem q1607 : (Jvm.Cond.interfaceEntry "WillowPrinters$Lot" (84 : Nat)) ∈ lw_tbl := lw_at lw_m7 113 rfl
theorem q1608 : (Jvm.Cond.methodLink "WillowPrinters$Lot" (84 : Nat) ({ cls := "WillowPrinters$State", name := "well", desc := "()I" } : Jvm.MethodName)) ∈ lw_all := lw_g (lw_at lw_m7 114 rfl) rfl
theorem q1609 : (Jvm.Cond.stringRef "WillowPrinters$Lot" (88 : Nat) " k") ∈ lw_tbl := lw_at lw_m7 115 rfl
theorem q1610 : (Jvm.Cond.stringRef "WillowPrinters$Lot" (90 : Nat) " in ") ∈ lw_tbl := lw_at lw_m7 116 rfl
theorem q1611 : (Jvm.Cond.methodLink "WillowPrinters$Lot" (92 : Nat) ({ cls := "java/lang/StringBuilder", name := "toString", desc := "()Ljava/lang/String;" } : Jvm.MethodName)) ∈ lw_all := lw_g (lw_at lw_m7 117 rfl) rfl
theorem q2342 : (Jvm.Cond.castable "WillowPrinters$Lot" "java/lang/Object") ∈ lw_tbl := lw_at lw_m10 128 rfl
theorem in_X6 : ∀ w ∈ wsX60, w ∈ lw_all := lw_in wsX60 [881, 883, 885] (by decide +kernel) (by decide +kernel)

/-! WillowPrinters$Plain -/
set_option maxRecDepth 100000
def RX7 : String := "WillowPrinters$Plain"
abbrev cX7_init : ByteArray := prog_12_method_1_code
def yX7_init : MethodName := ⟨RX7, "<init>", "()V"⟩
theorem dX7_init_0 : decode cX7_init 0 = .ok (.aload_n 0, 1) := by decide +kernel
theorem dX7_init_1 : decode cX7_init 1 = .ok (.invokespecial 1, 3) := by decide +kernel
theorem dX7_init_4 : decode cX7_init 4 = .ok (.return_, 1) := by decide +kernel
abbrev cX7_stage : ByteArray := prog_12_method_2_code
def yX7_stage : MethodName := ⟨RX7, "stage", "()LWillowPrinters$Stage;"⟩
theorem dX7_stage_0 : decode cX7_stage 0 = .ok (.getstatic 7, 3) := by decide +kernel
theorem dX7_stage_3 : decode cX7_stage 3 = .ok (.areturn, 1) := by decide +kernel
theorem q83 : (Jvm.Cond.initialized "WillowPrinters$Plain") ∈ lw_all := lw_g (lw_at lw_m1 29 rfl) rfl
theorem q824 : (Jvm.Cond.selects "WillowPrinters$Plain" ({ cls := "java/lang/Object", name := "getClass", desc := "()Ljava/lang/Class;" } : Jvm.MethodName) ({ cls := "java/lang/Object", name := "getClass", desc := "()Ljava/lang/Class;" } : Jvm.MethodName)) ∈ lw_all := lw_g (lw_at lw_m4 50 rfl) rfl
theorem q864 : (Jvm.Cond.instantiable "WillowPrinters$Plain" (0 : Nat)) ∈ lw_all := lw_g (lw_at lw_m4 90 rfl) rfl
theorem q866 : (Jvm.Cond.instanceMethod ({ cls := "WillowPrinters$Plain", name := "<init>", desc := "()V" } : Jvm.MethodName)) ∈ lw_all := lw_g (lw_at lw_m4 92 rfl) rfl
theorem q867 : (Jvm.Cond.code ({ cls := "WillowPrinters$Plain", name := "<init>", desc := "()V" } : Jvm.MethodName) prog_12_method_1_code (1 : Nat) (Option.none : Option Jvm.ClassFile.FieldType)) ∈ lw_all := lw_g (lw_at lw_m4 93 rfl) rfl
theorem q868 : (Jvm.Cond.methodLink "WillowPrinters$Plain" (1 : Nat) ({ cls := "java/lang/Object", name := "<init>", desc := "()V" } : Jvm.MethodName)) ∈ lw_all := lw_g (lw_at lw_m4 94 rfl) rfl
theorem q869 : (Jvm.Cond.superclass "WillowPrinters$Plain" "java/lang/Object") ∈ lw_all := lw_g (lw_at lw_m4 95 rfl) rfl
theorem q1205 : (Jvm.Cond.castable "WillowPrinters$Plain" "WillowPrinters$State") ∈ lw_tbl := lw_at lw_m5 191 rfl
theorem q1206 : (Jvm.Cond.selects "WillowPrinters$Plain" ({ cls := "WillowPrinters$State", name := "stage", desc := "()LWillowPrinters$Stage;" } : Jvm.MethodName) ({ cls := "WillowPrinters$Plain", name := "stage", desc := "()LWillowPrinters$Stage;" } : Jvm.MethodName)) ∈ lw_all := lw_g (lw_at lw_m5 192 rfl) rfl
theorem q1207 : (Jvm.Cond.unhidden "WillowPrinters$Plain" "stage" "()LWillowPrinters$Stage;") ∈ lw_tbl := lw_at lw_m5 193 rfl
theorem q1208 : (Jvm.Cond.instanceMethod ({ cls := "WillowPrinters$Plain", name := "stage", desc := "()LWillowPrinters$Stage;" } : Jvm.MethodName)) ∈ lw_all := lw_g (lw_at lw_m5 194 rfl) rfl
theorem q1209 : (Jvm.Cond.publicMethod ({ cls := "WillowPrinters$Plain", name := "stage", desc := "()LWillowPrinters$Stage;" } : Jvm.MethodName)) ∈ lw_tbl := lw_at lw_m5 195 rfl
theorem q1210 : (Jvm.Cond.code ({ cls := "WillowPrinters$Plain", name := "stage", desc := "()LWillowPrinters$Stage;" } : Jvm.MethodName) prog_12_method_2_code (1 : Nat) (Option.some (Jvm.ClassFile.FieldType.object "WillowPrinters$Stage"))) ∈ lw_all := lw_g (lw_at lw_m5 196 rfl) rfl
theorem q1211 : (Jvm.Cond.fieldLink "WillowPrinters$Plain" (7 : Nat) "WillowPrinters$Stage" "PLAIN" "LWillowPrinters$Stage;") ∈ lw_all := lw_g (lw_at lw_m5 197 rfl) rfl
theorem q1244 : (Jvm.Cond.unhidden "WillowPrinters$Plain" "well" "()I") ∈ lw_tbl := lw_at lw_m5 230 rfl
theorem q2343 : (Jvm.Cond.castable "WillowPrinters$Plain" "java/lang/Object") ∈ lw_tbl := lw_at lw_m10 129 rfl

/-! WillowPrinters$Kiln -/
set_option maxRecDepth 100000
def RX8 : String := "WillowPrinters$Kiln"
def TX8 : u_T := fun k => match k with
  | 0 => ("WillowPrinters$Kiln", "room", "I", true)
  | _ => ("WillowPrinters$Kiln", "fired", "I", false)
def tyX8 : Nat → FieldType := fun k => match k with
  | 0 => .int
  | _ => .int
abbrev wsX80 : List Cond := u_ws RX8 TX8 2
theorem nmX8 : ∀ a, a < 2 → ∀ b, b < 2 → a ≠ b → (TX8 a).2.1 ≠ (TX8 b).2.1 := by decide +kernel
theorem tyX8_ok : ∀ k, k < 2 → parseFieldDescriptor (TX8 k).2.2.1 = some (tyX8 k) := by decide +kernel
abbrev cX8_copy : ByteArray := prog_8_method_2_code
def yX8_copy : MethodName := ⟨RX8, "copy", "()LWillowPrinters$Kiln;"⟩
def dkwX8_copy_0 : List UInt8 := [187, 0, 8, 89, 42, 180, 0, 7, 183, 0, 13, 76, 43, 42, 180, 0, 16, 181, 0, 16, 43, 176]
abbrev dktX8_copy_0 : List UInt8 := dkwX8_copy_0 ++ []
theorem dksX8_copy_0 : cX8_copy.data.toList.drop 0 = dktX8_copy_0 := by decide +kernel
theorem dX8_copy_0 : decode cX8_copy 0 = .ok (.new 8, 3) := dk_187 0 8 (dk_at dksX8_copy_0 0 rfl rfl)
theorem dX8_copy_3 : decode cX8_copy 3 = .ok (.dup, 1) := dk_89 (dk_at dksX8_copy_0 3 rfl rfl)
theorem dX8_copy_4 : decode cX8_copy 4 = .ok (.aload_n 0, 1) := dk_42 (dk_at dksX8_copy_0 4 rfl rfl)
theorem dX8_copy_5 : decode cX8_copy 5 = .ok (.getfield 7, 3) := dk_180 0 7 (dk_at dksX8_copy_0 5 rfl rfl)
theorem dX8_copy_8 : decode cX8_copy 8 = .ok (.invokespecial 13, 3) := dk_183 0 13 (dk_at dksX8_copy_0 8 rfl rfl)
theorem dX8_copy_11 : decode cX8_copy 11 = .ok (.astore_n 1, 1) := dk_76 (dk_at dksX8_copy_0 11 rfl rfl)
theorem dX8_copy_12 : decode cX8_copy 12 = .ok (.aload_n 1, 1) := dk_43 (dk_at dksX8_copy_0 12 rfl rfl)
theorem dX8_copy_13 : decode cX8_copy 13 = .ok (.aload_n 0, 1) := dk_42 (dk_at dksX8_copy_0 13 rfl rfl)
theorem dX8_copy_14 : decode cX8_copy 14 = .ok (.getfield 16, 3) := dk_180 0 16 (dk_at dksX8_copy_0 14 rfl rfl)
theorem dX8_copy_17 : decode cX8_copy 17 = .ok (.putfield 16, 3) := dk_181 0 16 (dk_at dksX8_copy_0 17 rfl rfl)
theorem dX8_copy_20 : decode cX8_copy 20 = .ok (.aload_n 1, 1) := dk_43 (dk_at dksX8_copy_0 20 rfl rfl)
theorem dX8_copy_21 : decode cX8_copy 21 = .ok (.areturn, 1) := dk_176 (dk_at dksX8_copy_0 21 rfl rfl)
abbrev cX8_init : ByteArray := prog_8_method_1_code
def yX8_init : MethodName := ⟨RX8, "<init>", "(I)V"⟩
def dkwX8_init_0 : List UInt8 := [42, 183, 0, 1, 42, 27, 181, 0, 7, 177]
abbrev dktX8_init_0 : List UInt8 := dkwX8_init_0 ++ []
theorem dksX8_init_0 : cX8_init.data.toList.drop 0 = dktX8_init_0 := by decide +kernel
theorem dX8_init_0 : decode cX8_init 0 = .ok (.aload_n 0, 1) := dk_42 (dk_at dksX8_init_0 0 rfl rfl)
theorem dX8_init_1 : decode cX8_init 1 = .ok (.invokespecial 1, 3) := dk_183 0 1 (dk_at dksX8_init_0 1 rfl rfl)
theorem dX8_init_4 : decode cX8_init 4 = .ok (.aload_n 0, 1) := dk_42 (dk_at dksX8_init_0 4 rfl rfl)
theorem dX8_init_5 : decode cX8_init 5 = .ok (.iload_n 1, 1) := dk_27 (dk_at dksX8_init_0 5 rfl rfl)
theorem dX8_init_6 : decode cX8_init 6 = .ok (.putfield 7, 3) := dk_181 0 7 (dk_at dksX8_init_0 6 rfl rfl)
theorem dX8_init_9 : decode cX8_init 9 = .ok (.return_, 1) := dk_177 (dk_at dksX8_init_0 9 rfl rfl)
theorem q84 : (Jvm.Cond.initialized "WillowPrinters$Kiln") ∈ lw_all := lw_g (lw_at lw_m1 30 rfl) rfl
theorem q821 : (Jvm.Cond.selects "WillowPrinters$Kiln" ({ cls := "java/lang/Object", name := "getClass", desc := "()Ljava/lang/Class;" } : Jvm.MethodName) ({ cls := "java/lang/Object", name := "getClass", desc := "()Ljava/lang/Class;" } : Jvm.MethodName)) ∈ lw_all := lw_g (lw_at lw_m4 47 rfl) rfl
theorem q890 : (Jvm.Cond.instanceMethod ({ cls := "WillowPrinters$Kiln", name := "copy", desc := "()LWillowPrinters$Kiln;" } : Jvm.MethodName)) ∈ lw_all := lw_g (lw_at lw_m4 116 rfl) rfl
theorem q891 : (Jvm.Cond.selects "WillowPrinters$Kiln" ({ cls := "WillowPrinters$Kiln", name := "copy", desc := "()LWillowPrinters$Kiln;" } : Jvm.MethodName) ({ cls := "WillowPrinters$Kiln", name := "copy", desc := "()LWillowPrinters$Kiln;" } : Jvm.MethodName)) ∈ lw_all := lw_g (lw_at lw_m4 117 rfl) rfl
theorem q892 : (Jvm.Cond.code ({ cls := "WillowPrinters$Kiln", name := "copy", desc := "()LWillowPrinters$Kiln;" } : Jvm.MethodName) prog_8_method_2_code (2 : Nat) (Option.some (Jvm.ClassFile.FieldType.object "WillowPrinters$Kiln"))) ∈ lw_all := lw_g (lw_at lw_m4 118 rfl) rfl
theorem q893 : (Jvm.Cond.classLink "WillowPrinters$Kiln" (8 : Nat) "WillowPrinters$Kiln") ∈ lw_all := lw_g (lw_at lw_m4 119 rfl) rfl
theorem q894 : (Jvm.Cond.instantiable "WillowPrinters$Kiln" (2 : Nat)) ∈ lw_all := lw_g (lw_at lw_m4 120 rfl) rfl
theorem q895 : (Jvm.Cond.methodLink "WillowPrinters$Kiln" (13 : Nat) ({ cls := "WillowPrinters$Kiln", name := "<init>", desc := "(I)V" } : Jvm.MethodName)) ∈ lw_all := lw_g (lw_at lw_m4 121 rfl) rfl
theorem q896 : (Jvm.Cond.instanceMethod ({ cls := "WillowPrinters$Kiln", name := "<init>", desc := "(I)V" } : Jvm.MethodName)) ∈ lw_all := lw_g (lw_at lw_m4 122 rfl) rfl
theorem q897 : (Jvm.Cond.code ({ cls := "WillowPrinters$Kiln", name := "<init>", desc := "(I)V" } : Jvm.MethodName) prog_8_method_1_code (2 : Nat) (Option.none : Option Jvm.ClassFile.FieldType)) ∈ lw_all := lw_g (lw_at lw_m4 123 rfl) rfl
theorem q898 : (Jvm.Cond.methodLink "WillowPrinters$Kiln" (1 : Nat) ({ cls := "java/lang/Object", name := "<init>", desc := "()V" } : Jvm.MethodName)) ∈ lw_all := lw_g (lw_at lw_m4 124 rfl) rfl
theorem q899 : (Jvm.Cond.fieldLink "WillowPrinters$Kiln" (7 : Nat) "WillowPrinters$Kiln" "room" "I") ∈ lw_all := lw_g (lw_at lw_m4 125 rfl) rfl
theorem q902 : (Jvm.Cond.fieldLink "WillowPrinters$Kiln" (16 : Nat) "WillowPrinters$Kiln" "fired" "I") ∈ lw_all := lw_g (lw_at lw_m4 128 rfl) rfl
theorem q905 : (Jvm.Cond.laysFinal "WillowPrinters$Kiln" "WillowPrinters$Kiln" "room" "I") ∈ lw_all := lw_g (lw_at lw_m4 131 rfl) rfl
theorem q906 : (Jvm.Cond.soleField "WillowPrinters$Kiln" "room") ∈ lw_all := lw_g (lw_at lw_m4 132 rfl) rfl
theorem q907 : (Jvm.Cond.lays "WillowPrinters$Kiln" "WillowPrinters$Kiln" "fired" "I") ∈ lw_all := lw_g (lw_at lw_m4 133 rfl) rfl
theorem q908 : (Jvm.Cond.soleField "WillowPrinters$Kiln" "fired") ∈ lw_all := lw_g (lw_at lw_m4 134 rfl) rfl
theorem q909 : (Jvm.Cond.superclass "WillowPrinters$Kiln" "java/lang/Object") ∈ lw_all := lw_g (lw_at lw_m4 135 rfl) rfl
theorem q2344 : (Jvm.Cond.castable "WillowPrinters$Kiln" "java/lang/Object") ∈ lw_tbl := lw_at lw_m10 130 rfl
theorem in_X8 : ∀ w ∈ wsX80, w ∈ lw_all := lw_in wsX80 [905, 907] (by decide +kernel) (by decide +kernel)

/-! WillowPrinters$Crate -/
set_option maxRecDepth 100000
def RX9 : String := "WillowPrinters$Crate"
def TX9 : u_T := fun k => match k with
  | 0 => ("WillowPrinters$Crate", "room", "I", true)
  | 1 => ("WillowPrinters$Crate", "plates", "I", false)
  | 2 => ("WillowPrinters$Crate", "worth", "I", false)
  | _ => ("WillowPrinters$Crate", "straw", "I", false)
def tyX9 : Nat → FieldType := fun k => match k with
  | 0 => .int
  | 1 => .int
  | 2 => .int
  | _ => .int
abbrev wsX90 : List Cond := u_ws RX9 TX9 4
theorem nmX9 : ∀ a, a < 4 → ∀ b, b < 4 → a ≠ b → (TX9 a).2.1 ≠ (TX9 b).2.1 := by decide +kernel
theorem tyX9_ok : ∀ k, k < 4 → parseFieldDescriptor (TX9 k).2.2.1 = some (tyX9 k) := by decide +kernel
abbrev cX9_copy : ByteArray := prog_5_method_2_code
def yX9_copy : MethodName := ⟨RX9, "copy", "()LWillowPrinters$Crate;"⟩
def dkwX9_copy_1 : List UInt8 := [180, 0, 19, 181, 0, 19, 43, 42, 180, 0, 22, 181, 0, 22, 43, 176]
abbrev dktX9_copy_1 : List UInt8 := dkwX9_copy_1 ++ []
def dkwX9_copy_0 : List UInt8 := [187, 0, 8, 89, 42, 180, 0, 7, 183, 0, 13, 76, 43, 42, 180, 0, 16, 181, 0, 16, 43, 42]
abbrev dktX9_copy_0 : List UInt8 := dkwX9_copy_0 ++ dktX9_copy_1
theorem dksX9_copy_0 : cX9_copy.data.toList.drop 0 = dktX9_copy_0 := by decide +kernel
theorem dksX9_copy_1 : cX9_copy.data.toList.drop 22 = dktX9_copy_1 := dk_seg dksX9_copy_0 22 rfl rfl
theorem dX9_copy_0 : decode cX9_copy 0 = .ok (.new 8, 3) := dk_187 0 8 (dk_at dksX9_copy_0 0 rfl rfl)
theorem dX9_copy_3 : decode cX9_copy 3 = .ok (.dup, 1) := dk_89 (dk_at dksX9_copy_0 3 rfl rfl)
theorem dX9_copy_4 : decode cX9_copy 4 = .ok (.aload_n 0, 1) := dk_42 (dk_at dksX9_copy_0 4 rfl rfl)
theorem dX9_copy_5 : decode cX9_copy 5 = .ok (.getfield 7, 3) := dk_180 0 7 (dk_at dksX9_copy_0 5 rfl rfl)
theorem dX9_copy_8 : decode cX9_copy 8 = .ok (.invokespecial 13, 3) := dk_183 0 13 (dk_at dksX9_copy_0 8 rfl rfl)
theorem dX9_copy_11 : decode cX9_copy 11 = .ok (.astore_n 1, 1) := dk_76 (dk_at dksX9_copy_0 11 rfl rfl)
theorem dX9_copy_12 : decode cX9_copy 12 = .ok (.aload_n 1, 1) := dk_43 (dk_at dksX9_copy_0 12 rfl rfl)
theorem dX9_copy_13 : decode cX9_copy 13 = .ok (.aload_n 0, 1) := dk_42 (dk_at dksX9_copy_0 13 rfl rfl)
theorem dX9_copy_14 : decode cX9_copy 14 = .ok (.getfield 16, 3) := dk_180 0 16 (dk_at dksX9_copy_0 14 rfl rfl)
theorem dX9_copy_17 : decode cX9_copy 17 = .ok (.putfield 16, 3) := dk_181 0 16 (dk_at dksX9_copy_0 17 rfl rfl)
theorem dX9_copy_20 : decode cX9_copy 20 = .ok (.aload_n 1, 1) := dk_43 (dk_at dksX9_copy_0 20 rfl rfl)
theorem dX9_copy_21 : decode cX9_copy 21 = .ok (.aload_n 0, 1) := dk_42 (dk_at dksX9_copy_0 21 rfl rfl)
theorem dX9_copy_22 : decode cX9_copy 22 = .ok (.getfield 19, 3) := dk_180 0 19 (dk_at dksX9_copy_1 0 rfl rfl)
theorem dX9_copy_25 : decode cX9_copy 25 = .ok (.putfield 19, 3) := dk_181 0 19 (dk_at dksX9_copy_1 3 rfl rfl)
theorem dX9_copy_28 : decode cX9_copy 28 = .ok (.aload_n 1, 1) := dk_43 (dk_at dksX9_copy_1 6 rfl rfl)
theorem dX9_copy_29 : decode cX9_copy 29 = .ok (.aload_n 0, 1) := dk_42 (dk_at dksX9_copy_1 7 rfl rfl)
theorem dX9_copy_30 : decode cX9_copy 30 = .ok (.getfield 22, 3) := dk_180 0 22 (dk_at dksX9_copy_1 8 rfl rfl)
theorem dX9_copy_33 : decode cX9_copy 33 = .ok (.putfield 22, 3) := dk_181 0 22 (dk_at dksX9_copy_1 11 rfl rfl)
theorem dX9_copy_36 : decode cX9_copy 36 = .ok (.aload_n 1, 1) := dk_43 (dk_at dksX9_copy_1 14 rfl rfl)
theorem dX9_copy_37 : decode cX9_copy 37 = .ok (.areturn, 1) := dk_176 (dk_at dksX9_copy_1 15 rfl rfl)
abbrev cX9_init : ByteArray := prog_5_method_1_code
def yX9_init : MethodName := ⟨RX9, "<init>", "(I)V"⟩
def dkwX9_init_0 : List UInt8 := [42, 183, 0, 1, 42, 27, 181, 0, 7, 177]
abbrev dktX9_init_0 : List UInt8 := dkwX9_init_0 ++ []
theorem dksX9_init_0 : cX9_init.data.toList.drop 0 = dktX9_init_0 := by decide +kernel
theorem dX9_init_0 : decode cX9_init 0 = .ok (.aload_n 0, 1) := dk_42 (dk_at dksX9_init_0 0 rfl rfl)
theorem dX9_init_1 : decode cX9_init 1 = .ok (.invokespecial 1, 3) := dk_183 0 1 (dk_at dksX9_init_0 1 rfl rfl)
theorem dX9_init_4 : decode cX9_init 4 = .ok (.aload_n 0, 1) := dk_42 (dk_at dksX9_init_0 4 rfl rfl)
theorem dX9_init_5 : decode cX9_init 5 = .ok (.iload_n 1, 1) := dk_27 (dk_at dksX9_init_0 5 rfl rfl)
theorem dX9_init_6 : decode cX9_init 6 = .ok (.putfield 7, 3) := dk_181 0 7 (dk_at dksX9_init_0 6 rfl rfl)
theorem dX9_init_9 : decode cX9_init 9 = .ok (.return_, 1) := dk_177 (dk_at dksX9_init_0 9 rfl rfl)
abbrev cX9_coins : ByteArray := prog_5_method_4_code
def yX9_coins : MethodName := ⟨RX9, "coins", "()I"⟩
def dkwX9_coins_1 : List UInt8 := [104, 42, 180, 0, 16, 108, 172]
abbrev dktX9_coins_1 : List UInt8 := dkwX9_coins_1 ++ []
def dkwX9_coins_0 : List UInt8 := [42, 180, 0, 16, 154, 0, 7, 3, 167, 0, 22, 42, 180, 0, 19, 42, 180, 0, 16, 42, 182, 0, 31, 100]
abbrev dktX9_coins_0 : List UInt8 := dkwX9_coins_0 ++ dktX9_coins_1
theorem dksX9_coins_0 : cX9_coins.data.toList.drop 0 = dktX9_coins_0 := by decide +kernel
theorem dksX9_coins_1 : cX9_coins.data.toList.drop 24 = dktX9_coins_1 := dk_seg dksX9_coins_0 24 rfl rfl
theorem dX9_coins_0 : decode cX9_coins 0 = .ok (.aload_n 0, 1) := dk_42 (dk_at dksX9_coins_0 0 rfl rfl)
theorem dX9_coins_1 : decode cX9_coins 1 = .ok (.getfield 16, 3) := dk_180 0 16 (dk_at dksX9_coins_0 1 rfl rfl)
theorem dX9_coins_4 : decode cX9_coins 4 = .ok (.ifCond .ne 7, 3) := dk_154 0 7 (dk_at dksX9_coins_0 4 rfl rfl)
theorem dX9_coins_7 : decode cX9_coins 7 = .ok (.iconst 0, 1) := dk_3 (dk_at dksX9_coins_0 7 rfl rfl)
theorem dX9_coins_8 : decode cX9_coins 8 = .ok (.goto 22, 3) := dk_167 0 22 (dk_at dksX9_coins_0 8 rfl rfl)
theorem dX9_coins_11 : decode cX9_coins 11 = .ok (.aload_n 0, 1) := dk_42 (dk_at dksX9_coins_0 11 rfl rfl)
theorem dX9_coins_12 : decode cX9_coins 12 = .ok (.getfield 19, 3) := dk_180 0 19 (dk_at dksX9_coins_0 12 rfl rfl)
theorem dX9_coins_15 : decode cX9_coins 15 = .ok (.aload_n 0, 1) := dk_42 (dk_at dksX9_coins_0 15 rfl rfl)
theorem dX9_coins_16 : decode cX9_coins 16 = .ok (.getfield 16, 3) := dk_180 0 16 (dk_at dksX9_coins_0 16 rfl rfl)
theorem dX9_coins_19 : decode cX9_coins 19 = .ok (.aload_n 0, 1) := dk_42 (dk_at dksX9_coins_0 19 rfl rfl)
theorem dX9_coins_20 : decode cX9_coins 20 = .ok (.invokevirtual 31, 3) := dk_182 0 31 (dk_at dksX9_coins_0 20 rfl rfl)
theorem dX9_coins_23 : decode cX9_coins 23 = .ok (.isub, 1) := dk_100 (dk_at dksX9_coins_0 23 rfl rfl)
theorem dX9_coins_24 : decode cX9_coins 24 = .ok (.imul, 1) := dk_104 (dk_at dksX9_coins_1 0 rfl rfl)
theorem dX9_coins_25 : decode cX9_coins 25 = .ok (.aload_n 0, 1) := dk_42 (dk_at dksX9_coins_1 1 rfl rfl)
theorem dX9_coins_26 : decode cX9_coins 26 = .ok (.getfield 16, 3) := dk_180 0 16 (dk_at dksX9_coins_1 2 rfl rfl)
theorem dX9_coins_29 : decode cX9_coins 29 = .ok (.idiv, 1) := dk_108 (dk_at dksX9_coins_1 5 rfl rfl)
theorem dX9_coins_30 : decode cX9_coins 30 = .ok (.ireturn, 1) := dk_172 (dk_at dksX9_coins_1 6 rfl rfl)
abbrev cX9_chips : ByteArray := prog_5_method_3_code
def yX9_chips : MethodName := ⟨RX9, "chips", "()I"⟩
def dkwX9_chips_0 : List UInt8 := [3, 42, 180, 0, 16, 7, 108, 42, 180, 0, 22, 100, 184, 0, 25, 172]
abbrev dktX9_chips_0 : List UInt8 := dkwX9_chips_0 ++ []
theorem dksX9_chips_0 : cX9_chips.data.toList.drop 0 = dktX9_chips_0 := by decide +kernel
theorem dX9_chips_0 : decode cX9_chips 0 = .ok (.iconst 0, 1) := dk_3 (dk_at dksX9_chips_0 0 rfl rfl)
theorem dX9_chips_1 : decode cX9_chips 1 = .ok (.aload_n 0, 1) := dk_42 (dk_at dksX9_chips_0 1 rfl rfl)
theorem dX9_chips_2 : decode cX9_chips 2 = .ok (.getfield 16, 3) := dk_180 0 16 (dk_at dksX9_chips_0 2 rfl rfl)
theorem dX9_chips_5 : decode cX9_chips 5 = .ok (.iconst 4, 1) := dk_7 (dk_at dksX9_chips_0 5 rfl rfl)
theorem dX9_chips_6 : decode cX9_chips 6 = .ok (.idiv, 1) := dk_108 (dk_at dksX9_chips_0 6 rfl rfl)
theorem dX9_chips_7 : decode cX9_chips 7 = .ok (.aload_n 0, 1) := dk_42 (dk_at dksX9_chips_0 7 rfl rfl)
theorem dX9_chips_8 : decode cX9_chips 8 = .ok (.getfield 22, 3) := dk_180 0 22 (dk_at dksX9_chips_0 8 rfl rfl)
theorem dX9_chips_11 : decode cX9_chips 11 = .ok (.isub, 1) := dk_100 (dk_at dksX9_chips_0 11 rfl rfl)
theorem dX9_chips_12 : decode cX9_chips 12 = .ok (.invokestatic 25, 3) := dk_184 0 25 (dk_at dksX9_chips_0 12 rfl rfl)
theorem dX9_chips_15 : decode cX9_chips 15 = .ok (.ireturn, 1) := dk_172 (dk_at dksX9_chips_0 15 rfl rfl)
abbrev cX9_told : ByteArray := prog_5_method_5_code
def yX9_told : MethodName := ⟨RX9, "told", "()Ljava/lang/String;"⟩
def dkwX9_told_3 : List UInt8 := [182, 0, 42, 176]
abbrev dktX9_told_3 : List UInt8 := dkwX9_told_3 ++ []
def dkwX9_told_2 : List UInt8 := [62, 29, 42, 180, 0, 22, 162, 0, 16, 43, 16, 58, 182, 0, 38, 77, 132, 3, 1, 167, 255, 238, 44]
abbrev dktX9_told_2 : List UInt8 := dkwX9_told_2 ++ dktX9_told_3
def dkwX9_told_1 : List UInt8 := [180, 0, 16, 162, 0, 8, 16, 35, 167, 0, 5, 16, 46, 182, 0, 38, 77, 132, 3, 1, 167, 255, 225, 3]
abbrev dktX9_told_1 : List UInt8 := dkwX9_told_1 ++ dktX9_told_2
def dkwX9_told_0 : List UInt8 := [187, 0, 35, 89, 183, 0, 37, 76, 43, 77, 3, 62, 29, 42, 180, 0, 7, 162, 0, 29, 43, 29, 42]
abbrev dktX9_told_0 : List UInt8 := dkwX9_told_0 ++ dktX9_told_1
theorem dksX9_told_0 : cX9_told.data.toList.drop 0 = dktX9_told_0 := by decide +kernel
theorem dksX9_told_1 : cX9_told.data.toList.drop 23 = dktX9_told_1 := dk_seg dksX9_told_0 23 rfl rfl
theorem dksX9_told_2 : cX9_told.data.toList.drop 47 = dktX9_told_2 := dk_seg dksX9_told_1 24 rfl rfl
theorem dksX9_told_3 : cX9_told.data.toList.drop 70 = dktX9_told_3 := dk_seg dksX9_told_2 23 rfl rfl
theorem dX9_told_0 : decode cX9_told 0 = .ok (.new 35, 3) := dk_187 0 35 (dk_at dksX9_told_0 0 rfl rfl)
theorem dX9_told_3 : decode cX9_told 3 = .ok (.dup, 1) := dk_89 (dk_at dksX9_told_0 3 rfl rfl)
theorem dX9_told_4 : decode cX9_told 4 = .ok (.invokespecial 37, 3) := dk_183 0 37 (dk_at dksX9_told_0 4 rfl rfl)
theorem dX9_told_7 : decode cX9_told 7 = .ok (.astore_n 1, 1) := dk_76 (dk_at dksX9_told_0 7 rfl rfl)
theorem dX9_told_8 : decode cX9_told 8 = .ok (.aload_n 1, 1) := dk_43 (dk_at dksX9_told_0 8 rfl rfl)
theorem dX9_told_9 : decode cX9_told 9 = .ok (.astore_n 2, 1) := dk_77 (dk_at dksX9_told_0 9 rfl rfl)
theorem dX9_told_10 : decode cX9_told 10 = .ok (.iconst 0, 1) := dk_3 (dk_at dksX9_told_0 10 rfl rfl)
theorem dX9_told_11 : decode cX9_told 11 = .ok (.istore_n 3, 1) := dk_62 (dk_at dksX9_told_0 11 rfl rfl)
theorem dX9_told_12 : decode cX9_told 12 = .ok (.iload_n 3, 1) := dk_29 (dk_at dksX9_told_0 12 rfl rfl)
theorem dX9_told_13 : decode cX9_told 13 = .ok (.aload_n 0, 1) := dk_42 (dk_at dksX9_told_0 13 rfl rfl)
theorem dX9_told_14 : decode cX9_told 14 = .ok (.getfield 7, 3) := dk_180 0 7 (dk_at dksX9_told_0 14 rfl rfl)
theorem dX9_told_17 : decode cX9_told 17 = .ok (.if_icmp .ge 29, 3) := dk_162 0 29 (dk_at dksX9_told_0 17 rfl rfl)
theorem dX9_told_20 : decode cX9_told 20 = .ok (.aload_n 1, 1) := dk_43 (dk_at dksX9_told_0 20 rfl rfl)
theorem dX9_told_21 : decode cX9_told 21 = .ok (.iload_n 3, 1) := dk_29 (dk_at dksX9_told_0 21 rfl rfl)
theorem dX9_told_22 : decode cX9_told 22 = .ok (.aload_n 0, 1) := dk_42 (dk_at dksX9_told_0 22 rfl rfl)
theorem dX9_told_23 : decode cX9_told 23 = .ok (.getfield 16, 3) := dk_180 0 16 (dk_at dksX9_told_1 0 rfl rfl)
theorem dX9_told_26 : decode cX9_told 26 = .ok (.if_icmp .ge 8, 3) := dk_162 0 8 (dk_at dksX9_told_1 3 rfl rfl)
theorem dX9_told_29 : decode cX9_told 29 = .ok (.bipush 35, 2) := dk_16 35 (dk_at dksX9_told_1 6 rfl rfl)
theorem dX9_told_31 : decode cX9_told 31 = .ok (.goto 5, 3) := dk_167 0 5 (dk_at dksX9_told_1 8 rfl rfl)
theorem dX9_told_34 : decode cX9_told 34 = .ok (.bipush 46, 2) := dk_16 46 (dk_at dksX9_told_1 11 rfl rfl)
theorem dX9_told_36 : decode cX9_told 36 = .ok (.invokevirtual 38, 3) := dk_182 0 38 (dk_at dksX9_told_1 13 rfl rfl)
theorem dX9_told_39 : decode cX9_told 39 = .ok (.astore_n 2, 1) := dk_77 (dk_at dksX9_told_1 16 rfl rfl)
theorem dX9_told_40 : decode cX9_told 40 = .ok (.iinc 3 1, 3) := dk_132 3 1 (dk_at dksX9_told_1 17 rfl rfl)
theorem dX9_told_43 : decode cX9_told 43 = .ok (.goto (-31), 3) := dk_167 255 225 (dk_at dksX9_told_1 20 rfl rfl)
theorem dX9_told_46 : decode cX9_told 46 = .ok (.iconst 0, 1) := dk_3 (dk_at dksX9_told_1 23 rfl rfl)
theorem dX9_told_47 : decode cX9_told 47 = .ok (.istore_n 3, 1) := dk_62 (dk_at dksX9_told_2 0 rfl rfl)
theorem dX9_told_48 : decode cX9_told 48 = .ok (.iload_n 3, 1) := dk_29 (dk_at dksX9_told_2 1 rfl rfl)
theorem dX9_told_49 : decode cX9_told 49 = .ok (.aload_n 0, 1) := dk_42 (dk_at dksX9_told_2 2 rfl rfl)
theorem dX9_told_50 : decode cX9_told 50 = .ok (.getfield 22, 3) := dk_180 0 22 (dk_at dksX9_told_2 3 rfl rfl)
theorem dX9_told_53 : decode cX9_told 53 = .ok (.if_icmp .ge 16, 3) := dk_162 0 16 (dk_at dksX9_told_2 6 rfl rfl)
theorem dX9_told_56 : decode cX9_told 56 = .ok (.aload_n 1, 1) := dk_43 (dk_at dksX9_told_2 9 rfl rfl)
theorem dX9_told_57 : decode cX9_told 57 = .ok (.bipush 58, 2) := dk_16 58 (dk_at dksX9_told_2 10 rfl rfl)
theorem dX9_told_59 : decode cX9_told 59 = .ok (.invokevirtual 38, 3) := dk_182 0 38 (dk_at dksX9_told_2 12 rfl rfl)
theorem dX9_told_62 : decode cX9_told 62 = .ok (.astore_n 2, 1) := dk_77 (dk_at dksX9_told_2 15 rfl rfl)
theorem dX9_told_63 : decode cX9_told 63 = .ok (.iinc 3 1, 3) := dk_132 3 1 (dk_at dksX9_told_2 16 rfl rfl)
theorem dX9_told_66 : decode cX9_told 66 = .ok (.goto (-18), 3) := dk_167 255 238 (dk_at dksX9_told_2 19 rfl rfl)
theorem dX9_told_69 : decode cX9_told 69 = .ok (.aload_n 2, 1) := dk_44 (dk_at dksX9_told_2 22 rfl rfl)
theorem dX9_told_70 : decode cX9_told 70 = .ok (.invokevirtual 42, 3) := dk_182 0 42 (dk_at dksX9_told_3 0 rfl rfl)
theorem dX9_told_73 : decode cX9_told 73 = .ok (.areturn, 1) := dk_176 (dk_at dksX9_told_3 3 rfl rfl)
theorem q85 : (Jvm.Cond.initialized "WillowPrinters$Crate") ∈ lw_all := lw_g (lw_at lw_m1 31 rfl) rfl
theorem q818 : (Jvm.Cond.selects "WillowPrinters$Crate" ({ cls := "java/lang/Object", name := "getClass", desc := "()Ljava/lang/Class;" } : Jvm.MethodName) ({ cls := "java/lang/Object", name := "getClass", desc := "()Ljava/lang/Class;" } : Jvm.MethodName)) ∈ lw_all := lw_g (lw_at lw_m4 44 rfl) rfl
theorem q912 : (Jvm.Cond.instanceMethod ({ cls := "WillowPrinters$Crate", name := "copy", desc := "()LWillowPrinters$Crate;" } : Jvm.MethodName)) ∈ lw_all := lw_g (lw_at lw_m4 138 rfl) rfl
theorem q913 : (Jvm.Cond.selects "WillowPrinters$Crate" ({ cls := "WillowPrinters$Crate", name := "copy", desc := "()LWillowPrinters$Crate;" } : Jvm.MethodName) ({ cls := "WillowPrinters$Crate", name := "copy", desc := "()LWillowPrinters$Crate;" } : Jvm.MethodName)) ∈ lw_all := lw_g (lw_at lw_m4 139 rfl) rfl
theorem q914 : (Jvm.Cond.code ({ cls := "WillowPrinters$Crate", name := "copy", desc := "()LWillowPrinters$Crate;" } : Jvm.MethodName) prog_5_method_2_code (2 : Nat) (Option.some (Jvm.ClassFile.FieldType.object "WillowPrinters$Crate"))) ∈ lw_all := lw_g (lw_at lw_m4 140 rfl) rfl
theorem q915 : (Jvm.Cond.classLink "WillowPrinters$Crate" (8 : Nat) "WillowPrinters$Crate") ∈ lw_all := lw_g (lw_at lw_m4 141 rfl) rfl
theorem q916 : (Jvm.Cond.instantiable "WillowPrinters$Crate" (4 : Nat)) ∈ lw_all := lw_g (lw_at lw_m4 142 rfl) rfl
theorem q917 : (Jvm.Cond.methodLink "WillowPrinters$Crate" (13 : Nat) ({ cls := "WillowPrinters$Crate", name := "<init>", desc := "(I)V" } : Jvm.MethodName)) ∈ lw_all := lw_g (lw_at lw_m4 143 rfl) rfl
theorem q918 : (Jvm.Cond.instanceMethod ({ cls := "WillowPrinters$Crate", name := "<init>", desc := "(I)V" } : Jvm.MethodName)) ∈ lw_all := lw_g (lw_at lw_m4 144 rfl) rfl
theorem q919 : (Jvm.Cond.code ({ cls := "WillowPrinters$Crate", name := "<init>", desc := "(I)V" } : Jvm.MethodName) prog_5_method_1_code (2 : Nat) (Option.none : Option Jvm.ClassFile.FieldType)) ∈ lw_all := lw_g (lw_at lw_m4 145 rfl) rfl
theorem q920 : (Jvm.Cond.methodLink "WillowPrinters$Crate" (1 : Nat) ({ cls := "java/lang/Object", name := "<init>", desc := "()V" } : Jvm.MethodName)) ∈ lw_all := lw_g (lw_at lw_m4 146 rfl) rfl
theorem q921 : (Jvm.Cond.fieldLink "WillowPrinters$Crate" (7 : Nat) "WillowPrinters$Crate" "room" "I") ∈ lw_all := lw_g (lw_at lw_m4 147 rfl) rfl
theorem q924 : (Jvm.Cond.fieldLink "WillowPrinters$Crate" (16 : Nat) "WillowPrinters$Crate" "plates" "I") ∈ lw_all := lw_g (lw_at lw_m4 150 rfl) rfl
theorem q927 : (Jvm.Cond.fieldLink "WillowPrinters$Crate" (19 : Nat) "WillowPrinters$Crate" "worth" "I") ∈ lw_all := lw_g (lw_at lw_m4 153 rfl) rfl
theorem q930 : (Jvm.Cond.fieldLink "WillowPrinters$Crate" (22 : Nat) "WillowPrinters$Crate" "straw" "I") ∈ lw_all := lw_g (lw_at lw_m4 156 rfl) rfl
theorem q933 : (Jvm.Cond.laysFinal "WillowPrinters$Crate" "WillowPrinters$Crate" "room" "I") ∈ lw_all := lw_g (lw_at lw_m4 159 rfl) rfl
theorem q934 : (Jvm.Cond.soleField "WillowPrinters$Crate" "room") ∈ lw_all := lw_g (lw_at lw_m4 160 rfl) rfl
theorem q935 : (Jvm.Cond.lays "WillowPrinters$Crate" "WillowPrinters$Crate" "plates" "I") ∈ lw_all := lw_g (lw_at lw_m4 161 rfl) rfl
theorem q936 : (Jvm.Cond.soleField "WillowPrinters$Crate" "plates") ∈ lw_all := lw_g (lw_at lw_m4 162 rfl) rfl
theorem q937 : (Jvm.Cond.lays "WillowPrinters$Crate" "WillowPrinters$Crate" "worth" "I") ∈ lw_all := lw_g (lw_at lw_m4 163 rfl) rfl
theorem q938 : (Jvm.Cond.soleField "WillowPrinters$Crate" "worth") ∈ lw_all := lw_g (lw_at lw_m4 164 rfl) rfl
theorem q939 : (Jvm.Cond.lays "WillowPrinters$Crate" "WillowPrinters$Crate" "straw" "I") ∈ lw_all := lw_g (lw_at lw_m4 165 rfl) rfl
theorem q940 : (Jvm.Cond.soleField "WillowPrinters$Crate" "straw") ∈ lw_all := lw_g (lw_at lw_m4 166 rfl) rfl
theorem q941 : (Jvm.Cond.superclass "WillowPrinters$Crate" "java/lang/Object") ∈ lw_all := lw_g (lw_at lw_m4 167 rfl) rfl
theorem q1438 : (Jvm.Cond.instanceMethod ({ cls := "WillowPrinters$Crate", name := "coins", desc := "()I" } : Jvm.MethodName)) ∈ lw_all := lw_g (lw_at lw_m6 184 rfl) rfl
theorem q1439 : (Jvm.Cond.selects "WillowPrinters$Crate" ({ cls := "WillowPrinters$Crate", name := "coins", desc := "()I" } : Jvm.MethodName) ({ cls := "WillowPrinters$Crate", name := "coins", desc := "()I" } : Jvm.MethodName)) ∈ lw_all := lw_g (lw_at lw_m6 185 rfl) rfl
theorem q1440 : (Jvm.Cond.code ({ cls := "WillowPrinters$Crate", name := "coins", desc := "()I" } : Jvm.MethodName) prog_5_method_4_code (1 : Nat) (Option.some Jvm.ClassFile.FieldType.int)) ∈ lw_all := lw_g (lw_at lw_m6 186 rfl) rfl
theorem q1441 : (Jvm.Cond.methodLink "WillowPrinters$Crate" (31 : Nat) ({ cls := "WillowPrinters$Crate", name := "chips", desc := "()I" } : Jvm.MethodName)) ∈ lw_all := lw_g (lw_at lw_m6 187 rfl) rfl
theorem q1442 : (Jvm.Cond.instanceMethod ({ cls := "WillowPrinters$Crate", name := "chips", desc := "()I" } : Jvm.MethodName)) ∈ lw_all := lw_g (lw_at lw_m6 188 rfl) rfl
theorem q1443 : (Jvm.Cond.selects "WillowPrinters$Crate" ({ cls := "WillowPrinters$Crate", name := "chips", desc := "()I" } : Jvm.MethodName) ({ cls := "WillowPrinters$Crate", name := "chips", desc := "()I" } : Jvm.MethodName)) ∈ lw_all := lw_g (lw_at lw_m6 189 rfl) rfl
theorem q1444 : (Jvm.Cond.code ({ cls := "WillowPrinters$Crate", name := "chips", desc := "()I" } : Jvm.MethodName) prog_5_method_3_code (1 : Nat) (Option.some Jvm.ClassFile.FieldType.int)) ∈ lw_all := lw_g (lw_at lw_m6 190 rfl) rfl
theorem q1445 : (Jvm.Cond.methodLink "WillowPrinters$Crate" (25 : Nat) ({ cls := "java/lang/Math", name := "max", desc := "(II)I" } : Jvm.MethodName)) ∈ lw_all := lw_g (lw_at lw_m6 191 rfl) rfl
theorem q1621 : (Jvm.Cond.instanceMethod ({ cls := "WillowPrinters$Crate", name := "told", desc := "()Ljava/lang/String;" } : Jvm.MethodName)) ∈ lw_all := lw_g (lw_at lw_m7 127 rfl) rfl
theorem q1622 : (Jvm.Cond.selects "WillowPrinters$Crate" ({ cls := "WillowPrinters$Crate", name := "told", desc := "()Ljava/lang/String;" } : Jvm.MethodName) ({ cls := "WillowPrinters$Crate", name := "told", desc := "()Ljava/lang/String;" } : Jvm.MethodName)) ∈ lw_all := lw_g (lw_at lw_m7 128 rfl) rfl
theorem q1623 : (Jvm.Cond.code ({ cls := "WillowPrinters$Crate", name := "told", desc := "()Ljava/lang/String;" } : Jvm.MethodName) prog_5_method_5_code (4 : Nat) (Option.some (Jvm.ClassFile.FieldType.object "java/lang/String"))) ∈ lw_all := lw_g (lw_at lw_m7 129 rfl) rfl
theorem q1624 : (Jvm.Cond.classLink "WillowPrinters$Crate" (35 : Nat) "java/lang/StringBuilder") ∈ lw_all := lw_g (lw_at lw_m7 130 rfl) rfl
theorem q1625 : (Jvm.Cond.methodLink "WillowPrinters$Crate" (37 : Nat) ({ cls := "java/lang/StringBuilder", name := "<init>", desc := "()V" } : Jvm.MethodName)) ∈ lw_all := lw_g (lw_at lw_m7 131 rfl) rfl
theorem q1626 : (Jvm.Cond.methodLink "WillowPrinters$Crate" (38 : Nat) ({ cls := "java/lang/StringBuilder", name := "append", desc := "(C)Ljava/lang/StringBuilder;" } : Jvm.MethodName)) ∈ lw_all := lw_g (lw_at lw_m7 132 rfl) rfl
theorem q1627 : (Jvm.Cond.methodLink "WillowPrinters$Crate" (42 : Nat) ({ cls := "java/lang/StringBuilder", name := "toString", desc := "()Ljava/lang/String;" } : Jvm.MethodName)) ∈ lw_all := lw_g (lw_at lw_m7 133 rfl) rfl
theorem q2345 : (Jvm.Cond.castable "WillowPrinters$Crate" "java/lang/Object") ∈ lw_tbl := lw_at lw_m10 131 rfl
theorem in_X9 : ∀ w ∈ wsX90, w ∈ lw_all := lw_in wsX90 [933, 935, 937, 939] (by decide +kernel) (by decide +kernel)

/-! WillowPrinters$Stage -/
set_option maxRecDepth 100000
def RX10 : String := "WillowPrinters$Stage"
abbrev cX10_check : ByteArray := prog_15_method_5_code
def yX10_check : MethodName := ⟨RX10, "check", "(LWillowPrinters$Lot;)V"⟩
def dkwX10_check_1 : List UInt8 := [182, 0, 47, 184, 0, 51, 177]
abbrev dktX10_check_1 : List UInt8 := dkwX10_check_1 ++ []
def dkwX10_check_0 : List UInt8 := [43, 180, 0, 35, 185, 0, 41, 1, 0, 77, 44, 42, 166, 0, 7, 4, 167, 0, 4, 3, 4, 44]
abbrev dktX10_check_0 : List UInt8 := dkwX10_check_0 ++ dktX10_check_1
theorem dksX10_check_0 : cX10_check.data.toList.drop 0 = dktX10_check_0 := by decide +kernel
theorem dksX10_check_1 : cX10_check.data.toList.drop 22 = dktX10_check_1 := dk_seg dksX10_check_0 22 rfl rfl
theorem dX10_check_0 : decode cX10_check 0 = .ok (.aload_n 1, 1) := dk_43 (dk_at dksX10_check_0 0 rfl rfl)
theorem dX10_check_1 : decode cX10_check 1 = .ok (.getfield 35, 3) := dk_180 0 35 (dk_at dksX10_check_0 1 rfl rfl)
theorem dX10_check_4 : decode cX10_check 4 = .ok (.invokeinterface 41 1, 5) := by decide +kernel
theorem dX10_check_9 : decode cX10_check 9 = .ok (.astore_n 2, 1) := dk_77 (dk_at dksX10_check_0 9 rfl rfl)
theorem dX10_check_10 : decode cX10_check 10 = .ok (.aload_n 2, 1) := dk_44 (dk_at dksX10_check_0 10 rfl rfl)
theorem dX10_check_11 : decode cX10_check 11 = .ok (.aload_n 0, 1) := dk_42 (dk_at dksX10_check_0 11 rfl rfl)
theorem dX10_check_12 : decode cX10_check 12 = .ok (.if_acmp .ne 7, 3) := dk_166 0 7 (dk_at dksX10_check_0 12 rfl rfl)
theorem dX10_check_15 : decode cX10_check 15 = .ok (.iconst 1, 1) := dk_4 (dk_at dksX10_check_0 15 rfl rfl)
theorem dX10_check_16 : decode cX10_check 16 = .ok (.goto 4, 3) := dk_167 0 4 (dk_at dksX10_check_0 16 rfl rfl)
theorem dX10_check_19 : decode cX10_check 19 = .ok (.iconst 0, 1) := dk_3 (dk_at dksX10_check_0 19 rfl rfl)
theorem dX10_check_20 : decode cX10_check 20 = .ok (.iconst 1, 1) := dk_4 (dk_at dksX10_check_0 20 rfl rfl)
theorem dX10_check_21 : decode cX10_check 21 = .ok (.aload_n 2, 1) := dk_44 (dk_at dksX10_check_0 21 rfl rfl)
theorem dX10_check_22 : decode cX10_check 22 = .ok (.invokevirtual 47, 3) := dk_182 0 47 (dk_at dksX10_check_1 0 rfl rfl)
theorem dX10_check_25 : decode cX10_check 25 = .ok (.invokestatic 51, 3) := dk_184 0 51 (dk_at dksX10_check_1 3 rfl rfl)
theorem dX10_check_28 : decode cX10_check 28 = .ok (.return_, 1) := dk_177 (dk_at dksX10_check_1 6 rfl rfl)
theorem q92 : (Jvm.Cond.initialized "WillowPrinters$Stage") ∈ lw_all := lw_g (lw_at lw_m1 38 rfl) rfl
theorem q878 : (Jvm.Cond.fieldLinkNest "WillowPrinters$Stage" (35 : Nat) "WillowPrinters$Lot" "state" "LWillowPrinters$State;" "WillowPrinters") ∈ lw_tbl := lw_at lw_m4 104 rfl
theorem q1196 : (Jvm.Cond.laysStatic "WillowPrinters$Stage" "BURNING" "LWillowPrinters$Stage;") ∈ lw_tbl := lw_at lw_m5 182 rfl
theorem q1204 : (Jvm.Cond.laysStatic "WillowPrinters$Stage" "FIRED" "LWillowPrinters$Stage;") ∈ lw_tbl := lw_at lw_m5 190 rfl
theorem q1212 : (Jvm.Cond.laysStatic "WillowPrinters$Stage" "PLAIN" "LWillowPrinters$Stage;") ∈ lw_tbl := lw_at lw_m5 198 rfl
theorem q1220 : (Jvm.Cond.laysStatic "WillowPrinters$Stage" "PRINTED" "LWillowPrinters$Stage;") ∈ lw_tbl := lw_at lw_m5 206 rfl
theorem q1222 : (Jvm.Cond.sameMethod "WillowPrinters$Stage" "java/lang/Enum" "ordinal" "()I") ∈ lw_all := lw_g (lw_at lw_m5 208 rfl) rfl
theorem q1284 : (Jvm.Cond.instanceMethod ({ cls := "WillowPrinters$Stage", name := "check", desc := "(LWillowPrinters$Lot;)V" } : Jvm.MethodName)) ∈ lw_all := lw_g (lw_at lw_m6 30 rfl) rfl
theorem q1285 : (Jvm.Cond.sameMethod "WillowPrinters$Stage" "WillowPrinters$Stage" "check" "(LWillowPrinters$Lot;)V") ∈ lw_all := lw_g (lw_at lw_m6 31 rfl) rfl
theorem q1290 : (Jvm.Cond.code ({ cls := "WillowPrinters$Stage", name := "check", desc := "(LWillowPrinters$Lot;)V" } : Jvm.MethodName) prog_15_method_5_code (3 : Nat) (Option.none : Option Jvm.ClassFile.FieldType)) ∈ lw_all := lw_g (lw_at lw_m6 36 rfl) rfl
theorem q1291 : (Jvm.Cond.interfaceEntry "WillowPrinters$Stage" (41 : Nat)) ∈ lw_tbl := lw_at lw_m6 37 rfl
theorem q1292 : (Jvm.Cond.methodLink "WillowPrinters$Stage" (41 : Nat) ({ cls := "WillowPrinters$State", name := "stage", desc := "()LWillowPrinters$Stage;" } : Jvm.MethodName)) ∈ lw_all := lw_g (lw_at lw_m6 38 rfl) rfl
theorem q1293 : (Jvm.Cond.methodLink "WillowPrinters$Stage" (47 : Nat) ({ cls := "WillowPrinters$Stage", name := "ordinal", desc := "()I" } : Jvm.MethodName)) ∈ lw_all := lw_g (lw_at lw_m6 39 rfl) rfl
theorem q1294 : (Jvm.Cond.methodLink "WillowPrinters$Stage" (51 : Nat) ({ cls := "WillowPrinters$Refused", name := "check", desc := "(ZII)V" } : Jvm.MethodName)) ∈ lw_all := lw_g (lw_at lw_m6 40 rfl) rfl
theorem q1588 : (Jvm.Cond.declares ({ cls := "WillowPrinters$Stage", name := "told", desc := "()Ljava/lang/String;" } : Jvm.MethodName)) ∈ lw_tbl := lw_at lw_m7 94 rfl
theorem q1589 : (Jvm.Cond.sameMethod "WillowPrinters$Stage" "WillowPrinters$Stage" "told" "()Ljava/lang/String;") ∈ lw_all := lw_g (lw_at lw_m7 95 rfl) rfl
theorem q2364 : (Jvm.Cond.castable "WillowPrinters$Stage" "java/lang/Object") ∈ lw_tbl := lw_at lw_m10 150 rfl

/-! WillowPrinters$Printed -/
set_option maxRecDepth 100000
def RX11 : String := "WillowPrinters$Printed"
def TX11 : u_T := fun k => match k with
  | _ => ("WillowPrinters$Printed", "well", "I", true)
def tyX11 : Nat → FieldType := fun k => match k with
  | _ => .int
abbrev wsX110 : List Cond := u_ws RX11 TX11 1
theorem nmX11 : ∀ a, a < 1 → ∀ b, b < 1 → a ≠ b → (TX11 a).2.1 ≠ (TX11 b).2.1 := by decide +kernel
theorem tyX11_ok : ∀ k, k < 1 → parseFieldDescriptor (TX11 k).2.2.1 = some (tyX11 k) := by decide +kernel
abbrev cX11_stage : ByteArray := prog_13_method_2_code
def yX11_stage : MethodName := ⟨RX11, "stage", "()LWillowPrinters$Stage;"⟩
theorem dX11_stage_0 : decode cX11_stage 0 = .ok (.getstatic 13, 3) := by decide +kernel
theorem dX11_stage_3 : decode cX11_stage 3 = .ok (.areturn, 1) := by decide +kernel
abbrev cX11_well : ByteArray := prog_13_method_3_code
def yX11_well : MethodName := ⟨RX11, "well", "()I"⟩
theorem dX11_well_0 : decode cX11_well 0 = .ok (.aload_n 0, 1) := by decide +kernel
theorem dX11_well_1 : decode cX11_well 1 = .ok (.getfield 7, 3) := by decide +kernel
theorem dX11_well_4 : decode cX11_well 4 = .ok (.ireturn, 1) := by decide +kernel
abbrev cX11_init : ByteArray := prog_13_method_1_code
def yX11_init : MethodName := ⟨RX11, "<init>", "(I)V"⟩
def dkwX11_init_0 : List UInt8 := [42, 183, 0, 1, 42, 27, 181, 0, 7, 177]
abbrev dktX11_init_0 : List UInt8 := dkwX11_init_0 ++ []
theorem dksX11_init_0 : cX11_init.data.toList.drop 0 = dktX11_init_0 := by decide +kernel
theorem dX11_init_0 : decode cX11_init 0 = .ok (.aload_n 0, 1) := dk_42 (dk_at dksX11_init_0 0 rfl rfl)
theorem dX11_init_1 : decode cX11_init 1 = .ok (.invokespecial 1, 3) := dk_183 0 1 (dk_at dksX11_init_0 1 rfl rfl)
theorem dX11_init_4 : decode cX11_init 4 = .ok (.aload_n 0, 1) := dk_42 (dk_at dksX11_init_0 4 rfl rfl)
theorem dX11_init_5 : decode cX11_init 5 = .ok (.iload_n 1, 1) := dk_27 (dk_at dksX11_init_0 5 rfl rfl)
theorem dX11_init_6 : decode cX11_init 6 = .ok (.putfield 7, 3) := dk_181 0 7 (dk_at dksX11_init_0 6 rfl rfl)
theorem dX11_init_9 : decode cX11_init 9 = .ok (.return_, 1) := dk_177 (dk_at dksX11_init_0 9 rfl rfl)
theorem q93 : (Jvm.Cond.initialized "WillowPrinters$Printed") ∈ lw_all := lw_g (lw_at lw_m1 39 rfl) rfl
theorem q825 : (Jvm.Cond.selects "WillowPrinters$Printed" ({ cls := "java/lang/Object", name := "getClass", desc := "()Ljava/lang/Class;" } : Jvm.MethodName) ({ cls := "java/lang/Object", name := "getClass", desc := "()Ljava/lang/Class;" } : Jvm.MethodName)) ∈ lw_all := lw_g (lw_at lw_m4 51 rfl) rfl
theorem q1213 : (Jvm.Cond.castable "WillowPrinters$Printed" "WillowPrinters$State") ∈ lw_tbl := lw_at lw_m5 199 rfl
theorem q1214 : (Jvm.Cond.selects "WillowPrinters$Printed" ({ cls := "WillowPrinters$State", name := "stage", desc := "()LWillowPrinters$Stage;" } : Jvm.MethodName) ({ cls := "WillowPrinters$Printed", name := "stage", desc := "()LWillowPrinters$Stage;" } : Jvm.MethodName)) ∈ lw_all := lw_g (lw_at lw_m5 200 rfl) rfl
theorem q1215 : (Jvm.Cond.unhidden "WillowPrinters$Printed" "stage" "()LWillowPrinters$Stage;") ∈ lw_tbl := lw_at lw_m5 201 rfl
theorem q1216 : (Jvm.Cond.instanceMethod ({ cls := "WillowPrinters$Printed", name := "stage", desc := "()LWillowPrinters$Stage;" } : Jvm.MethodName)) ∈ lw_all := lw_g (lw_at lw_m5 202 rfl) rfl
theorem q1217 : (Jvm.Cond.publicMethod ({ cls := "WillowPrinters$Printed", name := "stage", desc := "()LWillowPrinters$Stage;" } : Jvm.MethodName)) ∈ lw_tbl := lw_at lw_m5 203 rfl
theorem q1218 : (Jvm.Cond.code ({ cls := "WillowPrinters$Printed", name := "stage", desc := "()LWillowPrinters$Stage;" } : Jvm.MethodName) prog_13_method_2_code (1 : Nat) (Option.some (Jvm.ClassFile.FieldType.object "WillowPrinters$Stage"))) ∈ lw_all := lw_g (lw_at lw_m5 204 rfl) rfl
theorem q1219 : (Jvm.Cond.fieldLink "WillowPrinters$Printed" (13 : Nat) "WillowPrinters$Stage" "PRINTED" "LWillowPrinters$Stage;") ∈ lw_all := lw_g (lw_at lw_m5 205 rfl) rfl
theorem q1248 : (Jvm.Cond.selects "WillowPrinters$Printed" ({ cls := "WillowPrinters$State", name := "well", desc := "()I" } : Jvm.MethodName) ({ cls := "WillowPrinters$Printed", name := "well", desc := "()I" } : Jvm.MethodName)) ∈ lw_all := lw_g (lw_at lw_m5 234 rfl) rfl
theorem q1249 : (Jvm.Cond.unhidden "WillowPrinters$Printed" "well" "()I") ∈ lw_tbl := lw_at lw_m5 235 rfl
theorem q1250 : (Jvm.Cond.instanceMethod ({ cls := "WillowPrinters$Printed", name := "well", desc := "()I" } : Jvm.MethodName)) ∈ lw_all := lw_g (lw_at lw_m5 236 rfl) rfl
theorem q1251 : (Jvm.Cond.publicMethod ({ cls := "WillowPrinters$Printed", name := "well", desc := "()I" } : Jvm.MethodName)) ∈ lw_tbl := lw_at lw_m5 237 rfl
theorem q1252 : (Jvm.Cond.code ({ cls := "WillowPrinters$Printed", name := "well", desc := "()I" } : Jvm.MethodName) prog_13_method_3_code (1 : Nat) (Option.some Jvm.ClassFile.FieldType.int)) ∈ lw_all := lw_g (lw_at lw_m5 238 rfl) rfl
theorem q1297 : (Jvm.Cond.instantiable "WillowPrinters$Printed" (1 : Nat)) ∈ lw_all := lw_g (lw_at lw_m6 43 rfl) rfl
theorem q1299 : (Jvm.Cond.instanceMethod ({ cls := "WillowPrinters$Printed", name := "<init>", desc := "(I)V" } : Jvm.MethodName)) ∈ lw_all := lw_g (lw_at lw_m6 45 rfl) rfl
theorem q1300 : (Jvm.Cond.code ({ cls := "WillowPrinters$Printed", name := "<init>", desc := "(I)V" } : Jvm.MethodName) prog_13_method_1_code (2 : Nat) (Option.none : Option Jvm.ClassFile.FieldType)) ∈ lw_all := lw_g (lw_at lw_m6 46 rfl) rfl
theorem q1301 : (Jvm.Cond.methodLink "WillowPrinters$Printed" (1 : Nat) ({ cls := "java/lang/Object", name := "<init>", desc := "()V" } : Jvm.MethodName)) ∈ lw_all := lw_g (lw_at lw_m6 47 rfl) rfl
theorem q1302 : (Jvm.Cond.fieldLink "WillowPrinters$Printed" (7 : Nat) "WillowPrinters$Printed" "well" "I") ∈ lw_all := lw_g (lw_at lw_m6 48 rfl) rfl
theorem q1303 : (Jvm.Cond.laysFinal "WillowPrinters$Printed" "WillowPrinters$Printed" "well" "I") ∈ lw_all := lw_g (lw_at lw_m6 49 rfl) rfl
theorem q1304 : (Jvm.Cond.soleField "WillowPrinters$Printed" "well") ∈ lw_all := lw_g (lw_at lw_m6 50 rfl) rfl
theorem q1305 : (Jvm.Cond.superclass "WillowPrinters$Printed" "java/lang/Object") ∈ lw_all := lw_g (lw_at lw_m6 51 rfl) rfl
theorem q2351 : (Jvm.Cond.castable "WillowPrinters$Printed" "java/lang/Object") ∈ lw_tbl := lw_at lw_m10 137 rfl
theorem in_X11 : ∀ w ∈ wsX110, w ∈ lw_all := lw_in wsX110 [1303] (by decide +kernel) (by decide +kernel)

/-! WillowPrinters$Burning -/
set_option maxRecDepth 100000
def RX12 : String := "WillowPrinters$Burning"
def TX12 : u_T := fun k => match k with
  | 0 => ("WillowPrinters$Burning", "well", "I", true)
  | 1 => ("WillowPrinters$Burning", "kiln", "I", true)
  | 2 => ("WillowPrinters$Burning", "cone", "I", true)
  | _ => ("WillowPrinters$Burning", "hours", "I", true)
def tyX12 : Nat → FieldType := fun k => match k with
  | 0 => .int
  | 1 => .int
  | 2 => .int
  | _ => .int
abbrev wsX120 : List Cond := u_ws RX12 TX12 4
theorem nmX12 : ∀ a, a < 4 → ∀ b, b < 4 → a ≠ b → (TX12 a).2.1 ≠ (TX12 b).2.1 := by decide +kernel
theorem tyX12_ok : ∀ k, k < 4 → parseFieldDescriptor (TX12 k).2.2.1 = some (tyX12 k) := by decide +kernel
abbrev cX12_stage : ByteArray := prog_2_method_2_code
def yX12_stage : MethodName := ⟨RX12, "stage", "()LWillowPrinters$Stage;"⟩
theorem dX12_stage_0 : decode cX12_stage 0 = .ok (.getstatic 22, 3) := by decide +kernel
theorem dX12_stage_3 : decode cX12_stage 3 = .ok (.areturn, 1) := by decide +kernel
abbrev cX12_well : ByteArray := prog_2_method_3_code
def yX12_well : MethodName := ⟨RX12, "well", "()I"⟩
theorem dX12_well_0 : decode cX12_well 0 = .ok (.aload_n 0, 1) := by decide +kernel
theorem dX12_well_1 : decode cX12_well 1 = .ok (.getfield 7, 3) := by decide +kernel
theorem dX12_well_4 : decode cX12_well 4 = .ok (.ireturn, 1) := by decide +kernel
abbrev cX12_init : ByteArray := prog_2_method_1_code
def yX12_init : MethodName := ⟨RX12, "<init>", "(IIII)V"⟩
def dkwX12_init_1 : List UInt8 := [181, 0, 19, 177]
abbrev dktX12_init_1 : List UInt8 := dkwX12_init_1 ++ []
def dkwX12_init_0 : List UInt8 := [42, 183, 0, 1, 42, 27, 181, 0, 7, 42, 28, 181, 0, 13, 42, 29, 181, 0, 16, 42, 21, 4]
abbrev dktX12_init_0 : List UInt8 := dkwX12_init_0 ++ dktX12_init_1
theorem dksX12_init_0 : cX12_init.data.toList.drop 0 = dktX12_init_0 := by decide +kernel
theorem dksX12_init_1 : cX12_init.data.toList.drop 22 = dktX12_init_1 := dk_seg dksX12_init_0 22 rfl rfl
theorem dX12_init_0 : decode cX12_init 0 = .ok (.aload_n 0, 1) := dk_42 (dk_at dksX12_init_0 0 rfl rfl)
theorem dX12_init_1 : decode cX12_init 1 = .ok (.invokespecial 1, 3) := dk_183 0 1 (dk_at dksX12_init_0 1 rfl rfl)
theorem dX12_init_4 : decode cX12_init 4 = .ok (.aload_n 0, 1) := dk_42 (dk_at dksX12_init_0 4 rfl rfl)
theorem dX12_init_5 : decode cX12_init 5 = .ok (.iload_n 1, 1) := dk_27 (dk_at dksX12_init_0 5 rfl rfl)
theorem dX12_init_6 : decode cX12_init 6 = .ok (.putfield 7, 3) := dk_181 0 7 (dk_at dksX12_init_0 6 rfl rfl)
theorem dX12_init_9 : decode cX12_init 9 = .ok (.aload_n 0, 1) := dk_42 (dk_at dksX12_init_0 9 rfl rfl)
theorem dX12_init_10 : decode cX12_init 10 = .ok (.iload_n 2, 1) := dk_28 (dk_at dksX12_init_0 10 rfl rfl)
theorem dX12_init_11 : decode cX12_init 11 = .ok (.putfield 13, 3) := dk_181 0 13 (dk_at dksX12_init_0 11 rfl rfl)
theorem dX12_init_14 : decode cX12_init 14 = .ok (.aload_n 0, 1) := dk_42 (dk_at dksX12_init_0 14 rfl rfl)
theorem dX12_init_15 : decode cX12_init 15 = .ok (.iload_n 3, 1) := dk_29 (dk_at dksX12_init_0 15 rfl rfl)
theorem dX12_init_16 : decode cX12_init 16 = .ok (.putfield 16, 3) := dk_181 0 16 (dk_at dksX12_init_0 16 rfl rfl)
theorem dX12_init_19 : decode cX12_init 19 = .ok (.aload_n 0, 1) := dk_42 (dk_at dksX12_init_0 19 rfl rfl)
theorem dX12_init_20 : decode cX12_init 20 = .ok (.iload 4, 2) := dk_21 4 (dk_at dksX12_init_0 20 rfl rfl)
theorem dX12_init_22 : decode cX12_init 22 = .ok (.putfield 19, 3) := dk_181 0 19 (dk_at dksX12_init_1 0 rfl rfl)
theorem dX12_init_25 : decode cX12_init 25 = .ok (.return_, 1) := dk_177 (dk_at dksX12_init_1 3 rfl rfl)
abbrev cX12_later : ByteArray := prog_2_method_4_code
def yX12_later : MethodName := ⟨RX12, "later", "()LWillowPrinters$State;"⟩
def dkwX12_later_2 : List UInt8 := [100, 183, 0, 33, 176]
abbrev dktX12_later_2 : List UInt8 := dkwX12_later_2 ++ []
def dkwX12_later_1 : List UInt8 := [167, 0, 28, 187, 0, 8, 89, 42, 180, 0, 7, 42, 180, 0, 13, 42, 180, 0, 16, 42, 180, 0, 19, 4]
abbrev dktX12_later_1 : List UInt8 := dkwX12_later_1 ++ dktX12_later_2
def dkwX12_later_0 : List UInt8 := [42, 180, 0, 19, 4, 160, 0, 21, 187, 0, 28, 89, 42, 180, 0, 7, 42, 180, 0, 16, 183, 0, 30]
abbrev dktX12_later_0 : List UInt8 := dkwX12_later_0 ++ dktX12_later_1
theorem dksX12_later_0 : cX12_later.data.toList.drop 0 = dktX12_later_0 := by decide +kernel
theorem dksX12_later_1 : cX12_later.data.toList.drop 23 = dktX12_later_1 := dk_seg dksX12_later_0 23 rfl rfl
theorem dksX12_later_2 : cX12_later.data.toList.drop 47 = dktX12_later_2 := dk_seg dksX12_later_1 24 rfl rfl
theorem dX12_later_0 : decode cX12_later 0 = .ok (.aload_n 0, 1) := dk_42 (dk_at dksX12_later_0 0 rfl rfl)
theorem dX12_later_1 : decode cX12_later 1 = .ok (.getfield 19, 3) := dk_180 0 19 (dk_at dksX12_later_0 1 rfl rfl)
theorem dX12_later_4 : decode cX12_later 4 = .ok (.iconst 1, 1) := dk_4 (dk_at dksX12_later_0 4 rfl rfl)
theorem dX12_later_5 : decode cX12_later 5 = .ok (.if_icmp .ne 21, 3) := dk_160 0 21 (dk_at dksX12_later_0 5 rfl rfl)
theorem dX12_later_8 : decode cX12_later 8 = .ok (.new 28, 3) := dk_187 0 28 (dk_at dksX12_later_0 8 rfl rfl)
theorem dX12_later_11 : decode cX12_later 11 = .ok (.dup, 1) := dk_89 (dk_at dksX12_later_0 11 rfl rfl)
theorem dX12_later_12 : decode cX12_later 12 = .ok (.aload_n 0, 1) := dk_42 (dk_at dksX12_later_0 12 rfl rfl)
theorem dX12_later_13 : decode cX12_later 13 = .ok (.getfield 7, 3) := dk_180 0 7 (dk_at dksX12_later_0 13 rfl rfl)
theorem dX12_later_16 : decode cX12_later 16 = .ok (.aload_n 0, 1) := dk_42 (dk_at dksX12_later_0 16 rfl rfl)
theorem dX12_later_17 : decode cX12_later 17 = .ok (.getfield 16, 3) := dk_180 0 16 (dk_at dksX12_later_0 17 rfl rfl)
theorem dX12_later_20 : decode cX12_later 20 = .ok (.invokespecial 30, 3) := dk_183 0 30 (dk_at dksX12_later_0 20 rfl rfl)
theorem dX12_later_23 : decode cX12_later 23 = .ok (.goto 28, 3) := dk_167 0 28 (dk_at dksX12_later_1 0 rfl rfl)
theorem dX12_later_26 : decode cX12_later 26 = .ok (.new 8, 3) := dk_187 0 8 (dk_at dksX12_later_1 3 rfl rfl)
theorem dX12_later_29 : decode cX12_later 29 = .ok (.dup, 1) := dk_89 (dk_at dksX12_later_1 6 rfl rfl)
theorem dX12_later_30 : decode cX12_later 30 = .ok (.aload_n 0, 1) := dk_42 (dk_at dksX12_later_1 7 rfl rfl)
theorem dX12_later_31 : decode cX12_later 31 = .ok (.getfield 7, 3) := dk_180 0 7 (dk_at dksX12_later_1 8 rfl rfl)
theorem dX12_later_34 : decode cX12_later 34 = .ok (.aload_n 0, 1) := dk_42 (dk_at dksX12_later_1 11 rfl rfl)
theorem dX12_later_35 : decode cX12_later 35 = .ok (.getfield 13, 3) := dk_180 0 13 (dk_at dksX12_later_1 12 rfl rfl)
theorem dX12_later_38 : decode cX12_later 38 = .ok (.aload_n 0, 1) := dk_42 (dk_at dksX12_later_1 15 rfl rfl)
theorem dX12_later_39 : decode cX12_later 39 = .ok (.getfield 16, 3) := dk_180 0 16 (dk_at dksX12_later_1 16 rfl rfl)
theorem dX12_later_42 : decode cX12_later 42 = .ok (.aload_n 0, 1) := dk_42 (dk_at dksX12_later_1 19 rfl rfl)
theorem dX12_later_43 : decode cX12_later 43 = .ok (.getfield 19, 3) := dk_180 0 19 (dk_at dksX12_later_1 20 rfl rfl)
theorem dX12_later_46 : decode cX12_later 46 = .ok (.iconst 1, 1) := dk_4 (dk_at dksX12_later_1 23 rfl rfl)
theorem dX12_later_47 : decode cX12_later 47 = .ok (.isub, 1) := dk_100 (dk_at dksX12_later_2 0 rfl rfl)
theorem dX12_later_48 : decode cX12_later 48 = .ok (.invokespecial 33, 3) := dk_183 0 33 (dk_at dksX12_later_2 1 rfl rfl)
theorem dX12_later_51 : decode cX12_later 51 = .ok (.areturn, 1) := dk_176 (dk_at dksX12_later_2 4 rfl rfl)
theorem q94 : (Jvm.Cond.initialized "WillowPrinters$Burning") ∈ lw_all := lw_g (lw_at lw_m1 40 rfl) rfl
theorem q816 : (Jvm.Cond.selects "WillowPrinters$Burning" ({ cls := "java/lang/Object", name := "getClass", desc := "()Ljava/lang/Class;" } : Jvm.MethodName) ({ cls := "java/lang/Object", name := "getClass", desc := "()Ljava/lang/Class;" } : Jvm.MethodName)) ∈ lw_all := lw_g (lw_at lw_m4 42 rfl) rfl
theorem q1189 : (Jvm.Cond.castable "WillowPrinters$Burning" "WillowPrinters$State") ∈ lw_tbl := lw_at lw_m5 175 rfl
theorem q1190 : (Jvm.Cond.selects "WillowPrinters$Burning" ({ cls := "WillowPrinters$State", name := "stage", desc := "()LWillowPrinters$Stage;" } : Jvm.MethodName) ({ cls := "WillowPrinters$Burning", name := "stage", desc := "()LWillowPrinters$Stage;" } : Jvm.MethodName)) ∈ lw_all := lw_g (lw_at lw_m5 176 rfl) rfl
theorem q1191 : (Jvm.Cond.unhidden "WillowPrinters$Burning" "stage" "()LWillowPrinters$Stage;") ∈ lw_tbl := lw_at lw_m5 177 rfl
theorem q1192 : (Jvm.Cond.instanceMethod ({ cls := "WillowPrinters$Burning", name := "stage", desc := "()LWillowPrinters$Stage;" } : Jvm.MethodName)) ∈ lw_all := lw_g (lw_at lw_m5 178 rfl) rfl
theorem q1193 : (Jvm.Cond.publicMethod ({ cls := "WillowPrinters$Burning", name := "stage", desc := "()LWillowPrinters$Stage;" } : Jvm.MethodName)) ∈ lw_tbl := lw_at lw_m5 179 rfl
theorem q1194 : (Jvm.Cond.code ({ cls := "WillowPrinters$Burning", name := "stage", desc := "()LWillowPrinters$Stage;" } : Jvm.MethodName) prog_2_method_2_code (1 : Nat) (Option.some (Jvm.ClassFile.FieldType.object "WillowPrinters$Stage"))) ∈ lw_all := lw_g (lw_at lw_m5 180 rfl) rfl
theorem q1195 : (Jvm.Cond.fieldLink "WillowPrinters$Burning" (22 : Nat) "WillowPrinters$Stage" "BURNING" "LWillowPrinters$Stage;") ∈ lw_all := lw_g (lw_at lw_m5 181 rfl) rfl
theorem q1234 : (Jvm.Cond.selects "WillowPrinters$Burning" ({ cls := "WillowPrinters$State", name := "well", desc := "()I" } : Jvm.MethodName) ({ cls := "WillowPrinters$Burning", name := "well", desc := "()I" } : Jvm.MethodName)) ∈ lw_all := lw_g (lw_at lw_m5 220 rfl) rfl
theorem q1235 : (Jvm.Cond.unhidden "WillowPrinters$Burning" "well" "()I") ∈ lw_tbl := lw_at lw_m5 221 rfl
theorem q1236 : (Jvm.Cond.instanceMethod ({ cls := "WillowPrinters$Burning", name := "well", desc := "()I" } : Jvm.MethodName)) ∈ lw_all := lw_g (lw_at lw_m5 222 rfl) rfl
theorem q1237 : (Jvm.Cond.publicMethod ({ cls := "WillowPrinters$Burning", name := "well", desc := "()I" } : Jvm.MethodName)) ∈ lw_tbl := lw_at lw_m5 223 rfl
theorem q1238 : (Jvm.Cond.code ({ cls := "WillowPrinters$Burning", name := "well", desc := "()I" } : Jvm.MethodName) prog_2_method_3_code (1 : Nat) (Option.some Jvm.ClassFile.FieldType.int)) ∈ lw_all := lw_g (lw_at lw_m5 224 rfl) rfl
theorem q1361 : (Jvm.Cond.instantiable "WillowPrinters$Burning" (4 : Nat)) ∈ lw_all := lw_g (lw_at lw_m6 107 rfl) rfl
theorem q1365 : (Jvm.Cond.instanceMethod ({ cls := "WillowPrinters$Burning", name := "<init>", desc := "(IIII)V" } : Jvm.MethodName)) ∈ lw_all := lw_g (lw_at lw_m6 111 rfl) rfl
theorem q1366 : (Jvm.Cond.code ({ cls := "WillowPrinters$Burning", name := "<init>", desc := "(IIII)V" } : Jvm.MethodName) prog_2_method_1_code (5 : Nat) (Option.none : Option Jvm.ClassFile.FieldType)) ∈ lw_all := lw_g (lw_at lw_m6 112 rfl) rfl
theorem q1367 : (Jvm.Cond.methodLink "WillowPrinters$Burning" (1 : Nat) ({ cls := "java/lang/Object", name := "<init>", desc := "()V" } : Jvm.MethodName)) ∈ lw_all := lw_g (lw_at lw_m6 113 rfl) rfl
theorem q1368 : (Jvm.Cond.fieldLink "WillowPrinters$Burning" (7 : Nat) "WillowPrinters$Burning" "well" "I") ∈ lw_all := lw_g (lw_at lw_m6 114 rfl) rfl
theorem q1369 : (Jvm.Cond.fieldLink "WillowPrinters$Burning" (13 : Nat) "WillowPrinters$Burning" "kiln" "I") ∈ lw_all := lw_g (lw_at lw_m6 115 rfl) rfl
theorem q1371 : (Jvm.Cond.fieldLink "WillowPrinters$Burning" (16 : Nat) "WillowPrinters$Burning" "cone" "I") ∈ lw_all := lw_g (lw_at lw_m6 117 rfl) rfl
theorem q1373 : (Jvm.Cond.fieldLink "WillowPrinters$Burning" (19 : Nat) "WillowPrinters$Burning" "hours" "I") ∈ lw_all := lw_g (lw_at lw_m6 119 rfl) rfl
theorem q1375 : (Jvm.Cond.laysFinal "WillowPrinters$Burning" "WillowPrinters$Burning" "well" "I") ∈ lw_all := lw_g (lw_at lw_m6 121 rfl) rfl
theorem q1376 : (Jvm.Cond.soleField "WillowPrinters$Burning" "well") ∈ lw_all := lw_g (lw_at lw_m6 122 rfl) rfl
theorem q1377 : (Jvm.Cond.laysFinal "WillowPrinters$Burning" "WillowPrinters$Burning" "kiln" "I") ∈ lw_all := lw_g (lw_at lw_m6 123 rfl) rfl
theorem q1378 : (Jvm.Cond.soleField "WillowPrinters$Burning" "kiln") ∈ lw_all := lw_g (lw_at lw_m6 124 rfl) rfl
theorem q1379 : (Jvm.Cond.laysFinal "WillowPrinters$Burning" "WillowPrinters$Burning" "cone" "I") ∈ lw_all := lw_g (lw_at lw_m6 125 rfl) rfl
theorem q1380 : (Jvm.Cond.soleField "WillowPrinters$Burning" "cone") ∈ lw_all := lw_g (lw_at lw_m6 126 rfl) rfl
theorem q1381 : (Jvm.Cond.laysFinal "WillowPrinters$Burning" "WillowPrinters$Burning" "hours" "I") ∈ lw_all := lw_g (lw_at lw_m6 127 rfl) rfl
theorem q1382 : (Jvm.Cond.soleField "WillowPrinters$Burning" "hours") ∈ lw_all := lw_g (lw_at lw_m6 128 rfl) rfl
theorem q1383 : (Jvm.Cond.superclass "WillowPrinters$Burning" "java/lang/Object") ∈ lw_all := lw_g (lw_at lw_m6 129 rfl) rfl
theorem q1531 : (Jvm.Cond.instanceMethod ({ cls := "WillowPrinters$Burning", name := "later", desc := "()LWillowPrinters$State;" } : Jvm.MethodName)) ∈ lw_all := lw_g (lw_at lw_m7 37 rfl) rfl
theorem q1532 : (Jvm.Cond.selects "WillowPrinters$Burning" ({ cls := "WillowPrinters$Burning", name := "later", desc := "()LWillowPrinters$State;" } : Jvm.MethodName) ({ cls := "WillowPrinters$Burning", name := "later", desc := "()LWillowPrinters$State;" } : Jvm.MethodName)) ∈ lw_all := lw_g (lw_at lw_m7 38 rfl) rfl
theorem q1533 : (Jvm.Cond.code ({ cls := "WillowPrinters$Burning", name := "later", desc := "()LWillowPrinters$State;" } : Jvm.MethodName) prog_2_method_4_code (1 : Nat) (Option.some (Jvm.ClassFile.FieldType.object "WillowPrinters$State"))) ∈ lw_all := lw_g (lw_at lw_m7 39 rfl) rfl
theorem q1534 : (Jvm.Cond.classLink "WillowPrinters$Burning" (28 : Nat) "WillowPrinters$Fired") ∈ lw_all := lw_g (lw_at lw_m7 40 rfl) rfl
theorem q1536 : (Jvm.Cond.methodLink "WillowPrinters$Burning" (30 : Nat) ({ cls := "WillowPrinters$Fired", name := "<init>", desc := "(II)V" } : Jvm.MethodName)) ∈ lw_all := lw_g (lw_at lw_m7 42 rfl) rfl
theorem q1548 : (Jvm.Cond.classLink "WillowPrinters$Burning" (8 : Nat) "WillowPrinters$Burning") ∈ lw_all := lw_g (lw_at lw_m7 54 rfl) rfl
theorem q1549 : (Jvm.Cond.methodLink "WillowPrinters$Burning" (33 : Nat) ({ cls := "WillowPrinters$Burning", name := "<init>", desc := "(IIII)V" } : Jvm.MethodName)) ∈ lw_all := lw_g (lw_at lw_m7 55 rfl) rfl
theorem q2353 : (Jvm.Cond.castable "WillowPrinters$Burning" "java/lang/Object") ∈ lw_tbl := lw_at lw_m10 139 rfl
theorem in_X12 : ∀ w ∈ wsX120, w ∈ lw_all := lw_in wsX120 [1375, 1377, 1379, 1381] (by decide +kernel) (by decide +kernel)

/-! WillowPrinters$Fired -/
set_option maxRecDepth 100000
def RX13 : String := "WillowPrinters$Fired"
def TX13 : u_T := fun k => match k with
  | 0 => ("WillowPrinters$Fired", "well", "I", true)
  | _ => ("WillowPrinters$Fired", "cone", "I", true)
def tyX13 : Nat → FieldType := fun k => match k with
  | 0 => .int
  | _ => .int
abbrev wsX130 : List Cond := u_ws RX13 TX13 2
theorem nmX13 : ∀ a, a < 2 → ∀ b, b < 2 → a ≠ b → (TX13 a).2.1 ≠ (TX13 b).2.1 := by decide +kernel
theorem tyX13_ok : ∀ k, k < 2 → parseFieldDescriptor (TX13 k).2.2.1 = some (tyX13 k) := by decide +kernel
abbrev cX13_stage : ByteArray := prog_6_method_2_code
def yX13_stage : MethodName := ⟨RX13, "stage", "()LWillowPrinters$Stage;"⟩
theorem dX13_stage_0 : decode cX13_stage 0 = .ok (.getstatic 16, 3) := by decide +kernel
theorem dX13_stage_3 : decode cX13_stage 3 = .ok (.areturn, 1) := by decide +kernel
abbrev cX13_well : ByteArray := prog_6_method_3_code
def yX13_well : MethodName := ⟨RX13, "well", "()I"⟩
theorem dX13_well_0 : decode cX13_well 0 = .ok (.aload_n 0, 1) := by decide +kernel
theorem dX13_well_1 : decode cX13_well 1 = .ok (.getfield 7, 3) := by decide +kernel
theorem dX13_well_4 : decode cX13_well 4 = .ok (.ireturn, 1) := by decide +kernel
abbrev cX13_init : ByteArray := prog_6_method_1_code
def yX13_init : MethodName := ⟨RX13, "<init>", "(II)V"⟩
def dkwX13_init_0 : List UInt8 := [42, 183, 0, 1, 42, 27, 181, 0, 7, 42, 28, 181, 0, 13, 177]
abbrev dktX13_init_0 : List UInt8 := dkwX13_init_0 ++ []
theorem dksX13_init_0 : cX13_init.data.toList.drop 0 = dktX13_init_0 := by decide +kernel
theorem dX13_init_0 : decode cX13_init 0 = .ok (.aload_n 0, 1) := dk_42 (dk_at dksX13_init_0 0 rfl rfl)
theorem dX13_init_1 : decode cX13_init 1 = .ok (.invokespecial 1, 3) := dk_183 0 1 (dk_at dksX13_init_0 1 rfl rfl)
theorem dX13_init_4 : decode cX13_init 4 = .ok (.aload_n 0, 1) := dk_42 (dk_at dksX13_init_0 4 rfl rfl)
theorem dX13_init_5 : decode cX13_init 5 = .ok (.iload_n 1, 1) := dk_27 (dk_at dksX13_init_0 5 rfl rfl)
theorem dX13_init_6 : decode cX13_init 6 = .ok (.putfield 7, 3) := dk_181 0 7 (dk_at dksX13_init_0 6 rfl rfl)
theorem dX13_init_9 : decode cX13_init 9 = .ok (.aload_n 0, 1) := dk_42 (dk_at dksX13_init_0 9 rfl rfl)
theorem dX13_init_10 : decode cX13_init 10 = .ok (.iload_n 2, 1) := dk_28 (dk_at dksX13_init_0 10 rfl rfl)
theorem dX13_init_11 : decode cX13_init 11 = .ok (.putfield 13, 3) := dk_181 0 13 (dk_at dksX13_init_0 11 rfl rfl)
theorem dX13_init_14 : decode cX13_init 14 = .ok (.return_, 1) := dk_177 (dk_at dksX13_init_0 14 rfl rfl)
theorem q95 : (Jvm.Cond.initialized "WillowPrinters$Fired") ∈ lw_all := lw_g (lw_at lw_m1 41 rfl) rfl
theorem q819 : (Jvm.Cond.selects "WillowPrinters$Fired" ({ cls := "java/lang/Object", name := "getClass", desc := "()Ljava/lang/Class;" } : Jvm.MethodName) ({ cls := "java/lang/Object", name := "getClass", desc := "()Ljava/lang/Class;" } : Jvm.MethodName)) ∈ lw_all := lw_g (lw_at lw_m4 45 rfl) rfl
theorem q1197 : (Jvm.Cond.castable "WillowPrinters$Fired" "WillowPrinters$State") ∈ lw_tbl := lw_at lw_m5 183 rfl
theorem q1198 : (Jvm.Cond.selects "WillowPrinters$Fired" ({ cls := "WillowPrinters$State", name := "stage", desc := "()LWillowPrinters$Stage;" } : Jvm.MethodName) ({ cls := "WillowPrinters$Fired", name := "stage", desc := "()LWillowPrinters$Stage;" } : Jvm.MethodName)) ∈ lw_all := lw_g (lw_at lw_m5 184 rfl) rfl
theorem q1199 : (Jvm.Cond.unhidden "WillowPrinters$Fired" "stage" "()LWillowPrinters$Stage;") ∈ lw_tbl := lw_at lw_m5 185 rfl
theorem q1200 : (Jvm.Cond.instanceMethod ({ cls := "WillowPrinters$Fired", name := "stage", desc := "()LWillowPrinters$Stage;" } : Jvm.MethodName)) ∈ lw_all := lw_g (lw_at lw_m5 186 rfl) rfl
theorem q1201 : (Jvm.Cond.publicMethod ({ cls := "WillowPrinters$Fired", name := "stage", desc := "()LWillowPrinters$Stage;" } : Jvm.MethodName)) ∈ lw_tbl := lw_at lw_m5 187 rfl
theorem q1202 : (Jvm.Cond.code ({ cls := "WillowPrinters$Fired", name := "stage", desc := "()LWillowPrinters$Stage;" } : Jvm.MethodName) prog_6_method_2_code (1 : Nat) (Option.some (Jvm.ClassFile.FieldType.object "WillowPrinters$Stage"))) ∈ lw_all := lw_g (lw_at lw_m5 188 rfl) rfl
theorem q1203 : (Jvm.Cond.fieldLink "WillowPrinters$Fired" (16 : Nat) "WillowPrinters$Stage" "FIRED" "LWillowPrinters$Stage;") ∈ lw_all := lw_g (lw_at lw_m5 189 rfl) rfl
theorem q1239 : (Jvm.Cond.selects "WillowPrinters$Fired" ({ cls := "WillowPrinters$State", name := "well", desc := "()I" } : Jvm.MethodName) ({ cls := "WillowPrinters$Fired", name := "well", desc := "()I" } : Jvm.MethodName)) ∈ lw_all := lw_g (lw_at lw_m5 225 rfl) rfl
theorem q1240 : (Jvm.Cond.unhidden "WillowPrinters$Fired" "well" "()I") ∈ lw_tbl := lw_at lw_m5 226 rfl
theorem q1241 : (Jvm.Cond.instanceMethod ({ cls := "WillowPrinters$Fired", name := "well", desc := "()I" } : Jvm.MethodName)) ∈ lw_all := lw_g (lw_at lw_m5 227 rfl) rfl
theorem q1242 : (Jvm.Cond.publicMethod ({ cls := "WillowPrinters$Fired", name := "well", desc := "()I" } : Jvm.MethodName)) ∈ lw_tbl := lw_at lw_m5 228 rfl
theorem q1243 : (Jvm.Cond.code ({ cls := "WillowPrinters$Fired", name := "well", desc := "()I" } : Jvm.MethodName) prog_6_method_3_code (1 : Nat) (Option.some Jvm.ClassFile.FieldType.int)) ∈ lw_all := lw_g (lw_at lw_m5 229 rfl) rfl
theorem q1535 : (Jvm.Cond.instantiable "WillowPrinters$Fired" (2 : Nat)) ∈ lw_all := lw_g (lw_at lw_m7 41 rfl) rfl
theorem q1537 : (Jvm.Cond.instanceMethod ({ cls := "WillowPrinters$Fired", name := "<init>", desc := "(II)V" } : Jvm.MethodName)) ∈ lw_all := lw_g (lw_at lw_m7 43 rfl) rfl
theorem q1538 : (Jvm.Cond.code ({ cls := "WillowPrinters$Fired", name := "<init>", desc := "(II)V" } : Jvm.MethodName) prog_6_method_1_code (3 : Nat) (Option.none : Option Jvm.ClassFile.FieldType)) ∈ lw_all := lw_g (lw_at lw_m7 44 rfl) rfl
theorem q1539 : (Jvm.Cond.methodLink "WillowPrinters$Fired" (1 : Nat) ({ cls := "java/lang/Object", name := "<init>", desc := "()V" } : Jvm.MethodName)) ∈ lw_all := lw_g (lw_at lw_m7 45 rfl) rfl
theorem q1540 : (Jvm.Cond.fieldLink "WillowPrinters$Fired" (7 : Nat) "WillowPrinters$Fired" "well" "I") ∈ lw_all := lw_g (lw_at lw_m7 46 rfl) rfl
theorem q1541 : (Jvm.Cond.fieldLink "WillowPrinters$Fired" (13 : Nat) "WillowPrinters$Fired" "cone" "I") ∈ lw_all := lw_g (lw_at lw_m7 47 rfl) rfl
theorem q1543 : (Jvm.Cond.laysFinal "WillowPrinters$Fired" "WillowPrinters$Fired" "well" "I") ∈ lw_all := lw_g (lw_at lw_m7 49 rfl) rfl
theorem q1544 : (Jvm.Cond.soleField "WillowPrinters$Fired" "well") ∈ lw_all := lw_g (lw_at lw_m7 50 rfl) rfl
theorem q1545 : (Jvm.Cond.laysFinal "WillowPrinters$Fired" "WillowPrinters$Fired" "cone" "I") ∈ lw_all := lw_g (lw_at lw_m7 51 rfl) rfl
theorem q1546 : (Jvm.Cond.soleField "WillowPrinters$Fired" "cone") ∈ lw_all := lw_g (lw_at lw_m7 52 rfl) rfl
theorem q1547 : (Jvm.Cond.superclass "WillowPrinters$Fired" "java/lang/Object") ∈ lw_all := lw_g (lw_at lw_m7 53 rfl) rfl
theorem q2355 : (Jvm.Cond.castable "WillowPrinters$Fired" "java/lang/Object") ∈ lw_tbl := lw_at lw_m10 141 rfl
theorem in_X13 : ∀ w ∈ wsX130, w ∈ lw_all := lw_in wsX130 [1543, 1545] (by decide +kernel) (by decide +kernel)

/-! WillowPrinters$Parser -/
set_option maxRecDepth 100000
def RX14 : String := "WillowPrinters$Parser"
def TX14 : u_T := fun k => match k with
  | 0 => ("WillowPrinters$Parser", "text", "Ljava/lang/CharSequence;", true)
  | _ => ("WillowPrinters$Parser", "position", "I", false)
def tyX14 : Nat → FieldType := fun k => match k with
  | 0 => .object "java/lang/CharSequence"
  | _ => .int
abbrev wsX140 : List Cond := u_ws RX14 TX14 2
theorem nmX14 : ∀ a, a < 2 → ∀ b, b < 2 → a ≠ b → (TX14 a).2.1 ≠ (TX14 b).2.1 := by decide +kernel
theorem tyX14_ok : ∀ k, k < 2 → parseFieldDescriptor (TX14 k).2.2.1 = some (tyX14 k) := by decide +kernel
abbrev cX14_init : ByteArray := prog_11_method_1_code
def yX14_init : MethodName := ⟨RX14, "<init>", "(Ljava/lang/CharSequence;)V"⟩
def dkwX14_init_0 : List UInt8 := [42, 183, 0, 1, 42, 43, 181, 0, 7, 177]
abbrev dktX14_init_0 : List UInt8 := dkwX14_init_0 ++ []
theorem dksX14_init_0 : cX14_init.data.toList.drop 0 = dktX14_init_0 := by decide +kernel
theorem dX14_init_0 : decode cX14_init 0 = .ok (.aload_n 0, 1) := dk_42 (dk_at dksX14_init_0 0 rfl rfl)
theorem dX14_init_1 : decode cX14_init 1 = .ok (.invokespecial 1, 3) := dk_183 0 1 (dk_at dksX14_init_0 1 rfl rfl)
theorem dX14_init_4 : decode cX14_init 4 = .ok (.aload_n 0, 1) := dk_42 (dk_at dksX14_init_0 4 rfl rfl)
theorem dX14_init_5 : decode cX14_init 5 = .ok (.aload_n 1, 1) := dk_43 (dk_at dksX14_init_0 5 rfl rfl)
theorem dX14_init_6 : decode cX14_init 6 = .ok (.putfield 7, 3) := dk_181 0 7 (dk_at dksX14_init_0 6 rfl rfl)
theorem dX14_init_9 : decode cX14_init 9 = .ok (.return_, 1) := dk_177 (dk_at dksX14_init_0 9 rfl rfl)
abbrev cX14_items : ByteArray := prog_11_method_8_code
def yX14_items : MethodName := ⟨RX14, "items", "()Ljava/util/ArrayList;"⟩
def dkwX14_items_2 : List UInt8 := [182, 0, 76, 182, 0, 79, 61, 167, 255, 222, 43, 176]
abbrev dktX14_items_2 : List UInt8 := dkwX14_items_2 ++ []
def dkwX14_items_1 : List UInt8 := [180, 0, 7, 185, 0, 17, 1, 0, 162, 0, 24, 42, 16, 59, 16, 59, 182, 0, 42, 62, 43, 42]
abbrev dktX14_items_1 : List UInt8 := dkwX14_items_1 ++ dktX14_items_2
def dkwX14_items_0 : List UInt8 := [187, 0, 73, 89, 183, 0, 75, 76, 43, 42, 182, 0, 76, 182, 0, 79, 61, 42, 180, 0, 13, 42]
abbrev dktX14_items_0 : List UInt8 := dkwX14_items_0 ++ dktX14_items_1
theorem dksX14_items_0 : cX14_items.data.toList.drop 0 = dktX14_items_0 := by decide +kernel
theorem dksX14_items_1 : cX14_items.data.toList.drop 22 = dktX14_items_1 := dk_seg dksX14_items_0 22 rfl rfl
theorem dksX14_items_2 : cX14_items.data.toList.drop 44 = dktX14_items_2 := dk_seg dksX14_items_1 22 rfl rfl
theorem dX14_items_0 : decode cX14_items 0 = .ok (.new 73, 3) := dk_187 0 73 (dk_at dksX14_items_0 0 rfl rfl)
theorem dX14_items_3 : decode cX14_items 3 = .ok (.dup, 1) := dk_89 (dk_at dksX14_items_0 3 rfl rfl)
theorem dX14_items_4 : decode cX14_items 4 = .ok (.invokespecial 75, 3) := dk_183 0 75 (dk_at dksX14_items_0 4 rfl rfl)
theorem dX14_items_7 : decode cX14_items 7 = .ok (.astore_n 1, 1) := dk_76 (dk_at dksX14_items_0 7 rfl rfl)
theorem dX14_items_8 : decode cX14_items 8 = .ok (.aload_n 1, 1) := dk_43 (dk_at dksX14_items_0 8 rfl rfl)
theorem dX14_items_9 : decode cX14_items 9 = .ok (.aload_n 0, 1) := dk_42 (dk_at dksX14_items_0 9 rfl rfl)
theorem dX14_items_10 : decode cX14_items 10 = .ok (.invokevirtual 76, 3) := dk_182 0 76 (dk_at dksX14_items_0 10 rfl rfl)
theorem dX14_items_13 : decode cX14_items 13 = .ok (.invokevirtual 79, 3) := dk_182 0 79 (dk_at dksX14_items_0 13 rfl rfl)
theorem dX14_items_16 : decode cX14_items 16 = .ok (.istore_n 2, 1) := dk_61 (dk_at dksX14_items_0 16 rfl rfl)
theorem dX14_items_17 : decode cX14_items 17 = .ok (.aload_n 0, 1) := dk_42 (dk_at dksX14_items_0 17 rfl rfl)
theorem dX14_items_18 : decode cX14_items 18 = .ok (.getfield 13, 3) := dk_180 0 13 (dk_at dksX14_items_0 18 rfl rfl)
theorem dX14_items_21 : decode cX14_items 21 = .ok (.aload_n 0, 1) := dk_42 (dk_at dksX14_items_0 21 rfl rfl)
theorem dX14_items_22 : decode cX14_items 22 = .ok (.getfield 7, 3) := dk_180 0 7 (dk_at dksX14_items_1 0 rfl rfl)
theorem dX14_items_25 : decode cX14_items 25 = .ok (.invokeinterface 17 1, 5) := by decide +kernel
theorem dX14_items_30 : decode cX14_items 30 = .ok (.if_icmp .ge 24, 3) := dk_162 0 24 (dk_at dksX14_items_1 8 rfl rfl)
theorem dX14_items_33 : decode cX14_items 33 = .ok (.aload_n 0, 1) := dk_42 (dk_at dksX14_items_1 11 rfl rfl)
theorem dX14_items_34 : decode cX14_items 34 = .ok (.bipush 59, 2) := dk_16 59 (dk_at dksX14_items_1 12 rfl rfl)
theorem dX14_items_36 : decode cX14_items 36 = .ok (.bipush 59, 2) := dk_16 59 (dk_at dksX14_items_1 14 rfl rfl)
theorem dX14_items_38 : decode cX14_items 38 = .ok (.invokevirtual 42, 3) := dk_182 0 42 (dk_at dksX14_items_1 16 rfl rfl)
theorem dX14_items_41 : decode cX14_items 41 = .ok (.istore_n 3, 1) := dk_62 (dk_at dksX14_items_1 19 rfl rfl)
theorem dX14_items_42 : decode cX14_items 42 = .ok (.aload_n 1, 1) := dk_43 (dk_at dksX14_items_1 20 rfl rfl)
theorem dX14_items_43 : decode cX14_items 43 = .ok (.aload_n 0, 1) := dk_42 (dk_at dksX14_items_1 21 rfl rfl)
theorem dX14_items_44 : decode cX14_items 44 = .ok (.invokevirtual 76, 3) := dk_182 0 76 (dk_at dksX14_items_2 0 rfl rfl)
theorem dX14_items_47 : decode cX14_items 47 = .ok (.invokevirtual 79, 3) := dk_182 0 79 (dk_at dksX14_items_2 3 rfl rfl)
theorem dX14_items_50 : decode cX14_items 50 = .ok (.istore_n 2, 1) := dk_61 (dk_at dksX14_items_2 6 rfl rfl)
theorem dX14_items_51 : decode cX14_items 51 = .ok (.goto (-34), 3) := dk_167 255 222 (dk_at dksX14_items_2 7 rfl rfl)
theorem dX14_items_54 : decode cX14_items 54 = .ok (.aload_n 1, 1) := dk_43 (dk_at dksX14_items_2 10 rfl rfl)
theorem dX14_items_55 : decode cX14_items 55 = .ok (.areturn, 1) := dk_176 (dk_at dksX14_items_2 11 rfl rfl)
abbrev cX14_item : ByteArray := prog_11_method_7_code
def yX14_item : MethodName := ⟨RX14, "item", "()LWillowPrinters$Change;"⟩
def dkwX14_item_8 : List UInt8 := [176, 42, 182, 0, 49, 62, 29, 186, 0, 72, 0, 0, 176, 187, 0, 37, 89, 27, 183, 0, 39, 191]
abbrev dktX14_item_8 : List UInt8 := dkwX14_item_8 ++ []
def dkwX14_item_7 : List UInt8 := [29, 186, 0, 65, 0, 0, 176, 42, 182, 0, 46, 62, 29, 186, 0, 68, 0, 0, 176, 186, 0, 69, 0, 0]
abbrev dktX14_item_7 : List UInt8 := dkwX14_item_7 ++ dktX14_item_8
def dkwX14_item_6 : List UInt8 := [62, 42, 16, 43, 4, 182, 0, 52, 54, 4, 29, 21, 4, 186, 0, 64, 0, 0, 176, 42, 182, 0, 46, 62]
abbrev dktX14_item_6 : List UInt8 := dkwX14_item_6 ++ dktX14_item_7
def dkwX14_item_5 : List UInt8 := [42, 16, 42, 3, 182, 0, 52, 54, 5, 29, 21, 4, 21, 5, 186, 0, 63, 0, 0, 176, 42, 182, 0, 46]
abbrev dktX14_item_5 : List UInt8 := dkwX14_item_5 ++ dktX14_item_6
def dkwX14_item_4 : List UInt8 := [21, 4, 21, 5, 186, 0, 60, 0, 0, 176, 42, 182, 0, 46, 62, 42, 16, 60, 3, 182, 0, 52, 54, 4]
abbrev dktX14_item_4 : List UInt8 := dkwX14_item_4 ++ dktX14_item_5
def dkwX14_item_3 : List UInt8 := [182, 0, 49, 62, 42, 16, 64, 4, 182, 0, 52, 54, 4, 42, 16, 58, 4, 182, 0, 52, 54, 5, 29]
abbrev dktX14_item_3 : List UInt8 := dkwX14_item_3 ++ dktX14_item_4
def dkwX14_item_2 : List UInt8 := [42, 182, 0, 49, 62, 42, 16, 64, 4, 182, 0, 52, 54, 4, 29, 21, 4, 186, 0, 56, 0, 0, 176, 42]
abbrev dktX14_item_2 : List UInt8 := dkwX14_item_2 ++ dktX14_item_3
def dkwX14_item_1 : List UInt8 := [170, 0, 0, 1, 1, 0, 0, 0, 99, 0, 0, 0, 120, 0, 0, 0, 215, 0, 0, 1, 1, 0, 0, 1, 1, 0, 0, 0, 124, 0, 0, 1, 1, 0, 0, 0, 245, 0, 0, 1, 1, 0, 0, 1, 1, 0, 0, 0, 158, 0, 0, 1, 1, 0, 0, 1, 1, 0, 0, 1, 1, 0, 0, 1, 1, 0, 0, 0, 101, 0, 0, 1, 1, 0, 0, 1, 1, 0, 0, 0, 192, 0, 0, 1, 1, 0, 0, 1, 1, 0, 0, 1, 1, 0, 0, 0, 227, 0, 0, 0, 239]
abbrev dktX14_item_1 : List UInt8 := dkwX14_item_1 ++ dktX14_item_2
def dkwX14_item_0 : List UInt8 := [42, 180, 0, 13, 60, 42, 3, 16, 127, 182, 0, 42, 146, 61, 28]
abbrev dktX14_item_0 : List UInt8 := dkwX14_item_0 ++ dktX14_item_1
theorem dksX14_item_0 : cX14_item.data.toList.drop 0 = dktX14_item_0 := by decide +kernel
theorem dksX14_item_1 : cX14_item.data.toList.drop 15 = dktX14_item_1 := dk_seg dksX14_item_0 15 rfl rfl
theorem dksX14_item_2 : cX14_item.data.toList.drop 116 = dktX14_item_2 := dk_seg dksX14_item_1 101 rfl rfl
theorem dksX14_item_3 : cX14_item.data.toList.drop 140 = dktX14_item_3 := dk_seg dksX14_item_2 24 rfl rfl
theorem dksX14_item_4 : cX14_item.data.toList.drop 163 = dktX14_item_4 := dk_seg dksX14_item_3 23 rfl rfl
theorem dksX14_item_5 : cX14_item.data.toList.drop 187 = dktX14_item_5 := dk_seg dksX14_item_4 24 rfl rfl
theorem dksX14_item_6 : cX14_item.data.toList.drop 211 = dktX14_item_6 := dk_seg dksX14_item_5 24 rfl rfl
theorem dksX14_item_7 : cX14_item.data.toList.drop 235 = dktX14_item_7 := dk_seg dksX14_item_6 24 rfl rfl
theorem dksX14_item_8 : cX14_item.data.toList.drop 259 = dktX14_item_8 := dk_seg dksX14_item_7 24 rfl rfl
theorem dX14_item_0 : decode cX14_item 0 = .ok (.aload_n 0, 1) := dk_42 (dk_at dksX14_item_0 0 rfl rfl)
theorem dX14_item_1 : decode cX14_item 1 = .ok (.getfield 13, 3) := dk_180 0 13 (dk_at dksX14_item_0 1 rfl rfl)
theorem dX14_item_4 : decode cX14_item 4 = .ok (.istore_n 1, 1) := dk_60 (dk_at dksX14_item_0 4 rfl rfl)
theorem dX14_item_5 : decode cX14_item 5 = .ok (.aload_n 0, 1) := dk_42 (dk_at dksX14_item_0 5 rfl rfl)
theorem dX14_item_6 : decode cX14_item 6 = .ok (.iconst 0, 1) := dk_3 (dk_at dksX14_item_0 6 rfl rfl)
theorem dX14_item_7 : decode cX14_item 7 = .ok (.bipush 127, 2) := dk_16 127 (dk_at dksX14_item_0 7 rfl rfl)
theorem dX14_item_9 : decode cX14_item 9 = .ok (.invokevirtual 42, 3) := dk_182 0 42 (dk_at dksX14_item_0 9 rfl rfl)
theorem dX14_item_12 : decode cX14_item 12 = .ok (.i2c, 1) := dk_146 (dk_at dksX14_item_0 12 rfl rfl)
theorem dX14_item_13 : decode cX14_item 13 = .ok (.istore_n 2, 1) := dk_61 (dk_at dksX14_item_0 13 rfl rfl)
theorem dX14_item_14 : decode cX14_item 14 = .ok (.iload_n 2, 1) := dk_28 (dk_at dksX14_item_0 14 rfl rfl)
theorem dX14_item_15 : decode cX14_item 15 = .ok (.tableswitch 257 99 120 #[215, 257, 257, 124, 257, 245, 257, 257, 158, 257, 257, 257, 257, 101, 257, 257, 192, 257, 257, 257, 227, 239], 101) := by decide +kernel
theorem dX14_item_116 : decode cX14_item 116 = .ok (.aload_n 0, 1) := dk_42 (dk_at dksX14_item_2 0 rfl rfl)
theorem dX14_item_117 : decode cX14_item 117 = .ok (.invokevirtual 49, 3) := dk_182 0 49 (dk_at dksX14_item_2 1 rfl rfl)
theorem dX14_item_120 : decode cX14_item 120 = .ok (.istore_n 3, 1) := dk_62 (dk_at dksX14_item_2 4 rfl rfl)
theorem dX14_item_121 : decode cX14_item 121 = .ok (.aload_n 0, 1) := dk_42 (dk_at dksX14_item_2 5 rfl rfl)
theorem dX14_item_122 : decode cX14_item 122 = .ok (.bipush 64, 2) := dk_16 64 (dk_at dksX14_item_2 6 rfl rfl)
theorem dX14_item_124 : decode cX14_item 124 = .ok (.iconst 1, 1) := dk_4 (dk_at dksX14_item_2 8 rfl rfl)
theorem dX14_item_125 : decode cX14_item 125 = .ok (.invokevirtual 52, 3) := dk_182 0 52 (dk_at dksX14_item_2 9 rfl rfl)
theorem dX14_item_128 : decode cX14_item 128 = .ok (.istore 4, 2) := dk_54 4 (dk_at dksX14_item_2 12 rfl rfl)
theorem dX14_item_130 : decode cX14_item 130 = .ok (.iload_n 3, 1) := dk_29 (dk_at dksX14_item_2 14 rfl rfl)
theorem dX14_item_131 : decode cX14_item 131 = .ok (.iload 4, 2) := dk_21 4 (dk_at dksX14_item_2 15 rfl rfl)
theorem dX14_item_133 : decode cX14_item 133 = .ok (.invokedynamic 56, 5) := by decide +kernel
theorem dX14_item_138 : decode cX14_item 138 = .ok (.areturn, 1) := dk_176 (dk_at dksX14_item_2 22 rfl rfl)
theorem dX14_item_139 : decode cX14_item 139 = .ok (.aload_n 0, 1) := dk_42 (dk_at dksX14_item_2 23 rfl rfl)
theorem dX14_item_140 : decode cX14_item 140 = .ok (.invokevirtual 49, 3) := dk_182 0 49 (dk_at dksX14_item_3 0 rfl rfl)
theorem dX14_item_143 : decode cX14_item 143 = .ok (.istore_n 3, 1) := dk_62 (dk_at dksX14_item_3 3 rfl rfl)
theorem dX14_item_144 : decode cX14_item 144 = .ok (.aload_n 0, 1) := dk_42 (dk_at dksX14_item_3 4 rfl rfl)
theorem dX14_item_145 : decode cX14_item 145 = .ok (.bipush 64, 2) := dk_16 64 (dk_at dksX14_item_3 5 rfl rfl)
theorem dX14_item_147 : decode cX14_item 147 = .ok (.iconst 1, 1) := dk_4 (dk_at dksX14_item_3 7 rfl rfl)
theorem dX14_item_148 : decode cX14_item 148 = .ok (.invokevirtual 52, 3) := dk_182 0 52 (dk_at dksX14_item_3 8 rfl rfl)
theorem dX14_item_151 : decode cX14_item 151 = .ok (.istore 4, 2) := dk_54 4 (dk_at dksX14_item_3 11 rfl rfl)
theorem dX14_item_153 : decode cX14_item 153 = .ok (.aload_n 0, 1) := dk_42 (dk_at dksX14_item_3 13 rfl rfl)
theorem dX14_item_154 : decode cX14_item 154 = .ok (.bipush 58, 2) := dk_16 58 (dk_at dksX14_item_3 14 rfl rfl)
theorem dX14_item_156 : decode cX14_item 156 = .ok (.iconst 1, 1) := dk_4 (dk_at dksX14_item_3 16 rfl rfl)
theorem dX14_item_157 : decode cX14_item 157 = .ok (.invokevirtual 52, 3) := dk_182 0 52 (dk_at dksX14_item_3 17 rfl rfl)
theorem dX14_item_160 : decode cX14_item 160 = .ok (.istore 5, 2) := dk_54 5 (dk_at dksX14_item_3 20 rfl rfl)
theorem dX14_item_162 : decode cX14_item 162 = .ok (.iload_n 3, 1) := dk_29 (dk_at dksX14_item_3 22 rfl rfl)
theorem dX14_item_163 : decode cX14_item 163 = .ok (.iload 4, 2) := dk_21 4 (dk_at dksX14_item_4 0 rfl rfl)
theorem dX14_item_165 : decode cX14_item 165 = .ok (.iload 5, 2) := dk_21 5 (dk_at dksX14_item_4 2 rfl rfl)
theorem dX14_item_167 : decode cX14_item 167 = .ok (.invokedynamic 60, 5) := by decide +kernel
theorem dX14_item_172 : decode cX14_item 172 = .ok (.areturn, 1) := dk_176 (dk_at dksX14_item_4 9 rfl rfl)
theorem dX14_item_173 : decode cX14_item 173 = .ok (.aload_n 0, 1) := dk_42 (dk_at dksX14_item_4 10 rfl rfl)
theorem dX14_item_174 : decode cX14_item 174 = .ok (.invokevirtual 46, 3) := dk_182 0 46 (dk_at dksX14_item_4 11 rfl rfl)
theorem dX14_item_177 : decode cX14_item 177 = .ok (.istore_n 3, 1) := dk_62 (dk_at dksX14_item_4 14 rfl rfl)
theorem dX14_item_178 : decode cX14_item 178 = .ok (.aload_n 0, 1) := dk_42 (dk_at dksX14_item_4 15 rfl rfl)
theorem dX14_item_179 : decode cX14_item 179 = .ok (.bipush 60, 2) := dk_16 60 (dk_at dksX14_item_4 16 rfl rfl)
theorem dX14_item_181 : decode cX14_item 181 = .ok (.iconst 0, 1) := dk_3 (dk_at dksX14_item_4 18 rfl rfl)
theorem dX14_item_182 : decode cX14_item 182 = .ok (.invokevirtual 52, 3) := dk_182 0 52 (dk_at dksX14_item_4 19 rfl rfl)
theorem dX14_item_185 : decode cX14_item 185 = .ok (.istore 4, 2) := dk_54 4 (dk_at dksX14_item_4 22 rfl rfl)
theorem dX14_item_187 : decode cX14_item 187 = .ok (.aload_n 0, 1) := dk_42 (dk_at dksX14_item_5 0 rfl rfl)
theorem dX14_item_188 : decode cX14_item 188 = .ok (.bipush 42, 2) := dk_16 42 (dk_at dksX14_item_5 1 rfl rfl)
theorem dX14_item_190 : decode cX14_item 190 = .ok (.iconst 0, 1) := dk_3 (dk_at dksX14_item_5 3 rfl rfl)
theorem dX14_item_191 : decode cX14_item 191 = .ok (.invokevirtual 52, 3) := dk_182 0 52 (dk_at dksX14_item_5 4 rfl rfl)
theorem dX14_item_194 : decode cX14_item 194 = .ok (.istore 5, 2) := dk_54 5 (dk_at dksX14_item_5 7 rfl rfl)
theorem dX14_item_196 : decode cX14_item 196 = .ok (.iload_n 3, 1) := dk_29 (dk_at dksX14_item_5 9 rfl rfl)
theorem dX14_item_197 : decode cX14_item 197 = .ok (.iload 4, 2) := dk_21 4 (dk_at dksX14_item_5 10 rfl rfl)
theorem dX14_item_199 : decode cX14_item 199 = .ok (.iload 5, 2) := dk_21 5 (dk_at dksX14_item_5 12 rfl rfl)
theorem dX14_item_201 : decode cX14_item 201 = .ok (.invokedynamic 63, 5) := by decide +kernel
theorem dX14_item_206 : decode cX14_item 206 = .ok (.areturn, 1) := dk_176 (dk_at dksX14_item_5 19 rfl rfl)
theorem dX14_item_207 : decode cX14_item 207 = .ok (.aload_n 0, 1) := dk_42 (dk_at dksX14_item_5 20 rfl rfl)
theorem dX14_item_208 : decode cX14_item 208 = .ok (.invokevirtual 46, 3) := dk_182 0 46 (dk_at dksX14_item_5 21 rfl rfl)
theorem dX14_item_211 : decode cX14_item 211 = .ok (.istore_n 3, 1) := dk_62 (dk_at dksX14_item_6 0 rfl rfl)
theorem dX14_item_212 : decode cX14_item 212 = .ok (.aload_n 0, 1) := dk_42 (dk_at dksX14_item_6 1 rfl rfl)
theorem dX14_item_213 : decode cX14_item 213 = .ok (.bipush 43, 2) := dk_16 43 (dk_at dksX14_item_6 2 rfl rfl)
theorem dX14_item_215 : decode cX14_item 215 = .ok (.iconst 1, 1) := dk_4 (dk_at dksX14_item_6 4 rfl rfl)
theorem dX14_item_216 : decode cX14_item 216 = .ok (.invokevirtual 52, 3) := dk_182 0 52 (dk_at dksX14_item_6 5 rfl rfl)
theorem dX14_item_219 : decode cX14_item 219 = .ok (.istore 4, 2) := dk_54 4 (dk_at dksX14_item_6 8 rfl rfl)
theorem dX14_item_221 : decode cX14_item 221 = .ok (.iload_n 3, 1) := dk_29 (dk_at dksX14_item_6 10 rfl rfl)
theorem dX14_item_222 : decode cX14_item 222 = .ok (.iload 4, 2) := dk_21 4 (dk_at dksX14_item_6 11 rfl rfl)
theorem dX14_item_224 : decode cX14_item 224 = .ok (.invokedynamic 64, 5) := by decide +kernel
theorem dX14_item_229 : decode cX14_item 229 = .ok (.areturn, 1) := dk_176 (dk_at dksX14_item_6 18 rfl rfl)
theorem dX14_item_230 : decode cX14_item 230 = .ok (.aload_n 0, 1) := dk_42 (dk_at dksX14_item_6 19 rfl rfl)
theorem dX14_item_231 : decode cX14_item 231 = .ok (.invokevirtual 46, 3) := dk_182 0 46 (dk_at dksX14_item_6 20 rfl rfl)
theorem dX14_item_234 : decode cX14_item 234 = .ok (.istore_n 3, 1) := dk_62 (dk_at dksX14_item_6 23 rfl rfl)
theorem dX14_item_235 : decode cX14_item 235 = .ok (.iload_n 3, 1) := dk_29 (dk_at dksX14_item_7 0 rfl rfl)
theorem dX14_item_236 : decode cX14_item 236 = .ok (.invokedynamic 65, 5) := by decide +kernel
theorem dX14_item_241 : decode cX14_item 241 = .ok (.areturn, 1) := dk_176 (dk_at dksX14_item_7 6 rfl rfl)
theorem dX14_item_242 : decode cX14_item 242 = .ok (.aload_n 0, 1) := dk_42 (dk_at dksX14_item_7 7 rfl rfl)
theorem dX14_item_243 : decode cX14_item 243 = .ok (.invokevirtual 46, 3) := dk_182 0 46 (dk_at dksX14_item_7 8 rfl rfl)
theorem dX14_item_246 : decode cX14_item 246 = .ok (.istore_n 3, 1) := dk_62 (dk_at dksX14_item_7 11 rfl rfl)
theorem dX14_item_247 : decode cX14_item 247 = .ok (.iload_n 3, 1) := dk_29 (dk_at dksX14_item_7 12 rfl rfl)
theorem dX14_item_248 : decode cX14_item 248 = .ok (.invokedynamic 68, 5) := by decide +kernel
theorem dX14_item_253 : decode cX14_item 253 = .ok (.areturn, 1) := dk_176 (dk_at dksX14_item_7 18 rfl rfl)
theorem dX14_item_254 : decode cX14_item 254 = .ok (.invokedynamic 69, 5) := by decide +kernel
theorem dX14_item_259 : decode cX14_item 259 = .ok (.areturn, 1) := dk_176 (dk_at dksX14_item_8 0 rfl rfl)
theorem dX14_item_260 : decode cX14_item 260 = .ok (.aload_n 0, 1) := dk_42 (dk_at dksX14_item_8 1 rfl rfl)
theorem dX14_item_261 : decode cX14_item 261 = .ok (.invokevirtual 49, 3) := dk_182 0 49 (dk_at dksX14_item_8 2 rfl rfl)
theorem dX14_item_264 : decode cX14_item 264 = .ok (.istore_n 3, 1) := dk_62 (dk_at dksX14_item_8 5 rfl rfl)
theorem dX14_item_265 : decode cX14_item 265 = .ok (.iload_n 3, 1) := dk_29 (dk_at dksX14_item_8 6 rfl rfl)
theorem dX14_item_266 : decode cX14_item 266 = .ok (.invokedynamic 72, 5) := by decide +kernel
theorem dX14_item_271 : decode cX14_item 271 = .ok (.areturn, 1) := dk_176 (dk_at dksX14_item_8 12 rfl rfl)
theorem dX14_item_272 : decode cX14_item 272 = .ok (.new 37, 3) := dk_187 0 37 (dk_at dksX14_item_8 13 rfl rfl)
theorem dX14_item_275 : decode cX14_item 275 = .ok (.dup, 1) := dk_89 (dk_at dksX14_item_8 16 rfl rfl)
theorem dX14_item_276 : decode cX14_item 276 = .ok (.iload_n 1, 1) := dk_27 (dk_at dksX14_item_8 17 rfl rfl)
theorem dX14_item_277 : decode cX14_item 277 = .ok (.invokespecial 39, 3) := dk_183 0 39 (dk_at dksX14_item_8 18 rfl rfl)
theorem dX14_item_280 : decode cX14_item 280 = .ok (.athrow, 1) := dk_191 (dk_at dksX14_item_8 21 rfl rfl)
abbrev cX14_take : ByteArray := prog_11_method_3_code
def yX14_take : MethodName := ⟨RX14, "take", "(II)I"⟩
def dkwX14_take_2 : List UInt8 := [100, 172]
abbrev dktX14_take_2 : List UInt8 := dkwX14_take_2 ++ []
def dkwX14_take_1 : List UInt8 := [180, 0, 13, 4, 96, 181, 0, 13, 42, 180, 0, 7, 42, 180, 0, 13, 4, 100, 185, 0, 23, 2, 0, 27]
abbrev dktX14_take_1 : List UInt8 := dkwX14_take_1 ++ dktX14_take_2
def dkwX14_take_0 : List UInt8 := [42, 27, 28, 182, 0, 33, 154, 0, 15, 187, 0, 37, 89, 42, 180, 0, 13, 183, 0, 39, 191, 42, 89]
abbrev dktX14_take_0 : List UInt8 := dkwX14_take_0 ++ dktX14_take_1
theorem dksX14_take_0 : cX14_take.data.toList.drop 0 = dktX14_take_0 := by decide +kernel
theorem dksX14_take_1 : cX14_take.data.toList.drop 23 = dktX14_take_1 := dk_seg dksX14_take_0 23 rfl rfl
theorem dksX14_take_2 : cX14_take.data.toList.drop 47 = dktX14_take_2 := dk_seg dksX14_take_1 24 rfl rfl
theorem dX14_take_0 : decode cX14_take 0 = .ok (.aload_n 0, 1) := dk_42 (dk_at dksX14_take_0 0 rfl rfl)
theorem dX14_take_1 : decode cX14_take 1 = .ok (.iload_n 1, 1) := dk_27 (dk_at dksX14_take_0 1 rfl rfl)
theorem dX14_take_2 : decode cX14_take 2 = .ok (.iload_n 2, 1) := dk_28 (dk_at dksX14_take_0 2 rfl rfl)
theorem dX14_take_3 : decode cX14_take 3 = .ok (.invokevirtual 33, 3) := dk_182 0 33 (dk_at dksX14_take_0 3 rfl rfl)
theorem dX14_take_6 : decode cX14_take 6 = .ok (.ifCond .ne 15, 3) := dk_154 0 15 (dk_at dksX14_take_0 6 rfl rfl)
theorem dX14_take_9 : decode cX14_take 9 = .ok (.new 37, 3) := dk_187 0 37 (dk_at dksX14_take_0 9 rfl rfl)
theorem dX14_take_12 : decode cX14_take 12 = .ok (.dup, 1) := dk_89 (dk_at dksX14_take_0 12 rfl rfl)
theorem dX14_take_13 : decode cX14_take 13 = .ok (.aload_n 0, 1) := dk_42 (dk_at dksX14_take_0 13 rfl rfl)
theorem dX14_take_14 : decode cX14_take 14 = .ok (.getfield 13, 3) := dk_180 0 13 (dk_at dksX14_take_0 14 rfl rfl)
theorem dX14_take_17 : decode cX14_take 17 = .ok (.invokespecial 39, 3) := dk_183 0 39 (dk_at dksX14_take_0 17 rfl rfl)
theorem dX14_take_20 : decode cX14_take 20 = .ok (.athrow, 1) := dk_191 (dk_at dksX14_take_0 20 rfl rfl)
theorem dX14_take_21 : decode cX14_take 21 = .ok (.aload_n 0, 1) := dk_42 (dk_at dksX14_take_0 21 rfl rfl)
theorem dX14_take_22 : decode cX14_take 22 = .ok (.dup, 1) := dk_89 (dk_at dksX14_take_0 22 rfl rfl)
theorem dX14_take_23 : decode cX14_take 23 = .ok (.getfield 13, 3) := dk_180 0 13 (dk_at dksX14_take_1 0 rfl rfl)
theorem dX14_take_26 : decode cX14_take 26 = .ok (.iconst 1, 1) := dk_4 (dk_at dksX14_take_1 3 rfl rfl)
theorem dX14_take_27 : decode cX14_take 27 = .ok (.iadd, 1) := dk_96 (dk_at dksX14_take_1 4 rfl rfl)
theorem dX14_take_28 : decode cX14_take 28 = .ok (.putfield 13, 3) := dk_181 0 13 (dk_at dksX14_take_1 5 rfl rfl)
theorem dX14_take_31 : decode cX14_take 31 = .ok (.aload_n 0, 1) := dk_42 (dk_at dksX14_take_1 8 rfl rfl)
theorem dX14_take_32 : decode cX14_take 32 = .ok (.getfield 7, 3) := dk_180 0 7 (dk_at dksX14_take_1 9 rfl rfl)
theorem dX14_take_35 : decode cX14_take 35 = .ok (.aload_n 0, 1) := dk_42 (dk_at dksX14_take_1 12 rfl rfl)
theorem dX14_take_36 : decode cX14_take 36 = .ok (.getfield 13, 3) := dk_180 0 13 (dk_at dksX14_take_1 13 rfl rfl)
theorem dX14_take_39 : decode cX14_take 39 = .ok (.iconst 1, 1) := dk_4 (dk_at dksX14_take_1 16 rfl rfl)
theorem dX14_take_40 : decode cX14_take 40 = .ok (.isub, 1) := dk_100 (dk_at dksX14_take_1 17 rfl rfl)
theorem dX14_take_41 : decode cX14_take 41 = .ok (.invokeinterface 23 2, 5) := by decide +kernel
theorem dX14_take_46 : decode cX14_take 46 = .ok (.iload_n 1, 1) := dk_27 (dk_at dksX14_take_1 23 rfl rfl)
theorem dX14_take_47 : decode cX14_take 47 = .ok (.isub, 1) := dk_100 (dk_at dksX14_take_2 0 rfl rfl)
theorem dX14_take_48 : decode cX14_take 48 = .ok (.ireturn, 1) := dk_172 (dk_at dksX14_take_2 1 rfl rfl)
abbrev cX14_isNext : ByteArray := prog_11_method_2_code
def yX14_isNext : MethodName := ⟨RX14, "isNext", "(II)Z"⟩
def dkwX14_isNext_1 : List UInt8 := [185, 0, 23, 2, 0, 133, 27, 133, 28, 133, 184, 0, 27, 153, 0, 7, 4, 167, 0, 4, 3, 172]
abbrev dktX14_isNext_1 : List UInt8 := dkwX14_isNext_1 ++ []
def dkwX14_isNext_0 : List UInt8 := [42, 180, 0, 13, 42, 180, 0, 7, 185, 0, 17, 1, 0, 162, 0, 31, 42, 180, 0, 7, 42, 180, 0, 13]
abbrev dktX14_isNext_0 : List UInt8 := dkwX14_isNext_0 ++ dktX14_isNext_1
theorem dksX14_isNext_0 : cX14_isNext.data.toList.drop 0 = dktX14_isNext_0 := by decide +kernel
theorem dksX14_isNext_1 : cX14_isNext.data.toList.drop 24 = dktX14_isNext_1 := dk_seg dksX14_isNext_0 24 rfl rfl
theorem dX14_isNext_0 : decode cX14_isNext 0 = .ok (.aload_n 0, 1) := dk_42 (dk_at dksX14_isNext_0 0 rfl rfl)
theorem dX14_isNext_1 : decode cX14_isNext 1 = .ok (.getfield 13, 3) := dk_180 0 13 (dk_at dksX14_isNext_0 1 rfl rfl)
theorem dX14_isNext_4 : decode cX14_isNext 4 = .ok (.aload_n 0, 1) := dk_42 (dk_at dksX14_isNext_0 4 rfl rfl)
theorem dX14_isNext_5 : decode cX14_isNext 5 = .ok (.getfield 7, 3) := dk_180 0 7 (dk_at dksX14_isNext_0 5 rfl rfl)
theorem dX14_isNext_8 : decode cX14_isNext 8 = .ok (.invokeinterface 17 1, 5) := by decide +kernel
theorem dX14_isNext_13 : decode cX14_isNext 13 = .ok (.if_icmp .ge 31, 3) := dk_162 0 31 (dk_at dksX14_isNext_0 13 rfl rfl)
theorem dX14_isNext_16 : decode cX14_isNext 16 = .ok (.aload_n 0, 1) := dk_42 (dk_at dksX14_isNext_0 16 rfl rfl)
theorem dX14_isNext_17 : decode cX14_isNext 17 = .ok (.getfield 7, 3) := dk_180 0 7 (dk_at dksX14_isNext_0 17 rfl rfl)
theorem dX14_isNext_20 : decode cX14_isNext 20 = .ok (.aload_n 0, 1) := dk_42 (dk_at dksX14_isNext_0 20 rfl rfl)
theorem dX14_isNext_21 : decode cX14_isNext 21 = .ok (.getfield 13, 3) := dk_180 0 13 (dk_at dksX14_isNext_0 21 rfl rfl)
theorem dX14_isNext_24 : decode cX14_isNext 24 = .ok (.invokeinterface 23 2, 5) := by decide +kernel
theorem dX14_isNext_29 : decode cX14_isNext 29 = .ok (.i2l, 1) := dk_133 (dk_at dksX14_isNext_1 5 rfl rfl)
theorem dX14_isNext_30 : decode cX14_isNext 30 = .ok (.iload_n 1, 1) := dk_27 (dk_at dksX14_isNext_1 6 rfl rfl)
theorem dX14_isNext_31 : decode cX14_isNext 31 = .ok (.i2l, 1) := dk_133 (dk_at dksX14_isNext_1 7 rfl rfl)
theorem dX14_isNext_32 : decode cX14_isNext 32 = .ok (.iload_n 2, 1) := dk_28 (dk_at dksX14_isNext_1 8 rfl rfl)
theorem dX14_isNext_33 : decode cX14_isNext 33 = .ok (.i2l, 1) := dk_133 (dk_at dksX14_isNext_1 9 rfl rfl)
theorem dX14_isNext_34 : decode cX14_isNext 34 = .ok (.invokestatic 27, 3) := dk_184 0 27 (dk_at dksX14_isNext_1 10 rfl rfl)
theorem dX14_isNext_37 : decode cX14_isNext 37 = .ok (.ifCond .eq 7, 3) := dk_153 0 7 (dk_at dksX14_isNext_1 13 rfl rfl)
theorem dX14_isNext_40 : decode cX14_isNext 40 = .ok (.iconst 1, 1) := dk_4 (dk_at dksX14_isNext_1 16 rfl rfl)
theorem dX14_isNext_41 : decode cX14_isNext 41 = .ok (.goto 4, 3) := dk_167 0 4 (dk_at dksX14_isNext_1 17 rfl rfl)
theorem dX14_isNext_44 : decode cX14_isNext 44 = .ok (.iconst 0, 1) := dk_3 (dk_at dksX14_isNext_1 20 rfl rfl)
theorem dX14_isNext_45 : decode cX14_isNext 45 = .ok (.ireturn, 1) := dk_172 (dk_at dksX14_isNext_1 21 rfl rfl)
abbrev cX14_number : ByteArray := prog_11_method_5_code
def yX14_number : MethodName := ⟨RX14, "number", "()I"⟩
def dkwX14_number_1 : List UInt8 := [42, 182, 0, 46, 96, 167, 0, 4, 27, 172]
abbrev dktX14_number_1 : List UInt8 := dkwX14_number_1 ++ []
def dkwX14_number_0 : List UInt8 := [42, 182, 0, 46, 60, 27, 158, 0, 26, 42, 16, 48, 16, 57, 182, 0, 33, 153, 0, 15, 16, 10, 27, 104]
abbrev dktX14_number_0 : List UInt8 := dkwX14_number_0 ++ dktX14_number_1
theorem dksX14_number_0 : cX14_number.data.toList.drop 0 = dktX14_number_0 := by decide +kernel
theorem dksX14_number_1 : cX14_number.data.toList.drop 24 = dktX14_number_1 := dk_seg dksX14_number_0 24 rfl rfl
theorem dX14_number_0 : decode cX14_number 0 = .ok (.aload_n 0, 1) := dk_42 (dk_at dksX14_number_0 0 rfl rfl)
theorem dX14_number_1 : decode cX14_number 1 = .ok (.invokevirtual 46, 3) := dk_182 0 46 (dk_at dksX14_number_0 1 rfl rfl)
theorem dX14_number_4 : decode cX14_number 4 = .ok (.istore_n 1, 1) := dk_60 (dk_at dksX14_number_0 4 rfl rfl)
theorem dX14_number_5 : decode cX14_number 5 = .ok (.iload_n 1, 1) := dk_27 (dk_at dksX14_number_0 5 rfl rfl)
theorem dX14_number_6 : decode cX14_number 6 = .ok (.ifCond .le 26, 3) := dk_158 0 26 (dk_at dksX14_number_0 6 rfl rfl)
theorem dX14_number_9 : decode cX14_number 9 = .ok (.aload_n 0, 1) := dk_42 (dk_at dksX14_number_0 9 rfl rfl)
theorem dX14_number_10 : decode cX14_number 10 = .ok (.bipush 48, 2) := dk_16 48 (dk_at dksX14_number_0 10 rfl rfl)
theorem dX14_number_12 : decode cX14_number 12 = .ok (.bipush 57, 2) := dk_16 57 (dk_at dksX14_number_0 12 rfl rfl)
theorem dX14_number_14 : decode cX14_number 14 = .ok (.invokevirtual 33, 3) := dk_182 0 33 (dk_at dksX14_number_0 14 rfl rfl)
theorem dX14_number_17 : decode cX14_number 17 = .ok (.ifCond .eq 15, 3) := dk_153 0 15 (dk_at dksX14_number_0 17 rfl rfl)
theorem dX14_number_20 : decode cX14_number 20 = .ok (.bipush 10, 2) := dk_16 10 (dk_at dksX14_number_0 20 rfl rfl)
theorem dX14_number_22 : decode cX14_number 22 = .ok (.iload_n 1, 1) := dk_27 (dk_at dksX14_number_0 22 rfl rfl)
theorem dX14_number_23 : decode cX14_number 23 = .ok (.imul, 1) := dk_104 (dk_at dksX14_number_0 23 rfl rfl)
theorem dX14_number_24 : decode cX14_number 24 = .ok (.aload_n 0, 1) := dk_42 (dk_at dksX14_number_1 0 rfl rfl)
theorem dX14_number_25 : decode cX14_number 25 = .ok (.invokevirtual 46, 3) := dk_182 0 46 (dk_at dksX14_number_1 1 rfl rfl)
theorem dX14_number_28 : decode cX14_number 28 = .ok (.iadd, 1) := dk_96 (dk_at dksX14_number_1 4 rfl rfl)
theorem dX14_number_29 : decode cX14_number 29 = .ok (.goto 4, 3) := dk_167 0 4 (dk_at dksX14_number_1 5 rfl rfl)
theorem dX14_number_32 : decode cX14_number 32 = .ok (.iload_n 1, 1) := dk_27 (dk_at dksX14_number_1 8 rfl rfl)
theorem dX14_number_33 : decode cX14_number 33 = .ok (.ireturn, 1) := dk_172 (dk_at dksX14_number_1 9 rfl rfl)
abbrev cX14_digit : ByteArray := prog_11_method_4_code
def yX14_digit : MethodName := ⟨RX14, "digit", "()I"⟩
def dkwX14_digit_0 : List UInt8 := [42, 16, 48, 16, 57, 182, 0, 42, 172]
abbrev dktX14_digit_0 : List UInt8 := dkwX14_digit_0 ++ []
theorem dksX14_digit_0 : cX14_digit.data.toList.drop 0 = dktX14_digit_0 := by decide +kernel
theorem dX14_digit_0 : decode cX14_digit 0 = .ok (.aload_n 0, 1) := dk_42 (dk_at dksX14_digit_0 0 rfl rfl)
theorem dX14_digit_1 : decode cX14_digit 1 = .ok (.bipush 48, 2) := dk_16 48 (dk_at dksX14_digit_0 1 rfl rfl)
theorem dX14_digit_3 : decode cX14_digit 3 = .ok (.bipush 57, 2) := dk_16 57 (dk_at dksX14_digit_0 3 rfl rfl)
theorem dX14_digit_5 : decode cX14_digit 5 = .ok (.invokevirtual 42, 3) := dk_182 0 42 (dk_at dksX14_digit_0 5 rfl rfl)
theorem dX14_digit_8 : decode cX14_digit 8 = .ok (.ireturn, 1) := dk_172 (dk_at dksX14_digit_0 8 rfl rfl)
abbrev cX14_behind : ByteArray := prog_11_method_6_code
def yX14_behind : MethodName := ⟨RX14, "behind", "(CZ)I"⟩
def dkwX14_behind_0 : List UInt8 := [42, 27, 27, 182, 0, 42, 62, 28, 153, 0, 10, 42, 182, 0, 46, 167, 0, 7, 42, 182, 0, 49, 172]
abbrev dktX14_behind_0 : List UInt8 := dkwX14_behind_0 ++ []
theorem dksX14_behind_0 : cX14_behind.data.toList.drop 0 = dktX14_behind_0 := by decide +kernel
theorem dX14_behind_0 : decode cX14_behind 0 = .ok (.aload_n 0, 1) := dk_42 (dk_at dksX14_behind_0 0 rfl rfl)
theorem dX14_behind_1 : decode cX14_behind 1 = .ok (.iload_n 1, 1) := dk_27 (dk_at dksX14_behind_0 1 rfl rfl)
theorem dX14_behind_2 : decode cX14_behind 2 = .ok (.iload_n 1, 1) := dk_27 (dk_at dksX14_behind_0 2 rfl rfl)
theorem dX14_behind_3 : decode cX14_behind 3 = .ok (.invokevirtual 42, 3) := dk_182 0 42 (dk_at dksX14_behind_0 3 rfl rfl)
theorem dX14_behind_6 : decode cX14_behind 6 = .ok (.istore_n 3, 1) := dk_62 (dk_at dksX14_behind_0 6 rfl rfl)
theorem dX14_behind_7 : decode cX14_behind 7 = .ok (.iload_n 2, 1) := dk_28 (dk_at dksX14_behind_0 7 rfl rfl)
theorem dX14_behind_8 : decode cX14_behind 8 = .ok (.ifCond .eq 10, 3) := dk_153 0 10 (dk_at dksX14_behind_0 8 rfl rfl)
theorem dX14_behind_11 : decode cX14_behind 11 = .ok (.aload_n 0, 1) := dk_42 (dk_at dksX14_behind_0 11 rfl rfl)
theorem dX14_behind_12 : decode cX14_behind 12 = .ok (.invokevirtual 46, 3) := dk_182 0 46 (dk_at dksX14_behind_0 12 rfl rfl)
theorem dX14_behind_15 : decode cX14_behind 15 = .ok (.goto 7, 3) := dk_167 0 7 (dk_at dksX14_behind_0 15 rfl rfl)
theorem dX14_behind_18 : decode cX14_behind 18 = .ok (.aload_n 0, 1) := dk_42 (dk_at dksX14_behind_0 18 rfl rfl)
theorem dX14_behind_19 : decode cX14_behind 19 = .ok (.invokevirtual 49, 3) := dk_182 0 49 (dk_at dksX14_behind_0 19 rfl rfl)
theorem dX14_behind_22 : decode cX14_behind 22 = .ok (.ireturn, 1) := dk_172 (dk_at dksX14_behind_0 22 rfl rfl)
abbrev cX14_lambda_item_0 : ByteArray := prog_11_method_16_code
def yX14_lambda_item_0 : MethodName := ⟨RX14, "lambda$item$0", "(IILWillowPrinters$House;)I"⟩
def dkwX14_lambda_item_0_0 : List UInt8 := [44, 26, 27, 182, 0, 108, 172]
abbrev dktX14_lambda_item_0_0 : List UInt8 := dkwX14_lambda_item_0_0 ++ []
theorem dksX14_lambda_item_0_0 : cX14_lambda_item_0.data.toList.drop 0 = dktX14_lambda_item_0_0 := by decide +kernel
theorem dX14_lambda_item_0_0 : decode cX14_lambda_item_0 0 = .ok (.aload_n 2, 1) := dk_44 (dk_at dksX14_lambda_item_0_0 0 rfl rfl)
theorem dX14_lambda_item_0_1 : decode cX14_lambda_item_0 1 = .ok (.iload_n 0, 1) := dk_26 (dk_at dksX14_lambda_item_0_0 1 rfl rfl)
theorem dX14_lambda_item_0_2 : decode cX14_lambda_item_0 2 = .ok (.iload_n 1, 1) := dk_27 (dk_at dksX14_lambda_item_0_0 2 rfl rfl)
theorem dX14_lambda_item_0_3 : decode cX14_lambda_item_0 3 = .ok (.invokevirtual 108, 3) := dk_182 0 108 (dk_at dksX14_lambda_item_0_0 3 rfl rfl)
theorem dX14_lambda_item_0_6 : decode cX14_lambda_item_0 6 = .ok (.ireturn, 1) := dk_172 (dk_at dksX14_lambda_item_0_0 6 rfl rfl)
abbrev cX14_lambda_item_1 : ByteArray := prog_11_method_15_code
def yX14_lambda_item_1 : MethodName := ⟨RX14, "lambda$item$1", "(IIILWillowPrinters$House;)I"⟩
def dkwX14_lambda_item_1_0 : List UInt8 := [45, 26, 27, 28, 182, 0, 105, 172]
abbrev dktX14_lambda_item_1_0 : List UInt8 := dkwX14_lambda_item_1_0 ++ []
theorem dksX14_lambda_item_1_0 : cX14_lambda_item_1.data.toList.drop 0 = dktX14_lambda_item_1_0 := by decide +kernel
theorem dX14_lambda_item_1_0 : decode cX14_lambda_item_1 0 = .ok (.aload_n 3, 1) := dk_45 (dk_at dksX14_lambda_item_1_0 0 rfl rfl)
theorem dX14_lambda_item_1_1 : decode cX14_lambda_item_1 1 = .ok (.iload_n 0, 1) := dk_26 (dk_at dksX14_lambda_item_1_0 1 rfl rfl)
theorem dX14_lambda_item_1_2 : decode cX14_lambda_item_1 2 = .ok (.iload_n 1, 1) := dk_27 (dk_at dksX14_lambda_item_1_0 2 rfl rfl)
theorem dX14_lambda_item_1_3 : decode cX14_lambda_item_1 3 = .ok (.iload_n 2, 1) := dk_28 (dk_at dksX14_lambda_item_1_0 3 rfl rfl)
theorem dX14_lambda_item_1_4 : decode cX14_lambda_item_1 4 = .ok (.invokevirtual 105, 3) := dk_182 0 105 (dk_at dksX14_lambda_item_1_0 4 rfl rfl)
theorem dX14_lambda_item_1_7 : decode cX14_lambda_item_1 7 = .ok (.ireturn, 1) := dk_172 (dk_at dksX14_lambda_item_1_0 7 rfl rfl)
abbrev cX14_lambda_item_2 : ByteArray := prog_11_method_14_code
def yX14_lambda_item_2 : MethodName := ⟨RX14, "lambda$item$2", "(IIILWillowPrinters$House;)I"⟩
def dkwX14_lambda_item_2_0 : List UInt8 := [45, 26, 27, 28, 182, 0, 101, 172]
abbrev dktX14_lambda_item_2_0 : List UInt8 := dkwX14_lambda_item_2_0 ++ []
theorem dksX14_lambda_item_2_0 : cX14_lambda_item_2.data.toList.drop 0 = dktX14_lambda_item_2_0 := by decide +kernel
theorem dX14_lambda_item_2_0 : decode cX14_lambda_item_2 0 = .ok (.aload_n 3, 1) := dk_45 (dk_at dksX14_lambda_item_2_0 0 rfl rfl)
theorem dX14_lambda_item_2_1 : decode cX14_lambda_item_2 1 = .ok (.iload_n 0, 1) := dk_26 (dk_at dksX14_lambda_item_2_0 1 rfl rfl)
theorem dX14_lambda_item_2_2 : decode cX14_lambda_item_2 2 = .ok (.iload_n 1, 1) := dk_27 (dk_at dksX14_lambda_item_2_0 2 rfl rfl)
theorem dX14_lambda_item_2_3 : decode cX14_lambda_item_2 3 = .ok (.iload_n 2, 1) := dk_28 (dk_at dksX14_lambda_item_2_0 3 rfl rfl)
theorem dX14_lambda_item_2_4 : decode cX14_lambda_item_2 4 = .ok (.invokevirtual 101, 3) := dk_182 0 101 (dk_at dksX14_lambda_item_2_0 4 rfl rfl)
theorem dX14_lambda_item_2_7 : decode cX14_lambda_item_2 7 = .ok (.ireturn, 1) := dk_172 (dk_at dksX14_lambda_item_2_0 7 rfl rfl)
abbrev cX14_lambda_item_3 : ByteArray := prog_11_method_13_code
def yX14_lambda_item_3 : MethodName := ⟨RX14, "lambda$item$3", "(IILWillowPrinters$House;)I"⟩
def dkwX14_lambda_item_3_0 : List UInt8 := [44, 26, 27, 182, 0, 98, 172]
abbrev dktX14_lambda_item_3_0 : List UInt8 := dkwX14_lambda_item_3_0 ++ []
theorem dksX14_lambda_item_3_0 : cX14_lambda_item_3.data.toList.drop 0 = dktX14_lambda_item_3_0 := by decide +kernel
theorem dX14_lambda_item_3_0 : decode cX14_lambda_item_3 0 = .ok (.aload_n 2, 1) := dk_44 (dk_at dksX14_lambda_item_3_0 0 rfl rfl)
theorem dX14_lambda_item_3_1 : decode cX14_lambda_item_3 1 = .ok (.iload_n 0, 1) := dk_26 (dk_at dksX14_lambda_item_3_0 1 rfl rfl)
theorem dX14_lambda_item_3_2 : decode cX14_lambda_item_3 2 = .ok (.iload_n 1, 1) := dk_27 (dk_at dksX14_lambda_item_3_0 2 rfl rfl)
theorem dX14_lambda_item_3_3 : decode cX14_lambda_item_3 3 = .ok (.invokevirtual 98, 3) := dk_182 0 98 (dk_at dksX14_lambda_item_3_0 3 rfl rfl)
theorem dX14_lambda_item_3_6 : decode cX14_lambda_item_3 6 = .ok (.ireturn, 1) := dk_172 (dk_at dksX14_lambda_item_3_0 6 rfl rfl)
abbrev cX14_lambda_item_4 : ByteArray := prog_11_method_12_code
def yX14_lambda_item_4 : MethodName := ⟨RX14, "lambda$item$4", "(ILWillowPrinters$House;)I"⟩
def dkwX14_lambda_item_4_0 : List UInt8 := [43, 26, 182, 0, 95, 172]
abbrev dktX14_lambda_item_4_0 : List UInt8 := dkwX14_lambda_item_4_0 ++ []
theorem dksX14_lambda_item_4_0 : cX14_lambda_item_4.data.toList.drop 0 = dktX14_lambda_item_4_0 := by decide +kernel
theorem dX14_lambda_item_4_0 : decode cX14_lambda_item_4 0 = .ok (.aload_n 1, 1) := dk_43 (dk_at dksX14_lambda_item_4_0 0 rfl rfl)
theorem dX14_lambda_item_4_1 : decode cX14_lambda_item_4 1 = .ok (.iload_n 0, 1) := dk_26 (dk_at dksX14_lambda_item_4_0 1 rfl rfl)
theorem dX14_lambda_item_4_2 : decode cX14_lambda_item_4 2 = .ok (.invokevirtual 95, 3) := dk_182 0 95 (dk_at dksX14_lambda_item_4_0 2 rfl rfl)
theorem dX14_lambda_item_4_5 : decode cX14_lambda_item_4 5 = .ok (.ireturn, 1) := dk_172 (dk_at dksX14_lambda_item_4_0 5 rfl rfl)
abbrev cX14_lambda_item_5 : ByteArray := prog_11_method_11_code
def yX14_lambda_item_5 : MethodName := ⟨RX14, "lambda$item$5", "(ILWillowPrinters$House;)I"⟩
def dkwX14_lambda_item_5_0 : List UInt8 := [43, 26, 182, 0, 92, 172]
abbrev dktX14_lambda_item_5_0 : List UInt8 := dkwX14_lambda_item_5_0 ++ []
theorem dksX14_lambda_item_5_0 : cX14_lambda_item_5.data.toList.drop 0 = dktX14_lambda_item_5_0 := by decide +kernel
theorem dX14_lambda_item_5_0 : decode cX14_lambda_item_5 0 = .ok (.aload_n 1, 1) := dk_43 (dk_at dksX14_lambda_item_5_0 0 rfl rfl)
theorem dX14_lambda_item_5_1 : decode cX14_lambda_item_5 1 = .ok (.iload_n 0, 1) := dk_26 (dk_at dksX14_lambda_item_5_0 1 rfl rfl)
theorem dX14_lambda_item_5_2 : decode cX14_lambda_item_5 2 = .ok (.invokevirtual 92, 3) := dk_182 0 92 (dk_at dksX14_lambda_item_5_0 2 rfl rfl)
theorem dX14_lambda_item_5_5 : decode cX14_lambda_item_5 5 = .ok (.ireturn, 1) := dk_172 (dk_at dksX14_lambda_item_5_0 5 rfl rfl)
abbrev cX14_lambda_item_6 : ByteArray := prog_11_method_10_code
def yX14_lambda_item_6 : MethodName := ⟨RX14, "lambda$item$6", "(LWillowPrinters$House;)I"⟩
theorem dX14_lambda_item_6_0 : decode cX14_lambda_item_6 0 = .ok (.aload_n 0, 1) := by decide +kernel
theorem dX14_lambda_item_6_1 : decode cX14_lambda_item_6 1 = .ok (.invokevirtual 89, 3) := by decide +kernel
theorem dX14_lambda_item_6_4 : decode cX14_lambda_item_6 4 = .ok (.ireturn, 1) := by decide +kernel
abbrev cX14_lambda_item_7 : ByteArray := prog_11_method_9_code
def yX14_lambda_item_7 : MethodName := ⟨RX14, "lambda$item$7", "(ILWillowPrinters$House;)I"⟩
def dkwX14_lambda_item_7_0 : List UInt8 := [43, 26, 182, 0, 83, 172]
abbrev dktX14_lambda_item_7_0 : List UInt8 := dkwX14_lambda_item_7_0 ++ []
theorem dksX14_lambda_item_7_0 : cX14_lambda_item_7.data.toList.drop 0 = dktX14_lambda_item_7_0 := by decide +kernel
theorem dX14_lambda_item_7_0 : decode cX14_lambda_item_7 0 = .ok (.aload_n 1, 1) := dk_43 (dk_at dksX14_lambda_item_7_0 0 rfl rfl)
theorem dX14_lambda_item_7_1 : decode cX14_lambda_item_7 1 = .ok (.iload_n 0, 1) := dk_26 (dk_at dksX14_lambda_item_7_0 1 rfl rfl)
theorem dX14_lambda_item_7_2 : decode cX14_lambda_item_7 2 = .ok (.invokevirtual 83, 3) := dk_182 0 83 (dk_at dksX14_lambda_item_7_0 2 rfl rfl)
theorem dX14_lambda_item_7_5 : decode cX14_lambda_item_7 5 = .ok (.ireturn, 1) := dk_172 (dk_at dksX14_lambda_item_7_0 5 rfl rfl)
theorem q97 : (Jvm.Cond.initialized "WillowPrinters$Parser") ∈ lw_all := lw_g (lw_at lw_m1 43 rfl) rfl
theorem q823 : (Jvm.Cond.selects "WillowPrinters$Parser" ({ cls := "java/lang/Object", name := "getClass", desc := "()Ljava/lang/Class;" } : Jvm.MethodName) ({ cls := "java/lang/Object", name := "getClass", desc := "()Ljava/lang/Class;" } : Jvm.MethodName)) ∈ lw_all := lw_g (lw_at lw_m4 49 rfl) rfl
theorem q1755 : (Jvm.Cond.instantiable "WillowPrinters$Parser" (2 : Nat)) ∈ lw_all := lw_g (lw_at lw_m8 21 rfl) rfl
theorem q1757 : (Jvm.Cond.instanceMethod ({ cls := "WillowPrinters$Parser", name := "<init>", desc := "(Ljava/lang/CharSequence;)V" } : Jvm.MethodName)) ∈ lw_all := lw_g (lw_at lw_m8 23 rfl) rfl
theorem q1758 : (Jvm.Cond.code ({ cls := "WillowPrinters$Parser", name := "<init>", desc := "(Ljava/lang/CharSequence;)V" } : Jvm.MethodName) prog_11_method_1_code (2 : Nat) (Option.none : Option Jvm.ClassFile.FieldType)) ∈ lw_all := lw_g (lw_at lw_m8 24 rfl) rfl
theorem q1759 : (Jvm.Cond.methodLink "WillowPrinters$Parser" (1 : Nat) ({ cls := "java/lang/Object", name := "<init>", desc := "()V" } : Jvm.MethodName)) ∈ lw_all := lw_g (lw_at lw_m8 25 rfl) rfl
theorem q1760 : (Jvm.Cond.fieldLink "WillowPrinters$Parser" (7 : Nat) "WillowPrinters$Parser" "text" "Ljava/lang/CharSequence;") ∈ lw_all := lw_g (lw_at lw_m8 26 rfl) rfl
theorem q1761 : (Jvm.Cond.fieldLink "WillowPrinters$Parser" (13 : Nat) "WillowPrinters$Parser" "position" "I") ∈ lw_all := lw_g (lw_at lw_m8 27 rfl) rfl
theorem q1762 : (Jvm.Cond.laysFinal "WillowPrinters$Parser" "WillowPrinters$Parser" "text" "Ljava/lang/CharSequence;") ∈ lw_all := lw_g (lw_at lw_m8 28 rfl) rfl
theorem q1763 : (Jvm.Cond.soleField "WillowPrinters$Parser" "text") ∈ lw_all := lw_g (lw_at lw_m8 29 rfl) rfl
theorem q1764 : (Jvm.Cond.lays "WillowPrinters$Parser" "WillowPrinters$Parser" "position" "I") ∈ lw_all := lw_g (lw_at lw_m8 30 rfl) rfl
theorem q1765 : (Jvm.Cond.soleField "WillowPrinters$Parser" "position") ∈ lw_all := lw_g (lw_at lw_m8 31 rfl) rfl
theorem q1766 : (Jvm.Cond.superclass "WillowPrinters$Parser" "java/lang/Object") ∈ lw_all := lw_g (lw_at lw_m8 32 rfl) rfl
theorem q1768 : (Jvm.Cond.instanceMethod ({ cls := "WillowPrinters$Parser", name := "items", desc := "()Ljava/util/ArrayList;" } : Jvm.MethodName)) ∈ lw_all := lw_g (lw_at lw_m8 34 rfl) rfl
theorem q1769 : (Jvm.Cond.selects "WillowPrinters$Parser" ({ cls := "WillowPrinters$Parser", name := "items", desc := "()Ljava/util/ArrayList;" } : Jvm.MethodName) ({ cls := "WillowPrinters$Parser", name := "items", desc := "()Ljava/util/ArrayList;" } : Jvm.MethodName)) ∈ lw_all := lw_g (lw_at lw_m8 35 rfl) rfl
theorem q1770 : (Jvm.Cond.code ({ cls := "WillowPrinters$Parser", name := "items", desc := "()Ljava/util/ArrayList;" } : Jvm.MethodName) prog_11_method_8_code (4 : Nat) (Option.some (Jvm.ClassFile.FieldType.object "java/util/ArrayList"))) ∈ lw_all := lw_g (lw_at lw_m8 36 rfl) rfl
theorem q1771 : (Jvm.Cond.classLink "WillowPrinters$Parser" (73 : Nat) "java/util/ArrayList") ∈ lw_all := lw_g (lw_at lw_m8 37 rfl) rfl
theorem q1772 : (Jvm.Cond.methodLink "WillowPrinters$Parser" (75 : Nat) ({ cls := "java/util/ArrayList", name := "<init>", desc := "()V" } : Jvm.MethodName)) ∈ lw_all := lw_g (lw_at lw_m8 38 rfl) rfl
theorem q1775 : (Jvm.Cond.methodLink "WillowPrinters$Parser" (76 : Nat) ({ cls := "WillowPrinters$Parser", name := "item", desc := "()LWillowPrinters$Change;" } : Jvm.MethodName)) ∈ lw_all := lw_g (lw_at lw_m8 41 rfl) rfl
theorem q1776 : (Jvm.Cond.privateMethod ({ cls := "WillowPrinters$Parser", name := "item", desc := "()LWillowPrinters$Change;" } : Jvm.MethodName)) ∈ lw_tbl := lw_at lw_m8 42 rfl
theorem q1777 : (Jvm.Cond.instanceMethod ({ cls := "WillowPrinters$Parser", name := "item", desc := "()LWillowPrinters$Change;" } : Jvm.MethodName)) ∈ lw_all := lw_g (lw_at lw_m8 43 rfl) rfl
theorem q1778 : (Jvm.Cond.code ({ cls := "WillowPrinters$Parser", name := "item", desc := "()LWillowPrinters$Change;" } : Jvm.MethodName) prog_11_method_7_code (6 : Nat) (Option.some (Jvm.ClassFile.FieldType.object "WillowPrinters$Change"))) ∈ lw_all := lw_g (lw_at lw_m8 44 rfl) rfl
theorem q1779 : (Jvm.Cond.methodLink "WillowPrinters$Parser" (42 : Nat) ({ cls := "WillowPrinters$Parser", name := "take", desc := "(II)I" } : Jvm.MethodName)) ∈ lw_all := lw_g (lw_at lw_m8 45 rfl) rfl
theorem q1780 : (Jvm.Cond.privateMethod ({ cls := "WillowPrinters$Parser", name := "take", desc := "(II)I" } : Jvm.MethodName)) ∈ lw_tbl := lw_at lw_m8 46 rfl
theorem q1781 : (Jvm.Cond.instanceMethod ({ cls := "WillowPrinters$Parser", name := "take", desc := "(II)I" } : Jvm.MethodName)) ∈ lw_all := lw_g (lw_at lw_m8 47 rfl) rfl
theorem q1782 : (Jvm.Cond.code ({ cls := "WillowPrinters$Parser", name := "take", desc := "(II)I" } : Jvm.MethodName) prog_11_method_3_code (3 : Nat) (Option.some Jvm.ClassFile.FieldType.int)) ∈ lw_all := lw_g (lw_at lw_m8 48 rfl) rfl
theorem q1783 : (Jvm.Cond.methodLink "WillowPrinters$Parser" (33 : Nat) ({ cls := "WillowPrinters$Parser", name := "isNext", desc := "(II)Z" } : Jvm.MethodName)) ∈ lw_all := lw_g (lw_at lw_m8 49 rfl) rfl
theorem q1784 : (Jvm.Cond.privateMethod ({ cls := "WillowPrinters$Parser", name := "isNext", desc := "(II)Z" } : Jvm.MethodName)) ∈ lw_tbl := lw_at lw_m8 50 rfl
theorem q1785 : (Jvm.Cond.instanceMethod ({ cls := "WillowPrinters$Parser", name := "isNext", desc := "(II)Z" } : Jvm.MethodName)) ∈ lw_all := lw_g (lw_at lw_m8 51 rfl) rfl
theorem q1786 : (Jvm.Cond.code ({ cls := "WillowPrinters$Parser", name := "isNext", desc := "(II)Z" } : Jvm.MethodName) prog_11_method_2_code (3 : Nat) (Option.some Jvm.ClassFile.FieldType.boolean)) ∈ lw_all := lw_g (lw_at lw_m8 52 rfl) rfl
theorem q1787 : (Jvm.Cond.interfaceEntry "WillowPrinters$Parser" (17 : Nat)) ∈ lw_tbl := lw_at lw_m8 53 rfl
theorem q1788 : (Jvm.Cond.methodLink "WillowPrinters$Parser" (17 : Nat) ({ cls := "java/lang/CharSequence", name := "length", desc := "()I" } : Jvm.MethodName)) ∈ lw_all := lw_g (lw_at lw_m8 54 rfl) rfl
theorem q1799 : (Jvm.Cond.interfaceEntry "WillowPrinters$Parser" (23 : Nat)) ∈ lw_tbl := lw_at lw_m8 65 rfl
theorem q1800 : (Jvm.Cond.methodLink "WillowPrinters$Parser" (23 : Nat) ({ cls := "java/lang/CharSequence", name := "charAt", desc := "(I)C" } : Jvm.MethodName)) ∈ lw_all := lw_g (lw_at lw_m8 66 rfl) rfl
theorem q1817 : (Jvm.Cond.methodLinkNest "WillowPrinters$Parser" (27 : Nat) ({ cls := "WillowPrinters", name := "inRange", desc := "(JJJ)Z" } : Jvm.MethodName) "WillowPrinters") ∈ lw_tbl := lw_at lw_m8 83 rfl
theorem q1818 : (Jvm.Cond.classLink "WillowPrinters$Parser" (37 : Nat) "WillowPrinters$SyntaxException") ∈ lw_all := lw_g (lw_at lw_m8 84 rfl) rfl
theorem q1827 : (Jvm.Cond.methodLink "WillowPrinters$Parser" (39 : Nat) ({ cls := "WillowPrinters$SyntaxException", name := "<init>", desc := "(I)V" } : Jvm.MethodName)) ∈ lw_all := lw_g (lw_at lw_m8 93 rfl) rfl
theorem q1837 : (Jvm.Cond.methodLink "WillowPrinters$Parser" (49 : Nat) ({ cls := "WillowPrinters$Parser", name := "number", desc := "()I" } : Jvm.MethodName)) ∈ lw_all := lw_g (lw_at lw_m8 103 rfl) rfl
theorem q1838 : (Jvm.Cond.privateMethod ({ cls := "WillowPrinters$Parser", name := "number", desc := "()I" } : Jvm.MethodName)) ∈ lw_tbl := lw_at lw_m8 104 rfl
theorem q1839 : (Jvm.Cond.instanceMethod ({ cls := "WillowPrinters$Parser", name := "number", desc := "()I" } : Jvm.MethodName)) ∈ lw_all := lw_g (lw_at lw_m8 105 rfl) rfl
theorem q1840 : (Jvm.Cond.code ({ cls := "WillowPrinters$Parser", name := "number", desc := "()I" } : Jvm.MethodName) prog_11_method_5_code (2 : Nat) (Option.some Jvm.ClassFile.FieldType.int)) ∈ lw_all := lw_g (lw_at lw_m8 106 rfl) rfl
theorem q1841 : (Jvm.Cond.methodLink "WillowPrinters$Parser" (46 : Nat) ({ cls := "WillowPrinters$Parser", name := "digit", desc := "()I" } : Jvm.MethodName)) ∈ lw_all := lw_g (lw_at lw_m8 107 rfl) rfl
theorem q1842 : (Jvm.Cond.privateMethod ({ cls := "WillowPrinters$Parser", name := "digit", desc := "()I" } : Jvm.MethodName)) ∈ lw_tbl := lw_at lw_m8 108 rfl
theorem q1843 : (Jvm.Cond.instanceMethod ({ cls := "WillowPrinters$Parser", name := "digit", desc := "()I" } : Jvm.MethodName)) ∈ lw_all := lw_g (lw_at lw_m8 109 rfl) rfl
theorem q1844 : (Jvm.Cond.code ({ cls := "WillowPrinters$Parser", name := "digit", desc := "()I" } : Jvm.MethodName) prog_11_method_4_code (1 : Nat) (Option.some Jvm.ClassFile.FieldType.int)) ∈ lw_all := lw_g (lw_at lw_m8 110 rfl) rfl
theorem q1845 : (Jvm.Cond.methodLink "WillowPrinters$Parser" (52 : Nat) ({ cls := "WillowPrinters$Parser", name := "behind", desc := "(CZ)I" } : Jvm.MethodName)) ∈ lw_all := lw_g (lw_at lw_m8 111 rfl) rfl
theorem q1846 : (Jvm.Cond.privateMethod ({ cls := "WillowPrinters$Parser", name := "behind", desc := "(CZ)I" } : Jvm.MethodName)) ∈ lw_tbl := lw_at lw_m8 112 rfl
theorem q1847 : (Jvm.Cond.instanceMethod ({ cls := "WillowPrinters$Parser", name := "behind", desc := "(CZ)I" } : Jvm.MethodName)) ∈ lw_all := lw_g (lw_at lw_m8 113 rfl) rfl
theorem q1848 : (Jvm.Cond.code ({ cls := "WillowPrinters$Parser", name := "behind", desc := "(CZ)I" } : Jvm.MethodName) prog_11_method_6_code (4 : Nat) (Option.some Jvm.ClassFile.FieldType.int)) ∈ lw_all := lw_g (lw_at lw_m8 114 rfl) rfl
theorem q1849 : (Jvm.Cond.static ({ cls := "WillowPrinters$Parser", name := "lambda$item$0", desc := "(IILWillowPrinters$House;)I" } : Jvm.MethodName)) ∈ lw_all := lw_g (lw_at lw_m8 115 rfl) rfl
theorem q1850 : (Jvm.Cond.code ({ cls := "WillowPrinters$Parser", name := "lambda$item$0", desc := "(IILWillowPrinters$House;)I" } : Jvm.MethodName) prog_11_method_16_code (3 : Nat) (Option.some Jvm.ClassFile.FieldType.int)) ∈ lw_all := lw_g (lw_at lw_m8 116 rfl) rfl
theorem q1851 : (Jvm.Cond.methodLink "WillowPrinters$Parser" (108 : Nat) ({ cls := "WillowPrinters$House", name := "print", desc := "(II)I" } : Jvm.MethodName)) ∈ lw_all := lw_g (lw_at lw_m8 117 rfl) rfl
theorem q1852 : (Jvm.Cond.static ({ cls := "WillowPrinters$Parser", name := "lambda$item$1", desc := "(IIILWillowPrinters$House;)I" } : Jvm.MethodName)) ∈ lw_all := lw_g (lw_at lw_m8 118 rfl) rfl
theorem q1853 : (Jvm.Cond.code ({ cls := "WillowPrinters$Parser", name := "lambda$item$1", desc := "(IIILWillowPrinters$House;)I" } : Jvm.MethodName) prog_11_method_15_code (4 : Nat) (Option.some Jvm.ClassFile.FieldType.int)) ∈ lw_all := lw_g (lw_at lw_m8 119 rfl) rfl
theorem q1854 : (Jvm.Cond.methodLink "WillowPrinters$Parser" (105 : Nat) ({ cls := "WillowPrinters$House", name := "fire", desc := "(III)I" } : Jvm.MethodName)) ∈ lw_all := lw_g (lw_at lw_m8 120 rfl) rfl
theorem q1855 : (Jvm.Cond.static ({ cls := "WillowPrinters$Parser", name := "lambda$item$2", desc := "(IIILWillowPrinters$House;)I" } : Jvm.MethodName)) ∈ lw_all := lw_g (lw_at lw_m8 121 rfl) rfl
theorem q1856 : (Jvm.Cond.code ({ cls := "WillowPrinters$Parser", name := "lambda$item$2", desc := "(IIILWillowPrinters$House;)I" } : Jvm.MethodName) prog_11_method_14_code (4 : Nat) (Option.some Jvm.ClassFile.FieldType.int)) ∈ lw_all := lw_g (lw_at lw_m8 122 rfl) rfl
theorem q1857 : (Jvm.Cond.methodLink "WillowPrinters$Parser" (101 : Nat) ({ cls := "WillowPrinters$House", name := "pack", desc := "(III)I" } : Jvm.MethodName)) ∈ lw_all := lw_g (lw_at lw_m8 123 rfl) rfl
theorem q1858 : (Jvm.Cond.static ({ cls := "WillowPrinters$Parser", name := "lambda$item$3", desc := "(IILWillowPrinters$House;)I" } : Jvm.MethodName)) ∈ lw_all := lw_g (lw_at lw_m8 124 rfl) rfl
theorem q1859 : (Jvm.Cond.code ({ cls := "WillowPrinters$Parser", name := "lambda$item$3", desc := "(IILWillowPrinters$House;)I" } : Jvm.MethodName) prog_11_method_13_code (3 : Nat) (Option.some Jvm.ClassFile.FieldType.int)) ∈ lw_all := lw_g (lw_at lw_m8 125 rfl) rfl
theorem q1860 : (Jvm.Cond.methodLink "WillowPrinters$Parser" (98 : Nat) ({ cls := "WillowPrinters$House", name := "addStraw", desc := "(II)I" } : Jvm.MethodName)) ∈ lw_all := lw_g (lw_at lw_m8 126 rfl) rfl
theorem q1861 : (Jvm.Cond.static ({ cls := "WillowPrinters$Parser", name := "lambda$item$4", desc := "(ILWillowPrinters$House;)I" } : Jvm.MethodName)) ∈ lw_all := lw_g (lw_at lw_m8 127 rfl) rfl
theorem q1862 : (Jvm.Cond.code ({ cls := "WillowPrinters$Parser", name := "lambda$item$4", desc := "(ILWillowPrinters$House;)I" } : Jvm.MethodName) prog_11_method_12_code (2 : Nat) (Option.some Jvm.ClassFile.FieldType.int)) ∈ lw_all := lw_g (lw_at lw_m8 128 rfl) rfl
theorem q1863 : (Jvm.Cond.methodLink "WillowPrinters$Parser" (95 : Nat) ({ cls := "WillowPrinters$House", name := "carry", desc := "(I)I" } : Jvm.MethodName)) ∈ lw_all := lw_g (lw_at lw_m8 129 rfl) rfl
theorem q1864 : (Jvm.Cond.static ({ cls := "WillowPrinters$Parser", name := "lambda$item$5", desc := "(ILWillowPrinters$House;)I" } : Jvm.MethodName)) ∈ lw_all := lw_g (lw_at lw_m8 130 rfl) rfl
theorem q1865 : (Jvm.Cond.code ({ cls := "WillowPrinters$Parser", name := "lambda$item$5", desc := "(ILWillowPrinters$House;)I" } : Jvm.MethodName) prog_11_method_11_code (2 : Nat) (Option.some Jvm.ClassFile.FieldType.int)) ∈ lw_all := lw_g (lw_at lw_m8 131 rfl) rfl
theorem q1866 : (Jvm.Cond.methodLink "WillowPrinters$Parser" (92 : Nat) ({ cls := "WillowPrinters$House", name := "setDamp", desc := "(I)I" } : Jvm.MethodName)) ∈ lw_all := lw_g (lw_at lw_m8 132 rfl) rfl
theorem q1867 : (Jvm.Cond.static ({ cls := "WillowPrinters$Parser", name := "lambda$item$6", desc := "(LWillowPrinters$House;)I" } : Jvm.MethodName)) ∈ lw_all := lw_g (lw_at lw_m8 133 rfl) rfl
theorem q1868 : (Jvm.Cond.code ({ cls := "WillowPrinters$Parser", name := "lambda$item$6", desc := "(LWillowPrinters$House;)I" } : Jvm.MethodName) prog_11_method_10_code (1 : Nat) (Option.some Jvm.ClassFile.FieldType.int)) ∈ lw_all := lw_g (lw_at lw_m8 134 rfl) rfl
theorem q1869 : (Jvm.Cond.methodLink "WillowPrinters$Parser" (89 : Nat) ({ cls := "WillowPrinters$House", name := "sell", desc := "()I" } : Jvm.MethodName)) ∈ lw_all := lw_g (lw_at lw_m8 135 rfl) rfl
theorem q1870 : (Jvm.Cond.static ({ cls := "WillowPrinters$Parser", name := "lambda$item$7", desc := "(ILWillowPrinters$House;)I" } : Jvm.MethodName)) ∈ lw_all := lw_g (lw_at lw_m8 136 rfl) rfl
theorem q1871 : (Jvm.Cond.code ({ cls := "WillowPrinters$Parser", name := "lambda$item$7", desc := "(ILWillowPrinters$House;)I" } : Jvm.MethodName) prog_11_method_9_code (2 : Nat) (Option.some Jvm.ClassFile.FieldType.int)) ∈ lw_all := lw_g (lw_at lw_m8 137 rfl) rfl
theorem q1872 : (Jvm.Cond.methodLink "WillowPrinters$Parser" (83 : Nat) ({ cls := "WillowPrinters$House", name := "pass", desc := "(I)I" } : Jvm.MethodName)) ∈ lw_all := lw_g (lw_at lw_m8 138 rfl) rfl
theorem q1873 : (Jvm.Cond.methodLink "WillowPrinters$Parser" (79 : Nat) ({ cls := "java/util/ArrayList", name := "add", desc := "(Ljava/lang/Object;)Z" } : Jvm.MethodName)) ∈ lw_all := lw_g (lw_at lw_m8 139 rfl) rfl
theorem q2358 : (Jvm.Cond.castable "WillowPrinters$Parser" "java/lang/Object") ∈ lw_tbl := lw_at lw_m10 144 rfl
theorem in_X14 : ∀ w ∈ wsX140, w ∈ lw_all := lw_in wsX140 [1762, 1764] (by decide +kernel) (by decide +kernel)

/-! WillowPrinters$SyntaxException -/
set_option maxRecDepth 100000
def RX15 : String := "WillowPrinters$SyntaxException"
def TX15 : u_T := fun k => match k with
  | 0 => ("java/lang/Throwable", "cause", "Ljava/lang/Throwable;", false)
  | 1 => ("java/lang/Throwable", "stackTrace", "[Ljava/lang/StackTraceElement;", false)
  | 2 => ("java/lang/Throwable", "suppressedExceptions", "Ljava/util/List;", false)
  | 3 => ("java/lang/Throwable", "detailMessage", "Ljava/lang/String;", false)
  | 4 => ("java/lang/Throwable", "backtrace", "Ljava/lang/Object;", false)
  | 5 => ("java/lang/Throwable", "depth", "I", false)
  | _ => ("WillowPrinters$SyntaxException", "position", "I", true)
def tyX15 : Nat → FieldType := fun k => match k with
  | 0 => .object "java/lang/Throwable"
  | 1 => .array (.object "java/lang/StackTraceElement")
  | 2 => .object "java/util/List"
  | 3 => .object "java/lang/String"
  | 4 => .object "java/lang/Object"
  | 5 => .int
  | _ => .int
abbrev wsX150 : List Cond := u_ws RX15 TX15 7
theorem nmX15 : ∀ a, a < 7 → ∀ b, b < 7 → a ≠ b → (TX15 a).2.1 ≠ (TX15 b).2.1 := by decide +kernel
theorem tyX15_ok : ∀ k, k < 7 → parseFieldDescriptor (TX15 k).2.2.1 = some (tyX15 k) := by decide +kernel
abbrev cX15_init : ByteArray := prog_21_method_1_code
def yX15_init : MethodName := ⟨RX15, "<init>", "(I)V"⟩
def dkwX15_init_0 : List UInt8 := [42, 1, 1, 3, 3, 183, 0, 1, 42, 27, 181, 0, 7, 177]
abbrev dktX15_init_0 : List UInt8 := dkwX15_init_0 ++ []
theorem dksX15_init_0 : cX15_init.data.toList.drop 0 = dktX15_init_0 := by decide +kernel
theorem dX15_init_0 : decode cX15_init 0 = .ok (.aload_n 0, 1) := dk_42 (dk_at dksX15_init_0 0 rfl rfl)
theorem dX15_init_1 : decode cX15_init 1 = .ok (.aconst_null, 1) := dk_1 (dk_at dksX15_init_0 1 rfl rfl)
theorem dX15_init_2 : decode cX15_init 2 = .ok (.aconst_null, 1) := dk_1 (dk_at dksX15_init_0 2 rfl rfl)
theorem dX15_init_3 : decode cX15_init 3 = .ok (.iconst 0, 1) := dk_3 (dk_at dksX15_init_0 3 rfl rfl)
theorem dX15_init_4 : decode cX15_init 4 = .ok (.iconst 0, 1) := dk_3 (dk_at dksX15_init_0 4 rfl rfl)
theorem dX15_init_5 : decode cX15_init 5 = .ok (.invokespecial 1, 3) := dk_183 0 1 (dk_at dksX15_init_0 5 rfl rfl)
theorem dX15_init_8 : decode cX15_init 8 = .ok (.aload_n 0, 1) := dk_42 (dk_at dksX15_init_0 8 rfl rfl)
theorem dX15_init_9 : decode cX15_init 9 = .ok (.iload_n 1, 1) := dk_27 (dk_at dksX15_init_0 9 rfl rfl)
theorem dX15_init_10 : decode cX15_init 10 = .ok (.putfield 7, 3) := dk_181 0 7 (dk_at dksX15_init_0 10 rfl rfl)
theorem dX15_init_13 : decode cX15_init 13 = .ok (.return_, 1) := dk_177 (dk_at dksX15_init_0 13 rfl rfl)
theorem q98 : (Jvm.Cond.initialized "WillowPrinters$SyntaxException") ∈ lw_all := lw_g (lw_at lw_m1 44 rfl) rfl
theorem q163 : (Jvm.Cond.selects "WillowPrinters$SyntaxException" ({ cls := "java/lang/Throwable", name := "fillInStackTrace", desc := "()Ljava/lang/Throwable;" } : Jvm.MethodName) ({ cls := "java/lang/Throwable", name := "fillInStackTrace", desc := "()Ljava/lang/Throwable;" } : Jvm.MethodName)) ∈ lw_all := lw_g (lw_at lw_m1 109 rfl) rfl
theorem q831 : (Jvm.Cond.selects "WillowPrinters$SyntaxException" ({ cls := "java/lang/Object", name := "getClass", desc := "()Ljava/lang/Class;" } : Jvm.MethodName) ({ cls := "java/lang/Object", name := "getClass", desc := "()Ljava/lang/Class;" } : Jvm.MethodName)) ∈ lw_all := lw_g (lw_at lw_m4 57 rfl) rfl
theorem q1819 : (Jvm.Cond.instantiable "WillowPrinters$SyntaxException" (7 : Nat)) ∈ lw_all := lw_g (lw_at lw_m8 85 rfl) rfl
theorem q1820 : (Jvm.Cond.castable "WillowPrinters$SyntaxException" "WillowPrinters$SyntaxException") ∈ lw_tbl := lw_at lw_m8 86 rfl
theorem q1821 : (Jvm.Cond.selects "WillowPrinters$SyntaxException" ({ cls := "java/lang/Throwable", name := "fillInStackTrace", desc := "(I)Ljava/lang/Throwable;" } : Jvm.MethodName) ({ cls := "java/lang/Throwable", name := "fillInStackTrace", desc := "(I)Ljava/lang/Throwable;" } : Jvm.MethodName)) ∈ lw_all := lw_g (lw_at lw_m8 87 rfl) rfl
theorem q1822 : (Jvm.Cond.lays "WillowPrinters$SyntaxException" "java/lang/Throwable" "cause" "Ljava/lang/Throwable;") ∈ lw_all := lw_g (lw_at lw_m8 88 rfl) rfl
theorem q1823 : (Jvm.Cond.lays "WillowPrinters$SyntaxException" "java/lang/Throwable" "stackTrace" "[Ljava/lang/StackTraceElement;") ∈ lw_all := lw_g (lw_at lw_m8 89 rfl) rfl
theorem q1824 : (Jvm.Cond.lays "WillowPrinters$SyntaxException" "java/lang/Throwable" "suppressedExceptions" "Ljava/util/List;") ∈ lw_all := lw_g (lw_at lw_m8 90 rfl) rfl
theorem q1825 : (Jvm.Cond.lays "WillowPrinters$SyntaxException" "java/lang/Throwable" "detailMessage" "Ljava/lang/String;") ∈ lw_all := lw_g (lw_at lw_m8 91 rfl) rfl
theorem q1826 : (Jvm.Cond.lays "WillowPrinters$SyntaxException" "java/lang/Throwable" "backtrace" "Ljava/lang/Object;") ∈ lw_all := lw_g (lw_at lw_m8 92 rfl) rfl
theorem q1828 : (Jvm.Cond.instanceMethod ({ cls := "WillowPrinters$SyntaxException", name := "<init>", desc := "(I)V" } : Jvm.MethodName)) ∈ lw_all := lw_g (lw_at lw_m8 94 rfl) rfl
theorem q1829 : (Jvm.Cond.code ({ cls := "WillowPrinters$SyntaxException", name := "<init>", desc := "(I)V" } : Jvm.MethodName) prog_21_method_1_code (2 : Nat) (Option.none : Option Jvm.ClassFile.FieldType)) ∈ lw_all := lw_g (lw_at lw_m8 95 rfl) rfl
theorem q1830 : (Jvm.Cond.methodLink "WillowPrinters$SyntaxException" (1 : Nat) ({ cls := "java/lang/Exception", name := "<init>", desc := "(Ljava/lang/String;Ljava/lang/Throwable;ZZ)V" } : Jvm.MethodName)) ∈ lw_all := lw_g (lw_at lw_m8 96 rfl) rfl
theorem q1831 : (Jvm.Cond.fieldLink "WillowPrinters$SyntaxException" (7 : Nat) "WillowPrinters$SyntaxException" "position" "I") ∈ lw_all := lw_g (lw_at lw_m8 97 rfl) rfl
theorem q1833 : (Jvm.Cond.laysFinal "WillowPrinters$SyntaxException" "WillowPrinters$SyntaxException" "position" "I") ∈ lw_all := lw_g (lw_at lw_m8 99 rfl) rfl
theorem q1834 : (Jvm.Cond.soleField "WillowPrinters$SyntaxException" "position") ∈ lw_all := lw_g (lw_at lw_m8 100 rfl) rfl
theorem q1835 : (Jvm.Cond.lays "WillowPrinters$SyntaxException" "java/lang/Throwable" "depth" "I") ∈ lw_all := lw_g (lw_at lw_m8 101 rfl) rfl
theorem q1836 : (Jvm.Cond.superclass "WillowPrinters$SyntaxException" "java/lang/Exception") ∈ lw_all := lw_g (lw_at lw_m8 102 rfl) rfl
theorem q2359 : (Jvm.Cond.castable "WillowPrinters$SyntaxException" "java/lang/Object") ∈ lw_tbl := lw_at lw_m10 145 rfl
theorem in_X15 : ∀ w ∈ wsX150, w ∈ lw_all := lw_in wsX150 [1822, 1823, 1824, 1825, 1826, 1835, 1833] (by decide +kernel) (by decide +kernel)

/-! WillowPrinters$Stage$1 -/
set_option maxRecDepth 100000
def RX16 : String := "WillowPrinters$Stage$1"
abbrev cX16_told : ByteArray := prog_16_method_2_code
def yX16_told : MethodName := ⟨RX16, "told", "()Ljava/lang/String;"⟩
theorem dX16_told_0 : decode cX16_told 0 = .ok (.ldc 7, 2) := by decide +kernel
theorem dX16_told_2 : decode cX16_told 2 = .ok (.areturn, 1) := by decide +kernel
theorem q827 : (Jvm.Cond.selects "WillowPrinters$Stage$1" ({ cls := "java/lang/Object", name := "getClass", desc := "()Ljava/lang/Class;" } : Jvm.MethodName) ({ cls := "java/lang/Object", name := "getClass", desc := "()Ljava/lang/Class;" } : Jvm.MethodName)) ∈ lw_all := lw_g (lw_at lw_m4 53 rfl) rfl
theorem q1224 : (Jvm.Cond.selects "WillowPrinters$Stage$1" ({ cls := "WillowPrinters$Stage", name := "ordinal", desc := "()I" } : Jvm.MethodName) ({ cls := "java/lang/Enum", name := "ordinal", desc := "()I" } : Jvm.MethodName)) ∈ lw_all := lw_g (lw_at lw_m5 210 rfl) rfl
theorem q1286 : (Jvm.Cond.selects "WillowPrinters$Stage$1" ({ cls := "WillowPrinters$Stage", name := "check", desc := "(LWillowPrinters$Lot;)V" } : Jvm.MethodName) ({ cls := "WillowPrinters$Stage", name := "check", desc := "(LWillowPrinters$Lot;)V" } : Jvm.MethodName)) ∈ lw_all := lw_g (lw_at lw_m6 32 rfl) rfl
theorem q1590 : (Jvm.Cond.selects "WillowPrinters$Stage$1" ({ cls := "WillowPrinters$Stage", name := "told", desc := "()Ljava/lang/String;" } : Jvm.MethodName) ({ cls := "WillowPrinters$Stage$1", name := "told", desc := "()Ljava/lang/String;" } : Jvm.MethodName)) ∈ lw_all := lw_g (lw_at lw_m7 96 rfl) rfl
theorem q1591 : (Jvm.Cond.instanceMethod ({ cls := "WillowPrinters$Stage$1", name := "told", desc := "()Ljava/lang/String;" } : Jvm.MethodName)) ∈ lw_all := lw_g (lw_at lw_m7 97 rfl) rfl
theorem q1592 : (Jvm.Cond.code ({ cls := "WillowPrinters$Stage$1", name := "told", desc := "()Ljava/lang/String;" } : Jvm.MethodName) prog_16_method_2_code (1 : Nat) (Option.some (Jvm.ClassFile.FieldType.object "java/lang/String"))) ∈ lw_all := lw_g (lw_at lw_m7 98 rfl) rfl
theorem q1593 : (Jvm.Cond.stringRef "WillowPrinters$Stage$1" (7 : Nat) "plain") ∈ lw_tbl := lw_at lw_m7 99 rfl
theorem q2350 : (Jvm.Cond.castable "WillowPrinters$Stage$1" "java/lang/Object") ∈ lw_tbl := lw_at lw_m10 136 rfl

/-! WillowPrinters$Stage$2 -/
set_option maxRecDepth 100000
def RX17 : String := "WillowPrinters$Stage$2"
abbrev cX17_told : ByteArray := prog_17_method_2_code
def yX17_told : MethodName := ⟨RX17, "told", "()Ljava/lang/String;"⟩
theorem dX17_told_0 : decode cX17_told 0 = .ok (.ldc 7, 2) := by decide +kernel
theorem dX17_told_2 : decode cX17_told 2 = .ok (.areturn, 1) := by decide +kernel
theorem q828 : (Jvm.Cond.selects "WillowPrinters$Stage$2" ({ cls := "java/lang/Object", name := "getClass", desc := "()Ljava/lang/Class;" } : Jvm.MethodName) ({ cls := "java/lang/Object", name := "getClass", desc := "()Ljava/lang/Class;" } : Jvm.MethodName)) ∈ lw_all := lw_g (lw_at lw_m4 54 rfl) rfl
theorem q1225 : (Jvm.Cond.selects "WillowPrinters$Stage$2" ({ cls := "WillowPrinters$Stage", name := "ordinal", desc := "()I" } : Jvm.MethodName) ({ cls := "java/lang/Enum", name := "ordinal", desc := "()I" } : Jvm.MethodName)) ∈ lw_all := lw_g (lw_at lw_m5 211 rfl) rfl
theorem q1287 : (Jvm.Cond.selects "WillowPrinters$Stage$2" ({ cls := "WillowPrinters$Stage", name := "check", desc := "(LWillowPrinters$Lot;)V" } : Jvm.MethodName) ({ cls := "WillowPrinters$Stage", name := "check", desc := "(LWillowPrinters$Lot;)V" } : Jvm.MethodName)) ∈ lw_all := lw_g (lw_at lw_m6 33 rfl) rfl
theorem q1594 : (Jvm.Cond.selects "WillowPrinters$Stage$2" ({ cls := "WillowPrinters$Stage", name := "told", desc := "()Ljava/lang/String;" } : Jvm.MethodName) ({ cls := "WillowPrinters$Stage$2", name := "told", desc := "()Ljava/lang/String;" } : Jvm.MethodName)) ∈ lw_all := lw_g (lw_at lw_m7 100 rfl) rfl
theorem q1595 : (Jvm.Cond.instanceMethod ({ cls := "WillowPrinters$Stage$2", name := "told", desc := "()Ljava/lang/String;" } : Jvm.MethodName)) ∈ lw_all := lw_g (lw_at lw_m7 101 rfl) rfl
theorem q1596 : (Jvm.Cond.code ({ cls := "WillowPrinters$Stage$2", name := "told", desc := "()Ljava/lang/String;" } : Jvm.MethodName) prog_17_method_2_code (1 : Nat) (Option.some (Jvm.ClassFile.FieldType.object "java/lang/String"))) ∈ lw_all := lw_g (lw_at lw_m7 102 rfl) rfl
theorem q1597 : (Jvm.Cond.stringRef "WillowPrinters$Stage$2" (7 : Nat) "printed ") ∈ lw_tbl := lw_at lw_m7 103 rfl
theorem q2352 : (Jvm.Cond.castable "WillowPrinters$Stage$2" "java/lang/Object") ∈ lw_tbl := lw_at lw_m10 138 rfl

/-! WillowPrinters$Stage$3 -/
set_option maxRecDepth 100000
def RX18 : String := "WillowPrinters$Stage$3"
abbrev cX18_told : ByteArray := prog_18_method_2_code
def yX18_told : MethodName := ⟨RX18, "told", "()Ljava/lang/String;"⟩
theorem dX18_told_0 : decode cX18_told 0 = .ok (.ldc 7, 2) := by decide +kernel
theorem dX18_told_2 : decode cX18_told 2 = .ok (.areturn, 1) := by decide +kernel
theorem q829 : (Jvm.Cond.selects "WillowPrinters$Stage$3" ({ cls := "java/lang/Object", name := "getClass", desc := "()Ljava/lang/Class;" } : Jvm.MethodName) ({ cls := "java/lang/Object", name := "getClass", desc := "()Ljava/lang/Class;" } : Jvm.MethodName)) ∈ lw_all := lw_g (lw_at lw_m4 55 rfl) rfl
theorem q1226 : (Jvm.Cond.selects "WillowPrinters$Stage$3" ({ cls := "WillowPrinters$Stage", name := "ordinal", desc := "()I" } : Jvm.MethodName) ({ cls := "java/lang/Enum", name := "ordinal", desc := "()I" } : Jvm.MethodName)) ∈ lw_all := lw_g (lw_at lw_m5 212 rfl) rfl
theorem q1288 : (Jvm.Cond.selects "WillowPrinters$Stage$3" ({ cls := "WillowPrinters$Stage", name := "check", desc := "(LWillowPrinters$Lot;)V" } : Jvm.MethodName) ({ cls := "WillowPrinters$Stage", name := "check", desc := "(LWillowPrinters$Lot;)V" } : Jvm.MethodName)) ∈ lw_all := lw_g (lw_at lw_m6 34 rfl) rfl
theorem q1598 : (Jvm.Cond.selects "WillowPrinters$Stage$3" ({ cls := "WillowPrinters$Stage", name := "told", desc := "()Ljava/lang/String;" } : Jvm.MethodName) ({ cls := "WillowPrinters$Stage$3", name := "told", desc := "()Ljava/lang/String;" } : Jvm.MethodName)) ∈ lw_all := lw_g (lw_at lw_m7 104 rfl) rfl
theorem q1599 : (Jvm.Cond.instanceMethod ({ cls := "WillowPrinters$Stage$3", name := "told", desc := "()Ljava/lang/String;" } : Jvm.MethodName)) ∈ lw_all := lw_g (lw_at lw_m7 105 rfl) rfl
theorem q1600 : (Jvm.Cond.code ({ cls := "WillowPrinters$Stage$3", name := "told", desc := "()Ljava/lang/String;" } : Jvm.MethodName) prog_18_method_2_code (1 : Nat) (Option.some (Jvm.ClassFile.FieldType.object "java/lang/String"))) ∈ lw_all := lw_g (lw_at lw_m7 106 rfl) rfl
theorem q1601 : (Jvm.Cond.stringRef "WillowPrinters$Stage$3" (7 : Nat) "kiln ") ∈ lw_tbl := lw_at lw_m7 107 rfl
theorem q2356 : (Jvm.Cond.castable "WillowPrinters$Stage$3" "java/lang/Object") ∈ lw_tbl := lw_at lw_m10 142 rfl

/-! WillowPrinters$Stage$4 -/
set_option maxRecDepth 100000
def RX19 : String := "WillowPrinters$Stage$4"
abbrev cX19_told : ByteArray := prog_19_method_2_code
def yX19_told : MethodName := ⟨RX19, "told", "()Ljava/lang/String;"⟩
theorem dX19_told_0 : decode cX19_told 0 = .ok (.ldc 7, 2) := by decide +kernel
theorem dX19_told_2 : decode cX19_told 2 = .ok (.areturn, 1) := by decide +kernel
theorem q830 : (Jvm.Cond.selects "WillowPrinters$Stage$4" ({ cls := "java/lang/Object", name := "getClass", desc := "()Ljava/lang/Class;" } : Jvm.MethodName) ({ cls := "java/lang/Object", name := "getClass", desc := "()Ljava/lang/Class;" } : Jvm.MethodName)) ∈ lw_all := lw_g (lw_at lw_m4 56 rfl) rfl
theorem q1227 : (Jvm.Cond.selects "WillowPrinters$Stage$4" ({ cls := "WillowPrinters$Stage", name := "ordinal", desc := "()I" } : Jvm.MethodName) ({ cls := "java/lang/Enum", name := "ordinal", desc := "()I" } : Jvm.MethodName)) ∈ lw_all := lw_g (lw_at lw_m5 213 rfl) rfl
theorem q1289 : (Jvm.Cond.selects "WillowPrinters$Stage$4" ({ cls := "WillowPrinters$Stage", name := "check", desc := "(LWillowPrinters$Lot;)V" } : Jvm.MethodName) ({ cls := "WillowPrinters$Stage", name := "check", desc := "(LWillowPrinters$Lot;)V" } : Jvm.MethodName)) ∈ lw_all := lw_g (lw_at lw_m6 35 rfl) rfl
theorem q1602 : (Jvm.Cond.selects "WillowPrinters$Stage$4" ({ cls := "WillowPrinters$Stage", name := "told", desc := "()Ljava/lang/String;" } : Jvm.MethodName) ({ cls := "WillowPrinters$Stage$4", name := "told", desc := "()Ljava/lang/String;" } : Jvm.MethodName)) ∈ lw_all := lw_g (lw_at lw_m7 108 rfl) rfl
theorem q1603 : (Jvm.Cond.instanceMethod ({ cls := "WillowPrinters$Stage$4", name := "told", desc := "()Ljava/lang/String;" } : Jvm.MethodName)) ∈ lw_all := lw_g (lw_at lw_m7 109 rfl) rfl
theorem q1604 : (Jvm.Cond.code ({ cls := "WillowPrinters$Stage$4", name := "told", desc := "()Ljava/lang/String;" } : Jvm.MethodName) prog_19_method_2_code (1 : Nat) (Option.some (Jvm.ClassFile.FieldType.object "java/lang/String"))) ∈ lw_all := lw_g (lw_at lw_m7 110 rfl) rfl
theorem q1605 : (Jvm.Cond.stringRef "WillowPrinters$Stage$4" (7 : Nat) "fired ") ∈ lw_tbl := lw_at lw_m7 111 rfl
theorem q2354 : (Jvm.Cond.castable "WillowPrinters$Stage$4" "java/lang/Object") ∈ lw_tbl := lw_at lw_m10 140 rfl

/-! WillowPrinters$State -/
set_option maxRecDepth 100000
def RX20 : String := "WillowPrinters$State"
abbrev cX20_well : ByteArray := prog_20_method_2_code
def yX20_well : MethodName := ⟨RX20, "well", "()I"⟩
theorem dX20_well_0 : decode cX20_well 0 = .ok (.iconst (-1), 1) := by decide +kernel
theorem dX20_well_1 : decode cX20_well 1 = .ok (.ireturn, 1) := by decide +kernel
theorem q1187 : (Jvm.Cond.interfaceMethod "WillowPrinters$State" "WillowPrinters$State" "stage" "()LWillowPrinters$Stage;") ∈ lw_tbl := lw_at lw_m5 173 rfl
theorem q1188 : (Jvm.Cond.declares ({ cls := "WillowPrinters$State", name := "stage", desc := "()LWillowPrinters$Stage;" } : Jvm.MethodName)) ∈ lw_tbl := lw_at lw_m5 174 rfl
theorem q1232 : (Jvm.Cond.interfaceMethod "WillowPrinters$State" "WillowPrinters$State" "well" "()I") ∈ lw_tbl := lw_at lw_m5 218 rfl
theorem q1233 : (Jvm.Cond.declares ({ cls := "WillowPrinters$State", name := "well", desc := "()I" } : Jvm.MethodName)) ∈ lw_tbl := lw_at lw_m5 219 rfl
theorem q1245 : (Jvm.Cond.instanceMethod ({ cls := "WillowPrinters$State", name := "well", desc := "()I" } : Jvm.MethodName)) ∈ lw_all := lw_g (lw_at lw_m5 231 rfl) rfl
theorem q1246 : (Jvm.Cond.publicMethod ({ cls := "WillowPrinters$State", name := "well", desc := "()I" } : Jvm.MethodName)) ∈ lw_tbl := lw_at lw_m5 232 rfl
theorem q1247 : (Jvm.Cond.code ({ cls := "WillowPrinters$State", name := "well", desc := "()I" } : Jvm.MethodName) prog_20_method_2_code (1 : Nat) (Option.some Jvm.ClassFile.FieldType.int)) ∈ lw_all := lw_g (lw_at lw_m5 233 rfl) rfl
theorem q2328 : (Jvm.Cond.initialized "WillowPrinters$State") ∈ lw_all := lw_g (lw_at lw_m10 114 rfl) rfl
