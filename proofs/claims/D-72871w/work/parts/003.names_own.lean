/-! ArbitratedBus -/
set_option maxRecDepth 100000
def RX0 : String := "ArbitratedBus"
def TX0 : u_T := fun k => match k with
  | 0 => ("ArbitratedBus", "now", "LArbitratedBus$Bus;", false)
  | 1 => ("ArbitratedBus", "saved", "[LArbitratedBus$Bus;", true)
  | 2 => ("ArbitratedBus", "messages", "LArbitratedBus$Messages;", true)
  | 3 => ("ArbitratedBus", "text", "[B", true)
  | _ => ("ArbitratedBus", "length", "I", false)
def tyX0 : Nat → FieldType := fun k => match k with
  | 0 => .object "ArbitratedBus$Bus"
  | 1 => .array (.object "ArbitratedBus$Bus")
  | 2 => .object "ArbitratedBus$Messages"
  | 3 => .array .byte
  | _ => .int
abbrev wsX00 : List Cond := u_ws RX0 TX0 5
theorem nmX0 : ∀ a, a < 5 → ∀ b, b < 5 → a ≠ b → (TX0 a).2.1 ≠ (TX0 b).2.1 := by decide +kernel
theorem tyX0_ok : ∀ k, k < 5 → parseFieldDescriptor (TX0 k).2.2.1 = some (tyX0 k) := by decide +kernel
abbrev cX0_init : ByteArray := prog_1_method_4_code
def yX0_init : MethodName := ⟨RX0, "<init>", "()V"⟩
def dkwX0_init_1 : List UInt8 := [187, 0, 20, 89, 183, 0, 22, 181, 0, 23, 42, 16, 120, 188, 8, 181, 0, 27, 177]
abbrev dktX0_init_1 : List UInt8 := dkwX0_init_1 ++ []
def dkwX0_init_0 : List UInt8 := [42, 183, 0, 1, 42, 187, 0, 7, 89, 183, 0, 9, 181, 0, 10, 42, 5, 189, 0, 7, 181, 0, 16, 42]
abbrev dktX0_init_0 : List UInt8 := dkwX0_init_0 ++ dktX0_init_1
theorem dksX0_init_0 : cX0_init.data.toList.drop 0 = dktX0_init_0 := by decide +kernel
theorem dksX0_init_1 : cX0_init.data.toList.drop 24 = dktX0_init_1 := dk_seg dksX0_init_0 24 rfl rfl
theorem dX0_init_0 : decode cX0_init 0 = .ok (.aload_n 0, 1) := dk_42 (dk_at dksX0_init_0 0 rfl rfl)
theorem dX0_init_1 : decode cX0_init 1 = .ok (.invokespecial 1, 3) := dk_183 0 1 (dk_at dksX0_init_0 1 rfl rfl)
theorem dX0_init_4 : decode cX0_init 4 = .ok (.aload_n 0, 1) := dk_42 (dk_at dksX0_init_0 4 rfl rfl)
theorem dX0_init_5 : decode cX0_init 5 = .ok (.new 7, 3) := dk_187 0 7 (dk_at dksX0_init_0 5 rfl rfl)
theorem dX0_init_8 : decode cX0_init 8 = .ok (.dup, 1) := dk_89 (dk_at dksX0_init_0 8 rfl rfl)
theorem dX0_init_9 : decode cX0_init 9 = .ok (.invokespecial 9, 3) := dk_183 0 9 (dk_at dksX0_init_0 9 rfl rfl)
theorem dX0_init_12 : decode cX0_init 12 = .ok (.putfield 10, 3) := dk_181 0 10 (dk_at dksX0_init_0 12 rfl rfl)
theorem dX0_init_15 : decode cX0_init 15 = .ok (.aload_n 0, 1) := dk_42 (dk_at dksX0_init_0 15 rfl rfl)
theorem dX0_init_16 : decode cX0_init 16 = .ok (.iconst 2, 1) := dk_5 (dk_at dksX0_init_0 16 rfl rfl)
theorem dX0_init_17 : decode cX0_init 17 = .ok (.anewarray 7, 3) := dk_189 0 7 (dk_at dksX0_init_0 17 rfl rfl)
theorem dX0_init_20 : decode cX0_init 20 = .ok (.putfield 16, 3) := dk_181 0 16 (dk_at dksX0_init_0 20 rfl rfl)
theorem dX0_init_23 : decode cX0_init 23 = .ok (.aload_n 0, 1) := dk_42 (dk_at dksX0_init_0 23 rfl rfl)
theorem dX0_init_24 : decode cX0_init 24 = .ok (.new 20, 3) := dk_187 0 20 (dk_at dksX0_init_1 0 rfl rfl)
theorem dX0_init_27 : decode cX0_init 27 = .ok (.dup, 1) := dk_89 (dk_at dksX0_init_1 3 rfl rfl)
theorem dX0_init_28 : decode cX0_init 28 = .ok (.invokespecial 22, 3) := dk_183 0 22 (dk_at dksX0_init_1 4 rfl rfl)
theorem dX0_init_31 : decode cX0_init 31 = .ok (.putfield 23, 3) := dk_181 0 23 (dk_at dksX0_init_1 7 rfl rfl)
theorem dX0_init_34 : decode cX0_init 34 = .ok (.aload_n 0, 1) := dk_42 (dk_at dksX0_init_1 10 rfl rfl)
theorem dX0_init_35 : decode cX0_init 35 = .ok (.bipush 120, 2) := dk_16 120 (dk_at dksX0_init_1 11 rfl rfl)
theorem dX0_init_37 : decode cX0_init 37 = .ok (.newarray .byte, 2) := dk_188_8 (dk_at dksX0_init_1 13 rfl rfl)
theorem dX0_init_39 : decode cX0_init 39 = .ok (.putfield 27, 3) := dk_181 0 27 (dk_at dksX0_init_1 15 rfl rfl)
theorem dX0_init_42 : decode cX0_init 42 = .ok (.return_, 1) := dk_177 (dk_at dksX0_init_1 18 rfl rfl)
abbrev cX0_setLimits : ByteArray := prog_1_method_7_code
def yX0_setLimits : MethodName := ⟨RX0, "setLimits", "(III)I"⟩
def dkwX0_setLimits_3 : List UInt8 := [28, 181, 0, 59, 42, 180, 0, 10, 29, 181, 0, 62, 21, 4, 172]
abbrev dktX0_setLimits_3 : List UInt8 := dkwX0_setLimits_3 ++ []
def dkwX0_setLimits_2 : List UInt8 := [16, 254, 172, 42, 180, 0, 10, 180, 0, 55, 54, 4, 42, 180, 0, 10, 27, 181, 0, 55, 42, 180, 0, 10]
abbrev dktX0_setLimits_2 : List UInt8 := dkwX0_setLimits_2 ++ dktX0_setLimits_3
def dkwX0_setLimits_1 : List UInt8 := [184, 0, 33, 153, 0, 20, 28, 27, 164, 0, 15, 29, 133, 10, 20, 0, 51, 184, 0, 33, 154, 0, 6]
abbrev dktX0_setLimits_1 : List UInt8 := dkwX0_setLimits_1 ++ dktX0_setLimits_2
def dkwX0_setLimits_0 : List UInt8 := [27, 133, 20, 0, 47, 20, 0, 49, 184, 0, 33, 153, 0, 34, 28, 133, 20, 0, 51, 20, 0, 53]
abbrev dktX0_setLimits_0 : List UInt8 := dkwX0_setLimits_0 ++ dktX0_setLimits_1
theorem dksX0_setLimits_0 : cX0_setLimits.data.toList.drop 0 = dktX0_setLimits_0 := by decide +kernel
theorem dksX0_setLimits_1 : cX0_setLimits.data.toList.drop 22 = dktX0_setLimits_1 := dk_seg dksX0_setLimits_0 22 rfl rfl
theorem dksX0_setLimits_2 : cX0_setLimits.data.toList.drop 45 = dktX0_setLimits_2 := dk_seg dksX0_setLimits_1 23 rfl rfl
theorem dksX0_setLimits_3 : cX0_setLimits.data.toList.drop 69 = dktX0_setLimits_3 := dk_seg dksX0_setLimits_2 24 rfl rfl
theorem dX0_setLimits_0 : decode cX0_setLimits 0 = .ok (.iload_n 1, 1) := dk_27 (dk_at dksX0_setLimits_0 0 rfl rfl)
theorem dX0_setLimits_1 : decode cX0_setLimits 1 = .ok (.i2l, 1) := dk_133 (dk_at dksX0_setLimits_0 1 rfl rfl)
theorem dX0_setLimits_2 : decode cX0_setLimits 2 = .ok (.ldc2_w 47, 3) := dk_20 0 47 (dk_at dksX0_setLimits_0 2 rfl rfl)
theorem dX0_setLimits_5 : decode cX0_setLimits 5 = .ok (.ldc2_w 49, 3) := dk_20 0 49 (dk_at dksX0_setLimits_0 5 rfl rfl)
theorem dX0_setLimits_8 : decode cX0_setLimits 8 = .ok (.invokestatic 33, 3) := dk_184 0 33 (dk_at dksX0_setLimits_0 8 rfl rfl)
theorem dX0_setLimits_11 : decode cX0_setLimits 11 = .ok (.ifCond .eq 34, 3) := dk_153 0 34 (dk_at dksX0_setLimits_0 11 rfl rfl)
theorem dX0_setLimits_14 : decode cX0_setLimits 14 = .ok (.iload_n 2, 1) := dk_28 (dk_at dksX0_setLimits_0 14 rfl rfl)
theorem dX0_setLimits_15 : decode cX0_setLimits 15 = .ok (.i2l, 1) := dk_133 (dk_at dksX0_setLimits_0 15 rfl rfl)
theorem dX0_setLimits_16 : decode cX0_setLimits 16 = .ok (.ldc2_w 51, 3) := dk_20 0 51 (dk_at dksX0_setLimits_0 16 rfl rfl)
theorem dX0_setLimits_19 : decode cX0_setLimits 19 = .ok (.ldc2_w 53, 3) := dk_20 0 53 (dk_at dksX0_setLimits_0 19 rfl rfl)
theorem dX0_setLimits_22 : decode cX0_setLimits 22 = .ok (.invokestatic 33, 3) := dk_184 0 33 (dk_at dksX0_setLimits_1 0 rfl rfl)
theorem dX0_setLimits_25 : decode cX0_setLimits 25 = .ok (.ifCond .eq 20, 3) := dk_153 0 20 (dk_at dksX0_setLimits_1 3 rfl rfl)
theorem dX0_setLimits_28 : decode cX0_setLimits 28 = .ok (.iload_n 2, 1) := dk_28 (dk_at dksX0_setLimits_1 6 rfl rfl)
theorem dX0_setLimits_29 : decode cX0_setLimits 29 = .ok (.iload_n 1, 1) := dk_27 (dk_at dksX0_setLimits_1 7 rfl rfl)
theorem dX0_setLimits_30 : decode cX0_setLimits 30 = .ok (.if_icmp .le 15, 3) := dk_164 0 15 (dk_at dksX0_setLimits_1 8 rfl rfl)
theorem dX0_setLimits_33 : decode cX0_setLimits 33 = .ok (.iload_n 3, 1) := dk_29 (dk_at dksX0_setLimits_1 11 rfl rfl)
theorem dX0_setLimits_34 : decode cX0_setLimits 34 = .ok (.i2l, 1) := dk_133 (dk_at dksX0_setLimits_1 12 rfl rfl)
theorem dX0_setLimits_35 : decode cX0_setLimits 35 = .ok (.lconst 1, 1) := dk_10 (dk_at dksX0_setLimits_1 13 rfl rfl)
theorem dX0_setLimits_36 : decode cX0_setLimits 36 = .ok (.ldc2_w 51, 3) := dk_20 0 51 (dk_at dksX0_setLimits_1 14 rfl rfl)
theorem dX0_setLimits_39 : decode cX0_setLimits 39 = .ok (.invokestatic 33, 3) := dk_184 0 33 (dk_at dksX0_setLimits_1 17 rfl rfl)
theorem dX0_setLimits_42 : decode cX0_setLimits 42 = .ok (.ifCond .ne 6, 3) := dk_154 0 6 (dk_at dksX0_setLimits_1 20 rfl rfl)
theorem dX0_setLimits_45 : decode cX0_setLimits 45 = .ok (.bipush (-2), 2) := dk_16 254 (dk_at dksX0_setLimits_2 0 rfl rfl)
theorem dX0_setLimits_47 : decode cX0_setLimits 47 = .ok (.ireturn, 1) := dk_172 (dk_at dksX0_setLimits_2 2 rfl rfl)
theorem dX0_setLimits_48 : decode cX0_setLimits 48 = .ok (.aload_n 0, 1) := dk_42 (dk_at dksX0_setLimits_2 3 rfl rfl)
theorem dX0_setLimits_49 : decode cX0_setLimits 49 = .ok (.getfield 10, 3) := dk_180 0 10 (dk_at dksX0_setLimits_2 4 rfl rfl)
theorem dX0_setLimits_52 : decode cX0_setLimits 52 = .ok (.getfield 55, 3) := dk_180 0 55 (dk_at dksX0_setLimits_2 7 rfl rfl)
theorem dX0_setLimits_55 : decode cX0_setLimits 55 = .ok (.istore 4, 2) := dk_54 4 (dk_at dksX0_setLimits_2 10 rfl rfl)
theorem dX0_setLimits_57 : decode cX0_setLimits 57 = .ok (.aload_n 0, 1) := dk_42 (dk_at dksX0_setLimits_2 12 rfl rfl)
theorem dX0_setLimits_58 : decode cX0_setLimits 58 = .ok (.getfield 10, 3) := dk_180 0 10 (dk_at dksX0_setLimits_2 13 rfl rfl)
theorem dX0_setLimits_61 : decode cX0_setLimits 61 = .ok (.iload_n 1, 1) := dk_27 (dk_at dksX0_setLimits_2 16 rfl rfl)
theorem dX0_setLimits_62 : decode cX0_setLimits 62 = .ok (.putfield 55, 3) := dk_181 0 55 (dk_at dksX0_setLimits_2 17 rfl rfl)
theorem dX0_setLimits_65 : decode cX0_setLimits 65 = .ok (.aload_n 0, 1) := dk_42 (dk_at dksX0_setLimits_2 20 rfl rfl)
theorem dX0_setLimits_66 : decode cX0_setLimits 66 = .ok (.getfield 10, 3) := dk_180 0 10 (dk_at dksX0_setLimits_2 21 rfl rfl)
theorem dX0_setLimits_69 : decode cX0_setLimits 69 = .ok (.iload_n 2, 1) := dk_28 (dk_at dksX0_setLimits_3 0 rfl rfl)
theorem dX0_setLimits_70 : decode cX0_setLimits 70 = .ok (.putfield 59, 3) := dk_181 0 59 (dk_at dksX0_setLimits_3 1 rfl rfl)
theorem dX0_setLimits_73 : decode cX0_setLimits 73 = .ok (.aload_n 0, 1) := dk_42 (dk_at dksX0_setLimits_3 4 rfl rfl)
theorem dX0_setLimits_74 : decode cX0_setLimits 74 = .ok (.getfield 10, 3) := dk_180 0 10 (dk_at dksX0_setLimits_3 5 rfl rfl)
theorem dX0_setLimits_77 : decode cX0_setLimits 77 = .ok (.iload_n 3, 1) := dk_29 (dk_at dksX0_setLimits_3 8 rfl rfl)
theorem dX0_setLimits_78 : decode cX0_setLimits 78 = .ok (.putfield 62, 3) := dk_181 0 62 (dk_at dksX0_setLimits_3 9 rfl rfl)
theorem dX0_setLimits_81 : decode cX0_setLimits 81 = .ok (.iload 4, 2) := dk_21 4 (dk_at dksX0_setLimits_3 12 rfl rfl)
theorem dX0_setLimits_83 : decode cX0_setLimits 83 = .ok (.ireturn, 1) := dk_172 (dk_at dksX0_setLimits_3 14 rfl rfl)
abbrev cX0_isIn : ByteArray := prog_1_method_1_code
def yX0_isIn : MethodName := ⟨RX0, "isIn", "(JJJ)Z"⟩
def dkwX0_isIn_0 : List UInt8 := [30, 32, 148, 155, 0, 14, 30, 22, 4, 148, 157, 0, 7, 4, 167, 0, 4, 3, 172]
abbrev dktX0_isIn_0 : List UInt8 := dkwX0_isIn_0 ++ []
theorem dksX0_isIn_0 : cX0_isIn.data.toList.drop 0 = dktX0_isIn_0 := by decide +kernel
theorem dX0_isIn_0 : decode cX0_isIn 0 = .ok (.lload_n 0, 1) := dk_30 (dk_at dksX0_isIn_0 0 rfl rfl)
theorem dX0_isIn_1 : decode cX0_isIn 1 = .ok (.lload_n 2, 1) := dk_32 (dk_at dksX0_isIn_0 1 rfl rfl)
theorem dX0_isIn_2 : decode cX0_isIn 2 = .ok (.lcmp, 1) := dk_148 (dk_at dksX0_isIn_0 2 rfl rfl)
theorem dX0_isIn_3 : decode cX0_isIn 3 = .ok (.ifCond .lt 14, 3) := dk_155 0 14 (dk_at dksX0_isIn_0 3 rfl rfl)
theorem dX0_isIn_6 : decode cX0_isIn 6 = .ok (.lload_n 0, 1) := dk_30 (dk_at dksX0_isIn_0 6 rfl rfl)
theorem dX0_isIn_7 : decode cX0_isIn 7 = .ok (.lload 4, 2) := dk_22 4 (dk_at dksX0_isIn_0 7 rfl rfl)
theorem dX0_isIn_9 : decode cX0_isIn 9 = .ok (.lcmp, 1) := dk_148 (dk_at dksX0_isIn_0 9 rfl rfl)
theorem dX0_isIn_10 : decode cX0_isIn 10 = .ok (.ifCond .gt 7, 3) := dk_157 0 7 (dk_at dksX0_isIn_0 10 rfl rfl)
theorem dX0_isIn_13 : decode cX0_isIn 13 = .ok (.iconst 1, 1) := dk_4 (dk_at dksX0_isIn_0 13 rfl rfl)
theorem dX0_isIn_14 : decode cX0_isIn 14 = .ok (.goto 4, 3) := dk_167 0 4 (dk_at dksX0_isIn_0 14 rfl rfl)
theorem dX0_isIn_17 : decode cX0_isIn 17 = .ok (.iconst 0, 1) := dk_3 (dk_at dksX0_isIn_0 17 rfl rfl)
theorem dX0_isIn_18 : decode cX0_isIn 18 = .ok (.ireturn, 1) := dk_172 (dk_at dksX0_isIn_0 18 rfl rfl)
abbrev cX0_setFilter : ByteArray := prog_1_method_8_code
def yX0_setFilter : MethodName := ⟨RX0, "setFilter", "(III)I"⟩
def dkwX0_setFilter_3 : List UInt8 := [29, 181, 0, 78, 21, 4, 172]
abbrev dktX0_setFilter_3 : List UInt8 := dkwX0_setFilter_3 ++ []
def dkwX0_setFilter_2 : List UInt8 := [54, 4, 42, 180, 0, 10, 180, 0, 69, 27, 50, 28, 181, 0, 73, 42, 180, 0, 10, 180, 0, 69, 27, 50]
abbrev dktX0_setFilter_2 : List UInt8 := dkwX0_setFilter_2 ++ dktX0_setFilter_3
def dkwX0_setFilter_1 : List UInt8 := [20, 0, 37, 184, 0, 33, 154, 0, 6, 16, 254, 172, 42, 180, 0, 10, 180, 0, 69, 27, 50, 180, 0, 73]
abbrev dktX0_setFilter_1 : List UInt8 := dkwX0_setFilter_1 ++ dktX0_setFilter_2
def dkwX0_setFilter_0 : List UInt8 := [27, 184, 0, 65, 154, 0, 5, 2, 172, 28, 133, 9, 20, 0, 37, 184, 0, 33, 153, 0, 15, 29, 133, 9]
abbrev dktX0_setFilter_0 : List UInt8 := dkwX0_setFilter_0 ++ dktX0_setFilter_1
theorem dksX0_setFilter_0 : cX0_setFilter.data.toList.drop 0 = dktX0_setFilter_0 := by decide +kernel
theorem dksX0_setFilter_1 : cX0_setFilter.data.toList.drop 24 = dktX0_setFilter_1 := dk_seg dksX0_setFilter_0 24 rfl rfl
theorem dksX0_setFilter_2 : cX0_setFilter.data.toList.drop 48 = dktX0_setFilter_2 := dk_seg dksX0_setFilter_1 24 rfl rfl
theorem dksX0_setFilter_3 : cX0_setFilter.data.toList.drop 72 = dktX0_setFilter_3 := dk_seg dksX0_setFilter_2 24 rfl rfl
theorem dX0_setFilter_0 : decode cX0_setFilter 0 = .ok (.iload_n 1, 1) := dk_27 (dk_at dksX0_setFilter_0 0 rfl rfl)
theorem dX0_setFilter_1 : decode cX0_setFilter 1 = .ok (.invokestatic 65, 3) := dk_184 0 65 (dk_at dksX0_setFilter_0 1 rfl rfl)
theorem dX0_setFilter_4 : decode cX0_setFilter 4 = .ok (.ifCond .ne 5, 3) := dk_154 0 5 (dk_at dksX0_setFilter_0 4 rfl rfl)
theorem dX0_setFilter_7 : decode cX0_setFilter 7 = .ok (.iconst (-1), 1) := dk_2 (dk_at dksX0_setFilter_0 7 rfl rfl)
theorem dX0_setFilter_8 : decode cX0_setFilter 8 = .ok (.ireturn, 1) := dk_172 (dk_at dksX0_setFilter_0 8 rfl rfl)
theorem dX0_setFilter_9 : decode cX0_setFilter 9 = .ok (.iload_n 2, 1) := dk_28 (dk_at dksX0_setFilter_0 9 rfl rfl)
theorem dX0_setFilter_10 : decode cX0_setFilter 10 = .ok (.i2l, 1) := dk_133 (dk_at dksX0_setFilter_0 10 rfl rfl)
theorem dX0_setFilter_11 : decode cX0_setFilter 11 = .ok (.lconst 0, 1) := dk_9 (dk_at dksX0_setFilter_0 11 rfl rfl)
theorem dX0_setFilter_12 : decode cX0_setFilter 12 = .ok (.ldc2_w 37, 3) := dk_20 0 37 (dk_at dksX0_setFilter_0 12 rfl rfl)
theorem dX0_setFilter_15 : decode cX0_setFilter 15 = .ok (.invokestatic 33, 3) := dk_184 0 33 (dk_at dksX0_setFilter_0 15 rfl rfl)
theorem dX0_setFilter_18 : decode cX0_setFilter 18 = .ok (.ifCond .eq 15, 3) := dk_153 0 15 (dk_at dksX0_setFilter_0 18 rfl rfl)
theorem dX0_setFilter_21 : decode cX0_setFilter 21 = .ok (.iload_n 3, 1) := dk_29 (dk_at dksX0_setFilter_0 21 rfl rfl)
theorem dX0_setFilter_22 : decode cX0_setFilter 22 = .ok (.i2l, 1) := dk_133 (dk_at dksX0_setFilter_0 22 rfl rfl)
theorem dX0_setFilter_23 : decode cX0_setFilter 23 = .ok (.lconst 0, 1) := dk_9 (dk_at dksX0_setFilter_0 23 rfl rfl)
theorem dX0_setFilter_24 : decode cX0_setFilter 24 = .ok (.ldc2_w 37, 3) := dk_20 0 37 (dk_at dksX0_setFilter_1 0 rfl rfl)
theorem dX0_setFilter_27 : decode cX0_setFilter 27 = .ok (.invokestatic 33, 3) := dk_184 0 33 (dk_at dksX0_setFilter_1 3 rfl rfl)
theorem dX0_setFilter_30 : decode cX0_setFilter 30 = .ok (.ifCond .ne 6, 3) := dk_154 0 6 (dk_at dksX0_setFilter_1 6 rfl rfl)
theorem dX0_setFilter_33 : decode cX0_setFilter 33 = .ok (.bipush (-2), 2) := dk_16 254 (dk_at dksX0_setFilter_1 9 rfl rfl)
theorem dX0_setFilter_35 : decode cX0_setFilter 35 = .ok (.ireturn, 1) := dk_172 (dk_at dksX0_setFilter_1 11 rfl rfl)
theorem dX0_setFilter_36 : decode cX0_setFilter 36 = .ok (.aload_n 0, 1) := dk_42 (dk_at dksX0_setFilter_1 12 rfl rfl)
theorem dX0_setFilter_37 : decode cX0_setFilter 37 = .ok (.getfield 10, 3) := dk_180 0 10 (dk_at dksX0_setFilter_1 13 rfl rfl)
theorem dX0_setFilter_40 : decode cX0_setFilter 40 = .ok (.getfield 69, 3) := dk_180 0 69 (dk_at dksX0_setFilter_1 16 rfl rfl)
theorem dX0_setFilter_43 : decode cX0_setFilter 43 = .ok (.iload_n 1, 1) := dk_27 (dk_at dksX0_setFilter_1 19 rfl rfl)
theorem dX0_setFilter_44 : decode cX0_setFilter 44 = .ok (.aaload, 1) := dk_50 (dk_at dksX0_setFilter_1 20 rfl rfl)
theorem dX0_setFilter_45 : decode cX0_setFilter 45 = .ok (.getfield 73, 3) := dk_180 0 73 (dk_at dksX0_setFilter_1 21 rfl rfl)
theorem dX0_setFilter_48 : decode cX0_setFilter 48 = .ok (.istore 4, 2) := dk_54 4 (dk_at dksX0_setFilter_2 0 rfl rfl)
theorem dX0_setFilter_50 : decode cX0_setFilter 50 = .ok (.aload_n 0, 1) := dk_42 (dk_at dksX0_setFilter_2 2 rfl rfl)
theorem dX0_setFilter_51 : decode cX0_setFilter 51 = .ok (.getfield 10, 3) := dk_180 0 10 (dk_at dksX0_setFilter_2 3 rfl rfl)
theorem dX0_setFilter_54 : decode cX0_setFilter 54 = .ok (.getfield 69, 3) := dk_180 0 69 (dk_at dksX0_setFilter_2 6 rfl rfl)
theorem dX0_setFilter_57 : decode cX0_setFilter 57 = .ok (.iload_n 1, 1) := dk_27 (dk_at dksX0_setFilter_2 9 rfl rfl)
theorem dX0_setFilter_58 : decode cX0_setFilter 58 = .ok (.aaload, 1) := dk_50 (dk_at dksX0_setFilter_2 10 rfl rfl)
theorem dX0_setFilter_59 : decode cX0_setFilter 59 = .ok (.iload_n 2, 1) := dk_28 (dk_at dksX0_setFilter_2 11 rfl rfl)
theorem dX0_setFilter_60 : decode cX0_setFilter 60 = .ok (.putfield 73, 3) := dk_181 0 73 (dk_at dksX0_setFilter_2 12 rfl rfl)
theorem dX0_setFilter_63 : decode cX0_setFilter 63 = .ok (.aload_n 0, 1) := dk_42 (dk_at dksX0_setFilter_2 15 rfl rfl)
theorem dX0_setFilter_64 : decode cX0_setFilter 64 = .ok (.getfield 10, 3) := dk_180 0 10 (dk_at dksX0_setFilter_2 16 rfl rfl)
theorem dX0_setFilter_67 : decode cX0_setFilter 67 = .ok (.getfield 69, 3) := dk_180 0 69 (dk_at dksX0_setFilter_2 19 rfl rfl)
theorem dX0_setFilter_70 : decode cX0_setFilter 70 = .ok (.iload_n 1, 1) := dk_27 (dk_at dksX0_setFilter_2 22 rfl rfl)
theorem dX0_setFilter_71 : decode cX0_setFilter 71 = .ok (.aaload, 1) := dk_50 (dk_at dksX0_setFilter_2 23 rfl rfl)
theorem dX0_setFilter_72 : decode cX0_setFilter 72 = .ok (.iload_n 3, 1) := dk_29 (dk_at dksX0_setFilter_3 0 rfl rfl)
theorem dX0_setFilter_73 : decode cX0_setFilter 73 = .ok (.putfield 78, 3) := dk_181 0 78 (dk_at dksX0_setFilter_3 1 rfl rfl)
theorem dX0_setFilter_76 : decode cX0_setFilter 76 = .ok (.iload 4, 2) := dk_21 4 (dk_at dksX0_setFilter_3 4 rfl rfl)
theorem dX0_setFilter_78 : decode cX0_setFilter 78 = .ok (.ireturn, 1) := dk_172 (dk_at dksX0_setFilter_3 6 rfl rfl)
abbrev cX0_isNode : ByteArray := prog_1_method_5_code
def yX0_isNode : MethodName := ⟨RX0, "isNode", "(I)Z"⟩
def dkwX0_isNode_0 : List UInt8 := [26, 133, 9, 20, 0, 31, 184, 0, 33, 172]
abbrev dktX0_isNode_0 : List UInt8 := dkwX0_isNode_0 ++ []
theorem dksX0_isNode_0 : cX0_isNode.data.toList.drop 0 = dktX0_isNode_0 := by decide +kernel
theorem dX0_isNode_0 : decode cX0_isNode 0 = .ok (.iload_n 0, 1) := dk_26 (dk_at dksX0_isNode_0 0 rfl rfl)
theorem dX0_isNode_1 : decode cX0_isNode 1 = .ok (.i2l, 1) := dk_133 (dk_at dksX0_isNode_0 1 rfl rfl)
theorem dX0_isNode_2 : decode cX0_isNode 2 = .ok (.lconst 0, 1) := dk_9 (dk_at dksX0_isNode_0 2 rfl rfl)
theorem dX0_isNode_3 : decode cX0_isNode 3 = .ok (.ldc2_w 31, 3) := dk_20 0 31 (dk_at dksX0_isNode_0 3 rfl rfl)
theorem dX0_isNode_6 : decode cX0_isNode 6 = .ok (.invokestatic 33, 3) := dk_184 0 33 (dk_at dksX0_isNode_0 6 rfl rfl)
theorem dX0_isNode_9 : decode cX0_isNode 9 = .ok (.ireturn, 1) := dk_172 (dk_at dksX0_isNode_0 9 rfl rfl)
abbrev cX0_setAnswer : ByteArray := prog_1_method_9_code
def yX0_setAnswer : MethodName := ⟨RX0, "setAnswer", "(IIII)I"⟩
def dkwX0_setAnswer_3 : List UInt8 := [21, 4, 183, 0, 107, 182, 0, 110, 87, 25, 5, 182, 0, 89, 172]
abbrev dktX0_setAnswer_3 : List UInt8 := dkwX0_setAnswer_3 ++ []
def dkwX0_setAnswer_2 : List UInt8 := [28, 184, 0, 95, 182, 0, 101, 154, 0, 6, 16, 253, 172, 25, 5, 28, 184, 0, 95, 187, 0, 105, 89, 29]
abbrev dktX0_setAnswer_2 : List UInt8 := dkwX0_setAnswer_2 ++ dktX0_setAnswer_3
def dkwX0_setAnswer_1 : List UInt8 := [180, 0, 10, 180, 0, 69, 27, 50, 180, 0, 85, 58, 5, 25, 5, 182, 0, 89, 7, 160, 0, 18, 25, 5]
abbrev dktX0_setAnswer_1 : List UInt8 := dkwX0_setAnswer_1 ++ dktX0_setAnswer_2
def dkwX0_setAnswer_0 : List UInt8 := [27, 184, 0, 65, 154, 0, 5, 2, 172, 28, 3, 29, 21, 4, 184, 0, 81, 154, 0, 6, 16, 254, 172, 42]
abbrev dktX0_setAnswer_0 : List UInt8 := dkwX0_setAnswer_0 ++ dktX0_setAnswer_1
theorem dksX0_setAnswer_0 : cX0_setAnswer.data.toList.drop 0 = dktX0_setAnswer_0 := by decide +kernel
theorem dksX0_setAnswer_1 : cX0_setAnswer.data.toList.drop 24 = dktX0_setAnswer_1 := dk_seg dksX0_setAnswer_0 24 rfl rfl
theorem dksX0_setAnswer_2 : cX0_setAnswer.data.toList.drop 48 = dktX0_setAnswer_2 := dk_seg dksX0_setAnswer_1 24 rfl rfl
theorem dksX0_setAnswer_3 : cX0_setAnswer.data.toList.drop 72 = dktX0_setAnswer_3 := dk_seg dksX0_setAnswer_2 24 rfl rfl
theorem dX0_setAnswer_0 : decode cX0_setAnswer 0 = .ok (.iload_n 1, 1) := dk_27 (dk_at dksX0_setAnswer_0 0 rfl rfl)
theorem dX0_setAnswer_1 : decode cX0_setAnswer 1 = .ok (.invokestatic 65, 3) := dk_184 0 65 (dk_at dksX0_setAnswer_0 1 rfl rfl)
theorem dX0_setAnswer_4 : decode cX0_setAnswer 4 = .ok (.ifCond .ne 5, 3) := dk_154 0 5 (dk_at dksX0_setAnswer_0 4 rfl rfl)
theorem dX0_setAnswer_7 : decode cX0_setAnswer 7 = .ok (.iconst (-1), 1) := dk_2 (dk_at dksX0_setAnswer_0 7 rfl rfl)
theorem dX0_setAnswer_8 : decode cX0_setAnswer 8 = .ok (.ireturn, 1) := dk_172 (dk_at dksX0_setAnswer_0 8 rfl rfl)
theorem dX0_setAnswer_9 : decode cX0_setAnswer 9 = .ok (.iload_n 2, 1) := dk_28 (dk_at dksX0_setAnswer_0 9 rfl rfl)
theorem dX0_setAnswer_10 : decode cX0_setAnswer 10 = .ok (.iconst 0, 1) := dk_3 (dk_at dksX0_setAnswer_0 10 rfl rfl)
theorem dX0_setAnswer_11 : decode cX0_setAnswer 11 = .ok (.iload_n 3, 1) := dk_29 (dk_at dksX0_setAnswer_0 11 rfl rfl)
theorem dX0_setAnswer_12 : decode cX0_setAnswer 12 = .ok (.iload 4, 2) := dk_21 4 (dk_at dksX0_setAnswer_0 12 rfl rfl)
theorem dX0_setAnswer_14 : decode cX0_setAnswer 14 = .ok (.invokestatic 81, 3) := dk_184 0 81 (dk_at dksX0_setAnswer_0 14 rfl rfl)
theorem dX0_setAnswer_17 : decode cX0_setAnswer 17 = .ok (.ifCond .ne 6, 3) := dk_154 0 6 (dk_at dksX0_setAnswer_0 17 rfl rfl)
theorem dX0_setAnswer_20 : decode cX0_setAnswer 20 = .ok (.bipush (-2), 2) := dk_16 254 (dk_at dksX0_setAnswer_0 20 rfl rfl)
theorem dX0_setAnswer_22 : decode cX0_setAnswer 22 = .ok (.ireturn, 1) := dk_172 (dk_at dksX0_setAnswer_0 22 rfl rfl)
theorem dX0_setAnswer_23 : decode cX0_setAnswer 23 = .ok (.aload_n 0, 1) := dk_42 (dk_at dksX0_setAnswer_0 23 rfl rfl)
theorem dX0_setAnswer_24 : decode cX0_setAnswer 24 = .ok (.getfield 10, 3) := dk_180 0 10 (dk_at dksX0_setAnswer_1 0 rfl rfl)
theorem dX0_setAnswer_27 : decode cX0_setAnswer 27 = .ok (.getfield 69, 3) := dk_180 0 69 (dk_at dksX0_setAnswer_1 3 rfl rfl)
theorem dX0_setAnswer_30 : decode cX0_setAnswer 30 = .ok (.iload_n 1, 1) := dk_27 (dk_at dksX0_setAnswer_1 6 rfl rfl)
theorem dX0_setAnswer_31 : decode cX0_setAnswer 31 = .ok (.aaload, 1) := dk_50 (dk_at dksX0_setAnswer_1 7 rfl rfl)
theorem dX0_setAnswer_32 : decode cX0_setAnswer 32 = .ok (.getfield 85, 3) := dk_180 0 85 (dk_at dksX0_setAnswer_1 8 rfl rfl)
theorem dX0_setAnswer_35 : decode cX0_setAnswer 35 = .ok (.astore 5, 2) := dk_58 5 (dk_at dksX0_setAnswer_1 11 rfl rfl)
theorem dX0_setAnswer_37 : decode cX0_setAnswer 37 = .ok (.aload 5, 2) := dk_25 5 (dk_at dksX0_setAnswer_1 13 rfl rfl)
theorem dX0_setAnswer_39 : decode cX0_setAnswer 39 = .ok (.invokevirtual 89, 3) := dk_182 0 89 (dk_at dksX0_setAnswer_1 15 rfl rfl)
theorem dX0_setAnswer_42 : decode cX0_setAnswer 42 = .ok (.iconst 4, 1) := dk_7 (dk_at dksX0_setAnswer_1 18 rfl rfl)
theorem dX0_setAnswer_43 : decode cX0_setAnswer 43 = .ok (.if_icmp .ne 18, 3) := dk_160 0 18 (dk_at dksX0_setAnswer_1 19 rfl rfl)
theorem dX0_setAnswer_46 : decode cX0_setAnswer 46 = .ok (.aload 5, 2) := dk_25 5 (dk_at dksX0_setAnswer_1 22 rfl rfl)
theorem dX0_setAnswer_48 : decode cX0_setAnswer 48 = .ok (.iload_n 2, 1) := dk_28 (dk_at dksX0_setAnswer_2 0 rfl rfl)
theorem dX0_setAnswer_49 : decode cX0_setAnswer 49 = .ok (.invokestatic 95, 3) := dk_184 0 95 (dk_at dksX0_setAnswer_2 1 rfl rfl)
theorem dX0_setAnswer_52 : decode cX0_setAnswer 52 = .ok (.invokevirtual 101, 3) := dk_182 0 101 (dk_at dksX0_setAnswer_2 4 rfl rfl)
theorem dX0_setAnswer_55 : decode cX0_setAnswer 55 = .ok (.ifCond .ne 6, 3) := dk_154 0 6 (dk_at dksX0_setAnswer_2 7 rfl rfl)
theorem dX0_setAnswer_58 : decode cX0_setAnswer 58 = .ok (.bipush (-3), 2) := dk_16 253 (dk_at dksX0_setAnswer_2 10 rfl rfl)
theorem dX0_setAnswer_60 : decode cX0_setAnswer 60 = .ok (.ireturn, 1) := dk_172 (dk_at dksX0_setAnswer_2 12 rfl rfl)
theorem dX0_setAnswer_61 : decode cX0_setAnswer 61 = .ok (.aload 5, 2) := dk_25 5 (dk_at dksX0_setAnswer_2 13 rfl rfl)
theorem dX0_setAnswer_63 : decode cX0_setAnswer 63 = .ok (.iload_n 2, 1) := dk_28 (dk_at dksX0_setAnswer_2 15 rfl rfl)
theorem dX0_setAnswer_64 : decode cX0_setAnswer 64 = .ok (.invokestatic 95, 3) := dk_184 0 95 (dk_at dksX0_setAnswer_2 16 rfl rfl)
theorem dX0_setAnswer_67 : decode cX0_setAnswer 67 = .ok (.new 105, 3) := dk_187 0 105 (dk_at dksX0_setAnswer_2 19 rfl rfl)
theorem dX0_setAnswer_70 : decode cX0_setAnswer 70 = .ok (.dup, 1) := dk_89 (dk_at dksX0_setAnswer_2 22 rfl rfl)
theorem dX0_setAnswer_71 : decode cX0_setAnswer 71 = .ok (.iload_n 3, 1) := dk_29 (dk_at dksX0_setAnswer_2 23 rfl rfl)
theorem dX0_setAnswer_72 : decode cX0_setAnswer 72 = .ok (.iload 4, 2) := dk_21 4 (dk_at dksX0_setAnswer_3 0 rfl rfl)
theorem dX0_setAnswer_74 : decode cX0_setAnswer 74 = .ok (.invokespecial 107, 3) := dk_183 0 107 (dk_at dksX0_setAnswer_3 2 rfl rfl)
theorem dX0_setAnswer_77 : decode cX0_setAnswer 77 = .ok (.invokevirtual 110, 3) := dk_182 0 110 (dk_at dksX0_setAnswer_3 5 rfl rfl)
theorem dX0_setAnswer_80 : decode cX0_setAnswer 80 = .ok (.pop, 1) := dk_87 (dk_at dksX0_setAnswer_3 8 rfl rfl)
theorem dX0_setAnswer_81 : decode cX0_setAnswer 81 = .ok (.aload 5, 2) := dk_25 5 (dk_at dksX0_setAnswer_3 9 rfl rfl)
theorem dX0_setAnswer_83 : decode cX0_setAnswer 83 = .ok (.invokevirtual 89, 3) := dk_182 0 89 (dk_at dksX0_setAnswer_3 11 rfl rfl)
theorem dX0_setAnswer_86 : decode cX0_setAnswer 86 = .ok (.ireturn, 1) := dk_172 (dk_at dksX0_setAnswer_3 14 rfl rfl)
abbrev cX0_isFrame : ByteArray := prog_1_method_6_code
def yX0_isFrame : MethodName := ⟨RX0, "isFrame", "(IZII)Z"⟩
def dkwX0_isFrame_1 : List UInt8 := [28, 29, 184, 0, 41, 153, 0, 15, 27, 153, 0, 7, 29, 154, 0, 7, 4, 167, 0, 4, 3, 172]
abbrev dktX0_isFrame_1 : List UInt8 := dkwX0_isFrame_1 ++ []
def dkwX0_isFrame_0 : List UInt8 := [26, 133, 9, 20, 0, 37, 184, 0, 33, 153, 0, 35, 28, 133, 9, 20, 0, 39, 184, 0, 33, 153, 0, 23]
abbrev dktX0_isFrame_0 : List UInt8 := dkwX0_isFrame_0 ++ dktX0_isFrame_1
theorem dksX0_isFrame_0 : cX0_isFrame.data.toList.drop 0 = dktX0_isFrame_0 := by decide +kernel
theorem dksX0_isFrame_1 : cX0_isFrame.data.toList.drop 24 = dktX0_isFrame_1 := dk_seg dksX0_isFrame_0 24 rfl rfl
theorem dX0_isFrame_0 : decode cX0_isFrame 0 = .ok (.iload_n 0, 1) := dk_26 (dk_at dksX0_isFrame_0 0 rfl rfl)
theorem dX0_isFrame_1 : decode cX0_isFrame 1 = .ok (.i2l, 1) := dk_133 (dk_at dksX0_isFrame_0 1 rfl rfl)
theorem dX0_isFrame_2 : decode cX0_isFrame 2 = .ok (.lconst 0, 1) := dk_9 (dk_at dksX0_isFrame_0 2 rfl rfl)
theorem dX0_isFrame_3 : decode cX0_isFrame 3 = .ok (.ldc2_w 37, 3) := dk_20 0 37 (dk_at dksX0_isFrame_0 3 rfl rfl)
theorem dX0_isFrame_6 : decode cX0_isFrame 6 = .ok (.invokestatic 33, 3) := dk_184 0 33 (dk_at dksX0_isFrame_0 6 rfl rfl)
theorem dX0_isFrame_9 : decode cX0_isFrame 9 = .ok (.ifCond .eq 35, 3) := dk_153 0 35 (dk_at dksX0_isFrame_0 9 rfl rfl)
theorem dX0_isFrame_12 : decode cX0_isFrame 12 = .ok (.iload_n 2, 1) := dk_28 (dk_at dksX0_isFrame_0 12 rfl rfl)
theorem dX0_isFrame_13 : decode cX0_isFrame 13 = .ok (.i2l, 1) := dk_133 (dk_at dksX0_isFrame_0 13 rfl rfl)
theorem dX0_isFrame_14 : decode cX0_isFrame 14 = .ok (.lconst 0, 1) := dk_9 (dk_at dksX0_isFrame_0 14 rfl rfl)
theorem dX0_isFrame_15 : decode cX0_isFrame 15 = .ok (.ldc2_w 39, 3) := dk_20 0 39 (dk_at dksX0_isFrame_0 15 rfl rfl)
theorem dX0_isFrame_18 : decode cX0_isFrame 18 = .ok (.invokestatic 33, 3) := dk_184 0 33 (dk_at dksX0_isFrame_0 18 rfl rfl)
theorem dX0_isFrame_21 : decode cX0_isFrame 21 = .ok (.ifCond .eq 23, 3) := dk_153 0 23 (dk_at dksX0_isFrame_0 21 rfl rfl)
theorem dX0_isFrame_24 : decode cX0_isFrame 24 = .ok (.iload_n 2, 1) := dk_28 (dk_at dksX0_isFrame_1 0 rfl rfl)
theorem dX0_isFrame_25 : decode cX0_isFrame 25 = .ok (.iload_n 3, 1) := dk_29 (dk_at dksX0_isFrame_1 1 rfl rfl)
theorem dX0_isFrame_26 : decode cX0_isFrame 26 = .ok (.invokestatic 41, 3) := dk_184 0 41 (dk_at dksX0_isFrame_1 2 rfl rfl)
theorem dX0_isFrame_29 : decode cX0_isFrame 29 = .ok (.ifCond .eq 15, 3) := dk_153 0 15 (dk_at dksX0_isFrame_1 5 rfl rfl)
theorem dX0_isFrame_32 : decode cX0_isFrame 32 = .ok (.iload_n 1, 1) := dk_27 (dk_at dksX0_isFrame_1 8 rfl rfl)
theorem dX0_isFrame_33 : decode cX0_isFrame 33 = .ok (.ifCond .eq 7, 3) := dk_153 0 7 (dk_at dksX0_isFrame_1 9 rfl rfl)
theorem dX0_isFrame_36 : decode cX0_isFrame 36 = .ok (.iload_n 3, 1) := dk_29 (dk_at dksX0_isFrame_1 12 rfl rfl)
theorem dX0_isFrame_37 : decode cX0_isFrame 37 = .ok (.ifCond .ne 7, 3) := dk_154 0 7 (dk_at dksX0_isFrame_1 13 rfl rfl)
theorem dX0_isFrame_40 : decode cX0_isFrame 40 = .ok (.iconst 1, 1) := dk_4 (dk_at dksX0_isFrame_1 16 rfl rfl)
theorem dX0_isFrame_41 : decode cX0_isFrame 41 = .ok (.goto 4, 3) := dk_167 0 4 (dk_at dksX0_isFrame_1 17 rfl rfl)
theorem dX0_isFrame_44 : decode cX0_isFrame 44 = .ok (.iconst 0, 1) := dk_3 (dk_at dksX0_isFrame_1 20 rfl rfl)
theorem dX0_isFrame_45 : decode cX0_isFrame 45 = .ok (.ireturn, 1) := dk_172 (dk_at dksX0_isFrame_1 21 rfl rfl)
abbrev cX0_removeAnswer : ByteArray := prog_1_method_10_code
def yX0_removeAnswer : MethodName := ⟨RX0, "removeAnswer", "(II)I"⟩
def dkwX0_removeAnswer_1 : List UInt8 := [184, 0, 95, 182, 0, 114, 199, 0, 8, 16, 251, 167, 0, 7, 45, 182, 0, 89, 172]
abbrev dktX0_removeAnswer_1 : List UInt8 := dkwX0_removeAnswer_1 ++ []
def dkwX0_removeAnswer_0 : List UInt8 := [27, 184, 0, 65, 154, 0, 5, 2, 172, 42, 180, 0, 10, 180, 0, 69, 27, 50, 180, 0, 85, 78, 45, 28]
abbrev dktX0_removeAnswer_0 : List UInt8 := dkwX0_removeAnswer_0 ++ dktX0_removeAnswer_1
theorem dksX0_removeAnswer_0 : cX0_removeAnswer.data.toList.drop 0 = dktX0_removeAnswer_0 := by decide +kernel
theorem dksX0_removeAnswer_1 : cX0_removeAnswer.data.toList.drop 24 = dktX0_removeAnswer_1 := dk_seg dksX0_removeAnswer_0 24 rfl rfl
theorem dX0_removeAnswer_0 : decode cX0_removeAnswer 0 = .ok (.iload_n 1, 1) := dk_27 (dk_at dksX0_removeAnswer_0 0 rfl rfl)
theorem dX0_removeAnswer_1 : decode cX0_removeAnswer 1 = .ok (.invokestatic 65, 3) := dk_184 0 65 (dk_at dksX0_removeAnswer_0 1 rfl rfl)
theorem dX0_removeAnswer_4 : decode cX0_removeAnswer 4 = .ok (.ifCond .ne 5, 3) := dk_154 0 5 (dk_at dksX0_removeAnswer_0 4 rfl rfl)
theorem dX0_removeAnswer_7 : decode cX0_removeAnswer 7 = .ok (.iconst (-1), 1) := dk_2 (dk_at dksX0_removeAnswer_0 7 rfl rfl)
theorem dX0_removeAnswer_8 : decode cX0_removeAnswer 8 = .ok (.ireturn, 1) := dk_172 (dk_at dksX0_removeAnswer_0 8 rfl rfl)
theorem dX0_removeAnswer_9 : decode cX0_removeAnswer 9 = .ok (.aload_n 0, 1) := dk_42 (dk_at dksX0_removeAnswer_0 9 rfl rfl)
theorem dX0_removeAnswer_10 : decode cX0_removeAnswer 10 = .ok (.getfield 10, 3) := dk_180 0 10 (dk_at dksX0_removeAnswer_0 10 rfl rfl)
theorem dX0_removeAnswer_13 : decode cX0_removeAnswer 13 = .ok (.getfield 69, 3) := dk_180 0 69 (dk_at dksX0_removeAnswer_0 13 rfl rfl)
theorem dX0_removeAnswer_16 : decode cX0_removeAnswer 16 = .ok (.iload_n 1, 1) := dk_27 (dk_at dksX0_removeAnswer_0 16 rfl rfl)
theorem dX0_removeAnswer_17 : decode cX0_removeAnswer 17 = .ok (.aaload, 1) := dk_50 (dk_at dksX0_removeAnswer_0 17 rfl rfl)
theorem dX0_removeAnswer_18 : decode cX0_removeAnswer 18 = .ok (.getfield 85, 3) := dk_180 0 85 (dk_at dksX0_removeAnswer_0 18 rfl rfl)
theorem dX0_removeAnswer_21 : decode cX0_removeAnswer 21 = .ok (.astore_n 3, 1) := dk_78 (dk_at dksX0_removeAnswer_0 21 rfl rfl)
theorem dX0_removeAnswer_22 : decode cX0_removeAnswer 22 = .ok (.aload_n 3, 1) := dk_45 (dk_at dksX0_removeAnswer_0 22 rfl rfl)
theorem dX0_removeAnswer_23 : decode cX0_removeAnswer 23 = .ok (.iload_n 2, 1) := dk_28 (dk_at dksX0_removeAnswer_0 23 rfl rfl)
theorem dX0_removeAnswer_24 : decode cX0_removeAnswer 24 = .ok (.invokestatic 95, 3) := dk_184 0 95 (dk_at dksX0_removeAnswer_1 0 rfl rfl)
theorem dX0_removeAnswer_27 : decode cX0_removeAnswer 27 = .ok (.invokevirtual 114, 3) := dk_182 0 114 (dk_at dksX0_removeAnswer_1 3 rfl rfl)
theorem dX0_removeAnswer_30 : decode cX0_removeAnswer 30 = .ok (.ifnonnull 8, 3) := dk_199 0 8 (dk_at dksX0_removeAnswer_1 6 rfl rfl)
theorem dX0_removeAnswer_33 : decode cX0_removeAnswer 33 = .ok (.bipush (-5), 2) := dk_16 251 (dk_at dksX0_removeAnswer_1 9 rfl rfl)
theorem dX0_removeAnswer_35 : decode cX0_removeAnswer 35 = .ok (.goto 7, 3) := dk_167 0 7 (dk_at dksX0_removeAnswer_1 11 rfl rfl)
theorem dX0_removeAnswer_38 : decode cX0_removeAnswer 38 = .ok (.aload_n 3, 1) := dk_45 (dk_at dksX0_removeAnswer_1 14 rfl rfl)
theorem dX0_removeAnswer_39 : decode cX0_removeAnswer 39 = .ok (.invokevirtual 89, 3) := dk_182 0 89 (dk_at dksX0_removeAnswer_1 15 rfl rfl)
theorem dX0_removeAnswer_42 : decode cX0_removeAnswer 42 = .ok (.ireturn, 1) := dk_172 (dk_at dksX0_removeAnswer_1 18 rfl rfl)
abbrev cX0_detach : ByteArray := prog_1_method_11_code
def yX0_detach : MethodName := ⟨RX0, "detach", "(I)I"⟩
def dkwX0_detach_2 : List UInt8 := [29, 172]
abbrev dktX0_detach_2 : List UInt8 := dkwX0_detach_2 ++ []
def dkwX0_detach_1 : List UInt8 := [178, 0, 122, 166, 0, 6, 16, 252, 172, 44, 180, 0, 118, 182, 0, 127, 62, 44, 178, 0, 122, 182, 0, 130]
abbrev dktX0_detach_1 : List UInt8 := dkwX0_detach_1 ++ dktX0_detach_2
def dkwX0_detach_0 : List UInt8 := [27, 184, 0, 65, 154, 0, 5, 2, 172, 42, 180, 0, 10, 180, 0, 69, 27, 50, 77, 44, 180, 0, 118]
abbrev dktX0_detach_0 : List UInt8 := dkwX0_detach_0 ++ dktX0_detach_1
theorem dksX0_detach_0 : cX0_detach.data.toList.drop 0 = dktX0_detach_0 := by decide +kernel
theorem dksX0_detach_1 : cX0_detach.data.toList.drop 23 = dktX0_detach_1 := dk_seg dksX0_detach_0 23 rfl rfl
theorem dksX0_detach_2 : cX0_detach.data.toList.drop 47 = dktX0_detach_2 := dk_seg dksX0_detach_1 24 rfl rfl
theorem dX0_detach_0 : decode cX0_detach 0 = .ok (.iload_n 1, 1) := dk_27 (dk_at dksX0_detach_0 0 rfl rfl)
theorem dX0_detach_1 : decode cX0_detach 1 = .ok (.invokestatic 65, 3) := dk_184 0 65 (dk_at dksX0_detach_0 1 rfl rfl)
theorem dX0_detach_4 : decode cX0_detach 4 = .ok (.ifCond .ne 5, 3) := dk_154 0 5 (dk_at dksX0_detach_0 4 rfl rfl)
theorem dX0_detach_7 : decode cX0_detach 7 = .ok (.iconst (-1), 1) := dk_2 (dk_at dksX0_detach_0 7 rfl rfl)
theorem dX0_detach_8 : decode cX0_detach 8 = .ok (.ireturn, 1) := dk_172 (dk_at dksX0_detach_0 8 rfl rfl)
theorem dX0_detach_9 : decode cX0_detach 9 = .ok (.aload_n 0, 1) := dk_42 (dk_at dksX0_detach_0 9 rfl rfl)
theorem dX0_detach_10 : decode cX0_detach 10 = .ok (.getfield 10, 3) := dk_180 0 10 (dk_at dksX0_detach_0 10 rfl rfl)
theorem dX0_detach_13 : decode cX0_detach 13 = .ok (.getfield 69, 3) := dk_180 0 69 (dk_at dksX0_detach_0 13 rfl rfl)
theorem dX0_detach_16 : decode cX0_detach 16 = .ok (.iload_n 1, 1) := dk_27 (dk_at dksX0_detach_0 16 rfl rfl)
theorem dX0_detach_17 : decode cX0_detach 17 = .ok (.aaload, 1) := dk_50 (dk_at dksX0_detach_0 17 rfl rfl)
theorem dX0_detach_18 : decode cX0_detach 18 = .ok (.astore_n 2, 1) := dk_77 (dk_at dksX0_detach_0 18 rfl rfl)
theorem dX0_detach_19 : decode cX0_detach 19 = .ok (.aload_n 2, 1) := dk_44 (dk_at dksX0_detach_0 19 rfl rfl)
theorem dX0_detach_20 : decode cX0_detach 20 = .ok (.getfield 118, 3) := dk_180 0 118 (dk_at dksX0_detach_0 20 rfl rfl)
theorem dX0_detach_23 : decode cX0_detach 23 = .ok (.getstatic 122, 3) := dk_178 0 122 (dk_at dksX0_detach_1 0 rfl rfl)
theorem dX0_detach_26 : decode cX0_detach 26 = .ok (.if_acmp .ne 6, 3) := dk_166 0 6 (dk_at dksX0_detach_1 3 rfl rfl)
theorem dX0_detach_29 : decode cX0_detach 29 = .ok (.bipush (-4), 2) := dk_16 252 (dk_at dksX0_detach_1 6 rfl rfl)
theorem dX0_detach_31 : decode cX0_detach 31 = .ok (.ireturn, 1) := dk_172 (dk_at dksX0_detach_1 8 rfl rfl)
theorem dX0_detach_32 : decode cX0_detach 32 = .ok (.aload_n 2, 1) := dk_44 (dk_at dksX0_detach_1 9 rfl rfl)
theorem dX0_detach_33 : decode cX0_detach 33 = .ok (.getfield 118, 3) := dk_180 0 118 (dk_at dksX0_detach_1 10 rfl rfl)
theorem dX0_detach_36 : decode cX0_detach 36 = .ok (.invokevirtual 127, 3) := dk_182 0 127 (dk_at dksX0_detach_1 13 rfl rfl)
theorem dX0_detach_39 : decode cX0_detach 39 = .ok (.istore_n 3, 1) := dk_62 (dk_at dksX0_detach_1 16 rfl rfl)
theorem dX0_detach_40 : decode cX0_detach 40 = .ok (.aload_n 2, 1) := dk_44 (dk_at dksX0_detach_1 17 rfl rfl)
theorem dX0_detach_41 : decode cX0_detach 41 = .ok (.getstatic 122, 3) := dk_178 0 122 (dk_at dksX0_detach_1 18 rfl rfl)
theorem dX0_detach_44 : decode cX0_detach 44 = .ok (.invokevirtual 130, 3) := dk_182 0 130 (dk_at dksX0_detach_1 21 rfl rfl)
theorem dX0_detach_47 : decode cX0_detach 47 = .ok (.iload_n 3, 1) := dk_29 (dk_at dksX0_detach_2 0 rfl rfl)
theorem dX0_detach_48 : decode cX0_detach 48 = .ok (.ireturn, 1) := dk_172 (dk_at dksX0_detach_2 1 rfl rfl)
abbrev cX0_attach : ByteArray := prog_1_method_12_code
def yX0_attach : MethodName := ⟨RX0, "attach", "(I)I"⟩
def dkwX0_attach_2 : List UInt8 := [180, 0, 10, 182, 0, 137, 172]
abbrev dktX0_attach_2 : List UInt8 := dkwX0_attach_2 ++ []
def dkwX0_attach_1 : List UInt8 := [165, 0, 6, 16, 252, 172, 42, 180, 0, 10, 180, 0, 69, 27, 50, 178, 0, 134, 182, 0, 130, 42]
abbrev dktX0_attach_1 : List UInt8 := dkwX0_attach_1 ++ dktX0_attach_2
def dkwX0_attach_0 : List UInt8 := [27, 184, 0, 65, 154, 0, 5, 2, 172, 42, 180, 0, 10, 180, 0, 69, 27, 50, 180, 0, 118, 178, 0, 122]
abbrev dktX0_attach_0 : List UInt8 := dkwX0_attach_0 ++ dktX0_attach_1
theorem dksX0_attach_0 : cX0_attach.data.toList.drop 0 = dktX0_attach_0 := by decide +kernel
theorem dksX0_attach_1 : cX0_attach.data.toList.drop 24 = dktX0_attach_1 := dk_seg dksX0_attach_0 24 rfl rfl
theorem dksX0_attach_2 : cX0_attach.data.toList.drop 46 = dktX0_attach_2 := dk_seg dksX0_attach_1 22 rfl rfl
theorem dX0_attach_0 : decode cX0_attach 0 = .ok (.iload_n 1, 1) := dk_27 (dk_at dksX0_attach_0 0 rfl rfl)
theorem dX0_attach_1 : decode cX0_attach 1 = .ok (.invokestatic 65, 3) := dk_184 0 65 (dk_at dksX0_attach_0 1 rfl rfl)
theorem dX0_attach_4 : decode cX0_attach 4 = .ok (.ifCond .ne 5, 3) := dk_154 0 5 (dk_at dksX0_attach_0 4 rfl rfl)
theorem dX0_attach_7 : decode cX0_attach 7 = .ok (.iconst (-1), 1) := dk_2 (dk_at dksX0_attach_0 7 rfl rfl)
theorem dX0_attach_8 : decode cX0_attach 8 = .ok (.ireturn, 1) := dk_172 (dk_at dksX0_attach_0 8 rfl rfl)
theorem dX0_attach_9 : decode cX0_attach 9 = .ok (.aload_n 0, 1) := dk_42 (dk_at dksX0_attach_0 9 rfl rfl)
theorem dX0_attach_10 : decode cX0_attach 10 = .ok (.getfield 10, 3) := dk_180 0 10 (dk_at dksX0_attach_0 10 rfl rfl)
theorem dX0_attach_13 : decode cX0_attach 13 = .ok (.getfield 69, 3) := dk_180 0 69 (dk_at dksX0_attach_0 13 rfl rfl)
theorem dX0_attach_16 : decode cX0_attach 16 = .ok (.iload_n 1, 1) := dk_27 (dk_at dksX0_attach_0 16 rfl rfl)
theorem dX0_attach_17 : decode cX0_attach 17 = .ok (.aaload, 1) := dk_50 (dk_at dksX0_attach_0 17 rfl rfl)
theorem dX0_attach_18 : decode cX0_attach 18 = .ok (.getfield 118, 3) := dk_180 0 118 (dk_at dksX0_attach_0 18 rfl rfl)
theorem dX0_attach_21 : decode cX0_attach 21 = .ok (.getstatic 122, 3) := dk_178 0 122 (dk_at dksX0_attach_0 21 rfl rfl)
theorem dX0_attach_24 : decode cX0_attach 24 = .ok (.if_acmp .eq 6, 3) := dk_165 0 6 (dk_at dksX0_attach_1 0 rfl rfl)
theorem dX0_attach_27 : decode cX0_attach 27 = .ok (.bipush (-4), 2) := dk_16 252 (dk_at dksX0_attach_1 3 rfl rfl)
theorem dX0_attach_29 : decode cX0_attach 29 = .ok (.ireturn, 1) := dk_172 (dk_at dksX0_attach_1 5 rfl rfl)
theorem dX0_attach_30 : decode cX0_attach 30 = .ok (.aload_n 0, 1) := dk_42 (dk_at dksX0_attach_1 6 rfl rfl)
theorem dX0_attach_31 : decode cX0_attach 31 = .ok (.getfield 10, 3) := dk_180 0 10 (dk_at dksX0_attach_1 7 rfl rfl)
theorem dX0_attach_34 : decode cX0_attach 34 = .ok (.getfield 69, 3) := dk_180 0 69 (dk_at dksX0_attach_1 10 rfl rfl)
theorem dX0_attach_37 : decode cX0_attach 37 = .ok (.iload_n 1, 1) := dk_27 (dk_at dksX0_attach_1 13 rfl rfl)
theorem dX0_attach_38 : decode cX0_attach 38 = .ok (.aaload, 1) := dk_50 (dk_at dksX0_attach_1 14 rfl rfl)
theorem dX0_attach_39 : decode cX0_attach 39 = .ok (.getstatic 134, 3) := dk_178 0 134 (dk_at dksX0_attach_1 15 rfl rfl)
theorem dX0_attach_42 : decode cX0_attach 42 = .ok (.invokevirtual 130, 3) := dk_182 0 130 (dk_at dksX0_attach_1 18 rfl rfl)
theorem dX0_attach_45 : decode cX0_attach 45 = .ok (.aload_n 0, 1) := dk_42 (dk_at dksX0_attach_1 21 rfl rfl)
theorem dX0_attach_46 : decode cX0_attach 46 = .ok (.getfield 10, 3) := dk_180 0 10 (dk_at dksX0_attach_2 0 rfl rfl)
theorem dX0_attach_49 : decode cX0_attach 49 = .ok (.invokevirtual 137, 3) := dk_182 0 137 (dk_at dksX0_attach_2 3 rfl rfl)
theorem dX0_attach_52 : decode cX0_attach 52 = .ok (.ireturn, 1) := dk_172 (dk_at dksX0_attach_2 6 rfl rfl)
abbrev cX0_request : ByteArray := prog_1_method_13_code
def yX0_request : MethodName := ⟨RX0, "request", "(IIZII)I"⟩
def dkwX0_request_2 : List UInt8 := [16, 253, 172, 25, 6, 28, 29, 21, 4, 21, 5, 182, 0, 147, 25, 6, 180, 0, 140, 182, 0, 144, 172]
abbrev dktX0_request_2 : List UInt8 := dkwX0_request_2 ++ []
def dkwX0_request_1 : List UInt8 := [42, 180, 0, 10, 180, 0, 69, 27, 50, 58, 6, 25, 6, 180, 0, 140, 182, 0, 144, 7, 160, 0, 6]
abbrev dktX0_request_1 : List UInt8 := dkwX0_request_1 ++ dktX0_request_2
def dkwX0_request_0 : List UInt8 := [27, 184, 0, 65, 154, 0, 5, 2, 172, 28, 29, 21, 4, 21, 5, 184, 0, 81, 154, 0, 6, 16, 254, 172]
abbrev dktX0_request_0 : List UInt8 := dkwX0_request_0 ++ dktX0_request_1
theorem dksX0_request_0 : cX0_request.data.toList.drop 0 = dktX0_request_0 := by decide +kernel
theorem dksX0_request_1 : cX0_request.data.toList.drop 24 = dktX0_request_1 := dk_seg dksX0_request_0 24 rfl rfl
theorem dksX0_request_2 : cX0_request.data.toList.drop 47 = dktX0_request_2 := dk_seg dksX0_request_1 23 rfl rfl
theorem dX0_request_0 : decode cX0_request 0 = .ok (.iload_n 1, 1) := dk_27 (dk_at dksX0_request_0 0 rfl rfl)
theorem dX0_request_1 : decode cX0_request 1 = .ok (.invokestatic 65, 3) := dk_184 0 65 (dk_at dksX0_request_0 1 rfl rfl)
theorem dX0_request_4 : decode cX0_request 4 = .ok (.ifCond .ne 5, 3) := dk_154 0 5 (dk_at dksX0_request_0 4 rfl rfl)
theorem dX0_request_7 : decode cX0_request 7 = .ok (.iconst (-1), 1) := dk_2 (dk_at dksX0_request_0 7 rfl rfl)
theorem dX0_request_8 : decode cX0_request 8 = .ok (.ireturn, 1) := dk_172 (dk_at dksX0_request_0 8 rfl rfl)
theorem dX0_request_9 : decode cX0_request 9 = .ok (.iload_n 2, 1) := dk_28 (dk_at dksX0_request_0 9 rfl rfl)
theorem dX0_request_10 : decode cX0_request 10 = .ok (.iload_n 3, 1) := dk_29 (dk_at dksX0_request_0 10 rfl rfl)
theorem dX0_request_11 : decode cX0_request 11 = .ok (.iload 4, 2) := dk_21 4 (dk_at dksX0_request_0 11 rfl rfl)
theorem dX0_request_13 : decode cX0_request 13 = .ok (.iload 5, 2) := dk_21 5 (dk_at dksX0_request_0 13 rfl rfl)
theorem dX0_request_15 : decode cX0_request 15 = .ok (.invokestatic 81, 3) := dk_184 0 81 (dk_at dksX0_request_0 15 rfl rfl)
theorem dX0_request_18 : decode cX0_request 18 = .ok (.ifCond .ne 6, 3) := dk_154 0 6 (dk_at dksX0_request_0 18 rfl rfl)
theorem dX0_request_21 : decode cX0_request 21 = .ok (.bipush (-2), 2) := dk_16 254 (dk_at dksX0_request_0 21 rfl rfl)
theorem dX0_request_23 : decode cX0_request 23 = .ok (.ireturn, 1) := dk_172 (dk_at dksX0_request_0 23 rfl rfl)
theorem dX0_request_24 : decode cX0_request 24 = .ok (.aload_n 0, 1) := dk_42 (dk_at dksX0_request_1 0 rfl rfl)
theorem dX0_request_25 : decode cX0_request 25 = .ok (.getfield 10, 3) := dk_180 0 10 (dk_at dksX0_request_1 1 rfl rfl)
theorem dX0_request_28 : decode cX0_request 28 = .ok (.getfield 69, 3) := dk_180 0 69 (dk_at dksX0_request_1 4 rfl rfl)
theorem dX0_request_31 : decode cX0_request 31 = .ok (.iload_n 1, 1) := dk_27 (dk_at dksX0_request_1 7 rfl rfl)
theorem dX0_request_32 : decode cX0_request 32 = .ok (.aaload, 1) := dk_50 (dk_at dksX0_request_1 8 rfl rfl)
theorem dX0_request_33 : decode cX0_request 33 = .ok (.astore 6, 2) := dk_58 6 (dk_at dksX0_request_1 9 rfl rfl)
theorem dX0_request_35 : decode cX0_request 35 = .ok (.aload 6, 2) := dk_25 6 (dk_at dksX0_request_1 11 rfl rfl)
theorem dX0_request_37 : decode cX0_request 37 = .ok (.getfield 140, 3) := dk_180 0 140 (dk_at dksX0_request_1 13 rfl rfl)
theorem dX0_request_40 : decode cX0_request 40 = .ok (.invokevirtual 144, 3) := dk_182 0 144 (dk_at dksX0_request_1 16 rfl rfl)
theorem dX0_request_43 : decode cX0_request 43 = .ok (.iconst 4, 1) := dk_7 (dk_at dksX0_request_1 19 rfl rfl)
theorem dX0_request_44 : decode cX0_request 44 = .ok (.if_icmp .ne 6, 3) := dk_160 0 6 (dk_at dksX0_request_1 20 rfl rfl)
theorem dX0_request_47 : decode cX0_request 47 = .ok (.bipush (-3), 2) := dk_16 253 (dk_at dksX0_request_2 0 rfl rfl)
theorem dX0_request_49 : decode cX0_request 49 = .ok (.ireturn, 1) := dk_172 (dk_at dksX0_request_2 2 rfl rfl)
theorem dX0_request_50 : decode cX0_request 50 = .ok (.aload 6, 2) := dk_25 6 (dk_at dksX0_request_2 3 rfl rfl)
theorem dX0_request_52 : decode cX0_request 52 = .ok (.iload_n 2, 1) := dk_28 (dk_at dksX0_request_2 5 rfl rfl)
theorem dX0_request_53 : decode cX0_request 53 = .ok (.iload_n 3, 1) := dk_29 (dk_at dksX0_request_2 6 rfl rfl)
theorem dX0_request_54 : decode cX0_request 54 = .ok (.iload 4, 2) := dk_21 4 (dk_at dksX0_request_2 7 rfl rfl)
theorem dX0_request_56 : decode cX0_request 56 = .ok (.iload 5, 2) := dk_21 5 (dk_at dksX0_request_2 9 rfl rfl)
theorem dX0_request_58 : decode cX0_request 58 = .ok (.invokevirtual 147, 3) := dk_182 0 147 (dk_at dksX0_request_2 11 rfl rfl)
theorem dX0_request_61 : decode cX0_request 61 = .ok (.aload 6, 2) := dk_25 6 (dk_at dksX0_request_2 14 rfl rfl)
theorem dX0_request_63 : decode cX0_request 63 = .ok (.getfield 140, 3) := dk_180 0 140 (dk_at dksX0_request_2 16 rfl rfl)
theorem dX0_request_66 : decode cX0_request 66 = .ok (.invokevirtual 144, 3) := dk_182 0 144 (dk_at dksX0_request_2 19 rfl rfl)
theorem dX0_request_69 : decode cX0_request 69 = .ok (.ireturn, 1) := dk_172 (dk_at dksX0_request_2 22 rfl rfl)
abbrev cX0_cancel : ByteArray := prog_1_method_14_code
def yX0_cancel : MethodName := ⟨RX0, "cancel", "(II)I"⟩
def dkwX0_cancel_1 : List UInt8 := [172]
abbrev dktX0_cancel_1 : List UInt8 := dkwX0_cancel_1 ++ []
def dkwX0_cancel_0 : List UInt8 := [27, 184, 0, 65, 153, 0, 19, 42, 180, 0, 10, 180, 0, 69, 27, 50, 28, 182, 0, 151, 167, 0, 4, 2]
abbrev dktX0_cancel_0 : List UInt8 := dkwX0_cancel_0 ++ dktX0_cancel_1
theorem dksX0_cancel_0 : cX0_cancel.data.toList.drop 0 = dktX0_cancel_0 := by decide +kernel
theorem dksX0_cancel_1 : cX0_cancel.data.toList.drop 24 = dktX0_cancel_1 := dk_seg dksX0_cancel_0 24 rfl rfl
theorem dX0_cancel_0 : decode cX0_cancel 0 = .ok (.iload_n 1, 1) := dk_27 (dk_at dksX0_cancel_0 0 rfl rfl)
theorem dX0_cancel_1 : decode cX0_cancel 1 = .ok (.invokestatic 65, 3) := dk_184 0 65 (dk_at dksX0_cancel_0 1 rfl rfl)
theorem dX0_cancel_4 : decode cX0_cancel 4 = .ok (.ifCond .eq 19, 3) := dk_153 0 19 (dk_at dksX0_cancel_0 4 rfl rfl)
theorem dX0_cancel_7 : decode cX0_cancel 7 = .ok (.aload_n 0, 1) := dk_42 (dk_at dksX0_cancel_0 7 rfl rfl)
theorem dX0_cancel_8 : decode cX0_cancel 8 = .ok (.getfield 10, 3) := dk_180 0 10 (dk_at dksX0_cancel_0 8 rfl rfl)
theorem dX0_cancel_11 : decode cX0_cancel 11 = .ok (.getfield 69, 3) := dk_180 0 69 (dk_at dksX0_cancel_0 11 rfl rfl)
theorem dX0_cancel_14 : decode cX0_cancel 14 = .ok (.iload_n 1, 1) := dk_27 (dk_at dksX0_cancel_0 14 rfl rfl)
theorem dX0_cancel_15 : decode cX0_cancel 15 = .ok (.aaload, 1) := dk_50 (dk_at dksX0_cancel_0 15 rfl rfl)
theorem dX0_cancel_16 : decode cX0_cancel 16 = .ok (.iload_n 2, 1) := dk_28 (dk_at dksX0_cancel_0 16 rfl rfl)
theorem dX0_cancel_17 : decode cX0_cancel 17 = .ok (.invokevirtual 151, 3) := dk_182 0 151 (dk_at dksX0_cancel_0 17 rfl rfl)
theorem dX0_cancel_20 : decode cX0_cancel 20 = .ok (.goto 4, 3) := dk_167 0 4 (dk_at dksX0_cancel_0 20 rfl rfl)
theorem dX0_cancel_23 : decode cX0_cancel 23 = .ok (.iconst (-1), 1) := dk_2 (dk_at dksX0_cancel_0 23 rfl rfl)
theorem dX0_cancel_24 : decode cX0_cancel 24 = .ok (.ireturn, 1) := dk_172 (dk_at dksX0_cancel_1 0 rfl rfl)
abbrev cX0_shifted : ByteArray := prog_1_method_2_code
def yX0_shifted : MethodName := ⟨RX0, "shifted", "(II)I"⟩
def dkwX0_shifted_1 : List UInt8 := [17, 69, 153, 130, 167, 0, 4, 29, 172]
abbrev dktX0_shifted_1 : List UInt8 := dkwX0_shifted_1 ++ []
def dkwX0_shifted_0 : List UInt8 := [27, 26, 16, 14, 122, 4, 126, 130, 61, 26, 4, 120, 17, 127, 255, 126, 62, 28, 4, 160, 0, 11, 29]
abbrev dktX0_shifted_0 : List UInt8 := dkwX0_shifted_0 ++ dktX0_shifted_1
theorem dksX0_shifted_0 : cX0_shifted.data.toList.drop 0 = dktX0_shifted_0 := by decide +kernel
theorem dksX0_shifted_1 : cX0_shifted.data.toList.drop 23 = dktX0_shifted_1 := dk_seg dksX0_shifted_0 23 rfl rfl
theorem dX0_shifted_0 : decode cX0_shifted 0 = .ok (.iload_n 1, 1) := dk_27 (dk_at dksX0_shifted_0 0 rfl rfl)
theorem dX0_shifted_1 : decode cX0_shifted 1 = .ok (.iload_n 0, 1) := dk_26 (dk_at dksX0_shifted_0 1 rfl rfl)
theorem dX0_shifted_2 : decode cX0_shifted 2 = .ok (.bipush 14, 2) := dk_16 14 (dk_at dksX0_shifted_0 2 rfl rfl)
theorem dX0_shifted_4 : decode cX0_shifted 4 = .ok (.ishr, 1) := dk_122 (dk_at dksX0_shifted_0 4 rfl rfl)
theorem dX0_shifted_5 : decode cX0_shifted 5 = .ok (.iconst 1, 1) := dk_4 (dk_at dksX0_shifted_0 5 rfl rfl)
theorem dX0_shifted_6 : decode cX0_shifted 6 = .ok (.iand, 1) := dk_126 (dk_at dksX0_shifted_0 6 rfl rfl)
theorem dX0_shifted_7 : decode cX0_shifted 7 = .ok (.ixor, 1) := dk_130 (dk_at dksX0_shifted_0 7 rfl rfl)
theorem dX0_shifted_8 : decode cX0_shifted 8 = .ok (.istore_n 2, 1) := dk_61 (dk_at dksX0_shifted_0 8 rfl rfl)
theorem dX0_shifted_9 : decode cX0_shifted 9 = .ok (.iload_n 0, 1) := dk_26 (dk_at dksX0_shifted_0 9 rfl rfl)
theorem dX0_shifted_10 : decode cX0_shifted 10 = .ok (.iconst 1, 1) := dk_4 (dk_at dksX0_shifted_0 10 rfl rfl)
theorem dX0_shifted_11 : decode cX0_shifted 11 = .ok (.ishl, 1) := dk_120 (dk_at dksX0_shifted_0 11 rfl rfl)
theorem dX0_shifted_12 : decode cX0_shifted 12 = .ok (.sipush 32767, 3) := dk_17 127 255 (dk_at dksX0_shifted_0 12 rfl rfl)
theorem dX0_shifted_15 : decode cX0_shifted 15 = .ok (.iand, 1) := dk_126 (dk_at dksX0_shifted_0 15 rfl rfl)
theorem dX0_shifted_16 : decode cX0_shifted 16 = .ok (.istore_n 3, 1) := dk_62 (dk_at dksX0_shifted_0 16 rfl rfl)
theorem dX0_shifted_17 : decode cX0_shifted 17 = .ok (.iload_n 2, 1) := dk_28 (dk_at dksX0_shifted_0 17 rfl rfl)
theorem dX0_shifted_18 : decode cX0_shifted 18 = .ok (.iconst 1, 1) := dk_4 (dk_at dksX0_shifted_0 18 rfl rfl)
theorem dX0_shifted_19 : decode cX0_shifted 19 = .ok (.if_icmp .ne 11, 3) := dk_160 0 11 (dk_at dksX0_shifted_0 19 rfl rfl)
theorem dX0_shifted_22 : decode cX0_shifted 22 = .ok (.iload_n 3, 1) := dk_29 (dk_at dksX0_shifted_0 22 rfl rfl)
theorem dX0_shifted_23 : decode cX0_shifted 23 = .ok (.sipush 17817, 3) := dk_17 69 153 (dk_at dksX0_shifted_1 0 rfl rfl)
theorem dX0_shifted_26 : decode cX0_shifted 26 = .ok (.ixor, 1) := dk_130 (dk_at dksX0_shifted_1 3 rfl rfl)
theorem dX0_shifted_27 : decode cX0_shifted 27 = .ok (.goto 4, 3) := dk_167 0 4 (dk_at dksX0_shifted_1 4 rfl rfl)
theorem dX0_shifted_30 : decode cX0_shifted 30 = .ok (.iload_n 3, 1) := dk_29 (dk_at dksX0_shifted_1 7 rfl rfl)
theorem dX0_shifted_31 : decode cX0_shifted 31 = .ok (.ireturn, 1) := dk_172 (dk_at dksX0_shifted_1 8 rfl rfl)
abbrev cX0_disturb : ByteArray := prog_1_method_15_code
def yX0_disturb : MethodName := ⟨RX0, "disturb", "(II)I"⟩
def dkwX0_disturb_3 : List UInt8 := [182, 0, 172, 42, 180, 0, 10, 180, 0, 159, 182, 0, 163, 172]
abbrev dktX0_disturb_3 : List UInt8 := dkwX0_disturb_3 ++ []
def dkwX0_disturb_2 : List UInt8 := [180, 0, 10, 180, 0, 159, 187, 0, 166, 89, 27, 42, 180, 0, 10, 180, 0, 168, 28, 96, 183, 0, 171]
abbrev dktX0_disturb_2 : List UInt8 := dkwX0_disturb_2 ++ dktX0_disturb_3
def dkwX0_disturb_1 : List UInt8 := [16, 254, 172, 42, 180, 0, 10, 180, 0, 159, 182, 0, 163, 16, 8, 160, 0, 6, 16, 253, 172, 42]
abbrev dktX0_disturb_1 : List UInt8 := dkwX0_disturb_1 ++ dktX0_disturb_2
def dkwX0_disturb_0 : List UInt8 := [27, 133, 10, 20, 0, 155, 184, 0, 33, 153, 0, 15, 28, 133, 9, 20, 0, 157, 184, 0, 33, 154, 0, 6]
abbrev dktX0_disturb_0 : List UInt8 := dkwX0_disturb_0 ++ dktX0_disturb_1
theorem dksX0_disturb_0 : cX0_disturb.data.toList.drop 0 = dktX0_disturb_0 := by decide +kernel
theorem dksX0_disturb_1 : cX0_disturb.data.toList.drop 24 = dktX0_disturb_1 := dk_seg dksX0_disturb_0 24 rfl rfl
theorem dksX0_disturb_2 : cX0_disturb.data.toList.drop 46 = dktX0_disturb_2 := dk_seg dksX0_disturb_1 22 rfl rfl
theorem dksX0_disturb_3 : cX0_disturb.data.toList.drop 69 = dktX0_disturb_3 := dk_seg dksX0_disturb_2 23 rfl rfl
theorem dX0_disturb_0 : decode cX0_disturb 0 = .ok (.iload_n 1, 1) := dk_27 (dk_at dksX0_disturb_0 0 rfl rfl)
theorem dX0_disturb_1 : decode cX0_disturb 1 = .ok (.i2l, 1) := dk_133 (dk_at dksX0_disturb_0 1 rfl rfl)
theorem dX0_disturb_2 : decode cX0_disturb 2 = .ok (.lconst 1, 1) := dk_10 (dk_at dksX0_disturb_0 2 rfl rfl)
theorem dX0_disturb_3 : decode cX0_disturb 3 = .ok (.ldc2_w 155, 3) := dk_20 0 155 (dk_at dksX0_disturb_0 3 rfl rfl)
theorem dX0_disturb_6 : decode cX0_disturb 6 = .ok (.invokestatic 33, 3) := dk_184 0 33 (dk_at dksX0_disturb_0 6 rfl rfl)
theorem dX0_disturb_9 : decode cX0_disturb 9 = .ok (.ifCond .eq 15, 3) := dk_153 0 15 (dk_at dksX0_disturb_0 9 rfl rfl)
theorem dX0_disturb_12 : decode cX0_disturb 12 = .ok (.iload_n 2, 1) := dk_28 (dk_at dksX0_disturb_0 12 rfl rfl)
theorem dX0_disturb_13 : decode cX0_disturb 13 = .ok (.i2l, 1) := dk_133 (dk_at dksX0_disturb_0 13 rfl rfl)
theorem dX0_disturb_14 : decode cX0_disturb 14 = .ok (.lconst 0, 1) := dk_9 (dk_at dksX0_disturb_0 14 rfl rfl)
theorem dX0_disturb_15 : decode cX0_disturb 15 = .ok (.ldc2_w 157, 3) := dk_20 0 157 (dk_at dksX0_disturb_0 15 rfl rfl)
theorem dX0_disturb_18 : decode cX0_disturb 18 = .ok (.invokestatic 33, 3) := dk_184 0 33 (dk_at dksX0_disturb_0 18 rfl rfl)
theorem dX0_disturb_21 : decode cX0_disturb 21 = .ok (.ifCond .ne 6, 3) := dk_154 0 6 (dk_at dksX0_disturb_0 21 rfl rfl)
theorem dX0_disturb_24 : decode cX0_disturb 24 = .ok (.bipush (-2), 2) := dk_16 254 (dk_at dksX0_disturb_1 0 rfl rfl)
theorem dX0_disturb_26 : decode cX0_disturb 26 = .ok (.ireturn, 1) := dk_172 (dk_at dksX0_disturb_1 2 rfl rfl)
theorem dX0_disturb_27 : decode cX0_disturb 27 = .ok (.aload_n 0, 1) := dk_42 (dk_at dksX0_disturb_1 3 rfl rfl)
theorem dX0_disturb_28 : decode cX0_disturb 28 = .ok (.getfield 10, 3) := dk_180 0 10 (dk_at dksX0_disturb_1 4 rfl rfl)
theorem dX0_disturb_31 : decode cX0_disturb 31 = .ok (.getfield 159, 3) := dk_180 0 159 (dk_at dksX0_disturb_1 7 rfl rfl)
theorem dX0_disturb_34 : decode cX0_disturb 34 = .ok (.invokevirtual 163, 3) := dk_182 0 163 (dk_at dksX0_disturb_1 10 rfl rfl)
theorem dX0_disturb_37 : decode cX0_disturb 37 = .ok (.bipush 8, 2) := dk_16 8 (dk_at dksX0_disturb_1 13 rfl rfl)
theorem dX0_disturb_39 : decode cX0_disturb 39 = .ok (.if_icmp .ne 6, 3) := dk_160 0 6 (dk_at dksX0_disturb_1 15 rfl rfl)
theorem dX0_disturb_42 : decode cX0_disturb 42 = .ok (.bipush (-3), 2) := dk_16 253 (dk_at dksX0_disturb_1 18 rfl rfl)
theorem dX0_disturb_44 : decode cX0_disturb 44 = .ok (.ireturn, 1) := dk_172 (dk_at dksX0_disturb_1 20 rfl rfl)
theorem dX0_disturb_45 : decode cX0_disturb 45 = .ok (.aload_n 0, 1) := dk_42 (dk_at dksX0_disturb_1 21 rfl rfl)
theorem dX0_disturb_46 : decode cX0_disturb 46 = .ok (.getfield 10, 3) := dk_180 0 10 (dk_at dksX0_disturb_2 0 rfl rfl)
theorem dX0_disturb_49 : decode cX0_disturb 49 = .ok (.getfield 159, 3) := dk_180 0 159 (dk_at dksX0_disturb_2 3 rfl rfl)
theorem dX0_disturb_52 : decode cX0_disturb 52 = .ok (.new 166, 3) := dk_187 0 166 (dk_at dksX0_disturb_2 6 rfl rfl)
theorem dX0_disturb_55 : decode cX0_disturb 55 = .ok (.dup, 1) := dk_89 (dk_at dksX0_disturb_2 9 rfl rfl)
theorem dX0_disturb_56 : decode cX0_disturb 56 = .ok (.iload_n 1, 1) := dk_27 (dk_at dksX0_disturb_2 10 rfl rfl)
theorem dX0_disturb_57 : decode cX0_disturb 57 = .ok (.aload_n 0, 1) := dk_42 (dk_at dksX0_disturb_2 11 rfl rfl)
theorem dX0_disturb_58 : decode cX0_disturb 58 = .ok (.getfield 10, 3) := dk_180 0 10 (dk_at dksX0_disturb_2 12 rfl rfl)
theorem dX0_disturb_61 : decode cX0_disturb 61 = .ok (.getfield 168, 3) := dk_180 0 168 (dk_at dksX0_disturb_2 15 rfl rfl)
theorem dX0_disturb_64 : decode cX0_disturb 64 = .ok (.iload_n 2, 1) := dk_28 (dk_at dksX0_disturb_2 18 rfl rfl)
theorem dX0_disturb_65 : decode cX0_disturb 65 = .ok (.iadd, 1) := dk_96 (dk_at dksX0_disturb_2 19 rfl rfl)
theorem dX0_disturb_66 : decode cX0_disturb 66 = .ok (.invokespecial 171, 3) := dk_183 0 171 (dk_at dksX0_disturb_2 20 rfl rfl)
theorem dX0_disturb_69 : decode cX0_disturb 69 = .ok (.invokevirtual 172, 3) := dk_182 0 172 (dk_at dksX0_disturb_3 0 rfl rfl)
theorem dX0_disturb_72 : decode cX0_disturb 72 = .ok (.aload_n 0, 1) := dk_42 (dk_at dksX0_disturb_3 3 rfl rfl)
theorem dX0_disturb_73 : decode cX0_disturb 73 = .ok (.getfield 10, 3) := dk_180 0 10 (dk_at dksX0_disturb_3 4 rfl rfl)
theorem dX0_disturb_76 : decode cX0_disturb 76 = .ok (.getfield 159, 3) := dk_180 0 159 (dk_at dksX0_disturb_3 7 rfl rfl)
theorem dX0_disturb_79 : decode cX0_disturb 79 = .ok (.invokevirtual 163, 3) := dk_182 0 163 (dk_at dksX0_disturb_3 10 rfl rfl)
theorem dX0_disturb_82 : decode cX0_disturb 82 = .ok (.ireturn, 1) := dk_172 (dk_at dksX0_disturb_3 13 rfl rfl)
abbrev cX0_run : ByteArray := prog_1_method_16_code
def yX0_run : MethodName := ⟨RX0, "run", "(I)I"⟩
def dkwX0_run_1 : List UInt8 := [16, 254, 172]
abbrev dktX0_run_1 : List UInt8 := dkwX0_run_1 ++ []
def dkwX0_run_0 : List UInt8 := [27, 133, 10, 20, 0, 157, 184, 0, 33, 153, 0, 14, 42, 180, 0, 10, 27, 182, 0, 176, 167, 0, 5]
abbrev dktX0_run_0 : List UInt8 := dkwX0_run_0 ++ dktX0_run_1
theorem dksX0_run_0 : cX0_run.data.toList.drop 0 = dktX0_run_0 := by decide +kernel
theorem dksX0_run_1 : cX0_run.data.toList.drop 23 = dktX0_run_1 := dk_seg dksX0_run_0 23 rfl rfl
theorem dX0_run_0 : decode cX0_run 0 = .ok (.iload_n 1, 1) := dk_27 (dk_at dksX0_run_0 0 rfl rfl)
theorem dX0_run_1 : decode cX0_run 1 = .ok (.i2l, 1) := dk_133 (dk_at dksX0_run_0 1 rfl rfl)
theorem dX0_run_2 : decode cX0_run 2 = .ok (.lconst 1, 1) := dk_10 (dk_at dksX0_run_0 2 rfl rfl)
theorem dX0_run_3 : decode cX0_run 3 = .ok (.ldc2_w 157, 3) := dk_20 0 157 (dk_at dksX0_run_0 3 rfl rfl)
theorem dX0_run_6 : decode cX0_run 6 = .ok (.invokestatic 33, 3) := dk_184 0 33 (dk_at dksX0_run_0 6 rfl rfl)
theorem dX0_run_9 : decode cX0_run 9 = .ok (.ifCond .eq 14, 3) := dk_153 0 14 (dk_at dksX0_run_0 9 rfl rfl)
theorem dX0_run_12 : decode cX0_run 12 = .ok (.aload_n 0, 1) := dk_42 (dk_at dksX0_run_0 12 rfl rfl)
theorem dX0_run_13 : decode cX0_run 13 = .ok (.getfield 10, 3) := dk_180 0 10 (dk_at dksX0_run_0 13 rfl rfl)
theorem dX0_run_16 : decode cX0_run 16 = .ok (.iload_n 1, 1) := dk_27 (dk_at dksX0_run_0 16 rfl rfl)
theorem dX0_run_17 : decode cX0_run 17 = .ok (.invokevirtual 176, 3) := dk_182 0 176 (dk_at dksX0_run_0 17 rfl rfl)
theorem dX0_run_20 : decode cX0_run 20 = .ok (.goto 5, 3) := dk_167 0 5 (dk_at dksX0_run_0 20 rfl rfl)
theorem dX0_run_23 : decode cX0_run 23 = .ok (.bipush (-2), 2) := dk_16 254 (dk_at dksX0_run_1 0 rfl rfl)
theorem dX0_run_25 : decode cX0_run 25 = .ok (.ireturn, 1) := dk_172 (dk_at dksX0_run_1 2 rfl rfl)
abbrev cX0_settle : ByteArray := prog_1_method_17_code
def yX0_settle : MethodName := ⟨RX0, "settle", "()I"⟩
def dkwX0_settle_0 : List UInt8 := [42, 180, 0, 10, 182, 0, 179, 172]
abbrev dktX0_settle_0 : List UInt8 := dkwX0_settle_0 ++ []
theorem dksX0_settle_0 : cX0_settle.data.toList.drop 0 = dktX0_settle_0 := by decide +kernel
theorem dX0_settle_0 : decode cX0_settle 0 = .ok (.aload_n 0, 1) := dk_42 (dk_at dksX0_settle_0 0 rfl rfl)
theorem dX0_settle_1 : decode cX0_settle 1 = .ok (.getfield 10, 3) := dk_180 0 10 (dk_at dksX0_settle_0 1 rfl rfl)
theorem dX0_settle_4 : decode cX0_settle 4 = .ok (.invokevirtual 179, 3) := dk_182 0 179 (dk_at dksX0_settle_0 4 rfl rfl)
theorem dX0_settle_7 : decode cX0_settle 7 = .ok (.ireturn, 1) := dk_172 (dk_at dksX0_settle_0 7 rfl rfl)
abbrev cX0_phase : ByteArray := prog_1_method_18_code
def yX0_phase : MethodName := ⟨RX0, "phase", "(I)I"⟩
def dkwX0_phase_1 : List UInt8 := [167, 0, 4, 2, 172]
abbrev dktX0_phase_1 : List UInt8 := dkwX0_phase_1 ++ []
def dkwX0_phase_0 : List UInt8 := [27, 184, 0, 65, 153, 0, 21, 42, 180, 0, 10, 180, 0, 69, 27, 50, 180, 0, 118, 182, 0, 127]
abbrev dktX0_phase_0 : List UInt8 := dkwX0_phase_0 ++ dktX0_phase_1
theorem dksX0_phase_0 : cX0_phase.data.toList.drop 0 = dktX0_phase_0 := by decide +kernel
theorem dksX0_phase_1 : cX0_phase.data.toList.drop 22 = dktX0_phase_1 := dk_seg dksX0_phase_0 22 rfl rfl
theorem dX0_phase_0 : decode cX0_phase 0 = .ok (.iload_n 1, 1) := dk_27 (dk_at dksX0_phase_0 0 rfl rfl)
theorem dX0_phase_1 : decode cX0_phase 1 = .ok (.invokestatic 65, 3) := dk_184 0 65 (dk_at dksX0_phase_0 1 rfl rfl)
theorem dX0_phase_4 : decode cX0_phase 4 = .ok (.ifCond .eq 21, 3) := dk_153 0 21 (dk_at dksX0_phase_0 4 rfl rfl)
theorem dX0_phase_7 : decode cX0_phase 7 = .ok (.aload_n 0, 1) := dk_42 (dk_at dksX0_phase_0 7 rfl rfl)
theorem dX0_phase_8 : decode cX0_phase 8 = .ok (.getfield 10, 3) := dk_180 0 10 (dk_at dksX0_phase_0 8 rfl rfl)
theorem dX0_phase_11 : decode cX0_phase 11 = .ok (.getfield 69, 3) := dk_180 0 69 (dk_at dksX0_phase_0 11 rfl rfl)
theorem dX0_phase_14 : decode cX0_phase 14 = .ok (.iload_n 1, 1) := dk_27 (dk_at dksX0_phase_0 14 rfl rfl)
theorem dX0_phase_15 : decode cX0_phase 15 = .ok (.aaload, 1) := dk_50 (dk_at dksX0_phase_0 15 rfl rfl)
theorem dX0_phase_16 : decode cX0_phase 16 = .ok (.getfield 118, 3) := dk_180 0 118 (dk_at dksX0_phase_0 16 rfl rfl)
theorem dX0_phase_19 : decode cX0_phase 19 = .ok (.invokevirtual 127, 3) := dk_182 0 127 (dk_at dksX0_phase_0 19 rfl rfl)
theorem dX0_phase_22 : decode cX0_phase 22 = .ok (.goto 4, 3) := dk_167 0 4 (dk_at dksX0_phase_1 0 rfl rfl)
theorem dX0_phase_25 : decode cX0_phase 25 = .ok (.iconst (-1), 1) := dk_2 (dk_at dksX0_phase_1 3 rfl rfl)
theorem dX0_phase_26 : decode cX0_phase 26 = .ok (.ireturn, 1) := dk_172 (dk_at dksX0_phase_1 4 rfl rfl)
abbrev cX0_isTransmitter : ByteArray := prog_1_method_20_code
def yX0_isTransmitter : MethodName := ⟨RX0, "isTransmitter", "(I)I"⟩
def dkwX0_isTransmitter_1 : List UInt8 := [167, 0, 4, 2, 172]
abbrev dktX0_isTransmitter_1 : List UInt8 := dkwX0_isTransmitter_1 ++ []
def dkwX0_isTransmitter_0 : List UInt8 := [27, 184, 0, 65, 153, 0, 21, 42, 180, 0, 10, 180, 0, 69, 27, 50, 182, 0, 182, 184, 0, 186]
abbrev dktX0_isTransmitter_0 : List UInt8 := dkwX0_isTransmitter_0 ++ dktX0_isTransmitter_1
theorem dksX0_isTransmitter_0 : cX0_isTransmitter.data.toList.drop 0 = dktX0_isTransmitter_0 := by decide +kernel
theorem dksX0_isTransmitter_1 : cX0_isTransmitter.data.toList.drop 22 = dktX0_isTransmitter_1 := dk_seg dksX0_isTransmitter_0 22 rfl rfl
theorem dX0_isTransmitter_0 : decode cX0_isTransmitter 0 = .ok (.iload_n 1, 1) := dk_27 (dk_at dksX0_isTransmitter_0 0 rfl rfl)
theorem dX0_isTransmitter_1 : decode cX0_isTransmitter 1 = .ok (.invokestatic 65, 3) := dk_184 0 65 (dk_at dksX0_isTransmitter_0 1 rfl rfl)
theorem dX0_isTransmitter_4 : decode cX0_isTransmitter 4 = .ok (.ifCond .eq 21, 3) := dk_153 0 21 (dk_at dksX0_isTransmitter_0 4 rfl rfl)
theorem dX0_isTransmitter_7 : decode cX0_isTransmitter 7 = .ok (.aload_n 0, 1) := dk_42 (dk_at dksX0_isTransmitter_0 7 rfl rfl)
theorem dX0_isTransmitter_8 : decode cX0_isTransmitter 8 = .ok (.getfield 10, 3) := dk_180 0 10 (dk_at dksX0_isTransmitter_0 8 rfl rfl)
theorem dX0_isTransmitter_11 : decode cX0_isTransmitter 11 = .ok (.getfield 69, 3) := dk_180 0 69 (dk_at dksX0_isTransmitter_0 11 rfl rfl)
theorem dX0_isTransmitter_14 : decode cX0_isTransmitter 14 = .ok (.iload_n 1, 1) := dk_27 (dk_at dksX0_isTransmitter_0 14 rfl rfl)
theorem dX0_isTransmitter_15 : decode cX0_isTransmitter 15 = .ok (.aaload, 1) := dk_50 (dk_at dksX0_isTransmitter_0 15 rfl rfl)
theorem dX0_isTransmitter_16 : decode cX0_isTransmitter 16 = .ok (.invokevirtual 182, 3) := dk_182 0 182 (dk_at dksX0_isTransmitter_0 16 rfl rfl)
theorem dX0_isTransmitter_19 : decode cX0_isTransmitter 19 = .ok (.invokestatic 186, 3) := dk_184 0 186 (dk_at dksX0_isTransmitter_0 19 rfl rfl)
theorem dX0_isTransmitter_22 : decode cX0_isTransmitter 22 = .ok (.goto 4, 3) := dk_167 0 4 (dk_at dksX0_isTransmitter_1 0 rfl rfl)
theorem dX0_isTransmitter_25 : decode cX0_isTransmitter 25 = .ok (.iconst (-1), 1) := dk_2 (dk_at dksX0_isTransmitter_1 3 rfl rfl)
theorem dX0_isTransmitter_26 : decode cX0_isTransmitter 26 = .ok (.ireturn, 1) := dk_172 (dk_at dksX0_isTransmitter_1 4 rfl rfl)
abbrev cX0_bit : ByteArray := prog_1_method_19_code
def yX0_bit : MethodName := ⟨RX0, "bit", "(Z)I"⟩
def dkwX0_bit_0 : List UInt8 := [26, 153, 0, 7, 4, 167, 0, 4, 3, 172]
abbrev dktX0_bit_0 : List UInt8 := dkwX0_bit_0 ++ []
theorem dksX0_bit_0 : cX0_bit.data.toList.drop 0 = dktX0_bit_0 := by decide +kernel
theorem dX0_bit_0 : decode cX0_bit 0 = .ok (.iload_n 0, 1) := dk_26 (dk_at dksX0_bit_0 0 rfl rfl)
theorem dX0_bit_1 : decode cX0_bit 1 = .ok (.ifCond .eq 7, 3) := dk_153 0 7 (dk_at dksX0_bit_0 1 rfl rfl)
theorem dX0_bit_4 : decode cX0_bit 4 = .ok (.iconst 1, 1) := dk_4 (dk_at dksX0_bit_0 4 rfl rfl)
theorem dX0_bit_5 : decode cX0_bit 5 = .ok (.goto 4, 3) := dk_167 0 4 (dk_at dksX0_bit_0 5 rfl rfl)
theorem dX0_bit_8 : decode cX0_bit 8 = .ok (.iconst 0, 1) := dk_3 (dk_at dksX0_bit_0 8 rfl rfl)
theorem dX0_bit_9 : decode cX0_bit 9 = .ok (.ireturn, 1) := dk_172 (dk_at dksX0_bit_0 9 rfl rfl)
abbrev cX0_transmitErrors : ByteArray := prog_1_method_21_code
def yX0_transmitErrors : MethodName := ⟨RX0, "transmitErrors", "(I)I"⟩
def dkwX0_transmitErrors_0 : List UInt8 := [27, 184, 0, 65, 153, 0, 18, 42, 180, 0, 10, 180, 0, 69, 27, 50, 180, 0, 190, 167, 0, 4, 2, 172]
abbrev dktX0_transmitErrors_0 : List UInt8 := dkwX0_transmitErrors_0 ++ []
theorem dksX0_transmitErrors_0 : cX0_transmitErrors.data.toList.drop 0 = dktX0_transmitErrors_0 := by decide +kernel
theorem dX0_transmitErrors_0 : decode cX0_transmitErrors 0 = .ok (.iload_n 1, 1) := dk_27 (dk_at dksX0_transmitErrors_0 0 rfl rfl)
theorem dX0_transmitErrors_1 : decode cX0_transmitErrors 1 = .ok (.invokestatic 65, 3) := dk_184 0 65 (dk_at dksX0_transmitErrors_0 1 rfl rfl)
theorem dX0_transmitErrors_4 : decode cX0_transmitErrors 4 = .ok (.ifCond .eq 18, 3) := dk_153 0 18 (dk_at dksX0_transmitErrors_0 4 rfl rfl)
theorem dX0_transmitErrors_7 : decode cX0_transmitErrors 7 = .ok (.aload_n 0, 1) := dk_42 (dk_at dksX0_transmitErrors_0 7 rfl rfl)
theorem dX0_transmitErrors_8 : decode cX0_transmitErrors 8 = .ok (.getfield 10, 3) := dk_180 0 10 (dk_at dksX0_transmitErrors_0 8 rfl rfl)
theorem dX0_transmitErrors_11 : decode cX0_transmitErrors 11 = .ok (.getfield 69, 3) := dk_180 0 69 (dk_at dksX0_transmitErrors_0 11 rfl rfl)
theorem dX0_transmitErrors_14 : decode cX0_transmitErrors 14 = .ok (.iload_n 1, 1) := dk_27 (dk_at dksX0_transmitErrors_0 14 rfl rfl)
theorem dX0_transmitErrors_15 : decode cX0_transmitErrors 15 = .ok (.aaload, 1) := dk_50 (dk_at dksX0_transmitErrors_0 15 rfl rfl)
theorem dX0_transmitErrors_16 : decode cX0_transmitErrors 16 = .ok (.getfield 190, 3) := dk_180 0 190 (dk_at dksX0_transmitErrors_0 16 rfl rfl)
theorem dX0_transmitErrors_19 : decode cX0_transmitErrors 19 = .ok (.goto 4, 3) := dk_167 0 4 (dk_at dksX0_transmitErrors_0 19 rfl rfl)
theorem dX0_transmitErrors_22 : decode cX0_transmitErrors 22 = .ok (.iconst (-1), 1) := dk_2 (dk_at dksX0_transmitErrors_0 22 rfl rfl)
theorem dX0_transmitErrors_23 : decode cX0_transmitErrors 23 = .ok (.ireturn, 1) := dk_172 (dk_at dksX0_transmitErrors_0 23 rfl rfl)
abbrev cX0_receiveErrors : ByteArray := prog_1_method_22_code
def yX0_receiveErrors : MethodName := ⟨RX0, "receiveErrors", "(I)I"⟩
def dkwX0_receiveErrors_0 : List UInt8 := [27, 184, 0, 65, 153, 0, 18, 42, 180, 0, 10, 180, 0, 69, 27, 50, 180, 0, 193, 167, 0, 4, 2, 172]
abbrev dktX0_receiveErrors_0 : List UInt8 := dkwX0_receiveErrors_0 ++ []
theorem dksX0_receiveErrors_0 : cX0_receiveErrors.data.toList.drop 0 = dktX0_receiveErrors_0 := by decide +kernel
theorem dX0_receiveErrors_0 : decode cX0_receiveErrors 0 = .ok (.iload_n 1, 1) := dk_27 (dk_at dksX0_receiveErrors_0 0 rfl rfl)
theorem dX0_receiveErrors_1 : decode cX0_receiveErrors 1 = .ok (.invokestatic 65, 3) := dk_184 0 65 (dk_at dksX0_receiveErrors_0 1 rfl rfl)
theorem dX0_receiveErrors_4 : decode cX0_receiveErrors 4 = .ok (.ifCond .eq 18, 3) := dk_153 0 18 (dk_at dksX0_receiveErrors_0 4 rfl rfl)
theorem dX0_receiveErrors_7 : decode cX0_receiveErrors 7 = .ok (.aload_n 0, 1) := dk_42 (dk_at dksX0_receiveErrors_0 7 rfl rfl)
theorem dX0_receiveErrors_8 : decode cX0_receiveErrors 8 = .ok (.getfield 10, 3) := dk_180 0 10 (dk_at dksX0_receiveErrors_0 8 rfl rfl)
theorem dX0_receiveErrors_11 : decode cX0_receiveErrors 11 = .ok (.getfield 69, 3) := dk_180 0 69 (dk_at dksX0_receiveErrors_0 11 rfl rfl)
theorem dX0_receiveErrors_14 : decode cX0_receiveErrors 14 = .ok (.iload_n 1, 1) := dk_27 (dk_at dksX0_receiveErrors_0 14 rfl rfl)
theorem dX0_receiveErrors_15 : decode cX0_receiveErrors 15 = .ok (.aaload, 1) := dk_50 (dk_at dksX0_receiveErrors_0 15 rfl rfl)
theorem dX0_receiveErrors_16 : decode cX0_receiveErrors 16 = .ok (.getfield 193, 3) := dk_180 0 193 (dk_at dksX0_receiveErrors_0 16 rfl rfl)
theorem dX0_receiveErrors_19 : decode cX0_receiveErrors 19 = .ok (.goto 4, 3) := dk_167 0 4 (dk_at dksX0_receiveErrors_0 19 rfl rfl)
theorem dX0_receiveErrors_22 : decode cX0_receiveErrors 22 = .ok (.iconst (-1), 1) := dk_2 (dk_at dksX0_receiveErrors_0 22 rfl rfl)
theorem dX0_receiveErrors_23 : decode cX0_receiveErrors 23 = .ok (.ireturn, 1) := dk_172 (dk_at dksX0_receiveErrors_0 23 rfl rfl)
abbrev cX0_isPassive : ByteArray := prog_1_method_23_code
def yX0_isPassive : MethodName := ⟨RX0, "isPassive", "(I)I"⟩
def dkwX0_isPassive_1 : List UInt8 := [167, 0, 4, 2, 172]
abbrev dktX0_isPassive_1 : List UInt8 := dkwX0_isPassive_1 ++ []
def dkwX0_isPassive_0 : List UInt8 := [27, 184, 0, 65, 153, 0, 21, 42, 180, 0, 10, 180, 0, 69, 27, 50, 182, 0, 196, 184, 0, 186]
abbrev dktX0_isPassive_0 : List UInt8 := dkwX0_isPassive_0 ++ dktX0_isPassive_1
theorem dksX0_isPassive_0 : cX0_isPassive.data.toList.drop 0 = dktX0_isPassive_0 := by decide +kernel
theorem dksX0_isPassive_1 : cX0_isPassive.data.toList.drop 22 = dktX0_isPassive_1 := dk_seg dksX0_isPassive_0 22 rfl rfl
theorem dX0_isPassive_0 : decode cX0_isPassive 0 = .ok (.iload_n 1, 1) := dk_27 (dk_at dksX0_isPassive_0 0 rfl rfl)
theorem dX0_isPassive_1 : decode cX0_isPassive 1 = .ok (.invokestatic 65, 3) := dk_184 0 65 (dk_at dksX0_isPassive_0 1 rfl rfl)
theorem dX0_isPassive_4 : decode cX0_isPassive 4 = .ok (.ifCond .eq 21, 3) := dk_153 0 21 (dk_at dksX0_isPassive_0 4 rfl rfl)
theorem dX0_isPassive_7 : decode cX0_isPassive 7 = .ok (.aload_n 0, 1) := dk_42 (dk_at dksX0_isPassive_0 7 rfl rfl)
theorem dX0_isPassive_8 : decode cX0_isPassive 8 = .ok (.getfield 10, 3) := dk_180 0 10 (dk_at dksX0_isPassive_0 8 rfl rfl)
theorem dX0_isPassive_11 : decode cX0_isPassive 11 = .ok (.getfield 69, 3) := dk_180 0 69 (dk_at dksX0_isPassive_0 11 rfl rfl)
theorem dX0_isPassive_14 : decode cX0_isPassive 14 = .ok (.iload_n 1, 1) := dk_27 (dk_at dksX0_isPassive_0 14 rfl rfl)
theorem dX0_isPassive_15 : decode cX0_isPassive 15 = .ok (.aaload, 1) := dk_50 (dk_at dksX0_isPassive_0 15 rfl rfl)
theorem dX0_isPassive_16 : decode cX0_isPassive 16 = .ok (.invokevirtual 196, 3) := dk_182 0 196 (dk_at dksX0_isPassive_0 16 rfl rfl)
theorem dX0_isPassive_19 : decode cX0_isPassive 19 = .ok (.invokestatic 186, 3) := dk_184 0 186 (dk_at dksX0_isPassive_0 19 rfl rfl)
theorem dX0_isPassive_22 : decode cX0_isPassive 22 = .ok (.goto 4, 3) := dk_167 0 4 (dk_at dksX0_isPassive_1 0 rfl rfl)
theorem dX0_isPassive_25 : decode cX0_isPassive 25 = .ok (.iconst (-1), 1) := dk_2 (dk_at dksX0_isPassive_1 3 rfl rfl)
theorem dX0_isPassive_26 : decode cX0_isPassive 26 = .ok (.ireturn, 1) := dk_172 (dk_at dksX0_isPassive_1 4 rfl rfl)
abbrev cX0_errors : ByteArray := prog_1_method_24_code
def yX0_errors : MethodName := ⟨RX0, "errors", "(II)I"⟩
def dkwX0_errors_1 : List UInt8 := [180, 0, 10, 180, 0, 69, 27, 50, 180, 0, 201, 28, 46, 167, 0, 5, 16, 254, 172]
abbrev dktX0_errors_1 : List UInt8 := dkwX0_errors_1 ++ []
def dkwX0_errors_0 : List UInt8 := [27, 184, 0, 65, 154, 0, 5, 2, 172, 28, 133, 10, 20, 0, 199, 184, 0, 33, 153, 0, 20, 42]
abbrev dktX0_errors_0 : List UInt8 := dkwX0_errors_0 ++ dktX0_errors_1
theorem dksX0_errors_0 : cX0_errors.data.toList.drop 0 = dktX0_errors_0 := by decide +kernel
theorem dksX0_errors_1 : cX0_errors.data.toList.drop 22 = dktX0_errors_1 := dk_seg dksX0_errors_0 22 rfl rfl
theorem dX0_errors_0 : decode cX0_errors 0 = .ok (.iload_n 1, 1) := dk_27 (dk_at dksX0_errors_0 0 rfl rfl)
theorem dX0_errors_1 : decode cX0_errors 1 = .ok (.invokestatic 65, 3) := dk_184 0 65 (dk_at dksX0_errors_0 1 rfl rfl)
theorem dX0_errors_4 : decode cX0_errors 4 = .ok (.ifCond .ne 5, 3) := dk_154 0 5 (dk_at dksX0_errors_0 4 rfl rfl)
theorem dX0_errors_7 : decode cX0_errors 7 = .ok (.iconst (-1), 1) := dk_2 (dk_at dksX0_errors_0 7 rfl rfl)
theorem dX0_errors_8 : decode cX0_errors 8 = .ok (.ireturn, 1) := dk_172 (dk_at dksX0_errors_0 8 rfl rfl)
theorem dX0_errors_9 : decode cX0_errors 9 = .ok (.iload_n 2, 1) := dk_28 (dk_at dksX0_errors_0 9 rfl rfl)
theorem dX0_errors_10 : decode cX0_errors 10 = .ok (.i2l, 1) := dk_133 (dk_at dksX0_errors_0 10 rfl rfl)
theorem dX0_errors_11 : decode cX0_errors 11 = .ok (.lconst 1, 1) := dk_10 (dk_at dksX0_errors_0 11 rfl rfl)
theorem dX0_errors_12 : decode cX0_errors 12 = .ok (.ldc2_w 199, 3) := dk_20 0 199 (dk_at dksX0_errors_0 12 rfl rfl)
theorem dX0_errors_15 : decode cX0_errors 15 = .ok (.invokestatic 33, 3) := dk_184 0 33 (dk_at dksX0_errors_0 15 rfl rfl)
theorem dX0_errors_18 : decode cX0_errors 18 = .ok (.ifCond .eq 20, 3) := dk_153 0 20 (dk_at dksX0_errors_0 18 rfl rfl)
theorem dX0_errors_21 : decode cX0_errors 21 = .ok (.aload_n 0, 1) := dk_42 (dk_at dksX0_errors_0 21 rfl rfl)
theorem dX0_errors_22 : decode cX0_errors 22 = .ok (.getfield 10, 3) := dk_180 0 10 (dk_at dksX0_errors_1 0 rfl rfl)
theorem dX0_errors_25 : decode cX0_errors 25 = .ok (.getfield 69, 3) := dk_180 0 69 (dk_at dksX0_errors_1 3 rfl rfl)
theorem dX0_errors_28 : decode cX0_errors 28 = .ok (.iload_n 1, 1) := dk_27 (dk_at dksX0_errors_1 6 rfl rfl)
theorem dX0_errors_29 : decode cX0_errors 29 = .ok (.aaload, 1) := dk_50 (dk_at dksX0_errors_1 7 rfl rfl)
theorem dX0_errors_30 : decode cX0_errors 30 = .ok (.getfield 201, 3) := dk_180 0 201 (dk_at dksX0_errors_1 8 rfl rfl)
theorem dX0_errors_33 : decode cX0_errors 33 = .ok (.iload_n 2, 1) := dk_28 (dk_at dksX0_errors_1 11 rfl rfl)
theorem dX0_errors_34 : decode cX0_errors 34 = .ok (.iaload, 1) := dk_46 (dk_at dksX0_errors_1 12 rfl rfl)
theorem dX0_errors_35 : decode cX0_errors 35 = .ok (.goto 5, 3) := dk_167 0 5 (dk_at dksX0_errors_1 13 rfl rfl)
theorem dX0_errors_38 : decode cX0_errors 38 = .ok (.bipush (-2), 2) := dk_16 254 (dk_at dksX0_errors_1 16 rfl rfl)
theorem dX0_errors_40 : decode cX0_errors 40 = .ok (.ireturn, 1) := dk_172 (dk_at dksX0_errors_1 18 rfl rfl)
abbrev cX0_lastError : ByteArray := prog_1_method_25_code
def yX0_lastError : MethodName := ⟨RX0, "lastError", "(I)I"⟩
def dkwX0_lastError_0 : List UInt8 := [27, 184, 0, 65, 153, 0, 18, 42, 180, 0, 10, 180, 0, 69, 27, 50, 180, 0, 205, 167, 0, 4, 2, 172]
abbrev dktX0_lastError_0 : List UInt8 := dkwX0_lastError_0 ++ []
theorem dksX0_lastError_0 : cX0_lastError.data.toList.drop 0 = dktX0_lastError_0 := by decide +kernel
theorem dX0_lastError_0 : decode cX0_lastError 0 = .ok (.iload_n 1, 1) := dk_27 (dk_at dksX0_lastError_0 0 rfl rfl)
theorem dX0_lastError_1 : decode cX0_lastError 1 = .ok (.invokestatic 65, 3) := dk_184 0 65 (dk_at dksX0_lastError_0 1 rfl rfl)
theorem dX0_lastError_4 : decode cX0_lastError 4 = .ok (.ifCond .eq 18, 3) := dk_153 0 18 (dk_at dksX0_lastError_0 4 rfl rfl)
theorem dX0_lastError_7 : decode cX0_lastError 7 = .ok (.aload_n 0, 1) := dk_42 (dk_at dksX0_lastError_0 7 rfl rfl)
theorem dX0_lastError_8 : decode cX0_lastError 8 = .ok (.getfield 10, 3) := dk_180 0 10 (dk_at dksX0_lastError_0 8 rfl rfl)
theorem dX0_lastError_11 : decode cX0_lastError 11 = .ok (.getfield 69, 3) := dk_180 0 69 (dk_at dksX0_lastError_0 11 rfl rfl)
theorem dX0_lastError_14 : decode cX0_lastError 14 = .ok (.iload_n 1, 1) := dk_27 (dk_at dksX0_lastError_0 14 rfl rfl)
theorem dX0_lastError_15 : decode cX0_lastError 15 = .ok (.aaload, 1) := dk_50 (dk_at dksX0_lastError_0 15 rfl rfl)
theorem dX0_lastError_16 : decode cX0_lastError 16 = .ok (.getfield 205, 3) := dk_180 0 205 (dk_at dksX0_lastError_0 16 rfl rfl)
theorem dX0_lastError_19 : decode cX0_lastError 19 = .ok (.goto 4, 3) := dk_167 0 4 (dk_at dksX0_lastError_0 19 rfl rfl)
theorem dX0_lastError_22 : decode cX0_lastError 22 = .ok (.iconst (-1), 1) := dk_2 (dk_at dksX0_lastError_0 22 rfl rfl)
theorem dX0_lastError_23 : decode cX0_lastError 23 = .ok (.ireturn, 1) := dk_172 (dk_at dksX0_lastError_0 23 rfl rfl)
abbrev cX0_lostArbitrations : ByteArray := prog_1_method_26_code
def yX0_lostArbitrations : MethodName := ⟨RX0, "lostArbitrations", "(I)I"⟩
def dkwX0_lostArbitrations_0 : List UInt8 := [27, 184, 0, 65, 153, 0, 18, 42, 180, 0, 10, 180, 0, 69, 27, 50, 180, 0, 208, 167, 0, 4, 2, 172]
abbrev dktX0_lostArbitrations_0 : List UInt8 := dkwX0_lostArbitrations_0 ++ []
theorem dksX0_lostArbitrations_0 : cX0_lostArbitrations.data.toList.drop 0 = dktX0_lostArbitrations_0 := by decide +kernel
theorem dX0_lostArbitrations_0 : decode cX0_lostArbitrations 0 = .ok (.iload_n 1, 1) := dk_27 (dk_at dksX0_lostArbitrations_0 0 rfl rfl)
theorem dX0_lostArbitrations_1 : decode cX0_lostArbitrations 1 = .ok (.invokestatic 65, 3) := dk_184 0 65 (dk_at dksX0_lostArbitrations_0 1 rfl rfl)
theorem dX0_lostArbitrations_4 : decode cX0_lostArbitrations 4 = .ok (.ifCond .eq 18, 3) := dk_153 0 18 (dk_at dksX0_lostArbitrations_0 4 rfl rfl)
theorem dX0_lostArbitrations_7 : decode cX0_lostArbitrations 7 = .ok (.aload_n 0, 1) := dk_42 (dk_at dksX0_lostArbitrations_0 7 rfl rfl)
theorem dX0_lostArbitrations_8 : decode cX0_lostArbitrations 8 = .ok (.getfield 10, 3) := dk_180 0 10 (dk_at dksX0_lostArbitrations_0 8 rfl rfl)
theorem dX0_lostArbitrations_11 : decode cX0_lostArbitrations 11 = .ok (.getfield 69, 3) := dk_180 0 69 (dk_at dksX0_lostArbitrations_0 11 rfl rfl)
theorem dX0_lostArbitrations_14 : decode cX0_lostArbitrations 14 = .ok (.iload_n 1, 1) := dk_27 (dk_at dksX0_lostArbitrations_0 14 rfl rfl)
theorem dX0_lostArbitrations_15 : decode cX0_lostArbitrations 15 = .ok (.aaload, 1) := dk_50 (dk_at dksX0_lostArbitrations_0 15 rfl rfl)
theorem dX0_lostArbitrations_16 : decode cX0_lostArbitrations 16 = .ok (.getfield 208, 3) := dk_180 0 208 (dk_at dksX0_lostArbitrations_0 16 rfl rfl)
theorem dX0_lostArbitrations_19 : decode cX0_lostArbitrations 19 = .ok (.goto 4, 3) := dk_167 0 4 (dk_at dksX0_lostArbitrations_0 19 rfl rfl)
theorem dX0_lostArbitrations_22 : decode cX0_lostArbitrations 22 = .ok (.iconst (-1), 1) := dk_2 (dk_at dksX0_lostArbitrations_0 22 rfl rfl)
theorem dX0_lostArbitrations_23 : decode cX0_lostArbitrations 23 = .ok (.ireturn, 1) := dk_172 (dk_at dksX0_lostArbitrations_0 23 rfl rfl)
abbrev cX0_overloads : ByteArray := prog_1_method_27_code
def yX0_overloads : MethodName := ⟨RX0, "overloads", "(I)I"⟩
def dkwX0_overloads_0 : List UInt8 := [27, 184, 0, 65, 153, 0, 18, 42, 180, 0, 10, 180, 0, 69, 27, 50, 180, 0, 211, 167, 0, 4, 2, 172]
abbrev dktX0_overloads_0 : List UInt8 := dkwX0_overloads_0 ++ []
theorem dksX0_overloads_0 : cX0_overloads.data.toList.drop 0 = dktX0_overloads_0 := by decide +kernel
theorem dX0_overloads_0 : decode cX0_overloads 0 = .ok (.iload_n 1, 1) := dk_27 (dk_at dksX0_overloads_0 0 rfl rfl)
theorem dX0_overloads_1 : decode cX0_overloads 1 = .ok (.invokestatic 65, 3) := dk_184 0 65 (dk_at dksX0_overloads_0 1 rfl rfl)
theorem dX0_overloads_4 : decode cX0_overloads 4 = .ok (.ifCond .eq 18, 3) := dk_153 0 18 (dk_at dksX0_overloads_0 4 rfl rfl)
theorem dX0_overloads_7 : decode cX0_overloads 7 = .ok (.aload_n 0, 1) := dk_42 (dk_at dksX0_overloads_0 7 rfl rfl)
theorem dX0_overloads_8 : decode cX0_overloads 8 = .ok (.getfield 10, 3) := dk_180 0 10 (dk_at dksX0_overloads_0 8 rfl rfl)
theorem dX0_overloads_11 : decode cX0_overloads 11 = .ok (.getfield 69, 3) := dk_180 0 69 (dk_at dksX0_overloads_0 11 rfl rfl)
theorem dX0_overloads_14 : decode cX0_overloads 14 = .ok (.iload_n 1, 1) := dk_27 (dk_at dksX0_overloads_0 14 rfl rfl)
theorem dX0_overloads_15 : decode cX0_overloads 15 = .ok (.aaload, 1) := dk_50 (dk_at dksX0_overloads_0 15 rfl rfl)
theorem dX0_overloads_16 : decode cX0_overloads 16 = .ok (.getfield 211, 3) := dk_180 0 211 (dk_at dksX0_overloads_0 16 rfl rfl)
theorem dX0_overloads_19 : decode cX0_overloads 19 = .ok (.goto 4, 3) := dk_167 0 4 (dk_at dksX0_overloads_0 19 rfl rfl)
theorem dX0_overloads_22 : decode cX0_overloads 22 = .ok (.iconst (-1), 1) := dk_2 (dk_at dksX0_overloads_0 22 rfl rfl)
theorem dX0_overloads_23 : decode cX0_overloads 23 = .ok (.ireturn, 1) := dk_172 (dk_at dksX0_overloads_0 23 rfl rfl)
abbrev cX0_sent : ByteArray := prog_1_method_28_code
def yX0_sent : MethodName := ⟨RX0, "sent", "(I)I"⟩
def dkwX0_sent_0 : List UInt8 := [27, 184, 0, 65, 153, 0, 18, 42, 180, 0, 10, 180, 0, 69, 27, 50, 180, 0, 214, 167, 0, 4, 2, 172]
abbrev dktX0_sent_0 : List UInt8 := dkwX0_sent_0 ++ []
theorem dksX0_sent_0 : cX0_sent.data.toList.drop 0 = dktX0_sent_0 := by decide +kernel
theorem dX0_sent_0 : decode cX0_sent 0 = .ok (.iload_n 1, 1) := dk_27 (dk_at dksX0_sent_0 0 rfl rfl)
theorem dX0_sent_1 : decode cX0_sent 1 = .ok (.invokestatic 65, 3) := dk_184 0 65 (dk_at dksX0_sent_0 1 rfl rfl)
theorem dX0_sent_4 : decode cX0_sent 4 = .ok (.ifCond .eq 18, 3) := dk_153 0 18 (dk_at dksX0_sent_0 4 rfl rfl)
theorem dX0_sent_7 : decode cX0_sent 7 = .ok (.aload_n 0, 1) := dk_42 (dk_at dksX0_sent_0 7 rfl rfl)
theorem dX0_sent_8 : decode cX0_sent 8 = .ok (.getfield 10, 3) := dk_180 0 10 (dk_at dksX0_sent_0 8 rfl rfl)
theorem dX0_sent_11 : decode cX0_sent 11 = .ok (.getfield 69, 3) := dk_180 0 69 (dk_at dksX0_sent_0 11 rfl rfl)
theorem dX0_sent_14 : decode cX0_sent 14 = .ok (.iload_n 1, 1) := dk_27 (dk_at dksX0_sent_0 14 rfl rfl)
theorem dX0_sent_15 : decode cX0_sent 15 = .ok (.aaload, 1) := dk_50 (dk_at dksX0_sent_0 15 rfl rfl)
theorem dX0_sent_16 : decode cX0_sent 16 = .ok (.getfield 214, 3) := dk_180 0 214 (dk_at dksX0_sent_0 16 rfl rfl)
theorem dX0_sent_19 : decode cX0_sent 19 = .ok (.goto 4, 3) := dk_167 0 4 (dk_at dksX0_sent_0 19 rfl rfl)
theorem dX0_sent_22 : decode cX0_sent 22 = .ok (.iconst (-1), 1) := dk_2 (dk_at dksX0_sent_0 22 rfl rfl)
theorem dX0_sent_23 : decode cX0_sent 23 = .ok (.ireturn, 1) := dk_172 (dk_at dksX0_sent_0 23 rfl rfl)
abbrev cX0_overruns : ByteArray := prog_1_method_29_code
def yX0_overruns : MethodName := ⟨RX0, "overruns", "(I)I"⟩
def dkwX0_overruns_0 : List UInt8 := [27, 184, 0, 65, 153, 0, 18, 42, 180, 0, 10, 180, 0, 69, 27, 50, 180, 0, 217, 167, 0, 4, 2, 172]
abbrev dktX0_overruns_0 : List UInt8 := dkwX0_overruns_0 ++ []
theorem dksX0_overruns_0 : cX0_overruns.data.toList.drop 0 = dktX0_overruns_0 := by decide +kernel
theorem dX0_overruns_0 : decode cX0_overruns 0 = .ok (.iload_n 1, 1) := dk_27 (dk_at dksX0_overruns_0 0 rfl rfl)
theorem dX0_overruns_1 : decode cX0_overruns 1 = .ok (.invokestatic 65, 3) := dk_184 0 65 (dk_at dksX0_overruns_0 1 rfl rfl)
theorem dX0_overruns_4 : decode cX0_overruns 4 = .ok (.ifCond .eq 18, 3) := dk_153 0 18 (dk_at dksX0_overruns_0 4 rfl rfl)
theorem dX0_overruns_7 : decode cX0_overruns 7 = .ok (.aload_n 0, 1) := dk_42 (dk_at dksX0_overruns_0 7 rfl rfl)
theorem dX0_overruns_8 : decode cX0_overruns 8 = .ok (.getfield 10, 3) := dk_180 0 10 (dk_at dksX0_overruns_0 8 rfl rfl)
theorem dX0_overruns_11 : decode cX0_overruns 11 = .ok (.getfield 69, 3) := dk_180 0 69 (dk_at dksX0_overruns_0 11 rfl rfl)
theorem dX0_overruns_14 : decode cX0_overruns 14 = .ok (.iload_n 1, 1) := dk_27 (dk_at dksX0_overruns_0 14 rfl rfl)
theorem dX0_overruns_15 : decode cX0_overruns 15 = .ok (.aaload, 1) := dk_50 (dk_at dksX0_overruns_0 15 rfl rfl)
theorem dX0_overruns_16 : decode cX0_overruns 16 = .ok (.getfield 217, 3) := dk_180 0 217 (dk_at dksX0_overruns_0 16 rfl rfl)
theorem dX0_overruns_19 : decode cX0_overruns 19 = .ok (.goto 4, 3) := dk_167 0 4 (dk_at dksX0_overruns_0 19 rfl rfl)
theorem dX0_overruns_22 : decode cX0_overruns 22 = .ok (.iconst (-1), 1) := dk_2 (dk_at dksX0_overruns_0 22 rfl rfl)
theorem dX0_overruns_23 : decode cX0_overruns 23 = .ok (.ireturn, 1) := dk_172 (dk_at dksX0_overruns_0 23 rfl rfl)
abbrev cX0_waiting : ByteArray := prog_1_method_30_code
def yX0_waiting : MethodName := ⟨RX0, "waiting", "(I)I"⟩
def dkwX0_waiting_1 : List UInt8 := [167, 0, 4, 2, 172]
abbrev dktX0_waiting_1 : List UInt8 := dkwX0_waiting_1 ++ []
def dkwX0_waiting_0 : List UInt8 := [27, 184, 0, 65, 153, 0, 21, 42, 180, 0, 10, 180, 0, 69, 27, 50, 180, 0, 140, 182, 0, 144]
abbrev dktX0_waiting_0 : List UInt8 := dkwX0_waiting_0 ++ dktX0_waiting_1
theorem dksX0_waiting_0 : cX0_waiting.data.toList.drop 0 = dktX0_waiting_0 := by decide +kernel
theorem dksX0_waiting_1 : cX0_waiting.data.toList.drop 22 = dktX0_waiting_1 := dk_seg dksX0_waiting_0 22 rfl rfl
theorem dX0_waiting_0 : decode cX0_waiting 0 = .ok (.iload_n 1, 1) := dk_27 (dk_at dksX0_waiting_0 0 rfl rfl)
theorem dX0_waiting_1 : decode cX0_waiting 1 = .ok (.invokestatic 65, 3) := dk_184 0 65 (dk_at dksX0_waiting_0 1 rfl rfl)
theorem dX0_waiting_4 : decode cX0_waiting 4 = .ok (.ifCond .eq 21, 3) := dk_153 0 21 (dk_at dksX0_waiting_0 4 rfl rfl)
theorem dX0_waiting_7 : decode cX0_waiting 7 = .ok (.aload_n 0, 1) := dk_42 (dk_at dksX0_waiting_0 7 rfl rfl)
theorem dX0_waiting_8 : decode cX0_waiting 8 = .ok (.getfield 10, 3) := dk_180 0 10 (dk_at dksX0_waiting_0 8 rfl rfl)
theorem dX0_waiting_11 : decode cX0_waiting 11 = .ok (.getfield 69, 3) := dk_180 0 69 (dk_at dksX0_waiting_0 11 rfl rfl)
theorem dX0_waiting_14 : decode cX0_waiting 14 = .ok (.iload_n 1, 1) := dk_27 (dk_at dksX0_waiting_0 14 rfl rfl)
theorem dX0_waiting_15 : decode cX0_waiting 15 = .ok (.aaload, 1) := dk_50 (dk_at dksX0_waiting_0 15 rfl rfl)
theorem dX0_waiting_16 : decode cX0_waiting 16 = .ok (.getfield 140, 3) := dk_180 0 140 (dk_at dksX0_waiting_0 16 rfl rfl)
theorem dX0_waiting_19 : decode cX0_waiting 19 = .ok (.invokevirtual 144, 3) := dk_182 0 144 (dk_at dksX0_waiting_0 19 rfl rfl)
theorem dX0_waiting_22 : decode cX0_waiting 22 = .ok (.goto 4, 3) := dk_167 0 4 (dk_at dksX0_waiting_1 0 rfl rfl)
theorem dX0_waiting_25 : decode cX0_waiting 25 = .ok (.iconst (-1), 1) := dk_2 (dk_at dksX0_waiting_1 3 rfl rfl)
theorem dX0_waiting_26 : decode cX0_waiting 26 = .ok (.ireturn, 1) := dk_172 (dk_at dksX0_waiting_1 4 rfl rfl)
abbrev cX0_waitingFrame : ByteArray := prog_1_method_31_code
def yX0_waitingFrame : MethodName := ⟨RX0, "waitingFrame", "(II)I"⟩
def dkwX0_waitingFrame_2 : List UInt8 := [182, 0, 220, 182, 0, 224, 167, 0, 5, 16, 251, 172]
abbrev dktX0_waitingFrame_2 : List UInt8 := dkwX0_waitingFrame_2 ++ []
def dkwX0_waitingFrame_1 : List UInt8 := [182, 0, 144, 4, 100, 133, 184, 0, 33, 153, 0, 22, 42, 180, 0, 10, 180, 0, 69, 27, 50, 28]
abbrev dktX0_waitingFrame_1 : List UInt8 := dkwX0_waitingFrame_1 ++ dktX0_waitingFrame_2
def dkwX0_waitingFrame_0 : List UInt8 := [27, 184, 0, 65, 154, 0, 5, 2, 172, 28, 133, 9, 42, 180, 0, 10, 180, 0, 69, 27, 50, 180, 0, 140]
abbrev dktX0_waitingFrame_0 : List UInt8 := dkwX0_waitingFrame_0 ++ dktX0_waitingFrame_1
theorem dksX0_waitingFrame_0 : cX0_waitingFrame.data.toList.drop 0 = dktX0_waitingFrame_0 := by decide +kernel
theorem dksX0_waitingFrame_1 : cX0_waitingFrame.data.toList.drop 24 = dktX0_waitingFrame_1 := dk_seg dksX0_waitingFrame_0 24 rfl rfl
theorem dksX0_waitingFrame_2 : cX0_waitingFrame.data.toList.drop 46 = dktX0_waitingFrame_2 := dk_seg dksX0_waitingFrame_1 22 rfl rfl
theorem dX0_waitingFrame_0 : decode cX0_waitingFrame 0 = .ok (.iload_n 1, 1) := dk_27 (dk_at dksX0_waitingFrame_0 0 rfl rfl)
theorem dX0_waitingFrame_1 : decode cX0_waitingFrame 1 = .ok (.invokestatic 65, 3) := dk_184 0 65 (dk_at dksX0_waitingFrame_0 1 rfl rfl)
theorem dX0_waitingFrame_4 : decode cX0_waitingFrame 4 = .ok (.ifCond .ne 5, 3) := dk_154 0 5 (dk_at dksX0_waitingFrame_0 4 rfl rfl)
theorem dX0_waitingFrame_7 : decode cX0_waitingFrame 7 = .ok (.iconst (-1), 1) := dk_2 (dk_at dksX0_waitingFrame_0 7 rfl rfl)
theorem dX0_waitingFrame_8 : decode cX0_waitingFrame 8 = .ok (.ireturn, 1) := dk_172 (dk_at dksX0_waitingFrame_0 8 rfl rfl)
theorem dX0_waitingFrame_9 : decode cX0_waitingFrame 9 = .ok (.iload_n 2, 1) := dk_28 (dk_at dksX0_waitingFrame_0 9 rfl rfl)
theorem dX0_waitingFrame_10 : decode cX0_waitingFrame 10 = .ok (.i2l, 1) := dk_133 (dk_at dksX0_waitingFrame_0 10 rfl rfl)
theorem dX0_waitingFrame_11 : decode cX0_waitingFrame 11 = .ok (.lconst 0, 1) := dk_9 (dk_at dksX0_waitingFrame_0 11 rfl rfl)
theorem dX0_waitingFrame_12 : decode cX0_waitingFrame 12 = .ok (.aload_n 0, 1) := dk_42 (dk_at dksX0_waitingFrame_0 12 rfl rfl)
theorem dX0_waitingFrame_13 : decode cX0_waitingFrame 13 = .ok (.getfield 10, 3) := dk_180 0 10 (dk_at dksX0_waitingFrame_0 13 rfl rfl)
theorem dX0_waitingFrame_16 : decode cX0_waitingFrame 16 = .ok (.getfield 69, 3) := dk_180 0 69 (dk_at dksX0_waitingFrame_0 16 rfl rfl)
theorem dX0_waitingFrame_19 : decode cX0_waitingFrame 19 = .ok (.iload_n 1, 1) := dk_27 (dk_at dksX0_waitingFrame_0 19 rfl rfl)
theorem dX0_waitingFrame_20 : decode cX0_waitingFrame 20 = .ok (.aaload, 1) := dk_50 (dk_at dksX0_waitingFrame_0 20 rfl rfl)
theorem dX0_waitingFrame_21 : decode cX0_waitingFrame 21 = .ok (.getfield 140, 3) := dk_180 0 140 (dk_at dksX0_waitingFrame_0 21 rfl rfl)
theorem dX0_waitingFrame_24 : decode cX0_waitingFrame 24 = .ok (.invokevirtual 144, 3) := dk_182 0 144 (dk_at dksX0_waitingFrame_1 0 rfl rfl)
theorem dX0_waitingFrame_27 : decode cX0_waitingFrame 27 = .ok (.iconst 1, 1) := dk_4 (dk_at dksX0_waitingFrame_1 3 rfl rfl)
theorem dX0_waitingFrame_28 : decode cX0_waitingFrame 28 = .ok (.isub, 1) := dk_100 (dk_at dksX0_waitingFrame_1 4 rfl rfl)
theorem dX0_waitingFrame_29 : decode cX0_waitingFrame 29 = .ok (.i2l, 1) := dk_133 (dk_at dksX0_waitingFrame_1 5 rfl rfl)
theorem dX0_waitingFrame_30 : decode cX0_waitingFrame 30 = .ok (.invokestatic 33, 3) := dk_184 0 33 (dk_at dksX0_waitingFrame_1 6 rfl rfl)
theorem dX0_waitingFrame_33 : decode cX0_waitingFrame 33 = .ok (.ifCond .eq 22, 3) := dk_153 0 22 (dk_at dksX0_waitingFrame_1 9 rfl rfl)
theorem dX0_waitingFrame_36 : decode cX0_waitingFrame 36 = .ok (.aload_n 0, 1) := dk_42 (dk_at dksX0_waitingFrame_1 12 rfl rfl)
theorem dX0_waitingFrame_37 : decode cX0_waitingFrame 37 = .ok (.getfield 10, 3) := dk_180 0 10 (dk_at dksX0_waitingFrame_1 13 rfl rfl)
theorem dX0_waitingFrame_40 : decode cX0_waitingFrame 40 = .ok (.getfield 69, 3) := dk_180 0 69 (dk_at dksX0_waitingFrame_1 16 rfl rfl)
theorem dX0_waitingFrame_43 : decode cX0_waitingFrame 43 = .ok (.iload_n 1, 1) := dk_27 (dk_at dksX0_waitingFrame_1 19 rfl rfl)
theorem dX0_waitingFrame_44 : decode cX0_waitingFrame 44 = .ok (.aaload, 1) := dk_50 (dk_at dksX0_waitingFrame_1 20 rfl rfl)
theorem dX0_waitingFrame_45 : decode cX0_waitingFrame 45 = .ok (.iload_n 2, 1) := dk_28 (dk_at dksX0_waitingFrame_1 21 rfl rfl)
theorem dX0_waitingFrame_46 : decode cX0_waitingFrame 46 = .ok (.invokevirtual 220, 3) := dk_182 0 220 (dk_at dksX0_waitingFrame_2 0 rfl rfl)
theorem dX0_waitingFrame_49 : decode cX0_waitingFrame 49 = .ok (.invokevirtual 224, 3) := dk_182 0 224 (dk_at dksX0_waitingFrame_2 3 rfl rfl)
theorem dX0_waitingFrame_52 : decode cX0_waitingFrame 52 = .ok (.goto 5, 3) := dk_167 0 5 (dk_at dksX0_waitingFrame_2 6 rfl rfl)
theorem dX0_waitingFrame_55 : decode cX0_waitingFrame 55 = .ok (.bipush (-5), 2) := dk_16 251 (dk_at dksX0_waitingFrame_2 9 rfl rfl)
theorem dX0_waitingFrame_57 : decode cX0_waitingFrame 57 = .ok (.ireturn, 1) := dk_172 (dk_at dksX0_waitingFrame_2 11 rfl rfl)
abbrev cX0_received : ByteArray := prog_1_method_32_code
def yX0_received : MethodName := ⟨RX0, "received", "(I)I"⟩
def dkwX0_received_1 : List UInt8 := [167, 0, 4, 2, 172]
abbrev dktX0_received_1 : List UInt8 := dkwX0_received_1 ++ []
def dkwX0_received_0 : List UInt8 := [27, 184, 0, 65, 153, 0, 21, 42, 180, 0, 10, 180, 0, 69, 27, 50, 180, 0, 227, 182, 0, 231]
abbrev dktX0_received_0 : List UInt8 := dkwX0_received_0 ++ dktX0_received_1
theorem dksX0_received_0 : cX0_received.data.toList.drop 0 = dktX0_received_0 := by decide +kernel
theorem dksX0_received_1 : cX0_received.data.toList.drop 22 = dktX0_received_1 := dk_seg dksX0_received_0 22 rfl rfl
theorem dX0_received_0 : decode cX0_received 0 = .ok (.iload_n 1, 1) := dk_27 (dk_at dksX0_received_0 0 rfl rfl)
theorem dX0_received_1 : decode cX0_received 1 = .ok (.invokestatic 65, 3) := dk_184 0 65 (dk_at dksX0_received_0 1 rfl rfl)
theorem dX0_received_4 : decode cX0_received 4 = .ok (.ifCond .eq 21, 3) := dk_153 0 21 (dk_at dksX0_received_0 4 rfl rfl)
theorem dX0_received_7 : decode cX0_received 7 = .ok (.aload_n 0, 1) := dk_42 (dk_at dksX0_received_0 7 rfl rfl)
theorem dX0_received_8 : decode cX0_received 8 = .ok (.getfield 10, 3) := dk_180 0 10 (dk_at dksX0_received_0 8 rfl rfl)
theorem dX0_received_11 : decode cX0_received 11 = .ok (.getfield 69, 3) := dk_180 0 69 (dk_at dksX0_received_0 11 rfl rfl)
theorem dX0_received_14 : decode cX0_received 14 = .ok (.iload_n 1, 1) := dk_27 (dk_at dksX0_received_0 14 rfl rfl)
theorem dX0_received_15 : decode cX0_received 15 = .ok (.aaload, 1) := dk_50 (dk_at dksX0_received_0 15 rfl rfl)
theorem dX0_received_16 : decode cX0_received 16 = .ok (.getfield 227, 3) := dk_180 0 227 (dk_at dksX0_received_0 16 rfl rfl)
theorem dX0_received_19 : decode cX0_received 19 = .ok (.invokevirtual 231, 3) := dk_182 0 231 (dk_at dksX0_received_0 19 rfl rfl)
theorem dX0_received_22 : decode cX0_received 22 = .ok (.goto 4, 3) := dk_167 0 4 (dk_at dksX0_received_1 0 rfl rfl)
theorem dX0_received_25 : decode cX0_received 25 = .ok (.iconst (-1), 1) := dk_2 (dk_at dksX0_received_1 3 rfl rfl)
theorem dX0_received_26 : decode cX0_received 26 = .ok (.ireturn, 1) := dk_172 (dk_at dksX0_received_1 4 rfl rfl)
abbrev cX0_receivedFrame : ByteArray := prog_1_method_34_code
def yX0_receivedFrame : MethodName := ⟨RX0, "receivedFrame", "(II)I"⟩
def dkwX0_receivedFrame_1 : List UInt8 := [167, 0, 7, 45, 182, 0, 224, 172]
abbrev dktX0_receivedFrame_1 : List UInt8 := dkwX0_receivedFrame_1 ++ []
def dkwX0_receivedFrame_0 : List UInt8 := [27, 184, 0, 65, 154, 0, 5, 2, 172, 42, 27, 28, 182, 0, 237, 78, 45, 199, 0, 8, 16, 251]
abbrev dktX0_receivedFrame_0 : List UInt8 := dkwX0_receivedFrame_0 ++ dktX0_receivedFrame_1
theorem dksX0_receivedFrame_0 : cX0_receivedFrame.data.toList.drop 0 = dktX0_receivedFrame_0 := by decide +kernel
theorem dksX0_receivedFrame_1 : cX0_receivedFrame.data.toList.drop 22 = dktX0_receivedFrame_1 := dk_seg dksX0_receivedFrame_0 22 rfl rfl
theorem dX0_receivedFrame_0 : decode cX0_receivedFrame 0 = .ok (.iload_n 1, 1) := dk_27 (dk_at dksX0_receivedFrame_0 0 rfl rfl)
theorem dX0_receivedFrame_1 : decode cX0_receivedFrame 1 = .ok (.invokestatic 65, 3) := dk_184 0 65 (dk_at dksX0_receivedFrame_0 1 rfl rfl)
theorem dX0_receivedFrame_4 : decode cX0_receivedFrame 4 = .ok (.ifCond .ne 5, 3) := dk_154 0 5 (dk_at dksX0_receivedFrame_0 4 rfl rfl)
theorem dX0_receivedFrame_7 : decode cX0_receivedFrame 7 = .ok (.iconst (-1), 1) := dk_2 (dk_at dksX0_receivedFrame_0 7 rfl rfl)
theorem dX0_receivedFrame_8 : decode cX0_receivedFrame 8 = .ok (.ireturn, 1) := dk_172 (dk_at dksX0_receivedFrame_0 8 rfl rfl)
theorem dX0_receivedFrame_9 : decode cX0_receivedFrame 9 = .ok (.aload_n 0, 1) := dk_42 (dk_at dksX0_receivedFrame_0 9 rfl rfl)
theorem dX0_receivedFrame_10 : decode cX0_receivedFrame 10 = .ok (.iload_n 1, 1) := dk_27 (dk_at dksX0_receivedFrame_0 10 rfl rfl)
theorem dX0_receivedFrame_11 : decode cX0_receivedFrame 11 = .ok (.iload_n 2, 1) := dk_28 (dk_at dksX0_receivedFrame_0 11 rfl rfl)
theorem dX0_receivedFrame_12 : decode cX0_receivedFrame 12 = .ok (.invokevirtual 237, 3) := dk_182 0 237 (dk_at dksX0_receivedFrame_0 12 rfl rfl)
theorem dX0_receivedFrame_15 : decode cX0_receivedFrame 15 = .ok (.astore_n 3, 1) := dk_78 (dk_at dksX0_receivedFrame_0 15 rfl rfl)
theorem dX0_receivedFrame_16 : decode cX0_receivedFrame 16 = .ok (.aload_n 3, 1) := dk_45 (dk_at dksX0_receivedFrame_0 16 rfl rfl)
theorem dX0_receivedFrame_17 : decode cX0_receivedFrame 17 = .ok (.ifnonnull 8, 3) := dk_199 0 8 (dk_at dksX0_receivedFrame_0 17 rfl rfl)
theorem dX0_receivedFrame_20 : decode cX0_receivedFrame 20 = .ok (.bipush (-5), 2) := dk_16 251 (dk_at dksX0_receivedFrame_0 20 rfl rfl)
theorem dX0_receivedFrame_22 : decode cX0_receivedFrame 22 = .ok (.goto 7, 3) := dk_167 0 7 (dk_at dksX0_receivedFrame_1 0 rfl rfl)
theorem dX0_receivedFrame_25 : decode cX0_receivedFrame 25 = .ok (.aload_n 3, 1) := dk_45 (dk_at dksX0_receivedFrame_1 3 rfl rfl)
theorem dX0_receivedFrame_26 : decode cX0_receivedFrame 26 = .ok (.invokevirtual 224, 3) := dk_182 0 224 (dk_at dksX0_receivedFrame_1 4 rfl rfl)
theorem dX0_receivedFrame_29 : decode cX0_receivedFrame 29 = .ok (.ireturn, 1) := dk_172 (dk_at dksX0_receivedFrame_1 7 rfl rfl)
abbrev cX0_frameAt : ByteArray := prog_1_method_33_code
def yX0_frameAt : MethodName := ⟨RX0, "frameAt", "(II)LArbitratedBus$Frame;"⟩
def dkwX0_frameAt_1 : List UInt8 := [167, 0, 4, 1, 176]
abbrev dktX0_frameAt_1 : List UInt8 := dkwX0_frameAt_1 ++ []
def dkwX0_frameAt_0 : List UInt8 := [27, 184, 0, 65, 153, 0, 23, 28, 155, 0, 19, 42, 180, 0, 10, 180, 0, 69, 27, 50, 28, 182, 0, 234]
abbrev dktX0_frameAt_0 : List UInt8 := dkwX0_frameAt_0 ++ dktX0_frameAt_1
theorem dksX0_frameAt_0 : cX0_frameAt.data.toList.drop 0 = dktX0_frameAt_0 := by decide +kernel
theorem dksX0_frameAt_1 : cX0_frameAt.data.toList.drop 24 = dktX0_frameAt_1 := dk_seg dksX0_frameAt_0 24 rfl rfl
theorem dX0_frameAt_0 : decode cX0_frameAt 0 = .ok (.iload_n 1, 1) := dk_27 (dk_at dksX0_frameAt_0 0 rfl rfl)
theorem dX0_frameAt_1 : decode cX0_frameAt 1 = .ok (.invokestatic 65, 3) := dk_184 0 65 (dk_at dksX0_frameAt_0 1 rfl rfl)
theorem dX0_frameAt_4 : decode cX0_frameAt 4 = .ok (.ifCond .eq 23, 3) := dk_153 0 23 (dk_at dksX0_frameAt_0 4 rfl rfl)
theorem dX0_frameAt_7 : decode cX0_frameAt 7 = .ok (.iload_n 2, 1) := dk_28 (dk_at dksX0_frameAt_0 7 rfl rfl)
theorem dX0_frameAt_8 : decode cX0_frameAt 8 = .ok (.ifCond .lt 19, 3) := dk_155 0 19 (dk_at dksX0_frameAt_0 8 rfl rfl)
theorem dX0_frameAt_11 : decode cX0_frameAt 11 = .ok (.aload_n 0, 1) := dk_42 (dk_at dksX0_frameAt_0 11 rfl rfl)
theorem dX0_frameAt_12 : decode cX0_frameAt 12 = .ok (.getfield 10, 3) := dk_180 0 10 (dk_at dksX0_frameAt_0 12 rfl rfl)
theorem dX0_frameAt_15 : decode cX0_frameAt 15 = .ok (.getfield 69, 3) := dk_180 0 69 (dk_at dksX0_frameAt_0 15 rfl rfl)
theorem dX0_frameAt_18 : decode cX0_frameAt 18 = .ok (.iload_n 1, 1) := dk_27 (dk_at dksX0_frameAt_0 18 rfl rfl)
theorem dX0_frameAt_19 : decode cX0_frameAt 19 = .ok (.aaload, 1) := dk_50 (dk_at dksX0_frameAt_0 19 rfl rfl)
theorem dX0_frameAt_20 : decode cX0_frameAt 20 = .ok (.iload_n 2, 1) := dk_28 (dk_at dksX0_frameAt_0 20 rfl rfl)
theorem dX0_frameAt_21 : decode cX0_frameAt 21 = .ok (.invokevirtual 234, 3) := dk_182 0 234 (dk_at dksX0_frameAt_0 21 rfl rfl)
theorem dX0_frameAt_24 : decode cX0_frameAt 24 = .ok (.goto 4, 3) := dk_167 0 4 (dk_at dksX0_frameAt_1 0 rfl rfl)
theorem dX0_frameAt_27 : decode cX0_frameAt 27 = .ok (.aconst_null, 1) := dk_1 (dk_at dksX0_frameAt_1 3 rfl rfl)
theorem dX0_frameAt_28 : decode cX0_frameAt 28 = .ok (.areturn, 1) := dk_176 (dk_at dksX0_frameAt_1 4 rfl rfl)
abbrev cX0_receivedLength : ByteArray := prog_1_method_35_code
def yX0_receivedLength : MethodName := ⟨RX0, "receivedLength", "(II)I"⟩
def dkwX0_receivedLength_1 : List UInt8 := [167, 0, 7, 45, 180, 0, 241, 172]
abbrev dktX0_receivedLength_1 : List UInt8 := dkwX0_receivedLength_1 ++ []
def dkwX0_receivedLength_0 : List UInt8 := [27, 184, 0, 65, 154, 0, 5, 2, 172, 42, 27, 28, 182, 0, 237, 78, 45, 199, 0, 8, 16, 251]
abbrev dktX0_receivedLength_0 : List UInt8 := dkwX0_receivedLength_0 ++ dktX0_receivedLength_1
theorem dksX0_receivedLength_0 : cX0_receivedLength.data.toList.drop 0 = dktX0_receivedLength_0 := by decide +kernel
theorem dksX0_receivedLength_1 : cX0_receivedLength.data.toList.drop 22 = dktX0_receivedLength_1 := dk_seg dksX0_receivedLength_0 22 rfl rfl
theorem dX0_receivedLength_0 : decode cX0_receivedLength 0 = .ok (.iload_n 1, 1) := dk_27 (dk_at dksX0_receivedLength_0 0 rfl rfl)
theorem dX0_receivedLength_1 : decode cX0_receivedLength 1 = .ok (.invokestatic 65, 3) := dk_184 0 65 (dk_at dksX0_receivedLength_0 1 rfl rfl)
theorem dX0_receivedLength_4 : decode cX0_receivedLength 4 = .ok (.ifCond .ne 5, 3) := dk_154 0 5 (dk_at dksX0_receivedLength_0 4 rfl rfl)
theorem dX0_receivedLength_7 : decode cX0_receivedLength 7 = .ok (.iconst (-1), 1) := dk_2 (dk_at dksX0_receivedLength_0 7 rfl rfl)
theorem dX0_receivedLength_8 : decode cX0_receivedLength 8 = .ok (.ireturn, 1) := dk_172 (dk_at dksX0_receivedLength_0 8 rfl rfl)
theorem dX0_receivedLength_9 : decode cX0_receivedLength 9 = .ok (.aload_n 0, 1) := dk_42 (dk_at dksX0_receivedLength_0 9 rfl rfl)
theorem dX0_receivedLength_10 : decode cX0_receivedLength 10 = .ok (.iload_n 1, 1) := dk_27 (dk_at dksX0_receivedLength_0 10 rfl rfl)
theorem dX0_receivedLength_11 : decode cX0_receivedLength 11 = .ok (.iload_n 2, 1) := dk_28 (dk_at dksX0_receivedLength_0 11 rfl rfl)
theorem dX0_receivedLength_12 : decode cX0_receivedLength 12 = .ok (.invokevirtual 237, 3) := dk_182 0 237 (dk_at dksX0_receivedLength_0 12 rfl rfl)
theorem dX0_receivedLength_15 : decode cX0_receivedLength 15 = .ok (.astore_n 3, 1) := dk_78 (dk_at dksX0_receivedLength_0 15 rfl rfl)
theorem dX0_receivedLength_16 : decode cX0_receivedLength 16 = .ok (.aload_n 3, 1) := dk_45 (dk_at dksX0_receivedLength_0 16 rfl rfl)
theorem dX0_receivedLength_17 : decode cX0_receivedLength 17 = .ok (.ifnonnull 8, 3) := dk_199 0 8 (dk_at dksX0_receivedLength_0 17 rfl rfl)
theorem dX0_receivedLength_20 : decode cX0_receivedLength 20 = .ok (.bipush (-5), 2) := dk_16 251 (dk_at dksX0_receivedLength_0 20 rfl rfl)
theorem dX0_receivedLength_22 : decode cX0_receivedLength 22 = .ok (.goto 7, 3) := dk_167 0 7 (dk_at dksX0_receivedLength_1 0 rfl rfl)
theorem dX0_receivedLength_25 : decode cX0_receivedLength 25 = .ok (.aload_n 3, 1) := dk_45 (dk_at dksX0_receivedLength_1 3 rfl rfl)
theorem dX0_receivedLength_26 : decode cX0_receivedLength 26 = .ok (.getfield 241, 3) := dk_180 0 241 (dk_at dksX0_receivedLength_1 4 rfl rfl)
theorem dX0_receivedLength_29 : decode cX0_receivedLength 29 = .ok (.ireturn, 1) := dk_172 (dk_at dksX0_receivedLength_1 7 rfl rfl)
abbrev cX0_receivedData : ByteArray := prog_1_method_36_code
def yX0_receivedData : MethodName := ⟨RX0, "receivedData", "(II)I"⟩
def dkwX0_receivedData_0 : List UInt8 := [42, 27, 28, 182, 0, 237, 78, 45, 199, 0, 7, 3, 167, 0, 7, 45, 180, 0, 244, 172]
abbrev dktX0_receivedData_0 : List UInt8 := dkwX0_receivedData_0 ++ []
theorem dksX0_receivedData_0 : cX0_receivedData.data.toList.drop 0 = dktX0_receivedData_0 := by decide +kernel
theorem dX0_receivedData_0 : decode cX0_receivedData 0 = .ok (.aload_n 0, 1) := dk_42 (dk_at dksX0_receivedData_0 0 rfl rfl)
theorem dX0_receivedData_1 : decode cX0_receivedData 1 = .ok (.iload_n 1, 1) := dk_27 (dk_at dksX0_receivedData_0 1 rfl rfl)
theorem dX0_receivedData_2 : decode cX0_receivedData 2 = .ok (.iload_n 2, 1) := dk_28 (dk_at dksX0_receivedData_0 2 rfl rfl)
theorem dX0_receivedData_3 : decode cX0_receivedData 3 = .ok (.invokevirtual 237, 3) := dk_182 0 237 (dk_at dksX0_receivedData_0 3 rfl rfl)
theorem dX0_receivedData_6 : decode cX0_receivedData 6 = .ok (.astore_n 3, 1) := dk_78 (dk_at dksX0_receivedData_0 6 rfl rfl)
theorem dX0_receivedData_7 : decode cX0_receivedData 7 = .ok (.aload_n 3, 1) := dk_45 (dk_at dksX0_receivedData_0 7 rfl rfl)
theorem dX0_receivedData_8 : decode cX0_receivedData 8 = .ok (.ifnonnull 7, 3) := dk_199 0 7 (dk_at dksX0_receivedData_0 8 rfl rfl)
theorem dX0_receivedData_11 : decode cX0_receivedData 11 = .ok (.iconst 0, 1) := dk_3 (dk_at dksX0_receivedData_0 11 rfl rfl)
theorem dX0_receivedData_12 : decode cX0_receivedData 12 = .ok (.goto 7, 3) := dk_167 0 7 (dk_at dksX0_receivedData_0 12 rfl rfl)
theorem dX0_receivedData_15 : decode cX0_receivedData 15 = .ok (.aload_n 3, 1) := dk_45 (dk_at dksX0_receivedData_0 15 rfl rfl)
theorem dX0_receivedData_16 : decode cX0_receivedData 16 = .ok (.getfield 244, 3) := dk_180 0 244 (dk_at dksX0_receivedData_0 16 rfl rfl)
theorem dX0_receivedData_19 : decode cX0_receivedData 19 = .ok (.ireturn, 1) := dk_172 (dk_at dksX0_receivedData_0 19 rfl rfl)
abbrev cX0_discard : ByteArray := prog_1_method_37_code
def yX0_discard : MethodName := ⟨RX0, "discard", "(I)I"⟩
def dkwX0_discard_1 : List UInt8 := [182, 0, 247, 199, 0, 8, 16, 251, 167, 0, 7, 44, 182, 0, 231, 172]
abbrev dktX0_discard_1 : List UInt8 := dkwX0_discard_1 ++ []
def dkwX0_discard_0 : List UInt8 := [27, 184, 0, 65, 154, 0, 5, 2, 172, 42, 180, 0, 10, 180, 0, 69, 27, 50, 180, 0, 227, 77, 44]
abbrev dktX0_discard_0 : List UInt8 := dkwX0_discard_0 ++ dktX0_discard_1
theorem dksX0_discard_0 : cX0_discard.data.toList.drop 0 = dktX0_discard_0 := by decide +kernel
theorem dksX0_discard_1 : cX0_discard.data.toList.drop 23 = dktX0_discard_1 := dk_seg dksX0_discard_0 23 rfl rfl
theorem dX0_discard_0 : decode cX0_discard 0 = .ok (.iload_n 1, 1) := dk_27 (dk_at dksX0_discard_0 0 rfl rfl)
theorem dX0_discard_1 : decode cX0_discard 1 = .ok (.invokestatic 65, 3) := dk_184 0 65 (dk_at dksX0_discard_0 1 rfl rfl)
theorem dX0_discard_4 : decode cX0_discard 4 = .ok (.ifCond .ne 5, 3) := dk_154 0 5 (dk_at dksX0_discard_0 4 rfl rfl)
theorem dX0_discard_7 : decode cX0_discard 7 = .ok (.iconst (-1), 1) := dk_2 (dk_at dksX0_discard_0 7 rfl rfl)
theorem dX0_discard_8 : decode cX0_discard 8 = .ok (.ireturn, 1) := dk_172 (dk_at dksX0_discard_0 8 rfl rfl)
theorem dX0_discard_9 : decode cX0_discard 9 = .ok (.aload_n 0, 1) := dk_42 (dk_at dksX0_discard_0 9 rfl rfl)
theorem dX0_discard_10 : decode cX0_discard 10 = .ok (.getfield 10, 3) := dk_180 0 10 (dk_at dksX0_discard_0 10 rfl rfl)
theorem dX0_discard_13 : decode cX0_discard 13 = .ok (.getfield 69, 3) := dk_180 0 69 (dk_at dksX0_discard_0 13 rfl rfl)
theorem dX0_discard_16 : decode cX0_discard 16 = .ok (.iload_n 1, 1) := dk_27 (dk_at dksX0_discard_0 16 rfl rfl)
theorem dX0_discard_17 : decode cX0_discard 17 = .ok (.aaload, 1) := dk_50 (dk_at dksX0_discard_0 17 rfl rfl)
theorem dX0_discard_18 : decode cX0_discard 18 = .ok (.getfield 227, 3) := dk_180 0 227 (dk_at dksX0_discard_0 18 rfl rfl)
theorem dX0_discard_21 : decode cX0_discard 21 = .ok (.astore_n 2, 1) := dk_77 (dk_at dksX0_discard_0 21 rfl rfl)
theorem dX0_discard_22 : decode cX0_discard 22 = .ok (.aload_n 2, 1) := dk_44 (dk_at dksX0_discard_0 22 rfl rfl)
theorem dX0_discard_23 : decode cX0_discard 23 = .ok (.invokevirtual 247, 3) := dk_182 0 247 (dk_at dksX0_discard_1 0 rfl rfl)
theorem dX0_discard_26 : decode cX0_discard 26 = .ok (.ifnonnull 8, 3) := dk_199 0 8 (dk_at dksX0_discard_1 3 rfl rfl)
theorem dX0_discard_29 : decode cX0_discard 29 = .ok (.bipush (-5), 2) := dk_16 251 (dk_at dksX0_discard_1 6 rfl rfl)
theorem dX0_discard_31 : decode cX0_discard 31 = .ok (.goto 7, 3) := dk_167 0 7 (dk_at dksX0_discard_1 8 rfl rfl)
theorem dX0_discard_34 : decode cX0_discard 34 = .ok (.aload_n 2, 1) := dk_44 (dk_at dksX0_discard_1 11 rfl rfl)
theorem dX0_discard_35 : decode cX0_discard 35 = .ok (.invokevirtual 231, 3) := dk_182 0 231 (dk_at dksX0_discard_1 12 rfl rfl)
theorem dX0_discard_38 : decode cX0_discard 38 = .ok (.ireturn, 1) := dk_172 (dk_at dksX0_discard_1 15 rfl rfl)
abbrev cX0_time : ByteArray := prog_1_method_38_code
def yX0_time : MethodName := ⟨RX0, "time", "()I"⟩
def dkwX0_time_0 : List UInt8 := [42, 180, 0, 10, 180, 0, 168, 172]
abbrev dktX0_time_0 : List UInt8 := dkwX0_time_0 ++ []
theorem dksX0_time_0 : cX0_time.data.toList.drop 0 = dktX0_time_0 := by decide +kernel
theorem dX0_time_0 : decode cX0_time 0 = .ok (.aload_n 0, 1) := dk_42 (dk_at dksX0_time_0 0 rfl rfl)
theorem dX0_time_1 : decode cX0_time 1 = .ok (.getfield 10, 3) := dk_180 0 10 (dk_at dksX0_time_0 1 rfl rfl)
theorem dX0_time_4 : decode cX0_time 4 = .ok (.getfield 168, 3) := dk_180 0 168 (dk_at dksX0_time_0 4 rfl rfl)
theorem dX0_time_7 : decode cX0_time 7 = .ok (.ireturn, 1) := dk_172 (dk_at dksX0_time_0 7 rfl rfl)
abbrev cX0_level : ByteArray := prog_1_method_39_code
def yX0_level : MethodName := ⟨RX0, "level", "(I)I"⟩
def dkwX0_level_2 : List UInt8 := [17, 1, 0, 112, 51, 172]
abbrev dktX0_level_2 : List UInt8 := dkwX0_level_2 ++ []
def dkwX0_level_1 : List UInt8 := [164, 0, 8, 16, 251, 167, 0, 24, 42, 180, 0, 10, 180, 0, 251, 42, 180, 0, 10, 180, 0, 168, 27, 100]
abbrev dktX0_level_1 : List UInt8 := dkwX0_level_1 ++ dktX0_level_2
def dkwX0_level_0 : List UInt8 := [27, 133, 10, 20, 0, 53, 184, 0, 33, 154, 0, 6, 16, 254, 172, 27, 42, 180, 0, 10, 180, 0, 168]
abbrev dktX0_level_0 : List UInt8 := dkwX0_level_0 ++ dktX0_level_1
theorem dksX0_level_0 : cX0_level.data.toList.drop 0 = dktX0_level_0 := by decide +kernel
theorem dksX0_level_1 : cX0_level.data.toList.drop 23 = dktX0_level_1 := dk_seg dksX0_level_0 23 rfl rfl
theorem dksX0_level_2 : cX0_level.data.toList.drop 47 = dktX0_level_2 := dk_seg dksX0_level_1 24 rfl rfl
theorem dX0_level_0 : decode cX0_level 0 = .ok (.iload_n 1, 1) := dk_27 (dk_at dksX0_level_0 0 rfl rfl)
theorem dX0_level_1 : decode cX0_level 1 = .ok (.i2l, 1) := dk_133 (dk_at dksX0_level_0 1 rfl rfl)
theorem dX0_level_2 : decode cX0_level 2 = .ok (.lconst 1, 1) := dk_10 (dk_at dksX0_level_0 2 rfl rfl)
theorem dX0_level_3 : decode cX0_level 3 = .ok (.ldc2_w 53, 3) := dk_20 0 53 (dk_at dksX0_level_0 3 rfl rfl)
theorem dX0_level_6 : decode cX0_level 6 = .ok (.invokestatic 33, 3) := dk_184 0 33 (dk_at dksX0_level_0 6 rfl rfl)
theorem dX0_level_9 : decode cX0_level 9 = .ok (.ifCond .ne 6, 3) := dk_154 0 6 (dk_at dksX0_level_0 9 rfl rfl)
theorem dX0_level_12 : decode cX0_level 12 = .ok (.bipush (-2), 2) := dk_16 254 (dk_at dksX0_level_0 12 rfl rfl)
theorem dX0_level_14 : decode cX0_level 14 = .ok (.ireturn, 1) := dk_172 (dk_at dksX0_level_0 14 rfl rfl)
theorem dX0_level_15 : decode cX0_level 15 = .ok (.iload_n 1, 1) := dk_27 (dk_at dksX0_level_0 15 rfl rfl)
theorem dX0_level_16 : decode cX0_level 16 = .ok (.aload_n 0, 1) := dk_42 (dk_at dksX0_level_0 16 rfl rfl)
theorem dX0_level_17 : decode cX0_level 17 = .ok (.getfield 10, 3) := dk_180 0 10 (dk_at dksX0_level_0 17 rfl rfl)
theorem dX0_level_20 : decode cX0_level 20 = .ok (.getfield 168, 3) := dk_180 0 168 (dk_at dksX0_level_0 20 rfl rfl)
theorem dX0_level_23 : decode cX0_level 23 = .ok (.if_icmp .le 8, 3) := dk_164 0 8 (dk_at dksX0_level_1 0 rfl rfl)
theorem dX0_level_26 : decode cX0_level 26 = .ok (.bipush (-5), 2) := dk_16 251 (dk_at dksX0_level_1 3 rfl rfl)
theorem dX0_level_28 : decode cX0_level 28 = .ok (.goto 24, 3) := dk_167 0 24 (dk_at dksX0_level_1 5 rfl rfl)
theorem dX0_level_31 : decode cX0_level 31 = .ok (.aload_n 0, 1) := dk_42 (dk_at dksX0_level_1 8 rfl rfl)
theorem dX0_level_32 : decode cX0_level 32 = .ok (.getfield 10, 3) := dk_180 0 10 (dk_at dksX0_level_1 9 rfl rfl)
theorem dX0_level_35 : decode cX0_level 35 = .ok (.getfield 251, 3) := dk_180 0 251 (dk_at dksX0_level_1 12 rfl rfl)
theorem dX0_level_38 : decode cX0_level 38 = .ok (.aload_n 0, 1) := dk_42 (dk_at dksX0_level_1 15 rfl rfl)
theorem dX0_level_39 : decode cX0_level 39 = .ok (.getfield 10, 3) := dk_180 0 10 (dk_at dksX0_level_1 16 rfl rfl)
theorem dX0_level_42 : decode cX0_level 42 = .ok (.getfield 168, 3) := dk_180 0 168 (dk_at dksX0_level_1 19 rfl rfl)
theorem dX0_level_45 : decode cX0_level 45 = .ok (.iload_n 1, 1) := dk_27 (dk_at dksX0_level_1 22 rfl rfl)
theorem dX0_level_46 : decode cX0_level 46 = .ok (.isub, 1) := dk_100 (dk_at dksX0_level_1 23 rfl rfl)
theorem dX0_level_47 : decode cX0_level 47 = .ok (.sipush 256, 3) := dk_17 1 0 (dk_at dksX0_level_2 0 rfl rfl)
theorem dX0_level_50 : decode cX0_level 50 = .ok (.irem, 1) := dk_112 (dk_at dksX0_level_2 3 rfl rfl)
theorem dX0_level_51 : decode cX0_level 51 = .ok (.baload, 1) := dk_51 (dk_at dksX0_level_2 4 rfl rfl)
theorem dX0_level_52 : decode cX0_level 52 = .ok (.ireturn, 1) := dk_172 (dk_at dksX0_level_2 5 rfl rfl)
abbrev cX0_winner : ByteArray := prog_1_method_40_code
def yX0_winner : MethodName := ⟨RX0, "winner", "()I"⟩
def dkwX0_winner_0 : List UInt8 := [42, 180, 0, 10, 182, 0, 254, 172]
abbrev dktX0_winner_0 : List UInt8 := dkwX0_winner_0 ++ []
theorem dksX0_winner_0 : cX0_winner.data.toList.drop 0 = dktX0_winner_0 := by decide +kernel
theorem dX0_winner_0 : decode cX0_winner 0 = .ok (.aload_n 0, 1) := dk_42 (dk_at dksX0_winner_0 0 rfl rfl)
theorem dX0_winner_1 : decode cX0_winner 1 = .ok (.getfield 10, 3) := dk_180 0 10 (dk_at dksX0_winner_0 1 rfl rfl)
theorem dX0_winner_4 : decode cX0_winner 4 = .ok (.invokevirtual 254, 3) := dk_182 0 254 (dk_at dksX0_winner_0 4 rfl rfl)
theorem dX0_winner_7 : decode cX0_winner 7 = .ok (.ireturn, 1) := dk_172 (dk_at dksX0_winner_0 7 rfl rfl)
abbrev cX0_bitsUntilSent : ByteArray := prog_1_method_41_code
def yX0_bitsUntilSent : MethodName := ⟨RX0, "bitsUntilSent", "(I)I"⟩
def dkwX0_bitsUntilSent_1 : List UInt8 := [167, 0, 4, 2, 172]
abbrev dktX0_bitsUntilSent_1 : List UInt8 := dkwX0_bitsUntilSent_1 ++ []
def dkwX0_bitsUntilSent_0 : List UInt8 := [27, 184, 0, 65, 153, 0, 21, 187, 0, 7, 89, 42, 180, 0, 10, 183, 1, 1, 27, 182, 1, 4]
abbrev dktX0_bitsUntilSent_0 : List UInt8 := dkwX0_bitsUntilSent_0 ++ dktX0_bitsUntilSent_1
theorem dksX0_bitsUntilSent_0 : cX0_bitsUntilSent.data.toList.drop 0 = dktX0_bitsUntilSent_0 := by decide +kernel
theorem dksX0_bitsUntilSent_1 : cX0_bitsUntilSent.data.toList.drop 22 = dktX0_bitsUntilSent_1 := dk_seg dksX0_bitsUntilSent_0 22 rfl rfl
theorem dX0_bitsUntilSent_0 : decode cX0_bitsUntilSent 0 = .ok (.iload_n 1, 1) := dk_27 (dk_at dksX0_bitsUntilSent_0 0 rfl rfl)
theorem dX0_bitsUntilSent_1 : decode cX0_bitsUntilSent 1 = .ok (.invokestatic 65, 3) := dk_184 0 65 (dk_at dksX0_bitsUntilSent_0 1 rfl rfl)
theorem dX0_bitsUntilSent_4 : decode cX0_bitsUntilSent 4 = .ok (.ifCond .eq 21, 3) := dk_153 0 21 (dk_at dksX0_bitsUntilSent_0 4 rfl rfl)
theorem dX0_bitsUntilSent_7 : decode cX0_bitsUntilSent 7 = .ok (.new 7, 3) := dk_187 0 7 (dk_at dksX0_bitsUntilSent_0 7 rfl rfl)
theorem dX0_bitsUntilSent_10 : decode cX0_bitsUntilSent 10 = .ok (.dup, 1) := dk_89 (dk_at dksX0_bitsUntilSent_0 10 rfl rfl)
theorem dX0_bitsUntilSent_11 : decode cX0_bitsUntilSent 11 = .ok (.aload_n 0, 1) := dk_42 (dk_at dksX0_bitsUntilSent_0 11 rfl rfl)
theorem dX0_bitsUntilSent_12 : decode cX0_bitsUntilSent 12 = .ok (.getfield 10, 3) := dk_180 0 10 (dk_at dksX0_bitsUntilSent_0 12 rfl rfl)
theorem dX0_bitsUntilSent_15 : decode cX0_bitsUntilSent 15 = .ok (.invokespecial 257, 3) := dk_183 1 1 (dk_at dksX0_bitsUntilSent_0 15 rfl rfl)
theorem dX0_bitsUntilSent_18 : decode cX0_bitsUntilSent 18 = .ok (.iload_n 1, 1) := dk_27 (dk_at dksX0_bitsUntilSent_0 18 rfl rfl)
theorem dX0_bitsUntilSent_19 : decode cX0_bitsUntilSent 19 = .ok (.invokevirtual 260, 3) := dk_182 1 4 (dk_at dksX0_bitsUntilSent_0 19 rfl rfl)
theorem dX0_bitsUntilSent_22 : decode cX0_bitsUntilSent 22 = .ok (.goto 4, 3) := dk_167 0 4 (dk_at dksX0_bitsUntilSent_1 0 rfl rfl)
theorem dX0_bitsUntilSent_25 : decode cX0_bitsUntilSent 25 = .ok (.iconst (-1), 1) := dk_2 (dk_at dksX0_bitsUntilSent_1 3 rfl rfl)
theorem dX0_bitsUntilSent_26 : decode cX0_bitsUntilSent 26 = .ok (.ireturn, 1) := dk_172 (dk_at dksX0_bitsUntilSent_1 4 rfl rfl)
abbrev cX0_crc : ByteArray := prog_1_method_42_code
def yX0_crc : MethodName := ⟨RX0, "crc", "(IZII)I"⟩
def dkwX0_crc_1 : List UInt8 := [182, 1, 10, 167, 0, 5, 16, 254, 172]
abbrev dktX0_crc_1 : List UInt8 := dkwX0_crc_1 ++ []
def dkwX0_crc_0 : List UInt8 := [27, 28, 29, 21, 4, 184, 0, 81, 153, 0, 22, 187, 0, 42, 89, 27, 28, 29, 21, 4, 3, 183, 1, 7]
abbrev dktX0_crc_0 : List UInt8 := dkwX0_crc_0 ++ dktX0_crc_1
theorem dksX0_crc_0 : cX0_crc.data.toList.drop 0 = dktX0_crc_0 := by decide +kernel
theorem dksX0_crc_1 : cX0_crc.data.toList.drop 24 = dktX0_crc_1 := dk_seg dksX0_crc_0 24 rfl rfl
theorem dX0_crc_0 : decode cX0_crc 0 = .ok (.iload_n 1, 1) := dk_27 (dk_at dksX0_crc_0 0 rfl rfl)
theorem dX0_crc_1 : decode cX0_crc 1 = .ok (.iload_n 2, 1) := dk_28 (dk_at dksX0_crc_0 1 rfl rfl)
theorem dX0_crc_2 : decode cX0_crc 2 = .ok (.iload_n 3, 1) := dk_29 (dk_at dksX0_crc_0 2 rfl rfl)
theorem dX0_crc_3 : decode cX0_crc 3 = .ok (.iload 4, 2) := dk_21 4 (dk_at dksX0_crc_0 3 rfl rfl)
theorem dX0_crc_5 : decode cX0_crc 5 = .ok (.invokestatic 81, 3) := dk_184 0 81 (dk_at dksX0_crc_0 5 rfl rfl)
theorem dX0_crc_8 : decode cX0_crc 8 = .ok (.ifCond .eq 22, 3) := dk_153 0 22 (dk_at dksX0_crc_0 8 rfl rfl)
theorem dX0_crc_11 : decode cX0_crc 11 = .ok (.new 42, 3) := dk_187 0 42 (dk_at dksX0_crc_0 11 rfl rfl)
theorem dX0_crc_14 : decode cX0_crc 14 = .ok (.dup, 1) := dk_89 (dk_at dksX0_crc_0 14 rfl rfl)
theorem dX0_crc_15 : decode cX0_crc 15 = .ok (.iload_n 1, 1) := dk_27 (dk_at dksX0_crc_0 15 rfl rfl)
theorem dX0_crc_16 : decode cX0_crc 16 = .ok (.iload_n 2, 1) := dk_28 (dk_at dksX0_crc_0 16 rfl rfl)
theorem dX0_crc_17 : decode cX0_crc 17 = .ok (.iload_n 3, 1) := dk_29 (dk_at dksX0_crc_0 17 rfl rfl)
theorem dX0_crc_18 : decode cX0_crc 18 = .ok (.iload 4, 2) := dk_21 4 (dk_at dksX0_crc_0 18 rfl rfl)
theorem dX0_crc_20 : decode cX0_crc 20 = .ok (.iconst 0, 1) := dk_3 (dk_at dksX0_crc_0 20 rfl rfl)
theorem dX0_crc_21 : decode cX0_crc 21 = .ok (.invokespecial 263, 3) := dk_183 1 7 (dk_at dksX0_crc_0 21 rfl rfl)
theorem dX0_crc_24 : decode cX0_crc 24 = .ok (.invokevirtual 266, 3) := dk_182 1 10 (dk_at dksX0_crc_1 0 rfl rfl)
theorem dX0_crc_27 : decode cX0_crc 27 = .ok (.goto 5, 3) := dk_167 0 5 (dk_at dksX0_crc_1 3 rfl rfl)
theorem dX0_crc_30 : decode cX0_crc 30 = .ok (.bipush (-2), 2) := dk_16 254 (dk_at dksX0_crc_1 6 rfl rfl)
theorem dX0_crc_32 : decode cX0_crc 32 = .ok (.ireturn, 1) := dk_172 (dk_at dksX0_crc_1 8 rfl rfl)
abbrev cX0_frameBits : ByteArray := prog_1_method_43_code
def yX0_frameBits : MethodName := ⟨RX0, "frameBits", "(IZII)I"⟩
def dkwX0_frameBits_1 : List UInt8 := [3, 183, 1, 7, 183, 1, 15, 182, 1, 18, 167, 0, 5, 16, 254, 172]
abbrev dktX0_frameBits_1 : List UInt8 := dkwX0_frameBits_1 ++ []
def dkwX0_frameBits_0 : List UInt8 := [27, 28, 29, 21, 4, 184, 0, 81, 153, 0, 29, 187, 1, 13, 89, 187, 0, 42, 89, 27, 28, 29, 21, 4]
abbrev dktX0_frameBits_0 : List UInt8 := dkwX0_frameBits_0 ++ dktX0_frameBits_1
theorem dksX0_frameBits_0 : cX0_frameBits.data.toList.drop 0 = dktX0_frameBits_0 := by decide +kernel
theorem dksX0_frameBits_1 : cX0_frameBits.data.toList.drop 24 = dktX0_frameBits_1 := dk_seg dksX0_frameBits_0 24 rfl rfl
theorem dX0_frameBits_0 : decode cX0_frameBits 0 = .ok (.iload_n 1, 1) := dk_27 (dk_at dksX0_frameBits_0 0 rfl rfl)
theorem dX0_frameBits_1 : decode cX0_frameBits 1 = .ok (.iload_n 2, 1) := dk_28 (dk_at dksX0_frameBits_0 1 rfl rfl)
theorem dX0_frameBits_2 : decode cX0_frameBits 2 = .ok (.iload_n 3, 1) := dk_29 (dk_at dksX0_frameBits_0 2 rfl rfl)
theorem dX0_frameBits_3 : decode cX0_frameBits 3 = .ok (.iload 4, 2) := dk_21 4 (dk_at dksX0_frameBits_0 3 rfl rfl)
theorem dX0_frameBits_5 : decode cX0_frameBits 5 = .ok (.invokestatic 81, 3) := dk_184 0 81 (dk_at dksX0_frameBits_0 5 rfl rfl)
theorem dX0_frameBits_8 : decode cX0_frameBits 8 = .ok (.ifCond .eq 29, 3) := dk_153 0 29 (dk_at dksX0_frameBits_0 8 rfl rfl)
theorem dX0_frameBits_11 : decode cX0_frameBits 11 = .ok (.new 269, 3) := dk_187 1 13 (dk_at dksX0_frameBits_0 11 rfl rfl)
theorem dX0_frameBits_14 : decode cX0_frameBits 14 = .ok (.dup, 1) := dk_89 (dk_at dksX0_frameBits_0 14 rfl rfl)
theorem dX0_frameBits_15 : decode cX0_frameBits 15 = .ok (.new 42, 3) := dk_187 0 42 (dk_at dksX0_frameBits_0 15 rfl rfl)
theorem dX0_frameBits_18 : decode cX0_frameBits 18 = .ok (.dup, 1) := dk_89 (dk_at dksX0_frameBits_0 18 rfl rfl)
theorem dX0_frameBits_19 : decode cX0_frameBits 19 = .ok (.iload_n 1, 1) := dk_27 (dk_at dksX0_frameBits_0 19 rfl rfl)
theorem dX0_frameBits_20 : decode cX0_frameBits 20 = .ok (.iload_n 2, 1) := dk_28 (dk_at dksX0_frameBits_0 20 rfl rfl)
theorem dX0_frameBits_21 : decode cX0_frameBits 21 = .ok (.iload_n 3, 1) := dk_29 (dk_at dksX0_frameBits_0 21 rfl rfl)
theorem dX0_frameBits_22 : decode cX0_frameBits 22 = .ok (.iload 4, 2) := dk_21 4 (dk_at dksX0_frameBits_0 22 rfl rfl)
theorem dX0_frameBits_24 : decode cX0_frameBits 24 = .ok (.iconst 0, 1) := dk_3 (dk_at dksX0_frameBits_1 0 rfl rfl)
theorem dX0_frameBits_25 : decode cX0_frameBits 25 = .ok (.invokespecial 263, 3) := dk_183 1 7 (dk_at dksX0_frameBits_1 1 rfl rfl)
theorem dX0_frameBits_28 : decode cX0_frameBits 28 = .ok (.invokespecial 271, 3) := dk_183 1 15 (dk_at dksX0_frameBits_1 4 rfl rfl)
theorem dX0_frameBits_31 : decode cX0_frameBits 31 = .ok (.invokevirtual 274, 3) := dk_182 1 18 (dk_at dksX0_frameBits_1 7 rfl rfl)
theorem dX0_frameBits_34 : decode cX0_frameBits 34 = .ok (.goto 5, 3) := dk_167 0 5 (dk_at dksX0_frameBits_1 10 rfl rfl)
theorem dX0_frameBits_37 : decode cX0_frameBits 37 = .ok (.bipush (-2), 2) := dk_16 254 (dk_at dksX0_frameBits_1 13 rfl rfl)
theorem dX0_frameBits_39 : decode cX0_frameBits 39 = .ok (.ireturn, 1) := dk_172 (dk_at dksX0_frameBits_1 15 rfl rfl)
abbrev cX0_frameBit : ByteArray := prog_1_method_44_code
def yX0_frameBit : MethodName := ⟨RX0, "frameBit", "(IZIII)I"⟩
def dkwX0_frameBit_2 : List UInt8 := [182, 1, 21, 172]
abbrev dktX0_frameBit_2 : List UInt8 := dkwX0_frameBit_2 ++ []
def dkwX0_frameBit_1 : List UInt8 := [187, 1, 13, 89, 187, 0, 42, 89, 27, 28, 29, 21, 4, 3, 183, 1, 7, 183, 1, 15, 21, 5]
abbrev dktX0_frameBit_1 : List UInt8 := dkwX0_frameBit_1 ++ dktX0_frameBit_2
def dkwX0_frameBit_0 : List UInt8 := [27, 28, 29, 21, 4, 184, 0, 81, 154, 0, 6, 16, 254, 172, 21, 5, 156, 0, 8, 16, 251, 167, 0, 28]
abbrev dktX0_frameBit_0 : List UInt8 := dkwX0_frameBit_0 ++ dktX0_frameBit_1
theorem dksX0_frameBit_0 : cX0_frameBit.data.toList.drop 0 = dktX0_frameBit_0 := by decide +kernel
theorem dksX0_frameBit_1 : cX0_frameBit.data.toList.drop 24 = dktX0_frameBit_1 := dk_seg dksX0_frameBit_0 24 rfl rfl
theorem dksX0_frameBit_2 : cX0_frameBit.data.toList.drop 46 = dktX0_frameBit_2 := dk_seg dksX0_frameBit_1 22 rfl rfl
theorem dX0_frameBit_0 : decode cX0_frameBit 0 = .ok (.iload_n 1, 1) := dk_27 (dk_at dksX0_frameBit_0 0 rfl rfl)
theorem dX0_frameBit_1 : decode cX0_frameBit 1 = .ok (.iload_n 2, 1) := dk_28 (dk_at dksX0_frameBit_0 1 rfl rfl)
theorem dX0_frameBit_2 : decode cX0_frameBit 2 = .ok (.iload_n 3, 1) := dk_29 (dk_at dksX0_frameBit_0 2 rfl rfl)
theorem dX0_frameBit_3 : decode cX0_frameBit 3 = .ok (.iload 4, 2) := dk_21 4 (dk_at dksX0_frameBit_0 3 rfl rfl)
theorem dX0_frameBit_5 : decode cX0_frameBit 5 = .ok (.invokestatic 81, 3) := dk_184 0 81 (dk_at dksX0_frameBit_0 5 rfl rfl)
theorem dX0_frameBit_8 : decode cX0_frameBit 8 = .ok (.ifCond .ne 6, 3) := dk_154 0 6 (dk_at dksX0_frameBit_0 8 rfl rfl)
theorem dX0_frameBit_11 : decode cX0_frameBit 11 = .ok (.bipush (-2), 2) := dk_16 254 (dk_at dksX0_frameBit_0 11 rfl rfl)
theorem dX0_frameBit_13 : decode cX0_frameBit 13 = .ok (.ireturn, 1) := dk_172 (dk_at dksX0_frameBit_0 13 rfl rfl)
theorem dX0_frameBit_14 : decode cX0_frameBit 14 = .ok (.iload 5, 2) := dk_21 5 (dk_at dksX0_frameBit_0 14 rfl rfl)
theorem dX0_frameBit_16 : decode cX0_frameBit 16 = .ok (.ifCond .ge 8, 3) := dk_156 0 8 (dk_at dksX0_frameBit_0 16 rfl rfl)
theorem dX0_frameBit_19 : decode cX0_frameBit 19 = .ok (.bipush (-5), 2) := dk_16 251 (dk_at dksX0_frameBit_0 19 rfl rfl)
theorem dX0_frameBit_21 : decode cX0_frameBit 21 = .ok (.goto 28, 3) := dk_167 0 28 (dk_at dksX0_frameBit_0 21 rfl rfl)
theorem dX0_frameBit_24 : decode cX0_frameBit 24 = .ok (.new 269, 3) := dk_187 1 13 (dk_at dksX0_frameBit_1 0 rfl rfl)
theorem dX0_frameBit_27 : decode cX0_frameBit 27 = .ok (.dup, 1) := dk_89 (dk_at dksX0_frameBit_1 3 rfl rfl)
theorem dX0_frameBit_28 : decode cX0_frameBit 28 = .ok (.new 42, 3) := dk_187 0 42 (dk_at dksX0_frameBit_1 4 rfl rfl)
theorem dX0_frameBit_31 : decode cX0_frameBit 31 = .ok (.dup, 1) := dk_89 (dk_at dksX0_frameBit_1 7 rfl rfl)
theorem dX0_frameBit_32 : decode cX0_frameBit 32 = .ok (.iload_n 1, 1) := dk_27 (dk_at dksX0_frameBit_1 8 rfl rfl)
theorem dX0_frameBit_33 : decode cX0_frameBit 33 = .ok (.iload_n 2, 1) := dk_28 (dk_at dksX0_frameBit_1 9 rfl rfl)
theorem dX0_frameBit_34 : decode cX0_frameBit 34 = .ok (.iload_n 3, 1) := dk_29 (dk_at dksX0_frameBit_1 10 rfl rfl)
theorem dX0_frameBit_35 : decode cX0_frameBit 35 = .ok (.iload 4, 2) := dk_21 4 (dk_at dksX0_frameBit_1 11 rfl rfl)
theorem dX0_frameBit_37 : decode cX0_frameBit 37 = .ok (.iconst 0, 1) := dk_3 (dk_at dksX0_frameBit_1 13 rfl rfl)
theorem dX0_frameBit_38 : decode cX0_frameBit 38 = .ok (.invokespecial 263, 3) := dk_183 1 7 (dk_at dksX0_frameBit_1 14 rfl rfl)
theorem dX0_frameBit_41 : decode cX0_frameBit 41 = .ok (.invokespecial 271, 3) := dk_183 1 15 (dk_at dksX0_frameBit_1 17 rfl rfl)
theorem dX0_frameBit_44 : decode cX0_frameBit 44 = .ok (.iload 5, 2) := dk_21 5 (dk_at dksX0_frameBit_1 20 rfl rfl)
theorem dX0_frameBit_46 : decode cX0_frameBit 46 = .ok (.invokevirtual 277, 3) := dk_182 1 21 (dk_at dksX0_frameBit_2 0 rfl rfl)
theorem dX0_frameBit_49 : decode cX0_frameBit 49 = .ok (.ireturn, 1) := dk_172 (dk_at dksX0_frameBit_2 3 rfl rfl)
abbrev cX0_worstBits : ByteArray := prog_1_method_45_code
def yX0_worstBits : MethodName := ⟨RX0, "worstBits", "(I)I"⟩
def dkwX0_worstBits_0 : List UInt8 := [27, 133, 9, 20, 0, 39, 184, 0, 33, 153, 0, 10, 27, 184, 1, 23, 167, 0, 5, 16, 254, 172]
abbrev dktX0_worstBits_0 : List UInt8 := dkwX0_worstBits_0 ++ []
theorem dksX0_worstBits_0 : cX0_worstBits.data.toList.drop 0 = dktX0_worstBits_0 := by decide +kernel
theorem dX0_worstBits_0 : decode cX0_worstBits 0 = .ok (.iload_n 1, 1) := dk_27 (dk_at dksX0_worstBits_0 0 rfl rfl)
theorem dX0_worstBits_1 : decode cX0_worstBits 1 = .ok (.i2l, 1) := dk_133 (dk_at dksX0_worstBits_0 1 rfl rfl)
theorem dX0_worstBits_2 : decode cX0_worstBits 2 = .ok (.lconst 0, 1) := dk_9 (dk_at dksX0_worstBits_0 2 rfl rfl)
theorem dX0_worstBits_3 : decode cX0_worstBits 3 = .ok (.ldc2_w 39, 3) := dk_20 0 39 (dk_at dksX0_worstBits_0 3 rfl rfl)
theorem dX0_worstBits_6 : decode cX0_worstBits 6 = .ok (.invokestatic 33, 3) := dk_184 0 33 (dk_at dksX0_worstBits_0 6 rfl rfl)
theorem dX0_worstBits_9 : decode cX0_worstBits 9 = .ok (.ifCond .eq 10, 3) := dk_153 0 10 (dk_at dksX0_worstBits_0 9 rfl rfl)
theorem dX0_worstBits_12 : decode cX0_worstBits 12 = .ok (.iload_n 1, 1) := dk_27 (dk_at dksX0_worstBits_0 12 rfl rfl)
theorem dX0_worstBits_13 : decode cX0_worstBits 13 = .ok (.invokestatic 279, 3) := dk_184 1 23 (dk_at dksX0_worstBits_0 13 rfl rfl)
theorem dX0_worstBits_16 : decode cX0_worstBits 16 = .ok (.goto 5, 3) := dk_167 0 5 (dk_at dksX0_worstBits_0 16 rfl rfl)
theorem dX0_worstBits_19 : decode cX0_worstBits 19 = .ok (.bipush (-2), 2) := dk_16 254 (dk_at dksX0_worstBits_0 19 rfl rfl)
theorem dX0_worstBits_21 : decode cX0_worstBits 21 = .ok (.ireturn, 1) := dk_172 (dk_at dksX0_worstBits_0 21 rfl rfl)
abbrev cX0_worst : ByteArray := prog_1_method_3_code
def yX0_worst : MethodName := ⟨RX0, "worst", "(I)I"⟩
def dkwX0_worst_0 : List UInt8 := [16, 47, 16, 8, 26, 104, 96, 16, 33, 16, 8, 26, 104, 96, 7, 108, 96, 172]
abbrev dktX0_worst_0 : List UInt8 := dkwX0_worst_0 ++ []
theorem dksX0_worst_0 : cX0_worst.data.toList.drop 0 = dktX0_worst_0 := by decide +kernel
theorem dX0_worst_0 : decode cX0_worst 0 = .ok (.bipush 47, 2) := dk_16 47 (dk_at dksX0_worst_0 0 rfl rfl)
theorem dX0_worst_2 : decode cX0_worst 2 = .ok (.bipush 8, 2) := dk_16 8 (dk_at dksX0_worst_0 2 rfl rfl)
theorem dX0_worst_4 : decode cX0_worst 4 = .ok (.iload_n 0, 1) := dk_26 (dk_at dksX0_worst_0 4 rfl rfl)
theorem dX0_worst_5 : decode cX0_worst 5 = .ok (.imul, 1) := dk_104 (dk_at dksX0_worst_0 5 rfl rfl)
theorem dX0_worst_6 : decode cX0_worst 6 = .ok (.iadd, 1) := dk_96 (dk_at dksX0_worst_0 6 rfl rfl)
theorem dX0_worst_7 : decode cX0_worst 7 = .ok (.bipush 33, 2) := dk_16 33 (dk_at dksX0_worst_0 7 rfl rfl)
theorem dX0_worst_9 : decode cX0_worst 9 = .ok (.bipush 8, 2) := dk_16 8 (dk_at dksX0_worst_0 9 rfl rfl)
theorem dX0_worst_11 : decode cX0_worst 11 = .ok (.iload_n 0, 1) := dk_26 (dk_at dksX0_worst_0 11 rfl rfl)
theorem dX0_worst_12 : decode cX0_worst 12 = .ok (.imul, 1) := dk_104 (dk_at dksX0_worst_0 12 rfl rfl)
theorem dX0_worst_13 : decode cX0_worst 13 = .ok (.iadd, 1) := dk_96 (dk_at dksX0_worst_0 13 rfl rfl)
theorem dX0_worst_14 : decode cX0_worst 14 = .ok (.iconst 4, 1) := dk_7 (dk_at dksX0_worst_0 14 rfl rfl)
theorem dX0_worst_15 : decode cX0_worst 15 = .ok (.idiv, 1) := dk_108 (dk_at dksX0_worst_0 15 rfl rfl)
theorem dX0_worst_16 : decode cX0_worst 16 = .ok (.iadd, 1) := dk_96 (dk_at dksX0_worst_0 16 rfl rfl)
theorem dX0_worst_17 : decode cX0_worst 17 = .ok (.ireturn, 1) := dk_172 (dk_at dksX0_worst_0 17 rfl rfl)
abbrev cX0_addMessage : ByteArray := prog_1_method_46_code
def yX0_addMessage : MethodName := ⟨RX0, "addMessage", "(IIII)I"⟩
def dkwX0_addMessage_5 : List UInt8 := [87, 42, 180, 0, 23, 180, 1, 30, 182, 0, 89, 172]
abbrev dktX0_addMessage_5 : List UInt8 := dkwX0_addMessage_5 ++ []
def dkwX0_addMessage_4 : List UInt8 := [180, 1, 30, 27, 184, 0, 95, 187, 1, 33, 89, 28, 184, 1, 23, 29, 21, 4, 183, 1, 35, 182, 0, 110]
abbrev dktX0_addMessage_4 : List UInt8 := dkwX0_addMessage_4 ++ dktX0_addMessage_5
def dkwX0_addMessage_3 : List UInt8 := [180, 0, 23, 180, 1, 30, 27, 184, 0, 95, 182, 0, 101, 154, 0, 6, 16, 253, 172, 42, 180, 0, 23]
abbrev dktX0_addMessage_3 : List UInt8 := dkwX0_addMessage_3 ++ dktX0_addMessage_4
def dkwX0_addMessage_2 : List UInt8 := [154, 0, 6, 16, 254, 172, 42, 180, 0, 23, 180, 1, 30, 182, 0, 89, 16, 8, 160, 0, 23, 42]
abbrev dktX0_addMessage_2 : List UInt8 := dkwX0_addMessage_2 ++ dktX0_addMessage_3
def dkwX0_addMessage_1 : List UInt8 := [29, 133, 10, 20, 1, 26, 184, 0, 33, 153, 0, 16, 21, 4, 133, 9, 20, 1, 28, 184, 0, 33]
abbrev dktX0_addMessage_1 : List UInt8 := dkwX0_addMessage_1 ++ dktX0_addMessage_2
def dkwX0_addMessage_0 : List UInt8 := [27, 133, 9, 20, 0, 37, 184, 0, 33, 153, 0, 40, 28, 133, 9, 20, 0, 39, 184, 0, 33, 153, 0, 28]
abbrev dktX0_addMessage_0 : List UInt8 := dkwX0_addMessage_0 ++ dktX0_addMessage_1
theorem dksX0_addMessage_0 : cX0_addMessage.data.toList.drop 0 = dktX0_addMessage_0 := by decide +kernel
theorem dksX0_addMessage_1 : cX0_addMessage.data.toList.drop 24 = dktX0_addMessage_1 := dk_seg dksX0_addMessage_0 24 rfl rfl
theorem dksX0_addMessage_2 : cX0_addMessage.data.toList.drop 46 = dktX0_addMessage_2 := dk_seg dksX0_addMessage_1 22 rfl rfl
theorem dksX0_addMessage_3 : cX0_addMessage.data.toList.drop 68 = dktX0_addMessage_3 := dk_seg dksX0_addMessage_2 22 rfl rfl
theorem dksX0_addMessage_4 : cX0_addMessage.data.toList.drop 91 = dktX0_addMessage_4 := dk_seg dksX0_addMessage_3 23 rfl rfl
theorem dksX0_addMessage_5 : cX0_addMessage.data.toList.drop 115 = dktX0_addMessage_5 := dk_seg dksX0_addMessage_4 24 rfl rfl
theorem dX0_addMessage_0 : decode cX0_addMessage 0 = .ok (.iload_n 1, 1) := dk_27 (dk_at dksX0_addMessage_0 0 rfl rfl)
theorem dX0_addMessage_1 : decode cX0_addMessage 1 = .ok (.i2l, 1) := dk_133 (dk_at dksX0_addMessage_0 1 rfl rfl)
theorem dX0_addMessage_2 : decode cX0_addMessage 2 = .ok (.lconst 0, 1) := dk_9 (dk_at dksX0_addMessage_0 2 rfl rfl)
theorem dX0_addMessage_3 : decode cX0_addMessage 3 = .ok (.ldc2_w 37, 3) := dk_20 0 37 (dk_at dksX0_addMessage_0 3 rfl rfl)
theorem dX0_addMessage_6 : decode cX0_addMessage 6 = .ok (.invokestatic 33, 3) := dk_184 0 33 (dk_at dksX0_addMessage_0 6 rfl rfl)
theorem dX0_addMessage_9 : decode cX0_addMessage 9 = .ok (.ifCond .eq 40, 3) := dk_153 0 40 (dk_at dksX0_addMessage_0 9 rfl rfl)
theorem dX0_addMessage_12 : decode cX0_addMessage 12 = .ok (.iload_n 2, 1) := dk_28 (dk_at dksX0_addMessage_0 12 rfl rfl)
theorem dX0_addMessage_13 : decode cX0_addMessage 13 = .ok (.i2l, 1) := dk_133 (dk_at dksX0_addMessage_0 13 rfl rfl)
theorem dX0_addMessage_14 : decode cX0_addMessage 14 = .ok (.lconst 0, 1) := dk_9 (dk_at dksX0_addMessage_0 14 rfl rfl)
theorem dX0_addMessage_15 : decode cX0_addMessage 15 = .ok (.ldc2_w 39, 3) := dk_20 0 39 (dk_at dksX0_addMessage_0 15 rfl rfl)
theorem dX0_addMessage_18 : decode cX0_addMessage 18 = .ok (.invokestatic 33, 3) := dk_184 0 33 (dk_at dksX0_addMessage_0 18 rfl rfl)
theorem dX0_addMessage_21 : decode cX0_addMessage 21 = .ok (.ifCond .eq 28, 3) := dk_153 0 28 (dk_at dksX0_addMessage_0 21 rfl rfl)
theorem dX0_addMessage_24 : decode cX0_addMessage 24 = .ok (.iload_n 3, 1) := dk_29 (dk_at dksX0_addMessage_1 0 rfl rfl)
theorem dX0_addMessage_25 : decode cX0_addMessage 25 = .ok (.i2l, 1) := dk_133 (dk_at dksX0_addMessage_1 1 rfl rfl)
theorem dX0_addMessage_26 : decode cX0_addMessage 26 = .ok (.lconst 1, 1) := dk_10 (dk_at dksX0_addMessage_1 2 rfl rfl)
theorem dX0_addMessage_27 : decode cX0_addMessage 27 = .ok (.ldc2_w 282, 3) := dk_20 1 26 (dk_at dksX0_addMessage_1 3 rfl rfl)
theorem dX0_addMessage_30 : decode cX0_addMessage 30 = .ok (.invokestatic 33, 3) := dk_184 0 33 (dk_at dksX0_addMessage_1 6 rfl rfl)
theorem dX0_addMessage_33 : decode cX0_addMessage 33 = .ok (.ifCond .eq 16, 3) := dk_153 0 16 (dk_at dksX0_addMessage_1 9 rfl rfl)
theorem dX0_addMessage_36 : decode cX0_addMessage 36 = .ok (.iload 4, 2) := dk_21 4 (dk_at dksX0_addMessage_1 12 rfl rfl)
theorem dX0_addMessage_38 : decode cX0_addMessage 38 = .ok (.i2l, 1) := dk_133 (dk_at dksX0_addMessage_1 14 rfl rfl)
theorem dX0_addMessage_39 : decode cX0_addMessage 39 = .ok (.lconst 0, 1) := dk_9 (dk_at dksX0_addMessage_1 15 rfl rfl)
theorem dX0_addMessage_40 : decode cX0_addMessage 40 = .ok (.ldc2_w 284, 3) := dk_20 1 28 (dk_at dksX0_addMessage_1 16 rfl rfl)
theorem dX0_addMessage_43 : decode cX0_addMessage 43 = .ok (.invokestatic 33, 3) := dk_184 0 33 (dk_at dksX0_addMessage_1 19 rfl rfl)
theorem dX0_addMessage_46 : decode cX0_addMessage 46 = .ok (.ifCond .ne 6, 3) := dk_154 0 6 (dk_at dksX0_addMessage_2 0 rfl rfl)
theorem dX0_addMessage_49 : decode cX0_addMessage 49 = .ok (.bipush (-2), 2) := dk_16 254 (dk_at dksX0_addMessage_2 3 rfl rfl)
theorem dX0_addMessage_51 : decode cX0_addMessage 51 = .ok (.ireturn, 1) := dk_172 (dk_at dksX0_addMessage_2 5 rfl rfl)
theorem dX0_addMessage_52 : decode cX0_addMessage 52 = .ok (.aload_n 0, 1) := dk_42 (dk_at dksX0_addMessage_2 6 rfl rfl)
theorem dX0_addMessage_53 : decode cX0_addMessage 53 = .ok (.getfield 23, 3) := dk_180 0 23 (dk_at dksX0_addMessage_2 7 rfl rfl)
theorem dX0_addMessage_56 : decode cX0_addMessage 56 = .ok (.getfield 286, 3) := dk_180 1 30 (dk_at dksX0_addMessage_2 10 rfl rfl)
theorem dX0_addMessage_59 : decode cX0_addMessage 59 = .ok (.invokevirtual 89, 3) := dk_182 0 89 (dk_at dksX0_addMessage_2 13 rfl rfl)
theorem dX0_addMessage_62 : decode cX0_addMessage 62 = .ok (.bipush 8, 2) := dk_16 8 (dk_at dksX0_addMessage_2 16 rfl rfl)
theorem dX0_addMessage_64 : decode cX0_addMessage 64 = .ok (.if_icmp .ne 23, 3) := dk_160 0 23 (dk_at dksX0_addMessage_2 18 rfl rfl)
theorem dX0_addMessage_67 : decode cX0_addMessage 67 = .ok (.aload_n 0, 1) := dk_42 (dk_at dksX0_addMessage_2 21 rfl rfl)
theorem dX0_addMessage_68 : decode cX0_addMessage 68 = .ok (.getfield 23, 3) := dk_180 0 23 (dk_at dksX0_addMessage_3 0 rfl rfl)
theorem dX0_addMessage_71 : decode cX0_addMessage 71 = .ok (.getfield 286, 3) := dk_180 1 30 (dk_at dksX0_addMessage_3 3 rfl rfl)
theorem dX0_addMessage_74 : decode cX0_addMessage 74 = .ok (.iload_n 1, 1) := dk_27 (dk_at dksX0_addMessage_3 6 rfl rfl)
theorem dX0_addMessage_75 : decode cX0_addMessage 75 = .ok (.invokestatic 95, 3) := dk_184 0 95 (dk_at dksX0_addMessage_3 7 rfl rfl)
theorem dX0_addMessage_78 : decode cX0_addMessage 78 = .ok (.invokevirtual 101, 3) := dk_182 0 101 (dk_at dksX0_addMessage_3 10 rfl rfl)
theorem dX0_addMessage_81 : decode cX0_addMessage 81 = .ok (.ifCond .ne 6, 3) := dk_154 0 6 (dk_at dksX0_addMessage_3 13 rfl rfl)
theorem dX0_addMessage_84 : decode cX0_addMessage 84 = .ok (.bipush (-3), 2) := dk_16 253 (dk_at dksX0_addMessage_3 16 rfl rfl)
theorem dX0_addMessage_86 : decode cX0_addMessage 86 = .ok (.ireturn, 1) := dk_172 (dk_at dksX0_addMessage_3 18 rfl rfl)
theorem dX0_addMessage_87 : decode cX0_addMessage 87 = .ok (.aload_n 0, 1) := dk_42 (dk_at dksX0_addMessage_3 19 rfl rfl)
theorem dX0_addMessage_88 : decode cX0_addMessage 88 = .ok (.getfield 23, 3) := dk_180 0 23 (dk_at dksX0_addMessage_3 20 rfl rfl)
theorem dX0_addMessage_91 : decode cX0_addMessage 91 = .ok (.getfield 286, 3) := dk_180 1 30 (dk_at dksX0_addMessage_4 0 rfl rfl)
theorem dX0_addMessage_94 : decode cX0_addMessage 94 = .ok (.iload_n 1, 1) := dk_27 (dk_at dksX0_addMessage_4 3 rfl rfl)
theorem dX0_addMessage_95 : decode cX0_addMessage 95 = .ok (.invokestatic 95, 3) := dk_184 0 95 (dk_at dksX0_addMessage_4 4 rfl rfl)
theorem dX0_addMessage_98 : decode cX0_addMessage 98 = .ok (.new 289, 3) := dk_187 1 33 (dk_at dksX0_addMessage_4 7 rfl rfl)
theorem dX0_addMessage_101 : decode cX0_addMessage 101 = .ok (.dup, 1) := dk_89 (dk_at dksX0_addMessage_4 10 rfl rfl)
theorem dX0_addMessage_102 : decode cX0_addMessage 102 = .ok (.iload_n 2, 1) := dk_28 (dk_at dksX0_addMessage_4 11 rfl rfl)
theorem dX0_addMessage_103 : decode cX0_addMessage 103 = .ok (.invokestatic 279, 3) := dk_184 1 23 (dk_at dksX0_addMessage_4 12 rfl rfl)
theorem dX0_addMessage_106 : decode cX0_addMessage 106 = .ok (.iload_n 3, 1) := dk_29 (dk_at dksX0_addMessage_4 15 rfl rfl)
theorem dX0_addMessage_107 : decode cX0_addMessage 107 = .ok (.iload 4, 2) := dk_21 4 (dk_at dksX0_addMessage_4 16 rfl rfl)
theorem dX0_addMessage_109 : decode cX0_addMessage 109 = .ok (.invokespecial 291, 3) := dk_183 1 35 (dk_at dksX0_addMessage_4 18 rfl rfl)
theorem dX0_addMessage_112 : decode cX0_addMessage 112 = .ok (.invokevirtual 110, 3) := dk_182 0 110 (dk_at dksX0_addMessage_4 21 rfl rfl)
theorem dX0_addMessage_115 : decode cX0_addMessage 115 = .ok (.pop, 1) := dk_87 (dk_at dksX0_addMessage_5 0 rfl rfl)
theorem dX0_addMessage_116 : decode cX0_addMessage 116 = .ok (.aload_n 0, 1) := dk_42 (dk_at dksX0_addMessage_5 1 rfl rfl)
theorem dX0_addMessage_117 : decode cX0_addMessage 117 = .ok (.getfield 23, 3) := dk_180 0 23 (dk_at dksX0_addMessage_5 2 rfl rfl)
theorem dX0_addMessage_120 : decode cX0_addMessage 120 = .ok (.getfield 286, 3) := dk_180 1 30 (dk_at dksX0_addMessage_5 5 rfl rfl)
theorem dX0_addMessage_123 : decode cX0_addMessage 123 = .ok (.invokevirtual 89, 3) := dk_182 0 89 (dk_at dksX0_addMessage_5 8 rfl rfl)
theorem dX0_addMessage_126 : decode cX0_addMessage 126 = .ok (.ireturn, 1) := dk_172 (dk_at dksX0_addMessage_5 11 rfl rfl)
abbrev cX0_removeMessage : ByteArray := prog_1_method_47_code
def yX0_removeMessage : MethodName := ⟨RX0, "removeMessage", "(I)I"⟩
def dkwX0_removeMessage_1 : List UInt8 := [180, 0, 23, 180, 1, 30, 182, 0, 89, 172]
abbrev dktX0_removeMessage_1 : List UInt8 := dkwX0_removeMessage_1 ++ []
def dkwX0_removeMessage_0 : List UInt8 := [42, 180, 0, 23, 180, 1, 30, 27, 184, 0, 95, 182, 0, 114, 199, 0, 8, 16, 251, 167, 0, 13, 42]
abbrev dktX0_removeMessage_0 : List UInt8 := dkwX0_removeMessage_0 ++ dktX0_removeMessage_1
theorem dksX0_removeMessage_0 : cX0_removeMessage.data.toList.drop 0 = dktX0_removeMessage_0 := by decide +kernel
theorem dksX0_removeMessage_1 : cX0_removeMessage.data.toList.drop 23 = dktX0_removeMessage_1 := dk_seg dksX0_removeMessage_0 23 rfl rfl
theorem dX0_removeMessage_0 : decode cX0_removeMessage 0 = .ok (.aload_n 0, 1) := dk_42 (dk_at dksX0_removeMessage_0 0 rfl rfl)
theorem dX0_removeMessage_1 : decode cX0_removeMessage 1 = .ok (.getfield 23, 3) := dk_180 0 23 (dk_at dksX0_removeMessage_0 1 rfl rfl)
theorem dX0_removeMessage_4 : decode cX0_removeMessage 4 = .ok (.getfield 286, 3) := dk_180 1 30 (dk_at dksX0_removeMessage_0 4 rfl rfl)
theorem dX0_removeMessage_7 : decode cX0_removeMessage 7 = .ok (.iload_n 1, 1) := dk_27 (dk_at dksX0_removeMessage_0 7 rfl rfl)
theorem dX0_removeMessage_8 : decode cX0_removeMessage 8 = .ok (.invokestatic 95, 3) := dk_184 0 95 (dk_at dksX0_removeMessage_0 8 rfl rfl)
theorem dX0_removeMessage_11 : decode cX0_removeMessage 11 = .ok (.invokevirtual 114, 3) := dk_182 0 114 (dk_at dksX0_removeMessage_0 11 rfl rfl)
theorem dX0_removeMessage_14 : decode cX0_removeMessage 14 = .ok (.ifnonnull 8, 3) := dk_199 0 8 (dk_at dksX0_removeMessage_0 14 rfl rfl)
theorem dX0_removeMessage_17 : decode cX0_removeMessage 17 = .ok (.bipush (-5), 2) := dk_16 251 (dk_at dksX0_removeMessage_0 17 rfl rfl)
theorem dX0_removeMessage_19 : decode cX0_removeMessage 19 = .ok (.goto 13, 3) := dk_167 0 13 (dk_at dksX0_removeMessage_0 19 rfl rfl)
theorem dX0_removeMessage_22 : decode cX0_removeMessage 22 = .ok (.aload_n 0, 1) := dk_42 (dk_at dksX0_removeMessage_0 22 rfl rfl)
theorem dX0_removeMessage_23 : decode cX0_removeMessage 23 = .ok (.getfield 23, 3) := dk_180 0 23 (dk_at dksX0_removeMessage_1 0 rfl rfl)
theorem dX0_removeMessage_26 : decode cX0_removeMessage 26 = .ok (.getfield 286, 3) := dk_180 1 30 (dk_at dksX0_removeMessage_1 3 rfl rfl)
theorem dX0_removeMessage_29 : decode cX0_removeMessage 29 = .ok (.invokevirtual 89, 3) := dk_182 0 89 (dk_at dksX0_removeMessage_1 6 rfl rfl)
theorem dX0_removeMessage_32 : decode cX0_removeMessage 32 = .ok (.ireturn, 1) := dk_172 (dk_at dksX0_removeMessage_1 9 rfl rfl)
abbrev cX0_responseTime : ByteArray := prog_1_method_48_code
def yX0_responseTime : MethodName := ⟨RX0, "responseTime", "(I)I"⟩
def dkwX0_responseTime_1 : List UInt8 := [182, 1, 38, 167, 0, 5, 16, 254, 172]
abbrev dktX0_responseTime_1 : List UInt8 := dkwX0_responseTime_1 ++ []
def dkwX0_responseTime_0 : List UInt8 := [42, 180, 0, 23, 180, 1, 30, 27, 184, 0, 95, 182, 0, 101, 153, 0, 14, 42, 180, 0, 23, 27]
abbrev dktX0_responseTime_0 : List UInt8 := dkwX0_responseTime_0 ++ dktX0_responseTime_1
theorem dksX0_responseTime_0 : cX0_responseTime.data.toList.drop 0 = dktX0_responseTime_0 := by decide +kernel
theorem dksX0_responseTime_1 : cX0_responseTime.data.toList.drop 22 = dktX0_responseTime_1 := dk_seg dksX0_responseTime_0 22 rfl rfl
theorem dX0_responseTime_0 : decode cX0_responseTime 0 = .ok (.aload_n 0, 1) := dk_42 (dk_at dksX0_responseTime_0 0 rfl rfl)
theorem dX0_responseTime_1 : decode cX0_responseTime 1 = .ok (.getfield 23, 3) := dk_180 0 23 (dk_at dksX0_responseTime_0 1 rfl rfl)
theorem dX0_responseTime_4 : decode cX0_responseTime 4 = .ok (.getfield 286, 3) := dk_180 1 30 (dk_at dksX0_responseTime_0 4 rfl rfl)
theorem dX0_responseTime_7 : decode cX0_responseTime 7 = .ok (.iload_n 1, 1) := dk_27 (dk_at dksX0_responseTime_0 7 rfl rfl)
theorem dX0_responseTime_8 : decode cX0_responseTime 8 = .ok (.invokestatic 95, 3) := dk_184 0 95 (dk_at dksX0_responseTime_0 8 rfl rfl)
theorem dX0_responseTime_11 : decode cX0_responseTime 11 = .ok (.invokevirtual 101, 3) := dk_182 0 101 (dk_at dksX0_responseTime_0 11 rfl rfl)
theorem dX0_responseTime_14 : decode cX0_responseTime 14 = .ok (.ifCond .eq 14, 3) := dk_153 0 14 (dk_at dksX0_responseTime_0 14 rfl rfl)
theorem dX0_responseTime_17 : decode cX0_responseTime 17 = .ok (.aload_n 0, 1) := dk_42 (dk_at dksX0_responseTime_0 17 rfl rfl)
theorem dX0_responseTime_18 : decode cX0_responseTime 18 = .ok (.getfield 23, 3) := dk_180 0 23 (dk_at dksX0_responseTime_0 18 rfl rfl)
theorem dX0_responseTime_21 : decode cX0_responseTime 21 = .ok (.iload_n 1, 1) := dk_27 (dk_at dksX0_responseTime_0 21 rfl rfl)
theorem dX0_responseTime_22 : decode cX0_responseTime 22 = .ok (.invokevirtual 294, 3) := dk_182 1 38 (dk_at dksX0_responseTime_1 0 rfl rfl)
theorem dX0_responseTime_25 : decode cX0_responseTime 25 = .ok (.goto 5, 3) := dk_167 0 5 (dk_at dksX0_responseTime_1 3 rfl rfl)
theorem dX0_responseTime_28 : decode cX0_responseTime 28 = .ok (.bipush (-2), 2) := dk_16 254 (dk_at dksX0_responseTime_1 6 rfl rfl)
theorem dX0_responseTime_30 : decode cX0_responseTime 30 = .ok (.ireturn, 1) := dk_172 (dk_at dksX0_responseTime_1 8 rfl rfl)
abbrev cX0_misses : ByteArray := prog_1_method_49_code
def yX0_misses : MethodName := ⟨RX0, "misses", "()I"⟩
def dkwX0_misses_0 : List UInt8 := [42, 180, 0, 23, 182, 1, 41, 172]
abbrev dktX0_misses_0 : List UInt8 := dkwX0_misses_0 ++ []
theorem dksX0_misses_0 : cX0_misses.data.toList.drop 0 = dktX0_misses_0 := by decide +kernel
theorem dX0_misses_0 : decode cX0_misses 0 = .ok (.aload_n 0, 1) := dk_42 (dk_at dksX0_misses_0 0 rfl rfl)
theorem dX0_misses_1 : decode cX0_misses 1 = .ok (.getfield 23, 3) := dk_180 0 23 (dk_at dksX0_misses_0 1 rfl rfl)
theorem dX0_misses_4 : decode cX0_misses 4 = .ok (.invokevirtual 297, 3) := dk_182 1 41 (dk_at dksX0_misses_0 4 rfl rfl)
theorem dX0_misses_7 : decode cX0_misses 7 = .ok (.ireturn, 1) := dk_172 (dk_at dksX0_misses_0 7 rfl rfl)
abbrev cX0_append : ByteArray := prog_1_method_50_code
def yX0_append : MethodName := ⟨RX0, "append", "(I)I"⟩
def dkwX0_append_2 : List UInt8 := [42, 180, 1, 46, 172]
abbrev dktX0_append_2 : List UInt8 := dkwX0_append_2 ++ []
def dkwX0_append_1 : List UInt8 := [16, 253, 172, 42, 180, 0, 27, 42, 180, 1, 46, 27, 145, 84, 42, 89, 180, 1, 46, 4, 96, 181, 1, 46]
abbrev dktX0_append_1 : List UInt8 := dkwX0_append_1 ++ dktX0_append_2
def dkwX0_append_0 : List UInt8 := [27, 133, 9, 20, 1, 44, 184, 0, 33, 154, 0, 6, 16, 254, 172, 42, 180, 1, 46, 16, 120, 160, 0, 6]
abbrev dktX0_append_0 : List UInt8 := dkwX0_append_0 ++ dktX0_append_1
theorem dksX0_append_0 : cX0_append.data.toList.drop 0 = dktX0_append_0 := by decide +kernel
theorem dksX0_append_1 : cX0_append.data.toList.drop 24 = dktX0_append_1 := dk_seg dksX0_append_0 24 rfl rfl
theorem dksX0_append_2 : cX0_append.data.toList.drop 48 = dktX0_append_2 := dk_seg dksX0_append_1 24 rfl rfl
theorem dX0_append_0 : decode cX0_append 0 = .ok (.iload_n 1, 1) := dk_27 (dk_at dksX0_append_0 0 rfl rfl)
theorem dX0_append_1 : decode cX0_append 1 = .ok (.i2l, 1) := dk_133 (dk_at dksX0_append_0 1 rfl rfl)
theorem dX0_append_2 : decode cX0_append 2 = .ok (.lconst 0, 1) := dk_9 (dk_at dksX0_append_0 2 rfl rfl)
theorem dX0_append_3 : decode cX0_append 3 = .ok (.ldc2_w 300, 3) := dk_20 1 44 (dk_at dksX0_append_0 3 rfl rfl)
theorem dX0_append_6 : decode cX0_append 6 = .ok (.invokestatic 33, 3) := dk_184 0 33 (dk_at dksX0_append_0 6 rfl rfl)
theorem dX0_append_9 : decode cX0_append 9 = .ok (.ifCond .ne 6, 3) := dk_154 0 6 (dk_at dksX0_append_0 9 rfl rfl)
theorem dX0_append_12 : decode cX0_append 12 = .ok (.bipush (-2), 2) := dk_16 254 (dk_at dksX0_append_0 12 rfl rfl)
theorem dX0_append_14 : decode cX0_append 14 = .ok (.ireturn, 1) := dk_172 (dk_at dksX0_append_0 14 rfl rfl)
theorem dX0_append_15 : decode cX0_append 15 = .ok (.aload_n 0, 1) := dk_42 (dk_at dksX0_append_0 15 rfl rfl)
theorem dX0_append_16 : decode cX0_append 16 = .ok (.getfield 302, 3) := dk_180 1 46 (dk_at dksX0_append_0 16 rfl rfl)
theorem dX0_append_19 : decode cX0_append 19 = .ok (.bipush 120, 2) := dk_16 120 (dk_at dksX0_append_0 19 rfl rfl)
theorem dX0_append_21 : decode cX0_append 21 = .ok (.if_icmp .ne 6, 3) := dk_160 0 6 (dk_at dksX0_append_0 21 rfl rfl)
theorem dX0_append_24 : decode cX0_append 24 = .ok (.bipush (-3), 2) := dk_16 253 (dk_at dksX0_append_1 0 rfl rfl)
theorem dX0_append_26 : decode cX0_append 26 = .ok (.ireturn, 1) := dk_172 (dk_at dksX0_append_1 2 rfl rfl)
theorem dX0_append_27 : decode cX0_append 27 = .ok (.aload_n 0, 1) := dk_42 (dk_at dksX0_append_1 3 rfl rfl)
theorem dX0_append_28 : decode cX0_append 28 = .ok (.getfield 27, 3) := dk_180 0 27 (dk_at dksX0_append_1 4 rfl rfl)
theorem dX0_append_31 : decode cX0_append 31 = .ok (.aload_n 0, 1) := dk_42 (dk_at dksX0_append_1 7 rfl rfl)
theorem dX0_append_32 : decode cX0_append 32 = .ok (.getfield 302, 3) := dk_180 1 46 (dk_at dksX0_append_1 8 rfl rfl)
theorem dX0_append_35 : decode cX0_append 35 = .ok (.iload_n 1, 1) := dk_27 (dk_at dksX0_append_1 11 rfl rfl)
theorem dX0_append_36 : decode cX0_append 36 = .ok (.i2b, 1) := dk_145 (dk_at dksX0_append_1 12 rfl rfl)
theorem dX0_append_37 : decode cX0_append 37 = .ok (.bastore, 1) := dk_84 (dk_at dksX0_append_1 13 rfl rfl)
theorem dX0_append_38 : decode cX0_append 38 = .ok (.aload_n 0, 1) := dk_42 (dk_at dksX0_append_1 14 rfl rfl)
theorem dX0_append_39 : decode cX0_append 39 = .ok (.dup, 1) := dk_89 (dk_at dksX0_append_1 15 rfl rfl)
theorem dX0_append_40 : decode cX0_append 40 = .ok (.getfield 302, 3) := dk_180 1 46 (dk_at dksX0_append_1 16 rfl rfl)
theorem dX0_append_43 : decode cX0_append 43 = .ok (.iconst 1, 1) := dk_4 (dk_at dksX0_append_1 19 rfl rfl)
theorem dX0_append_44 : decode cX0_append 44 = .ok (.iadd, 1) := dk_96 (dk_at dksX0_append_1 20 rfl rfl)
theorem dX0_append_45 : decode cX0_append 45 = .ok (.putfield 302, 3) := dk_181 1 46 (dk_at dksX0_append_1 21 rfl rfl)
theorem dX0_append_48 : decode cX0_append 48 = .ok (.aload_n 0, 1) := dk_42 (dk_at dksX0_append_2 0 rfl rfl)
theorem dX0_append_49 : decode cX0_append 49 = .ok (.getfield 302, 3) := dk_180 1 46 (dk_at dksX0_append_2 1 rfl rfl)
theorem dX0_append_52 : decode cX0_append 52 = .ok (.ireturn, 1) := dk_172 (dk_at dksX0_append_2 4 rfl rfl)
abbrev cX0_clearText : ByteArray := prog_1_method_51_code
def yX0_clearText : MethodName := ⟨RX0, "clearText", "()I"⟩
def dkwX0_clearText_0 : List UInt8 := [42, 180, 1, 46, 60, 42, 3, 181, 1, 46, 27, 172]
abbrev dktX0_clearText_0 : List UInt8 := dkwX0_clearText_0 ++ []
theorem dksX0_clearText_0 : cX0_clearText.data.toList.drop 0 = dktX0_clearText_0 := by decide +kernel
theorem dX0_clearText_0 : decode cX0_clearText 0 = .ok (.aload_n 0, 1) := dk_42 (dk_at dksX0_clearText_0 0 rfl rfl)
theorem dX0_clearText_1 : decode cX0_clearText 1 = .ok (.getfield 302, 3) := dk_180 1 46 (dk_at dksX0_clearText_0 1 rfl rfl)
theorem dX0_clearText_4 : decode cX0_clearText 4 = .ok (.istore_n 1, 1) := dk_60 (dk_at dksX0_clearText_0 4 rfl rfl)
theorem dX0_clearText_5 : decode cX0_clearText 5 = .ok (.aload_n 0, 1) := dk_42 (dk_at dksX0_clearText_0 5 rfl rfl)
theorem dX0_clearText_6 : decode cX0_clearText 6 = .ok (.iconst 0, 1) := dk_3 (dk_at dksX0_clearText_0 6 rfl rfl)
theorem dX0_clearText_7 : decode cX0_clearText 7 = .ok (.putfield 302, 3) := dk_181 1 46 (dk_at dksX0_clearText_0 7 rfl rfl)
theorem dX0_clearText_10 : decode cX0_clearText 10 = .ok (.iload_n 1, 1) := dk_27 (dk_at dksX0_clearText_0 10 rfl rfl)
theorem dX0_clearText_11 : decode cX0_clearText 11 = .ok (.ireturn, 1) := dk_172 (dk_at dksX0_clearText_0 11 rfl rfl)
abbrev cX0_faultPosition : ByteArray := prog_1_method_52_code
def yX0_faultPosition : MethodName := ⟨RX0, "faultPosition", "()I"⟩
def dkwX0_faultPosition_0 : List UInt8 := [187, 1, 47, 89, 42, 183, 1, 49, 182, 1, 52, 76, 16, 251, 172, 76, 43, 180, 1, 57, 172]
abbrev dktX0_faultPosition_0 : List UInt8 := dkwX0_faultPosition_0 ++ []
theorem dksX0_faultPosition_0 : cX0_faultPosition.data.toList.drop 0 = dktX0_faultPosition_0 := by decide +kernel
theorem dX0_faultPosition_0 : decode cX0_faultPosition 0 = .ok (.new 303, 3) := dk_187 1 47 (dk_at dksX0_faultPosition_0 0 rfl rfl)
theorem dX0_faultPosition_3 : decode cX0_faultPosition 3 = .ok (.dup, 1) := dk_89 (dk_at dksX0_faultPosition_0 3 rfl rfl)
theorem dX0_faultPosition_4 : decode cX0_faultPosition 4 = .ok (.aload_n 0, 1) := dk_42 (dk_at dksX0_faultPosition_0 4 rfl rfl)
theorem dX0_faultPosition_5 : decode cX0_faultPosition 5 = .ok (.invokespecial 305, 3) := dk_183 1 49 (dk_at dksX0_faultPosition_0 5 rfl rfl)
theorem dX0_faultPosition_8 : decode cX0_faultPosition 8 = .ok (.invokevirtual 308, 3) := dk_182 1 52 (dk_at dksX0_faultPosition_0 8 rfl rfl)
theorem dX0_faultPosition_11 : decode cX0_faultPosition 11 = .ok (.astore_n 1, 1) := dk_76 (dk_at dksX0_faultPosition_0 11 rfl rfl)
theorem dX0_faultPosition_12 : decode cX0_faultPosition 12 = .ok (.bipush (-5), 2) := dk_16 251 (dk_at dksX0_faultPosition_0 12 rfl rfl)
theorem dX0_faultPosition_14 : decode cX0_faultPosition 14 = .ok (.ireturn, 1) := dk_172 (dk_at dksX0_faultPosition_0 14 rfl rfl)
theorem dX0_faultPosition_15 : decode cX0_faultPosition 15 = .ok (.astore_n 1, 1) := dk_76 (dk_at dksX0_faultPosition_0 15 rfl rfl)
theorem dX0_faultPosition_16 : decode cX0_faultPosition 16 = .ok (.aload_n 1, 1) := dk_43 (dk_at dksX0_faultPosition_0 16 rfl rfl)
theorem dX0_faultPosition_17 : decode cX0_faultPosition 17 = .ok (.getfield 313, 3) := dk_180 1 57 (dk_at dksX0_faultPosition_0 17 rfl rfl)
theorem dX0_faultPosition_20 : decode cX0_faultPosition 20 = .ok (.ireturn, 1) := dk_172 (dk_at dksX0_faultPosition_0 20 rfl rfl)
abbrev cX0_load : ByteArray := prog_1_method_53_code
def yX0_load : MethodName := ⟨RX0, "load", "()I"⟩
def dkwX0_load_4 : List UInt8 := [28, 172]
abbrev dktX0_load_4 : List UInt8 := dkwX0_load_4 ++ []
def dkwX0_load_3 : List UInt8 := [180, 1, 86, 25, 4, 180, 1, 87, 182, 1, 88, 158, 0, 7, 4, 167, 0, 4, 3, 96, 61, 167, 255, 196]
abbrev dktX0_load_3 : List UInt8 := dkwX0_load_3 ++ dktX0_load_4
def dkwX0_load_2 : List UInt8 := [192, 1, 74, 58, 4, 28, 42, 25, 4, 180, 1, 76, 25, 4, 180, 1, 79, 25, 4, 180, 1, 82, 25, 4]
abbrev dktX0_load_2 : List UInt8 := dkwX0_load_2 ++ dktX0_load_3
def dkwX0_load_1 : List UInt8 := [172, 3, 61, 43, 182, 1, 60, 78, 45, 185, 1, 66, 1, 0, 153, 0, 57, 45, 185, 1, 71, 1, 0]
abbrev dktX0_load_1 : List UInt8 := dkwX0_load_1 ++ dktX0_load_2
def dkwX0_load_0 : List UInt8 := [187, 1, 47, 89, 42, 183, 1, 49, 182, 1, 52, 76, 167, 0, 13, 77, 17, 252, 24, 44, 180, 1, 57, 100]
abbrev dktX0_load_0 : List UInt8 := dkwX0_load_0 ++ dktX0_load_1
theorem dksX0_load_0 : cX0_load.data.toList.drop 0 = dktX0_load_0 := by decide +kernel
theorem dksX0_load_1 : cX0_load.data.toList.drop 24 = dktX0_load_1 := dk_seg dksX0_load_0 24 rfl rfl
theorem dksX0_load_2 : cX0_load.data.toList.drop 47 = dktX0_load_2 := dk_seg dksX0_load_1 23 rfl rfl
theorem dksX0_load_3 : cX0_load.data.toList.drop 71 = dktX0_load_3 := dk_seg dksX0_load_2 24 rfl rfl
theorem dksX0_load_4 : cX0_load.data.toList.drop 95 = dktX0_load_4 := dk_seg dksX0_load_3 24 rfl rfl
theorem dX0_load_0 : decode cX0_load 0 = .ok (.new 303, 3) := dk_187 1 47 (dk_at dksX0_load_0 0 rfl rfl)
theorem dX0_load_3 : decode cX0_load 3 = .ok (.dup, 1) := dk_89 (dk_at dksX0_load_0 3 rfl rfl)
theorem dX0_load_4 : decode cX0_load 4 = .ok (.aload_n 0, 1) := dk_42 (dk_at dksX0_load_0 4 rfl rfl)
theorem dX0_load_5 : decode cX0_load 5 = .ok (.invokespecial 305, 3) := dk_183 1 49 (dk_at dksX0_load_0 5 rfl rfl)
theorem dX0_load_8 : decode cX0_load 8 = .ok (.invokevirtual 308, 3) := dk_182 1 52 (dk_at dksX0_load_0 8 rfl rfl)
theorem dX0_load_11 : decode cX0_load 11 = .ok (.astore_n 1, 1) := dk_76 (dk_at dksX0_load_0 11 rfl rfl)
theorem dX0_load_12 : decode cX0_load 12 = .ok (.goto 13, 3) := dk_167 0 13 (dk_at dksX0_load_0 12 rfl rfl)
theorem dX0_load_15 : decode cX0_load 15 = .ok (.astore_n 2, 1) := dk_77 (dk_at dksX0_load_0 15 rfl rfl)
theorem dX0_load_16 : decode cX0_load 16 = .ok (.sipush (-1000), 3) := dk_17 252 24 (dk_at dksX0_load_0 16 rfl rfl)
theorem dX0_load_19 : decode cX0_load 19 = .ok (.aload_n 2, 1) := dk_44 (dk_at dksX0_load_0 19 rfl rfl)
theorem dX0_load_20 : decode cX0_load 20 = .ok (.getfield 313, 3) := dk_180 1 57 (dk_at dksX0_load_0 20 rfl rfl)
theorem dX0_load_23 : decode cX0_load 23 = .ok (.isub, 1) := dk_100 (dk_at dksX0_load_0 23 rfl rfl)
theorem dX0_load_24 : decode cX0_load 24 = .ok (.ireturn, 1) := dk_172 (dk_at dksX0_load_1 0 rfl rfl)
theorem dX0_load_25 : decode cX0_load 25 = .ok (.iconst 0, 1) := dk_3 (dk_at dksX0_load_1 1 rfl rfl)
theorem dX0_load_26 : decode cX0_load 26 = .ok (.istore_n 2, 1) := dk_61 (dk_at dksX0_load_1 2 rfl rfl)
theorem dX0_load_27 : decode cX0_load 27 = .ok (.aload_n 1, 1) := dk_43 (dk_at dksX0_load_1 3 rfl rfl)
theorem dX0_load_28 : decode cX0_load 28 = .ok (.invokevirtual 316, 3) := dk_182 1 60 (dk_at dksX0_load_1 4 rfl rfl)
theorem dX0_load_31 : decode cX0_load 31 = .ok (.astore_n 3, 1) := dk_78 (dk_at dksX0_load_1 7 rfl rfl)
theorem dX0_load_32 : decode cX0_load 32 = .ok (.aload_n 3, 1) := dk_45 (dk_at dksX0_load_1 8 rfl rfl)
theorem dX0_load_33 : decode cX0_load 33 = .ok (.invokeinterface 322 1, 5) := by decide +kernel
theorem dX0_load_38 : decode cX0_load 38 = .ok (.ifCond .eq 57, 3) := dk_153 0 57 (dk_at dksX0_load_1 14 rfl rfl)
theorem dX0_load_41 : decode cX0_load 41 = .ok (.aload_n 3, 1) := dk_45 (dk_at dksX0_load_1 17 rfl rfl)
theorem dX0_load_42 : decode cX0_load 42 = .ok (.invokeinterface 327 1, 5) := by decide +kernel
theorem dX0_load_47 : decode cX0_load 47 = .ok (.checkcast 330, 3) := dk_192 1 74 (dk_at dksX0_load_2 0 rfl rfl)
theorem dX0_load_50 : decode cX0_load 50 = .ok (.astore 4, 2) := dk_58 4 (dk_at dksX0_load_2 3 rfl rfl)
theorem dX0_load_52 : decode cX0_load 52 = .ok (.iload_n 2, 1) := dk_28 (dk_at dksX0_load_2 5 rfl rfl)
theorem dX0_load_53 : decode cX0_load 53 = .ok (.aload_n 0, 1) := dk_42 (dk_at dksX0_load_2 6 rfl rfl)
theorem dX0_load_54 : decode cX0_load 54 = .ok (.aload 4, 2) := dk_25 4 (dk_at dksX0_load_2 7 rfl rfl)
theorem dX0_load_56 : decode cX0_load 56 = .ok (.getfield 332, 3) := dk_180 1 76 (dk_at dksX0_load_2 9 rfl rfl)
theorem dX0_load_59 : decode cX0_load 59 = .ok (.aload 4, 2) := dk_25 4 (dk_at dksX0_load_2 12 rfl rfl)
theorem dX0_load_61 : decode cX0_load 61 = .ok (.getfield 335, 3) := dk_180 1 79 (dk_at dksX0_load_2 14 rfl rfl)
theorem dX0_load_64 : decode cX0_load 64 = .ok (.aload 4, 2) := dk_25 4 (dk_at dksX0_load_2 17 rfl rfl)
theorem dX0_load_66 : decode cX0_load 66 = .ok (.getfield 338, 3) := dk_180 1 82 (dk_at dksX0_load_2 19 rfl rfl)
theorem dX0_load_69 : decode cX0_load 69 = .ok (.aload 4, 2) := dk_25 4 (dk_at dksX0_load_2 22 rfl rfl)
theorem dX0_load_71 : decode cX0_load 71 = .ok (.getfield 342, 3) := dk_180 1 86 (dk_at dksX0_load_3 0 rfl rfl)
theorem dX0_load_74 : decode cX0_load 74 = .ok (.aload 4, 2) := dk_25 4 (dk_at dksX0_load_3 3 rfl rfl)
theorem dX0_load_76 : decode cX0_load 76 = .ok (.getfield 343, 3) := dk_180 1 87 (dk_at dksX0_load_3 5 rfl rfl)
theorem dX0_load_79 : decode cX0_load 79 = .ok (.invokevirtual 344, 3) := dk_182 1 88 (dk_at dksX0_load_3 8 rfl rfl)
theorem dX0_load_82 : decode cX0_load 82 = .ok (.ifCond .le 7, 3) := dk_158 0 7 (dk_at dksX0_load_3 11 rfl rfl)
theorem dX0_load_85 : decode cX0_load 85 = .ok (.iconst 1, 1) := dk_4 (dk_at dksX0_load_3 14 rfl rfl)
theorem dX0_load_86 : decode cX0_load 86 = .ok (.goto 4, 3) := dk_167 0 4 (dk_at dksX0_load_3 15 rfl rfl)
theorem dX0_load_89 : decode cX0_load 89 = .ok (.iconst 0, 1) := dk_3 (dk_at dksX0_load_3 18 rfl rfl)
theorem dX0_load_90 : decode cX0_load 90 = .ok (.iadd, 1) := dk_96 (dk_at dksX0_load_3 19 rfl rfl)
theorem dX0_load_91 : decode cX0_load 91 = .ok (.istore_n 2, 1) := dk_61 (dk_at dksX0_load_3 20 rfl rfl)
theorem dX0_load_92 : decode cX0_load 92 = .ok (.goto (-60), 3) := dk_167 255 196 (dk_at dksX0_load_3 21 rfl rfl)
theorem dX0_load_95 : decode cX0_load 95 = .ok (.iload_n 2, 1) := dk_28 (dk_at dksX0_load_4 0 rfl rfl)
theorem dX0_load_96 : decode cX0_load 96 = .ok (.ireturn, 1) := dk_172 (dk_at dksX0_load_4 1 rfl rfl)
abbrev cX0_save : ByteArray := prog_1_method_54_code
def yX0_save : MethodName := ⟨RX0, "save", "(I)I"⟩
def dkwX0_save_1 : List UInt8 := [180, 0, 10, 183, 1, 1, 83, 42, 180, 0, 10, 180, 0, 168, 172]
abbrev dktX0_save_1 : List UInt8 := dkwX0_save_1 ++ []
def dkwX0_save_0 : List UInt8 := [27, 133, 9, 10, 184, 0, 33, 154, 0, 6, 16, 254, 172, 42, 180, 0, 16, 27, 187, 0, 7, 89, 42]
abbrev dktX0_save_0 : List UInt8 := dkwX0_save_0 ++ dktX0_save_1
theorem dksX0_save_0 : cX0_save.data.toList.drop 0 = dktX0_save_0 := by decide +kernel
theorem dksX0_save_1 : cX0_save.data.toList.drop 23 = dktX0_save_1 := dk_seg dksX0_save_0 23 rfl rfl
theorem dX0_save_0 : decode cX0_save 0 = .ok (.iload_n 1, 1) := dk_27 (dk_at dksX0_save_0 0 rfl rfl)
theorem dX0_save_1 : decode cX0_save 1 = .ok (.i2l, 1) := dk_133 (dk_at dksX0_save_0 1 rfl rfl)
theorem dX0_save_2 : decode cX0_save 2 = .ok (.lconst 0, 1) := dk_9 (dk_at dksX0_save_0 2 rfl rfl)
theorem dX0_save_3 : decode cX0_save 3 = .ok (.lconst 1, 1) := dk_10 (dk_at dksX0_save_0 3 rfl rfl)
theorem dX0_save_4 : decode cX0_save 4 = .ok (.invokestatic 33, 3) := dk_184 0 33 (dk_at dksX0_save_0 4 rfl rfl)
theorem dX0_save_7 : decode cX0_save 7 = .ok (.ifCond .ne 6, 3) := dk_154 0 6 (dk_at dksX0_save_0 7 rfl rfl)
theorem dX0_save_10 : decode cX0_save 10 = .ok (.bipush (-2), 2) := dk_16 254 (dk_at dksX0_save_0 10 rfl rfl)
theorem dX0_save_12 : decode cX0_save 12 = .ok (.ireturn, 1) := dk_172 (dk_at dksX0_save_0 12 rfl rfl)
theorem dX0_save_13 : decode cX0_save 13 = .ok (.aload_n 0, 1) := dk_42 (dk_at dksX0_save_0 13 rfl rfl)
theorem dX0_save_14 : decode cX0_save 14 = .ok (.getfield 16, 3) := dk_180 0 16 (dk_at dksX0_save_0 14 rfl rfl)
theorem dX0_save_17 : decode cX0_save 17 = .ok (.iload_n 1, 1) := dk_27 (dk_at dksX0_save_0 17 rfl rfl)
theorem dX0_save_18 : decode cX0_save 18 = .ok (.new 7, 3) := dk_187 0 7 (dk_at dksX0_save_0 18 rfl rfl)
theorem dX0_save_21 : decode cX0_save 21 = .ok (.dup, 1) := dk_89 (dk_at dksX0_save_0 21 rfl rfl)
theorem dX0_save_22 : decode cX0_save 22 = .ok (.aload_n 0, 1) := dk_42 (dk_at dksX0_save_0 22 rfl rfl)
theorem dX0_save_23 : decode cX0_save 23 = .ok (.getfield 10, 3) := dk_180 0 10 (dk_at dksX0_save_1 0 rfl rfl)
theorem dX0_save_26 : decode cX0_save 26 = .ok (.invokespecial 257, 3) := dk_183 1 1 (dk_at dksX0_save_1 3 rfl rfl)
theorem dX0_save_29 : decode cX0_save 29 = .ok (.aastore, 1) := dk_83 (dk_at dksX0_save_1 6 rfl rfl)
theorem dX0_save_30 : decode cX0_save 30 = .ok (.aload_n 0, 1) := dk_42 (dk_at dksX0_save_1 7 rfl rfl)
theorem dX0_save_31 : decode cX0_save 31 = .ok (.getfield 10, 3) := dk_180 0 10 (dk_at dksX0_save_1 8 rfl rfl)
theorem dX0_save_34 : decode cX0_save 34 = .ok (.getfield 168, 3) := dk_180 0 168 (dk_at dksX0_save_1 11 rfl rfl)
theorem dX0_save_37 : decode cX0_save 37 = .ok (.ireturn, 1) := dk_172 (dk_at dksX0_save_1 14 rfl rfl)
abbrev cX0_restore : ByteArray := prog_1_method_55_code
def yX0_restore : MethodName := ⟨RX0, "restore", "(I)I"⟩
def dkwX0_restore_2 : List UInt8 := [180, 0, 168, 172]
abbrev dktX0_restore_2 : List UInt8 := dkwX0_restore_2 ++ []
def dkwX0_restore_1 : List UInt8 := [172, 42, 187, 0, 7, 89, 42, 180, 0, 16, 27, 50, 183, 1, 1, 181, 0, 10, 42, 180, 0, 10]
abbrev dktX0_restore_1 : List UInt8 := dkwX0_restore_1 ++ dktX0_restore_2
def dkwX0_restore_0 : List UInt8 := [27, 133, 9, 10, 184, 0, 33, 154, 0, 6, 16, 254, 172, 42, 180, 0, 16, 27, 50, 199, 0, 6, 16, 251]
abbrev dktX0_restore_0 : List UInt8 := dkwX0_restore_0 ++ dktX0_restore_1
theorem dksX0_restore_0 : cX0_restore.data.toList.drop 0 = dktX0_restore_0 := by decide +kernel
theorem dksX0_restore_1 : cX0_restore.data.toList.drop 24 = dktX0_restore_1 := dk_seg dksX0_restore_0 24 rfl rfl
theorem dksX0_restore_2 : cX0_restore.data.toList.drop 46 = dktX0_restore_2 := dk_seg dksX0_restore_1 22 rfl rfl
theorem dX0_restore_0 : decode cX0_restore 0 = .ok (.iload_n 1, 1) := dk_27 (dk_at dksX0_restore_0 0 rfl rfl)
theorem dX0_restore_1 : decode cX0_restore 1 = .ok (.i2l, 1) := dk_133 (dk_at dksX0_restore_0 1 rfl rfl)
theorem dX0_restore_2 : decode cX0_restore 2 = .ok (.lconst 0, 1) := dk_9 (dk_at dksX0_restore_0 2 rfl rfl)
theorem dX0_restore_3 : decode cX0_restore 3 = .ok (.lconst 1, 1) := dk_10 (dk_at dksX0_restore_0 3 rfl rfl)
theorem dX0_restore_4 : decode cX0_restore 4 = .ok (.invokestatic 33, 3) := dk_184 0 33 (dk_at dksX0_restore_0 4 rfl rfl)
theorem dX0_restore_7 : decode cX0_restore 7 = .ok (.ifCond .ne 6, 3) := dk_154 0 6 (dk_at dksX0_restore_0 7 rfl rfl)
theorem dX0_restore_10 : decode cX0_restore 10 = .ok (.bipush (-2), 2) := dk_16 254 (dk_at dksX0_restore_0 10 rfl rfl)
theorem dX0_restore_12 : decode cX0_restore 12 = .ok (.ireturn, 1) := dk_172 (dk_at dksX0_restore_0 12 rfl rfl)
theorem dX0_restore_13 : decode cX0_restore 13 = .ok (.aload_n 0, 1) := dk_42 (dk_at dksX0_restore_0 13 rfl rfl)
theorem dX0_restore_14 : decode cX0_restore 14 = .ok (.getfield 16, 3) := dk_180 0 16 (dk_at dksX0_restore_0 14 rfl rfl)
theorem dX0_restore_17 : decode cX0_restore 17 = .ok (.iload_n 1, 1) := dk_27 (dk_at dksX0_restore_0 17 rfl rfl)
theorem dX0_restore_18 : decode cX0_restore 18 = .ok (.aaload, 1) := dk_50 (dk_at dksX0_restore_0 18 rfl rfl)
theorem dX0_restore_19 : decode cX0_restore 19 = .ok (.ifnonnull 6, 3) := dk_199 0 6 (dk_at dksX0_restore_0 19 rfl rfl)
theorem dX0_restore_22 : decode cX0_restore 22 = .ok (.bipush (-5), 2) := dk_16 251 (dk_at dksX0_restore_0 22 rfl rfl)
theorem dX0_restore_24 : decode cX0_restore 24 = .ok (.ireturn, 1) := dk_172 (dk_at dksX0_restore_1 0 rfl rfl)
theorem dX0_restore_25 : decode cX0_restore 25 = .ok (.aload_n 0, 1) := dk_42 (dk_at dksX0_restore_1 1 rfl rfl)
theorem dX0_restore_26 : decode cX0_restore 26 = .ok (.new 7, 3) := dk_187 0 7 (dk_at dksX0_restore_1 2 rfl rfl)
theorem dX0_restore_29 : decode cX0_restore 29 = .ok (.dup, 1) := dk_89 (dk_at dksX0_restore_1 5 rfl rfl)
theorem dX0_restore_30 : decode cX0_restore 30 = .ok (.aload_n 0, 1) := dk_42 (dk_at dksX0_restore_1 6 rfl rfl)
theorem dX0_restore_31 : decode cX0_restore 31 = .ok (.getfield 16, 3) := dk_180 0 16 (dk_at dksX0_restore_1 7 rfl rfl)
theorem dX0_restore_34 : decode cX0_restore 34 = .ok (.iload_n 1, 1) := dk_27 (dk_at dksX0_restore_1 10 rfl rfl)
theorem dX0_restore_35 : decode cX0_restore 35 = .ok (.aaload, 1) := dk_50 (dk_at dksX0_restore_1 11 rfl rfl)
theorem dX0_restore_36 : decode cX0_restore 36 = .ok (.invokespecial 257, 3) := dk_183 1 1 (dk_at dksX0_restore_1 12 rfl rfl)
theorem dX0_restore_39 : decode cX0_restore 39 = .ok (.putfield 10, 3) := dk_181 0 10 (dk_at dksX0_restore_1 15 rfl rfl)
theorem dX0_restore_42 : decode cX0_restore 42 = .ok (.aload_n 0, 1) := dk_42 (dk_at dksX0_restore_1 18 rfl rfl)
theorem dX0_restore_43 : decode cX0_restore 43 = .ok (.getfield 10, 3) := dk_180 0 10 (dk_at dksX0_restore_1 19 rfl rfl)
theorem dX0_restore_46 : decode cX0_restore 46 = .ok (.getfield 168, 3) := dk_180 0 168 (dk_at dksX0_restore_2 0 rfl rfl)
theorem dX0_restore_49 : decode cX0_restore 49 = .ok (.ireturn, 1) := dk_172 (dk_at dksX0_restore_2 3 rfl rfl)
abbrev cX0_checksum : ByteArray := prog_1_method_58_code
def yX0_checksum : MethodName := ⟨RX0, "checksum", "()J"⟩
def dkwX0_checksum_2 : List UInt8 := [182, 1, 134, 133, 184, 1, 96, 64, 132, 3, 1, 167, 255, 236, 31, 173]
abbrev dktX0_checksum_2 : List UInt8 := dkwX0_checksum_2 ++ []
def dkwX0_checksum_1 : List UInt8 := [29, 182, 1, 130, 64, 132, 3, 1, 167, 255, 241, 4, 62, 29, 16, 32, 163, 0, 20, 31, 42, 29]
abbrev dktX0_checksum_1 : List UInt8 := dkwX0_checksum_1 ++ dktX0_checksum_2
def dkwX0_checksum_0 : List UInt8 := [20, 1, 128, 42, 180, 0, 10, 180, 0, 168, 133, 184, 1, 96, 64, 3, 62, 29, 7, 162, 0, 16, 42, 31]
abbrev dktX0_checksum_0 : List UInt8 := dkwX0_checksum_0 ++ dktX0_checksum_1
theorem dksX0_checksum_0 : cX0_checksum.data.toList.drop 0 = dktX0_checksum_0 := by decide +kernel
theorem dksX0_checksum_1 : cX0_checksum.data.toList.drop 24 = dktX0_checksum_1 := dk_seg dksX0_checksum_0 24 rfl rfl
theorem dksX0_checksum_2 : cX0_checksum.data.toList.drop 46 = dktX0_checksum_2 := dk_seg dksX0_checksum_1 22 rfl rfl
theorem dX0_checksum_0 : decode cX0_checksum 0 = .ok (.ldc2_w 384, 3) := dk_20 1 128 (dk_at dksX0_checksum_0 0 rfl rfl)
theorem dX0_checksum_3 : decode cX0_checksum 3 = .ok (.aload_n 0, 1) := dk_42 (dk_at dksX0_checksum_0 3 rfl rfl)
theorem dX0_checksum_4 : decode cX0_checksum 4 = .ok (.getfield 10, 3) := dk_180 0 10 (dk_at dksX0_checksum_0 4 rfl rfl)
theorem dX0_checksum_7 : decode cX0_checksum 7 = .ok (.getfield 168, 3) := dk_180 0 168 (dk_at dksX0_checksum_0 7 rfl rfl)
theorem dX0_checksum_10 : decode cX0_checksum 10 = .ok (.i2l, 1) := dk_133 (dk_at dksX0_checksum_0 10 rfl rfl)
theorem dX0_checksum_11 : decode cX0_checksum 11 = .ok (.invokestatic 352, 3) := dk_184 1 96 (dk_at dksX0_checksum_0 11 rfl rfl)
theorem dX0_checksum_14 : decode cX0_checksum 14 = .ok (.lstore_n 1, 1) := dk_64 (dk_at dksX0_checksum_0 14 rfl rfl)
theorem dX0_checksum_15 : decode cX0_checksum 15 = .ok (.iconst 0, 1) := dk_3 (dk_at dksX0_checksum_0 15 rfl rfl)
theorem dX0_checksum_16 : decode cX0_checksum 16 = .ok (.istore_n 3, 1) := dk_62 (dk_at dksX0_checksum_0 16 rfl rfl)
theorem dX0_checksum_17 : decode cX0_checksum 17 = .ok (.iload_n 3, 1) := dk_29 (dk_at dksX0_checksum_0 17 rfl rfl)
theorem dX0_checksum_18 : decode cX0_checksum 18 = .ok (.iconst 4, 1) := dk_7 (dk_at dksX0_checksum_0 18 rfl rfl)
theorem dX0_checksum_19 : decode cX0_checksum 19 = .ok (.if_icmp .ge 16, 3) := dk_162 0 16 (dk_at dksX0_checksum_0 19 rfl rfl)
theorem dX0_checksum_22 : decode cX0_checksum 22 = .ok (.aload_n 0, 1) := dk_42 (dk_at dksX0_checksum_0 22 rfl rfl)
theorem dX0_checksum_23 : decode cX0_checksum 23 = .ok (.lload_n 1, 1) := dk_31 (dk_at dksX0_checksum_0 23 rfl rfl)
theorem dX0_checksum_24 : decode cX0_checksum 24 = .ok (.iload_n 3, 1) := dk_29 (dk_at dksX0_checksum_1 0 rfl rfl)
theorem dX0_checksum_25 : decode cX0_checksum 25 = .ok (.invokevirtual 386, 3) := dk_182 1 130 (dk_at dksX0_checksum_1 1 rfl rfl)
theorem dX0_checksum_28 : decode cX0_checksum 28 = .ok (.lstore_n 1, 1) := dk_64 (dk_at dksX0_checksum_1 4 rfl rfl)
theorem dX0_checksum_29 : decode cX0_checksum 29 = .ok (.iinc 3 1, 3) := dk_132 3 1 (dk_at dksX0_checksum_1 5 rfl rfl)
theorem dX0_checksum_32 : decode cX0_checksum 32 = .ok (.goto (-15), 3) := dk_167 255 241 (dk_at dksX0_checksum_1 8 rfl rfl)
theorem dX0_checksum_35 : decode cX0_checksum 35 = .ok (.iconst 1, 1) := dk_4 (dk_at dksX0_checksum_1 11 rfl rfl)
theorem dX0_checksum_36 : decode cX0_checksum 36 = .ok (.istore_n 3, 1) := dk_62 (dk_at dksX0_checksum_1 12 rfl rfl)
theorem dX0_checksum_37 : decode cX0_checksum 37 = .ok (.iload_n 3, 1) := dk_29 (dk_at dksX0_checksum_1 13 rfl rfl)
theorem dX0_checksum_38 : decode cX0_checksum 38 = .ok (.bipush 32, 2) := dk_16 32 (dk_at dksX0_checksum_1 14 rfl rfl)
theorem dX0_checksum_40 : decode cX0_checksum 40 = .ok (.if_icmp .gt 20, 3) := dk_163 0 20 (dk_at dksX0_checksum_1 16 rfl rfl)
theorem dX0_checksum_43 : decode cX0_checksum 43 = .ok (.lload_n 1, 1) := dk_31 (dk_at dksX0_checksum_1 19 rfl rfl)
theorem dX0_checksum_44 : decode cX0_checksum 44 = .ok (.aload_n 0, 1) := dk_42 (dk_at dksX0_checksum_1 20 rfl rfl)
theorem dX0_checksum_45 : decode cX0_checksum 45 = .ok (.iload_n 3, 1) := dk_29 (dk_at dksX0_checksum_1 21 rfl rfl)
theorem dX0_checksum_46 : decode cX0_checksum 46 = .ok (.invokevirtual 390, 3) := dk_182 1 134 (dk_at dksX0_checksum_2 0 rfl rfl)
theorem dX0_checksum_49 : decode cX0_checksum 49 = .ok (.i2l, 1) := dk_133 (dk_at dksX0_checksum_2 3 rfl rfl)
theorem dX0_checksum_50 : decode cX0_checksum 50 = .ok (.invokestatic 352, 3) := dk_184 1 96 (dk_at dksX0_checksum_2 4 rfl rfl)
theorem dX0_checksum_53 : decode cX0_checksum 53 = .ok (.lstore_n 1, 1) := dk_64 (dk_at dksX0_checksum_2 7 rfl rfl)
theorem dX0_checksum_54 : decode cX0_checksum 54 = .ok (.iinc 3 1, 3) := dk_132 3 1 (dk_at dksX0_checksum_2 8 rfl rfl)
theorem dX0_checksum_57 : decode cX0_checksum 57 = .ok (.goto (-20), 3) := dk_167 255 236 (dk_at dksX0_checksum_2 11 rfl rfl)
theorem dX0_checksum_60 : decode cX0_checksum 60 = .ok (.lload_n 1, 1) := dk_31 (dk_at dksX0_checksum_2 14 rfl rfl)
theorem dX0_checksum_61 : decode cX0_checksum 61 = .ok (.lreturn, 1) := dk_173 (dk_at dksX0_checksum_2 15 rfl rfl)
abbrev cX0_mix : ByteArray := prog_1_method_56_code
def yX0_mix : MethodName := ⟨RX0, "mix", "(JJ)J"⟩
def dkwX0_mix_0 : List UInt8 := [20, 1, 92, 30, 105, 32, 97, 173]
abbrev dktX0_mix_0 : List UInt8 := dkwX0_mix_0 ++ []
theorem dksX0_mix_0 : cX0_mix.data.toList.drop 0 = dktX0_mix_0 := by decide +kernel
theorem dX0_mix_0 : decode cX0_mix 0 = .ok (.ldc2_w 348, 3) := dk_20 1 92 (dk_at dksX0_mix_0 0 rfl rfl)
theorem dX0_mix_3 : decode cX0_mix 3 = .ok (.lload_n 0, 1) := dk_30 (dk_at dksX0_mix_0 3 rfl rfl)
theorem dX0_mix_4 : decode cX0_mix 4 = .ok (.lmul, 1) := dk_105 (dk_at dksX0_mix_0 4 rfl rfl)
theorem dX0_mix_5 : decode cX0_mix 5 = .ok (.lload_n 2, 1) := dk_32 (dk_at dksX0_mix_0 5 rfl rfl)
theorem dX0_mix_6 : decode cX0_mix 6 = .ok (.ladd, 1) := dk_97 (dk_at dksX0_mix_0 6 rfl rfl)
theorem dX0_mix_7 : decode cX0_mix 7 = .ok (.lreturn, 1) := dk_173 (dk_at dksX0_mix_0 7 rfl rfl)
abbrev cX0_mixNode : ByteArray := prog_1_method_57_code
def yX0_mixNode : MethodName := ⟨RX0, "mixNode", "(JI)J"⟩
def dkwX0_mixNode_10 : List UInt8 := [180, 0, 241, 133, 184, 1, 96, 25, 7, 180, 0, 244, 133, 184, 1, 96, 55, 4, 167, 255, 203, 22, 4, 173]
abbrev dktX0_mixNode_10 : List UInt8 := dkwX0_mixNode_10 ++ []
def dkwX0_mixNode_9 : List UInt8 := [185, 1, 71, 1, 0, 192, 0, 42, 58, 7, 22, 4, 25, 7, 182, 0, 224, 133, 184, 1, 96, 25, 7]
abbrev dktX0_mixNode_9 : List UInt8 := dkwX0_mixNode_9 ++ dktX0_mixNode_10
def dkwX0_mixNode_8 : List UInt8 := [180, 0, 227, 182, 1, 127, 58, 6, 25, 6, 185, 1, 66, 1, 0, 153, 0, 49, 25, 6]
abbrev dktX0_mixNode_8 : List UInt8 := dkwX0_mixNode_8 ++ dktX0_mixNode_9
def dkwX0_mixNode_7 : List UInt8 := [22, 4, 42, 29, 182, 1, 125, 133, 184, 1, 96, 55, 4, 42, 180, 0, 10, 180, 0, 69, 29, 50]
abbrev dktX0_mixNode_7 : List UInt8 := dkwX0_mixNode_7 ++ dktX0_mixNode_8
def dkwX0_mixNode_6 : List UInt8 := [162, 0, 24, 22, 4, 42, 29, 21, 6, 182, 1, 122, 133, 184, 1, 96, 55, 4, 132, 6, 1, 167, 255, 228]
abbrev dktX0_mixNode_6 : List UInt8 := dkwX0_mixNode_6 ++ dktX0_mixNode_7
def dkwX0_mixNode_5 : List UInt8 := [184, 1, 96, 42, 29, 182, 1, 120, 133, 184, 1, 96, 55, 4, 3, 54, 6, 21, 6, 42, 29, 182, 1, 120]
abbrev dktX0_mixNode_5 : List UInt8 := dkwX0_mixNode_5 ++ dktX0_mixNode_6
def dkwX0_mixNode_4 : List UInt8 := [184, 1, 96, 42, 29, 182, 1, 116, 133, 184, 1, 96, 55, 4, 22, 4, 42, 29, 182, 1, 118, 133]
abbrev dktX0_mixNode_4 : List UInt8 := dkwX0_mixNode_4 ++ dktX0_mixNode_5
def dkwX0_mixNode_3 : List UInt8 := [29, 182, 1, 109, 133, 184, 1, 96, 42, 29, 182, 1, 111, 133, 184, 1, 96, 42, 29, 182, 1, 114, 133]
abbrev dktX0_mixNode_3 : List UInt8 := dkwX0_mixNode_3 ++ dktX0_mixNode_4
def dkwX0_mixNode_2 : List UInt8 := [22, 4, 42, 29, 21, 6, 182, 1, 106, 133, 184, 1, 96, 55, 4, 132, 6, 1, 167, 255, 232, 22, 4, 42]
abbrev dktX0_mixNode_2 : List UInt8 := dkwX0_mixNode_2 ++ dktX0_mixNode_3
def dkwX0_mixNode_1 : List UInt8 := [133, 184, 1, 96, 42, 29, 182, 1, 104, 133, 184, 1, 96, 55, 4, 4, 54, 6, 21, 6, 8, 163, 0, 24]
abbrev dktX0_mixNode_1 : List UInt8 := dkwX0_mixNode_1 ++ dktX0_mixNode_2
def dkwX0_mixNode_0 : List UInt8 := [31, 42, 29, 182, 1, 94, 133, 184, 1, 96, 42, 29, 182, 1, 100, 133, 184, 1, 96, 42, 29, 182, 1, 102]
abbrev dktX0_mixNode_0 : List UInt8 := dkwX0_mixNode_0 ++ dktX0_mixNode_1
theorem dksX0_mixNode_0 : cX0_mixNode.data.toList.drop 0 = dktX0_mixNode_0 := by decide +kernel
theorem dksX0_mixNode_1 : cX0_mixNode.data.toList.drop 24 = dktX0_mixNode_1 := dk_seg dksX0_mixNode_0 24 rfl rfl
theorem dksX0_mixNode_2 : cX0_mixNode.data.toList.drop 48 = dktX0_mixNode_2 := dk_seg dksX0_mixNode_1 24 rfl rfl
theorem dksX0_mixNode_3 : cX0_mixNode.data.toList.drop 72 = dktX0_mixNode_3 := dk_seg dksX0_mixNode_2 24 rfl rfl
theorem dksX0_mixNode_4 : cX0_mixNode.data.toList.drop 95 = dktX0_mixNode_4 := dk_seg dksX0_mixNode_3 23 rfl rfl
theorem dksX0_mixNode_5 : cX0_mixNode.data.toList.drop 117 = dktX0_mixNode_5 := dk_seg dksX0_mixNode_4 22 rfl rfl
theorem dksX0_mixNode_6 : cX0_mixNode.data.toList.drop 141 = dktX0_mixNode_6 := dk_seg dksX0_mixNode_5 24 rfl rfl
theorem dksX0_mixNode_7 : cX0_mixNode.data.toList.drop 165 = dktX0_mixNode_7 := dk_seg dksX0_mixNode_6 24 rfl rfl
theorem dksX0_mixNode_8 : cX0_mixNode.data.toList.drop 187 = dktX0_mixNode_8 := dk_seg dksX0_mixNode_7 22 rfl rfl
theorem dksX0_mixNode_9 : cX0_mixNode.data.toList.drop 207 = dktX0_mixNode_9 := dk_seg dksX0_mixNode_8 20 rfl rfl
theorem dksX0_mixNode_10 : cX0_mixNode.data.toList.drop 230 = dktX0_mixNode_10 := dk_seg dksX0_mixNode_9 23 rfl rfl
theorem dX0_mixNode_0 : decode cX0_mixNode 0 = .ok (.lload_n 1, 1) := dk_31 (dk_at dksX0_mixNode_0 0 rfl rfl)
theorem dX0_mixNode_1 : decode cX0_mixNode 1 = .ok (.aload_n 0, 1) := dk_42 (dk_at dksX0_mixNode_0 1 rfl rfl)
theorem dX0_mixNode_2 : decode cX0_mixNode 2 = .ok (.iload_n 3, 1) := dk_29 (dk_at dksX0_mixNode_0 2 rfl rfl)
theorem dX0_mixNode_3 : decode cX0_mixNode 3 = .ok (.invokevirtual 350, 3) := dk_182 1 94 (dk_at dksX0_mixNode_0 3 rfl rfl)
theorem dX0_mixNode_6 : decode cX0_mixNode 6 = .ok (.i2l, 1) := dk_133 (dk_at dksX0_mixNode_0 6 rfl rfl)
theorem dX0_mixNode_7 : decode cX0_mixNode 7 = .ok (.invokestatic 352, 3) := dk_184 1 96 (dk_at dksX0_mixNode_0 7 rfl rfl)
theorem dX0_mixNode_10 : decode cX0_mixNode 10 = .ok (.aload_n 0, 1) := dk_42 (dk_at dksX0_mixNode_0 10 rfl rfl)
theorem dX0_mixNode_11 : decode cX0_mixNode 11 = .ok (.iload_n 3, 1) := dk_29 (dk_at dksX0_mixNode_0 11 rfl rfl)
theorem dX0_mixNode_12 : decode cX0_mixNode 12 = .ok (.invokevirtual 356, 3) := dk_182 1 100 (dk_at dksX0_mixNode_0 12 rfl rfl)
theorem dX0_mixNode_15 : decode cX0_mixNode 15 = .ok (.i2l, 1) := dk_133 (dk_at dksX0_mixNode_0 15 rfl rfl)
theorem dX0_mixNode_16 : decode cX0_mixNode 16 = .ok (.invokestatic 352, 3) := dk_184 1 96 (dk_at dksX0_mixNode_0 16 rfl rfl)
theorem dX0_mixNode_19 : decode cX0_mixNode 19 = .ok (.aload_n 0, 1) := dk_42 (dk_at dksX0_mixNode_0 19 rfl rfl)
theorem dX0_mixNode_20 : decode cX0_mixNode 20 = .ok (.iload_n 3, 1) := dk_29 (dk_at dksX0_mixNode_0 20 rfl rfl)
theorem dX0_mixNode_21 : decode cX0_mixNode 21 = .ok (.invokevirtual 358, 3) := dk_182 1 102 (dk_at dksX0_mixNode_0 21 rfl rfl)
theorem dX0_mixNode_24 : decode cX0_mixNode 24 = .ok (.i2l, 1) := dk_133 (dk_at dksX0_mixNode_1 0 rfl rfl)
theorem dX0_mixNode_25 : decode cX0_mixNode 25 = .ok (.invokestatic 352, 3) := dk_184 1 96 (dk_at dksX0_mixNode_1 1 rfl rfl)
theorem dX0_mixNode_28 : decode cX0_mixNode 28 = .ok (.aload_n 0, 1) := dk_42 (dk_at dksX0_mixNode_1 4 rfl rfl)
theorem dX0_mixNode_29 : decode cX0_mixNode 29 = .ok (.iload_n 3, 1) := dk_29 (dk_at dksX0_mixNode_1 5 rfl rfl)
theorem dX0_mixNode_30 : decode cX0_mixNode 30 = .ok (.invokevirtual 360, 3) := dk_182 1 104 (dk_at dksX0_mixNode_1 6 rfl rfl)
theorem dX0_mixNode_33 : decode cX0_mixNode 33 = .ok (.i2l, 1) := dk_133 (dk_at dksX0_mixNode_1 9 rfl rfl)
theorem dX0_mixNode_34 : decode cX0_mixNode 34 = .ok (.invokestatic 352, 3) := dk_184 1 96 (dk_at dksX0_mixNode_1 10 rfl rfl)
theorem dX0_mixNode_37 : decode cX0_mixNode 37 = .ok (.lstore 4, 2) := dk_55 4 (dk_at dksX0_mixNode_1 13 rfl rfl)
theorem dX0_mixNode_39 : decode cX0_mixNode 39 = .ok (.iconst 1, 1) := dk_4 (dk_at dksX0_mixNode_1 15 rfl rfl)
theorem dX0_mixNode_40 : decode cX0_mixNode 40 = .ok (.istore 6, 2) := dk_54 6 (dk_at dksX0_mixNode_1 16 rfl rfl)
theorem dX0_mixNode_42 : decode cX0_mixNode 42 = .ok (.iload 6, 2) := dk_21 6 (dk_at dksX0_mixNode_1 18 rfl rfl)
theorem dX0_mixNode_44 : decode cX0_mixNode 44 = .ok (.iconst 5, 1) := dk_8 (dk_at dksX0_mixNode_1 20 rfl rfl)
theorem dX0_mixNode_45 : decode cX0_mixNode 45 = .ok (.if_icmp .gt 24, 3) := dk_163 0 24 (dk_at dksX0_mixNode_1 21 rfl rfl)
theorem dX0_mixNode_48 : decode cX0_mixNode 48 = .ok (.lload 4, 2) := dk_22 4 (dk_at dksX0_mixNode_2 0 rfl rfl)
theorem dX0_mixNode_50 : decode cX0_mixNode 50 = .ok (.aload_n 0, 1) := dk_42 (dk_at dksX0_mixNode_2 2 rfl rfl)
theorem dX0_mixNode_51 : decode cX0_mixNode 51 = .ok (.iload_n 3, 1) := dk_29 (dk_at dksX0_mixNode_2 3 rfl rfl)
theorem dX0_mixNode_52 : decode cX0_mixNode 52 = .ok (.iload 6, 2) := dk_21 6 (dk_at dksX0_mixNode_2 4 rfl rfl)
theorem dX0_mixNode_54 : decode cX0_mixNode 54 = .ok (.invokevirtual 362, 3) := dk_182 1 106 (dk_at dksX0_mixNode_2 6 rfl rfl)
theorem dX0_mixNode_57 : decode cX0_mixNode 57 = .ok (.i2l, 1) := dk_133 (dk_at dksX0_mixNode_2 9 rfl rfl)
theorem dX0_mixNode_58 : decode cX0_mixNode 58 = .ok (.invokestatic 352, 3) := dk_184 1 96 (dk_at dksX0_mixNode_2 10 rfl rfl)
theorem dX0_mixNode_61 : decode cX0_mixNode 61 = .ok (.lstore 4, 2) := dk_55 4 (dk_at dksX0_mixNode_2 13 rfl rfl)
theorem dX0_mixNode_63 : decode cX0_mixNode 63 = .ok (.iinc 6 1, 3) := dk_132 6 1 (dk_at dksX0_mixNode_2 15 rfl rfl)
theorem dX0_mixNode_66 : decode cX0_mixNode 66 = .ok (.goto (-24), 3) := dk_167 255 232 (dk_at dksX0_mixNode_2 18 rfl rfl)
theorem dX0_mixNode_69 : decode cX0_mixNode 69 = .ok (.lload 4, 2) := dk_22 4 (dk_at dksX0_mixNode_2 21 rfl rfl)
theorem dX0_mixNode_71 : decode cX0_mixNode 71 = .ok (.aload_n 0, 1) := dk_42 (dk_at dksX0_mixNode_2 23 rfl rfl)
theorem dX0_mixNode_72 : decode cX0_mixNode 72 = .ok (.iload_n 3, 1) := dk_29 (dk_at dksX0_mixNode_3 0 rfl rfl)
theorem dX0_mixNode_73 : decode cX0_mixNode 73 = .ok (.invokevirtual 365, 3) := dk_182 1 109 (dk_at dksX0_mixNode_3 1 rfl rfl)
theorem dX0_mixNode_76 : decode cX0_mixNode 76 = .ok (.i2l, 1) := dk_133 (dk_at dksX0_mixNode_3 4 rfl rfl)
theorem dX0_mixNode_77 : decode cX0_mixNode 77 = .ok (.invokestatic 352, 3) := dk_184 1 96 (dk_at dksX0_mixNode_3 5 rfl rfl)
theorem dX0_mixNode_80 : decode cX0_mixNode 80 = .ok (.aload_n 0, 1) := dk_42 (dk_at dksX0_mixNode_3 8 rfl rfl)
theorem dX0_mixNode_81 : decode cX0_mixNode 81 = .ok (.iload_n 3, 1) := dk_29 (dk_at dksX0_mixNode_3 9 rfl rfl)
theorem dX0_mixNode_82 : decode cX0_mixNode 82 = .ok (.invokevirtual 367, 3) := dk_182 1 111 (dk_at dksX0_mixNode_3 10 rfl rfl)
theorem dX0_mixNode_85 : decode cX0_mixNode 85 = .ok (.i2l, 1) := dk_133 (dk_at dksX0_mixNode_3 13 rfl rfl)
theorem dX0_mixNode_86 : decode cX0_mixNode 86 = .ok (.invokestatic 352, 3) := dk_184 1 96 (dk_at dksX0_mixNode_3 14 rfl rfl)
theorem dX0_mixNode_89 : decode cX0_mixNode 89 = .ok (.aload_n 0, 1) := dk_42 (dk_at dksX0_mixNode_3 17 rfl rfl)
theorem dX0_mixNode_90 : decode cX0_mixNode 90 = .ok (.iload_n 3, 1) := dk_29 (dk_at dksX0_mixNode_3 18 rfl rfl)
theorem dX0_mixNode_91 : decode cX0_mixNode 91 = .ok (.invokevirtual 370, 3) := dk_182 1 114 (dk_at dksX0_mixNode_3 19 rfl rfl)
theorem dX0_mixNode_94 : decode cX0_mixNode 94 = .ok (.i2l, 1) := dk_133 (dk_at dksX0_mixNode_3 22 rfl rfl)
theorem dX0_mixNode_95 : decode cX0_mixNode 95 = .ok (.invokestatic 352, 3) := dk_184 1 96 (dk_at dksX0_mixNode_4 0 rfl rfl)
theorem dX0_mixNode_98 : decode cX0_mixNode 98 = .ok (.aload_n 0, 1) := dk_42 (dk_at dksX0_mixNode_4 3 rfl rfl)
theorem dX0_mixNode_99 : decode cX0_mixNode 99 = .ok (.iload_n 3, 1) := dk_29 (dk_at dksX0_mixNode_4 4 rfl rfl)
theorem dX0_mixNode_100 : decode cX0_mixNode 100 = .ok (.invokevirtual 372, 3) := dk_182 1 116 (dk_at dksX0_mixNode_4 5 rfl rfl)
theorem dX0_mixNode_103 : decode cX0_mixNode 103 = .ok (.i2l, 1) := dk_133 (dk_at dksX0_mixNode_4 8 rfl rfl)
theorem dX0_mixNode_104 : decode cX0_mixNode 104 = .ok (.invokestatic 352, 3) := dk_184 1 96 (dk_at dksX0_mixNode_4 9 rfl rfl)
theorem dX0_mixNode_107 : decode cX0_mixNode 107 = .ok (.lstore 4, 2) := dk_55 4 (dk_at dksX0_mixNode_4 12 rfl rfl)
theorem dX0_mixNode_109 : decode cX0_mixNode 109 = .ok (.lload 4, 2) := dk_22 4 (dk_at dksX0_mixNode_4 14 rfl rfl)
theorem dX0_mixNode_111 : decode cX0_mixNode 111 = .ok (.aload_n 0, 1) := dk_42 (dk_at dksX0_mixNode_4 16 rfl rfl)
theorem dX0_mixNode_112 : decode cX0_mixNode 112 = .ok (.iload_n 3, 1) := dk_29 (dk_at dksX0_mixNode_4 17 rfl rfl)
theorem dX0_mixNode_113 : decode cX0_mixNode 113 = .ok (.invokevirtual 374, 3) := dk_182 1 118 (dk_at dksX0_mixNode_4 18 rfl rfl)
theorem dX0_mixNode_116 : decode cX0_mixNode 116 = .ok (.i2l, 1) := dk_133 (dk_at dksX0_mixNode_4 21 rfl rfl)
theorem dX0_mixNode_117 : decode cX0_mixNode 117 = .ok (.invokestatic 352, 3) := dk_184 1 96 (dk_at dksX0_mixNode_5 0 rfl rfl)
theorem dX0_mixNode_120 : decode cX0_mixNode 120 = .ok (.aload_n 0, 1) := dk_42 (dk_at dksX0_mixNode_5 3 rfl rfl)
theorem dX0_mixNode_121 : decode cX0_mixNode 121 = .ok (.iload_n 3, 1) := dk_29 (dk_at dksX0_mixNode_5 4 rfl rfl)
theorem dX0_mixNode_122 : decode cX0_mixNode 122 = .ok (.invokevirtual 376, 3) := dk_182 1 120 (dk_at dksX0_mixNode_5 5 rfl rfl)
theorem dX0_mixNode_125 : decode cX0_mixNode 125 = .ok (.i2l, 1) := dk_133 (dk_at dksX0_mixNode_5 8 rfl rfl)
theorem dX0_mixNode_126 : decode cX0_mixNode 126 = .ok (.invokestatic 352, 3) := dk_184 1 96 (dk_at dksX0_mixNode_5 9 rfl rfl)
theorem dX0_mixNode_129 : decode cX0_mixNode 129 = .ok (.lstore 4, 2) := dk_55 4 (dk_at dksX0_mixNode_5 12 rfl rfl)
theorem dX0_mixNode_131 : decode cX0_mixNode 131 = .ok (.iconst 0, 1) := dk_3 (dk_at dksX0_mixNode_5 14 rfl rfl)
theorem dX0_mixNode_132 : decode cX0_mixNode 132 = .ok (.istore 6, 2) := dk_54 6 (dk_at dksX0_mixNode_5 15 rfl rfl)
theorem dX0_mixNode_134 : decode cX0_mixNode 134 = .ok (.iload 6, 2) := dk_21 6 (dk_at dksX0_mixNode_5 17 rfl rfl)
theorem dX0_mixNode_136 : decode cX0_mixNode 136 = .ok (.aload_n 0, 1) := dk_42 (dk_at dksX0_mixNode_5 19 rfl rfl)
theorem dX0_mixNode_137 : decode cX0_mixNode 137 = .ok (.iload_n 3, 1) := dk_29 (dk_at dksX0_mixNode_5 20 rfl rfl)
theorem dX0_mixNode_138 : decode cX0_mixNode 138 = .ok (.invokevirtual 376, 3) := dk_182 1 120 (dk_at dksX0_mixNode_5 21 rfl rfl)
theorem dX0_mixNode_141 : decode cX0_mixNode 141 = .ok (.if_icmp .ge 24, 3) := dk_162 0 24 (dk_at dksX0_mixNode_6 0 rfl rfl)
theorem dX0_mixNode_144 : decode cX0_mixNode 144 = .ok (.lload 4, 2) := dk_22 4 (dk_at dksX0_mixNode_6 3 rfl rfl)
theorem dX0_mixNode_146 : decode cX0_mixNode 146 = .ok (.aload_n 0, 1) := dk_42 (dk_at dksX0_mixNode_6 5 rfl rfl)
theorem dX0_mixNode_147 : decode cX0_mixNode 147 = .ok (.iload_n 3, 1) := dk_29 (dk_at dksX0_mixNode_6 6 rfl rfl)
theorem dX0_mixNode_148 : decode cX0_mixNode 148 = .ok (.iload 6, 2) := dk_21 6 (dk_at dksX0_mixNode_6 7 rfl rfl)
theorem dX0_mixNode_150 : decode cX0_mixNode 150 = .ok (.invokevirtual 378, 3) := dk_182 1 122 (dk_at dksX0_mixNode_6 9 rfl rfl)
theorem dX0_mixNode_153 : decode cX0_mixNode 153 = .ok (.i2l, 1) := dk_133 (dk_at dksX0_mixNode_6 12 rfl rfl)
theorem dX0_mixNode_154 : decode cX0_mixNode 154 = .ok (.invokestatic 352, 3) := dk_184 1 96 (dk_at dksX0_mixNode_6 13 rfl rfl)
theorem dX0_mixNode_157 : decode cX0_mixNode 157 = .ok (.lstore 4, 2) := dk_55 4 (dk_at dksX0_mixNode_6 16 rfl rfl)
theorem dX0_mixNode_159 : decode cX0_mixNode 159 = .ok (.iinc 6 1, 3) := dk_132 6 1 (dk_at dksX0_mixNode_6 18 rfl rfl)
theorem dX0_mixNode_162 : decode cX0_mixNode 162 = .ok (.goto (-28), 3) := dk_167 255 228 (dk_at dksX0_mixNode_6 21 rfl rfl)
theorem dX0_mixNode_165 : decode cX0_mixNode 165 = .ok (.lload 4, 2) := dk_22 4 (dk_at dksX0_mixNode_7 0 rfl rfl)
theorem dX0_mixNode_167 : decode cX0_mixNode 167 = .ok (.aload_n 0, 1) := dk_42 (dk_at dksX0_mixNode_7 2 rfl rfl)
theorem dX0_mixNode_168 : decode cX0_mixNode 168 = .ok (.iload_n 3, 1) := dk_29 (dk_at dksX0_mixNode_7 3 rfl rfl)
theorem dX0_mixNode_169 : decode cX0_mixNode 169 = .ok (.invokevirtual 381, 3) := dk_182 1 125 (dk_at dksX0_mixNode_7 4 rfl rfl)
theorem dX0_mixNode_172 : decode cX0_mixNode 172 = .ok (.i2l, 1) := dk_133 (dk_at dksX0_mixNode_7 7 rfl rfl)
theorem dX0_mixNode_173 : decode cX0_mixNode 173 = .ok (.invokestatic 352, 3) := dk_184 1 96 (dk_at dksX0_mixNode_7 8 rfl rfl)
theorem dX0_mixNode_176 : decode cX0_mixNode 176 = .ok (.lstore 4, 2) := dk_55 4 (dk_at dksX0_mixNode_7 11 rfl rfl)
theorem dX0_mixNode_178 : decode cX0_mixNode 178 = .ok (.aload_n 0, 1) := dk_42 (dk_at dksX0_mixNode_7 13 rfl rfl)
theorem dX0_mixNode_179 : decode cX0_mixNode 179 = .ok (.getfield 10, 3) := dk_180 0 10 (dk_at dksX0_mixNode_7 14 rfl rfl)
theorem dX0_mixNode_182 : decode cX0_mixNode 182 = .ok (.getfield 69, 3) := dk_180 0 69 (dk_at dksX0_mixNode_7 17 rfl rfl)
theorem dX0_mixNode_185 : decode cX0_mixNode 185 = .ok (.iload_n 3, 1) := dk_29 (dk_at dksX0_mixNode_7 20 rfl rfl)
theorem dX0_mixNode_186 : decode cX0_mixNode 186 = .ok (.aaload, 1) := dk_50 (dk_at dksX0_mixNode_7 21 rfl rfl)
theorem dX0_mixNode_187 : decode cX0_mixNode 187 = .ok (.getfield 227, 3) := dk_180 0 227 (dk_at dksX0_mixNode_8 0 rfl rfl)
theorem dX0_mixNode_190 : decode cX0_mixNode 190 = .ok (.invokevirtual 383, 3) := dk_182 1 127 (dk_at dksX0_mixNode_8 3 rfl rfl)
theorem dX0_mixNode_193 : decode cX0_mixNode 193 = .ok (.astore 6, 2) := dk_58 6 (dk_at dksX0_mixNode_8 6 rfl rfl)
theorem dX0_mixNode_195 : decode cX0_mixNode 195 = .ok (.aload 6, 2) := dk_25 6 (dk_at dksX0_mixNode_8 8 rfl rfl)
theorem dX0_mixNode_197 : decode cX0_mixNode 197 = .ok (.invokeinterface 322 1, 5) := by decide +kernel
theorem dX0_mixNode_202 : decode cX0_mixNode 202 = .ok (.ifCond .eq 49, 3) := dk_153 0 49 (dk_at dksX0_mixNode_8 15 rfl rfl)
theorem dX0_mixNode_205 : decode cX0_mixNode 205 = .ok (.aload 6, 2) := dk_25 6 (dk_at dksX0_mixNode_8 18 rfl rfl)
theorem dX0_mixNode_207 : decode cX0_mixNode 207 = .ok (.invokeinterface 327 1, 5) := by decide +kernel
theorem dX0_mixNode_212 : decode cX0_mixNode 212 = .ok (.checkcast 42, 3) := dk_192 0 42 (dk_at dksX0_mixNode_9 5 rfl rfl)
theorem dX0_mixNode_215 : decode cX0_mixNode 215 = .ok (.astore 7, 2) := dk_58 7 (dk_at dksX0_mixNode_9 8 rfl rfl)
theorem dX0_mixNode_217 : decode cX0_mixNode 217 = .ok (.lload 4, 2) := dk_22 4 (dk_at dksX0_mixNode_9 10 rfl rfl)
theorem dX0_mixNode_219 : decode cX0_mixNode 219 = .ok (.aload 7, 2) := dk_25 7 (dk_at dksX0_mixNode_9 12 rfl rfl)
theorem dX0_mixNode_221 : decode cX0_mixNode 221 = .ok (.invokevirtual 224, 3) := dk_182 0 224 (dk_at dksX0_mixNode_9 14 rfl rfl)
theorem dX0_mixNode_224 : decode cX0_mixNode 224 = .ok (.i2l, 1) := dk_133 (dk_at dksX0_mixNode_9 17 rfl rfl)
theorem dX0_mixNode_225 : decode cX0_mixNode 225 = .ok (.invokestatic 352, 3) := dk_184 1 96 (dk_at dksX0_mixNode_9 18 rfl rfl)
theorem dX0_mixNode_228 : decode cX0_mixNode 228 = .ok (.aload 7, 2) := dk_25 7 (dk_at dksX0_mixNode_9 21 rfl rfl)
theorem dX0_mixNode_230 : decode cX0_mixNode 230 = .ok (.getfield 241, 3) := dk_180 0 241 (dk_at dksX0_mixNode_10 0 rfl rfl)
theorem dX0_mixNode_233 : decode cX0_mixNode 233 = .ok (.i2l, 1) := dk_133 (dk_at dksX0_mixNode_10 3 rfl rfl)
theorem dX0_mixNode_234 : decode cX0_mixNode 234 = .ok (.invokestatic 352, 3) := dk_184 1 96 (dk_at dksX0_mixNode_10 4 rfl rfl)
theorem dX0_mixNode_237 : decode cX0_mixNode 237 = .ok (.aload 7, 2) := dk_25 7 (dk_at dksX0_mixNode_10 7 rfl rfl)
theorem dX0_mixNode_239 : decode cX0_mixNode 239 = .ok (.getfield 244, 3) := dk_180 0 244 (dk_at dksX0_mixNode_10 9 rfl rfl)
theorem dX0_mixNode_242 : decode cX0_mixNode 242 = .ok (.i2l, 1) := dk_133 (dk_at dksX0_mixNode_10 12 rfl rfl)
theorem dX0_mixNode_243 : decode cX0_mixNode 243 = .ok (.invokestatic 352, 3) := dk_184 1 96 (dk_at dksX0_mixNode_10 13 rfl rfl)
theorem dX0_mixNode_246 : decode cX0_mixNode 246 = .ok (.lstore 4, 2) := dk_55 4 (dk_at dksX0_mixNode_10 16 rfl rfl)
theorem dX0_mixNode_248 : decode cX0_mixNode 248 = .ok (.goto (-53), 3) := dk_167 255 203 (dk_at dksX0_mixNode_10 18 rfl rfl)
theorem dX0_mixNode_251 : decode cX0_mixNode 251 = .ok (.lload 4, 2) := dk_22 4 (dk_at dksX0_mixNode_10 21 rfl rfl)
theorem dX0_mixNode_253 : decode cX0_mixNode 253 = .ok (.lreturn, 1) := dk_173 (dk_at dksX0_mixNode_10 23 rfl rfl)
theorem q102 : (Jvm.Cond.initialized "ArbitratedBus") ∈ lw_all := lw_g (lw_at lw_m1 1 rfl) rfl
theorem q171 : (Jvm.Cond.instantiable "ArbitratedBus" (5 : Nat)) ∈ lw_all := lw_g (lw_at lw_m1 70 rfl) rfl
theorem q173 : (Jvm.Cond.instanceMethod ({ cls := "ArbitratedBus", name := "<init>", desc := "()V" } : Jvm.MethodName)) ∈ lw_all := lw_g (lw_at lw_m1 72 rfl) rfl
theorem q174 : (Jvm.Cond.code ({ cls := "ArbitratedBus", name := "<init>", desc := "()V" } : Jvm.MethodName) prog_1_method_4_code (1 : Nat) (Option.none : Option Jvm.ClassFile.FieldType)) ∈ lw_all := lw_g (lw_at lw_m1 73 rfl) rfl
theorem q175 : (Jvm.Cond.methodLink "ArbitratedBus" (1 : Nat) ({ cls := "java/lang/Object", name := "<init>", desc := "()V" } : Jvm.MethodName)) ∈ lw_all := lw_g (lw_at lw_m1 74 rfl) rfl
theorem q178 : (Jvm.Cond.classLink "ArbitratedBus" (7 : Nat) "ArbitratedBus$Bus") ∈ lw_all := lw_g (lw_at lw_m1 77 rfl) rfl
theorem q180 : (Jvm.Cond.methodLink "ArbitratedBus" (9 : Nat) ({ cls := "ArbitratedBus$Bus", name := "<init>", desc := "()V" } : Jvm.MethodName)) ∈ lw_all := lw_g (lw_at lw_m1 79 rfl) rfl
theorem q371 : (Jvm.Cond.fieldLinkNest "ArbitratedBus" (118 : Nat) "ArbitratedBus$Node" "phase" "LArbitratedBus$Phase;" "ArbitratedBus") ∈ lw_tbl := lw_at lw_m2 30 rfl
theorem q376 : (Jvm.Cond.fieldLinkNest "ArbitratedBus" (190 : Nat) "ArbitratedBus$Node" "transmitErrors" "I" "ArbitratedBus") ∈ lw_tbl := lw_at lw_m2 35 rfl
theorem q379 : (Jvm.Cond.fieldLinkNest "ArbitratedBus" (193 : Nat) "ArbitratedBus$Node" "receiveErrors" "I" "ArbitratedBus") ∈ lw_tbl := lw_at lw_m2 38 rfl
theorem q396 : (Jvm.Cond.fieldLinkNest "ArbitratedBus" (140 : Nat) "ArbitratedBus$Node" "waiting" "Ljava/util/PriorityQueue;" "ArbitratedBus") ∈ lw_tbl := lw_at lw_m2 55 rfl
theorem q398 : (Jvm.Cond.fieldLinkNest "ArbitratedBus" (227 : Nat) "ArbitratedBus$Node" "received" "Ljava/util/ArrayDeque;" "ArbitratedBus") ∈ lw_tbl := lw_at lw_m2 57 rfl
theorem q400 : (Jvm.Cond.fieldLinkNest "ArbitratedBus" (85 : Nat) "ArbitratedBus$Node" "answers" "Ljava/util/TreeMap;" "ArbitratedBus") ∈ lw_tbl := lw_at lw_m2 59 rfl
theorem q402 : (Jvm.Cond.fieldLinkNest "ArbitratedBus" (73 : Nat) "ArbitratedBus$Node" "mask" "I" "ArbitratedBus") ∈ lw_tbl := lw_at lw_m2 61 rfl
theorem q404 : (Jvm.Cond.fieldLinkNest "ArbitratedBus" (78 : Nat) "ArbitratedBus$Node" "code" "I" "ArbitratedBus") ∈ lw_tbl := lw_at lw_m2 63 rfl
theorem q407 : (Jvm.Cond.fieldLinkNest "ArbitratedBus" (201 : Nat) "ArbitratedBus$Node" "errors" "[I" "ArbitratedBus") ∈ lw_tbl := lw_at lw_m2 66 rfl
theorem q409 : (Jvm.Cond.fieldLinkNest "ArbitratedBus" (205 : Nat) "ArbitratedBus$Node" "lastError" "I" "ArbitratedBus") ∈ lw_tbl := lw_at lw_m2 68 rfl
theorem q411 : (Jvm.Cond.fieldLinkNest "ArbitratedBus" (208 : Nat) "ArbitratedBus$Node" "lost" "I" "ArbitratedBus") ∈ lw_tbl := lw_at lw_m2 70 rfl
theorem q413 : (Jvm.Cond.fieldLinkNest "ArbitratedBus" (211 : Nat) "ArbitratedBus$Node" "overloads" "I" "ArbitratedBus") ∈ lw_tbl := lw_at lw_m2 72 rfl
theorem q416 : (Jvm.Cond.fieldLinkNest "ArbitratedBus" (214 : Nat) "ArbitratedBus$Node" "sent" "I" "ArbitratedBus") ∈ lw_tbl := lw_at lw_m2 75 rfl
theorem q418 : (Jvm.Cond.fieldLinkNest "ArbitratedBus" (217 : Nat) "ArbitratedBus$Node" "overruns" "I" "ArbitratedBus") ∈ lw_tbl := lw_at lw_m2 77 rfl
theorem q470 : (Jvm.Cond.fieldLinkNest "ArbitratedBus" (69 : Nat) "ArbitratedBus$Bus" "nodes" "[LArbitratedBus$Node;" "ArbitratedBus") ∈ lw_tbl := lw_at lw_m2 129 rfl
theorem q472 : (Jvm.Cond.fieldLinkNest "ArbitratedBus" (159 : Nat) "ArbitratedBus$Bus" "disturbances" "Ljava/util/LinkedList;" "ArbitratedBus") ∈ lw_tbl := lw_at lw_m2 131 rfl
theorem q474 : (Jvm.Cond.fieldLinkNest "ArbitratedBus" (251 : Nat) "ArbitratedBus$Bus" "history" "[B" "ArbitratedBus") ∈ lw_tbl := lw_at lw_m2 133 rfl
theorem q476 : (Jvm.Cond.fieldLinkNest "ArbitratedBus" (168 : Nat) "ArbitratedBus$Bus" "time" "I" "ArbitratedBus") ∈ lw_tbl := lw_at lw_m2 135 rfl
theorem q479 : (Jvm.Cond.fieldLinkNest "ArbitratedBus" (55 : Nat) "ArbitratedBus$Bus" "passiveLimit" "I" "ArbitratedBus") ∈ lw_tbl := lw_at lw_m2 138 rfl
theorem q481 : (Jvm.Cond.fieldLinkNest "ArbitratedBus" (59 : Nat) "ArbitratedBus$Bus" "offLimit" "I" "ArbitratedBus") ∈ lw_tbl := lw_at lw_m2 140 rfl
theorem q485 : (Jvm.Cond.fieldLinkNest "ArbitratedBus" (62 : Nat) "ArbitratedBus$Bus" "recovery" "I" "ArbitratedBus") ∈ lw_tbl := lw_at lw_m2 144 rfl
theorem q502 : (Jvm.Cond.classLink "ArbitratedBus" (20 : Nat) "ArbitratedBus$Messages") ∈ lw_all := lw_g (lw_at lw_m2 161 rfl) rfl
theorem q504 : (Jvm.Cond.methodLinkNest "ArbitratedBus" (22 : Nat) ({ cls := "ArbitratedBus$Messages", name := "<init>", desc := "()V" } : Jvm.MethodName) "ArbitratedBus") ∈ lw_tbl := lw_at lw_m2 163 rfl
theorem q513 : (Jvm.Cond.fieldLinkNest "ArbitratedBus" (286 : Nat) "ArbitratedBus$Messages" "all" "Ljava/util/TreeMap;" "ArbitratedBus") ∈ lw_tbl := lw_at lw_m2 172 rfl
theorem q517 : (Jvm.Cond.fieldLink "ArbitratedBus" (10 : Nat) "ArbitratedBus" "now" "LArbitratedBus$Bus;") ∈ lw_all := lw_g (lw_at lw_m2 176 rfl) rfl
theorem q518 : (Jvm.Cond.fieldLink "ArbitratedBus" (16 : Nat) "ArbitratedBus" "saved" "[LArbitratedBus$Bus;") ∈ lw_all := lw_g (lw_at lw_m2 177 rfl) rfl
theorem q519 : (Jvm.Cond.fieldLink "ArbitratedBus" (23 : Nat) "ArbitratedBus" "messages" "LArbitratedBus$Messages;") ∈ lw_all := lw_g (lw_at lw_m2 178 rfl) rfl
theorem q521 : (Jvm.Cond.fieldLink "ArbitratedBus" (27 : Nat) "ArbitratedBus" "text" "[B") ∈ lw_all := lw_g (lw_at lw_m2 180 rfl) rfl
theorem q523 : (Jvm.Cond.fieldLink "ArbitratedBus" (302 : Nat) "ArbitratedBus" "length" "I") ∈ lw_all := lw_g (lw_at lw_m2 182 rfl) rfl
theorem q524 : (Jvm.Cond.lays "ArbitratedBus" "ArbitratedBus" "now" "LArbitratedBus$Bus;") ∈ lw_all := lw_g (lw_at lw_m2 183 rfl) rfl
theorem q525 : (Jvm.Cond.soleField "ArbitratedBus" "now") ∈ lw_all := lw_g (lw_at lw_m2 184 rfl) rfl
theorem q526 : (Jvm.Cond.laysFinal "ArbitratedBus" "ArbitratedBus" "saved" "[LArbitratedBus$Bus;") ∈ lw_all := lw_g (lw_at lw_m2 185 rfl) rfl
theorem q527 : (Jvm.Cond.soleField "ArbitratedBus" "saved") ∈ lw_all := lw_g (lw_at lw_m2 186 rfl) rfl
theorem q528 : (Jvm.Cond.laysFinal "ArbitratedBus" "ArbitratedBus" "messages" "LArbitratedBus$Messages;") ∈ lw_all := lw_g (lw_at lw_m2 187 rfl) rfl
theorem q529 : (Jvm.Cond.soleField "ArbitratedBus" "messages") ∈ lw_all := lw_g (lw_at lw_m2 188 rfl) rfl
theorem q530 : (Jvm.Cond.laysFinal "ArbitratedBus" "ArbitratedBus" "text" "[B") ∈ lw_all := lw_g (lw_at lw_m2 189 rfl) rfl
theorem q531 : (Jvm.Cond.soleField "ArbitratedBus" "text") ∈ lw_all := lw_g (lw_at lw_m2 190 rfl) rfl
theorem q532 : (Jvm.Cond.lays "ArbitratedBus" "ArbitratedBus" "length" "I") ∈ lw_all := lw_g (lw_at lw_m2 191 rfl) rfl
theorem q533 : (Jvm.Cond.soleField "ArbitratedBus" "length") ∈ lw_all := lw_g (lw_at lw_m2 192 rfl) rfl
theorem q534 : (Jvm.Cond.superclass "ArbitratedBus" "java/lang/Object") ∈ lw_all := lw_g (lw_at lw_m2 193 rfl) rfl
theorem q536 : (Jvm.Cond.instanceMethod ({ cls := "ArbitratedBus", name := "setLimits", desc := "(III)I" } : Jvm.MethodName)) ∈ lw_all := lw_g (lw_at lw_m2 195 rfl) rfl
theorem q537 : (Jvm.Cond.selects "ArbitratedBus" ({ cls := "ArbitratedBus", name := "setLimits", desc := "(III)I" } : Jvm.MethodName) ({ cls := "ArbitratedBus", name := "setLimits", desc := "(III)I" } : Jvm.MethodName)) ∈ lw_all := lw_g (lw_at lw_m2 196 rfl) rfl
theorem q538 : (Jvm.Cond.code ({ cls := "ArbitratedBus", name := "setLimits", desc := "(III)I" } : Jvm.MethodName) prog_1_method_7_code (5 : Nat) (Option.some Jvm.ClassFile.FieldType.int)) ∈ lw_all := lw_g (lw_at lw_m2 197 rfl) rfl
theorem q539 : (Jvm.Cond.constantLong "ArbitratedBus" (47 : Nat) (8 : Int64)) ∈ lw_all := lw_g (lw_at lw_m2 198 rfl) rfl
theorem q540 : (Jvm.Cond.constantLong "ArbitratedBus" (49 : Nat) (128 : Int64)) ∈ lw_all := lw_g (lw_at lw_m2 199 rfl) rfl
theorem q541 : (Jvm.Cond.methodLink "ArbitratedBus" (33 : Nat) ({ cls := "ArbitratedBus", name := "isIn", desc := "(JJJ)Z" } : Jvm.MethodName)) ∈ lw_all := lw_g (lw_at lw_m2 200 rfl) rfl
theorem q542 : (Jvm.Cond.static ({ cls := "ArbitratedBus", name := "isIn", desc := "(JJJ)Z" } : Jvm.MethodName)) ∈ lw_all := lw_g (lw_at lw_m2 201 rfl) rfl
theorem q543 : (Jvm.Cond.code ({ cls := "ArbitratedBus", name := "isIn", desc := "(JJJ)Z" } : Jvm.MethodName) prog_1_method_1_code (6 : Nat) (Option.some Jvm.ClassFile.FieldType.boolean)) ∈ lw_all := lw_g (lw_at lw_m2 202 rfl) rfl
theorem q544 : (Jvm.Cond.constantLong "ArbitratedBus" (51 : Nat) (16 : Int64)) ∈ lw_all := lw_g (lw_at lw_m2 203 rfl) rfl
theorem q545 : (Jvm.Cond.constantLong "ArbitratedBus" (53 : Nat) (256 : Int64)) ∈ lw_all := lw_g (lw_at lw_m2 204 rfl) rfl
theorem q547 : (Jvm.Cond.instanceMethod ({ cls := "ArbitratedBus", name := "setFilter", desc := "(III)I" } : Jvm.MethodName)) ∈ lw_all := lw_g (lw_at lw_m2 206 rfl) rfl
theorem q548 : (Jvm.Cond.selects "ArbitratedBus" ({ cls := "ArbitratedBus", name := "setFilter", desc := "(III)I" } : Jvm.MethodName) ({ cls := "ArbitratedBus", name := "setFilter", desc := "(III)I" } : Jvm.MethodName)) ∈ lw_all := lw_g (lw_at lw_m2 207 rfl) rfl
theorem q549 : (Jvm.Cond.code ({ cls := "ArbitratedBus", name := "setFilter", desc := "(III)I" } : Jvm.MethodName) prog_1_method_8_code (5 : Nat) (Option.some Jvm.ClassFile.FieldType.int)) ∈ lw_all := lw_g (lw_at lw_m2 208 rfl) rfl
theorem q550 : (Jvm.Cond.methodLink "ArbitratedBus" (65 : Nat) ({ cls := "ArbitratedBus", name := "isNode", desc := "(I)Z" } : Jvm.MethodName)) ∈ lw_all := lw_g (lw_at lw_m2 209 rfl) rfl
theorem q551 : (Jvm.Cond.static ({ cls := "ArbitratedBus", name := "isNode", desc := "(I)Z" } : Jvm.MethodName)) ∈ lw_all := lw_g (lw_at lw_m2 210 rfl) rfl
theorem q552 : (Jvm.Cond.code ({ cls := "ArbitratedBus", name := "isNode", desc := "(I)Z" } : Jvm.MethodName) prog_1_method_5_code (1 : Nat) (Option.some Jvm.ClassFile.FieldType.boolean)) ∈ lw_all := lw_g (lw_at lw_m2 211 rfl) rfl
theorem q553 : (Jvm.Cond.constantLong "ArbitratedBus" (31 : Nat) (3 : Int64)) ∈ lw_all := lw_g (lw_at lw_m2 212 rfl) rfl
theorem q554 : (Jvm.Cond.constantLong "ArbitratedBus" (37 : Nat) (2047 : Int64)) ∈ lw_all := lw_g (lw_at lw_m2 213 rfl) rfl
theorem q556 : (Jvm.Cond.instanceMethod ({ cls := "ArbitratedBus", name := "setAnswer", desc := "(IIII)I" } : Jvm.MethodName)) ∈ lw_all := lw_g (lw_at lw_m2 215 rfl) rfl
theorem q557 : (Jvm.Cond.selects "ArbitratedBus" ({ cls := "ArbitratedBus", name := "setAnswer", desc := "(IIII)I" } : Jvm.MethodName) ({ cls := "ArbitratedBus", name := "setAnswer", desc := "(IIII)I" } : Jvm.MethodName)) ∈ lw_all := lw_g (lw_at lw_m2 216 rfl) rfl
theorem q558 : (Jvm.Cond.code ({ cls := "ArbitratedBus", name := "setAnswer", desc := "(IIII)I" } : Jvm.MethodName) prog_1_method_9_code (6 : Nat) (Option.some Jvm.ClassFile.FieldType.int)) ∈ lw_all := lw_g (lw_at lw_m2 217 rfl) rfl
theorem q559 : (Jvm.Cond.methodLink "ArbitratedBus" (81 : Nat) ({ cls := "ArbitratedBus", name := "isFrame", desc := "(IZII)Z" } : Jvm.MethodName)) ∈ lw_all := lw_g (lw_at lw_m2 218 rfl) rfl
theorem q560 : (Jvm.Cond.static ({ cls := "ArbitratedBus", name := "isFrame", desc := "(IZII)Z" } : Jvm.MethodName)) ∈ lw_all := lw_g (lw_at lw_m2 219 rfl) rfl
theorem q561 : (Jvm.Cond.code ({ cls := "ArbitratedBus", name := "isFrame", desc := "(IZII)Z" } : Jvm.MethodName) prog_1_method_6_code (4 : Nat) (Option.some Jvm.ClassFile.FieldType.boolean)) ∈ lw_all := lw_g (lw_at lw_m2 220 rfl) rfl
theorem q562 : (Jvm.Cond.constantLong "ArbitratedBus" (39 : Nat) (4 : Int64)) ∈ lw_all := lw_g (lw_at lw_m2 221 rfl) rfl
theorem q563 : (Jvm.Cond.methodLink "ArbitratedBus" (41 : Nat) ({ cls := "ArbitratedBus$Frame", name := "fits", desc := "(II)Z" } : Jvm.MethodName)) ∈ lw_all := lw_g (lw_at lw_m2 222 rfl) rfl
theorem q566 : (Jvm.Cond.methodLink "ArbitratedBus" (89 : Nat) ({ cls := "java/util/TreeMap", name := "size", desc := "()I" } : Jvm.MethodName)) ∈ lw_all := lw_g (lw_at lw_m2 225 rfl) rfl
theorem q570 : (Jvm.Cond.methodLink "ArbitratedBus" (95 : Nat) ({ cls := "java/lang/Integer", name := "valueOf", desc := "(I)Ljava/lang/Integer;" } : Jvm.MethodName)) ∈ lw_all := lw_g (lw_at lw_m2 229 rfl) rfl
theorem q590 : (Jvm.Cond.methodLink "ArbitratedBus" (101 : Nat) ({ cls := "java/util/TreeMap", name := "containsKey", desc := "(Ljava/lang/Object;)Z" } : Jvm.MethodName)) ∈ lw_all := lw_g (lw_at lw_m3 9 rfl) rfl
theorem q672 : (Jvm.Cond.selects "ArbitratedBus" ({ cls := "java/lang/Object", name := "getClass", desc := "()Ljava/lang/Class;" } : Jvm.MethodName) ({ cls := "java/lang/Object", name := "getClass", desc := "()Ljava/lang/Class;" } : Jvm.MethodName)) ∈ lw_all := lw_g (lw_at lw_m3 91 rfl) rfl
theorem q985 : (Jvm.Cond.classLink "ArbitratedBus" (105 : Nat) "ArbitratedBus$Answer") ∈ lw_all := lw_g (lw_at lw_m4 164 rfl) rfl
theorem q987 : (Jvm.Cond.methodLink "ArbitratedBus" (107 : Nat) ({ cls := "ArbitratedBus$Answer", name := "<init>", desc := "(II)V" } : Jvm.MethodName)) ∈ lw_all := lw_g (lw_at lw_m4 166 rfl) rfl
theorem q1000 : (Jvm.Cond.methodLink "ArbitratedBus" (110 : Nat) ({ cls := "java/util/TreeMap", name := "put", desc := "(Ljava/lang/Object;Ljava/lang/Object;)Ljava/lang/Object;" } : Jvm.MethodName)) ∈ lw_all := lw_g (lw_at lw_m4 179 rfl) rfl
theorem q1080 : (Jvm.Cond.instanceMethod ({ cls := "ArbitratedBus", name := "removeAnswer", desc := "(II)I" } : Jvm.MethodName)) ∈ lw_all := lw_g (lw_at lw_m5 19 rfl) rfl
theorem q1081 : (Jvm.Cond.selects "ArbitratedBus" ({ cls := "ArbitratedBus", name := "removeAnswer", desc := "(II)I" } : Jvm.MethodName) ({ cls := "ArbitratedBus", name := "removeAnswer", desc := "(II)I" } : Jvm.MethodName)) ∈ lw_all := lw_g (lw_at lw_m5 20 rfl) rfl
theorem q1082 : (Jvm.Cond.code ({ cls := "ArbitratedBus", name := "removeAnswer", desc := "(II)I" } : Jvm.MethodName) prog_1_method_10_code (4 : Nat) (Option.some Jvm.ClassFile.FieldType.int)) ∈ lw_all := lw_g (lw_at lw_m5 21 rfl) rfl
theorem q1083 : (Jvm.Cond.methodLink "ArbitratedBus" (114 : Nat) ({ cls := "java/util/TreeMap", name := "remove", desc := "(Ljava/lang/Object;)Ljava/lang/Object;" } : Jvm.MethodName)) ∈ lw_all := lw_g (lw_at lw_m5 22 rfl) rfl
theorem q1099 : (Jvm.Cond.instanceMethod ({ cls := "ArbitratedBus", name := "detach", desc := "(I)I" } : Jvm.MethodName)) ∈ lw_all := lw_g (lw_at lw_m5 38 rfl) rfl
theorem q1100 : (Jvm.Cond.selects "ArbitratedBus" ({ cls := "ArbitratedBus", name := "detach", desc := "(I)I" } : Jvm.MethodName) ({ cls := "ArbitratedBus", name := "detach", desc := "(I)I" } : Jvm.MethodName)) ∈ lw_all := lw_g (lw_at lw_m5 39 rfl) rfl
theorem q1101 : (Jvm.Cond.code ({ cls := "ArbitratedBus", name := "detach", desc := "(I)I" } : Jvm.MethodName) prog_1_method_11_code (4 : Nat) (Option.some Jvm.ClassFile.FieldType.int)) ∈ lw_all := lw_g (lw_at lw_m5 40 rfl) rfl
theorem q1102 : (Jvm.Cond.fieldLink "ArbitratedBus" (122 : Nat) "ArbitratedBus$Phase" "OUT" "LArbitratedBus$Phase;") ∈ lw_all := lw_g (lw_at lw_m5 41 rfl) rfl
theorem q1104 : (Jvm.Cond.methodLink "ArbitratedBus" (127 : Nat) ({ cls := "ArbitratedBus$Phase", name := "ordinal", desc := "()I" } : Jvm.MethodName)) ∈ lw_all := lw_g (lw_at lw_m5 43 rfl) rfl
theorem q1119 : (Jvm.Cond.methodLinkNest "ArbitratedBus" (130 : Nat) ({ cls := "ArbitratedBus$Node", name := "enter", desc := "(LArbitratedBus$Phase;)V" } : Jvm.MethodName) "ArbitratedBus") ∈ lw_tbl := lw_at lw_m5 58 rfl
theorem q1124 : (Jvm.Cond.instanceMethod ({ cls := "ArbitratedBus", name := "attach", desc := "(I)I" } : Jvm.MethodName)) ∈ lw_all := lw_g (lw_at lw_m5 63 rfl) rfl
theorem q1125 : (Jvm.Cond.selects "ArbitratedBus" ({ cls := "ArbitratedBus", name := "attach", desc := "(I)I" } : Jvm.MethodName) ({ cls := "ArbitratedBus", name := "attach", desc := "(I)I" } : Jvm.MethodName)) ∈ lw_all := lw_g (lw_at lw_m5 64 rfl) rfl
theorem q1126 : (Jvm.Cond.code ({ cls := "ArbitratedBus", name := "attach", desc := "(I)I" } : Jvm.MethodName) prog_1_method_12_code (2 : Nat) (Option.some Jvm.ClassFile.FieldType.int)) ∈ lw_all := lw_g (lw_at lw_m5 65 rfl) rfl
theorem q1127 : (Jvm.Cond.fieldLink "ArbitratedBus" (134 : Nat) "ArbitratedBus$Phase" "LISTENING" "LArbitratedBus$Phase;") ∈ lw_all := lw_g (lw_at lw_m5 66 rfl) rfl
theorem q1129 : (Jvm.Cond.methodLink "ArbitratedBus" (137 : Nat) ({ cls := "ArbitratedBus$Bus", name := "attached", desc := "()I" } : Jvm.MethodName)) ∈ lw_all := lw_g (lw_at lw_m5 68 rfl) rfl
theorem q1135 : (Jvm.Cond.instanceMethod ({ cls := "ArbitratedBus", name := "request", desc := "(IIZII)I" } : Jvm.MethodName)) ∈ lw_all := lw_g (lw_at lw_m5 74 rfl) rfl
theorem q1136 : (Jvm.Cond.selects "ArbitratedBus" ({ cls := "ArbitratedBus", name := "request", desc := "(IIZII)I" } : Jvm.MethodName) ({ cls := "ArbitratedBus", name := "request", desc := "(IIZII)I" } : Jvm.MethodName)) ∈ lw_all := lw_g (lw_at lw_m5 75 rfl) rfl
theorem q1137 : (Jvm.Cond.code ({ cls := "ArbitratedBus", name := "request", desc := "(IIZII)I" } : Jvm.MethodName) prog_1_method_13_code (7 : Nat) (Option.some Jvm.ClassFile.FieldType.int)) ∈ lw_all := lw_g (lw_at lw_m5 76 rfl) rfl
theorem q1138 : (Jvm.Cond.methodLink "ArbitratedBus" (144 : Nat) ({ cls := "java/util/PriorityQueue", name := "size", desc := "()I" } : Jvm.MethodName)) ∈ lw_all := lw_g (lw_at lw_m5 77 rfl) rfl
theorem q1142 : (Jvm.Cond.methodLink "ArbitratedBus" (147 : Nat) ({ cls := "ArbitratedBus$Node", name := "add", desc := "(IZII)V" } : Jvm.MethodName)) ∈ lw_all := lw_g (lw_at lw_m5 81 rfl) rfl
theorem q1156 : (Jvm.Cond.fieldLinkNest "ArbitratedBus" (241 : Nat) "ArbitratedBus$Frame" "length" "I" "ArbitratedBus") ∈ lw_tbl := lw_at lw_m5 95 rfl
theorem q1158 : (Jvm.Cond.fieldLinkNest "ArbitratedBus" (244 : Nat) "ArbitratedBus$Frame" "data" "I" "ArbitratedBus") ∈ lw_tbl := lw_at lw_m5 97 rfl
theorem q1222 : (Jvm.Cond.instanceMethod ({ cls := "ArbitratedBus", name := "cancel", desc := "(II)I" } : Jvm.MethodName)) ∈ lw_all := lw_g (lw_at lw_m5 161 rfl) rfl
theorem q1223 : (Jvm.Cond.selects "ArbitratedBus" ({ cls := "ArbitratedBus", name := "cancel", desc := "(II)I" } : Jvm.MethodName) ({ cls := "ArbitratedBus", name := "cancel", desc := "(II)I" } : Jvm.MethodName)) ∈ lw_all := lw_g (lw_at lw_m5 162 rfl) rfl
theorem q1224 : (Jvm.Cond.code ({ cls := "ArbitratedBus", name := "cancel", desc := "(II)I" } : Jvm.MethodName) prog_1_method_14_code (3 : Nat) (Option.some Jvm.ClassFile.FieldType.int)) ∈ lw_all := lw_g (lw_at lw_m5 163 rfl) rfl
theorem q1225 : (Jvm.Cond.methodLink "ArbitratedBus" (151 : Nat) ({ cls := "ArbitratedBus$Node", name := "cancel", desc := "(I)I" } : Jvm.MethodName)) ∈ lw_all := lw_g (lw_at lw_m5 164 rfl) rfl
theorem q1373 : (Jvm.Cond.static ({ cls := "ArbitratedBus", name := "shifted", desc := "(II)I" } : Jvm.MethodName)) ∈ lw_all := lw_g (lw_at lw_m6 72 rfl) rfl
theorem q1374 : (Jvm.Cond.code ({ cls := "ArbitratedBus", name := "shifted", desc := "(II)I" } : Jvm.MethodName) prog_1_method_2_code (4 : Nat) (Option.some Jvm.ClassFile.FieldType.int)) ∈ lw_all := lw_g (lw_at lw_m6 73 rfl) rfl
theorem q1752 : (Jvm.Cond.instanceMethod ({ cls := "ArbitratedBus", name := "disturb", desc := "(II)I" } : Jvm.MethodName)) ∈ lw_all := lw_g (lw_at lw_m7 211 rfl) rfl
theorem q1753 : (Jvm.Cond.selects "ArbitratedBus" ({ cls := "ArbitratedBus", name := "disturb", desc := "(II)I" } : Jvm.MethodName) ({ cls := "ArbitratedBus", name := "disturb", desc := "(II)I" } : Jvm.MethodName)) ∈ lw_all := lw_g (lw_at lw_m7 212 rfl) rfl
theorem q1754 : (Jvm.Cond.code ({ cls := "ArbitratedBus", name := "disturb", desc := "(II)I" } : Jvm.MethodName) prog_1_method_15_code (3 : Nat) (Option.some Jvm.ClassFile.FieldType.int)) ∈ lw_all := lw_g (lw_at lw_m7 213 rfl) rfl
theorem q1755 : (Jvm.Cond.constantLong "ArbitratedBus" (155 : Nat) (15 : Int64)) ∈ lw_all := lw_g (lw_at lw_m7 214 rfl) rfl
theorem q1756 : (Jvm.Cond.constantLong "ArbitratedBus" (157 : Nat) (200 : Int64)) ∈ lw_all := lw_g (lw_at lw_m7 215 rfl) rfl
theorem q1757 : (Jvm.Cond.methodLink "ArbitratedBus" (163 : Nat) ({ cls := "java/util/LinkedList", name := "size", desc := "()I" } : Jvm.MethodName)) ∈ lw_all := lw_g (lw_at lw_m7 216 rfl) rfl
theorem q1758 : (Jvm.Cond.classLink "ArbitratedBus" (166 : Nat) "ArbitratedBus$Disturbance") ∈ lw_all := lw_g (lw_at lw_m7 217 rfl) rfl
theorem q1760 : (Jvm.Cond.methodLink "ArbitratedBus" (171 : Nat) ({ cls := "ArbitratedBus$Disturbance", name := "<init>", desc := "(II)V" } : Jvm.MethodName)) ∈ lw_all := lw_g (lw_at lw_m7 219 rfl) rfl
theorem q1773 : (Jvm.Cond.methodLink "ArbitratedBus" (172 : Nat) ({ cls := "java/util/LinkedList", name := "addLast", desc := "(Ljava/lang/Object;)V" } : Jvm.MethodName)) ∈ lw_all := lw_g (lw_at lw_m7 232 rfl) rfl
theorem q1803 : (Jvm.Cond.instanceMethod ({ cls := "ArbitratedBus", name := "run", desc := "(I)I" } : Jvm.MethodName)) ∈ lw_all := lw_g (lw_at lw_m8 22 rfl) rfl
theorem q1804 : (Jvm.Cond.selects "ArbitratedBus" ({ cls := "ArbitratedBus", name := "run", desc := "(I)I" } : Jvm.MethodName) ({ cls := "ArbitratedBus", name := "run", desc := "(I)I" } : Jvm.MethodName)) ∈ lw_all := lw_g (lw_at lw_m8 23 rfl) rfl
theorem q1805 : (Jvm.Cond.code ({ cls := "ArbitratedBus", name := "run", desc := "(I)I" } : Jvm.MethodName) prog_1_method_16_code (2 : Nat) (Option.some Jvm.ClassFile.FieldType.int)) ∈ lw_all := lw_g (lw_at lw_m8 24 rfl) rfl
theorem q1806 : (Jvm.Cond.methodLink "ArbitratedBus" (176 : Nat) ({ cls := "ArbitratedBus$Bus", name := "run", desc := "(I)I" } : Jvm.MethodName)) ∈ lw_all := lw_g (lw_at lw_m8 25 rfl) rfl
theorem q2283 : (Jvm.Cond.instanceMethod ({ cls := "ArbitratedBus", name := "settle", desc := "()I" } : Jvm.MethodName)) ∈ lw_all := lw_g (lw_at lw_m10 22 rfl) rfl
theorem q2284 : (Jvm.Cond.selects "ArbitratedBus" ({ cls := "ArbitratedBus", name := "settle", desc := "()I" } : Jvm.MethodName) ({ cls := "ArbitratedBus", name := "settle", desc := "()I" } : Jvm.MethodName)) ∈ lw_all := lw_g (lw_at lw_m10 23 rfl) rfl
theorem q2285 : (Jvm.Cond.code ({ cls := "ArbitratedBus", name := "settle", desc := "()I" } : Jvm.MethodName) prog_1_method_17_code (1 : Nat) (Option.some Jvm.ClassFile.FieldType.int)) ∈ lw_all := lw_g (lw_at lw_m10 24 rfl) rfl
theorem q2286 : (Jvm.Cond.methodLink "ArbitratedBus" (179 : Nat) ({ cls := "ArbitratedBus$Bus", name := "settle", desc := "()I" } : Jvm.MethodName)) ∈ lw_all := lw_g (lw_at lw_m10 25 rfl) rfl
theorem q2316 : (Jvm.Cond.instanceMethod ({ cls := "ArbitratedBus", name := "phase", desc := "(I)I" } : Jvm.MethodName)) ∈ lw_all := lw_g (lw_at lw_m10 55 rfl) rfl
theorem q2317 : (Jvm.Cond.selects "ArbitratedBus" ({ cls := "ArbitratedBus", name := "phase", desc := "(I)I" } : Jvm.MethodName) ({ cls := "ArbitratedBus", name := "phase", desc := "(I)I" } : Jvm.MethodName)) ∈ lw_all := lw_g (lw_at lw_m10 56 rfl) rfl
theorem q2318 : (Jvm.Cond.code ({ cls := "ArbitratedBus", name := "phase", desc := "(I)I" } : Jvm.MethodName) prog_1_method_18_code (2 : Nat) (Option.some Jvm.ClassFile.FieldType.int)) ∈ lw_all := lw_g (lw_at lw_m10 57 rfl) rfl
theorem q2320 : (Jvm.Cond.instanceMethod ({ cls := "ArbitratedBus", name := "isTransmitter", desc := "(I)I" } : Jvm.MethodName)) ∈ lw_all := lw_g (lw_at lw_m10 59 rfl) rfl
theorem q2321 : (Jvm.Cond.selects "ArbitratedBus" ({ cls := "ArbitratedBus", name := "isTransmitter", desc := "(I)I" } : Jvm.MethodName) ({ cls := "ArbitratedBus", name := "isTransmitter", desc := "(I)I" } : Jvm.MethodName)) ∈ lw_all := lw_g (lw_at lw_m10 60 rfl) rfl
theorem q2322 : (Jvm.Cond.code ({ cls := "ArbitratedBus", name := "isTransmitter", desc := "(I)I" } : Jvm.MethodName) prog_1_method_20_code (2 : Nat) (Option.some Jvm.ClassFile.FieldType.int)) ∈ lw_all := lw_g (lw_at lw_m10 61 rfl) rfl
theorem q2323 : (Jvm.Cond.methodLink "ArbitratedBus" (182 : Nat) ({ cls := "ArbitratedBus$Node", name := "isTransmitter", desc := "()Z" } : Jvm.MethodName)) ∈ lw_all := lw_g (lw_at lw_m10 62 rfl) rfl
theorem q2331 : (Jvm.Cond.methodLink "ArbitratedBus" (186 : Nat) ({ cls := "ArbitratedBus", name := "bit", desc := "(Z)I" } : Jvm.MethodName)) ∈ lw_all := lw_g (lw_at lw_m10 70 rfl) rfl
theorem q2332 : (Jvm.Cond.static ({ cls := "ArbitratedBus", name := "bit", desc := "(Z)I" } : Jvm.MethodName)) ∈ lw_all := lw_g (lw_at lw_m10 71 rfl) rfl
theorem q2333 : (Jvm.Cond.code ({ cls := "ArbitratedBus", name := "bit", desc := "(Z)I" } : Jvm.MethodName) prog_1_method_19_code (1 : Nat) (Option.some Jvm.ClassFile.FieldType.int)) ∈ lw_all := lw_g (lw_at lw_m10 72 rfl) rfl
theorem q2335 : (Jvm.Cond.instanceMethod ({ cls := "ArbitratedBus", name := "transmitErrors", desc := "(I)I" } : Jvm.MethodName)) ∈ lw_all := lw_g (lw_at lw_m10 74 rfl) rfl
theorem q2336 : (Jvm.Cond.selects "ArbitratedBus" ({ cls := "ArbitratedBus", name := "transmitErrors", desc := "(I)I" } : Jvm.MethodName) ({ cls := "ArbitratedBus", name := "transmitErrors", desc := "(I)I" } : Jvm.MethodName)) ∈ lw_all := lw_g (lw_at lw_m10 75 rfl) rfl
theorem q2337 : (Jvm.Cond.code ({ cls := "ArbitratedBus", name := "transmitErrors", desc := "(I)I" } : Jvm.MethodName) prog_1_method_21_code (2 : Nat) (Option.some Jvm.ClassFile.FieldType.int)) ∈ lw_all := lw_g (lw_at lw_m10 76 rfl) rfl
theorem q2339 : (Jvm.Cond.instanceMethod ({ cls := "ArbitratedBus", name := "receiveErrors", desc := "(I)I" } : Jvm.MethodName)) ∈ lw_all := lw_g (lw_at lw_m10 78 rfl) rfl
theorem q2340 : (Jvm.Cond.selects "ArbitratedBus" ({ cls := "ArbitratedBus", name := "receiveErrors", desc := "(I)I" } : Jvm.MethodName) ({ cls := "ArbitratedBus", name := "receiveErrors", desc := "(I)I" } : Jvm.MethodName)) ∈ lw_all := lw_g (lw_at lw_m10 79 rfl) rfl
theorem q2341 : (Jvm.Cond.code ({ cls := "ArbitratedBus", name := "receiveErrors", desc := "(I)I" } : Jvm.MethodName) prog_1_method_22_code (2 : Nat) (Option.some Jvm.ClassFile.FieldType.int)) ∈ lw_all := lw_g (lw_at lw_m10 80 rfl) rfl
theorem q2343 : (Jvm.Cond.instanceMethod ({ cls := "ArbitratedBus", name := "isPassive", desc := "(I)I" } : Jvm.MethodName)) ∈ lw_all := lw_g (lw_at lw_m10 82 rfl) rfl
theorem q2344 : (Jvm.Cond.selects "ArbitratedBus" ({ cls := "ArbitratedBus", name := "isPassive", desc := "(I)I" } : Jvm.MethodName) ({ cls := "ArbitratedBus", name := "isPassive", desc := "(I)I" } : Jvm.MethodName)) ∈ lw_all := lw_g (lw_at lw_m10 83 rfl) rfl
theorem q2345 : (Jvm.Cond.code ({ cls := "ArbitratedBus", name := "isPassive", desc := "(I)I" } : Jvm.MethodName) prog_1_method_23_code (2 : Nat) (Option.some Jvm.ClassFile.FieldType.int)) ∈ lw_all := lw_g (lw_at lw_m10 84 rfl) rfl
theorem q2346 : (Jvm.Cond.methodLink "ArbitratedBus" (196 : Nat) ({ cls := "ArbitratedBus$Node", name := "isPassive", desc := "()Z" } : Jvm.MethodName)) ∈ lw_all := lw_g (lw_at lw_m10 85 rfl) rfl
theorem q2348 : (Jvm.Cond.instanceMethod ({ cls := "ArbitratedBus", name := "errors", desc := "(II)I" } : Jvm.MethodName)) ∈ lw_all := lw_g (lw_at lw_m10 87 rfl) rfl
theorem q2349 : (Jvm.Cond.selects "ArbitratedBus" ({ cls := "ArbitratedBus", name := "errors", desc := "(II)I" } : Jvm.MethodName) ({ cls := "ArbitratedBus", name := "errors", desc := "(II)I" } : Jvm.MethodName)) ∈ lw_all := lw_g (lw_at lw_m10 88 rfl) rfl
theorem q2350 : (Jvm.Cond.code ({ cls := "ArbitratedBus", name := "errors", desc := "(II)I" } : Jvm.MethodName) prog_1_method_24_code (3 : Nat) (Option.some Jvm.ClassFile.FieldType.int)) ∈ lw_all := lw_g (lw_at lw_m10 89 rfl) rfl
theorem q2351 : (Jvm.Cond.constantLong "ArbitratedBus" (199 : Nat) (5 : Int64)) ∈ lw_all := lw_g (lw_at lw_m10 90 rfl) rfl
theorem q2353 : (Jvm.Cond.instanceMethod ({ cls := "ArbitratedBus", name := "lastError", desc := "(I)I" } : Jvm.MethodName)) ∈ lw_all := lw_g (lw_at lw_m10 92 rfl) rfl
theorem q2354 : (Jvm.Cond.selects "ArbitratedBus" ({ cls := "ArbitratedBus", name := "lastError", desc := "(I)I" } : Jvm.MethodName) ({ cls := "ArbitratedBus", name := "lastError", desc := "(I)I" } : Jvm.MethodName)) ∈ lw_all := lw_g (lw_at lw_m10 93 rfl) rfl
theorem q2355 : (Jvm.Cond.code ({ cls := "ArbitratedBus", name := "lastError", desc := "(I)I" } : Jvm.MethodName) prog_1_method_25_code (2 : Nat) (Option.some Jvm.ClassFile.FieldType.int)) ∈ lw_all := lw_g (lw_at lw_m10 94 rfl) rfl
theorem q2357 : (Jvm.Cond.instanceMethod ({ cls := "ArbitratedBus", name := "lostArbitrations", desc := "(I)I" } : Jvm.MethodName)) ∈ lw_all := lw_g (lw_at lw_m10 96 rfl) rfl
theorem q2358 : (Jvm.Cond.selects "ArbitratedBus" ({ cls := "ArbitratedBus", name := "lostArbitrations", desc := "(I)I" } : Jvm.MethodName) ({ cls := "ArbitratedBus", name := "lostArbitrations", desc := "(I)I" } : Jvm.MethodName)) ∈ lw_all := lw_g (lw_at lw_m10 97 rfl) rfl
theorem q2359 : (Jvm.Cond.code ({ cls := "ArbitratedBus", name := "lostArbitrations", desc := "(I)I" } : Jvm.MethodName) prog_1_method_26_code (2 : Nat) (Option.some Jvm.ClassFile.FieldType.int)) ∈ lw_all := lw_g (lw_at lw_m10 98 rfl) rfl
theorem q2361 : (Jvm.Cond.instanceMethod ({ cls := "ArbitratedBus", name := "overloads", desc := "(I)I" } : Jvm.MethodName)) ∈ lw_all := lw_g (lw_at lw_m10 100 rfl) rfl
theorem q2362 : (Jvm.Cond.selects "ArbitratedBus" ({ cls := "ArbitratedBus", name := "overloads", desc := "(I)I" } : Jvm.MethodName) ({ cls := "ArbitratedBus", name := "overloads", desc := "(I)I" } : Jvm.MethodName)) ∈ lw_all := lw_g (lw_at lw_m10 101 rfl) rfl
theorem q2363 : (Jvm.Cond.code ({ cls := "ArbitratedBus", name := "overloads", desc := "(I)I" } : Jvm.MethodName) prog_1_method_27_code (2 : Nat) (Option.some Jvm.ClassFile.FieldType.int)) ∈ lw_all := lw_g (lw_at lw_m10 102 rfl) rfl
theorem q2365 : (Jvm.Cond.instanceMethod ({ cls := "ArbitratedBus", name := "sent", desc := "(I)I" } : Jvm.MethodName)) ∈ lw_all := lw_g (lw_at lw_m10 104 rfl) rfl
theorem q2366 : (Jvm.Cond.selects "ArbitratedBus" ({ cls := "ArbitratedBus", name := "sent", desc := "(I)I" } : Jvm.MethodName) ({ cls := "ArbitratedBus", name := "sent", desc := "(I)I" } : Jvm.MethodName)) ∈ lw_all := lw_g (lw_at lw_m10 105 rfl) rfl
theorem q2367 : (Jvm.Cond.code ({ cls := "ArbitratedBus", name := "sent", desc := "(I)I" } : Jvm.MethodName) prog_1_method_28_code (2 : Nat) (Option.some Jvm.ClassFile.FieldType.int)) ∈ lw_all := lw_g (lw_at lw_m10 106 rfl) rfl
theorem q2369 : (Jvm.Cond.instanceMethod ({ cls := "ArbitratedBus", name := "overruns", desc := "(I)I" } : Jvm.MethodName)) ∈ lw_all := lw_g (lw_at lw_m10 108 rfl) rfl
theorem q2370 : (Jvm.Cond.selects "ArbitratedBus" ({ cls := "ArbitratedBus", name := "overruns", desc := "(I)I" } : Jvm.MethodName) ({ cls := "ArbitratedBus", name := "overruns", desc := "(I)I" } : Jvm.MethodName)) ∈ lw_all := lw_g (lw_at lw_m10 109 rfl) rfl
theorem q2371 : (Jvm.Cond.code ({ cls := "ArbitratedBus", name := "overruns", desc := "(I)I" } : Jvm.MethodName) prog_1_method_29_code (2 : Nat) (Option.some Jvm.ClassFile.FieldType.int)) ∈ lw_all := lw_g (lw_at lw_m10 110 rfl) rfl
theorem q2373 : (Jvm.Cond.instanceMethod ({ cls := "ArbitratedBus", name := "waiting", desc := "(I)I" } : Jvm.MethodName)) ∈ lw_all := lw_g (lw_at lw_m10 112 rfl) rfl
theorem q2374 : (Jvm.Cond.selects "ArbitratedBus" ({ cls := "ArbitratedBus", name := "waiting", desc := "(I)I" } : Jvm.MethodName) ({ cls := "ArbitratedBus", name := "waiting", desc := "(I)I" } : Jvm.MethodName)) ∈ lw_all := lw_g (lw_at lw_m10 113 rfl) rfl
theorem q2375 : (Jvm.Cond.code ({ cls := "ArbitratedBus", name := "waiting", desc := "(I)I" } : Jvm.MethodName) prog_1_method_30_code (2 : Nat) (Option.some Jvm.ClassFile.FieldType.int)) ∈ lw_all := lw_g (lw_at lw_m10 114 rfl) rfl
theorem q2377 : (Jvm.Cond.instanceMethod ({ cls := "ArbitratedBus", name := "waitingFrame", desc := "(II)I" } : Jvm.MethodName)) ∈ lw_all := lw_g (lw_at lw_m10 116 rfl) rfl
theorem q2378 : (Jvm.Cond.selects "ArbitratedBus" ({ cls := "ArbitratedBus", name := "waitingFrame", desc := "(II)I" } : Jvm.MethodName) ({ cls := "ArbitratedBus", name := "waitingFrame", desc := "(II)I" } : Jvm.MethodName)) ∈ lw_all := lw_g (lw_at lw_m10 117 rfl) rfl
theorem q2379 : (Jvm.Cond.code ({ cls := "ArbitratedBus", name := "waitingFrame", desc := "(II)I" } : Jvm.MethodName) prog_1_method_31_code (3 : Nat) (Option.some Jvm.ClassFile.FieldType.int)) ∈ lw_all := lw_g (lw_at lw_m10 118 rfl) rfl
theorem q2380 : (Jvm.Cond.methodLink "ArbitratedBus" (220 : Nat) ({ cls := "ArbitratedBus$Node", name := "waitingAt", desc := "(I)LArbitratedBus$Frame;" } : Jvm.MethodName)) ∈ lw_all := lw_g (lw_at lw_m10 119 rfl) rfl
theorem q2388 : (Jvm.Cond.methodLink "ArbitratedBus" (224 : Nat) ({ cls := "ArbitratedBus$Frame", name := "key", desc := "()I" } : Jvm.MethodName)) ∈ lw_all := lw_g (lw_at lw_m10 127 rfl) rfl
theorem q2390 : (Jvm.Cond.instanceMethod ({ cls := "ArbitratedBus", name := "received", desc := "(I)I" } : Jvm.MethodName)) ∈ lw_all := lw_g (lw_at lw_m10 129 rfl) rfl
theorem q2391 : (Jvm.Cond.selects "ArbitratedBus" ({ cls := "ArbitratedBus", name := "received", desc := "(I)I" } : Jvm.MethodName) ({ cls := "ArbitratedBus", name := "received", desc := "(I)I" } : Jvm.MethodName)) ∈ lw_all := lw_g (lw_at lw_m10 130 rfl) rfl
theorem q2392 : (Jvm.Cond.code ({ cls := "ArbitratedBus", name := "received", desc := "(I)I" } : Jvm.MethodName) prog_1_method_32_code (2 : Nat) (Option.some Jvm.ClassFile.FieldType.int)) ∈ lw_all := lw_g (lw_at lw_m10 131 rfl) rfl
theorem q2393 : (Jvm.Cond.methodLink "ArbitratedBus" (231 : Nat) ({ cls := "java/util/ArrayDeque", name := "size", desc := "()I" } : Jvm.MethodName)) ∈ lw_all := lw_g (lw_at lw_m10 132 rfl) rfl
theorem q2395 : (Jvm.Cond.instanceMethod ({ cls := "ArbitratedBus", name := "receivedFrame", desc := "(II)I" } : Jvm.MethodName)) ∈ lw_all := lw_g (lw_at lw_m10 134 rfl) rfl
theorem q2396 : (Jvm.Cond.selects "ArbitratedBus" ({ cls := "ArbitratedBus", name := "receivedFrame", desc := "(II)I" } : Jvm.MethodName) ({ cls := "ArbitratedBus", name := "receivedFrame", desc := "(II)I" } : Jvm.MethodName)) ∈ lw_all := lw_g (lw_at lw_m10 135 rfl) rfl
theorem q2397 : (Jvm.Cond.code ({ cls := "ArbitratedBus", name := "receivedFrame", desc := "(II)I" } : Jvm.MethodName) prog_1_method_34_code (4 : Nat) (Option.some Jvm.ClassFile.FieldType.int)) ∈ lw_all := lw_g (lw_at lw_m10 136 rfl) rfl
theorem q2398 : (Jvm.Cond.methodLink "ArbitratedBus" (237 : Nat) ({ cls := "ArbitratedBus", name := "frameAt", desc := "(II)LArbitratedBus$Frame;" } : Jvm.MethodName)) ∈ lw_all := lw_g (lw_at lw_m10 137 rfl) rfl
theorem q2399 : (Jvm.Cond.privateMethod ({ cls := "ArbitratedBus", name := "frameAt", desc := "(II)LArbitratedBus$Frame;" } : Jvm.MethodName)) ∈ lw_tbl := lw_at lw_m10 138 rfl
theorem q2400 : (Jvm.Cond.instanceMethod ({ cls := "ArbitratedBus", name := "frameAt", desc := "(II)LArbitratedBus$Frame;" } : Jvm.MethodName)) ∈ lw_all := lw_g (lw_at lw_m10 139 rfl) rfl
theorem q2401 : (Jvm.Cond.code ({ cls := "ArbitratedBus", name := "frameAt", desc := "(II)LArbitratedBus$Frame;" } : Jvm.MethodName) prog_1_method_33_code (3 : Nat) (Option.some (Jvm.ClassFile.FieldType.object "ArbitratedBus$Frame"))) ∈ lw_all := lw_g (lw_at lw_m10 140 rfl) rfl
theorem q2402 : (Jvm.Cond.methodLink "ArbitratedBus" (234 : Nat) ({ cls := "ArbitratedBus$Node", name := "receivedAt", desc := "(I)LArbitratedBus$Frame;" } : Jvm.MethodName)) ∈ lw_all := lw_g (lw_at lw_m10 141 rfl) rfl
theorem q2431 : (Jvm.Cond.instanceMethod ({ cls := "ArbitratedBus", name := "receivedLength", desc := "(II)I" } : Jvm.MethodName)) ∈ lw_all := lw_g (lw_at lw_m10 170 rfl) rfl
theorem q2432 : (Jvm.Cond.selects "ArbitratedBus" ({ cls := "ArbitratedBus", name := "receivedLength", desc := "(II)I" } : Jvm.MethodName) ({ cls := "ArbitratedBus", name := "receivedLength", desc := "(II)I" } : Jvm.MethodName)) ∈ lw_all := lw_g (lw_at lw_m10 171 rfl) rfl
theorem q2433 : (Jvm.Cond.code ({ cls := "ArbitratedBus", name := "receivedLength", desc := "(II)I" } : Jvm.MethodName) prog_1_method_35_code (4 : Nat) (Option.some Jvm.ClassFile.FieldType.int)) ∈ lw_all := lw_g (lw_at lw_m10 172 rfl) rfl
theorem q2435 : (Jvm.Cond.instanceMethod ({ cls := "ArbitratedBus", name := "receivedData", desc := "(II)I" } : Jvm.MethodName)) ∈ lw_all := lw_g (lw_at lw_m10 174 rfl) rfl
theorem q2436 : (Jvm.Cond.selects "ArbitratedBus" ({ cls := "ArbitratedBus", name := "receivedData", desc := "(II)I" } : Jvm.MethodName) ({ cls := "ArbitratedBus", name := "receivedData", desc := "(II)I" } : Jvm.MethodName)) ∈ lw_all := lw_g (lw_at lw_m10 175 rfl) rfl
theorem q2437 : (Jvm.Cond.code ({ cls := "ArbitratedBus", name := "receivedData", desc := "(II)I" } : Jvm.MethodName) prog_1_method_36_code (4 : Nat) (Option.some Jvm.ClassFile.FieldType.int)) ∈ lw_all := lw_g (lw_at lw_m10 176 rfl) rfl
theorem q2439 : (Jvm.Cond.instanceMethod ({ cls := "ArbitratedBus", name := "discard", desc := "(I)I" } : Jvm.MethodName)) ∈ lw_all := lw_g (lw_at lw_m10 178 rfl) rfl
theorem q2440 : (Jvm.Cond.selects "ArbitratedBus" ({ cls := "ArbitratedBus", name := "discard", desc := "(I)I" } : Jvm.MethodName) ({ cls := "ArbitratedBus", name := "discard", desc := "(I)I" } : Jvm.MethodName)) ∈ lw_all := lw_g (lw_at lw_m10 179 rfl) rfl
theorem q2441 : (Jvm.Cond.code ({ cls := "ArbitratedBus", name := "discard", desc := "(I)I" } : Jvm.MethodName) prog_1_method_37_code (3 : Nat) (Option.some Jvm.ClassFile.FieldType.int)) ∈ lw_all := lw_g (lw_at lw_m10 180 rfl) rfl
theorem q2442 : (Jvm.Cond.methodLink "ArbitratedBus" (247 : Nat) ({ cls := "java/util/ArrayDeque", name := "pollFirst", desc := "()Ljava/lang/Object;" } : Jvm.MethodName)) ∈ lw_all := lw_g (lw_at lw_m10 181 rfl) rfl
theorem q2444 : (Jvm.Cond.instanceMethod ({ cls := "ArbitratedBus", name := "time", desc := "()I" } : Jvm.MethodName)) ∈ lw_all := lw_g (lw_at lw_m10 183 rfl) rfl
theorem q2445 : (Jvm.Cond.selects "ArbitratedBus" ({ cls := "ArbitratedBus", name := "time", desc := "()I" } : Jvm.MethodName) ({ cls := "ArbitratedBus", name := "time", desc := "()I" } : Jvm.MethodName)) ∈ lw_all := lw_g (lw_at lw_m10 184 rfl) rfl
theorem q2446 : (Jvm.Cond.code ({ cls := "ArbitratedBus", name := "time", desc := "()I" } : Jvm.MethodName) prog_1_method_38_code (1 : Nat) (Option.some Jvm.ClassFile.FieldType.int)) ∈ lw_all := lw_g (lw_at lw_m10 185 rfl) rfl
theorem q2448 : (Jvm.Cond.instanceMethod ({ cls := "ArbitratedBus", name := "level", desc := "(I)I" } : Jvm.MethodName)) ∈ lw_all := lw_g (lw_at lw_m10 187 rfl) rfl
theorem q2449 : (Jvm.Cond.selects "ArbitratedBus" ({ cls := "ArbitratedBus", name := "level", desc := "(I)I" } : Jvm.MethodName) ({ cls := "ArbitratedBus", name := "level", desc := "(I)I" } : Jvm.MethodName)) ∈ lw_all := lw_g (lw_at lw_m10 188 rfl) rfl
theorem q2450 : (Jvm.Cond.code ({ cls := "ArbitratedBus", name := "level", desc := "(I)I" } : Jvm.MethodName) prog_1_method_39_code (2 : Nat) (Option.some Jvm.ClassFile.FieldType.int)) ∈ lw_all := lw_g (lw_at lw_m10 189 rfl) rfl
theorem q2452 : (Jvm.Cond.instanceMethod ({ cls := "ArbitratedBus", name := "winner", desc := "()I" } : Jvm.MethodName)) ∈ lw_all := lw_g (lw_at lw_m10 191 rfl) rfl
theorem q2453 : (Jvm.Cond.selects "ArbitratedBus" ({ cls := "ArbitratedBus", name := "winner", desc := "()I" } : Jvm.MethodName) ({ cls := "ArbitratedBus", name := "winner", desc := "()I" } : Jvm.MethodName)) ∈ lw_all := lw_g (lw_at lw_m10 192 rfl) rfl
theorem q2454 : (Jvm.Cond.code ({ cls := "ArbitratedBus", name := "winner", desc := "()I" } : Jvm.MethodName) prog_1_method_40_code (1 : Nat) (Option.some Jvm.ClassFile.FieldType.int)) ∈ lw_all := lw_g (lw_at lw_m10 193 rfl) rfl
theorem q2455 : (Jvm.Cond.methodLink "ArbitratedBus" (254 : Nat) ({ cls := "ArbitratedBus$Bus", name := "winner", desc := "()I" } : Jvm.MethodName)) ∈ lw_all := lw_g (lw_at lw_m10 194 rfl) rfl
theorem q2463 : (Jvm.Cond.instanceMethod ({ cls := "ArbitratedBus", name := "bitsUntilSent", desc := "(I)I" } : Jvm.MethodName)) ∈ lw_all := lw_g (lw_at lw_m10 202 rfl) rfl
theorem q2464 : (Jvm.Cond.selects "ArbitratedBus" ({ cls := "ArbitratedBus", name := "bitsUntilSent", desc := "(I)I" } : Jvm.MethodName) ({ cls := "ArbitratedBus", name := "bitsUntilSent", desc := "(I)I" } : Jvm.MethodName)) ∈ lw_all := lw_g (lw_at lw_m10 203 rfl) rfl
theorem q2465 : (Jvm.Cond.code ({ cls := "ArbitratedBus", name := "bitsUntilSent", desc := "(I)I" } : Jvm.MethodName) prog_1_method_41_code (2 : Nat) (Option.some Jvm.ClassFile.FieldType.int)) ∈ lw_all := lw_g (lw_at lw_m10 204 rfl) rfl
theorem q2466 : (Jvm.Cond.methodLink "ArbitratedBus" (257 : Nat) ({ cls := "ArbitratedBus$Bus", name := "<init>", desc := "(LArbitratedBus$Bus;)V" } : Jvm.MethodName)) ∈ lw_all := lw_g (lw_at lw_m10 205 rfl) rfl
theorem q2548 : (Jvm.Cond.methodLink "ArbitratedBus" (260 : Nat) ({ cls := "ArbitratedBus$Bus", name := "bitsUntilSent", desc := "(I)I" } : Jvm.MethodName)) ∈ lw_all := lw_g (lw_at lw_m11 47 rfl) rfl
theorem q2553 : (Jvm.Cond.instanceMethod ({ cls := "ArbitratedBus", name := "crc", desc := "(IZII)I" } : Jvm.MethodName)) ∈ lw_all := lw_g (lw_at lw_m11 52 rfl) rfl
theorem q2554 : (Jvm.Cond.selects "ArbitratedBus" ({ cls := "ArbitratedBus", name := "crc", desc := "(IZII)I" } : Jvm.MethodName) ({ cls := "ArbitratedBus", name := "crc", desc := "(IZII)I" } : Jvm.MethodName)) ∈ lw_all := lw_g (lw_at lw_m11 53 rfl) rfl
theorem q2555 : (Jvm.Cond.code ({ cls := "ArbitratedBus", name := "crc", desc := "(IZII)I" } : Jvm.MethodName) prog_1_method_42_code (5 : Nat) (Option.some Jvm.ClassFile.FieldType.int)) ∈ lw_all := lw_g (lw_at lw_m11 54 rfl) rfl
theorem q2556 : (Jvm.Cond.classLink "ArbitratedBus" (42 : Nat) "ArbitratedBus$Frame") ∈ lw_all := lw_g (lw_at lw_m11 55 rfl) rfl
theorem q2557 : (Jvm.Cond.methodLink "ArbitratedBus" (263 : Nat) ({ cls := "ArbitratedBus$Frame", name := "<init>", desc := "(IZIII)V" } : Jvm.MethodName)) ∈ lw_all := lw_g (lw_at lw_m11 56 rfl) rfl
theorem q2558 : (Jvm.Cond.methodLink "ArbitratedBus" (266 : Nat) ({ cls := "ArbitratedBus$Frame", name := "crc", desc := "()I" } : Jvm.MethodName)) ∈ lw_all := lw_g (lw_at lw_m11 57 rfl) rfl
theorem q2560 : (Jvm.Cond.instanceMethod ({ cls := "ArbitratedBus", name := "frameBits", desc := "(IZII)I" } : Jvm.MethodName)) ∈ lw_all := lw_g (lw_at lw_m11 59 rfl) rfl
theorem q2561 : (Jvm.Cond.selects "ArbitratedBus" ({ cls := "ArbitratedBus", name := "frameBits", desc := "(IZII)I" } : Jvm.MethodName) ({ cls := "ArbitratedBus", name := "frameBits", desc := "(IZII)I" } : Jvm.MethodName)) ∈ lw_all := lw_g (lw_at lw_m11 60 rfl) rfl
theorem q2562 : (Jvm.Cond.code ({ cls := "ArbitratedBus", name := "frameBits", desc := "(IZII)I" } : Jvm.MethodName) prog_1_method_43_code (5 : Nat) (Option.some Jvm.ClassFile.FieldType.int)) ∈ lw_all := lw_g (lw_at lw_m11 61 rfl) rfl
theorem q2563 : (Jvm.Cond.classLink "ArbitratedBus" (269 : Nat) "ArbitratedBus$Wire") ∈ lw_all := lw_g (lw_at lw_m11 62 rfl) rfl
theorem q2565 : (Jvm.Cond.methodLink "ArbitratedBus" (271 : Nat) ({ cls := "ArbitratedBus$Wire", name := "<init>", desc := "(LArbitratedBus$Frame;)V" } : Jvm.MethodName)) ∈ lw_all := lw_g (lw_at lw_m11 64 rfl) rfl
theorem q2574 : (Jvm.Cond.methodLink "ArbitratedBus" (274 : Nat) ({ cls := "ArbitratedBus$Wire", name := "bits", desc := "()I" } : Jvm.MethodName)) ∈ lw_all := lw_g (lw_at lw_m11 73 rfl) rfl
theorem q2609 : (Jvm.Cond.instanceMethod ({ cls := "ArbitratedBus", name := "frameBit", desc := "(IZIII)I" } : Jvm.MethodName)) ∈ lw_all := lw_g (lw_at lw_m11 108 rfl) rfl
theorem q2610 : (Jvm.Cond.selects "ArbitratedBus" ({ cls := "ArbitratedBus", name := "frameBit", desc := "(IZIII)I" } : Jvm.MethodName) ({ cls := "ArbitratedBus", name := "frameBit", desc := "(IZIII)I" } : Jvm.MethodName)) ∈ lw_all := lw_g (lw_at lw_m11 109 rfl) rfl
theorem q2611 : (Jvm.Cond.code ({ cls := "ArbitratedBus", name := "frameBit", desc := "(IZIII)I" } : Jvm.MethodName) prog_1_method_44_code (6 : Nat) (Option.some Jvm.ClassFile.FieldType.int)) ∈ lw_all := lw_g (lw_at lw_m11 110 rfl) rfl
theorem q2612 : (Jvm.Cond.methodLink "ArbitratedBus" (277 : Nat) ({ cls := "ArbitratedBus$Wire", name := "bit", desc := "(I)I" } : Jvm.MethodName)) ∈ lw_all := lw_g (lw_at lw_m11 111 rfl) rfl
theorem q2617 : (Jvm.Cond.instanceMethod ({ cls := "ArbitratedBus", name := "worstBits", desc := "(I)I" } : Jvm.MethodName)) ∈ lw_all := lw_g (lw_at lw_m11 116 rfl) rfl
theorem q2618 : (Jvm.Cond.selects "ArbitratedBus" ({ cls := "ArbitratedBus", name := "worstBits", desc := "(I)I" } : Jvm.MethodName) ({ cls := "ArbitratedBus", name := "worstBits", desc := "(I)I" } : Jvm.MethodName)) ∈ lw_all := lw_g (lw_at lw_m11 117 rfl) rfl
theorem q2619 : (Jvm.Cond.code ({ cls := "ArbitratedBus", name := "worstBits", desc := "(I)I" } : Jvm.MethodName) prog_1_method_45_code (2 : Nat) (Option.some Jvm.ClassFile.FieldType.int)) ∈ lw_all := lw_g (lw_at lw_m11 118 rfl) rfl
theorem q2620 : (Jvm.Cond.methodLink "ArbitratedBus" (279 : Nat) ({ cls := "ArbitratedBus", name := "worst", desc := "(I)I" } : Jvm.MethodName)) ∈ lw_all := lw_g (lw_at lw_m11 119 rfl) rfl
theorem q2621 : (Jvm.Cond.static ({ cls := "ArbitratedBus", name := "worst", desc := "(I)I" } : Jvm.MethodName)) ∈ lw_all := lw_g (lw_at lw_m11 120 rfl) rfl
theorem q2622 : (Jvm.Cond.code ({ cls := "ArbitratedBus", name := "worst", desc := "(I)I" } : Jvm.MethodName) prog_1_method_3_code (1 : Nat) (Option.some Jvm.ClassFile.FieldType.int)) ∈ lw_all := lw_g (lw_at lw_m11 121 rfl) rfl
theorem q2624 : (Jvm.Cond.instanceMethod ({ cls := "ArbitratedBus", name := "addMessage", desc := "(IIII)I" } : Jvm.MethodName)) ∈ lw_all := lw_g (lw_at lw_m11 123 rfl) rfl
theorem q2625 : (Jvm.Cond.selects "ArbitratedBus" ({ cls := "ArbitratedBus", name := "addMessage", desc := "(IIII)I" } : Jvm.MethodName) ({ cls := "ArbitratedBus", name := "addMessage", desc := "(IIII)I" } : Jvm.MethodName)) ∈ lw_all := lw_g (lw_at lw_m11 124 rfl) rfl
theorem q2626 : (Jvm.Cond.code ({ cls := "ArbitratedBus", name := "addMessage", desc := "(IIII)I" } : Jvm.MethodName) prog_1_method_46_code (5 : Nat) (Option.some Jvm.ClassFile.FieldType.int)) ∈ lw_all := lw_g (lw_at lw_m11 125 rfl) rfl
theorem q2627 : (Jvm.Cond.constantLong "ArbitratedBus" (282 : Nat) (5000 : Int64)) ∈ lw_all := lw_g (lw_at lw_m11 126 rfl) rfl
theorem q2628 : (Jvm.Cond.constantLong "ArbitratedBus" (284 : Nat) (500 : Int64)) ∈ lw_all := lw_g (lw_at lw_m11 127 rfl) rfl
theorem q2629 : (Jvm.Cond.classLink "ArbitratedBus" (289 : Nat) "ArbitratedBus$Message") ∈ lw_all := lw_g (lw_at lw_m11 128 rfl) rfl
theorem q2631 : (Jvm.Cond.methodLink "ArbitratedBus" (291 : Nat) ({ cls := "ArbitratedBus$Message", name := "<init>", desc := "(III)V" } : Jvm.MethodName)) ∈ lw_all := lw_g (lw_at lw_m11 130 rfl) rfl
theorem q2649 : (Jvm.Cond.instanceMethod ({ cls := "ArbitratedBus", name := "removeMessage", desc := "(I)I" } : Jvm.MethodName)) ∈ lw_all := lw_g (lw_at lw_m11 148 rfl) rfl
theorem q2650 : (Jvm.Cond.selects "ArbitratedBus" ({ cls := "ArbitratedBus", name := "removeMessage", desc := "(I)I" } : Jvm.MethodName) ({ cls := "ArbitratedBus", name := "removeMessage", desc := "(I)I" } : Jvm.MethodName)) ∈ lw_all := lw_g (lw_at lw_m11 149 rfl) rfl
theorem q2651 : (Jvm.Cond.code ({ cls := "ArbitratedBus", name := "removeMessage", desc := "(I)I" } : Jvm.MethodName) prog_1_method_47_code (2 : Nat) (Option.some Jvm.ClassFile.FieldType.int)) ∈ lw_all := lw_g (lw_at lw_m11 150 rfl) rfl
theorem q2653 : (Jvm.Cond.instanceMethod ({ cls := "ArbitratedBus", name := "responseTime", desc := "(I)I" } : Jvm.MethodName)) ∈ lw_all := lw_g (lw_at lw_m11 152 rfl) rfl
theorem q2654 : (Jvm.Cond.selects "ArbitratedBus" ({ cls := "ArbitratedBus", name := "responseTime", desc := "(I)I" } : Jvm.MethodName) ({ cls := "ArbitratedBus", name := "responseTime", desc := "(I)I" } : Jvm.MethodName)) ∈ lw_all := lw_g (lw_at lw_m11 153 rfl) rfl
theorem q2655 : (Jvm.Cond.code ({ cls := "ArbitratedBus", name := "responseTime", desc := "(I)I" } : Jvm.MethodName) prog_1_method_48_code (2 : Nat) (Option.some Jvm.ClassFile.FieldType.int)) ∈ lw_all := lw_g (lw_at lw_m11 154 rfl) rfl
theorem q2656 : (Jvm.Cond.methodLink "ArbitratedBus" (294 : Nat) ({ cls := "ArbitratedBus$Messages", name := "response", desc := "(I)I" } : Jvm.MethodName)) ∈ lw_all := lw_g (lw_at lw_m11 155 rfl) rfl
theorem q2697 : (Jvm.Cond.instanceMethod ({ cls := "ArbitratedBus", name := "misses", desc := "()I" } : Jvm.MethodName)) ∈ lw_all := lw_g (lw_at lw_m11 196 rfl) rfl
theorem q2698 : (Jvm.Cond.selects "ArbitratedBus" ({ cls := "ArbitratedBus", name := "misses", desc := "()I" } : Jvm.MethodName) ({ cls := "ArbitratedBus", name := "misses", desc := "()I" } : Jvm.MethodName)) ∈ lw_all := lw_g (lw_at lw_m11 197 rfl) rfl
theorem q2699 : (Jvm.Cond.code ({ cls := "ArbitratedBus", name := "misses", desc := "()I" } : Jvm.MethodName) prog_1_method_49_code (1 : Nat) (Option.some Jvm.ClassFile.FieldType.int)) ∈ lw_all := lw_g (lw_at lw_m11 198 rfl) rfl
theorem q2700 : (Jvm.Cond.methodLink "ArbitratedBus" (297 : Nat) ({ cls := "ArbitratedBus$Messages", name := "misses", desc := "()I" } : Jvm.MethodName)) ∈ lw_all := lw_g (lw_at lw_m11 199 rfl) rfl
theorem q2714 : (Jvm.Cond.instanceMethod ({ cls := "ArbitratedBus", name := "append", desc := "(I)I" } : Jvm.MethodName)) ∈ lw_all := lw_g (lw_at lw_m11 213 rfl) rfl
theorem q2715 : (Jvm.Cond.selects "ArbitratedBus" ({ cls := "ArbitratedBus", name := "append", desc := "(I)I" } : Jvm.MethodName) ({ cls := "ArbitratedBus", name := "append", desc := "(I)I" } : Jvm.MethodName)) ∈ lw_all := lw_g (lw_at lw_m11 214 rfl) rfl
theorem q2716 : (Jvm.Cond.code ({ cls := "ArbitratedBus", name := "append", desc := "(I)I" } : Jvm.MethodName) prog_1_method_50_code (2 : Nat) (Option.some Jvm.ClassFile.FieldType.int)) ∈ lw_all := lw_g (lw_at lw_m11 215 rfl) rfl
theorem q2717 : (Jvm.Cond.constantLong "ArbitratedBus" (300 : Nat) (127 : Int64)) ∈ lw_all := lw_g (lw_at lw_m11 216 rfl) rfl
theorem q2719 : (Jvm.Cond.instanceMethod ({ cls := "ArbitratedBus", name := "clearText", desc := "()I" } : Jvm.MethodName)) ∈ lw_all := lw_g (lw_at lw_m11 218 rfl) rfl
theorem q2720 : (Jvm.Cond.selects "ArbitratedBus" ({ cls := "ArbitratedBus", name := "clearText", desc := "()I" } : Jvm.MethodName) ({ cls := "ArbitratedBus", name := "clearText", desc := "()I" } : Jvm.MethodName)) ∈ lw_all := lw_g (lw_at lw_m11 219 rfl) rfl
theorem q2721 : (Jvm.Cond.code ({ cls := "ArbitratedBus", name := "clearText", desc := "()I" } : Jvm.MethodName) prog_1_method_51_code (2 : Nat) (Option.some Jvm.ClassFile.FieldType.int)) ∈ lw_all := lw_g (lw_at lw_m11 220 rfl) rfl
theorem q2723 : (Jvm.Cond.instanceMethod ({ cls := "ArbitratedBus", name := "faultPosition", desc := "()I" } : Jvm.MethodName)) ∈ lw_all := lw_g (lw_at lw_m11 222 rfl) rfl
theorem q2724 : (Jvm.Cond.selects "ArbitratedBus" ({ cls := "ArbitratedBus", name := "faultPosition", desc := "()I" } : Jvm.MethodName) ({ cls := "ArbitratedBus", name := "faultPosition", desc := "()I" } : Jvm.MethodName)) ∈ lw_all := lw_g (lw_at lw_m11 223 rfl) rfl
theorem q2725 : (Jvm.Cond.codeWith ({ cls := "ArbitratedBus", name := "faultPosition", desc := "()I" } : Jvm.MethodName) prog_1_method_52_code (2 : Nat) (Option.some Jvm.ClassFile.FieldType.int) [((0 : Nat), (14 : Nat), (15 : Nat), (311 : Nat))]) ∈ lw_all := lw_g (lw_at lw_m11 224 rfl) rfl
theorem q2726 : (Jvm.Cond.classLink "ArbitratedBus" (311 : Nat) "ArbitratedBus$Fault") ∈ lw_all := lw_g (lw_at lw_m11 225 rfl) rfl
theorem q2727 : (Jvm.Cond.classLink "ArbitratedBus" (303 : Nat) "ArbitratedBus$Reader") ∈ lw_all := lw_g (lw_at lw_m11 226 rfl) rfl
theorem q2729 : (Jvm.Cond.methodLinkNest "ArbitratedBus" (305 : Nat) ({ cls := "ArbitratedBus$Reader", name := "<init>", desc := "(LArbitratedBus;)V" } : Jvm.MethodName) "ArbitratedBus") ∈ lw_tbl := lw_at lw_m11 228 rfl
theorem q2740 : (Jvm.Cond.methodLink "ArbitratedBus" (308 : Nat) ({ cls := "ArbitratedBus$Reader", name := "all", desc := "()Ljava/util/ArrayList;" } : Jvm.MethodName)) ∈ lw_all := lw_g (lw_at lw_m11 239 rfl) rfl
theorem q2799 : (Jvm.Cond.fieldLinkNest "ArbitratedBus" (313 : Nat) "ArbitratedBus$Fault" "position" "I" "ArbitratedBus") ∈ lw_tbl := lw_at lw_m12 58 rfl
theorem q2830 : (Jvm.Cond.fieldLinkNest "ArbitratedBus" (332 : Nat) "ArbitratedBus$Wanted" "node" "I" "ArbitratedBus") ∈ lw_tbl := lw_at lw_m12 89 rfl
theorem q2832 : (Jvm.Cond.fieldLinkNest "ArbitratedBus" (335 : Nat) "ArbitratedBus$Wanted" "identifier" "I" "ArbitratedBus") ∈ lw_tbl := lw_at lw_m12 91 rfl
theorem q2834 : (Jvm.Cond.fieldLinkNest "ArbitratedBus" (338 : Nat) "ArbitratedBus$Wanted" "remote" "Z" "ArbitratedBus") ∈ lw_tbl := lw_at lw_m12 93 rfl
theorem q2836 : (Jvm.Cond.fieldLinkNest "ArbitratedBus" (342 : Nat) "ArbitratedBus$Wanted" "length" "I" "ArbitratedBus") ∈ lw_tbl := lw_at lw_m12 95 rfl
theorem q2838 : (Jvm.Cond.fieldLinkNest "ArbitratedBus" (343 : Nat) "ArbitratedBus$Wanted" "data" "I" "ArbitratedBus") ∈ lw_tbl := lw_at lw_m12 97 rfl
theorem q2876 : (Jvm.Cond.instanceMethod ({ cls := "ArbitratedBus", name := "load", desc := "()I" } : Jvm.MethodName)) ∈ lw_all := lw_g (lw_at lw_m12 135 rfl) rfl
theorem q2877 : (Jvm.Cond.selects "ArbitratedBus" ({ cls := "ArbitratedBus", name := "load", desc := "()I" } : Jvm.MethodName) ({ cls := "ArbitratedBus", name := "load", desc := "()I" } : Jvm.MethodName)) ∈ lw_all := lw_g (lw_at lw_m12 136 rfl) rfl
theorem q2878 : (Jvm.Cond.codeWith ({ cls := "ArbitratedBus", name := "load", desc := "()I" } : Jvm.MethodName) prog_1_method_53_code (5 : Nat) (Option.some Jvm.ClassFile.FieldType.int) [((0 : Nat), (12 : Nat), (15 : Nat), (311 : Nat))]) ∈ lw_all := lw_g (lw_at lw_m12 137 rfl) rfl
theorem q2879 : (Jvm.Cond.methodLink "ArbitratedBus" (316 : Nat) ({ cls := "java/util/ArrayList", name := "iterator", desc := "()Ljava/util/Iterator;" } : Jvm.MethodName)) ∈ lw_all := lw_g (lw_at lw_m12 138 rfl) rfl
theorem q2891 : (Jvm.Cond.interfaceEntry "ArbitratedBus" (322 : Nat)) ∈ lw_tbl := lw_at lw_m12 150 rfl
theorem q2892 : (Jvm.Cond.methodLink "ArbitratedBus" (322 : Nat) ({ cls := "java/util/Iterator", name := "hasNext", desc := "()Z" } : Jvm.MethodName)) ∈ lw_all := lw_g (lw_at lw_m12 151 rfl) rfl
theorem q2893 : (Jvm.Cond.interfaceEntry "ArbitratedBus" (327 : Nat)) ∈ lw_tbl := lw_at lw_m12 152 rfl
theorem q2894 : (Jvm.Cond.methodLink "ArbitratedBus" (327 : Nat) ({ cls := "java/util/Iterator", name := "next", desc := "()Ljava/lang/Object;" } : Jvm.MethodName)) ∈ lw_all := lw_g (lw_at lw_m12 153 rfl) rfl
theorem q2895 : (Jvm.Cond.classLink "ArbitratedBus" (330 : Nat) "ArbitratedBus$Wanted") ∈ lw_all := lw_g (lw_at lw_m12 154 rfl) rfl
theorem q2896 : (Jvm.Cond.methodLink "ArbitratedBus" (344 : Nat) ({ cls := "ArbitratedBus", name := "request", desc := "(IIZII)I" } : Jvm.MethodName)) ∈ lw_all := lw_g (lw_at lw_m12 155 rfl) rfl
theorem q2898 : (Jvm.Cond.instanceMethod ({ cls := "ArbitratedBus", name := "save", desc := "(I)I" } : Jvm.MethodName)) ∈ lw_all := lw_g (lw_at lw_m12 157 rfl) rfl
theorem q2899 : (Jvm.Cond.selects "ArbitratedBus" ({ cls := "ArbitratedBus", name := "save", desc := "(I)I" } : Jvm.MethodName) ({ cls := "ArbitratedBus", name := "save", desc := "(I)I" } : Jvm.MethodName)) ∈ lw_all := lw_g (lw_at lw_m12 158 rfl) rfl
theorem q2900 : (Jvm.Cond.code ({ cls := "ArbitratedBus", name := "save", desc := "(I)I" } : Jvm.MethodName) prog_1_method_54_code (2 : Nat) (Option.some Jvm.ClassFile.FieldType.int)) ∈ lw_all := lw_g (lw_at lw_m12 159 rfl) rfl
theorem q2902 : (Jvm.Cond.instanceMethod ({ cls := "ArbitratedBus", name := "restore", desc := "(I)I" } : Jvm.MethodName)) ∈ lw_all := lw_g (lw_at lw_m12 161 rfl) rfl
theorem q2903 : (Jvm.Cond.selects "ArbitratedBus" ({ cls := "ArbitratedBus", name := "restore", desc := "(I)I" } : Jvm.MethodName) ({ cls := "ArbitratedBus", name := "restore", desc := "(I)I" } : Jvm.MethodName)) ∈ lw_all := lw_g (lw_at lw_m12 162 rfl) rfl
theorem q2904 : (Jvm.Cond.code ({ cls := "ArbitratedBus", name := "restore", desc := "(I)I" } : Jvm.MethodName) prog_1_method_55_code (2 : Nat) (Option.some Jvm.ClassFile.FieldType.int)) ∈ lw_all := lw_g (lw_at lw_m12 163 rfl) rfl
theorem q2906 : (Jvm.Cond.instanceMethod ({ cls := "ArbitratedBus", name := "checksum", desc := "()J" } : Jvm.MethodName)) ∈ lw_all := lw_g (lw_at lw_m12 165 rfl) rfl
theorem q2907 : (Jvm.Cond.selects "ArbitratedBus" ({ cls := "ArbitratedBus", name := "checksum", desc := "()J" } : Jvm.MethodName) ({ cls := "ArbitratedBus", name := "checksum", desc := "()J" } : Jvm.MethodName)) ∈ lw_all := lw_g (lw_at lw_m12 166 rfl) rfl
theorem q2908 : (Jvm.Cond.code ({ cls := "ArbitratedBus", name := "checksum", desc := "()J" } : Jvm.MethodName) prog_1_method_58_code (4 : Nat) (Option.some Jvm.ClassFile.FieldType.long)) ∈ lw_all := lw_g (lw_at lw_m12 167 rfl) rfl
theorem q2909 : (Jvm.Cond.constantLong "ArbitratedBus" (384 : Nat) (11 : Int64)) ∈ lw_all := lw_g (lw_at lw_m12 168 rfl) rfl
theorem q2910 : (Jvm.Cond.methodLink "ArbitratedBus" (352 : Nat) ({ cls := "ArbitratedBus", name := "mix", desc := "(JJ)J" } : Jvm.MethodName)) ∈ lw_all := lw_g (lw_at lw_m12 169 rfl) rfl
theorem q2911 : (Jvm.Cond.static ({ cls := "ArbitratedBus", name := "mix", desc := "(JJ)J" } : Jvm.MethodName)) ∈ lw_all := lw_g (lw_at lw_m12 170 rfl) rfl
theorem q2912 : (Jvm.Cond.code ({ cls := "ArbitratedBus", name := "mix", desc := "(JJ)J" } : Jvm.MethodName) prog_1_method_56_code (4 : Nat) (Option.some Jvm.ClassFile.FieldType.long)) ∈ lw_all := lw_g (lw_at lw_m12 171 rfl) rfl
theorem q2913 : (Jvm.Cond.constantLong "ArbitratedBus" (348 : Nat) (31 : Int64)) ∈ lw_all := lw_g (lw_at lw_m12 172 rfl) rfl
theorem q2914 : (Jvm.Cond.methodLink "ArbitratedBus" (386 : Nat) ({ cls := "ArbitratedBus", name := "mixNode", desc := "(JI)J" } : Jvm.MethodName)) ∈ lw_all := lw_g (lw_at lw_m12 173 rfl) rfl
theorem q2915 : (Jvm.Cond.privateMethod ({ cls := "ArbitratedBus", name := "mixNode", desc := "(JI)J" } : Jvm.MethodName)) ∈ lw_tbl := lw_at lw_m12 174 rfl
theorem q2916 : (Jvm.Cond.instanceMethod ({ cls := "ArbitratedBus", name := "mixNode", desc := "(JI)J" } : Jvm.MethodName)) ∈ lw_all := lw_g (lw_at lw_m12 175 rfl) rfl
theorem q2917 : (Jvm.Cond.code ({ cls := "ArbitratedBus", name := "mixNode", desc := "(JI)J" } : Jvm.MethodName) prog_1_method_57_code (8 : Nat) (Option.some Jvm.ClassFile.FieldType.long)) ∈ lw_all := lw_g (lw_at lw_m12 176 rfl) rfl
theorem q2918 : (Jvm.Cond.methodLink "ArbitratedBus" (350 : Nat) ({ cls := "ArbitratedBus", name := "phase", desc := "(I)I" } : Jvm.MethodName)) ∈ lw_all := lw_g (lw_at lw_m12 177 rfl) rfl
theorem q2919 : (Jvm.Cond.methodLink "ArbitratedBus" (356 : Nat) ({ cls := "ArbitratedBus", name := "isTransmitter", desc := "(I)I" } : Jvm.MethodName)) ∈ lw_all := lw_g (lw_at lw_m12 178 rfl) rfl
theorem q2920 : (Jvm.Cond.methodLink "ArbitratedBus" (358 : Nat) ({ cls := "ArbitratedBus", name := "transmitErrors", desc := "(I)I" } : Jvm.MethodName)) ∈ lw_all := lw_g (lw_at lw_m12 179 rfl) rfl
theorem q2921 : (Jvm.Cond.methodLink "ArbitratedBus" (360 : Nat) ({ cls := "ArbitratedBus", name := "receiveErrors", desc := "(I)I" } : Jvm.MethodName)) ∈ lw_all := lw_g (lw_at lw_m12 180 rfl) rfl
theorem q2922 : (Jvm.Cond.methodLink "ArbitratedBus" (362 : Nat) ({ cls := "ArbitratedBus", name := "errors", desc := "(II)I" } : Jvm.MethodName)) ∈ lw_all := lw_g (lw_at lw_m12 181 rfl) rfl
theorem q2923 : (Jvm.Cond.methodLink "ArbitratedBus" (365 : Nat) ({ cls := "ArbitratedBus", name := "lastError", desc := "(I)I" } : Jvm.MethodName)) ∈ lw_all := lw_g (lw_at lw_m12 182 rfl) rfl
theorem q2924 : (Jvm.Cond.methodLink "ArbitratedBus" (367 : Nat) ({ cls := "ArbitratedBus", name := "lostArbitrations", desc := "(I)I" } : Jvm.MethodName)) ∈ lw_all := lw_g (lw_at lw_m12 183 rfl) rfl
theorem q2925 : (Jvm.Cond.methodLink "ArbitratedBus" (370 : Nat) ({ cls := "ArbitratedBus", name := "overloads", desc := "(I)I" } : Jvm.MethodName)) ∈ lw_all := lw_g (lw_at lw_m12 184 rfl) rfl
theorem q2926 : (Jvm.Cond.methodLink "ArbitratedBus" (372 : Nat) ({ cls := "ArbitratedBus", name := "sent", desc := "(I)I" } : Jvm.MethodName)) ∈ lw_all := lw_g (lw_at lw_m12 185 rfl) rfl
theorem q2927 : (Jvm.Cond.methodLink "ArbitratedBus" (374 : Nat) ({ cls := "ArbitratedBus", name := "overruns", desc := "(I)I" } : Jvm.MethodName)) ∈ lw_all := lw_g (lw_at lw_m12 186 rfl) rfl
theorem q2928 : (Jvm.Cond.methodLink "ArbitratedBus" (376 : Nat) ({ cls := "ArbitratedBus", name := "waiting", desc := "(I)I" } : Jvm.MethodName)) ∈ lw_all := lw_g (lw_at lw_m12 187 rfl) rfl
theorem q2929 : (Jvm.Cond.methodLink "ArbitratedBus" (378 : Nat) ({ cls := "ArbitratedBus", name := "waitingFrame", desc := "(II)I" } : Jvm.MethodName)) ∈ lw_all := lw_g (lw_at lw_m12 188 rfl) rfl
theorem q2930 : (Jvm.Cond.methodLink "ArbitratedBus" (381 : Nat) ({ cls := "ArbitratedBus", name := "received", desc := "(I)I" } : Jvm.MethodName)) ∈ lw_all := lw_g (lw_at lw_m12 189 rfl) rfl
theorem q2931 : (Jvm.Cond.methodLink "ArbitratedBus" (383 : Nat) ({ cls := "java/util/ArrayDeque", name := "iterator", desc := "()Ljava/util/Iterator;" } : Jvm.MethodName)) ∈ lw_all := lw_g (lw_at lw_m12 190 rfl) rfl
theorem q2932 : (Jvm.Cond.methodLink "ArbitratedBus" (390 : Nat) ({ cls := "ArbitratedBus", name := "level", desc := "(I)I" } : Jvm.MethodName)) ∈ lw_all := lw_g (lw_at lw_m12 191 rfl) rfl
theorem q3418 : (Jvm.Cond.castable "ArbitratedBus" "java/lang/Object") ∈ lw_tbl := lw_at lw_m14 197 rfl
theorem in_X0 : ∀ w ∈ wsX00, w ∈ lw_all := lw_in wsX00 [524, 526, 528, 530, 532] (by decide +kernel) (by decide +kernel)

/-! ArbitratedBus$Bus -/
set_option maxRecDepth 100000
def RX1 : String := "ArbitratedBus$Bus"
def TX1 : u_T := fun k => match k with
  | 0 => ("ArbitratedBus$Bus", "nodes", "[LArbitratedBus$Node;", true)
  | 1 => ("ArbitratedBus$Bus", "disturbances", "Ljava/util/LinkedList;", true)
  | 2 => ("ArbitratedBus$Bus", "history", "[B", true)
  | 3 => ("ArbitratedBus$Bus", "time", "I", false)
  | 4 => ("ArbitratedBus$Bus", "passiveLimit", "I", false)
  | 5 => ("ArbitratedBus$Bus", "offLimit", "I", false)
  | _ => ("ArbitratedBus$Bus", "recovery", "I", false)
def tyX1 : Nat → FieldType := fun k => match k with
  | 0 => .array (.object "ArbitratedBus$Node")
  | 1 => .object "java/util/LinkedList"
  | 2 => .array .byte
  | 3 => .int
  | 4 => .int
  | 5 => .int
  | _ => .int
abbrev wsX10 : List Cond := u_ws RX1 TX1 7
theorem nmX1 : ∀ a, a < 7 → ∀ b, b < 7 → a ≠ b → (TX1 a).2.1 ≠ (TX1 b).2.1 := by decide +kernel
theorem tyX1_ok : ∀ k, k < 7 → parseFieldDescriptor (TX1 k).2.2.1 = some (tyX1 k) := by decide +kernel
abbrev cX1_init : ByteArray := prog_3_method_1_code
def yX1_init : MethodName := ⟨RX1, "<init>", "()V"⟩
def dkwX1_init_3 : List UInt8 := [132, 1, 1, 167, 255, 234, 177]
abbrev dktX1_init_3 : List UInt8 := dkwX1_init_3 ++ []
def dkwX1_init_2 : List UInt8 := [181, 0, 35, 3, 60, 27, 7, 162, 0, 23, 42, 180, 0, 11, 27, 187, 0, 9, 89, 42, 183, 0, 38, 83]
abbrev dktX1_init_2 : List UInt8 := dkwX1_init_2 ++ dktX1_init_3
def dkwX1_init_1 : List UInt8 := [17, 1, 0, 188, 8, 181, 0, 24, 42, 17, 0, 128, 181, 0, 28, 42, 17, 1, 0, 181, 0, 32, 42, 7]
abbrev dktX1_init_1 : List UInt8 := dkwX1_init_1 ++ dktX1_init_2
def dkwX1_init_0 : List UInt8 := [42, 183, 0, 3, 42, 7, 189, 0, 9, 181, 0, 11, 42, 187, 0, 17, 89, 183, 0, 19, 181, 0, 20, 42]
abbrev dktX1_init_0 : List UInt8 := dkwX1_init_0 ++ dktX1_init_1
theorem dksX1_init_0 : cX1_init.data.toList.drop 0 = dktX1_init_0 := by decide +kernel
theorem dksX1_init_1 : cX1_init.data.toList.drop 24 = dktX1_init_1 := dk_seg dksX1_init_0 24 rfl rfl
theorem dksX1_init_2 : cX1_init.data.toList.drop 48 = dktX1_init_2 := dk_seg dksX1_init_1 24 rfl rfl
theorem dksX1_init_3 : cX1_init.data.toList.drop 72 = dktX1_init_3 := dk_seg dksX1_init_2 24 rfl rfl
theorem dX1_init_0 : decode cX1_init 0 = .ok (.aload_n 0, 1) := dk_42 (dk_at dksX1_init_0 0 rfl rfl)
theorem dX1_init_1 : decode cX1_init 1 = .ok (.invokespecial 3, 3) := dk_183 0 3 (dk_at dksX1_init_0 1 rfl rfl)
theorem dX1_init_4 : decode cX1_init 4 = .ok (.aload_n 0, 1) := dk_42 (dk_at dksX1_init_0 4 rfl rfl)
theorem dX1_init_5 : decode cX1_init 5 = .ok (.iconst 4, 1) := dk_7 (dk_at dksX1_init_0 5 rfl rfl)
theorem dX1_init_6 : decode cX1_init 6 = .ok (.anewarray 9, 3) := dk_189 0 9 (dk_at dksX1_init_0 6 rfl rfl)
theorem dX1_init_9 : decode cX1_init 9 = .ok (.putfield 11, 3) := dk_181 0 11 (dk_at dksX1_init_0 9 rfl rfl)
theorem dX1_init_12 : decode cX1_init 12 = .ok (.aload_n 0, 1) := dk_42 (dk_at dksX1_init_0 12 rfl rfl)
theorem dX1_init_13 : decode cX1_init 13 = .ok (.new 17, 3) := dk_187 0 17 (dk_at dksX1_init_0 13 rfl rfl)
theorem dX1_init_16 : decode cX1_init 16 = .ok (.dup, 1) := dk_89 (dk_at dksX1_init_0 16 rfl rfl)
theorem dX1_init_17 : decode cX1_init 17 = .ok (.invokespecial 19, 3) := dk_183 0 19 (dk_at dksX1_init_0 17 rfl rfl)
theorem dX1_init_20 : decode cX1_init 20 = .ok (.putfield 20, 3) := dk_181 0 20 (dk_at dksX1_init_0 20 rfl rfl)
theorem dX1_init_23 : decode cX1_init 23 = .ok (.aload_n 0, 1) := dk_42 (dk_at dksX1_init_0 23 rfl rfl)
theorem dX1_init_24 : decode cX1_init 24 = .ok (.sipush 256, 3) := dk_17 1 0 (dk_at dksX1_init_1 0 rfl rfl)
theorem dX1_init_27 : decode cX1_init 27 = .ok (.newarray .byte, 2) := dk_188_8 (dk_at dksX1_init_1 3 rfl rfl)
theorem dX1_init_29 : decode cX1_init 29 = .ok (.putfield 24, 3) := dk_181 0 24 (dk_at dksX1_init_1 5 rfl rfl)
theorem dX1_init_32 : decode cX1_init 32 = .ok (.aload_n 0, 1) := dk_42 (dk_at dksX1_init_1 8 rfl rfl)
theorem dX1_init_33 : decode cX1_init 33 = .ok (.sipush 128, 3) := dk_17 0 128 (dk_at dksX1_init_1 9 rfl rfl)
theorem dX1_init_36 : decode cX1_init 36 = .ok (.putfield 28, 3) := dk_181 0 28 (dk_at dksX1_init_1 12 rfl rfl)
theorem dX1_init_39 : decode cX1_init 39 = .ok (.aload_n 0, 1) := dk_42 (dk_at dksX1_init_1 15 rfl rfl)
theorem dX1_init_40 : decode cX1_init 40 = .ok (.sipush 256, 3) := dk_17 1 0 (dk_at dksX1_init_1 16 rfl rfl)
theorem dX1_init_43 : decode cX1_init 43 = .ok (.putfield 32, 3) := dk_181 0 32 (dk_at dksX1_init_1 19 rfl rfl)
theorem dX1_init_46 : decode cX1_init 46 = .ok (.aload_n 0, 1) := dk_42 (dk_at dksX1_init_1 22 rfl rfl)
theorem dX1_init_47 : decode cX1_init 47 = .ok (.iconst 4, 1) := dk_7 (dk_at dksX1_init_1 23 rfl rfl)
theorem dX1_init_48 : decode cX1_init 48 = .ok (.putfield 35, 3) := dk_181 0 35 (dk_at dksX1_init_2 0 rfl rfl)
theorem dX1_init_51 : decode cX1_init 51 = .ok (.iconst 0, 1) := dk_3 (dk_at dksX1_init_2 3 rfl rfl)
theorem dX1_init_52 : decode cX1_init 52 = .ok (.istore_n 1, 1) := dk_60 (dk_at dksX1_init_2 4 rfl rfl)
theorem dX1_init_53 : decode cX1_init 53 = .ok (.iload_n 1, 1) := dk_27 (dk_at dksX1_init_2 5 rfl rfl)
theorem dX1_init_54 : decode cX1_init 54 = .ok (.iconst 4, 1) := dk_7 (dk_at dksX1_init_2 6 rfl rfl)
theorem dX1_init_55 : decode cX1_init 55 = .ok (.if_icmp .ge 23, 3) := dk_162 0 23 (dk_at dksX1_init_2 7 rfl rfl)
theorem dX1_init_58 : decode cX1_init 58 = .ok (.aload_n 0, 1) := dk_42 (dk_at dksX1_init_2 10 rfl rfl)
theorem dX1_init_59 : decode cX1_init 59 = .ok (.getfield 11, 3) := dk_180 0 11 (dk_at dksX1_init_2 11 rfl rfl)
theorem dX1_init_62 : decode cX1_init 62 = .ok (.iload_n 1, 1) := dk_27 (dk_at dksX1_init_2 14 rfl rfl)
theorem dX1_init_63 : decode cX1_init 63 = .ok (.new 9, 3) := dk_187 0 9 (dk_at dksX1_init_2 15 rfl rfl)
theorem dX1_init_66 : decode cX1_init 66 = .ok (.dup, 1) := dk_89 (dk_at dksX1_init_2 18 rfl rfl)
theorem dX1_init_67 : decode cX1_init 67 = .ok (.aload_n 0, 1) := dk_42 (dk_at dksX1_init_2 19 rfl rfl)
theorem dX1_init_68 : decode cX1_init 68 = .ok (.invokespecial 38, 3) := dk_183 0 38 (dk_at dksX1_init_2 20 rfl rfl)
theorem dX1_init_71 : decode cX1_init 71 = .ok (.aastore, 1) := dk_83 (dk_at dksX1_init_2 23 rfl rfl)
theorem dX1_init_72 : decode cX1_init 72 = .ok (.iinc 1 1, 3) := dk_132 1 1 (dk_at dksX1_init_3 0 rfl rfl)
theorem dX1_init_75 : decode cX1_init 75 = .ok (.goto (-22), 3) := dk_167 255 234 (dk_at dksX1_init_3 3 rfl rfl)
theorem dX1_init_78 : decode cX1_init 78 = .ok (.return_, 1) := dk_177 (dk_at dksX1_init_3 6 rfl rfl)
abbrev cX1_attached : ByteArray := prog_3_method_10_code
def yX1_attached : MethodName := ⟨RX1, "attached", "()I"⟩
def dkwX1_attached_2 : List UInt8 := [167, 255, 222, 27, 172]
abbrev dktX1_attached_2 : List UInt8 := dkwX1_attached_2 ++ []
def dkwX1_attached_1 : List UInt8 := [58, 5, 27, 25, 5, 180, 0, 79, 178, 0, 126, 166, 0, 7, 3, 167, 0, 4, 4, 96, 60, 132, 4, 1]
abbrev dktX1_attached_1 : List UInt8 := dkwX1_attached_1 ++ dktX1_attached_2
def dkwX1_attached_0 : List UInt8 := [3, 60, 42, 180, 0, 11, 77, 44, 190, 62, 3, 54, 4, 21, 4, 29, 162, 0, 34, 44, 21, 4, 50]
abbrev dktX1_attached_0 : List UInt8 := dkwX1_attached_0 ++ dktX1_attached_1
theorem dksX1_attached_0 : cX1_attached.data.toList.drop 0 = dktX1_attached_0 := by decide +kernel
theorem dksX1_attached_1 : cX1_attached.data.toList.drop 23 = dktX1_attached_1 := dk_seg dksX1_attached_0 23 rfl rfl
theorem dksX1_attached_2 : cX1_attached.data.toList.drop 47 = dktX1_attached_2 := dk_seg dksX1_attached_1 24 rfl rfl
theorem dX1_attached_0 : decode cX1_attached 0 = .ok (.iconst 0, 1) := dk_3 (dk_at dksX1_attached_0 0 rfl rfl)
theorem dX1_attached_1 : decode cX1_attached 1 = .ok (.istore_n 1, 1) := dk_60 (dk_at dksX1_attached_0 1 rfl rfl)
theorem dX1_attached_2 : decode cX1_attached 2 = .ok (.aload_n 0, 1) := dk_42 (dk_at dksX1_attached_0 2 rfl rfl)
theorem dX1_attached_3 : decode cX1_attached 3 = .ok (.getfield 11, 3) := dk_180 0 11 (dk_at dksX1_attached_0 3 rfl rfl)
theorem dX1_attached_6 : decode cX1_attached 6 = .ok (.astore_n 2, 1) := dk_77 (dk_at dksX1_attached_0 6 rfl rfl)
theorem dX1_attached_7 : decode cX1_attached 7 = .ok (.aload_n 2, 1) := dk_44 (dk_at dksX1_attached_0 7 rfl rfl)
theorem dX1_attached_8 : decode cX1_attached 8 = .ok (.arraylength, 1) := dk_190 (dk_at dksX1_attached_0 8 rfl rfl)
theorem dX1_attached_9 : decode cX1_attached 9 = .ok (.istore_n 3, 1) := dk_62 (dk_at dksX1_attached_0 9 rfl rfl)
theorem dX1_attached_10 : decode cX1_attached 10 = .ok (.iconst 0, 1) := dk_3 (dk_at dksX1_attached_0 10 rfl rfl)
theorem dX1_attached_11 : decode cX1_attached 11 = .ok (.istore 4, 2) := dk_54 4 (dk_at dksX1_attached_0 11 rfl rfl)
theorem dX1_attached_13 : decode cX1_attached 13 = .ok (.iload 4, 2) := dk_21 4 (dk_at dksX1_attached_0 13 rfl rfl)
theorem dX1_attached_15 : decode cX1_attached 15 = .ok (.iload_n 3, 1) := dk_29 (dk_at dksX1_attached_0 15 rfl rfl)
theorem dX1_attached_16 : decode cX1_attached 16 = .ok (.if_icmp .ge 34, 3) := dk_162 0 34 (dk_at dksX1_attached_0 16 rfl rfl)
theorem dX1_attached_19 : decode cX1_attached 19 = .ok (.aload_n 2, 1) := dk_44 (dk_at dksX1_attached_0 19 rfl rfl)
theorem dX1_attached_20 : decode cX1_attached 20 = .ok (.iload 4, 2) := dk_21 4 (dk_at dksX1_attached_0 20 rfl rfl)
theorem dX1_attached_22 : decode cX1_attached 22 = .ok (.aaload, 1) := dk_50 (dk_at dksX1_attached_0 22 rfl rfl)
theorem dX1_attached_23 : decode cX1_attached 23 = .ok (.astore 5, 2) := dk_58 5 (dk_at dksX1_attached_1 0 rfl rfl)
theorem dX1_attached_25 : decode cX1_attached 25 = .ok (.iload_n 1, 1) := dk_27 (dk_at dksX1_attached_1 2 rfl rfl)
theorem dX1_attached_26 : decode cX1_attached 26 = .ok (.aload 5, 2) := dk_25 5 (dk_at dksX1_attached_1 3 rfl rfl)
theorem dX1_attached_28 : decode cX1_attached 28 = .ok (.getfield 79, 3) := dk_180 0 79 (dk_at dksX1_attached_1 5 rfl rfl)
theorem dX1_attached_31 : decode cX1_attached 31 = .ok (.getstatic 126, 3) := dk_178 0 126 (dk_at dksX1_attached_1 8 rfl rfl)
theorem dX1_attached_34 : decode cX1_attached 34 = .ok (.if_acmp .ne 7, 3) := dk_166 0 7 (dk_at dksX1_attached_1 11 rfl rfl)
theorem dX1_attached_37 : decode cX1_attached 37 = .ok (.iconst 0, 1) := dk_3 (dk_at dksX1_attached_1 14 rfl rfl)
theorem dX1_attached_38 : decode cX1_attached 38 = .ok (.goto 4, 3) := dk_167 0 4 (dk_at dksX1_attached_1 15 rfl rfl)
theorem dX1_attached_41 : decode cX1_attached 41 = .ok (.iconst 1, 1) := dk_4 (dk_at dksX1_attached_1 18 rfl rfl)
theorem dX1_attached_42 : decode cX1_attached 42 = .ok (.iadd, 1) := dk_96 (dk_at dksX1_attached_1 19 rfl rfl)
theorem dX1_attached_43 : decode cX1_attached 43 = .ok (.istore_n 1, 1) := dk_60 (dk_at dksX1_attached_1 20 rfl rfl)
theorem dX1_attached_44 : decode cX1_attached 44 = .ok (.iinc 4 1, 3) := dk_132 4 1 (dk_at dksX1_attached_1 21 rfl rfl)
theorem dX1_attached_47 : decode cX1_attached 47 = .ok (.goto (-34), 3) := dk_167 255 222 (dk_at dksX1_attached_2 0 rfl rfl)
theorem dX1_attached_50 : decode cX1_attached 50 = .ok (.iload_n 1, 1) := dk_27 (dk_at dksX1_attached_2 3 rfl rfl)
theorem dX1_attached_51 : decode cX1_attached 51 = .ok (.ireturn, 1) := dk_172 (dk_at dksX1_attached_2 4 rfl rfl)
abbrev cX1_run : ByteArray := prog_3_method_6_code
def yX1_run : MethodName := ⟨RX1, "run", "(I)I"⟩
def dkwX1_run_1 : List UInt8 := [182, 0, 103, 28, 100, 172]
abbrev dktX1_run_1 : List UInt8 := dkwX1_run_1 ++ []
def dkwX1_run_0 : List UInt8 := [42, 182, 0, 103, 61, 3, 62, 29, 27, 162, 0, 13, 42, 182, 0, 105, 132, 3, 1, 167, 255, 244, 42]
abbrev dktX1_run_0 : List UInt8 := dkwX1_run_0 ++ dktX1_run_1
theorem dksX1_run_0 : cX1_run.data.toList.drop 0 = dktX1_run_0 := by decide +kernel
theorem dksX1_run_1 : cX1_run.data.toList.drop 23 = dktX1_run_1 := dk_seg dksX1_run_0 23 rfl rfl
theorem dX1_run_0 : decode cX1_run 0 = .ok (.aload_n 0, 1) := dk_42 (dk_at dksX1_run_0 0 rfl rfl)
theorem dX1_run_1 : decode cX1_run 1 = .ok (.invokevirtual 103, 3) := dk_182 0 103 (dk_at dksX1_run_0 1 rfl rfl)
theorem dX1_run_4 : decode cX1_run 4 = .ok (.istore_n 2, 1) := dk_61 (dk_at dksX1_run_0 4 rfl rfl)
theorem dX1_run_5 : decode cX1_run 5 = .ok (.iconst 0, 1) := dk_3 (dk_at dksX1_run_0 5 rfl rfl)
theorem dX1_run_6 : decode cX1_run 6 = .ok (.istore_n 3, 1) := dk_62 (dk_at dksX1_run_0 6 rfl rfl)
theorem dX1_run_7 : decode cX1_run 7 = .ok (.iload_n 3, 1) := dk_29 (dk_at dksX1_run_0 7 rfl rfl)
theorem dX1_run_8 : decode cX1_run 8 = .ok (.iload_n 1, 1) := dk_27 (dk_at dksX1_run_0 8 rfl rfl)
theorem dX1_run_9 : decode cX1_run 9 = .ok (.if_icmp .ge 13, 3) := dk_162 0 13 (dk_at dksX1_run_0 9 rfl rfl)
theorem dX1_run_12 : decode cX1_run 12 = .ok (.aload_n 0, 1) := dk_42 (dk_at dksX1_run_0 12 rfl rfl)
theorem dX1_run_13 : decode cX1_run 13 = .ok (.invokevirtual 105, 3) := dk_182 0 105 (dk_at dksX1_run_0 13 rfl rfl)
theorem dX1_run_16 : decode cX1_run 16 = .ok (.iinc 3 1, 3) := dk_132 3 1 (dk_at dksX1_run_0 16 rfl rfl)
theorem dX1_run_19 : decode cX1_run 19 = .ok (.goto (-12), 3) := dk_167 255 244 (dk_at dksX1_run_0 19 rfl rfl)
theorem dX1_run_22 : decode cX1_run 22 = .ok (.aload_n 0, 1) := dk_42 (dk_at dksX1_run_0 22 rfl rfl)
theorem dX1_run_23 : decode cX1_run 23 = .ok (.invokevirtual 103, 3) := dk_182 0 103 (dk_at dksX1_run_1 0 rfl rfl)
theorem dX1_run_26 : decode cX1_run 26 = .ok (.iload_n 2, 1) := dk_28 (dk_at dksX1_run_1 3 rfl rfl)
theorem dX1_run_27 : decode cX1_run 27 = .ok (.isub, 1) := dk_100 (dk_at dksX1_run_1 4 rfl rfl)
theorem dX1_run_28 : decode cX1_run 28 = .ok (.ireturn, 1) := dk_172 (dk_at dksX1_run_1 5 rfl rfl)
abbrev cX1_sent : ByteArray := prog_3_method_5_code
def yX1_sent : MethodName := ⟨RX1, "sent", "()I"⟩
def dkwX1_sent_1 : List UInt8 := [58, 5, 27, 25, 5, 180, 0, 100, 96, 60, 132, 4, 1, 167, 255, 233, 27, 172]
abbrev dktX1_sent_1 : List UInt8 := dkwX1_sent_1 ++ []
def dkwX1_sent_0 : List UInt8 := [3, 60, 42, 180, 0, 11, 77, 44, 190, 62, 3, 54, 4, 21, 4, 29, 162, 0, 23, 44, 21, 4, 50]
abbrev dktX1_sent_0 : List UInt8 := dkwX1_sent_0 ++ dktX1_sent_1
theorem dksX1_sent_0 : cX1_sent.data.toList.drop 0 = dktX1_sent_0 := by decide +kernel
theorem dksX1_sent_1 : cX1_sent.data.toList.drop 23 = dktX1_sent_1 := dk_seg dksX1_sent_0 23 rfl rfl
theorem dX1_sent_0 : decode cX1_sent 0 = .ok (.iconst 0, 1) := dk_3 (dk_at dksX1_sent_0 0 rfl rfl)
theorem dX1_sent_1 : decode cX1_sent 1 = .ok (.istore_n 1, 1) := dk_60 (dk_at dksX1_sent_0 1 rfl rfl)
theorem dX1_sent_2 : decode cX1_sent 2 = .ok (.aload_n 0, 1) := dk_42 (dk_at dksX1_sent_0 2 rfl rfl)
theorem dX1_sent_3 : decode cX1_sent 3 = .ok (.getfield 11, 3) := dk_180 0 11 (dk_at dksX1_sent_0 3 rfl rfl)
theorem dX1_sent_6 : decode cX1_sent 6 = .ok (.astore_n 2, 1) := dk_77 (dk_at dksX1_sent_0 6 rfl rfl)
theorem dX1_sent_7 : decode cX1_sent 7 = .ok (.aload_n 2, 1) := dk_44 (dk_at dksX1_sent_0 7 rfl rfl)
theorem dX1_sent_8 : decode cX1_sent 8 = .ok (.arraylength, 1) := dk_190 (dk_at dksX1_sent_0 8 rfl rfl)
theorem dX1_sent_9 : decode cX1_sent 9 = .ok (.istore_n 3, 1) := dk_62 (dk_at dksX1_sent_0 9 rfl rfl)
theorem dX1_sent_10 : decode cX1_sent 10 = .ok (.iconst 0, 1) := dk_3 (dk_at dksX1_sent_0 10 rfl rfl)
theorem dX1_sent_11 : decode cX1_sent 11 = .ok (.istore 4, 2) := dk_54 4 (dk_at dksX1_sent_0 11 rfl rfl)
theorem dX1_sent_13 : decode cX1_sent 13 = .ok (.iload 4, 2) := dk_21 4 (dk_at dksX1_sent_0 13 rfl rfl)
theorem dX1_sent_15 : decode cX1_sent 15 = .ok (.iload_n 3, 1) := dk_29 (dk_at dksX1_sent_0 15 rfl rfl)
theorem dX1_sent_16 : decode cX1_sent 16 = .ok (.if_icmp .ge 23, 3) := dk_162 0 23 (dk_at dksX1_sent_0 16 rfl rfl)
theorem dX1_sent_19 : decode cX1_sent 19 = .ok (.aload_n 2, 1) := dk_44 (dk_at dksX1_sent_0 19 rfl rfl)
theorem dX1_sent_20 : decode cX1_sent 20 = .ok (.iload 4, 2) := dk_21 4 (dk_at dksX1_sent_0 20 rfl rfl)
theorem dX1_sent_22 : decode cX1_sent 22 = .ok (.aaload, 1) := dk_50 (dk_at dksX1_sent_0 22 rfl rfl)
theorem dX1_sent_23 : decode cX1_sent 23 = .ok (.astore 5, 2) := dk_58 5 (dk_at dksX1_sent_1 0 rfl rfl)
theorem dX1_sent_25 : decode cX1_sent 25 = .ok (.iload_n 1, 1) := dk_27 (dk_at dksX1_sent_1 2 rfl rfl)
theorem dX1_sent_26 : decode cX1_sent 26 = .ok (.aload 5, 2) := dk_25 5 (dk_at dksX1_sent_1 3 rfl rfl)
theorem dX1_sent_28 : decode cX1_sent 28 = .ok (.getfield 100, 3) := dk_180 0 100 (dk_at dksX1_sent_1 5 rfl rfl)
theorem dX1_sent_31 : decode cX1_sent 31 = .ok (.iadd, 1) := dk_96 (dk_at dksX1_sent_1 8 rfl rfl)
theorem dX1_sent_32 : decode cX1_sent 32 = .ok (.istore_n 1, 1) := dk_60 (dk_at dksX1_sent_1 9 rfl rfl)
theorem dX1_sent_33 : decode cX1_sent 33 = .ok (.iinc 4 1, 3) := dk_132 4 1 (dk_at dksX1_sent_1 10 rfl rfl)
theorem dX1_sent_36 : decode cX1_sent 36 = .ok (.goto (-23), 3) := dk_167 255 233 (dk_at dksX1_sent_1 13 rfl rfl)
theorem dX1_sent_39 : decode cX1_sent 39 = .ok (.iload_n 1, 1) := dk_27 (dk_at dksX1_sent_1 16 rfl rfl)
theorem dX1_sent_40 : decode cX1_sent 40 = .ok (.ireturn, 1) := dk_172 (dk_at dksX1_sent_1 17 rfl rfl)
abbrev cX1_step : ByteArray := prog_3_method_4_code
def yX1_step : MethodName := ⟨RX1, "step", "()V"⟩
def dkwX1_step_5 : List UInt8 := [96, 181, 0, 70, 177]
abbrev dktX1_step_5 : List UInt8 := dkwX1_step_5 ++ []
def dkwX1_step_4 : List UInt8 := [167, 255, 223, 42, 180, 0, 24, 42, 180, 0, 70, 17, 1, 0, 112, 27, 145, 84, 42, 89, 180, 0, 70, 4]
abbrev dktX1_step_4 : List UInt8 := dkwX1_step_4 ++ dktX1_step_5
def dkwX1_step_3 : List UInt8 := [50, 180, 0, 79, 42, 180, 0, 11, 29, 50, 27, 28, 29, 122, 4, 126, 130, 182, 0, 96, 132, 3, 1]
abbrev dktX1_step_3 : List UInt8 := dkwX1_step_3 ++ dktX1_step_4
def dkwX1_step_2 : List UInt8 := [60, 132, 4, 1, 167, 255, 218, 42, 182, 0, 92, 61, 3, 62, 29, 7, 162, 0, 34, 42, 180, 0, 11, 29]
abbrev dktX1_step_2 : List UInt8 := dkwX1_step_2 ++ dktX1_step_3
def dkwX1_step_1 : List UInt8 := [58, 5, 25, 5, 25, 5, 180, 0, 79, 25, 5, 182, 0, 83, 181, 0, 89, 27, 25, 5, 180, 0, 89, 126]
abbrev dktX1_step_1 : List UInt8 := dkwX1_step_1 ++ dktX1_step_2
def dkwX1_step_0 : List UInt8 := [4, 60, 42, 180, 0, 11, 77, 44, 190, 62, 3, 54, 4, 21, 4, 29, 162, 0, 38, 44, 21, 4, 50]
abbrev dktX1_step_0 : List UInt8 := dkwX1_step_0 ++ dktX1_step_1
theorem dksX1_step_0 : cX1_step.data.toList.drop 0 = dktX1_step_0 := by decide +kernel
theorem dksX1_step_1 : cX1_step.data.toList.drop 23 = dktX1_step_1 := dk_seg dksX1_step_0 23 rfl rfl
theorem dksX1_step_2 : cX1_step.data.toList.drop 47 = dktX1_step_2 := dk_seg dksX1_step_1 24 rfl rfl
theorem dksX1_step_3 : cX1_step.data.toList.drop 71 = dktX1_step_3 := dk_seg dksX1_step_2 24 rfl rfl
theorem dksX1_step_4 : cX1_step.data.toList.drop 94 = dktX1_step_4 := dk_seg dksX1_step_3 23 rfl rfl
theorem dksX1_step_5 : cX1_step.data.toList.drop 118 = dktX1_step_5 := dk_seg dksX1_step_4 24 rfl rfl
theorem dX1_step_0 : decode cX1_step 0 = .ok (.iconst 1, 1) := dk_4 (dk_at dksX1_step_0 0 rfl rfl)
theorem dX1_step_1 : decode cX1_step 1 = .ok (.istore_n 1, 1) := dk_60 (dk_at dksX1_step_0 1 rfl rfl)
theorem dX1_step_2 : decode cX1_step 2 = .ok (.aload_n 0, 1) := dk_42 (dk_at dksX1_step_0 2 rfl rfl)
theorem dX1_step_3 : decode cX1_step 3 = .ok (.getfield 11, 3) := dk_180 0 11 (dk_at dksX1_step_0 3 rfl rfl)
theorem dX1_step_6 : decode cX1_step 6 = .ok (.astore_n 2, 1) := dk_77 (dk_at dksX1_step_0 6 rfl rfl)
theorem dX1_step_7 : decode cX1_step 7 = .ok (.aload_n 2, 1) := dk_44 (dk_at dksX1_step_0 7 rfl rfl)
theorem dX1_step_8 : decode cX1_step 8 = .ok (.arraylength, 1) := dk_190 (dk_at dksX1_step_0 8 rfl rfl)
theorem dX1_step_9 : decode cX1_step 9 = .ok (.istore_n 3, 1) := dk_62 (dk_at dksX1_step_0 9 rfl rfl)
theorem dX1_step_10 : decode cX1_step 10 = .ok (.iconst 0, 1) := dk_3 (dk_at dksX1_step_0 10 rfl rfl)
theorem dX1_step_11 : decode cX1_step 11 = .ok (.istore 4, 2) := dk_54 4 (dk_at dksX1_step_0 11 rfl rfl)
theorem dX1_step_13 : decode cX1_step 13 = .ok (.iload 4, 2) := dk_21 4 (dk_at dksX1_step_0 13 rfl rfl)
theorem dX1_step_15 : decode cX1_step 15 = .ok (.iload_n 3, 1) := dk_29 (dk_at dksX1_step_0 15 rfl rfl)
theorem dX1_step_16 : decode cX1_step 16 = .ok (.if_icmp .ge 38, 3) := dk_162 0 38 (dk_at dksX1_step_0 16 rfl rfl)
theorem dX1_step_19 : decode cX1_step 19 = .ok (.aload_n 2, 1) := dk_44 (dk_at dksX1_step_0 19 rfl rfl)
theorem dX1_step_20 : decode cX1_step 20 = .ok (.iload 4, 2) := dk_21 4 (dk_at dksX1_step_0 20 rfl rfl)
theorem dX1_step_22 : decode cX1_step 22 = .ok (.aaload, 1) := dk_50 (dk_at dksX1_step_0 22 rfl rfl)
theorem dX1_step_23 : decode cX1_step 23 = .ok (.astore 5, 2) := dk_58 5 (dk_at dksX1_step_1 0 rfl rfl)
theorem dX1_step_25 : decode cX1_step 25 = .ok (.aload 5, 2) := dk_25 5 (dk_at dksX1_step_1 2 rfl rfl)
theorem dX1_step_27 : decode cX1_step 27 = .ok (.aload 5, 2) := dk_25 5 (dk_at dksX1_step_1 4 rfl rfl)
theorem dX1_step_29 : decode cX1_step 29 = .ok (.getfield 79, 3) := dk_180 0 79 (dk_at dksX1_step_1 6 rfl rfl)
theorem dX1_step_32 : decode cX1_step 32 = .ok (.aload 5, 2) := dk_25 5 (dk_at dksX1_step_1 9 rfl rfl)
theorem dX1_step_34 : decode cX1_step 34 = .ok (.invokevirtual 83, 3) := dk_182 0 83 (dk_at dksX1_step_1 11 rfl rfl)
theorem dX1_step_37 : decode cX1_step 37 = .ok (.putfield 89, 3) := dk_181 0 89 (dk_at dksX1_step_1 14 rfl rfl)
theorem dX1_step_40 : decode cX1_step 40 = .ok (.iload_n 1, 1) := dk_27 (dk_at dksX1_step_1 17 rfl rfl)
theorem dX1_step_41 : decode cX1_step 41 = .ok (.aload 5, 2) := dk_25 5 (dk_at dksX1_step_1 18 rfl rfl)
theorem dX1_step_43 : decode cX1_step 43 = .ok (.getfield 89, 3) := dk_180 0 89 (dk_at dksX1_step_1 20 rfl rfl)
theorem dX1_step_46 : decode cX1_step 46 = .ok (.iand, 1) := dk_126 (dk_at dksX1_step_1 23 rfl rfl)
theorem dX1_step_47 : decode cX1_step 47 = .ok (.istore_n 1, 1) := dk_60 (dk_at dksX1_step_2 0 rfl rfl)
theorem dX1_step_48 : decode cX1_step 48 = .ok (.iinc 4 1, 3) := dk_132 4 1 (dk_at dksX1_step_2 1 rfl rfl)
theorem dX1_step_51 : decode cX1_step 51 = .ok (.goto (-38), 3) := dk_167 255 218 (dk_at dksX1_step_2 4 rfl rfl)
theorem dX1_step_54 : decode cX1_step 54 = .ok (.aload_n 0, 1) := dk_42 (dk_at dksX1_step_2 7 rfl rfl)
theorem dX1_step_55 : decode cX1_step 55 = .ok (.invokevirtual 92, 3) := dk_182 0 92 (dk_at dksX1_step_2 8 rfl rfl)
theorem dX1_step_58 : decode cX1_step 58 = .ok (.istore_n 2, 1) := dk_61 (dk_at dksX1_step_2 11 rfl rfl)
theorem dX1_step_59 : decode cX1_step 59 = .ok (.iconst 0, 1) := dk_3 (dk_at dksX1_step_2 12 rfl rfl)
theorem dX1_step_60 : decode cX1_step 60 = .ok (.istore_n 3, 1) := dk_62 (dk_at dksX1_step_2 13 rfl rfl)
theorem dX1_step_61 : decode cX1_step 61 = .ok (.iload_n 3, 1) := dk_29 (dk_at dksX1_step_2 14 rfl rfl)
theorem dX1_step_62 : decode cX1_step 62 = .ok (.iconst 4, 1) := dk_7 (dk_at dksX1_step_2 15 rfl rfl)
theorem dX1_step_63 : decode cX1_step 63 = .ok (.if_icmp .ge 34, 3) := dk_162 0 34 (dk_at dksX1_step_2 16 rfl rfl)
theorem dX1_step_66 : decode cX1_step 66 = .ok (.aload_n 0, 1) := dk_42 (dk_at dksX1_step_2 19 rfl rfl)
theorem dX1_step_67 : decode cX1_step 67 = .ok (.getfield 11, 3) := dk_180 0 11 (dk_at dksX1_step_2 20 rfl rfl)
theorem dX1_step_70 : decode cX1_step 70 = .ok (.iload_n 3, 1) := dk_29 (dk_at dksX1_step_2 23 rfl rfl)
theorem dX1_step_71 : decode cX1_step 71 = .ok (.aaload, 1) := dk_50 (dk_at dksX1_step_3 0 rfl rfl)
theorem dX1_step_72 : decode cX1_step 72 = .ok (.getfield 79, 3) := dk_180 0 79 (dk_at dksX1_step_3 1 rfl rfl)
theorem dX1_step_75 : decode cX1_step 75 = .ok (.aload_n 0, 1) := dk_42 (dk_at dksX1_step_3 4 rfl rfl)
theorem dX1_step_76 : decode cX1_step 76 = .ok (.getfield 11, 3) := dk_180 0 11 (dk_at dksX1_step_3 5 rfl rfl)
theorem dX1_step_79 : decode cX1_step 79 = .ok (.iload_n 3, 1) := dk_29 (dk_at dksX1_step_3 8 rfl rfl)
theorem dX1_step_80 : decode cX1_step 80 = .ok (.aaload, 1) := dk_50 (dk_at dksX1_step_3 9 rfl rfl)
theorem dX1_step_81 : decode cX1_step 81 = .ok (.iload_n 1, 1) := dk_27 (dk_at dksX1_step_3 10 rfl rfl)
theorem dX1_step_82 : decode cX1_step 82 = .ok (.iload_n 2, 1) := dk_28 (dk_at dksX1_step_3 11 rfl rfl)
theorem dX1_step_83 : decode cX1_step 83 = .ok (.iload_n 3, 1) := dk_29 (dk_at dksX1_step_3 12 rfl rfl)
theorem dX1_step_84 : decode cX1_step 84 = .ok (.ishr, 1) := dk_122 (dk_at dksX1_step_3 13 rfl rfl)
theorem dX1_step_85 : decode cX1_step 85 = .ok (.iconst 1, 1) := dk_4 (dk_at dksX1_step_3 14 rfl rfl)
theorem dX1_step_86 : decode cX1_step 86 = .ok (.iand, 1) := dk_126 (dk_at dksX1_step_3 15 rfl rfl)
theorem dX1_step_87 : decode cX1_step 87 = .ok (.ixor, 1) := dk_130 (dk_at dksX1_step_3 16 rfl rfl)
theorem dX1_step_88 : decode cX1_step 88 = .ok (.invokevirtual 96, 3) := dk_182 0 96 (dk_at dksX1_step_3 17 rfl rfl)
theorem dX1_step_91 : decode cX1_step 91 = .ok (.iinc 3 1, 3) := dk_132 3 1 (dk_at dksX1_step_3 20 rfl rfl)
theorem dX1_step_94 : decode cX1_step 94 = .ok (.goto (-33), 3) := dk_167 255 223 (dk_at dksX1_step_4 0 rfl rfl)
theorem dX1_step_97 : decode cX1_step 97 = .ok (.aload_n 0, 1) := dk_42 (dk_at dksX1_step_4 3 rfl rfl)
theorem dX1_step_98 : decode cX1_step 98 = .ok (.getfield 24, 3) := dk_180 0 24 (dk_at dksX1_step_4 4 rfl rfl)
theorem dX1_step_101 : decode cX1_step 101 = .ok (.aload_n 0, 1) := dk_42 (dk_at dksX1_step_4 7 rfl rfl)
theorem dX1_step_102 : decode cX1_step 102 = .ok (.getfield 70, 3) := dk_180 0 70 (dk_at dksX1_step_4 8 rfl rfl)
theorem dX1_step_105 : decode cX1_step 105 = .ok (.sipush 256, 3) := dk_17 1 0 (dk_at dksX1_step_4 11 rfl rfl)
theorem dX1_step_108 : decode cX1_step 108 = .ok (.irem, 1) := dk_112 (dk_at dksX1_step_4 14 rfl rfl)
theorem dX1_step_109 : decode cX1_step 109 = .ok (.iload_n 1, 1) := dk_27 (dk_at dksX1_step_4 15 rfl rfl)
theorem dX1_step_110 : decode cX1_step 110 = .ok (.i2b, 1) := dk_145 (dk_at dksX1_step_4 16 rfl rfl)
theorem dX1_step_111 : decode cX1_step 111 = .ok (.bastore, 1) := dk_84 (dk_at dksX1_step_4 17 rfl rfl)
theorem dX1_step_112 : decode cX1_step 112 = .ok (.aload_n 0, 1) := dk_42 (dk_at dksX1_step_4 18 rfl rfl)
theorem dX1_step_113 : decode cX1_step 113 = .ok (.dup, 1) := dk_89 (dk_at dksX1_step_4 19 rfl rfl)
theorem dX1_step_114 : decode cX1_step 114 = .ok (.getfield 70, 3) := dk_180 0 70 (dk_at dksX1_step_4 20 rfl rfl)
theorem dX1_step_117 : decode cX1_step 117 = .ok (.iconst 1, 1) := dk_4 (dk_at dksX1_step_4 23 rfl rfl)
theorem dX1_step_118 : decode cX1_step 118 = .ok (.iadd, 1) := dk_96 (dk_at dksX1_step_5 0 rfl rfl)
theorem dX1_step_119 : decode cX1_step 119 = .ok (.putfield 70, 3) := dk_181 0 70 (dk_at dksX1_step_5 1 rfl rfl)
theorem dX1_step_122 : decode cX1_step 122 = .ok (.return_, 1) := dk_177 (dk_at dksX1_step_5 4 rfl rfl)
abbrev cX1_disturbed : ByteArray := prog_3_method_3_code
def yX1_disturbed : MethodName := ⟨RX1, "disturbed", "()I"⟩
def dkwX1_disturbed_2 : List UInt8 := [180, 0, 74, 128, 60, 44, 185, 0, 76, 1, 0, 167, 255, 213, 27, 172]
abbrev dktX1_disturbed_2 : List UInt8 := dkwX1_disturbed_2 ++ []
def dkwX1_disturbed_1 : List UInt8 := [185, 0, 54, 1, 0, 192, 0, 58, 78, 45, 180, 0, 73, 42, 180, 0, 70, 160, 0, 16, 27, 45]
abbrev dktX1_disturbed_1 : List UInt8 := dkwX1_disturbed_1 ++ dktX1_disturbed_2
def dkwX1_disturbed_0 : List UInt8 := [3, 60, 42, 180, 0, 20, 182, 0, 44, 77, 44, 185, 0, 48, 1, 0, 153, 0, 40, 44]
abbrev dktX1_disturbed_0 : List UInt8 := dkwX1_disturbed_0 ++ dktX1_disturbed_1
theorem dksX1_disturbed_0 : cX1_disturbed.data.toList.drop 0 = dktX1_disturbed_0 := by decide +kernel
theorem dksX1_disturbed_1 : cX1_disturbed.data.toList.drop 20 = dktX1_disturbed_1 := dk_seg dksX1_disturbed_0 20 rfl rfl
theorem dksX1_disturbed_2 : cX1_disturbed.data.toList.drop 42 = dktX1_disturbed_2 := dk_seg dksX1_disturbed_1 22 rfl rfl
theorem dX1_disturbed_0 : decode cX1_disturbed 0 = .ok (.iconst 0, 1) := dk_3 (dk_at dksX1_disturbed_0 0 rfl rfl)
theorem dX1_disturbed_1 : decode cX1_disturbed 1 = .ok (.istore_n 1, 1) := dk_60 (dk_at dksX1_disturbed_0 1 rfl rfl)
theorem dX1_disturbed_2 : decode cX1_disturbed 2 = .ok (.aload_n 0, 1) := dk_42 (dk_at dksX1_disturbed_0 2 rfl rfl)
theorem dX1_disturbed_3 : decode cX1_disturbed 3 = .ok (.getfield 20, 3) := dk_180 0 20 (dk_at dksX1_disturbed_0 3 rfl rfl)
theorem dX1_disturbed_6 : decode cX1_disturbed 6 = .ok (.invokevirtual 44, 3) := dk_182 0 44 (dk_at dksX1_disturbed_0 6 rfl rfl)
theorem dX1_disturbed_9 : decode cX1_disturbed 9 = .ok (.astore_n 2, 1) := dk_77 (dk_at dksX1_disturbed_0 9 rfl rfl)
theorem dX1_disturbed_10 : decode cX1_disturbed 10 = .ok (.aload_n 2, 1) := dk_44 (dk_at dksX1_disturbed_0 10 rfl rfl)
theorem dX1_disturbed_11 : decode cX1_disturbed 11 = .ok (.invokeinterface 48 1, 5) := by decide +kernel
theorem dX1_disturbed_16 : decode cX1_disturbed 16 = .ok (.ifCond .eq 40, 3) := dk_153 0 40 (dk_at dksX1_disturbed_0 16 rfl rfl)
theorem dX1_disturbed_19 : decode cX1_disturbed 19 = .ok (.aload_n 2, 1) := dk_44 (dk_at dksX1_disturbed_0 19 rfl rfl)
theorem dX1_disturbed_20 : decode cX1_disturbed 20 = .ok (.invokeinterface 54 1, 5) := by decide +kernel
theorem dX1_disturbed_25 : decode cX1_disturbed 25 = .ok (.checkcast 58, 3) := dk_192 0 58 (dk_at dksX1_disturbed_1 5 rfl rfl)
theorem dX1_disturbed_28 : decode cX1_disturbed 28 = .ok (.astore_n 3, 1) := dk_78 (dk_at dksX1_disturbed_1 8 rfl rfl)
theorem dX1_disturbed_29 : decode cX1_disturbed 29 = .ok (.aload_n 3, 1) := dk_45 (dk_at dksX1_disturbed_1 9 rfl rfl)
theorem dX1_disturbed_30 : decode cX1_disturbed 30 = .ok (.getfield 73, 3) := dk_180 0 73 (dk_at dksX1_disturbed_1 10 rfl rfl)
theorem dX1_disturbed_33 : decode cX1_disturbed 33 = .ok (.aload_n 0, 1) := dk_42 (dk_at dksX1_disturbed_1 13 rfl rfl)
theorem dX1_disturbed_34 : decode cX1_disturbed 34 = .ok (.getfield 70, 3) := dk_180 0 70 (dk_at dksX1_disturbed_1 14 rfl rfl)
theorem dX1_disturbed_37 : decode cX1_disturbed 37 = .ok (.if_icmp .ne 16, 3) := dk_160 0 16 (dk_at dksX1_disturbed_1 17 rfl rfl)
theorem dX1_disturbed_40 : decode cX1_disturbed 40 = .ok (.iload_n 1, 1) := dk_27 (dk_at dksX1_disturbed_1 20 rfl rfl)
theorem dX1_disturbed_41 : decode cX1_disturbed 41 = .ok (.aload_n 3, 1) := dk_45 (dk_at dksX1_disturbed_1 21 rfl rfl)
theorem dX1_disturbed_42 : decode cX1_disturbed 42 = .ok (.getfield 74, 3) := dk_180 0 74 (dk_at dksX1_disturbed_2 0 rfl rfl)
theorem dX1_disturbed_45 : decode cX1_disturbed 45 = .ok (.ior, 1) := dk_128 (dk_at dksX1_disturbed_2 3 rfl rfl)
theorem dX1_disturbed_46 : decode cX1_disturbed 46 = .ok (.istore_n 1, 1) := dk_60 (dk_at dksX1_disturbed_2 4 rfl rfl)
theorem dX1_disturbed_47 : decode cX1_disturbed 47 = .ok (.aload_n 2, 1) := dk_44 (dk_at dksX1_disturbed_2 5 rfl rfl)
theorem dX1_disturbed_48 : decode cX1_disturbed 48 = .ok (.invokeinterface 76 1, 5) := by decide +kernel
theorem dX1_disturbed_53 : decode cX1_disturbed 53 = .ok (.goto (-43), 3) := dk_167 255 213 (dk_at dksX1_disturbed_2 11 rfl rfl)
theorem dX1_disturbed_56 : decode cX1_disturbed 56 = .ok (.iload_n 1, 1) := dk_27 (dk_at dksX1_disturbed_2 14 rfl rfl)
theorem dX1_disturbed_57 : decode cX1_disturbed 57 = .ok (.ireturn, 1) := dk_172 (dk_at dksX1_disturbed_2 15 rfl rfl)
abbrev cX1_settle : ByteArray := prog_3_method_8_code
def yX1_settle : MethodName := ⟨RX1, "settle", "()I"⟩
def dkwX1_settle_1 : List UInt8 := [132, 1, 1, 167, 255, 233, 42, 182, 0, 123, 153, 0, 9, 17, 3, 232, 167, 0, 5, 16, 251, 172]
abbrev dktX1_settle_1 : List UInt8 := dkwX1_settle_1 ++ []
def dkwX1_settle_0 : List UInt8 := [3, 60, 27, 17, 3, 232, 162, 0, 22, 42, 182, 0, 123, 153, 0, 5, 27, 172, 42, 182, 0, 105]
abbrev dktX1_settle_0 : List UInt8 := dkwX1_settle_0 ++ dktX1_settle_1
theorem dksX1_settle_0 : cX1_settle.data.toList.drop 0 = dktX1_settle_0 := by decide +kernel
theorem dksX1_settle_1 : cX1_settle.data.toList.drop 22 = dktX1_settle_1 := dk_seg dksX1_settle_0 22 rfl rfl
theorem dX1_settle_0 : decode cX1_settle 0 = .ok (.iconst 0, 1) := dk_3 (dk_at dksX1_settle_0 0 rfl rfl)
theorem dX1_settle_1 : decode cX1_settle 1 = .ok (.istore_n 1, 1) := dk_60 (dk_at dksX1_settle_0 1 rfl rfl)
theorem dX1_settle_2 : decode cX1_settle 2 = .ok (.iload_n 1, 1) := dk_27 (dk_at dksX1_settle_0 2 rfl rfl)
theorem dX1_settle_3 : decode cX1_settle 3 = .ok (.sipush 1000, 3) := dk_17 3 232 (dk_at dksX1_settle_0 3 rfl rfl)
theorem dX1_settle_6 : decode cX1_settle 6 = .ok (.if_icmp .ge 22, 3) := dk_162 0 22 (dk_at dksX1_settle_0 6 rfl rfl)
theorem dX1_settle_9 : decode cX1_settle 9 = .ok (.aload_n 0, 1) := dk_42 (dk_at dksX1_settle_0 9 rfl rfl)
theorem dX1_settle_10 : decode cX1_settle 10 = .ok (.invokevirtual 123, 3) := dk_182 0 123 (dk_at dksX1_settle_0 10 rfl rfl)
theorem dX1_settle_13 : decode cX1_settle 13 = .ok (.ifCond .eq 5, 3) := dk_153 0 5 (dk_at dksX1_settle_0 13 rfl rfl)
theorem dX1_settle_16 : decode cX1_settle 16 = .ok (.iload_n 1, 1) := dk_27 (dk_at dksX1_settle_0 16 rfl rfl)
theorem dX1_settle_17 : decode cX1_settle 17 = .ok (.ireturn, 1) := dk_172 (dk_at dksX1_settle_0 17 rfl rfl)
theorem dX1_settle_18 : decode cX1_settle 18 = .ok (.aload_n 0, 1) := dk_42 (dk_at dksX1_settle_0 18 rfl rfl)
theorem dX1_settle_19 : decode cX1_settle 19 = .ok (.invokevirtual 105, 3) := dk_182 0 105 (dk_at dksX1_settle_0 19 rfl rfl)
theorem dX1_settle_22 : decode cX1_settle 22 = .ok (.iinc 1 1, 3) := dk_132 1 1 (dk_at dksX1_settle_1 0 rfl rfl)
theorem dX1_settle_25 : decode cX1_settle 25 = .ok (.goto (-23), 3) := dk_167 255 233 (dk_at dksX1_settle_1 3 rfl rfl)
theorem dX1_settle_28 : decode cX1_settle 28 = .ok (.aload_n 0, 1) := dk_42 (dk_at dksX1_settle_1 6 rfl rfl)
theorem dX1_settle_29 : decode cX1_settle 29 = .ok (.invokevirtual 123, 3) := dk_182 0 123 (dk_at dksX1_settle_1 7 rfl rfl)
theorem dX1_settle_32 : decode cX1_settle 32 = .ok (.ifCond .eq 9, 3) := dk_153 0 9 (dk_at dksX1_settle_1 10 rfl rfl)
theorem dX1_settle_35 : decode cX1_settle 35 = .ok (.sipush 1000, 3) := dk_17 3 232 (dk_at dksX1_settle_1 13 rfl rfl)
theorem dX1_settle_38 : decode cX1_settle 38 = .ok (.goto 5, 3) := dk_167 0 5 (dk_at dksX1_settle_1 16 rfl rfl)
theorem dX1_settle_41 : decode cX1_settle 41 = .ok (.bipush (-5), 2) := dk_16 251 (dk_at dksX1_settle_1 19 rfl rfl)
theorem dX1_settle_43 : decode cX1_settle 43 = .ok (.ireturn, 1) := dk_172 (dk_at dksX1_settle_1 21 rfl rfl)
abbrev cX1_isSettled : ByteArray := prog_3_method_7_code
def yX1_isSettled : MethodName := ⟨RX1, "isSettled", "()Z"⟩
def dkwX1_isSettled_3 : List UInt8 := [167, 255, 201, 27, 172]
abbrev dktX1_isSettled_3 : List UInt8 := dkwX1_isSettled_3 ++ []
def dkwX1_isSettled_2 : List UInt8 := [166, 0, 18, 25, 5, 180, 0, 114, 182, 0, 118, 153, 0, 7, 4, 167, 0, 4, 3, 60, 132, 4, 1]
abbrev dktX1_isSettled_2 : List UInt8 := dkwX1_isSettled_2 ++ dktX1_isSettled_3
def dkwX1_isSettled_1 : List UInt8 := [58, 5, 27, 153, 0, 37, 25, 5, 182, 0, 108, 153, 0, 25, 25, 5, 180, 0, 79, 178, 0, 111]
abbrev dktX1_isSettled_1 : List UInt8 := dkwX1_isSettled_1 ++ dktX1_isSettled_2
def dkwX1_isSettled_0 : List UInt8 := [4, 60, 42, 180, 0, 11, 77, 44, 190, 62, 3, 54, 4, 21, 4, 29, 162, 0, 55, 44, 21, 4, 50]
abbrev dktX1_isSettled_0 : List UInt8 := dkwX1_isSettled_0 ++ dktX1_isSettled_1
theorem dksX1_isSettled_0 : cX1_isSettled.data.toList.drop 0 = dktX1_isSettled_0 := by decide +kernel
theorem dksX1_isSettled_1 : cX1_isSettled.data.toList.drop 23 = dktX1_isSettled_1 := dk_seg dksX1_isSettled_0 23 rfl rfl
theorem dksX1_isSettled_2 : cX1_isSettled.data.toList.drop 45 = dktX1_isSettled_2 := dk_seg dksX1_isSettled_1 22 rfl rfl
theorem dksX1_isSettled_3 : cX1_isSettled.data.toList.drop 68 = dktX1_isSettled_3 := dk_seg dksX1_isSettled_2 23 rfl rfl
theorem dX1_isSettled_0 : decode cX1_isSettled 0 = .ok (.iconst 1, 1) := dk_4 (dk_at dksX1_isSettled_0 0 rfl rfl)
theorem dX1_isSettled_1 : decode cX1_isSettled 1 = .ok (.istore_n 1, 1) := dk_60 (dk_at dksX1_isSettled_0 1 rfl rfl)
theorem dX1_isSettled_2 : decode cX1_isSettled 2 = .ok (.aload_n 0, 1) := dk_42 (dk_at dksX1_isSettled_0 2 rfl rfl)
theorem dX1_isSettled_3 : decode cX1_isSettled 3 = .ok (.getfield 11, 3) := dk_180 0 11 (dk_at dksX1_isSettled_0 3 rfl rfl)
theorem dX1_isSettled_6 : decode cX1_isSettled 6 = .ok (.astore_n 2, 1) := dk_77 (dk_at dksX1_isSettled_0 6 rfl rfl)
theorem dX1_isSettled_7 : decode cX1_isSettled 7 = .ok (.aload_n 2, 1) := dk_44 (dk_at dksX1_isSettled_0 7 rfl rfl)
theorem dX1_isSettled_8 : decode cX1_isSettled 8 = .ok (.arraylength, 1) := dk_190 (dk_at dksX1_isSettled_0 8 rfl rfl)
theorem dX1_isSettled_9 : decode cX1_isSettled 9 = .ok (.istore_n 3, 1) := dk_62 (dk_at dksX1_isSettled_0 9 rfl rfl)
theorem dX1_isSettled_10 : decode cX1_isSettled 10 = .ok (.iconst 0, 1) := dk_3 (dk_at dksX1_isSettled_0 10 rfl rfl)
theorem dX1_isSettled_11 : decode cX1_isSettled 11 = .ok (.istore 4, 2) := dk_54 4 (dk_at dksX1_isSettled_0 11 rfl rfl)
theorem dX1_isSettled_13 : decode cX1_isSettled 13 = .ok (.iload 4, 2) := dk_21 4 (dk_at dksX1_isSettled_0 13 rfl rfl)
theorem dX1_isSettled_15 : decode cX1_isSettled 15 = .ok (.iload_n 3, 1) := dk_29 (dk_at dksX1_isSettled_0 15 rfl rfl)
theorem dX1_isSettled_16 : decode cX1_isSettled 16 = .ok (.if_icmp .ge 55, 3) := dk_162 0 55 (dk_at dksX1_isSettled_0 16 rfl rfl)
theorem dX1_isSettled_19 : decode cX1_isSettled 19 = .ok (.aload_n 2, 1) := dk_44 (dk_at dksX1_isSettled_0 19 rfl rfl)
theorem dX1_isSettled_20 : decode cX1_isSettled 20 = .ok (.iload 4, 2) := dk_21 4 (dk_at dksX1_isSettled_0 20 rfl rfl)
theorem dX1_isSettled_22 : decode cX1_isSettled 22 = .ok (.aaload, 1) := dk_50 (dk_at dksX1_isSettled_0 22 rfl rfl)
theorem dX1_isSettled_23 : decode cX1_isSettled 23 = .ok (.astore 5, 2) := dk_58 5 (dk_at dksX1_isSettled_1 0 rfl rfl)
theorem dX1_isSettled_25 : decode cX1_isSettled 25 = .ok (.iload_n 1, 1) := dk_27 (dk_at dksX1_isSettled_1 2 rfl rfl)
theorem dX1_isSettled_26 : decode cX1_isSettled 26 = .ok (.ifCond .eq 37, 3) := dk_153 0 37 (dk_at dksX1_isSettled_1 3 rfl rfl)
theorem dX1_isSettled_29 : decode cX1_isSettled 29 = .ok (.aload 5, 2) := dk_25 5 (dk_at dksX1_isSettled_1 6 rfl rfl)
theorem dX1_isSettled_31 : decode cX1_isSettled 31 = .ok (.invokevirtual 108, 3) := dk_182 0 108 (dk_at dksX1_isSettled_1 8 rfl rfl)
theorem dX1_isSettled_34 : decode cX1_isSettled 34 = .ok (.ifCond .eq 25, 3) := dk_153 0 25 (dk_at dksX1_isSettled_1 11 rfl rfl)
theorem dX1_isSettled_37 : decode cX1_isSettled 37 = .ok (.aload 5, 2) := dk_25 5 (dk_at dksX1_isSettled_1 14 rfl rfl)
theorem dX1_isSettled_39 : decode cX1_isSettled 39 = .ok (.getfield 79, 3) := dk_180 0 79 (dk_at dksX1_isSettled_1 16 rfl rfl)
theorem dX1_isSettled_42 : decode cX1_isSettled 42 = .ok (.getstatic 111, 3) := dk_178 0 111 (dk_at dksX1_isSettled_1 19 rfl rfl)
theorem dX1_isSettled_45 : decode cX1_isSettled 45 = .ok (.if_acmp .ne 18, 3) := dk_166 0 18 (dk_at dksX1_isSettled_2 0 rfl rfl)
theorem dX1_isSettled_48 : decode cX1_isSettled 48 = .ok (.aload 5, 2) := dk_25 5 (dk_at dksX1_isSettled_2 3 rfl rfl)
theorem dX1_isSettled_50 : decode cX1_isSettled 50 = .ok (.getfield 114, 3) := dk_180 0 114 (dk_at dksX1_isSettled_2 5 rfl rfl)
theorem dX1_isSettled_53 : decode cX1_isSettled 53 = .ok (.invokevirtual 118, 3) := dk_182 0 118 (dk_at dksX1_isSettled_2 8 rfl rfl)
theorem dX1_isSettled_56 : decode cX1_isSettled 56 = .ok (.ifCond .eq 7, 3) := dk_153 0 7 (dk_at dksX1_isSettled_2 11 rfl rfl)
theorem dX1_isSettled_59 : decode cX1_isSettled 59 = .ok (.iconst 1, 1) := dk_4 (dk_at dksX1_isSettled_2 14 rfl rfl)
theorem dX1_isSettled_60 : decode cX1_isSettled 60 = .ok (.goto 4, 3) := dk_167 0 4 (dk_at dksX1_isSettled_2 15 rfl rfl)
theorem dX1_isSettled_63 : decode cX1_isSettled 63 = .ok (.iconst 0, 1) := dk_3 (dk_at dksX1_isSettled_2 18 rfl rfl)
theorem dX1_isSettled_64 : decode cX1_isSettled 64 = .ok (.istore_n 1, 1) := dk_60 (dk_at dksX1_isSettled_2 19 rfl rfl)
theorem dX1_isSettled_65 : decode cX1_isSettled 65 = .ok (.iinc 4 1, 3) := dk_132 4 1 (dk_at dksX1_isSettled_2 20 rfl rfl)
theorem dX1_isSettled_68 : decode cX1_isSettled 68 = .ok (.goto (-55), 3) := dk_167 255 201 (dk_at dksX1_isSettled_3 0 rfl rfl)
theorem dX1_isSettled_71 : decode cX1_isSettled 71 = .ok (.iload_n 1, 1) := dk_27 (dk_at dksX1_isSettled_3 3 rfl rfl)
theorem dX1_isSettled_72 : decode cX1_isSettled 72 = .ok (.ireturn, 1) := dk_172 (dk_at dksX1_isSettled_3 4 rfl rfl)
abbrev cX1_winner : ByteArray := prog_3_method_11_code
def yX1_winner : MethodName := ⟨RX1, "winner", "()I"⟩
def dkwX1_winner_3 : List UInt8 := [132, 3, 1, 167, 255, 189, 27, 172]
abbrev dktX1_winner_3 : List UInt8 := dkwX1_winner_3 ++ []
def dkwX1_winner_2 : List UInt8 := [198, 0, 24, 44, 198, 0, 15, 25, 4, 182, 0, 134, 44, 182, 0, 134, 162, 0, 8, 25, 4, 77, 29, 60]
abbrev dktX1_winner_2 : List UInt8 := dkwX1_winner_2 ++ dktX1_winner_3
def dkwX1_winner_1 : List UInt8 := [42, 180, 0, 11, 29, 50, 180, 0, 114, 182, 0, 129, 192, 0, 132, 167, 0, 4, 1, 58, 4, 25, 4]
abbrev dktX1_winner_1 : List UInt8 := dkwX1_winner_1 ++ dktX1_winner_2
def dkwX1_winner_0 : List UInt8 := [16, 251, 60, 1, 77, 3, 62, 29, 7, 162, 0, 68, 42, 180, 0, 11, 29, 50, 182, 0, 108, 153, 0, 21]
abbrev dktX1_winner_0 : List UInt8 := dkwX1_winner_0 ++ dktX1_winner_1
theorem dksX1_winner_0 : cX1_winner.data.toList.drop 0 = dktX1_winner_0 := by decide +kernel
theorem dksX1_winner_1 : cX1_winner.data.toList.drop 24 = dktX1_winner_1 := dk_seg dksX1_winner_0 24 rfl rfl
theorem dksX1_winner_2 : cX1_winner.data.toList.drop 47 = dktX1_winner_2 := dk_seg dksX1_winner_1 23 rfl rfl
theorem dksX1_winner_3 : cX1_winner.data.toList.drop 71 = dktX1_winner_3 := dk_seg dksX1_winner_2 24 rfl rfl
theorem dX1_winner_0 : decode cX1_winner 0 = .ok (.bipush (-5), 2) := dk_16 251 (dk_at dksX1_winner_0 0 rfl rfl)
theorem dX1_winner_2 : decode cX1_winner 2 = .ok (.istore_n 1, 1) := dk_60 (dk_at dksX1_winner_0 2 rfl rfl)
theorem dX1_winner_3 : decode cX1_winner 3 = .ok (.aconst_null, 1) := dk_1 (dk_at dksX1_winner_0 3 rfl rfl)
theorem dX1_winner_4 : decode cX1_winner 4 = .ok (.astore_n 2, 1) := dk_77 (dk_at dksX1_winner_0 4 rfl rfl)
theorem dX1_winner_5 : decode cX1_winner 5 = .ok (.iconst 0, 1) := dk_3 (dk_at dksX1_winner_0 5 rfl rfl)
theorem dX1_winner_6 : decode cX1_winner 6 = .ok (.istore_n 3, 1) := dk_62 (dk_at dksX1_winner_0 6 rfl rfl)
theorem dX1_winner_7 : decode cX1_winner 7 = .ok (.iload_n 3, 1) := dk_29 (dk_at dksX1_winner_0 7 rfl rfl)
theorem dX1_winner_8 : decode cX1_winner 8 = .ok (.iconst 4, 1) := dk_7 (dk_at dksX1_winner_0 8 rfl rfl)
theorem dX1_winner_9 : decode cX1_winner 9 = .ok (.if_icmp .ge 68, 3) := dk_162 0 68 (dk_at dksX1_winner_0 9 rfl rfl)
theorem dX1_winner_12 : decode cX1_winner 12 = .ok (.aload_n 0, 1) := dk_42 (dk_at dksX1_winner_0 12 rfl rfl)
theorem dX1_winner_13 : decode cX1_winner 13 = .ok (.getfield 11, 3) := dk_180 0 11 (dk_at dksX1_winner_0 13 rfl rfl)
theorem dX1_winner_16 : decode cX1_winner 16 = .ok (.iload_n 3, 1) := dk_29 (dk_at dksX1_winner_0 16 rfl rfl)
theorem dX1_winner_17 : decode cX1_winner 17 = .ok (.aaload, 1) := dk_50 (dk_at dksX1_winner_0 17 rfl rfl)
theorem dX1_winner_18 : decode cX1_winner 18 = .ok (.invokevirtual 108, 3) := dk_182 0 108 (dk_at dksX1_winner_0 18 rfl rfl)
theorem dX1_winner_21 : decode cX1_winner 21 = .ok (.ifCond .eq 21, 3) := dk_153 0 21 (dk_at dksX1_winner_0 21 rfl rfl)
theorem dX1_winner_24 : decode cX1_winner 24 = .ok (.aload_n 0, 1) := dk_42 (dk_at dksX1_winner_1 0 rfl rfl)
theorem dX1_winner_25 : decode cX1_winner 25 = .ok (.getfield 11, 3) := dk_180 0 11 (dk_at dksX1_winner_1 1 rfl rfl)
theorem dX1_winner_28 : decode cX1_winner 28 = .ok (.iload_n 3, 1) := dk_29 (dk_at dksX1_winner_1 4 rfl rfl)
theorem dX1_winner_29 : decode cX1_winner 29 = .ok (.aaload, 1) := dk_50 (dk_at dksX1_winner_1 5 rfl rfl)
theorem dX1_winner_30 : decode cX1_winner 30 = .ok (.getfield 114, 3) := dk_180 0 114 (dk_at dksX1_winner_1 6 rfl rfl)
theorem dX1_winner_33 : decode cX1_winner 33 = .ok (.invokevirtual 129, 3) := dk_182 0 129 (dk_at dksX1_winner_1 9 rfl rfl)
theorem dX1_winner_36 : decode cX1_winner 36 = .ok (.checkcast 132, 3) := dk_192 0 132 (dk_at dksX1_winner_1 12 rfl rfl)
theorem dX1_winner_39 : decode cX1_winner 39 = .ok (.goto 4, 3) := dk_167 0 4 (dk_at dksX1_winner_1 15 rfl rfl)
theorem dX1_winner_42 : decode cX1_winner 42 = .ok (.aconst_null, 1) := dk_1 (dk_at dksX1_winner_1 18 rfl rfl)
theorem dX1_winner_43 : decode cX1_winner 43 = .ok (.astore 4, 2) := dk_58 4 (dk_at dksX1_winner_1 19 rfl rfl)
theorem dX1_winner_45 : decode cX1_winner 45 = .ok (.aload 4, 2) := dk_25 4 (dk_at dksX1_winner_1 21 rfl rfl)
theorem dX1_winner_47 : decode cX1_winner 47 = .ok (.ifnull 24, 3) := dk_198 0 24 (dk_at dksX1_winner_2 0 rfl rfl)
theorem dX1_winner_50 : decode cX1_winner 50 = .ok (.aload_n 2, 1) := dk_44 (dk_at dksX1_winner_2 3 rfl rfl)
theorem dX1_winner_51 : decode cX1_winner 51 = .ok (.ifnull 15, 3) := dk_198 0 15 (dk_at dksX1_winner_2 4 rfl rfl)
theorem dX1_winner_54 : decode cX1_winner 54 = .ok (.aload 4, 2) := dk_25 4 (dk_at dksX1_winner_2 7 rfl rfl)
theorem dX1_winner_56 : decode cX1_winner 56 = .ok (.invokevirtual 134, 3) := dk_182 0 134 (dk_at dksX1_winner_2 9 rfl rfl)
theorem dX1_winner_59 : decode cX1_winner 59 = .ok (.aload_n 2, 1) := dk_44 (dk_at dksX1_winner_2 12 rfl rfl)
theorem dX1_winner_60 : decode cX1_winner 60 = .ok (.invokevirtual 134, 3) := dk_182 0 134 (dk_at dksX1_winner_2 13 rfl rfl)
theorem dX1_winner_63 : decode cX1_winner 63 = .ok (.if_icmp .ge 8, 3) := dk_162 0 8 (dk_at dksX1_winner_2 16 rfl rfl)
theorem dX1_winner_66 : decode cX1_winner 66 = .ok (.aload 4, 2) := dk_25 4 (dk_at dksX1_winner_2 19 rfl rfl)
theorem dX1_winner_68 : decode cX1_winner 68 = .ok (.astore_n 2, 1) := dk_77 (dk_at dksX1_winner_2 21 rfl rfl)
theorem dX1_winner_69 : decode cX1_winner 69 = .ok (.iload_n 3, 1) := dk_29 (dk_at dksX1_winner_2 22 rfl rfl)
theorem dX1_winner_70 : decode cX1_winner 70 = .ok (.istore_n 1, 1) := dk_60 (dk_at dksX1_winner_2 23 rfl rfl)
theorem dX1_winner_71 : decode cX1_winner 71 = .ok (.iinc 3 1, 3) := dk_132 3 1 (dk_at dksX1_winner_3 0 rfl rfl)
theorem dX1_winner_74 : decode cX1_winner 74 = .ok (.goto (-67), 3) := dk_167 255 189 (dk_at dksX1_winner_3 3 rfl rfl)
theorem dX1_winner_77 : decode cX1_winner 77 = .ok (.iload_n 1, 1) := dk_27 (dk_at dksX1_winner_3 6 rfl rfl)
theorem dX1_winner_78 : decode cX1_winner 78 = .ok (.ireturn, 1) := dk_172 (dk_at dksX1_winner_3 7 rfl rfl)
abbrev cX1_init_2 : ByteArray := prog_3_method_2_code
def yX1_init_2 : MethodName := ⟨RX1, "<init>", "(LArbitratedBus$Bus;)V"⟩
def dkwX1_init_2_7 : List UInt8 := [180, 0, 35, 181, 0, 35, 177]
abbrev dktX1_init_2_7 : List UInt8 := dkwX1_init_2_7 ++ []
def dkwX1_init_2_6 : List UInt8 := [180, 0, 70, 181, 0, 70, 42, 43, 180, 0, 28, 181, 0, 28, 42, 43, 180, 0, 32, 181, 0, 32, 42, 43]
abbrev dktX1_init_2_6 : List UInt8 := dkwX1_init_2_6 ++ dktX1_init_2_7
def dkwX1_init_2_5 : List UInt8 := [182, 0, 60, 167, 255, 229, 43, 180, 0, 24, 3, 42, 180, 0, 24, 3, 17, 1, 0, 184, 0, 64, 42, 43]
abbrev dktX1_init_2_5 : List UInt8 := dkwX1_init_2_5 ++ dktX1_init_2_6
def dkwX1_init_2_4 : List UInt8 := [185, 0, 48, 1, 0, 153, 0, 24, 44, 185, 0, 54, 1, 0, 192, 0, 58, 78, 42, 180, 0, 20, 45]
abbrev dktX1_init_2_4 : List UInt8 := dkwX1_init_2_4 ++ dktX1_init_2_5
def dkwX1_init_2_3 : List UInt8 := [28, 50, 183, 0, 41, 83, 132, 2, 1, 167, 255, 228, 43, 180, 0, 20, 182, 0, 44, 77, 44]
abbrev dktX1_init_2_3 : List UInt8 := dkwX1_init_2_3 ++ dktX1_init_2_4
def dkwX1_init_2_2 : List UInt8 := [181, 0, 35, 3, 61, 28, 7, 162, 0, 29, 42, 180, 0, 11, 28, 187, 0, 9, 89, 42, 43, 180, 0, 11]
abbrev dktX1_init_2_2 : List UInt8 := dkwX1_init_2_2 ++ dktX1_init_2_3
def dkwX1_init_2_1 : List UInt8 := [17, 1, 0, 188, 8, 181, 0, 24, 42, 17, 0, 128, 181, 0, 28, 42, 17, 1, 0, 181, 0, 32, 42, 7]
abbrev dktX1_init_2_1 : List UInt8 := dkwX1_init_2_1 ++ dktX1_init_2_2
def dkwX1_init_2_0 : List UInt8 := [42, 183, 0, 3, 42, 7, 189, 0, 9, 181, 0, 11, 42, 187, 0, 17, 89, 183, 0, 19, 181, 0, 20, 42]
abbrev dktX1_init_2_0 : List UInt8 := dkwX1_init_2_0 ++ dktX1_init_2_1
theorem dksX1_init_2_0 : cX1_init_2.data.toList.drop 0 = dktX1_init_2_0 := by decide +kernel
theorem dksX1_init_2_1 : cX1_init_2.data.toList.drop 24 = dktX1_init_2_1 := dk_seg dksX1_init_2_0 24 rfl rfl
theorem dksX1_init_2_2 : cX1_init_2.data.toList.drop 48 = dktX1_init_2_2 := dk_seg dksX1_init_2_1 24 rfl rfl
theorem dksX1_init_2_3 : cX1_init_2.data.toList.drop 72 = dktX1_init_2_3 := dk_seg dksX1_init_2_2 24 rfl rfl
theorem dksX1_init_2_4 : cX1_init_2.data.toList.drop 93 = dktX1_init_2_4 := dk_seg dksX1_init_2_3 21 rfl rfl
theorem dksX1_init_2_5 : cX1_init_2.data.toList.drop 116 = dktX1_init_2_5 := dk_seg dksX1_init_2_4 23 rfl rfl
theorem dksX1_init_2_6 : cX1_init_2.data.toList.drop 140 = dktX1_init_2_6 := dk_seg dksX1_init_2_5 24 rfl rfl
theorem dksX1_init_2_7 : cX1_init_2.data.toList.drop 164 = dktX1_init_2_7 := dk_seg dksX1_init_2_6 24 rfl rfl
theorem dX1_init_2_0 : decode cX1_init_2 0 = .ok (.aload_n 0, 1) := dk_42 (dk_at dksX1_init_2_0 0 rfl rfl)
theorem dX1_init_2_1 : decode cX1_init_2 1 = .ok (.invokespecial 3, 3) := dk_183 0 3 (dk_at dksX1_init_2_0 1 rfl rfl)
theorem dX1_init_2_4 : decode cX1_init_2 4 = .ok (.aload_n 0, 1) := dk_42 (dk_at dksX1_init_2_0 4 rfl rfl)
theorem dX1_init_2_5 : decode cX1_init_2 5 = .ok (.iconst 4, 1) := dk_7 (dk_at dksX1_init_2_0 5 rfl rfl)
theorem dX1_init_2_6 : decode cX1_init_2 6 = .ok (.anewarray 9, 3) := dk_189 0 9 (dk_at dksX1_init_2_0 6 rfl rfl)
theorem dX1_init_2_9 : decode cX1_init_2 9 = .ok (.putfield 11, 3) := dk_181 0 11 (dk_at dksX1_init_2_0 9 rfl rfl)
theorem dX1_init_2_12 : decode cX1_init_2 12 = .ok (.aload_n 0, 1) := dk_42 (dk_at dksX1_init_2_0 12 rfl rfl)
theorem dX1_init_2_13 : decode cX1_init_2 13 = .ok (.new 17, 3) := dk_187 0 17 (dk_at dksX1_init_2_0 13 rfl rfl)
theorem dX1_init_2_16 : decode cX1_init_2 16 = .ok (.dup, 1) := dk_89 (dk_at dksX1_init_2_0 16 rfl rfl)
theorem dX1_init_2_17 : decode cX1_init_2 17 = .ok (.invokespecial 19, 3) := dk_183 0 19 (dk_at dksX1_init_2_0 17 rfl rfl)
theorem dX1_init_2_20 : decode cX1_init_2 20 = .ok (.putfield 20, 3) := dk_181 0 20 (dk_at dksX1_init_2_0 20 rfl rfl)
theorem dX1_init_2_23 : decode cX1_init_2 23 = .ok (.aload_n 0, 1) := dk_42 (dk_at dksX1_init_2_0 23 rfl rfl)
theorem dX1_init_2_24 : decode cX1_init_2 24 = .ok (.sipush 256, 3) := dk_17 1 0 (dk_at dksX1_init_2_1 0 rfl rfl)
theorem dX1_init_2_27 : decode cX1_init_2 27 = .ok (.newarray .byte, 2) := dk_188_8 (dk_at dksX1_init_2_1 3 rfl rfl)
theorem dX1_init_2_29 : decode cX1_init_2 29 = .ok (.putfield 24, 3) := dk_181 0 24 (dk_at dksX1_init_2_1 5 rfl rfl)
theorem dX1_init_2_32 : decode cX1_init_2 32 = .ok (.aload_n 0, 1) := dk_42 (dk_at dksX1_init_2_1 8 rfl rfl)
theorem dX1_init_2_33 : decode cX1_init_2 33 = .ok (.sipush 128, 3) := dk_17 0 128 (dk_at dksX1_init_2_1 9 rfl rfl)
theorem dX1_init_2_36 : decode cX1_init_2 36 = .ok (.putfield 28, 3) := dk_181 0 28 (dk_at dksX1_init_2_1 12 rfl rfl)
theorem dX1_init_2_39 : decode cX1_init_2 39 = .ok (.aload_n 0, 1) := dk_42 (dk_at dksX1_init_2_1 15 rfl rfl)
theorem dX1_init_2_40 : decode cX1_init_2 40 = .ok (.sipush 256, 3) := dk_17 1 0 (dk_at dksX1_init_2_1 16 rfl rfl)
theorem dX1_init_2_43 : decode cX1_init_2 43 = .ok (.putfield 32, 3) := dk_181 0 32 (dk_at dksX1_init_2_1 19 rfl rfl)
theorem dX1_init_2_46 : decode cX1_init_2 46 = .ok (.aload_n 0, 1) := dk_42 (dk_at dksX1_init_2_1 22 rfl rfl)
theorem dX1_init_2_47 : decode cX1_init_2 47 = .ok (.iconst 4, 1) := dk_7 (dk_at dksX1_init_2_1 23 rfl rfl)
theorem dX1_init_2_48 : decode cX1_init_2 48 = .ok (.putfield 35, 3) := dk_181 0 35 (dk_at dksX1_init_2_2 0 rfl rfl)
theorem dX1_init_2_51 : decode cX1_init_2 51 = .ok (.iconst 0, 1) := dk_3 (dk_at dksX1_init_2_2 3 rfl rfl)
theorem dX1_init_2_52 : decode cX1_init_2 52 = .ok (.istore_n 2, 1) := dk_61 (dk_at dksX1_init_2_2 4 rfl rfl)
theorem dX1_init_2_53 : decode cX1_init_2 53 = .ok (.iload_n 2, 1) := dk_28 (dk_at dksX1_init_2_2 5 rfl rfl)
theorem dX1_init_2_54 : decode cX1_init_2 54 = .ok (.iconst 4, 1) := dk_7 (dk_at dksX1_init_2_2 6 rfl rfl)
theorem dX1_init_2_55 : decode cX1_init_2 55 = .ok (.if_icmp .ge 29, 3) := dk_162 0 29 (dk_at dksX1_init_2_2 7 rfl rfl)
theorem dX1_init_2_58 : decode cX1_init_2 58 = .ok (.aload_n 0, 1) := dk_42 (dk_at dksX1_init_2_2 10 rfl rfl)
theorem dX1_init_2_59 : decode cX1_init_2 59 = .ok (.getfield 11, 3) := dk_180 0 11 (dk_at dksX1_init_2_2 11 rfl rfl)
theorem dX1_init_2_62 : decode cX1_init_2 62 = .ok (.iload_n 2, 1) := dk_28 (dk_at dksX1_init_2_2 14 rfl rfl)
theorem dX1_init_2_63 : decode cX1_init_2 63 = .ok (.new 9, 3) := dk_187 0 9 (dk_at dksX1_init_2_2 15 rfl rfl)
theorem dX1_init_2_66 : decode cX1_init_2 66 = .ok (.dup, 1) := dk_89 (dk_at dksX1_init_2_2 18 rfl rfl)
theorem dX1_init_2_67 : decode cX1_init_2 67 = .ok (.aload_n 0, 1) := dk_42 (dk_at dksX1_init_2_2 19 rfl rfl)
theorem dX1_init_2_68 : decode cX1_init_2 68 = .ok (.aload_n 1, 1) := dk_43 (dk_at dksX1_init_2_2 20 rfl rfl)
theorem dX1_init_2_69 : decode cX1_init_2 69 = .ok (.getfield 11, 3) := dk_180 0 11 (dk_at dksX1_init_2_2 21 rfl rfl)
theorem dX1_init_2_72 : decode cX1_init_2 72 = .ok (.iload_n 2, 1) := dk_28 (dk_at dksX1_init_2_3 0 rfl rfl)
theorem dX1_init_2_73 : decode cX1_init_2 73 = .ok (.aaload, 1) := dk_50 (dk_at dksX1_init_2_3 1 rfl rfl)
theorem dX1_init_2_74 : decode cX1_init_2 74 = .ok (.invokespecial 41, 3) := dk_183 0 41 (dk_at dksX1_init_2_3 2 rfl rfl)
theorem dX1_init_2_77 : decode cX1_init_2 77 = .ok (.aastore, 1) := dk_83 (dk_at dksX1_init_2_3 5 rfl rfl)
theorem dX1_init_2_78 : decode cX1_init_2 78 = .ok (.iinc 2 1, 3) := dk_132 2 1 (dk_at dksX1_init_2_3 6 rfl rfl)
theorem dX1_init_2_81 : decode cX1_init_2 81 = .ok (.goto (-28), 3) := dk_167 255 228 (dk_at dksX1_init_2_3 9 rfl rfl)
theorem dX1_init_2_84 : decode cX1_init_2 84 = .ok (.aload_n 1, 1) := dk_43 (dk_at dksX1_init_2_3 12 rfl rfl)
theorem dX1_init_2_85 : decode cX1_init_2 85 = .ok (.getfield 20, 3) := dk_180 0 20 (dk_at dksX1_init_2_3 13 rfl rfl)
theorem dX1_init_2_88 : decode cX1_init_2 88 = .ok (.invokevirtual 44, 3) := dk_182 0 44 (dk_at dksX1_init_2_3 16 rfl rfl)
theorem dX1_init_2_91 : decode cX1_init_2 91 = .ok (.astore_n 2, 1) := dk_77 (dk_at dksX1_init_2_3 19 rfl rfl)
theorem dX1_init_2_92 : decode cX1_init_2 92 = .ok (.aload_n 2, 1) := dk_44 (dk_at dksX1_init_2_3 20 rfl rfl)
theorem dX1_init_2_93 : decode cX1_init_2 93 = .ok (.invokeinterface 48 1, 5) := by decide +kernel
theorem dX1_init_2_98 : decode cX1_init_2 98 = .ok (.ifCond .eq 24, 3) := dk_153 0 24 (dk_at dksX1_init_2_4 5 rfl rfl)
theorem dX1_init_2_101 : decode cX1_init_2 101 = .ok (.aload_n 2, 1) := dk_44 (dk_at dksX1_init_2_4 8 rfl rfl)
theorem dX1_init_2_102 : decode cX1_init_2 102 = .ok (.invokeinterface 54 1, 5) := by decide +kernel
theorem dX1_init_2_107 : decode cX1_init_2 107 = .ok (.checkcast 58, 3) := dk_192 0 58 (dk_at dksX1_init_2_4 14 rfl rfl)
theorem dX1_init_2_110 : decode cX1_init_2 110 = .ok (.astore_n 3, 1) := dk_78 (dk_at dksX1_init_2_4 17 rfl rfl)
theorem dX1_init_2_111 : decode cX1_init_2 111 = .ok (.aload_n 0, 1) := dk_42 (dk_at dksX1_init_2_4 18 rfl rfl)
theorem dX1_init_2_112 : decode cX1_init_2 112 = .ok (.getfield 20, 3) := dk_180 0 20 (dk_at dksX1_init_2_4 19 rfl rfl)
theorem dX1_init_2_115 : decode cX1_init_2 115 = .ok (.aload_n 3, 1) := dk_45 (dk_at dksX1_init_2_4 22 rfl rfl)
theorem dX1_init_2_116 : decode cX1_init_2 116 = .ok (.invokevirtual 60, 3) := dk_182 0 60 (dk_at dksX1_init_2_5 0 rfl rfl)
theorem dX1_init_2_119 : decode cX1_init_2 119 = .ok (.goto (-27), 3) := dk_167 255 229 (dk_at dksX1_init_2_5 3 rfl rfl)
theorem dX1_init_2_122 : decode cX1_init_2 122 = .ok (.aload_n 1, 1) := dk_43 (dk_at dksX1_init_2_5 6 rfl rfl)
theorem dX1_init_2_123 : decode cX1_init_2 123 = .ok (.getfield 24, 3) := dk_180 0 24 (dk_at dksX1_init_2_5 7 rfl rfl)
theorem dX1_init_2_126 : decode cX1_init_2 126 = .ok (.iconst 0, 1) := dk_3 (dk_at dksX1_init_2_5 10 rfl rfl)
theorem dX1_init_2_127 : decode cX1_init_2 127 = .ok (.aload_n 0, 1) := dk_42 (dk_at dksX1_init_2_5 11 rfl rfl)
theorem dX1_init_2_128 : decode cX1_init_2 128 = .ok (.getfield 24, 3) := dk_180 0 24 (dk_at dksX1_init_2_5 12 rfl rfl)
theorem dX1_init_2_131 : decode cX1_init_2 131 = .ok (.iconst 0, 1) := dk_3 (dk_at dksX1_init_2_5 15 rfl rfl)
theorem dX1_init_2_132 : decode cX1_init_2 132 = .ok (.sipush 256, 3) := dk_17 1 0 (dk_at dksX1_init_2_5 16 rfl rfl)
theorem dX1_init_2_135 : decode cX1_init_2 135 = .ok (.invokestatic 64, 3) := dk_184 0 64 (dk_at dksX1_init_2_5 19 rfl rfl)
theorem dX1_init_2_138 : decode cX1_init_2 138 = .ok (.aload_n 0, 1) := dk_42 (dk_at dksX1_init_2_5 22 rfl rfl)
theorem dX1_init_2_139 : decode cX1_init_2 139 = .ok (.aload_n 1, 1) := dk_43 (dk_at dksX1_init_2_5 23 rfl rfl)
theorem dX1_init_2_140 : decode cX1_init_2 140 = .ok (.getfield 70, 3) := dk_180 0 70 (dk_at dksX1_init_2_6 0 rfl rfl)
theorem dX1_init_2_143 : decode cX1_init_2 143 = .ok (.putfield 70, 3) := dk_181 0 70 (dk_at dksX1_init_2_6 3 rfl rfl)
theorem dX1_init_2_146 : decode cX1_init_2 146 = .ok (.aload_n 0, 1) := dk_42 (dk_at dksX1_init_2_6 6 rfl rfl)
theorem dX1_init_2_147 : decode cX1_init_2 147 = .ok (.aload_n 1, 1) := dk_43 (dk_at dksX1_init_2_6 7 rfl rfl)
theorem dX1_init_2_148 : decode cX1_init_2 148 = .ok (.getfield 28, 3) := dk_180 0 28 (dk_at dksX1_init_2_6 8 rfl rfl)
theorem dX1_init_2_151 : decode cX1_init_2 151 = .ok (.putfield 28, 3) := dk_181 0 28 (dk_at dksX1_init_2_6 11 rfl rfl)
theorem dX1_init_2_154 : decode cX1_init_2 154 = .ok (.aload_n 0, 1) := dk_42 (dk_at dksX1_init_2_6 14 rfl rfl)
theorem dX1_init_2_155 : decode cX1_init_2 155 = .ok (.aload_n 1, 1) := dk_43 (dk_at dksX1_init_2_6 15 rfl rfl)
theorem dX1_init_2_156 : decode cX1_init_2 156 = .ok (.getfield 32, 3) := dk_180 0 32 (dk_at dksX1_init_2_6 16 rfl rfl)
theorem dX1_init_2_159 : decode cX1_init_2 159 = .ok (.putfield 32, 3) := dk_181 0 32 (dk_at dksX1_init_2_6 19 rfl rfl)
theorem dX1_init_2_162 : decode cX1_init_2 162 = .ok (.aload_n 0, 1) := dk_42 (dk_at dksX1_init_2_6 22 rfl rfl)
theorem dX1_init_2_163 : decode cX1_init_2 163 = .ok (.aload_n 1, 1) := dk_43 (dk_at dksX1_init_2_6 23 rfl rfl)
theorem dX1_init_2_164 : decode cX1_init_2 164 = .ok (.getfield 35, 3) := dk_180 0 35 (dk_at dksX1_init_2_7 0 rfl rfl)
theorem dX1_init_2_167 : decode cX1_init_2 167 = .ok (.putfield 35, 3) := dk_181 0 35 (dk_at dksX1_init_2_7 3 rfl rfl)
theorem dX1_init_2_170 : decode cX1_init_2 170 = .ok (.return_, 1) := dk_177 (dk_at dksX1_init_2_7 6 rfl rfl)
abbrev cX1_bitsUntilSent : ByteArray := prog_3_method_9_code
def yX1_bitsUntilSent : MethodName := ⟨RX1, "bitsUntilSent", "(I)I"⟩
def dkwX1_bitsUntilSent_1 : List UInt8 := [180, 0, 11, 27, 50, 180, 0, 100, 28, 164, 0, 5, 29, 172, 132, 3, 1, 167, 255, 227, 16, 251, 172]
abbrev dktX1_bitsUntilSent_1 : List UInt8 := dkwX1_bitsUntilSent_1 ++ []
def dkwX1_bitsUntilSent_0 : List UInt8 := [42, 180, 0, 11, 27, 50, 180, 0, 100, 61, 4, 62, 29, 17, 3, 232, 163, 0, 28, 42, 182, 0, 105, 42]
abbrev dktX1_bitsUntilSent_0 : List UInt8 := dkwX1_bitsUntilSent_0 ++ dktX1_bitsUntilSent_1
theorem dksX1_bitsUntilSent_0 : cX1_bitsUntilSent.data.toList.drop 0 = dktX1_bitsUntilSent_0 := by decide +kernel
theorem dksX1_bitsUntilSent_1 : cX1_bitsUntilSent.data.toList.drop 24 = dktX1_bitsUntilSent_1 := dk_seg dksX1_bitsUntilSent_0 24 rfl rfl
theorem dX1_bitsUntilSent_0 : decode cX1_bitsUntilSent 0 = .ok (.aload_n 0, 1) := dk_42 (dk_at dksX1_bitsUntilSent_0 0 rfl rfl)
theorem dX1_bitsUntilSent_1 : decode cX1_bitsUntilSent 1 = .ok (.getfield 11, 3) := dk_180 0 11 (dk_at dksX1_bitsUntilSent_0 1 rfl rfl)
theorem dX1_bitsUntilSent_4 : decode cX1_bitsUntilSent 4 = .ok (.iload_n 1, 1) := dk_27 (dk_at dksX1_bitsUntilSent_0 4 rfl rfl)
theorem dX1_bitsUntilSent_5 : decode cX1_bitsUntilSent 5 = .ok (.aaload, 1) := dk_50 (dk_at dksX1_bitsUntilSent_0 5 rfl rfl)
theorem dX1_bitsUntilSent_6 : decode cX1_bitsUntilSent 6 = .ok (.getfield 100, 3) := dk_180 0 100 (dk_at dksX1_bitsUntilSent_0 6 rfl rfl)
theorem dX1_bitsUntilSent_9 : decode cX1_bitsUntilSent 9 = .ok (.istore_n 2, 1) := dk_61 (dk_at dksX1_bitsUntilSent_0 9 rfl rfl)
theorem dX1_bitsUntilSent_10 : decode cX1_bitsUntilSent 10 = .ok (.iconst 1, 1) := dk_4 (dk_at dksX1_bitsUntilSent_0 10 rfl rfl)
theorem dX1_bitsUntilSent_11 : decode cX1_bitsUntilSent 11 = .ok (.istore_n 3, 1) := dk_62 (dk_at dksX1_bitsUntilSent_0 11 rfl rfl)
theorem dX1_bitsUntilSent_12 : decode cX1_bitsUntilSent 12 = .ok (.iload_n 3, 1) := dk_29 (dk_at dksX1_bitsUntilSent_0 12 rfl rfl)
theorem dX1_bitsUntilSent_13 : decode cX1_bitsUntilSent 13 = .ok (.sipush 1000, 3) := dk_17 3 232 (dk_at dksX1_bitsUntilSent_0 13 rfl rfl)
theorem dX1_bitsUntilSent_16 : decode cX1_bitsUntilSent 16 = .ok (.if_icmp .gt 28, 3) := dk_163 0 28 (dk_at dksX1_bitsUntilSent_0 16 rfl rfl)
theorem dX1_bitsUntilSent_19 : decode cX1_bitsUntilSent 19 = .ok (.aload_n 0, 1) := dk_42 (dk_at dksX1_bitsUntilSent_0 19 rfl rfl)
theorem dX1_bitsUntilSent_20 : decode cX1_bitsUntilSent 20 = .ok (.invokevirtual 105, 3) := dk_182 0 105 (dk_at dksX1_bitsUntilSent_0 20 rfl rfl)
theorem dX1_bitsUntilSent_23 : decode cX1_bitsUntilSent 23 = .ok (.aload_n 0, 1) := dk_42 (dk_at dksX1_bitsUntilSent_0 23 rfl rfl)
theorem dX1_bitsUntilSent_24 : decode cX1_bitsUntilSent 24 = .ok (.getfield 11, 3) := dk_180 0 11 (dk_at dksX1_bitsUntilSent_1 0 rfl rfl)
theorem dX1_bitsUntilSent_27 : decode cX1_bitsUntilSent 27 = .ok (.iload_n 1, 1) := dk_27 (dk_at dksX1_bitsUntilSent_1 3 rfl rfl)
theorem dX1_bitsUntilSent_28 : decode cX1_bitsUntilSent 28 = .ok (.aaload, 1) := dk_50 (dk_at dksX1_bitsUntilSent_1 4 rfl rfl)
theorem dX1_bitsUntilSent_29 : decode cX1_bitsUntilSent 29 = .ok (.getfield 100, 3) := dk_180 0 100 (dk_at dksX1_bitsUntilSent_1 5 rfl rfl)
theorem dX1_bitsUntilSent_32 : decode cX1_bitsUntilSent 32 = .ok (.iload_n 2, 1) := dk_28 (dk_at dksX1_bitsUntilSent_1 8 rfl rfl)
theorem dX1_bitsUntilSent_33 : decode cX1_bitsUntilSent 33 = .ok (.if_icmp .le 5, 3) := dk_164 0 5 (dk_at dksX1_bitsUntilSent_1 9 rfl rfl)
theorem dX1_bitsUntilSent_36 : decode cX1_bitsUntilSent 36 = .ok (.iload_n 3, 1) := dk_29 (dk_at dksX1_bitsUntilSent_1 12 rfl rfl)
theorem dX1_bitsUntilSent_37 : decode cX1_bitsUntilSent 37 = .ok (.ireturn, 1) := dk_172 (dk_at dksX1_bitsUntilSent_1 13 rfl rfl)
theorem dX1_bitsUntilSent_38 : decode cX1_bitsUntilSent 38 = .ok (.iinc 3 1, 3) := dk_132 3 1 (dk_at dksX1_bitsUntilSent_1 14 rfl rfl)
theorem dX1_bitsUntilSent_41 : decode cX1_bitsUntilSent 41 = .ok (.goto (-29), 3) := dk_167 255 227 (dk_at dksX1_bitsUntilSent_1 17 rfl rfl)
theorem dX1_bitsUntilSent_44 : decode cX1_bitsUntilSent 44 = .ok (.bipush (-5), 2) := dk_16 251 (dk_at dksX1_bitsUntilSent_1 20 rfl rfl)
theorem dX1_bitsUntilSent_46 : decode cX1_bitsUntilSent 46 = .ok (.ireturn, 1) := dk_172 (dk_at dksX1_bitsUntilSent_1 22 rfl rfl)
theorem q103 : (Jvm.Cond.initialized "ArbitratedBus$Bus") ∈ lw_all := lw_g (lw_at lw_m1 2 rfl) rfl
theorem q179 : (Jvm.Cond.instantiable "ArbitratedBus$Bus" (7 : Nat)) ∈ lw_all := lw_g (lw_at lw_m1 78 rfl) rfl
theorem q181 : (Jvm.Cond.instanceMethod ({ cls := "ArbitratedBus$Bus", name := "<init>", desc := "()V" } : Jvm.MethodName)) ∈ lw_all := lw_g (lw_at lw_m1 80 rfl) rfl
theorem q182 : (Jvm.Cond.code ({ cls := "ArbitratedBus$Bus", name := "<init>", desc := "()V" } : Jvm.MethodName) prog_3_method_1_code (2 : Nat) (Option.none : Option Jvm.ClassFile.FieldType)) ∈ lw_all := lw_g (lw_at lw_m1 81 rfl) rfl
theorem q183 : (Jvm.Cond.methodLink "ArbitratedBus$Bus" (3 : Nat) ({ cls := "java/lang/Object", name := "<init>", desc := "()V" } : Jvm.MethodName)) ∈ lw_all := lw_g (lw_at lw_m1 82 rfl) rfl
theorem q184 : (Jvm.Cond.classLink "ArbitratedBus$Bus" (9 : Nat) "ArbitratedBus$Node") ∈ lw_all := lw_g (lw_at lw_m1 83 rfl) rfl
theorem q186 : (Jvm.Cond.classLink "ArbitratedBus$Bus" (17 : Nat) "java/util/LinkedList") ∈ lw_all := lw_g (lw_at lw_m1 85 rfl) rfl
theorem q188 : (Jvm.Cond.methodLink "ArbitratedBus$Bus" (19 : Nat) ({ cls := "java/util/LinkedList", name := "<init>", desc := "()V" } : Jvm.MethodName)) ∈ lw_all := lw_g (lw_at lw_m1 87 rfl) rfl
theorem q223 : (Jvm.Cond.methodLink "ArbitratedBus$Bus" (38 : Nat) ({ cls := "ArbitratedBus$Node", name := "<init>", desc := "(LArbitratedBus$Bus;)V" } : Jvm.MethodName)) ∈ lw_all := lw_g (lw_at lw_m1 122 rfl) rfl
theorem q370 : (Jvm.Cond.fieldLinkNest "ArbitratedBus$Bus" (79 : Nat) "ArbitratedBus$Node" "phase" "LArbitratedBus$Phase;" "ArbitratedBus") ∈ lw_tbl := lw_at lw_m2 29 rfl
theorem q388 : (Jvm.Cond.fieldLinkNest "ArbitratedBus$Bus" (89 : Nat) "ArbitratedBus$Node" "driven" "I" "ArbitratedBus") ∈ lw_tbl := lw_at lw_m2 47 rfl
theorem q395 : (Jvm.Cond.fieldLinkNest "ArbitratedBus$Bus" (114 : Nat) "ArbitratedBus$Node" "waiting" "Ljava/util/PriorityQueue;" "ArbitratedBus") ∈ lw_tbl := lw_at lw_m2 54 rfl
theorem q415 : (Jvm.Cond.fieldLinkNest "ArbitratedBus$Bus" (100 : Nat) "ArbitratedBus$Node" "sent" "I" "ArbitratedBus") ∈ lw_tbl := lw_at lw_m2 74 rfl
theorem q469 : (Jvm.Cond.fieldLink "ArbitratedBus$Bus" (11 : Nat) "ArbitratedBus$Bus" "nodes" "[LArbitratedBus$Node;") ∈ lw_all := lw_g (lw_at lw_m2 128 rfl) rfl
theorem q471 : (Jvm.Cond.fieldLink "ArbitratedBus$Bus" (20 : Nat) "ArbitratedBus$Bus" "disturbances" "Ljava/util/LinkedList;") ∈ lw_all := lw_g (lw_at lw_m2 130 rfl) rfl
theorem q473 : (Jvm.Cond.fieldLink "ArbitratedBus$Bus" (24 : Nat) "ArbitratedBus$Bus" "history" "[B") ∈ lw_all := lw_g (lw_at lw_m2 132 rfl) rfl
theorem q475 : (Jvm.Cond.fieldLink "ArbitratedBus$Bus" (70 : Nat) "ArbitratedBus$Bus" "time" "I") ∈ lw_all := lw_g (lw_at lw_m2 134 rfl) rfl
theorem q477 : (Jvm.Cond.fieldLink "ArbitratedBus$Bus" (28 : Nat) "ArbitratedBus$Bus" "passiveLimit" "I") ∈ lw_all := lw_g (lw_at lw_m2 136 rfl) rfl
theorem q480 : (Jvm.Cond.fieldLink "ArbitratedBus$Bus" (32 : Nat) "ArbitratedBus$Bus" "offLimit" "I") ∈ lw_all := lw_g (lw_at lw_m2 139 rfl) rfl
theorem q483 : (Jvm.Cond.fieldLink "ArbitratedBus$Bus" (35 : Nat) "ArbitratedBus$Bus" "recovery" "I") ∈ lw_all := lw_g (lw_at lw_m2 142 rfl) rfl
theorem q486 : (Jvm.Cond.laysFinal "ArbitratedBus$Bus" "ArbitratedBus$Bus" "nodes" "[LArbitratedBus$Node;") ∈ lw_all := lw_g (lw_at lw_m2 145 rfl) rfl
theorem q487 : (Jvm.Cond.soleField "ArbitratedBus$Bus" "nodes") ∈ lw_all := lw_g (lw_at lw_m2 146 rfl) rfl
theorem q488 : (Jvm.Cond.laysFinal "ArbitratedBus$Bus" "ArbitratedBus$Bus" "disturbances" "Ljava/util/LinkedList;") ∈ lw_all := lw_g (lw_at lw_m2 147 rfl) rfl
theorem q489 : (Jvm.Cond.soleField "ArbitratedBus$Bus" "disturbances") ∈ lw_all := lw_g (lw_at lw_m2 148 rfl) rfl
theorem q490 : (Jvm.Cond.laysFinal "ArbitratedBus$Bus" "ArbitratedBus$Bus" "history" "[B") ∈ lw_all := lw_g (lw_at lw_m2 149 rfl) rfl
theorem q491 : (Jvm.Cond.soleField "ArbitratedBus$Bus" "history") ∈ lw_all := lw_g (lw_at lw_m2 150 rfl) rfl
theorem q492 : (Jvm.Cond.lays "ArbitratedBus$Bus" "ArbitratedBus$Bus" "time" "I") ∈ lw_all := lw_g (lw_at lw_m2 151 rfl) rfl
theorem q493 : (Jvm.Cond.soleField "ArbitratedBus$Bus" "time") ∈ lw_all := lw_g (lw_at lw_m2 152 rfl) rfl
theorem q494 : (Jvm.Cond.lays "ArbitratedBus$Bus" "ArbitratedBus$Bus" "passiveLimit" "I") ∈ lw_all := lw_g (lw_at lw_m2 153 rfl) rfl
theorem q495 : (Jvm.Cond.soleField "ArbitratedBus$Bus" "passiveLimit") ∈ lw_all := lw_g (lw_at lw_m2 154 rfl) rfl
theorem q496 : (Jvm.Cond.lays "ArbitratedBus$Bus" "ArbitratedBus$Bus" "offLimit" "I") ∈ lw_all := lw_g (lw_at lw_m2 155 rfl) rfl
theorem q497 : (Jvm.Cond.soleField "ArbitratedBus$Bus" "offLimit") ∈ lw_all := lw_g (lw_at lw_m2 156 rfl) rfl
theorem q498 : (Jvm.Cond.lays "ArbitratedBus$Bus" "ArbitratedBus$Bus" "recovery" "I") ∈ lw_all := lw_g (lw_at lw_m2 157 rfl) rfl
theorem q499 : (Jvm.Cond.soleField "ArbitratedBus$Bus" "recovery") ∈ lw_all := lw_g (lw_at lw_m2 158 rfl) rfl
theorem q500 : (Jvm.Cond.superclass "ArbitratedBus$Bus" "java/lang/Object") ∈ lw_all := lw_g (lw_at lw_m2 159 rfl) rfl
theorem q674 : (Jvm.Cond.selects "ArbitratedBus$Bus" ({ cls := "java/lang/Object", name := "getClass", desc := "()Ljava/lang/Class;" } : Jvm.MethodName) ({ cls := "java/lang/Object", name := "getClass", desc := "()Ljava/lang/Class;" } : Jvm.MethodName)) ∈ lw_all := lw_g (lw_at lw_m3 93 rfl) rfl
theorem q1130 : (Jvm.Cond.instanceMethod ({ cls := "ArbitratedBus$Bus", name := "attached", desc := "()I" } : Jvm.MethodName)) ∈ lw_all := lw_g (lw_at lw_m5 69 rfl) rfl
theorem q1131 : (Jvm.Cond.selects "ArbitratedBus$Bus" ({ cls := "ArbitratedBus$Bus", name := "attached", desc := "()I" } : Jvm.MethodName) ({ cls := "ArbitratedBus$Bus", name := "attached", desc := "()I" } : Jvm.MethodName)) ∈ lw_all := lw_g (lw_at lw_m5 70 rfl) rfl
theorem q1132 : (Jvm.Cond.code ({ cls := "ArbitratedBus$Bus", name := "attached", desc := "()I" } : Jvm.MethodName) prog_3_method_10_code (6 : Nat) (Option.some Jvm.ClassFile.FieldType.int)) ∈ lw_all := lw_g (lw_at lw_m5 71 rfl) rfl
theorem q1133 : (Jvm.Cond.fieldLink "ArbitratedBus$Bus" (126 : Nat) "ArbitratedBus$Phase" "OUT" "LArbitratedBus$Phase;") ∈ lw_all := lw_g (lw_at lw_m5 72 rfl) rfl
theorem q1765 : (Jvm.Cond.fieldLinkNest "ArbitratedBus$Bus" (74 : Nat) "ArbitratedBus$Disturbance" "nodes" "I" "ArbitratedBus") ∈ lw_tbl := lw_at lw_m7 224 rfl
theorem q1767 : (Jvm.Cond.fieldLinkNest "ArbitratedBus$Bus" (73 : Nat) "ArbitratedBus$Disturbance" "time" "I" "ArbitratedBus") ∈ lw_tbl := lw_at lw_m7 226 rfl
theorem q1807 : (Jvm.Cond.instanceMethod ({ cls := "ArbitratedBus$Bus", name := "run", desc := "(I)I" } : Jvm.MethodName)) ∈ lw_all := lw_g (lw_at lw_m8 26 rfl) rfl
theorem q1808 : (Jvm.Cond.selects "ArbitratedBus$Bus" ({ cls := "ArbitratedBus$Bus", name := "run", desc := "(I)I" } : Jvm.MethodName) ({ cls := "ArbitratedBus$Bus", name := "run", desc := "(I)I" } : Jvm.MethodName)) ∈ lw_all := lw_g (lw_at lw_m8 27 rfl) rfl
theorem q1809 : (Jvm.Cond.code ({ cls := "ArbitratedBus$Bus", name := "run", desc := "(I)I" } : Jvm.MethodName) prog_3_method_6_code (4 : Nat) (Option.some Jvm.ClassFile.FieldType.int)) ∈ lw_all := lw_g (lw_at lw_m8 28 rfl) rfl
theorem q1810 : (Jvm.Cond.methodLink "ArbitratedBus$Bus" (103 : Nat) ({ cls := "ArbitratedBus$Bus", name := "sent", desc := "()I" } : Jvm.MethodName)) ∈ lw_all := lw_g (lw_at lw_m8 29 rfl) rfl
theorem q1811 : (Jvm.Cond.instanceMethod ({ cls := "ArbitratedBus$Bus", name := "sent", desc := "()I" } : Jvm.MethodName)) ∈ lw_all := lw_g (lw_at lw_m8 30 rfl) rfl
theorem q1812 : (Jvm.Cond.selects "ArbitratedBus$Bus" ({ cls := "ArbitratedBus$Bus", name := "sent", desc := "()I" } : Jvm.MethodName) ({ cls := "ArbitratedBus$Bus", name := "sent", desc := "()I" } : Jvm.MethodName)) ∈ lw_all := lw_g (lw_at lw_m8 31 rfl) rfl
theorem q1813 : (Jvm.Cond.code ({ cls := "ArbitratedBus$Bus", name := "sent", desc := "()I" } : Jvm.MethodName) prog_3_method_5_code (6 : Nat) (Option.some Jvm.ClassFile.FieldType.int)) ∈ lw_all := lw_g (lw_at lw_m8 32 rfl) rfl
theorem q1814 : (Jvm.Cond.methodLink "ArbitratedBus$Bus" (105 : Nat) ({ cls := "ArbitratedBus$Bus", name := "step", desc := "()V" } : Jvm.MethodName)) ∈ lw_all := lw_g (lw_at lw_m8 33 rfl) rfl
theorem q1815 : (Jvm.Cond.instanceMethod ({ cls := "ArbitratedBus$Bus", name := "step", desc := "()V" } : Jvm.MethodName)) ∈ lw_all := lw_g (lw_at lw_m8 34 rfl) rfl
theorem q1816 : (Jvm.Cond.selects "ArbitratedBus$Bus" ({ cls := "ArbitratedBus$Bus", name := "step", desc := "()V" } : Jvm.MethodName) ({ cls := "ArbitratedBus$Bus", name := "step", desc := "()V" } : Jvm.MethodName)) ∈ lw_all := lw_g (lw_at lw_m8 35 rfl) rfl
theorem q1817 : (Jvm.Cond.code ({ cls := "ArbitratedBus$Bus", name := "step", desc := "()V" } : Jvm.MethodName) prog_3_method_4_code (6 : Nat) (Option.none : Option Jvm.ClassFile.FieldType)) ∈ lw_all := lw_g (lw_at lw_m8 36 rfl) rfl
theorem q1818 : (Jvm.Cond.methodLink "ArbitratedBus$Bus" (83 : Nat) ({ cls := "ArbitratedBus$Phase", name := "drive", desc := "(LArbitratedBus$Node;)I" } : Jvm.MethodName)) ∈ lw_all := lw_g (lw_at lw_m8 37 rfl) rfl
theorem q1871 : (Jvm.Cond.methodLink "ArbitratedBus$Bus" (92 : Nat) ({ cls := "ArbitratedBus$Bus", name := "disturbed", desc := "()I" } : Jvm.MethodName)) ∈ lw_all := lw_g (lw_at lw_m8 90 rfl) rfl
theorem q1872 : (Jvm.Cond.privateMethod ({ cls := "ArbitratedBus$Bus", name := "disturbed", desc := "()I" } : Jvm.MethodName)) ∈ lw_tbl := lw_at lw_m8 91 rfl
theorem q1873 : (Jvm.Cond.instanceMethod ({ cls := "ArbitratedBus$Bus", name := "disturbed", desc := "()I" } : Jvm.MethodName)) ∈ lw_all := lw_g (lw_at lw_m8 92 rfl) rfl
theorem q1874 : (Jvm.Cond.code ({ cls := "ArbitratedBus$Bus", name := "disturbed", desc := "()I" } : Jvm.MethodName) prog_3_method_3_code (4 : Nat) (Option.some Jvm.ClassFile.FieldType.int)) ∈ lw_all := lw_g (lw_at lw_m8 93 rfl) rfl
theorem q1875 : (Jvm.Cond.methodLink "ArbitratedBus$Bus" (44 : Nat) ({ cls := "java/util/LinkedList", name := "iterator", desc := "()Ljava/util/Iterator;" } : Jvm.MethodName)) ∈ lw_all := lw_g (lw_at lw_m8 94 rfl) rfl
theorem q1960 : (Jvm.Cond.interfaceEntry "ArbitratedBus$Bus" (48 : Nat)) ∈ lw_tbl := lw_at lw_m8 179 rfl
theorem q1961 : (Jvm.Cond.methodLink "ArbitratedBus$Bus" (48 : Nat) ({ cls := "java/util/Iterator", name := "hasNext", desc := "()Z" } : Jvm.MethodName)) ∈ lw_all := lw_g (lw_at lw_m8 180 rfl) rfl
theorem q1962 : (Jvm.Cond.interfaceEntry "ArbitratedBus$Bus" (54 : Nat)) ∈ lw_tbl := lw_at lw_m8 181 rfl
theorem q1963 : (Jvm.Cond.methodLink "ArbitratedBus$Bus" (54 : Nat) ({ cls := "java/util/Iterator", name := "next", desc := "()Ljava/lang/Object;" } : Jvm.MethodName)) ∈ lw_all := lw_g (lw_at lw_m8 182 rfl) rfl
theorem q1964 : (Jvm.Cond.classLink "ArbitratedBus$Bus" (58 : Nat) "ArbitratedBus$Disturbance") ∈ lw_all := lw_g (lw_at lw_m8 183 rfl) rfl
theorem q1965 : (Jvm.Cond.interfaceEntry "ArbitratedBus$Bus" (76 : Nat)) ∈ lw_tbl := lw_at lw_m8 184 rfl
theorem q1966 : (Jvm.Cond.methodLink "ArbitratedBus$Bus" (76 : Nat) ({ cls := "java/util/Iterator", name := "remove", desc := "()V" } : Jvm.MethodName)) ∈ lw_all := lw_g (lw_at lw_m8 185 rfl) rfl
theorem q2122 : (Jvm.Cond.methodLink "ArbitratedBus$Bus" (96 : Nat) ({ cls := "ArbitratedBus$Phase", name := "act", desc := "(LArbitratedBus$Node;I)V" } : Jvm.MethodName)) ∈ lw_all := lw_g (lw_at lw_m9 101 rfl) rfl
theorem q2287 : (Jvm.Cond.instanceMethod ({ cls := "ArbitratedBus$Bus", name := "settle", desc := "()I" } : Jvm.MethodName)) ∈ lw_all := lw_g (lw_at lw_m10 26 rfl) rfl
theorem q2288 : (Jvm.Cond.selects "ArbitratedBus$Bus" ({ cls := "ArbitratedBus$Bus", name := "settle", desc := "()I" } : Jvm.MethodName) ({ cls := "ArbitratedBus$Bus", name := "settle", desc := "()I" } : Jvm.MethodName)) ∈ lw_all := lw_g (lw_at lw_m10 27 rfl) rfl
theorem q2289 : (Jvm.Cond.code ({ cls := "ArbitratedBus$Bus", name := "settle", desc := "()I" } : Jvm.MethodName) prog_3_method_8_code (2 : Nat) (Option.some Jvm.ClassFile.FieldType.int)) ∈ lw_all := lw_g (lw_at lw_m10 28 rfl) rfl
theorem q2290 : (Jvm.Cond.methodLink "ArbitratedBus$Bus" (123 : Nat) ({ cls := "ArbitratedBus$Bus", name := "isSettled", desc := "()Z" } : Jvm.MethodName)) ∈ lw_all := lw_g (lw_at lw_m10 29 rfl) rfl
theorem q2291 : (Jvm.Cond.privateMethod ({ cls := "ArbitratedBus$Bus", name := "isSettled", desc := "()Z" } : Jvm.MethodName)) ∈ lw_tbl := lw_at lw_m10 30 rfl
theorem q2292 : (Jvm.Cond.instanceMethod ({ cls := "ArbitratedBus$Bus", name := "isSettled", desc := "()Z" } : Jvm.MethodName)) ∈ lw_all := lw_g (lw_at lw_m10 31 rfl) rfl
theorem q2293 : (Jvm.Cond.code ({ cls := "ArbitratedBus$Bus", name := "isSettled", desc := "()Z" } : Jvm.MethodName) prog_3_method_7_code (6 : Nat) (Option.some Jvm.ClassFile.FieldType.boolean)) ∈ lw_all := lw_g (lw_at lw_m10 32 rfl) rfl
theorem q2294 : (Jvm.Cond.methodLink "ArbitratedBus$Bus" (108 : Nat) ({ cls := "ArbitratedBus$Node", name := "isOn", desc := "()Z" } : Jvm.MethodName)) ∈ lw_all := lw_g (lw_at lw_m10 33 rfl) rfl
theorem q2299 : (Jvm.Cond.fieldLink "ArbitratedBus$Bus" (111 : Nat) "ArbitratedBus$Phase" "READY" "LArbitratedBus$Phase;") ∈ lw_all := lw_g (lw_at lw_m10 38 rfl) rfl
theorem q2300 : (Jvm.Cond.methodLink "ArbitratedBus$Bus" (118 : Nat) ({ cls := "java/util/PriorityQueue", name := "isEmpty", desc := "()Z" } : Jvm.MethodName)) ∈ lw_all := lw_g (lw_at lw_m10 39 rfl) rfl
theorem q2456 : (Jvm.Cond.instanceMethod ({ cls := "ArbitratedBus$Bus", name := "winner", desc := "()I" } : Jvm.MethodName)) ∈ lw_all := lw_g (lw_at lw_m10 195 rfl) rfl
theorem q2457 : (Jvm.Cond.selects "ArbitratedBus$Bus" ({ cls := "ArbitratedBus$Bus", name := "winner", desc := "()I" } : Jvm.MethodName) ({ cls := "ArbitratedBus$Bus", name := "winner", desc := "()I" } : Jvm.MethodName)) ∈ lw_all := lw_g (lw_at lw_m10 196 rfl) rfl
theorem q2458 : (Jvm.Cond.code ({ cls := "ArbitratedBus$Bus", name := "winner", desc := "()I" } : Jvm.MethodName) prog_3_method_11_code (5 : Nat) (Option.some Jvm.ClassFile.FieldType.int)) ∈ lw_all := lw_g (lw_at lw_m10 197 rfl) rfl
theorem q2459 : (Jvm.Cond.methodLink "ArbitratedBus$Bus" (129 : Nat) ({ cls := "java/util/PriorityQueue", name := "peek", desc := "()Ljava/lang/Object;" } : Jvm.MethodName)) ∈ lw_all := lw_g (lw_at lw_m10 198 rfl) rfl
theorem q2460 : (Jvm.Cond.classLink "ArbitratedBus$Bus" (132 : Nat) "ArbitratedBus$Frame") ∈ lw_all := lw_g (lw_at lw_m10 199 rfl) rfl
theorem q2461 : (Jvm.Cond.methodLink "ArbitratedBus$Bus" (134 : Nat) ({ cls := "ArbitratedBus$Frame", name := "key", desc := "()I" } : Jvm.MethodName)) ∈ lw_all := lw_g (lw_at lw_m10 200 rfl) rfl
theorem q2467 : (Jvm.Cond.instanceMethod ({ cls := "ArbitratedBus$Bus", name := "<init>", desc := "(LArbitratedBus$Bus;)V" } : Jvm.MethodName)) ∈ lw_all := lw_g (lw_at lw_m10 206 rfl) rfl
theorem q2468 : (Jvm.Cond.code ({ cls := "ArbitratedBus$Bus", name := "<init>", desc := "(LArbitratedBus$Bus;)V" } : Jvm.MethodName) prog_3_method_2_code (4 : Nat) (Option.none : Option Jvm.ClassFile.FieldType)) ∈ lw_all := lw_g (lw_at lw_m10 207 rfl) rfl
theorem q2469 : (Jvm.Cond.methodLink "ArbitratedBus$Bus" (41 : Nat) ({ cls := "ArbitratedBus$Node", name := "<init>", desc := "(LArbitratedBus$Bus;LArbitratedBus$Node;)V" } : Jvm.MethodName)) ∈ lw_all := lw_g (lw_at lw_m10 208 rfl) rfl
theorem q2546 : (Jvm.Cond.methodLink "ArbitratedBus$Bus" (60 : Nat) ({ cls := "java/util/LinkedList", name := "addLast", desc := "(Ljava/lang/Object;)V" } : Jvm.MethodName)) ∈ lw_all := lw_g (lw_at lw_m11 45 rfl) rfl
theorem q2547 : (Jvm.Cond.methodLink "ArbitratedBus$Bus" (64 : Nat) ({ cls := "java/lang/System", name := "arraycopy", desc := "(Ljava/lang/Object;ILjava/lang/Object;II)V" } : Jvm.MethodName)) ∈ lw_all := lw_g (lw_at lw_m11 46 rfl) rfl
theorem q2549 : (Jvm.Cond.instanceMethod ({ cls := "ArbitratedBus$Bus", name := "bitsUntilSent", desc := "(I)I" } : Jvm.MethodName)) ∈ lw_all := lw_g (lw_at lw_m11 48 rfl) rfl
theorem q2550 : (Jvm.Cond.selects "ArbitratedBus$Bus" ({ cls := "ArbitratedBus$Bus", name := "bitsUntilSent", desc := "(I)I" } : Jvm.MethodName) ({ cls := "ArbitratedBus$Bus", name := "bitsUntilSent", desc := "(I)I" } : Jvm.MethodName)) ∈ lw_all := lw_g (lw_at lw_m11 49 rfl) rfl
theorem q2551 : (Jvm.Cond.code ({ cls := "ArbitratedBus$Bus", name := "bitsUntilSent", desc := "(I)I" } : Jvm.MethodName) prog_3_method_9_code (4 : Nat) (Option.some Jvm.ClassFile.FieldType.int)) ∈ lw_all := lw_g (lw_at lw_m11 50 rfl) rfl
theorem q3417 : (Jvm.Cond.castable "ArbitratedBus$Bus" "java/lang/Object") ∈ lw_tbl := lw_at lw_m14 196 rfl
theorem in_X1 : ∀ w ∈ wsX10, w ∈ lw_all := lw_in wsX10 [486, 488, 490, 492, 494, 496, 498] (by decide +kernel) (by decide +kernel)

/-! ArbitratedBus$Node -/
set_option maxRecDepth 100000
def RX2 : String := "ArbitratedBus$Node"
def TX2 : u_T := fun k => match k with
  | 0 => ("ArbitratedBus$Node", "of", "LArbitratedBus$Bus;", true)
  | 1 => ("ArbitratedBus$Node", "phase", "LArbitratedBus$Phase;", false)
  | 2 => ("ArbitratedBus$Node", "transmitter", "Z", false)
  | 3 => ("ArbitratedBus$Node", "transmitErrors", "I", false)
  | 4 => ("ArbitratedBus$Node", "receiveErrors", "I", false)
  | 5 => ("ArbitratedBus$Node", "count", "I", false)
  | 6 => ("ArbitratedBus$Node", "sequences", "I", false)
  | 7 => ("ArbitratedBus$Node", "active", "Z", false)
  | 8 => ("ArbitratedBus$Node", "afterFlag", "Z", false)
  | 9 => ("ArbitratedBus$Node", "driven", "I", false)
  | 10 => ("ArbitratedBus$Node", "current", "LArbitratedBus$Frame;", false)
  | 11 => ("ArbitratedBus$Node", "sampled", "LArbitratedBus$Sampled;", true)
  | 12 => ("ArbitratedBus$Node", "waiting", "Ljava/util/PriorityQueue;", false)
  | 13 => ("ArbitratedBus$Node", "received", "Ljava/util/ArrayDeque;", true)
  | 14 => ("ArbitratedBus$Node", "answers", "Ljava/util/TreeMap;", true)
  | 15 => ("ArbitratedBus$Node", "mask", "I", false)
  | 16 => ("ArbitratedBus$Node", "code", "I", false)
  | 17 => ("ArbitratedBus$Node", "requests", "I", false)
  | 18 => ("ArbitratedBus$Node", "errors", "[I", true)
  | 19 => ("ArbitratedBus$Node", "lastError", "I", false)
  | 20 => ("ArbitratedBus$Node", "lost", "I", false)
  | 21 => ("ArbitratedBus$Node", "overloads", "I", false)
  | 22 => ("ArbitratedBus$Node", "sent", "I", false)
  | _ => ("ArbitratedBus$Node", "overruns", "I", false)
def tyX2 : Nat → FieldType := fun k => match k with
  | 0 => .object "ArbitratedBus$Bus"
  | 1 => .object "ArbitratedBus$Phase"
  | 2 => .boolean
  | 3 => .int
  | 4 => .int
  | 5 => .int
  | 6 => .int
  | 7 => .boolean
  | 8 => .boolean
  | 9 => .int
  | 10 => .object "ArbitratedBus$Frame"
  | 11 => .object "ArbitratedBus$Sampled"
  | 12 => .object "java/util/PriorityQueue"
  | 13 => .object "java/util/ArrayDeque"
  | 14 => .object "java/util/TreeMap"
  | 15 => .int
  | 16 => .int
  | 17 => .int
  | 18 => .array .int
  | 19 => .int
  | 20 => .int
  | 21 => .int
  | 22 => .int
  | _ => .int
abbrev wsX20 : List Cond := u_ws RX2 TX2 24
set_option maxRecDepth 100000 in
theorem nmX2 : ∀ a, a < 24 → ∀ b, b < 24 → a ≠ b → (TX2 a).2.1 ≠ (TX2 b).2.1 := by decide +kernel
set_option maxRecDepth 100000 in
theorem tyX2_ok : ∀ k, k < 24 → parseFieldDescriptor (TX2 k).2.2.1 = some (tyX2 k) := by decide +kernel
abbrev cX2_init : ByteArray := prog_10_method_1_code
def yX2_init : MethodName := ⟨RX2, "<init>", "(LArbitratedBus$Bus;)V"⟩
def dkwX2_init_3 : List UInt8 := [181, 0, 55, 42, 16, 251, 181, 0, 59, 42, 43, 181, 0, 63, 177]
abbrev dktX2_init_3 : List UInt8 := dkwX2_init_3 ++ []
def dkwX2_init_2 : List UInt8 := [42, 187, 0, 43, 89, 187, 0, 45, 89, 183, 0, 47, 183, 0, 48, 181, 0, 51, 42, 16, 6, 188, 10]
abbrev dktX2_init_2 : List UInt8 := dkwX2_init_2 ++ dktX2_init_3
def dkwX2_init_1 : List UInt8 := [187, 0, 27, 89, 7, 183, 0, 29, 181, 0, 32, 42, 187, 0, 36, 89, 16, 7, 183, 0, 38, 181, 0, 39]
abbrev dktX2_init_1 : List UInt8 := dkwX2_init_1 ++ dktX2_init_2
def dkwX2_init_0 : List UInt8 := [42, 183, 0, 3, 42, 178, 0, 9, 181, 0, 15, 42, 187, 0, 20, 89, 183, 0, 22, 181, 0, 23, 42]
abbrev dktX2_init_0 : List UInt8 := dkwX2_init_0 ++ dktX2_init_1
theorem dksX2_init_0 : cX2_init.data.toList.drop 0 = dktX2_init_0 := by decide +kernel
theorem dksX2_init_1 : cX2_init.data.toList.drop 23 = dktX2_init_1 := dk_seg dksX2_init_0 23 rfl rfl
theorem dksX2_init_2 : cX2_init.data.toList.drop 47 = dktX2_init_2 := dk_seg dksX2_init_1 24 rfl rfl
theorem dksX2_init_3 : cX2_init.data.toList.drop 70 = dktX2_init_3 := dk_seg dksX2_init_2 23 rfl rfl
theorem dX2_init_0 : decode cX2_init 0 = .ok (.aload_n 0, 1) := dk_42 (dk_at dksX2_init_0 0 rfl rfl)
theorem dX2_init_1 : decode cX2_init 1 = .ok (.invokespecial 3, 3) := dk_183 0 3 (dk_at dksX2_init_0 1 rfl rfl)
theorem dX2_init_4 : decode cX2_init 4 = .ok (.aload_n 0, 1) := dk_42 (dk_at dksX2_init_0 4 rfl rfl)
theorem dX2_init_5 : decode cX2_init 5 = .ok (.getstatic 9, 3) := dk_178 0 9 (dk_at dksX2_init_0 5 rfl rfl)
theorem dX2_init_8 : decode cX2_init 8 = .ok (.putfield 15, 3) := dk_181 0 15 (dk_at dksX2_init_0 8 rfl rfl)
theorem dX2_init_11 : decode cX2_init 11 = .ok (.aload_n 0, 1) := dk_42 (dk_at dksX2_init_0 11 rfl rfl)
theorem dX2_init_12 : decode cX2_init 12 = .ok (.new 20, 3) := dk_187 0 20 (dk_at dksX2_init_0 12 rfl rfl)
theorem dX2_init_15 : decode cX2_init 15 = .ok (.dup, 1) := dk_89 (dk_at dksX2_init_0 15 rfl rfl)
theorem dX2_init_16 : decode cX2_init 16 = .ok (.invokespecial 22, 3) := dk_183 0 22 (dk_at dksX2_init_0 16 rfl rfl)
theorem dX2_init_19 : decode cX2_init 19 = .ok (.putfield 23, 3) := dk_181 0 23 (dk_at dksX2_init_0 19 rfl rfl)
theorem dX2_init_22 : decode cX2_init 22 = .ok (.aload_n 0, 1) := dk_42 (dk_at dksX2_init_0 22 rfl rfl)
theorem dX2_init_23 : decode cX2_init 23 = .ok (.new 27, 3) := dk_187 0 27 (dk_at dksX2_init_1 0 rfl rfl)
theorem dX2_init_26 : decode cX2_init 26 = .ok (.dup, 1) := dk_89 (dk_at dksX2_init_1 3 rfl rfl)
theorem dX2_init_27 : decode cX2_init 27 = .ok (.iconst 4, 1) := dk_7 (dk_at dksX2_init_1 4 rfl rfl)
theorem dX2_init_28 : decode cX2_init 28 = .ok (.invokespecial 29, 3) := dk_183 0 29 (dk_at dksX2_init_1 5 rfl rfl)
theorem dX2_init_31 : decode cX2_init 31 = .ok (.putfield 32, 3) := dk_181 0 32 (dk_at dksX2_init_1 8 rfl rfl)
theorem dX2_init_34 : decode cX2_init 34 = .ok (.aload_n 0, 1) := dk_42 (dk_at dksX2_init_1 11 rfl rfl)
theorem dX2_init_35 : decode cX2_init 35 = .ok (.new 36, 3) := dk_187 0 36 (dk_at dksX2_init_1 12 rfl rfl)
theorem dX2_init_38 : decode cX2_init 38 = .ok (.dup, 1) := dk_89 (dk_at dksX2_init_1 15 rfl rfl)
theorem dX2_init_39 : decode cX2_init 39 = .ok (.bipush 7, 2) := dk_16 7 (dk_at dksX2_init_1 16 rfl rfl)
theorem dX2_init_41 : decode cX2_init 41 = .ok (.invokespecial 38, 3) := dk_183 0 38 (dk_at dksX2_init_1 18 rfl rfl)
theorem dX2_init_44 : decode cX2_init 44 = .ok (.putfield 39, 3) := dk_181 0 39 (dk_at dksX2_init_1 21 rfl rfl)
theorem dX2_init_47 : decode cX2_init 47 = .ok (.aload_n 0, 1) := dk_42 (dk_at dksX2_init_2 0 rfl rfl)
theorem dX2_init_48 : decode cX2_init 48 = .ok (.new 43, 3) := dk_187 0 43 (dk_at dksX2_init_2 1 rfl rfl)
theorem dX2_init_51 : decode cX2_init 51 = .ok (.dup, 1) := dk_89 (dk_at dksX2_init_2 4 rfl rfl)
theorem dX2_init_52 : decode cX2_init 52 = .ok (.new 45, 3) := dk_187 0 45 (dk_at dksX2_init_2 5 rfl rfl)
theorem dX2_init_55 : decode cX2_init 55 = .ok (.dup, 1) := dk_89 (dk_at dksX2_init_2 8 rfl rfl)
theorem dX2_init_56 : decode cX2_init 56 = .ok (.invokespecial 47, 3) := dk_183 0 47 (dk_at dksX2_init_2 9 rfl rfl)
theorem dX2_init_59 : decode cX2_init 59 = .ok (.invokespecial 48, 3) := dk_183 0 48 (dk_at dksX2_init_2 12 rfl rfl)
theorem dX2_init_62 : decode cX2_init 62 = .ok (.putfield 51, 3) := dk_181 0 51 (dk_at dksX2_init_2 15 rfl rfl)
theorem dX2_init_65 : decode cX2_init 65 = .ok (.aload_n 0, 1) := dk_42 (dk_at dksX2_init_2 18 rfl rfl)
theorem dX2_init_66 : decode cX2_init 66 = .ok (.bipush 6, 2) := dk_16 6 (dk_at dksX2_init_2 19 rfl rfl)
theorem dX2_init_68 : decode cX2_init 68 = .ok (.newarray .int, 2) := dk_188_10 (dk_at dksX2_init_2 21 rfl rfl)
theorem dX2_init_70 : decode cX2_init 70 = .ok (.putfield 55, 3) := dk_181 0 55 (dk_at dksX2_init_3 0 rfl rfl)
theorem dX2_init_73 : decode cX2_init 73 = .ok (.aload_n 0, 1) := dk_42 (dk_at dksX2_init_3 3 rfl rfl)
theorem dX2_init_74 : decode cX2_init 74 = .ok (.bipush (-5), 2) := dk_16 251 (dk_at dksX2_init_3 4 rfl rfl)
theorem dX2_init_76 : decode cX2_init 76 = .ok (.putfield 59, 3) := dk_181 0 59 (dk_at dksX2_init_3 6 rfl rfl)
theorem dX2_init_79 : decode cX2_init 79 = .ok (.aload_n 0, 1) := dk_42 (dk_at dksX2_init_3 9 rfl rfl)
theorem dX2_init_80 : decode cX2_init 80 = .ok (.aload_n 1, 1) := dk_43 (dk_at dksX2_init_3 10 rfl rfl)
theorem dX2_init_81 : decode cX2_init 81 = .ok (.putfield 63, 3) := dk_181 0 63 (dk_at dksX2_init_3 11 rfl rfl)
theorem dX2_init_84 : decode cX2_init 84 = .ok (.return_, 1) := dk_177 (dk_at dksX2_init_3 14 rfl rfl)
abbrev cX2_enter : ByteArray := prog_10_method_7_code
def yX2_enter : MethodName := ⟨RX2, "enter", "(LArbitratedBus$Phase;)V"⟩
def dkwX2_enter_0 : List UInt8 := [42, 43, 181, 0, 15, 42, 3, 181, 0, 80, 177]
abbrev dktX2_enter_0 : List UInt8 := dkwX2_enter_0 ++ []
theorem dksX2_enter_0 : cX2_enter.data.toList.drop 0 = dktX2_enter_0 := by decide +kernel
theorem dX2_enter_0 : decode cX2_enter 0 = .ok (.aload_n 0, 1) := dk_42 (dk_at dksX2_enter_0 0 rfl rfl)
theorem dX2_enter_1 : decode cX2_enter 1 = .ok (.aload_n 1, 1) := dk_43 (dk_at dksX2_enter_0 1 rfl rfl)
theorem dX2_enter_2 : decode cX2_enter 2 = .ok (.putfield 15, 3) := dk_181 0 15 (dk_at dksX2_enter_0 2 rfl rfl)
theorem dX2_enter_5 : decode cX2_enter 5 = .ok (.aload_n 0, 1) := dk_42 (dk_at dksX2_enter_0 5 rfl rfl)
theorem dX2_enter_6 : decode cX2_enter 6 = .ok (.iconst 0, 1) := dk_3 (dk_at dksX2_enter_0 6 rfl rfl)
theorem dX2_enter_7 : decode cX2_enter 7 = .ok (.putfield 80, 3) := dk_181 0 80 (dk_at dksX2_enter_0 7 rfl rfl)
theorem dX2_enter_10 : decode cX2_enter 10 = .ok (.return_, 1) := dk_177 (dk_at dksX2_enter_0 10 rfl rfl)
abbrev cX2_add : ByteArray := prog_10_method_23_code
def yX2_add : MethodName := ⟨RX2, "add", "(IZII)V"⟩
def dkwX2_add_1 : List UInt8 := [42, 89, 180, 0, 153, 4, 96, 181, 0, 153, 177]
abbrev dktX2_add_1 : List UInt8 := dkwX2_add_1 ++ []
def dkwX2_add_0 : List UInt8 := [42, 180, 0, 32, 187, 0, 117, 89, 27, 28, 29, 21, 4, 42, 180, 0, 153, 183, 1, 61, 182, 0, 119, 87]
abbrev dktX2_add_0 : List UInt8 := dkwX2_add_0 ++ dktX2_add_1
theorem dksX2_add_0 : cX2_add.data.toList.drop 0 = dktX2_add_0 := by decide +kernel
theorem dksX2_add_1 : cX2_add.data.toList.drop 24 = dktX2_add_1 := dk_seg dksX2_add_0 24 rfl rfl
theorem dX2_add_0 : decode cX2_add 0 = .ok (.aload_n 0, 1) := dk_42 (dk_at dksX2_add_0 0 rfl rfl)
theorem dX2_add_1 : decode cX2_add 1 = .ok (.getfield 32, 3) := dk_180 0 32 (dk_at dksX2_add_0 1 rfl rfl)
theorem dX2_add_4 : decode cX2_add 4 = .ok (.new 117, 3) := dk_187 0 117 (dk_at dksX2_add_0 4 rfl rfl)
theorem dX2_add_7 : decode cX2_add 7 = .ok (.dup, 1) := dk_89 (dk_at dksX2_add_0 7 rfl rfl)
theorem dX2_add_8 : decode cX2_add 8 = .ok (.iload_n 1, 1) := dk_27 (dk_at dksX2_add_0 8 rfl rfl)
theorem dX2_add_9 : decode cX2_add 9 = .ok (.iload_n 2, 1) := dk_28 (dk_at dksX2_add_0 9 rfl rfl)
theorem dX2_add_10 : decode cX2_add 10 = .ok (.iload_n 3, 1) := dk_29 (dk_at dksX2_add_0 10 rfl rfl)
theorem dX2_add_11 : decode cX2_add 11 = .ok (.iload 4, 2) := dk_21 4 (dk_at dksX2_add_0 11 rfl rfl)
theorem dX2_add_13 : decode cX2_add 13 = .ok (.aload_n 0, 1) := dk_42 (dk_at dksX2_add_0 13 rfl rfl)
theorem dX2_add_14 : decode cX2_add 14 = .ok (.getfield 153, 3) := dk_180 0 153 (dk_at dksX2_add_0 14 rfl rfl)
theorem dX2_add_17 : decode cX2_add 17 = .ok (.invokespecial 317, 3) := dk_183 1 61 (dk_at dksX2_add_0 17 rfl rfl)
theorem dX2_add_20 : decode cX2_add 20 = .ok (.invokevirtual 119, 3) := dk_182 0 119 (dk_at dksX2_add_0 20 rfl rfl)
theorem dX2_add_23 : decode cX2_add 23 = .ok (.pop, 1) := dk_87 (dk_at dksX2_add_0 23 rfl rfl)
theorem dX2_add_24 : decode cX2_add 24 = .ok (.aload_n 0, 1) := dk_42 (dk_at dksX2_add_1 0 rfl rfl)
theorem dX2_add_25 : decode cX2_add 25 = .ok (.dup, 1) := dk_89 (dk_at dksX2_add_1 1 rfl rfl)
theorem dX2_add_26 : decode cX2_add 26 = .ok (.getfield 153, 3) := dk_180 0 153 (dk_at dksX2_add_1 2 rfl rfl)
theorem dX2_add_29 : decode cX2_add 29 = .ok (.iconst 1, 1) := dk_4 (dk_at dksX2_add_1 5 rfl rfl)
theorem dX2_add_30 : decode cX2_add 30 = .ok (.iadd, 1) := dk_96 (dk_at dksX2_add_1 6 rfl rfl)
theorem dX2_add_31 : decode cX2_add 31 = .ok (.putfield 153, 3) := dk_181 0 153 (dk_at dksX2_add_1 7 rfl rfl)
theorem dX2_add_34 : decode cX2_add 34 = .ok (.return_, 1) := dk_177 (dk_at dksX2_add_1 10 rfl rfl)
abbrev cX2_cancel : ByteArray := prog_10_method_24_code
def yX2_cancel : MethodName := ⟨RX2, "cancel", "(I)I"⟩
def dkwX2_cancel_4 : List UInt8 := [172]
abbrev dktX2_cancel_4 : List UInt8 := dkwX2_cancel_4 ++ []
def dkwX2_cancel_3 : List UInt8 := [166, 0, 10, 45, 25, 5, 182, 0, 119, 87, 167, 255, 202, 42, 45, 181, 0, 32, 28, 45, 182, 1, 49, 100]
abbrev dktX2_cancel_3 : List UInt8 := dkwX2_cancel_3 ++ dktX2_cancel_4
def dkwX2_cancel_2 : List UInt8 := [25, 5, 180, 1, 64, 27, 160, 0, 19, 42, 182, 1, 65, 153, 0, 19, 25, 5, 42, 180, 0, 95]
abbrev dktX2_cancel_2 : List UInt8 := dkwX2_cancel_2 ++ dktX2_cancel_3
def dkwX2_cancel_1 : List UInt8 := [58, 4, 25, 4, 185, 0, 107, 1, 0, 153, 0, 50, 25, 4, 185, 0, 113, 1, 0, 192, 0, 117, 58, 5]
abbrev dktX2_cancel_1 : List UInt8 := dkwX2_cancel_1 ++ dktX2_cancel_2
def dkwX2_cancel_0 : List UInt8 := [42, 180, 0, 32, 182, 1, 49, 61, 187, 0, 27, 89, 7, 183, 0, 29, 78, 42, 180, 0, 32, 182, 0, 103]
abbrev dktX2_cancel_0 : List UInt8 := dkwX2_cancel_0 ++ dktX2_cancel_1
theorem dksX2_cancel_0 : cX2_cancel.data.toList.drop 0 = dktX2_cancel_0 := by decide +kernel
theorem dksX2_cancel_1 : cX2_cancel.data.toList.drop 24 = dktX2_cancel_1 := dk_seg dksX2_cancel_0 24 rfl rfl
theorem dksX2_cancel_2 : cX2_cancel.data.toList.drop 48 = dktX2_cancel_2 := dk_seg dksX2_cancel_1 24 rfl rfl
theorem dksX2_cancel_3 : cX2_cancel.data.toList.drop 70 = dktX2_cancel_3 := dk_seg dksX2_cancel_2 22 rfl rfl
theorem dksX2_cancel_4 : cX2_cancel.data.toList.drop 94 = dktX2_cancel_4 := dk_seg dksX2_cancel_3 24 rfl rfl
theorem dX2_cancel_0 : decode cX2_cancel 0 = .ok (.aload_n 0, 1) := dk_42 (dk_at dksX2_cancel_0 0 rfl rfl)
theorem dX2_cancel_1 : decode cX2_cancel 1 = .ok (.getfield 32, 3) := dk_180 0 32 (dk_at dksX2_cancel_0 1 rfl rfl)
theorem dX2_cancel_4 : decode cX2_cancel 4 = .ok (.invokevirtual 305, 3) := dk_182 1 49 (dk_at dksX2_cancel_0 4 rfl rfl)
theorem dX2_cancel_7 : decode cX2_cancel 7 = .ok (.istore_n 2, 1) := dk_61 (dk_at dksX2_cancel_0 7 rfl rfl)
theorem dX2_cancel_8 : decode cX2_cancel 8 = .ok (.new 27, 3) := dk_187 0 27 (dk_at dksX2_cancel_0 8 rfl rfl)
theorem dX2_cancel_11 : decode cX2_cancel 11 = .ok (.dup, 1) := dk_89 (dk_at dksX2_cancel_0 11 rfl rfl)
theorem dX2_cancel_12 : decode cX2_cancel 12 = .ok (.iconst 4, 1) := dk_7 (dk_at dksX2_cancel_0 12 rfl rfl)
theorem dX2_cancel_13 : decode cX2_cancel 13 = .ok (.invokespecial 29, 3) := dk_183 0 29 (dk_at dksX2_cancel_0 13 rfl rfl)
theorem dX2_cancel_16 : decode cX2_cancel 16 = .ok (.astore_n 3, 1) := dk_78 (dk_at dksX2_cancel_0 16 rfl rfl)
theorem dX2_cancel_17 : decode cX2_cancel 17 = .ok (.aload_n 0, 1) := dk_42 (dk_at dksX2_cancel_0 17 rfl rfl)
theorem dX2_cancel_18 : decode cX2_cancel 18 = .ok (.getfield 32, 3) := dk_180 0 32 (dk_at dksX2_cancel_0 18 rfl rfl)
theorem dX2_cancel_21 : decode cX2_cancel 21 = .ok (.invokevirtual 103, 3) := dk_182 0 103 (dk_at dksX2_cancel_0 21 rfl rfl)
theorem dX2_cancel_24 : decode cX2_cancel 24 = .ok (.astore 4, 2) := dk_58 4 (dk_at dksX2_cancel_1 0 rfl rfl)
theorem dX2_cancel_26 : decode cX2_cancel 26 = .ok (.aload 4, 2) := dk_25 4 (dk_at dksX2_cancel_1 2 rfl rfl)
theorem dX2_cancel_28 : decode cX2_cancel 28 = .ok (.invokeinterface 107 1, 5) := by decide +kernel
theorem dX2_cancel_33 : decode cX2_cancel 33 = .ok (.ifCond .eq 50, 3) := dk_153 0 50 (dk_at dksX2_cancel_1 9 rfl rfl)
theorem dX2_cancel_36 : decode cX2_cancel 36 = .ok (.aload 4, 2) := dk_25 4 (dk_at dksX2_cancel_1 12 rfl rfl)
theorem dX2_cancel_38 : decode cX2_cancel 38 = .ok (.invokeinterface 113 1, 5) := by decide +kernel
theorem dX2_cancel_43 : decode cX2_cancel 43 = .ok (.checkcast 117, 3) := dk_192 0 117 (dk_at dksX2_cancel_1 19 rfl rfl)
theorem dX2_cancel_46 : decode cX2_cancel 46 = .ok (.astore 5, 2) := dk_58 5 (dk_at dksX2_cancel_1 22 rfl rfl)
theorem dX2_cancel_48 : decode cX2_cancel 48 = .ok (.aload 5, 2) := dk_25 5 (dk_at dksX2_cancel_2 0 rfl rfl)
theorem dX2_cancel_50 : decode cX2_cancel 50 = .ok (.getfield 320, 3) := dk_180 1 64 (dk_at dksX2_cancel_2 2 rfl rfl)
theorem dX2_cancel_53 : decode cX2_cancel 53 = .ok (.iload_n 1, 1) := dk_27 (dk_at dksX2_cancel_2 5 rfl rfl)
theorem dX2_cancel_54 : decode cX2_cancel 54 = .ok (.if_icmp .ne 19, 3) := dk_160 0 19 (dk_at dksX2_cancel_2 6 rfl rfl)
theorem dX2_cancel_57 : decode cX2_cancel 57 = .ok (.aload_n 0, 1) := dk_42 (dk_at dksX2_cancel_2 9 rfl rfl)
theorem dX2_cancel_58 : decode cX2_cancel 58 = .ok (.invokevirtual 321, 3) := dk_182 1 65 (dk_at dksX2_cancel_2 10 rfl rfl)
theorem dX2_cancel_61 : decode cX2_cancel 61 = .ok (.ifCond .eq 19, 3) := dk_153 0 19 (dk_at dksX2_cancel_2 13 rfl rfl)
theorem dX2_cancel_64 : decode cX2_cancel 64 = .ok (.aload 5, 2) := dk_25 5 (dk_at dksX2_cancel_2 16 rfl rfl)
theorem dX2_cancel_66 : decode cX2_cancel 66 = .ok (.aload_n 0, 1) := dk_42 (dk_at dksX2_cancel_2 18 rfl rfl)
theorem dX2_cancel_67 : decode cX2_cancel 67 = .ok (.getfield 95, 3) := dk_180 0 95 (dk_at dksX2_cancel_2 19 rfl rfl)
theorem dX2_cancel_70 : decode cX2_cancel 70 = .ok (.if_acmp .ne 10, 3) := dk_166 0 10 (dk_at dksX2_cancel_3 0 rfl rfl)
theorem dX2_cancel_73 : decode cX2_cancel 73 = .ok (.aload_n 3, 1) := dk_45 (dk_at dksX2_cancel_3 3 rfl rfl)
theorem dX2_cancel_74 : decode cX2_cancel 74 = .ok (.aload 5, 2) := dk_25 5 (dk_at dksX2_cancel_3 4 rfl rfl)
theorem dX2_cancel_76 : decode cX2_cancel 76 = .ok (.invokevirtual 119, 3) := dk_182 0 119 (dk_at dksX2_cancel_3 6 rfl rfl)
theorem dX2_cancel_79 : decode cX2_cancel 79 = .ok (.pop, 1) := dk_87 (dk_at dksX2_cancel_3 9 rfl rfl)
theorem dX2_cancel_80 : decode cX2_cancel 80 = .ok (.goto (-54), 3) := dk_167 255 202 (dk_at dksX2_cancel_3 10 rfl rfl)
theorem dX2_cancel_83 : decode cX2_cancel 83 = .ok (.aload_n 0, 1) := dk_42 (dk_at dksX2_cancel_3 13 rfl rfl)
theorem dX2_cancel_84 : decode cX2_cancel 84 = .ok (.aload_n 3, 1) := dk_45 (dk_at dksX2_cancel_3 14 rfl rfl)
theorem dX2_cancel_85 : decode cX2_cancel 85 = .ok (.putfield 32, 3) := dk_181 0 32 (dk_at dksX2_cancel_3 15 rfl rfl)
theorem dX2_cancel_88 : decode cX2_cancel 88 = .ok (.iload_n 2, 1) := dk_28 (dk_at dksX2_cancel_3 18 rfl rfl)
theorem dX2_cancel_89 : decode cX2_cancel 89 = .ok (.aload_n 3, 1) := dk_45 (dk_at dksX2_cancel_3 19 rfl rfl)
theorem dX2_cancel_90 : decode cX2_cancel 90 = .ok (.invokevirtual 305, 3) := dk_182 1 49 (dk_at dksX2_cancel_3 20 rfl rfl)
theorem dX2_cancel_93 : decode cX2_cancel 93 = .ok (.isub, 1) := dk_100 (dk_at dksX2_cancel_3 23 rfl rfl)
theorem dX2_cancel_94 : decode cX2_cancel 94 = .ok (.ireturn, 1) := dk_172 (dk_at dksX2_cancel_4 0 rfl rfl)
abbrev cX2_isSending : ByteArray := prog_10_method_6_code
def yX2_isSending : MethodName := ⟨RX2, "isSending", "()Z"⟩
def dkwX2_isSending_0 : List UInt8 := [42, 180, 0, 70, 153, 0, 17, 42, 180, 0, 15, 178, 0, 197, 166, 0, 7, 4, 167, 0, 4, 3, 172]
abbrev dktX2_isSending_0 : List UInt8 := dkwX2_isSending_0 ++ []
theorem dksX2_isSending_0 : cX2_isSending.data.toList.drop 0 = dktX2_isSending_0 := by decide +kernel
theorem dX2_isSending_0 : decode cX2_isSending 0 = .ok (.aload_n 0, 1) := dk_42 (dk_at dksX2_isSending_0 0 rfl rfl)
theorem dX2_isSending_1 : decode cX2_isSending 1 = .ok (.getfield 70, 3) := dk_180 0 70 (dk_at dksX2_isSending_0 1 rfl rfl)
theorem dX2_isSending_4 : decode cX2_isSending 4 = .ok (.ifCond .eq 17, 3) := dk_153 0 17 (dk_at dksX2_isSending_0 4 rfl rfl)
theorem dX2_isSending_7 : decode cX2_isSending 7 = .ok (.aload_n 0, 1) := dk_42 (dk_at dksX2_isSending_0 7 rfl rfl)
theorem dX2_isSending_8 : decode cX2_isSending 8 = .ok (.getfield 15, 3) := dk_180 0 15 (dk_at dksX2_isSending_0 8 rfl rfl)
theorem dX2_isSending_11 : decode cX2_isSending 11 = .ok (.getstatic 197, 3) := dk_178 0 197 (dk_at dksX2_isSending_0 11 rfl rfl)
theorem dX2_isSending_14 : decode cX2_isSending 14 = .ok (.if_acmp .ne 7, 3) := dk_166 0 7 (dk_at dksX2_isSending_0 14 rfl rfl)
theorem dX2_isSending_17 : decode cX2_isSending 17 = .ok (.iconst 1, 1) := dk_4 (dk_at dksX2_isSending_0 17 rfl rfl)
theorem dX2_isSending_18 : decode cX2_isSending 18 = .ok (.goto 4, 3) := dk_167 0 4 (dk_at dksX2_isSending_0 18 rfl rfl)
theorem dX2_isSending_21 : decode cX2_isSending 21 = .ok (.iconst 0, 1) := dk_3 (dk_at dksX2_isSending_0 21 rfl rfl)
theorem dX2_isSending_22 : decode cX2_isSending 22 = .ok (.ireturn, 1) := dk_172 (dk_at dksX2_isSending_0 22 rfl rfl)
abbrev cX2_driveFrame : ByteArray := prog_10_method_17_code
def yX2_driveFrame : MethodName := ⟨RX2, "driveFrame", "()I"⟩
def dkwX2_driveFrame_3 : List UInt8 := [180, 0, 70, 154, 0, 17, 42, 180, 0, 23, 182, 1, 20, 153, 0, 7, 3, 167, 0, 4, 4, 172]
abbrev dktX2_driveFrame_3 : List UInt8 := dkwX2_driveFrame_3 ++ []
def dkwX2_driveFrame_2 : List UInt8 := [180, 0, 23, 180, 1, 10, 182, 1, 13, 172, 42, 180, 0, 23, 180, 1, 17, 4, 160, 0, 24, 42]
abbrev dktX2_driveFrame_2 : List UInt8 := dkwX2_driveFrame_2 ++ dktX2_driveFrame_3
def dkwX2_driveFrame_1 : List UInt8 := [180, 0, 23, 182, 1, 4, 153, 0, 13, 42, 180, 0, 23, 182, 1, 7, 167, 0, 17, 42, 180, 0, 95, 42]
abbrev dktX2_driveFrame_1 : List UInt8 := dkwX2_driveFrame_1 ++ dktX2_driveFrame_2
def dkwX2_driveFrame_0 : List UInt8 := [42, 180, 0, 23, 182, 1, 1, 153, 0, 49, 42, 180, 0, 70, 154, 0, 7, 4, 167, 0, 37, 42]
abbrev dktX2_driveFrame_0 : List UInt8 := dkwX2_driveFrame_0 ++ dktX2_driveFrame_1
theorem dksX2_driveFrame_0 : cX2_driveFrame.data.toList.drop 0 = dktX2_driveFrame_0 := by decide +kernel
theorem dksX2_driveFrame_1 : cX2_driveFrame.data.toList.drop 22 = dktX2_driveFrame_1 := dk_seg dksX2_driveFrame_0 22 rfl rfl
theorem dksX2_driveFrame_2 : cX2_driveFrame.data.toList.drop 46 = dktX2_driveFrame_2 := dk_seg dksX2_driveFrame_1 24 rfl rfl
theorem dksX2_driveFrame_3 : cX2_driveFrame.data.toList.drop 68 = dktX2_driveFrame_3 := dk_seg dksX2_driveFrame_2 22 rfl rfl
theorem dX2_driveFrame_0 : decode cX2_driveFrame 0 = .ok (.aload_n 0, 1) := dk_42 (dk_at dksX2_driveFrame_0 0 rfl rfl)
theorem dX2_driveFrame_1 : decode cX2_driveFrame 1 = .ok (.getfield 23, 3) := dk_180 0 23 (dk_at dksX2_driveFrame_0 1 rfl rfl)
theorem dX2_driveFrame_4 : decode cX2_driveFrame 4 = .ok (.invokevirtual 257, 3) := dk_182 1 1 (dk_at dksX2_driveFrame_0 4 rfl rfl)
theorem dX2_driveFrame_7 : decode cX2_driveFrame 7 = .ok (.ifCond .eq 49, 3) := dk_153 0 49 (dk_at dksX2_driveFrame_0 7 rfl rfl)
theorem dX2_driveFrame_10 : decode cX2_driveFrame 10 = .ok (.aload_n 0, 1) := dk_42 (dk_at dksX2_driveFrame_0 10 rfl rfl)
theorem dX2_driveFrame_11 : decode cX2_driveFrame 11 = .ok (.getfield 70, 3) := dk_180 0 70 (dk_at dksX2_driveFrame_0 11 rfl rfl)
theorem dX2_driveFrame_14 : decode cX2_driveFrame 14 = .ok (.ifCond .ne 7, 3) := dk_154 0 7 (dk_at dksX2_driveFrame_0 14 rfl rfl)
theorem dX2_driveFrame_17 : decode cX2_driveFrame 17 = .ok (.iconst 1, 1) := dk_4 (dk_at dksX2_driveFrame_0 17 rfl rfl)
theorem dX2_driveFrame_18 : decode cX2_driveFrame 18 = .ok (.goto 37, 3) := dk_167 0 37 (dk_at dksX2_driveFrame_0 18 rfl rfl)
theorem dX2_driveFrame_21 : decode cX2_driveFrame 21 = .ok (.aload_n 0, 1) := dk_42 (dk_at dksX2_driveFrame_0 21 rfl rfl)
theorem dX2_driveFrame_22 : decode cX2_driveFrame 22 = .ok (.getfield 23, 3) := dk_180 0 23 (dk_at dksX2_driveFrame_1 0 rfl rfl)
theorem dX2_driveFrame_25 : decode cX2_driveFrame 25 = .ok (.invokevirtual 260, 3) := dk_182 1 4 (dk_at dksX2_driveFrame_1 3 rfl rfl)
theorem dX2_driveFrame_28 : decode cX2_driveFrame 28 = .ok (.ifCond .eq 13, 3) := dk_153 0 13 (dk_at dksX2_driveFrame_1 6 rfl rfl)
theorem dX2_driveFrame_31 : decode cX2_driveFrame 31 = .ok (.aload_n 0, 1) := dk_42 (dk_at dksX2_driveFrame_1 9 rfl rfl)
theorem dX2_driveFrame_32 : decode cX2_driveFrame 32 = .ok (.getfield 23, 3) := dk_180 0 23 (dk_at dksX2_driveFrame_1 10 rfl rfl)
theorem dX2_driveFrame_35 : decode cX2_driveFrame 35 = .ok (.invokevirtual 263, 3) := dk_182 1 7 (dk_at dksX2_driveFrame_1 13 rfl rfl)
theorem dX2_driveFrame_38 : decode cX2_driveFrame 38 = .ok (.goto 17, 3) := dk_167 0 17 (dk_at dksX2_driveFrame_1 16 rfl rfl)
theorem dX2_driveFrame_41 : decode cX2_driveFrame 41 = .ok (.aload_n 0, 1) := dk_42 (dk_at dksX2_driveFrame_1 19 rfl rfl)
theorem dX2_driveFrame_42 : decode cX2_driveFrame 42 = .ok (.getfield 95, 3) := dk_180 0 95 (dk_at dksX2_driveFrame_1 20 rfl rfl)
theorem dX2_driveFrame_45 : decode cX2_driveFrame 45 = .ok (.aload_n 0, 1) := dk_42 (dk_at dksX2_driveFrame_1 23 rfl rfl)
theorem dX2_driveFrame_46 : decode cX2_driveFrame 46 = .ok (.getfield 23, 3) := dk_180 0 23 (dk_at dksX2_driveFrame_2 0 rfl rfl)
theorem dX2_driveFrame_49 : decode cX2_driveFrame 49 = .ok (.getfield 266, 3) := dk_180 1 10 (dk_at dksX2_driveFrame_2 3 rfl rfl)
theorem dX2_driveFrame_52 : decode cX2_driveFrame 52 = .ok (.invokevirtual 269, 3) := dk_182 1 13 (dk_at dksX2_driveFrame_2 6 rfl rfl)
theorem dX2_driveFrame_55 : decode cX2_driveFrame 55 = .ok (.ireturn, 1) := dk_172 (dk_at dksX2_driveFrame_2 9 rfl rfl)
theorem dX2_driveFrame_56 : decode cX2_driveFrame 56 = .ok (.aload_n 0, 1) := dk_42 (dk_at dksX2_driveFrame_2 10 rfl rfl)
theorem dX2_driveFrame_57 : decode cX2_driveFrame 57 = .ok (.getfield 23, 3) := dk_180 0 23 (dk_at dksX2_driveFrame_2 11 rfl rfl)
theorem dX2_driveFrame_60 : decode cX2_driveFrame 60 = .ok (.getfield 273, 3) := dk_180 1 17 (dk_at dksX2_driveFrame_2 14 rfl rfl)
theorem dX2_driveFrame_63 : decode cX2_driveFrame 63 = .ok (.iconst 1, 1) := dk_4 (dk_at dksX2_driveFrame_2 17 rfl rfl)
theorem dX2_driveFrame_64 : decode cX2_driveFrame 64 = .ok (.if_icmp .ne 24, 3) := dk_160 0 24 (dk_at dksX2_driveFrame_2 18 rfl rfl)
theorem dX2_driveFrame_67 : decode cX2_driveFrame 67 = .ok (.aload_n 0, 1) := dk_42 (dk_at dksX2_driveFrame_2 21 rfl rfl)
theorem dX2_driveFrame_68 : decode cX2_driveFrame 68 = .ok (.getfield 70, 3) := dk_180 0 70 (dk_at dksX2_driveFrame_3 0 rfl rfl)
theorem dX2_driveFrame_71 : decode cX2_driveFrame 71 = .ok (.ifCond .ne 17, 3) := dk_154 0 17 (dk_at dksX2_driveFrame_3 3 rfl rfl)
theorem dX2_driveFrame_74 : decode cX2_driveFrame 74 = .ok (.aload_n 0, 1) := dk_42 (dk_at dksX2_driveFrame_3 6 rfl rfl)
theorem dX2_driveFrame_75 : decode cX2_driveFrame 75 = .ok (.getfield 23, 3) := dk_180 0 23 (dk_at dksX2_driveFrame_3 7 rfl rfl)
theorem dX2_driveFrame_78 : decode cX2_driveFrame 78 = .ok (.invokevirtual 276, 3) := dk_182 1 20 (dk_at dksX2_driveFrame_3 10 rfl rfl)
theorem dX2_driveFrame_81 : decode cX2_driveFrame 81 = .ok (.ifCond .eq 7, 3) := dk_153 0 7 (dk_at dksX2_driveFrame_3 13 rfl rfl)
theorem dX2_driveFrame_84 : decode cX2_driveFrame 84 = .ok (.iconst 0, 1) := dk_3 (dk_at dksX2_driveFrame_3 16 rfl rfl)
theorem dX2_driveFrame_85 : decode cX2_driveFrame 85 = .ok (.goto 4, 3) := dk_167 0 4 (dk_at dksX2_driveFrame_3 17 rfl rfl)
theorem dX2_driveFrame_88 : decode cX2_driveFrame 88 = .ok (.iconst 1, 1) := dk_4 (dk_at dksX2_driveFrame_3 20 rfl rfl)
theorem dX2_driveFrame_89 : decode cX2_driveFrame 89 = .ok (.ireturn, 1) := dk_172 (dk_at dksX2_driveFrame_3 21 rfl rfl)
abbrev cX2_begin : ByteArray := prog_10_method_10_code
def yX2_begin : MethodName := ⟨RX2, "begin", "(Z)V"⟩
def dkwX2_begin_1 : List UInt8 := [182, 0, 207, 42, 180, 0, 23, 3, 182, 0, 210, 177]
abbrev dktX2_begin_1 : List UInt8 := dkwX2_begin_1 ++ []
def dkwX2_begin_0 : List UInt8 := [42, 178, 0, 197, 182, 0, 200, 42, 27, 181, 0, 70, 42, 180, 0, 23, 182, 0, 204, 42, 180, 0, 23, 3]
abbrev dktX2_begin_0 : List UInt8 := dkwX2_begin_0 ++ dktX2_begin_1
theorem dksX2_begin_0 : cX2_begin.data.toList.drop 0 = dktX2_begin_0 := by decide +kernel
theorem dksX2_begin_1 : cX2_begin.data.toList.drop 24 = dktX2_begin_1 := dk_seg dksX2_begin_0 24 rfl rfl
theorem dX2_begin_0 : decode cX2_begin 0 = .ok (.aload_n 0, 1) := dk_42 (dk_at dksX2_begin_0 0 rfl rfl)
theorem dX2_begin_1 : decode cX2_begin 1 = .ok (.getstatic 197, 3) := dk_178 0 197 (dk_at dksX2_begin_0 1 rfl rfl)
theorem dX2_begin_4 : decode cX2_begin 4 = .ok (.invokevirtual 200, 3) := dk_182 0 200 (dk_at dksX2_begin_0 4 rfl rfl)
theorem dX2_begin_7 : decode cX2_begin 7 = .ok (.aload_n 0, 1) := dk_42 (dk_at dksX2_begin_0 7 rfl rfl)
theorem dX2_begin_8 : decode cX2_begin 8 = .ok (.iload_n 1, 1) := dk_27 (dk_at dksX2_begin_0 8 rfl rfl)
theorem dX2_begin_9 : decode cX2_begin 9 = .ok (.putfield 70, 3) := dk_181 0 70 (dk_at dksX2_begin_0 9 rfl rfl)
theorem dX2_begin_12 : decode cX2_begin 12 = .ok (.aload_n 0, 1) := dk_42 (dk_at dksX2_begin_0 12 rfl rfl)
theorem dX2_begin_13 : decode cX2_begin 13 = .ok (.getfield 23, 3) := dk_180 0 23 (dk_at dksX2_begin_0 13 rfl rfl)
theorem dX2_begin_16 : decode cX2_begin 16 = .ok (.invokevirtual 204, 3) := dk_182 0 204 (dk_at dksX2_begin_0 16 rfl rfl)
theorem dX2_begin_19 : decode cX2_begin 19 = .ok (.aload_n 0, 1) := dk_42 (dk_at dksX2_begin_0 19 rfl rfl)
theorem dX2_begin_20 : decode cX2_begin 20 = .ok (.getfield 23, 3) := dk_180 0 23 (dk_at dksX2_begin_0 20 rfl rfl)
theorem dX2_begin_23 : decode cX2_begin 23 = .ok (.iconst 0, 1) := dk_3 (dk_at dksX2_begin_0 23 rfl rfl)
theorem dX2_begin_24 : decode cX2_begin 24 = .ok (.invokevirtual 207, 3) := dk_182 0 207 (dk_at dksX2_begin_1 0 rfl rfl)
theorem dX2_begin_27 : decode cX2_begin 27 = .ok (.aload_n 0, 1) := dk_42 (dk_at dksX2_begin_1 3 rfl rfl)
theorem dX2_begin_28 : decode cX2_begin 28 = .ok (.getfield 23, 3) := dk_180 0 23 (dk_at dksX2_begin_1 4 rfl rfl)
theorem dX2_begin_31 : decode cX2_begin 31 = .ok (.iconst 0, 1) := dk_3 (dk_at dksX2_begin_1 7 rfl rfl)
theorem dX2_begin_32 : decode cX2_begin 32 = .ok (.invokevirtual 210, 3) := dk_182 0 210 (dk_at dksX2_begin_1 8 rfl rfl)
theorem dX2_begin_35 : decode cX2_begin 35 = .ok (.return_, 1) := dk_177 (dk_at dksX2_begin_1 11 rfl rfl)
abbrev cX2_counts : ByteArray := prog_10_method_8_code
def yX2_counts : MethodName := ⟨RX2, "counts", "(I)Z"⟩
def dkwX2_counts_0 : List UInt8 := [42, 89, 180, 0, 80, 4, 96, 181, 0, 80, 42, 180, 0, 80, 27, 160, 0, 7, 4, 167, 0, 4, 3, 172]
abbrev dktX2_counts_0 : List UInt8 := dkwX2_counts_0 ++ []
theorem dksX2_counts_0 : cX2_counts.data.toList.drop 0 = dktX2_counts_0 := by decide +kernel
theorem dX2_counts_0 : decode cX2_counts 0 = .ok (.aload_n 0, 1) := dk_42 (dk_at dksX2_counts_0 0 rfl rfl)
theorem dX2_counts_1 : decode cX2_counts 1 = .ok (.dup, 1) := dk_89 (dk_at dksX2_counts_0 1 rfl rfl)
theorem dX2_counts_2 : decode cX2_counts 2 = .ok (.getfield 80, 3) := dk_180 0 80 (dk_at dksX2_counts_0 2 rfl rfl)
theorem dX2_counts_5 : decode cX2_counts 5 = .ok (.iconst 1, 1) := dk_4 (dk_at dksX2_counts_0 5 rfl rfl)
theorem dX2_counts_6 : decode cX2_counts 6 = .ok (.iadd, 1) := dk_96 (dk_at dksX2_counts_0 6 rfl rfl)
theorem dX2_counts_7 : decode cX2_counts 7 = .ok (.putfield 80, 3) := dk_181 0 80 (dk_at dksX2_counts_0 7 rfl rfl)
theorem dX2_counts_10 : decode cX2_counts 10 = .ok (.aload_n 0, 1) := dk_42 (dk_at dksX2_counts_0 10 rfl rfl)
theorem dX2_counts_11 : decode cX2_counts 11 = .ok (.getfield 80, 3) := dk_180 0 80 (dk_at dksX2_counts_0 11 rfl rfl)
theorem dX2_counts_14 : decode cX2_counts 14 = .ok (.iload_n 1, 1) := dk_27 (dk_at dksX2_counts_0 14 rfl rfl)
theorem dX2_counts_15 : decode cX2_counts 15 = .ok (.if_icmp .ne 7, 3) := dk_160 0 7 (dk_at dksX2_counts_0 15 rfl rfl)
theorem dX2_counts_18 : decode cX2_counts 18 = .ok (.iconst 1, 1) := dk_4 (dk_at dksX2_counts_0 18 rfl rfl)
theorem dX2_counts_19 : decode cX2_counts 19 = .ok (.goto 4, 3) := dk_167 0 4 (dk_at dksX2_counts_0 19 rfl rfl)
theorem dX2_counts_22 : decode cX2_counts 22 = .ok (.iconst 0, 1) := dk_3 (dk_at dksX2_counts_0 22 rfl rfl)
theorem dX2_counts_23 : decode cX2_counts 23 = .ok (.ireturn, 1) := dk_172 (dk_at dksX2_counts_0 23 rfl rfl)
abbrev cX2_endsRun : ByteArray := prog_10_method_9_code
def yX2_endsRun : MethodName := ⟨RX2, "endsRun", "(I)Z"⟩
def dkwX2_endsRun_2 : List UInt8 := [181, 0, 80, 28, 172]
abbrev dktX2_endsRun_2 : List UInt8 := dkwX2_endsRun_2 ++ []
def dkwX2_endsRun_1 : List UInt8 := [16, 11, 160, 0, 7, 4, 167, 0, 4, 3, 61, 42, 28, 153, 0, 7, 3, 167, 0, 7, 42, 180, 0, 80]
abbrev dktX2_endsRun_1 : List UInt8 := dkwX2_endsRun_1 ++ dktX2_endsRun_2
def dkwX2_endsRun_0 : List UInt8 := [42, 27, 4, 160, 0, 12, 42, 180, 0, 80, 4, 96, 167, 0, 4, 3, 181, 0, 80, 42, 180, 0, 80]
abbrev dktX2_endsRun_0 : List UInt8 := dkwX2_endsRun_0 ++ dktX2_endsRun_1
theorem dksX2_endsRun_0 : cX2_endsRun.data.toList.drop 0 = dktX2_endsRun_0 := by decide +kernel
theorem dksX2_endsRun_1 : cX2_endsRun.data.toList.drop 23 = dktX2_endsRun_1 := dk_seg dksX2_endsRun_0 23 rfl rfl
theorem dksX2_endsRun_2 : cX2_endsRun.data.toList.drop 47 = dktX2_endsRun_2 := dk_seg dksX2_endsRun_1 24 rfl rfl
theorem dX2_endsRun_0 : decode cX2_endsRun 0 = .ok (.aload_n 0, 1) := dk_42 (dk_at dksX2_endsRun_0 0 rfl rfl)
theorem dX2_endsRun_1 : decode cX2_endsRun 1 = .ok (.iload_n 1, 1) := dk_27 (dk_at dksX2_endsRun_0 1 rfl rfl)
theorem dX2_endsRun_2 : decode cX2_endsRun 2 = .ok (.iconst 1, 1) := dk_4 (dk_at dksX2_endsRun_0 2 rfl rfl)
theorem dX2_endsRun_3 : decode cX2_endsRun 3 = .ok (.if_icmp .ne 12, 3) := dk_160 0 12 (dk_at dksX2_endsRun_0 3 rfl rfl)
theorem dX2_endsRun_6 : decode cX2_endsRun 6 = .ok (.aload_n 0, 1) := dk_42 (dk_at dksX2_endsRun_0 6 rfl rfl)
theorem dX2_endsRun_7 : decode cX2_endsRun 7 = .ok (.getfield 80, 3) := dk_180 0 80 (dk_at dksX2_endsRun_0 7 rfl rfl)
theorem dX2_endsRun_10 : decode cX2_endsRun 10 = .ok (.iconst 1, 1) := dk_4 (dk_at dksX2_endsRun_0 10 rfl rfl)
theorem dX2_endsRun_11 : decode cX2_endsRun 11 = .ok (.iadd, 1) := dk_96 (dk_at dksX2_endsRun_0 11 rfl rfl)
theorem dX2_endsRun_12 : decode cX2_endsRun 12 = .ok (.goto 4, 3) := dk_167 0 4 (dk_at dksX2_endsRun_0 12 rfl rfl)
theorem dX2_endsRun_15 : decode cX2_endsRun 15 = .ok (.iconst 0, 1) := dk_3 (dk_at dksX2_endsRun_0 15 rfl rfl)
theorem dX2_endsRun_16 : decode cX2_endsRun 16 = .ok (.putfield 80, 3) := dk_181 0 80 (dk_at dksX2_endsRun_0 16 rfl rfl)
theorem dX2_endsRun_19 : decode cX2_endsRun 19 = .ok (.aload_n 0, 1) := dk_42 (dk_at dksX2_endsRun_0 19 rfl rfl)
theorem dX2_endsRun_20 : decode cX2_endsRun 20 = .ok (.getfield 80, 3) := dk_180 0 80 (dk_at dksX2_endsRun_0 20 rfl rfl)
theorem dX2_endsRun_23 : decode cX2_endsRun 23 = .ok (.bipush 11, 2) := dk_16 11 (dk_at dksX2_endsRun_1 0 rfl rfl)
theorem dX2_endsRun_25 : decode cX2_endsRun 25 = .ok (.if_icmp .ne 7, 3) := dk_160 0 7 (dk_at dksX2_endsRun_1 2 rfl rfl)
theorem dX2_endsRun_28 : decode cX2_endsRun 28 = .ok (.iconst 1, 1) := dk_4 (dk_at dksX2_endsRun_1 5 rfl rfl)
theorem dX2_endsRun_29 : decode cX2_endsRun 29 = .ok (.goto 4, 3) := dk_167 0 4 (dk_at dksX2_endsRun_1 6 rfl rfl)
theorem dX2_endsRun_32 : decode cX2_endsRun 32 = .ok (.iconst 0, 1) := dk_3 (dk_at dksX2_endsRun_1 9 rfl rfl)
theorem dX2_endsRun_33 : decode cX2_endsRun 33 = .ok (.istore_n 2, 1) := dk_61 (dk_at dksX2_endsRun_1 10 rfl rfl)
theorem dX2_endsRun_34 : decode cX2_endsRun 34 = .ok (.aload_n 0, 1) := dk_42 (dk_at dksX2_endsRun_1 11 rfl rfl)
theorem dX2_endsRun_35 : decode cX2_endsRun 35 = .ok (.iload_n 2, 1) := dk_28 (dk_at dksX2_endsRun_1 12 rfl rfl)
theorem dX2_endsRun_36 : decode cX2_endsRun 36 = .ok (.ifCond .eq 7, 3) := dk_153 0 7 (dk_at dksX2_endsRun_1 13 rfl rfl)
theorem dX2_endsRun_39 : decode cX2_endsRun 39 = .ok (.iconst 0, 1) := dk_3 (dk_at dksX2_endsRun_1 16 rfl rfl)
theorem dX2_endsRun_40 : decode cX2_endsRun 40 = .ok (.goto 7, 3) := dk_167 0 7 (dk_at dksX2_endsRun_1 17 rfl rfl)
theorem dX2_endsRun_43 : decode cX2_endsRun 43 = .ok (.aload_n 0, 1) := dk_42 (dk_at dksX2_endsRun_1 20 rfl rfl)
theorem dX2_endsRun_44 : decode cX2_endsRun 44 = .ok (.getfield 80, 3) := dk_180 0 80 (dk_at dksX2_endsRun_1 21 rfl rfl)
theorem dX2_endsRun_47 : decode cX2_endsRun 47 = .ok (.putfield 80, 3) := dk_181 0 80 (dk_at dksX2_endsRun_2 0 rfl rfl)
theorem dX2_endsRun_50 : decode cX2_endsRun 50 = .ok (.iload_n 2, 1) := dk_28 (dk_at dksX2_endsRun_2 3 rfl rfl)
theorem dX2_endsRun_51 : decode cX2_endsRun 51 = .ok (.ireturn, 1) := dk_172 (dk_at dksX2_endsRun_2 4 rfl rfl)
abbrev cX2_fail : ByteArray := prog_10_method_12_code
def yX2_fail : MethodName := ⟨RX2, "fail", "(I)V"⟩
def dkwX2_fail_4 : List UInt8 := [154, 0, 7, 4, 167, 0, 4, 3, 181, 0, 86, 177]
abbrev dktX2_fail_4 : List UInt8 := dkwX2_fail_4 ++ []
def dkwX2_fail_3 : List UInt8 := [182, 0, 200, 42, 3, 181, 0, 83, 167, 0, 26, 42, 178, 0, 228, 182, 0, 200, 42, 42, 182, 0, 222]
abbrev dktX2_fail_3 : List UInt8 := dkwX2_fail_3 ++ dktX2_fail_4
def dkwX2_fail_2 : List UInt8 := [16, 8, 96, 181, 0, 74, 42, 180, 0, 74, 42, 180, 0, 63, 180, 0, 225, 161, 0, 18, 42, 178, 0, 182]
abbrev dktX2_fail_2 : List UInt8 := dkwX2_fail_2 ++ dktX2_fail_3
def dkwX2_fail_1 : List UInt8 := [182, 0, 219, 167, 0, 26, 27, 8, 160, 0, 10, 42, 182, 0, 222, 154, 0, 14, 42, 89, 180, 0, 74]
abbrev dktX2_fail_1 : List UInt8 := dkwX2_fail_1 ++ dktX2_fail_2
def dkwX2_fail_0 : List UInt8 := [42, 180, 0, 55, 27, 92, 46, 4, 96, 79, 42, 27, 181, 0, 59, 42, 180, 0, 70, 154, 0, 11, 42, 4]
abbrev dktX2_fail_0 : List UInt8 := dkwX2_fail_0 ++ dktX2_fail_1
theorem dksX2_fail_0 : cX2_fail.data.toList.drop 0 = dktX2_fail_0 := by decide +kernel
theorem dksX2_fail_1 : cX2_fail.data.toList.drop 24 = dktX2_fail_1 := dk_seg dksX2_fail_0 24 rfl rfl
theorem dksX2_fail_2 : cX2_fail.data.toList.drop 47 = dktX2_fail_2 := dk_seg dksX2_fail_1 23 rfl rfl
theorem dksX2_fail_3 : cX2_fail.data.toList.drop 71 = dktX2_fail_3 := dk_seg dksX2_fail_2 24 rfl rfl
theorem dksX2_fail_4 : cX2_fail.data.toList.drop 94 = dktX2_fail_4 := dk_seg dksX2_fail_3 23 rfl rfl
theorem dX2_fail_0 : decode cX2_fail 0 = .ok (.aload_n 0, 1) := dk_42 (dk_at dksX2_fail_0 0 rfl rfl)
theorem dX2_fail_1 : decode cX2_fail 1 = .ok (.getfield 55, 3) := dk_180 0 55 (dk_at dksX2_fail_0 1 rfl rfl)
theorem dX2_fail_4 : decode cX2_fail 4 = .ok (.iload_n 1, 1) := dk_27 (dk_at dksX2_fail_0 4 rfl rfl)
theorem dX2_fail_5 : decode cX2_fail 5 = .ok (.dup2, 1) := dk_92 (dk_at dksX2_fail_0 5 rfl rfl)
theorem dX2_fail_6 : decode cX2_fail 6 = .ok (.iaload, 1) := dk_46 (dk_at dksX2_fail_0 6 rfl rfl)
theorem dX2_fail_7 : decode cX2_fail 7 = .ok (.iconst 1, 1) := dk_4 (dk_at dksX2_fail_0 7 rfl rfl)
theorem dX2_fail_8 : decode cX2_fail 8 = .ok (.iadd, 1) := dk_96 (dk_at dksX2_fail_0 8 rfl rfl)
theorem dX2_fail_9 : decode cX2_fail 9 = .ok (.iastore, 1) := dk_79 (dk_at dksX2_fail_0 9 rfl rfl)
theorem dX2_fail_10 : decode cX2_fail 10 = .ok (.aload_n 0, 1) := dk_42 (dk_at dksX2_fail_0 10 rfl rfl)
theorem dX2_fail_11 : decode cX2_fail 11 = .ok (.iload_n 1, 1) := dk_27 (dk_at dksX2_fail_0 11 rfl rfl)
theorem dX2_fail_12 : decode cX2_fail 12 = .ok (.putfield 59, 3) := dk_181 0 59 (dk_at dksX2_fail_0 12 rfl rfl)
theorem dX2_fail_15 : decode cX2_fail 15 = .ok (.aload_n 0, 1) := dk_42 (dk_at dksX2_fail_0 15 rfl rfl)
theorem dX2_fail_16 : decode cX2_fail 16 = .ok (.getfield 70, 3) := dk_180 0 70 (dk_at dksX2_fail_0 16 rfl rfl)
theorem dX2_fail_19 : decode cX2_fail 19 = .ok (.ifCond .ne 11, 3) := dk_154 0 11 (dk_at dksX2_fail_0 19 rfl rfl)
theorem dX2_fail_22 : decode cX2_fail 22 = .ok (.aload_n 0, 1) := dk_42 (dk_at dksX2_fail_0 22 rfl rfl)
theorem dX2_fail_23 : decode cX2_fail 23 = .ok (.iconst 1, 1) := dk_4 (dk_at dksX2_fail_0 23 rfl rfl)
theorem dX2_fail_24 : decode cX2_fail 24 = .ok (.invokevirtual 219, 3) := dk_182 0 219 (dk_at dksX2_fail_1 0 rfl rfl)
theorem dX2_fail_27 : decode cX2_fail 27 = .ok (.goto 26, 3) := dk_167 0 26 (dk_at dksX2_fail_1 3 rfl rfl)
theorem dX2_fail_30 : decode cX2_fail 30 = .ok (.iload_n 1, 1) := dk_27 (dk_at dksX2_fail_1 6 rfl rfl)
theorem dX2_fail_31 : decode cX2_fail 31 = .ok (.iconst 5, 1) := dk_8 (dk_at dksX2_fail_1 7 rfl rfl)
theorem dX2_fail_32 : decode cX2_fail 32 = .ok (.if_icmp .ne 10, 3) := dk_160 0 10 (dk_at dksX2_fail_1 8 rfl rfl)
theorem dX2_fail_35 : decode cX2_fail 35 = .ok (.aload_n 0, 1) := dk_42 (dk_at dksX2_fail_1 11 rfl rfl)
theorem dX2_fail_36 : decode cX2_fail 36 = .ok (.invokevirtual 222, 3) := dk_182 0 222 (dk_at dksX2_fail_1 12 rfl rfl)
theorem dX2_fail_39 : decode cX2_fail 39 = .ok (.ifCond .ne 14, 3) := dk_154 0 14 (dk_at dksX2_fail_1 15 rfl rfl)
theorem dX2_fail_42 : decode cX2_fail 42 = .ok (.aload_n 0, 1) := dk_42 (dk_at dksX2_fail_1 18 rfl rfl)
theorem dX2_fail_43 : decode cX2_fail 43 = .ok (.dup, 1) := dk_89 (dk_at dksX2_fail_1 19 rfl rfl)
theorem dX2_fail_44 : decode cX2_fail 44 = .ok (.getfield 74, 3) := dk_180 0 74 (dk_at dksX2_fail_1 20 rfl rfl)
theorem dX2_fail_47 : decode cX2_fail 47 = .ok (.bipush 8, 2) := dk_16 8 (dk_at dksX2_fail_2 0 rfl rfl)
theorem dX2_fail_49 : decode cX2_fail 49 = .ok (.iadd, 1) := dk_96 (dk_at dksX2_fail_2 2 rfl rfl)
theorem dX2_fail_50 : decode cX2_fail 50 = .ok (.putfield 74, 3) := dk_181 0 74 (dk_at dksX2_fail_2 3 rfl rfl)
theorem dX2_fail_53 : decode cX2_fail 53 = .ok (.aload_n 0, 1) := dk_42 (dk_at dksX2_fail_2 6 rfl rfl)
theorem dX2_fail_54 : decode cX2_fail 54 = .ok (.getfield 74, 3) := dk_180 0 74 (dk_at dksX2_fail_2 7 rfl rfl)
theorem dX2_fail_57 : decode cX2_fail 57 = .ok (.aload_n 0, 1) := dk_42 (dk_at dksX2_fail_2 10 rfl rfl)
theorem dX2_fail_58 : decode cX2_fail 58 = .ok (.getfield 63, 3) := dk_180 0 63 (dk_at dksX2_fail_2 11 rfl rfl)
theorem dX2_fail_61 : decode cX2_fail 61 = .ok (.getfield 225, 3) := dk_180 0 225 (dk_at dksX2_fail_2 14 rfl rfl)
theorem dX2_fail_64 : decode cX2_fail 64 = .ok (.if_icmp .lt 18, 3) := dk_161 0 18 (dk_at dksX2_fail_2 17 rfl rfl)
theorem dX2_fail_67 : decode cX2_fail 67 = .ok (.aload_n 0, 1) := dk_42 (dk_at dksX2_fail_2 20 rfl rfl)
theorem dX2_fail_68 : decode cX2_fail 68 = .ok (.getstatic 182, 3) := dk_178 0 182 (dk_at dksX2_fail_2 21 rfl rfl)
theorem dX2_fail_71 : decode cX2_fail 71 = .ok (.invokevirtual 200, 3) := dk_182 0 200 (dk_at dksX2_fail_3 0 rfl rfl)
theorem dX2_fail_74 : decode cX2_fail 74 = .ok (.aload_n 0, 1) := dk_42 (dk_at dksX2_fail_3 3 rfl rfl)
theorem dX2_fail_75 : decode cX2_fail 75 = .ok (.iconst 0, 1) := dk_3 (dk_at dksX2_fail_3 4 rfl rfl)
theorem dX2_fail_76 : decode cX2_fail 76 = .ok (.putfield 83, 3) := dk_181 0 83 (dk_at dksX2_fail_3 5 rfl rfl)
theorem dX2_fail_79 : decode cX2_fail 79 = .ok (.goto 26, 3) := dk_167 0 26 (dk_at dksX2_fail_3 8 rfl rfl)
theorem dX2_fail_82 : decode cX2_fail 82 = .ok (.aload_n 0, 1) := dk_42 (dk_at dksX2_fail_3 11 rfl rfl)
theorem dX2_fail_83 : decode cX2_fail 83 = .ok (.getstatic 228, 3) := dk_178 0 228 (dk_at dksX2_fail_3 12 rfl rfl)
theorem dX2_fail_86 : decode cX2_fail 86 = .ok (.invokevirtual 200, 3) := dk_182 0 200 (dk_at dksX2_fail_3 15 rfl rfl)
theorem dX2_fail_89 : decode cX2_fail 89 = .ok (.aload_n 0, 1) := dk_42 (dk_at dksX2_fail_3 18 rfl rfl)
theorem dX2_fail_90 : decode cX2_fail 90 = .ok (.aload_n 0, 1) := dk_42 (dk_at dksX2_fail_3 19 rfl rfl)
theorem dX2_fail_91 : decode cX2_fail 91 = .ok (.invokevirtual 222, 3) := dk_182 0 222 (dk_at dksX2_fail_3 20 rfl rfl)
theorem dX2_fail_94 : decode cX2_fail 94 = .ok (.ifCond .ne 7, 3) := dk_154 0 7 (dk_at dksX2_fail_4 0 rfl rfl)
theorem dX2_fail_97 : decode cX2_fail 97 = .ok (.iconst 1, 1) := dk_4 (dk_at dksX2_fail_4 3 rfl rfl)
theorem dX2_fail_98 : decode cX2_fail 98 = .ok (.goto 4, 3) := dk_167 0 4 (dk_at dksX2_fail_4 4 rfl rfl)
theorem dX2_fail_101 : decode cX2_fail 101 = .ok (.iconst 0, 1) := dk_3 (dk_at dksX2_fail_4 7 rfl rfl)
theorem dX2_fail_102 : decode cX2_fail 102 = .ok (.putfield 86, 3) := dk_181 0 86 (dk_at dksX2_fail_4 8 rfl rfl)
theorem dX2_fail_105 : decode cX2_fail 105 = .ok (.return_, 1) := dk_177 (dk_at dksX2_fail_4 11 rfl rfl)
abbrev cX2_raiseReceiveErrors : ByteArray := prog_10_method_11_code
def yX2_raiseReceiveErrors : MethodName := ⟨RX2, "raiseReceiveErrors", "(I)V"⟩
def dkwX2_raiseReceiveErrors_0 : List UInt8 := [42, 17, 0, 255, 42, 180, 0, 77, 27, 96, 184, 0, 213, 181, 0, 77, 177]
abbrev dktX2_raiseReceiveErrors_0 : List UInt8 := dkwX2_raiseReceiveErrors_0 ++ []
theorem dksX2_raiseReceiveErrors_0 : cX2_raiseReceiveErrors.data.toList.drop 0 = dktX2_raiseReceiveErrors_0 := by decide +kernel
theorem dX2_raiseReceiveErrors_0 : decode cX2_raiseReceiveErrors 0 = .ok (.aload_n 0, 1) := dk_42 (dk_at dksX2_raiseReceiveErrors_0 0 rfl rfl)
theorem dX2_raiseReceiveErrors_1 : decode cX2_raiseReceiveErrors 1 = .ok (.sipush 255, 3) := dk_17 0 255 (dk_at dksX2_raiseReceiveErrors_0 1 rfl rfl)
theorem dX2_raiseReceiveErrors_4 : decode cX2_raiseReceiveErrors 4 = .ok (.aload_n 0, 1) := dk_42 (dk_at dksX2_raiseReceiveErrors_0 4 rfl rfl)
theorem dX2_raiseReceiveErrors_5 : decode cX2_raiseReceiveErrors 5 = .ok (.getfield 77, 3) := dk_180 0 77 (dk_at dksX2_raiseReceiveErrors_0 5 rfl rfl)
theorem dX2_raiseReceiveErrors_8 : decode cX2_raiseReceiveErrors 8 = .ok (.iload_n 1, 1) := dk_27 (dk_at dksX2_raiseReceiveErrors_0 8 rfl rfl)
theorem dX2_raiseReceiveErrors_9 : decode cX2_raiseReceiveErrors 9 = .ok (.iadd, 1) := dk_96 (dk_at dksX2_raiseReceiveErrors_0 9 rfl rfl)
theorem dX2_raiseReceiveErrors_10 : decode cX2_raiseReceiveErrors 10 = .ok (.invokestatic 213, 3) := dk_184 0 213 (dk_at dksX2_raiseReceiveErrors_0 10 rfl rfl)
theorem dX2_raiseReceiveErrors_13 : decode cX2_raiseReceiveErrors 13 = .ok (.putfield 77, 3) := dk_181 0 77 (dk_at dksX2_raiseReceiveErrors_0 13 rfl rfl)
theorem dX2_raiseReceiveErrors_16 : decode cX2_raiseReceiveErrors 16 = .ok (.return_, 1) := dk_177 (dk_at dksX2_raiseReceiveErrors_0 16 rfl rfl)
abbrev cX2_isPassive : ByteArray := prog_10_method_3_code
def yX2_isPassive : MethodName := ⟨RX2, "isPassive", "()Z"⟩
def dkwX2_isPassive_1 : List UInt8 := [180, 0, 174, 161, 0, 7, 4, 167, 0, 4, 3, 172]
abbrev dktX2_isPassive_1 : List UInt8 := dkwX2_isPassive_1 ++ []
def dkwX2_isPassive_0 : List UInt8 := [42, 180, 0, 74, 42, 180, 0, 63, 180, 0, 174, 162, 0, 17, 42, 180, 0, 77, 42, 180, 0, 63]
abbrev dktX2_isPassive_0 : List UInt8 := dkwX2_isPassive_0 ++ dktX2_isPassive_1
theorem dksX2_isPassive_0 : cX2_isPassive.data.toList.drop 0 = dktX2_isPassive_0 := by decide +kernel
theorem dksX2_isPassive_1 : cX2_isPassive.data.toList.drop 22 = dktX2_isPassive_1 := dk_seg dksX2_isPassive_0 22 rfl rfl
theorem dX2_isPassive_0 : decode cX2_isPassive 0 = .ok (.aload_n 0, 1) := dk_42 (dk_at dksX2_isPassive_0 0 rfl rfl)
theorem dX2_isPassive_1 : decode cX2_isPassive 1 = .ok (.getfield 74, 3) := dk_180 0 74 (dk_at dksX2_isPassive_0 1 rfl rfl)
theorem dX2_isPassive_4 : decode cX2_isPassive 4 = .ok (.aload_n 0, 1) := dk_42 (dk_at dksX2_isPassive_0 4 rfl rfl)
theorem dX2_isPassive_5 : decode cX2_isPassive 5 = .ok (.getfield 63, 3) := dk_180 0 63 (dk_at dksX2_isPassive_0 5 rfl rfl)
theorem dX2_isPassive_8 : decode cX2_isPassive 8 = .ok (.getfield 174, 3) := dk_180 0 174 (dk_at dksX2_isPassive_0 8 rfl rfl)
theorem dX2_isPassive_11 : decode cX2_isPassive 11 = .ok (.if_icmp .ge 17, 3) := dk_162 0 17 (dk_at dksX2_isPassive_0 11 rfl rfl)
theorem dX2_isPassive_14 : decode cX2_isPassive 14 = .ok (.aload_n 0, 1) := dk_42 (dk_at dksX2_isPassive_0 14 rfl rfl)
theorem dX2_isPassive_15 : decode cX2_isPassive 15 = .ok (.getfield 77, 3) := dk_180 0 77 (dk_at dksX2_isPassive_0 15 rfl rfl)
theorem dX2_isPassive_18 : decode cX2_isPassive 18 = .ok (.aload_n 0, 1) := dk_42 (dk_at dksX2_isPassive_0 18 rfl rfl)
theorem dX2_isPassive_19 : decode cX2_isPassive 19 = .ok (.getfield 63, 3) := dk_180 0 63 (dk_at dksX2_isPassive_0 19 rfl rfl)
theorem dX2_isPassive_22 : decode cX2_isPassive 22 = .ok (.getfield 174, 3) := dk_180 0 174 (dk_at dksX2_isPassive_1 0 rfl rfl)
theorem dX2_isPassive_25 : decode cX2_isPassive 25 = .ok (.if_icmp .lt 7, 3) := dk_161 0 7 (dk_at dksX2_isPassive_1 3 rfl rfl)
theorem dX2_isPassive_28 : decode cX2_isPassive 28 = .ok (.iconst 1, 1) := dk_4 (dk_at dksX2_isPassive_1 6 rfl rfl)
theorem dX2_isPassive_29 : decode cX2_isPassive 29 = .ok (.goto 4, 3) := dk_167 0 4 (dk_at dksX2_isPassive_1 7 rfl rfl)
theorem dX2_isPassive_32 : decode cX2_isPassive 32 = .ok (.iconst 0, 1) := dk_3 (dk_at dksX2_isPassive_1 10 rfl rfl)
theorem dX2_isPassive_33 : decode cX2_isPassive 33 = .ok (.ireturn, 1) := dk_172 (dk_at dksX2_isPassive_1 11 rfl rfl)
abbrev cX2_stuffedPart : ByteArray := prog_10_method_18_code
def yX2_stuffedPart : MethodName := ⟨RX2, "stuffedPart", "(I)V"⟩
def dkwX2_stuffedPart_8 : List UInt8 := [182, 0, 247, 177]
abbrev dktX2_stuffedPart_8 : List UInt8 := dkwX2_stuffedPart_8 ++ []
def dkwX2_stuffedPart_7 : List UInt8 := [180, 0, 70, 154, 0, 23, 29, 154, 0, 14, 28, 16, 13, 160, 0, 13, 27, 4, 160, 0, 8, 42, 7]
abbrev dktX2_stuffedPart_7 : List UInt8 := dkwX2_stuffedPart_7 ++ dktX2_stuffedPart_8
def dkwX2_stuffedPart_6 : List UInt8 := [28, 16, 18, 160, 0, 18, 42, 180, 0, 23, 180, 1, 23, 7, 164, 0, 7, 4, 167, 0, 4, 3, 62, 42]
abbrev dktX2_stuffedPart_6 : List UInt8 := dkwX2_stuffedPart_6 ++ dktX2_stuffedPart_7
def dkwX2_stuffedPart_5 : List UInt8 := [180, 0, 162, 4, 96, 181, 0, 162, 42, 180, 0, 23, 27, 182, 0, 207, 42, 180, 0, 23, 27, 182, 0, 210]
abbrev dktX2_stuffedPart_5 : List UInt8 := dkwX2_stuffedPart_5 ++ dktX2_stuffedPart_6
def dkwX2_stuffedPart_4 : List UInt8 := [159, 0, 9, 28, 16, 12, 164, 0, 9, 42, 4, 182, 0, 247, 177, 42, 3, 181, 0, 70, 42, 89]
abbrev dktX2_stuffedPart_4 : List UInt8 := dkwX2_stuffedPart_4 ++ dktX2_stuffedPart_5
def dkwX2_stuffedPart_3 : List UInt8 := [180, 0, 23, 180, 1, 10, 61, 42, 180, 0, 70, 153, 0, 43, 27, 42, 180, 0, 92, 159, 0, 35, 27, 4]
abbrev dktX2_stuffedPart_3 : List UInt8 := dkwX2_stuffedPart_3 ++ dktX2_stuffedPart_4
def dkwX2_stuffedPart_2 : List UInt8 := [153, 0, 7, 4, 167, 0, 4, 5, 182, 0, 247, 167, 0, 11, 42, 180, 0, 23, 27, 182, 0, 207, 177, 42]
abbrev dktX2_stuffedPart_2 : List UInt8 := dkwX2_stuffedPart_2 ++ dktX2_stuffedPart_3
def dkwX2_stuffedPart_1 : List UInt8 := [159, 0, 36, 167, 0, 14, 27, 42, 180, 0, 23, 182, 1, 7, 159, 0, 22, 42, 42, 180, 0, 70]
abbrev dktX2_stuffedPart_1 : List UInt8 := dkwX2_stuffedPart_1 ++ dktX2_stuffedPart_2
def dkwX2_stuffedPart_0 : List UInt8 := [42, 180, 0, 23, 182, 1, 4, 153, 0, 60, 42, 180, 0, 70, 153, 0, 14, 27, 42, 180, 0, 92]
abbrev dktX2_stuffedPart_0 : List UInt8 := dkwX2_stuffedPart_0 ++ dktX2_stuffedPart_1
theorem dksX2_stuffedPart_0 : cX2_stuffedPart.data.toList.drop 0 = dktX2_stuffedPart_0 := by decide +kernel
theorem dksX2_stuffedPart_1 : cX2_stuffedPart.data.toList.drop 22 = dktX2_stuffedPart_1 := dk_seg dksX2_stuffedPart_0 22 rfl rfl
theorem dksX2_stuffedPart_2 : cX2_stuffedPart.data.toList.drop 44 = dktX2_stuffedPart_2 := dk_seg dksX2_stuffedPart_1 22 rfl rfl
theorem dksX2_stuffedPart_3 : cX2_stuffedPart.data.toList.drop 68 = dktX2_stuffedPart_3 := dk_seg dksX2_stuffedPart_2 24 rfl rfl
theorem dksX2_stuffedPart_4 : cX2_stuffedPart.data.toList.drop 92 = dktX2_stuffedPart_4 := dk_seg dksX2_stuffedPart_3 24 rfl rfl
theorem dksX2_stuffedPart_5 : cX2_stuffedPart.data.toList.drop 114 = dktX2_stuffedPart_5 := dk_seg dksX2_stuffedPart_4 22 rfl rfl
theorem dksX2_stuffedPart_6 : cX2_stuffedPart.data.toList.drop 138 = dktX2_stuffedPart_6 := dk_seg dksX2_stuffedPart_5 24 rfl rfl
theorem dksX2_stuffedPart_7 : cX2_stuffedPart.data.toList.drop 162 = dktX2_stuffedPart_7 := dk_seg dksX2_stuffedPart_6 24 rfl rfl
theorem dksX2_stuffedPart_8 : cX2_stuffedPart.data.toList.drop 185 = dktX2_stuffedPart_8 := dk_seg dksX2_stuffedPart_7 23 rfl rfl
theorem dX2_stuffedPart_0 : decode cX2_stuffedPart 0 = .ok (.aload_n 0, 1) := dk_42 (dk_at dksX2_stuffedPart_0 0 rfl rfl)
theorem dX2_stuffedPart_1 : decode cX2_stuffedPart 1 = .ok (.getfield 23, 3) := dk_180 0 23 (dk_at dksX2_stuffedPart_0 1 rfl rfl)
theorem dX2_stuffedPart_4 : decode cX2_stuffedPart 4 = .ok (.invokevirtual 260, 3) := dk_182 1 4 (dk_at dksX2_stuffedPart_0 4 rfl rfl)
theorem dX2_stuffedPart_7 : decode cX2_stuffedPart 7 = .ok (.ifCond .eq 60, 3) := dk_153 0 60 (dk_at dksX2_stuffedPart_0 7 rfl rfl)
theorem dX2_stuffedPart_10 : decode cX2_stuffedPart 10 = .ok (.aload_n 0, 1) := dk_42 (dk_at dksX2_stuffedPart_0 10 rfl rfl)
theorem dX2_stuffedPart_11 : decode cX2_stuffedPart 11 = .ok (.getfield 70, 3) := dk_180 0 70 (dk_at dksX2_stuffedPart_0 11 rfl rfl)
theorem dX2_stuffedPart_14 : decode cX2_stuffedPart 14 = .ok (.ifCond .eq 14, 3) := dk_153 0 14 (dk_at dksX2_stuffedPart_0 14 rfl rfl)
theorem dX2_stuffedPart_17 : decode cX2_stuffedPart 17 = .ok (.iload_n 1, 1) := dk_27 (dk_at dksX2_stuffedPart_0 17 rfl rfl)
theorem dX2_stuffedPart_18 : decode cX2_stuffedPart 18 = .ok (.aload_n 0, 1) := dk_42 (dk_at dksX2_stuffedPart_0 18 rfl rfl)
theorem dX2_stuffedPart_19 : decode cX2_stuffedPart 19 = .ok (.getfield 92, 3) := dk_180 0 92 (dk_at dksX2_stuffedPart_0 19 rfl rfl)
theorem dX2_stuffedPart_22 : decode cX2_stuffedPart 22 = .ok (.if_icmp .eq 36, 3) := dk_159 0 36 (dk_at dksX2_stuffedPart_1 0 rfl rfl)
theorem dX2_stuffedPart_25 : decode cX2_stuffedPart 25 = .ok (.goto 14, 3) := dk_167 0 14 (dk_at dksX2_stuffedPart_1 3 rfl rfl)
theorem dX2_stuffedPart_28 : decode cX2_stuffedPart 28 = .ok (.iload_n 1, 1) := dk_27 (dk_at dksX2_stuffedPart_1 6 rfl rfl)
theorem dX2_stuffedPart_29 : decode cX2_stuffedPart 29 = .ok (.aload_n 0, 1) := dk_42 (dk_at dksX2_stuffedPart_1 7 rfl rfl)
theorem dX2_stuffedPart_30 : decode cX2_stuffedPart 30 = .ok (.getfield 23, 3) := dk_180 0 23 (dk_at dksX2_stuffedPart_1 8 rfl rfl)
theorem dX2_stuffedPart_33 : decode cX2_stuffedPart 33 = .ok (.invokevirtual 263, 3) := dk_182 1 7 (dk_at dksX2_stuffedPart_1 11 rfl rfl)
theorem dX2_stuffedPart_36 : decode cX2_stuffedPart 36 = .ok (.if_icmp .eq 22, 3) := dk_159 0 22 (dk_at dksX2_stuffedPart_1 14 rfl rfl)
theorem dX2_stuffedPart_39 : decode cX2_stuffedPart 39 = .ok (.aload_n 0, 1) := dk_42 (dk_at dksX2_stuffedPart_1 17 rfl rfl)
theorem dX2_stuffedPart_40 : decode cX2_stuffedPart 40 = .ok (.aload_n 0, 1) := dk_42 (dk_at dksX2_stuffedPart_1 18 rfl rfl)
theorem dX2_stuffedPart_41 : decode cX2_stuffedPart 41 = .ok (.getfield 70, 3) := dk_180 0 70 (dk_at dksX2_stuffedPart_1 19 rfl rfl)
theorem dX2_stuffedPart_44 : decode cX2_stuffedPart 44 = .ok (.ifCond .eq 7, 3) := dk_153 0 7 (dk_at dksX2_stuffedPart_2 0 rfl rfl)
theorem dX2_stuffedPart_47 : decode cX2_stuffedPart 47 = .ok (.iconst 1, 1) := dk_4 (dk_at dksX2_stuffedPart_2 3 rfl rfl)
theorem dX2_stuffedPart_48 : decode cX2_stuffedPart 48 = .ok (.goto 4, 3) := dk_167 0 4 (dk_at dksX2_stuffedPart_2 4 rfl rfl)
theorem dX2_stuffedPart_51 : decode cX2_stuffedPart 51 = .ok (.iconst 2, 1) := dk_5 (dk_at dksX2_stuffedPart_2 7 rfl rfl)
theorem dX2_stuffedPart_52 : decode cX2_stuffedPart 52 = .ok (.invokevirtual 247, 3) := dk_182 0 247 (dk_at dksX2_stuffedPart_2 8 rfl rfl)
theorem dX2_stuffedPart_55 : decode cX2_stuffedPart 55 = .ok (.goto 11, 3) := dk_167 0 11 (dk_at dksX2_stuffedPart_2 11 rfl rfl)
theorem dX2_stuffedPart_58 : decode cX2_stuffedPart 58 = .ok (.aload_n 0, 1) := dk_42 (dk_at dksX2_stuffedPart_2 14 rfl rfl)
theorem dX2_stuffedPart_59 : decode cX2_stuffedPart 59 = .ok (.getfield 23, 3) := dk_180 0 23 (dk_at dksX2_stuffedPart_2 15 rfl rfl)
theorem dX2_stuffedPart_62 : decode cX2_stuffedPart 62 = .ok (.iload_n 1, 1) := dk_27 (dk_at dksX2_stuffedPart_2 18 rfl rfl)
theorem dX2_stuffedPart_63 : decode cX2_stuffedPart 63 = .ok (.invokevirtual 207, 3) := dk_182 0 207 (dk_at dksX2_stuffedPart_2 19 rfl rfl)
theorem dX2_stuffedPart_66 : decode cX2_stuffedPart 66 = .ok (.return_, 1) := dk_177 (dk_at dksX2_stuffedPart_2 22 rfl rfl)
theorem dX2_stuffedPart_67 : decode cX2_stuffedPart 67 = .ok (.aload_n 0, 1) := dk_42 (dk_at dksX2_stuffedPart_2 23 rfl rfl)
theorem dX2_stuffedPart_68 : decode cX2_stuffedPart 68 = .ok (.getfield 23, 3) := dk_180 0 23 (dk_at dksX2_stuffedPart_3 0 rfl rfl)
theorem dX2_stuffedPart_71 : decode cX2_stuffedPart 71 = .ok (.getfield 266, 3) := dk_180 1 10 (dk_at dksX2_stuffedPart_3 3 rfl rfl)
theorem dX2_stuffedPart_74 : decode cX2_stuffedPart 74 = .ok (.istore_n 2, 1) := dk_61 (dk_at dksX2_stuffedPart_3 6 rfl rfl)
theorem dX2_stuffedPart_75 : decode cX2_stuffedPart 75 = .ok (.aload_n 0, 1) := dk_42 (dk_at dksX2_stuffedPart_3 7 rfl rfl)
theorem dX2_stuffedPart_76 : decode cX2_stuffedPart 76 = .ok (.getfield 70, 3) := dk_180 0 70 (dk_at dksX2_stuffedPart_3 8 rfl rfl)
theorem dX2_stuffedPart_79 : decode cX2_stuffedPart 79 = .ok (.ifCond .eq 43, 3) := dk_153 0 43 (dk_at dksX2_stuffedPart_3 11 rfl rfl)
theorem dX2_stuffedPart_82 : decode cX2_stuffedPart 82 = .ok (.iload_n 1, 1) := dk_27 (dk_at dksX2_stuffedPart_3 14 rfl rfl)
theorem dX2_stuffedPart_83 : decode cX2_stuffedPart 83 = .ok (.aload_n 0, 1) := dk_42 (dk_at dksX2_stuffedPart_3 15 rfl rfl)
theorem dX2_stuffedPart_84 : decode cX2_stuffedPart 84 = .ok (.getfield 92, 3) := dk_180 0 92 (dk_at dksX2_stuffedPart_3 16 rfl rfl)
theorem dX2_stuffedPart_87 : decode cX2_stuffedPart 87 = .ok (.if_icmp .eq 35, 3) := dk_159 0 35 (dk_at dksX2_stuffedPart_3 19 rfl rfl)
theorem dX2_stuffedPart_90 : decode cX2_stuffedPart 90 = .ok (.iload_n 1, 1) := dk_27 (dk_at dksX2_stuffedPart_3 22 rfl rfl)
theorem dX2_stuffedPart_91 : decode cX2_stuffedPart 91 = .ok (.iconst 1, 1) := dk_4 (dk_at dksX2_stuffedPart_3 23 rfl rfl)
theorem dX2_stuffedPart_92 : decode cX2_stuffedPart 92 = .ok (.if_icmp .eq 9, 3) := dk_159 0 9 (dk_at dksX2_stuffedPart_4 0 rfl rfl)
theorem dX2_stuffedPart_95 : decode cX2_stuffedPart 95 = .ok (.iload_n 2, 1) := dk_28 (dk_at dksX2_stuffedPart_4 3 rfl rfl)
theorem dX2_stuffedPart_96 : decode cX2_stuffedPart 96 = .ok (.bipush 12, 2) := dk_16 12 (dk_at dksX2_stuffedPart_4 4 rfl rfl)
theorem dX2_stuffedPart_98 : decode cX2_stuffedPart 98 = .ok (.if_icmp .le 9, 3) := dk_164 0 9 (dk_at dksX2_stuffedPart_4 6 rfl rfl)
theorem dX2_stuffedPart_101 : decode cX2_stuffedPart 101 = .ok (.aload_n 0, 1) := dk_42 (dk_at dksX2_stuffedPart_4 9 rfl rfl)
theorem dX2_stuffedPart_102 : decode cX2_stuffedPart 102 = .ok (.iconst 1, 1) := dk_4 (dk_at dksX2_stuffedPart_4 10 rfl rfl)
theorem dX2_stuffedPart_103 : decode cX2_stuffedPart 103 = .ok (.invokevirtual 247, 3) := dk_182 0 247 (dk_at dksX2_stuffedPart_4 11 rfl rfl)
theorem dX2_stuffedPart_106 : decode cX2_stuffedPart 106 = .ok (.return_, 1) := dk_177 (dk_at dksX2_stuffedPart_4 14 rfl rfl)
theorem dX2_stuffedPart_107 : decode cX2_stuffedPart 107 = .ok (.aload_n 0, 1) := dk_42 (dk_at dksX2_stuffedPart_4 15 rfl rfl)
theorem dX2_stuffedPart_108 : decode cX2_stuffedPart 108 = .ok (.iconst 0, 1) := dk_3 (dk_at dksX2_stuffedPart_4 16 rfl rfl)
theorem dX2_stuffedPart_109 : decode cX2_stuffedPart 109 = .ok (.putfield 70, 3) := dk_181 0 70 (dk_at dksX2_stuffedPart_4 17 rfl rfl)
theorem dX2_stuffedPart_112 : decode cX2_stuffedPart 112 = .ok (.aload_n 0, 1) := dk_42 (dk_at dksX2_stuffedPart_4 20 rfl rfl)
theorem dX2_stuffedPart_113 : decode cX2_stuffedPart 113 = .ok (.dup, 1) := dk_89 (dk_at dksX2_stuffedPart_4 21 rfl rfl)
theorem dX2_stuffedPart_114 : decode cX2_stuffedPart 114 = .ok (.getfield 162, 3) := dk_180 0 162 (dk_at dksX2_stuffedPart_5 0 rfl rfl)
theorem dX2_stuffedPart_117 : decode cX2_stuffedPart 117 = .ok (.iconst 1, 1) := dk_4 (dk_at dksX2_stuffedPart_5 3 rfl rfl)
theorem dX2_stuffedPart_118 : decode cX2_stuffedPart 118 = .ok (.iadd, 1) := dk_96 (dk_at dksX2_stuffedPart_5 4 rfl rfl)
theorem dX2_stuffedPart_119 : decode cX2_stuffedPart 119 = .ok (.putfield 162, 3) := dk_181 0 162 (dk_at dksX2_stuffedPart_5 5 rfl rfl)
theorem dX2_stuffedPart_122 : decode cX2_stuffedPart 122 = .ok (.aload_n 0, 1) := dk_42 (dk_at dksX2_stuffedPart_5 8 rfl rfl)
theorem dX2_stuffedPart_123 : decode cX2_stuffedPart 123 = .ok (.getfield 23, 3) := dk_180 0 23 (dk_at dksX2_stuffedPart_5 9 rfl rfl)
theorem dX2_stuffedPart_126 : decode cX2_stuffedPart 126 = .ok (.iload_n 1, 1) := dk_27 (dk_at dksX2_stuffedPart_5 12 rfl rfl)
theorem dX2_stuffedPart_127 : decode cX2_stuffedPart 127 = .ok (.invokevirtual 207, 3) := dk_182 0 207 (dk_at dksX2_stuffedPart_5 13 rfl rfl)
theorem dX2_stuffedPart_130 : decode cX2_stuffedPart 130 = .ok (.aload_n 0, 1) := dk_42 (dk_at dksX2_stuffedPart_5 16 rfl rfl)
theorem dX2_stuffedPart_131 : decode cX2_stuffedPart 131 = .ok (.getfield 23, 3) := dk_180 0 23 (dk_at dksX2_stuffedPart_5 17 rfl rfl)
theorem dX2_stuffedPart_134 : decode cX2_stuffedPart 134 = .ok (.iload_n 1, 1) := dk_27 (dk_at dksX2_stuffedPart_5 20 rfl rfl)
theorem dX2_stuffedPart_135 : decode cX2_stuffedPart 135 = .ok (.invokevirtual 210, 3) := dk_182 0 210 (dk_at dksX2_stuffedPart_5 21 rfl rfl)
theorem dX2_stuffedPart_138 : decode cX2_stuffedPart 138 = .ok (.iload_n 2, 1) := dk_28 (dk_at dksX2_stuffedPart_6 0 rfl rfl)
theorem dX2_stuffedPart_139 : decode cX2_stuffedPart 139 = .ok (.bipush 18, 2) := dk_16 18 (dk_at dksX2_stuffedPart_6 1 rfl rfl)
theorem dX2_stuffedPart_141 : decode cX2_stuffedPart 141 = .ok (.if_icmp .ne 18, 3) := dk_160 0 18 (dk_at dksX2_stuffedPart_6 3 rfl rfl)
theorem dX2_stuffedPart_144 : decode cX2_stuffedPart 144 = .ok (.aload_n 0, 1) := dk_42 (dk_at dksX2_stuffedPart_6 6 rfl rfl)
theorem dX2_stuffedPart_145 : decode cX2_stuffedPart 145 = .ok (.getfield 23, 3) := dk_180 0 23 (dk_at dksX2_stuffedPart_6 7 rfl rfl)
theorem dX2_stuffedPart_148 : decode cX2_stuffedPart 148 = .ok (.getfield 279, 3) := dk_180 1 23 (dk_at dksX2_stuffedPart_6 10 rfl rfl)
theorem dX2_stuffedPart_151 : decode cX2_stuffedPart 151 = .ok (.iconst 4, 1) := dk_7 (dk_at dksX2_stuffedPart_6 13 rfl rfl)
theorem dX2_stuffedPart_152 : decode cX2_stuffedPart 152 = .ok (.if_icmp .le 7, 3) := dk_164 0 7 (dk_at dksX2_stuffedPart_6 14 rfl rfl)
theorem dX2_stuffedPart_155 : decode cX2_stuffedPart 155 = .ok (.iconst 1, 1) := dk_4 (dk_at dksX2_stuffedPart_6 17 rfl rfl)
theorem dX2_stuffedPart_156 : decode cX2_stuffedPart 156 = .ok (.goto 4, 3) := dk_167 0 4 (dk_at dksX2_stuffedPart_6 18 rfl rfl)
theorem dX2_stuffedPart_159 : decode cX2_stuffedPart 159 = .ok (.iconst 0, 1) := dk_3 (dk_at dksX2_stuffedPart_6 21 rfl rfl)
theorem dX2_stuffedPart_160 : decode cX2_stuffedPart 160 = .ok (.istore_n 3, 1) := dk_62 (dk_at dksX2_stuffedPart_6 22 rfl rfl)
theorem dX2_stuffedPart_161 : decode cX2_stuffedPart 161 = .ok (.aload_n 0, 1) := dk_42 (dk_at dksX2_stuffedPart_6 23 rfl rfl)
theorem dX2_stuffedPart_162 : decode cX2_stuffedPart 162 = .ok (.getfield 70, 3) := dk_180 0 70 (dk_at dksX2_stuffedPart_7 0 rfl rfl)
theorem dX2_stuffedPart_165 : decode cX2_stuffedPart 165 = .ok (.ifCond .ne 23, 3) := dk_154 0 23 (dk_at dksX2_stuffedPart_7 3 rfl rfl)
theorem dX2_stuffedPart_168 : decode cX2_stuffedPart 168 = .ok (.iload_n 3, 1) := dk_29 (dk_at dksX2_stuffedPart_7 6 rfl rfl)
theorem dX2_stuffedPart_169 : decode cX2_stuffedPart 169 = .ok (.ifCond .ne 14, 3) := dk_154 0 14 (dk_at dksX2_stuffedPart_7 7 rfl rfl)
theorem dX2_stuffedPart_172 : decode cX2_stuffedPart 172 = .ok (.iload_n 2, 1) := dk_28 (dk_at dksX2_stuffedPart_7 10 rfl rfl)
theorem dX2_stuffedPart_173 : decode cX2_stuffedPart 173 = .ok (.bipush 13, 2) := dk_16 13 (dk_at dksX2_stuffedPart_7 11 rfl rfl)
theorem dX2_stuffedPart_175 : decode cX2_stuffedPart 175 = .ok (.if_icmp .ne 13, 3) := dk_160 0 13 (dk_at dksX2_stuffedPart_7 13 rfl rfl)
theorem dX2_stuffedPart_178 : decode cX2_stuffedPart 178 = .ok (.iload_n 1, 1) := dk_27 (dk_at dksX2_stuffedPart_7 16 rfl rfl)
theorem dX2_stuffedPart_179 : decode cX2_stuffedPart 179 = .ok (.iconst 1, 1) := dk_4 (dk_at dksX2_stuffedPart_7 17 rfl rfl)
theorem dX2_stuffedPart_180 : decode cX2_stuffedPart 180 = .ok (.if_icmp .ne 8, 3) := dk_160 0 8 (dk_at dksX2_stuffedPart_7 18 rfl rfl)
theorem dX2_stuffedPart_183 : decode cX2_stuffedPart 183 = .ok (.aload_n 0, 1) := dk_42 (dk_at dksX2_stuffedPart_7 21 rfl rfl)
theorem dX2_stuffedPart_184 : decode cX2_stuffedPart 184 = .ok (.iconst 4, 1) := dk_7 (dk_at dksX2_stuffedPart_7 22 rfl rfl)
theorem dX2_stuffedPart_185 : decode cX2_stuffedPart 185 = .ok (.invokevirtual 247, 3) := dk_182 0 247 (dk_at dksX2_stuffedPart_8 0 rfl rfl)
theorem dX2_stuffedPart_188 : decode cX2_stuffedPart 188 = .ok (.return_, 1) := dk_177 (dk_at dksX2_stuffedPart_8 3 rfl rfl)
abbrev cX2_tail : ByteArray := prog_10_method_19_code
def yX2_tail : MethodName := ⟨RX2, "tail", "(I)V"⟩
def dkwX2_tail_6 : List UInt8 := [154, 0, 7, 42, 182, 1, 29, 177]
abbrev dktX2_tail_6 : List UInt8 := dkwX2_tail_6 ++ []
def dkwX2_tail_5 : List UInt8 := [182, 1, 20, 154, 0, 11, 42, 6, 182, 0, 247, 167, 0, 20, 28, 16, 8, 160, 0, 14, 42, 180, 0, 70]
abbrev dktX2_tail_5 : List UInt8 := dkwX2_tail_5 ++ dktX2_tail_6
def dkwX2_tail_4 : List UInt8 := [42, 182, 1, 26, 167, 0, 50, 28, 5, 160, 0, 28, 42, 180, 0, 70, 154, 0, 21, 42, 180, 0, 23]
abbrev dktX2_tail_4 : List UInt8 := dkwX2_tail_4 ++ dktX2_tail_5
def dkwX2_tail_3 : List UInt8 := [42, 180, 0, 70, 153, 0, 7, 4, 167, 0, 4, 7, 182, 0, 247, 167, 0, 63, 28, 16, 9, 160, 0, 10]
abbrev dktX2_tail_3 : List UInt8 := dkwX2_tail_3 ++ dktX2_tail_4
def dkwX2_tail_2 : List UInt8 := [154, 0, 42, 28, 16, 9, 160, 0, 17, 42, 180, 0, 70, 154, 0, 10, 42, 182, 0, 244, 167, 0, 82, 42]
abbrev dktX2_tail_2 : List UInt8 := dkwX2_tail_2 ++ dktX2_tail_3
def dkwX2_tail_1 : List UInt8 := [160, 0, 23, 42, 180, 0, 70, 153, 0, 119, 27, 4, 160, 0, 114, 42, 8, 182, 0, 247, 167, 0, 106, 27]
abbrev dktX2_tail_1 : List UInt8 := dkwX2_tail_1 ++ dktX2_tail_2
def dkwX2_tail_0 : List UInt8 := [42, 180, 0, 23, 180, 1, 17, 61, 42, 180, 0, 23, 89, 180, 1, 17, 4, 96, 181, 1, 17, 28, 4]
abbrev dktX2_tail_0 : List UInt8 := dkwX2_tail_0 ++ dktX2_tail_1
theorem dksX2_tail_0 : cX2_tail.data.toList.drop 0 = dktX2_tail_0 := by decide +kernel
theorem dksX2_tail_1 : cX2_tail.data.toList.drop 23 = dktX2_tail_1 := dk_seg dksX2_tail_0 23 rfl rfl
theorem dksX2_tail_2 : cX2_tail.data.toList.drop 47 = dktX2_tail_2 := dk_seg dksX2_tail_1 24 rfl rfl
theorem dksX2_tail_3 : cX2_tail.data.toList.drop 71 = dktX2_tail_3 := dk_seg dksX2_tail_2 24 rfl rfl
theorem dksX2_tail_4 : cX2_tail.data.toList.drop 95 = dktX2_tail_4 := dk_seg dksX2_tail_3 24 rfl rfl
theorem dksX2_tail_5 : cX2_tail.data.toList.drop 118 = dktX2_tail_5 := dk_seg dksX2_tail_4 23 rfl rfl
theorem dksX2_tail_6 : cX2_tail.data.toList.drop 142 = dktX2_tail_6 := dk_seg dksX2_tail_5 24 rfl rfl
theorem dX2_tail_0 : decode cX2_tail 0 = .ok (.aload_n 0, 1) := dk_42 (dk_at dksX2_tail_0 0 rfl rfl)
theorem dX2_tail_1 : decode cX2_tail 1 = .ok (.getfield 23, 3) := dk_180 0 23 (dk_at dksX2_tail_0 1 rfl rfl)
theorem dX2_tail_4 : decode cX2_tail 4 = .ok (.getfield 273, 3) := dk_180 1 17 (dk_at dksX2_tail_0 4 rfl rfl)
theorem dX2_tail_7 : decode cX2_tail 7 = .ok (.istore_n 2, 1) := dk_61 (dk_at dksX2_tail_0 7 rfl rfl)
theorem dX2_tail_8 : decode cX2_tail 8 = .ok (.aload_n 0, 1) := dk_42 (dk_at dksX2_tail_0 8 rfl rfl)
theorem dX2_tail_9 : decode cX2_tail 9 = .ok (.getfield 23, 3) := dk_180 0 23 (dk_at dksX2_tail_0 9 rfl rfl)
theorem dX2_tail_12 : decode cX2_tail 12 = .ok (.dup, 1) := dk_89 (dk_at dksX2_tail_0 12 rfl rfl)
theorem dX2_tail_13 : decode cX2_tail 13 = .ok (.getfield 273, 3) := dk_180 1 17 (dk_at dksX2_tail_0 13 rfl rfl)
theorem dX2_tail_16 : decode cX2_tail 16 = .ok (.iconst 1, 1) := dk_4 (dk_at dksX2_tail_0 16 rfl rfl)
theorem dX2_tail_17 : decode cX2_tail 17 = .ok (.iadd, 1) := dk_96 (dk_at dksX2_tail_0 17 rfl rfl)
theorem dX2_tail_18 : decode cX2_tail 18 = .ok (.putfield 273, 3) := dk_181 1 17 (dk_at dksX2_tail_0 18 rfl rfl)
theorem dX2_tail_21 : decode cX2_tail 21 = .ok (.iload_n 2, 1) := dk_28 (dk_at dksX2_tail_0 21 rfl rfl)
theorem dX2_tail_22 : decode cX2_tail 22 = .ok (.iconst 1, 1) := dk_4 (dk_at dksX2_tail_0 22 rfl rfl)
theorem dX2_tail_23 : decode cX2_tail 23 = .ok (.if_icmp .ne 23, 3) := dk_160 0 23 (dk_at dksX2_tail_1 0 rfl rfl)
theorem dX2_tail_26 : decode cX2_tail 26 = .ok (.aload_n 0, 1) := dk_42 (dk_at dksX2_tail_1 3 rfl rfl)
theorem dX2_tail_27 : decode cX2_tail 27 = .ok (.getfield 70, 3) := dk_180 0 70 (dk_at dksX2_tail_1 4 rfl rfl)
theorem dX2_tail_30 : decode cX2_tail 30 = .ok (.ifCond .eq 119, 3) := dk_153 0 119 (dk_at dksX2_tail_1 7 rfl rfl)
theorem dX2_tail_33 : decode cX2_tail 33 = .ok (.iload_n 1, 1) := dk_27 (dk_at dksX2_tail_1 10 rfl rfl)
theorem dX2_tail_34 : decode cX2_tail 34 = .ok (.iconst 1, 1) := dk_4 (dk_at dksX2_tail_1 11 rfl rfl)
theorem dX2_tail_35 : decode cX2_tail 35 = .ok (.if_icmp .ne 114, 3) := dk_160 0 114 (dk_at dksX2_tail_1 12 rfl rfl)
theorem dX2_tail_38 : decode cX2_tail 38 = .ok (.aload_n 0, 1) := dk_42 (dk_at dksX2_tail_1 15 rfl rfl)
theorem dX2_tail_39 : decode cX2_tail 39 = .ok (.iconst 5, 1) := dk_8 (dk_at dksX2_tail_1 16 rfl rfl)
theorem dX2_tail_40 : decode cX2_tail 40 = .ok (.invokevirtual 247, 3) := dk_182 0 247 (dk_at dksX2_tail_1 17 rfl rfl)
theorem dX2_tail_43 : decode cX2_tail 43 = .ok (.goto 106, 3) := dk_167 0 106 (dk_at dksX2_tail_1 20 rfl rfl)
theorem dX2_tail_46 : decode cX2_tail 46 = .ok (.iload_n 1, 1) := dk_27 (dk_at dksX2_tail_1 23 rfl rfl)
theorem dX2_tail_47 : decode cX2_tail 47 = .ok (.ifCond .ne 42, 3) := dk_154 0 42 (dk_at dksX2_tail_2 0 rfl rfl)
theorem dX2_tail_50 : decode cX2_tail 50 = .ok (.iload_n 2, 1) := dk_28 (dk_at dksX2_tail_2 3 rfl rfl)
theorem dX2_tail_51 : decode cX2_tail 51 = .ok (.bipush 9, 2) := dk_16 9 (dk_at dksX2_tail_2 4 rfl rfl)
theorem dX2_tail_53 : decode cX2_tail 53 = .ok (.if_icmp .ne 17, 3) := dk_160 0 17 (dk_at dksX2_tail_2 6 rfl rfl)
theorem dX2_tail_56 : decode cX2_tail 56 = .ok (.aload_n 0, 1) := dk_42 (dk_at dksX2_tail_2 9 rfl rfl)
theorem dX2_tail_57 : decode cX2_tail 57 = .ok (.getfield 70, 3) := dk_180 0 70 (dk_at dksX2_tail_2 10 rfl rfl)
theorem dX2_tail_60 : decode cX2_tail 60 = .ok (.ifCond .ne 10, 3) := dk_154 0 10 (dk_at dksX2_tail_2 13 rfl rfl)
theorem dX2_tail_63 : decode cX2_tail 63 = .ok (.aload_n 0, 1) := dk_42 (dk_at dksX2_tail_2 16 rfl rfl)
theorem dX2_tail_64 : decode cX2_tail 64 = .ok (.invokevirtual 244, 3) := dk_182 0 244 (dk_at dksX2_tail_2 17 rfl rfl)
theorem dX2_tail_67 : decode cX2_tail 67 = .ok (.goto 82, 3) := dk_167 0 82 (dk_at dksX2_tail_2 20 rfl rfl)
theorem dX2_tail_70 : decode cX2_tail 70 = .ok (.aload_n 0, 1) := dk_42 (dk_at dksX2_tail_2 23 rfl rfl)
theorem dX2_tail_71 : decode cX2_tail 71 = .ok (.aload_n 0, 1) := dk_42 (dk_at dksX2_tail_3 0 rfl rfl)
theorem dX2_tail_72 : decode cX2_tail 72 = .ok (.getfield 70, 3) := dk_180 0 70 (dk_at dksX2_tail_3 1 rfl rfl)
theorem dX2_tail_75 : decode cX2_tail 75 = .ok (.ifCond .eq 7, 3) := dk_153 0 7 (dk_at dksX2_tail_3 4 rfl rfl)
theorem dX2_tail_78 : decode cX2_tail 78 = .ok (.iconst 1, 1) := dk_4 (dk_at dksX2_tail_3 7 rfl rfl)
theorem dX2_tail_79 : decode cX2_tail 79 = .ok (.goto 4, 3) := dk_167 0 4 (dk_at dksX2_tail_3 8 rfl rfl)
theorem dX2_tail_82 : decode cX2_tail 82 = .ok (.iconst 4, 1) := dk_7 (dk_at dksX2_tail_3 11 rfl rfl)
theorem dX2_tail_83 : decode cX2_tail 83 = .ok (.invokevirtual 247, 3) := dk_182 0 247 (dk_at dksX2_tail_3 12 rfl rfl)
theorem dX2_tail_86 : decode cX2_tail 86 = .ok (.goto 63, 3) := dk_167 0 63 (dk_at dksX2_tail_3 15 rfl rfl)
theorem dX2_tail_89 : decode cX2_tail 89 = .ok (.iload_n 2, 1) := dk_28 (dk_at dksX2_tail_3 18 rfl rfl)
theorem dX2_tail_90 : decode cX2_tail 90 = .ok (.bipush 9, 2) := dk_16 9 (dk_at dksX2_tail_3 19 rfl rfl)
theorem dX2_tail_92 : decode cX2_tail 92 = .ok (.if_icmp .ne 10, 3) := dk_160 0 10 (dk_at dksX2_tail_3 21 rfl rfl)
theorem dX2_tail_95 : decode cX2_tail 95 = .ok (.aload_n 0, 1) := dk_42 (dk_at dksX2_tail_4 0 rfl rfl)
theorem dX2_tail_96 : decode cX2_tail 96 = .ok (.invokevirtual 282, 3) := dk_182 1 26 (dk_at dksX2_tail_4 1 rfl rfl)
theorem dX2_tail_99 : decode cX2_tail 99 = .ok (.goto 50, 3) := dk_167 0 50 (dk_at dksX2_tail_4 4 rfl rfl)
theorem dX2_tail_102 : decode cX2_tail 102 = .ok (.iload_n 2, 1) := dk_28 (dk_at dksX2_tail_4 7 rfl rfl)
theorem dX2_tail_103 : decode cX2_tail 103 = .ok (.iconst 2, 1) := dk_5 (dk_at dksX2_tail_4 8 rfl rfl)
theorem dX2_tail_104 : decode cX2_tail 104 = .ok (.if_icmp .ne 28, 3) := dk_160 0 28 (dk_at dksX2_tail_4 9 rfl rfl)
theorem dX2_tail_107 : decode cX2_tail 107 = .ok (.aload_n 0, 1) := dk_42 (dk_at dksX2_tail_4 12 rfl rfl)
theorem dX2_tail_108 : decode cX2_tail 108 = .ok (.getfield 70, 3) := dk_180 0 70 (dk_at dksX2_tail_4 13 rfl rfl)
theorem dX2_tail_111 : decode cX2_tail 111 = .ok (.ifCond .ne 21, 3) := dk_154 0 21 (dk_at dksX2_tail_4 16 rfl rfl)
theorem dX2_tail_114 : decode cX2_tail 114 = .ok (.aload_n 0, 1) := dk_42 (dk_at dksX2_tail_4 19 rfl rfl)
theorem dX2_tail_115 : decode cX2_tail 115 = .ok (.getfield 23, 3) := dk_180 0 23 (dk_at dksX2_tail_4 20 rfl rfl)
theorem dX2_tail_118 : decode cX2_tail 118 = .ok (.invokevirtual 276, 3) := dk_182 1 20 (dk_at dksX2_tail_5 0 rfl rfl)
theorem dX2_tail_121 : decode cX2_tail 121 = .ok (.ifCond .ne 11, 3) := dk_154 0 11 (dk_at dksX2_tail_5 3 rfl rfl)
theorem dX2_tail_124 : decode cX2_tail 124 = .ok (.aload_n 0, 1) := dk_42 (dk_at dksX2_tail_5 6 rfl rfl)
theorem dX2_tail_125 : decode cX2_tail 125 = .ok (.iconst 3, 1) := dk_6 (dk_at dksX2_tail_5 7 rfl rfl)
theorem dX2_tail_126 : decode cX2_tail 126 = .ok (.invokevirtual 247, 3) := dk_182 0 247 (dk_at dksX2_tail_5 8 rfl rfl)
theorem dX2_tail_129 : decode cX2_tail 129 = .ok (.goto 20, 3) := dk_167 0 20 (dk_at dksX2_tail_5 11 rfl rfl)
theorem dX2_tail_132 : decode cX2_tail 132 = .ok (.iload_n 2, 1) := dk_28 (dk_at dksX2_tail_5 14 rfl rfl)
theorem dX2_tail_133 : decode cX2_tail 133 = .ok (.bipush 8, 2) := dk_16 8 (dk_at dksX2_tail_5 15 rfl rfl)
theorem dX2_tail_135 : decode cX2_tail 135 = .ok (.if_icmp .ne 14, 3) := dk_160 0 14 (dk_at dksX2_tail_5 17 rfl rfl)
theorem dX2_tail_138 : decode cX2_tail 138 = .ok (.aload_n 0, 1) := dk_42 (dk_at dksX2_tail_5 20 rfl rfl)
theorem dX2_tail_139 : decode cX2_tail 139 = .ok (.getfield 70, 3) := dk_180 0 70 (dk_at dksX2_tail_5 21 rfl rfl)
theorem dX2_tail_142 : decode cX2_tail 142 = .ok (.ifCond .ne 7, 3) := dk_154 0 7 (dk_at dksX2_tail_6 0 rfl rfl)
theorem dX2_tail_145 : decode cX2_tail 145 = .ok (.aload_n 0, 1) := dk_42 (dk_at dksX2_tail_6 3 rfl rfl)
theorem dX2_tail_146 : decode cX2_tail 146 = .ok (.invokevirtual 285, 3) := dk_182 1 29 (dk_at dksX2_tail_6 4 rfl rfl)
theorem dX2_tail_149 : decode cX2_tail 149 = .ok (.return_, 1) := dk_177 (dk_at dksX2_tail_6 7 rfl rfl)
abbrev cX2_overload : ByteArray := prog_10_method_13_code
def yX2_overload : MethodName := ⟨RX2, "overload", "()V"⟩
def dkwX2_overload_0 : List UInt8 := [42, 89, 180, 0, 165, 4, 96, 181, 0, 165, 42, 178, 0, 231, 182, 0, 200, 177]
abbrev dktX2_overload_0 : List UInt8 := dkwX2_overload_0 ++ []
theorem dksX2_overload_0 : cX2_overload.data.toList.drop 0 = dktX2_overload_0 := by decide +kernel
theorem dX2_overload_0 : decode cX2_overload 0 = .ok (.aload_n 0, 1) := dk_42 (dk_at dksX2_overload_0 0 rfl rfl)
theorem dX2_overload_1 : decode cX2_overload 1 = .ok (.dup, 1) := dk_89 (dk_at dksX2_overload_0 1 rfl rfl)
theorem dX2_overload_2 : decode cX2_overload 2 = .ok (.getfield 165, 3) := dk_180 0 165 (dk_at dksX2_overload_0 2 rfl rfl)
theorem dX2_overload_5 : decode cX2_overload 5 = .ok (.iconst 1, 1) := dk_4 (dk_at dksX2_overload_0 5 rfl rfl)
theorem dX2_overload_6 : decode cX2_overload 6 = .ok (.iadd, 1) := dk_96 (dk_at dksX2_overload_0 6 rfl rfl)
theorem dX2_overload_7 : decode cX2_overload 7 = .ok (.putfield 165, 3) := dk_181 0 165 (dk_at dksX2_overload_0 7 rfl rfl)
theorem dX2_overload_10 : decode cX2_overload 10 = .ok (.aload_n 0, 1) := dk_42 (dk_at dksX2_overload_0 10 rfl rfl)
theorem dX2_overload_11 : decode cX2_overload 11 = .ok (.getstatic 231, 3) := dk_178 0 231 (dk_at dksX2_overload_0 11 rfl rfl)
theorem dX2_overload_14 : decode cX2_overload 14 = .ok (.invokevirtual 200, 3) := dk_182 0 200 (dk_at dksX2_overload_0 14 rfl rfl)
theorem dX2_overload_17 : decode cX2_overload 17 = .ok (.return_, 1) := dk_177 (dk_at dksX2_overload_0 17 rfl rfl)
abbrev cX2_finish : ByteArray := prog_10_method_20_code
def yX2_finish : MethodName := ⟨RX2, "finish", "()V"⟩
def dkwX2_finish_2 : List UInt8 := [177]
abbrev dktX2_finish_2 : List UInt8 := dkwX2_finish_2 ++ []
def dkwX2_finish_1 : List UInt8 := [181, 0, 168, 42, 3, 42, 180, 0, 74, 4, 100, 184, 1, 36, 181, 0, 74, 42, 178, 0, 241, 182, 0, 200]
abbrev dktX2_finish_1 : List UInt8 := dkwX2_finish_1 ++ dktX2_finish_2
def dkwX2_finish_0 : List UInt8 := [42, 180, 0, 70, 153, 0, 35, 42, 42, 180, 0, 95, 182, 1, 32, 42, 89, 180, 0, 168, 4, 96]
abbrev dktX2_finish_0 : List UInt8 := dkwX2_finish_0 ++ dktX2_finish_1
theorem dksX2_finish_0 : cX2_finish.data.toList.drop 0 = dktX2_finish_0 := by decide +kernel
theorem dksX2_finish_1 : cX2_finish.data.toList.drop 22 = dktX2_finish_1 := dk_seg dksX2_finish_0 22 rfl rfl
theorem dksX2_finish_2 : cX2_finish.data.toList.drop 46 = dktX2_finish_2 := dk_seg dksX2_finish_1 24 rfl rfl
theorem dX2_finish_0 : decode cX2_finish 0 = .ok (.aload_n 0, 1) := dk_42 (dk_at dksX2_finish_0 0 rfl rfl)
theorem dX2_finish_1 : decode cX2_finish 1 = .ok (.getfield 70, 3) := dk_180 0 70 (dk_at dksX2_finish_0 1 rfl rfl)
theorem dX2_finish_4 : decode cX2_finish 4 = .ok (.ifCond .eq 35, 3) := dk_153 0 35 (dk_at dksX2_finish_0 4 rfl rfl)
theorem dX2_finish_7 : decode cX2_finish 7 = .ok (.aload_n 0, 1) := dk_42 (dk_at dksX2_finish_0 7 rfl rfl)
theorem dX2_finish_8 : decode cX2_finish 8 = .ok (.aload_n 0, 1) := dk_42 (dk_at dksX2_finish_0 8 rfl rfl)
theorem dX2_finish_9 : decode cX2_finish 9 = .ok (.getfield 95, 3) := dk_180 0 95 (dk_at dksX2_finish_0 9 rfl rfl)
theorem dX2_finish_12 : decode cX2_finish 12 = .ok (.invokevirtual 288, 3) := dk_182 1 32 (dk_at dksX2_finish_0 12 rfl rfl)
theorem dX2_finish_15 : decode cX2_finish 15 = .ok (.aload_n 0, 1) := dk_42 (dk_at dksX2_finish_0 15 rfl rfl)
theorem dX2_finish_16 : decode cX2_finish 16 = .ok (.dup, 1) := dk_89 (dk_at dksX2_finish_0 16 rfl rfl)
theorem dX2_finish_17 : decode cX2_finish 17 = .ok (.getfield 168, 3) := dk_180 0 168 (dk_at dksX2_finish_0 17 rfl rfl)
theorem dX2_finish_20 : decode cX2_finish 20 = .ok (.iconst 1, 1) := dk_4 (dk_at dksX2_finish_0 20 rfl rfl)
theorem dX2_finish_21 : decode cX2_finish 21 = .ok (.iadd, 1) := dk_96 (dk_at dksX2_finish_0 21 rfl rfl)
theorem dX2_finish_22 : decode cX2_finish 22 = .ok (.putfield 168, 3) := dk_181 0 168 (dk_at dksX2_finish_1 0 rfl rfl)
theorem dX2_finish_25 : decode cX2_finish 25 = .ok (.aload_n 0, 1) := dk_42 (dk_at dksX2_finish_1 3 rfl rfl)
theorem dX2_finish_26 : decode cX2_finish 26 = .ok (.iconst 0, 1) := dk_3 (dk_at dksX2_finish_1 4 rfl rfl)
theorem dX2_finish_27 : decode cX2_finish 27 = .ok (.aload_n 0, 1) := dk_42 (dk_at dksX2_finish_1 5 rfl rfl)
theorem dX2_finish_28 : decode cX2_finish 28 = .ok (.getfield 74, 3) := dk_180 0 74 (dk_at dksX2_finish_1 6 rfl rfl)
theorem dX2_finish_31 : decode cX2_finish 31 = .ok (.iconst 1, 1) := dk_4 (dk_at dksX2_finish_1 9 rfl rfl)
theorem dX2_finish_32 : decode cX2_finish 32 = .ok (.isub, 1) := dk_100 (dk_at dksX2_finish_1 10 rfl rfl)
theorem dX2_finish_33 : decode cX2_finish 33 = .ok (.invokestatic 292, 3) := dk_184 1 36 (dk_at dksX2_finish_1 11 rfl rfl)
theorem dX2_finish_36 : decode cX2_finish 36 = .ok (.putfield 74, 3) := dk_181 0 74 (dk_at dksX2_finish_1 14 rfl rfl)
theorem dX2_finish_39 : decode cX2_finish 39 = .ok (.aload_n 0, 1) := dk_42 (dk_at dksX2_finish_1 17 rfl rfl)
theorem dX2_finish_40 : decode cX2_finish 40 = .ok (.getstatic 241, 3) := dk_178 0 241 (dk_at dksX2_finish_1 18 rfl rfl)
theorem dX2_finish_43 : decode cX2_finish 43 = .ok (.invokevirtual 200, 3) := dk_182 0 200 (dk_at dksX2_finish_1 21 rfl rfl)
theorem dX2_finish_46 : decode cX2_finish 46 = .ok (.return_, 1) := dk_177 (dk_at dksX2_finish_2 0 rfl rfl)
abbrev cX2_removeWaiting : ByteArray := prog_10_method_21_code
def yX2_removeWaiting : MethodName := ⟨RX2, "removeWaiting", "(LArbitratedBus$Frame;)V"⟩
def dkwX2_removeWaiting_2 : List UInt8 := [182, 0, 119, 87, 167, 255, 223, 42, 44, 181, 0, 32, 177]
abbrev dktX2_removeWaiting_2 : List UInt8 := dkwX2_removeWaiting_2 ++ []
def dkwX2_removeWaiting_1 : List UInt8 := [153, 0, 30, 45, 185, 0, 113, 1, 0, 192, 0, 117, 58, 4, 25, 4, 43, 165, 0, 10, 44, 25, 4]
abbrev dktX2_removeWaiting_1 : List UInt8 := dkwX2_removeWaiting_1 ++ dktX2_removeWaiting_2
def dkwX2_removeWaiting_0 : List UInt8 := [187, 0, 27, 89, 7, 183, 0, 29, 77, 42, 180, 0, 32, 182, 0, 103, 78, 45, 185, 0, 107, 1, 0]
abbrev dktX2_removeWaiting_0 : List UInt8 := dkwX2_removeWaiting_0 ++ dktX2_removeWaiting_1
theorem dksX2_removeWaiting_0 : cX2_removeWaiting.data.toList.drop 0 = dktX2_removeWaiting_0 := by decide +kernel
theorem dksX2_removeWaiting_1 : cX2_removeWaiting.data.toList.drop 23 = dktX2_removeWaiting_1 := dk_seg dksX2_removeWaiting_0 23 rfl rfl
theorem dksX2_removeWaiting_2 : cX2_removeWaiting.data.toList.drop 46 = dktX2_removeWaiting_2 := dk_seg dksX2_removeWaiting_1 23 rfl rfl
theorem dX2_removeWaiting_0 : decode cX2_removeWaiting 0 = .ok (.new 27, 3) := dk_187 0 27 (dk_at dksX2_removeWaiting_0 0 rfl rfl)
theorem dX2_removeWaiting_3 : decode cX2_removeWaiting 3 = .ok (.dup, 1) := dk_89 (dk_at dksX2_removeWaiting_0 3 rfl rfl)
theorem dX2_removeWaiting_4 : decode cX2_removeWaiting 4 = .ok (.iconst 4, 1) := dk_7 (dk_at dksX2_removeWaiting_0 4 rfl rfl)
theorem dX2_removeWaiting_5 : decode cX2_removeWaiting 5 = .ok (.invokespecial 29, 3) := dk_183 0 29 (dk_at dksX2_removeWaiting_0 5 rfl rfl)
theorem dX2_removeWaiting_8 : decode cX2_removeWaiting 8 = .ok (.astore_n 2, 1) := dk_77 (dk_at dksX2_removeWaiting_0 8 rfl rfl)
theorem dX2_removeWaiting_9 : decode cX2_removeWaiting 9 = .ok (.aload_n 0, 1) := dk_42 (dk_at dksX2_removeWaiting_0 9 rfl rfl)
theorem dX2_removeWaiting_10 : decode cX2_removeWaiting 10 = .ok (.getfield 32, 3) := dk_180 0 32 (dk_at dksX2_removeWaiting_0 10 rfl rfl)
theorem dX2_removeWaiting_13 : decode cX2_removeWaiting 13 = .ok (.invokevirtual 103, 3) := dk_182 0 103 (dk_at dksX2_removeWaiting_0 13 rfl rfl)
theorem dX2_removeWaiting_16 : decode cX2_removeWaiting 16 = .ok (.astore_n 3, 1) := dk_78 (dk_at dksX2_removeWaiting_0 16 rfl rfl)
theorem dX2_removeWaiting_17 : decode cX2_removeWaiting 17 = .ok (.aload_n 3, 1) := dk_45 (dk_at dksX2_removeWaiting_0 17 rfl rfl)
theorem dX2_removeWaiting_18 : decode cX2_removeWaiting 18 = .ok (.invokeinterface 107 1, 5) := by decide +kernel
theorem dX2_removeWaiting_23 : decode cX2_removeWaiting 23 = .ok (.ifCond .eq 30, 3) := dk_153 0 30 (dk_at dksX2_removeWaiting_1 0 rfl rfl)
theorem dX2_removeWaiting_26 : decode cX2_removeWaiting 26 = .ok (.aload_n 3, 1) := dk_45 (dk_at dksX2_removeWaiting_1 3 rfl rfl)
theorem dX2_removeWaiting_27 : decode cX2_removeWaiting 27 = .ok (.invokeinterface 113 1, 5) := by decide +kernel
theorem dX2_removeWaiting_32 : decode cX2_removeWaiting 32 = .ok (.checkcast 117, 3) := dk_192 0 117 (dk_at dksX2_removeWaiting_1 9 rfl rfl)
theorem dX2_removeWaiting_35 : decode cX2_removeWaiting 35 = .ok (.astore 4, 2) := dk_58 4 (dk_at dksX2_removeWaiting_1 12 rfl rfl)
theorem dX2_removeWaiting_37 : decode cX2_removeWaiting 37 = .ok (.aload 4, 2) := dk_25 4 (dk_at dksX2_removeWaiting_1 14 rfl rfl)
theorem dX2_removeWaiting_39 : decode cX2_removeWaiting 39 = .ok (.aload_n 1, 1) := dk_43 (dk_at dksX2_removeWaiting_1 16 rfl rfl)
theorem dX2_removeWaiting_40 : decode cX2_removeWaiting 40 = .ok (.if_acmp .eq 10, 3) := dk_165 0 10 (dk_at dksX2_removeWaiting_1 17 rfl rfl)
theorem dX2_removeWaiting_43 : decode cX2_removeWaiting 43 = .ok (.aload_n 2, 1) := dk_44 (dk_at dksX2_removeWaiting_1 20 rfl rfl)
theorem dX2_removeWaiting_44 : decode cX2_removeWaiting 44 = .ok (.aload 4, 2) := dk_25 4 (dk_at dksX2_removeWaiting_1 21 rfl rfl)
theorem dX2_removeWaiting_46 : decode cX2_removeWaiting 46 = .ok (.invokevirtual 119, 3) := dk_182 0 119 (dk_at dksX2_removeWaiting_2 0 rfl rfl)
theorem dX2_removeWaiting_49 : decode cX2_removeWaiting 49 = .ok (.pop, 1) := dk_87 (dk_at dksX2_removeWaiting_2 3 rfl rfl)
theorem dX2_removeWaiting_50 : decode cX2_removeWaiting 50 = .ok (.goto (-33), 3) := dk_167 255 223 (dk_at dksX2_removeWaiting_2 4 rfl rfl)
theorem dX2_removeWaiting_53 : decode cX2_removeWaiting 53 = .ok (.aload_n 0, 1) := dk_42 (dk_at dksX2_removeWaiting_2 7 rfl rfl)
theorem dX2_removeWaiting_54 : decode cX2_removeWaiting 54 = .ok (.aload_n 2, 1) := dk_44 (dk_at dksX2_removeWaiting_2 8 rfl rfl)
theorem dX2_removeWaiting_55 : decode cX2_removeWaiting 55 = .ok (.putfield 32, 3) := dk_181 0 32 (dk_at dksX2_removeWaiting_2 9 rfl rfl)
theorem dX2_removeWaiting_58 : decode cX2_removeWaiting 58 = .ok (.return_, 1) := dk_177 (dk_at dksX2_removeWaiting_2 12 rfl rfl)
abbrev cX2_accept : ByteArray := prog_10_method_22_code
def yX2_accept : MethodName := ⟨RX2, "accept", "()V"⟩
def dkwX2_accept_8 : List UInt8 := [180, 0, 23, 180, 1, 60, 3, 183, 1, 61, 182, 0, 124, 177]
abbrev dktX2_accept_8 : List UInt8 := dkwX2_accept_8 ++ []
def dkwX2_accept_7 : List UInt8 := [42, 180, 0, 23, 180, 1, 39, 42, 180, 0, 23, 180, 1, 42, 42, 180, 0, 23, 180, 1, 23, 42]
abbrev dktX2_accept_7 : List UInt8 := dkwX2_accept_7 ++ dktX2_accept_8
def dkwX2_accept_6 : List UInt8 := [160, 0, 16, 42, 89, 180, 0, 171, 4, 96, 181, 0, 171, 167, 0, 46, 42, 180, 0, 39, 187, 0, 117, 89]
abbrev dktX2_accept_6 : List UInt8 := dkwX2_accept_6 ++ dktX2_accept_7
def dkwX2_accept_5 : List UInt8 := [3, 43, 180, 1, 52, 43, 180, 1, 53, 182, 1, 56, 167, 0, 71, 42, 180, 0, 39, 182, 1, 59, 16, 6]
abbrev dktX2_accept_5 : List UInt8 := dkwX2_accept_5 ++ dktX2_accept_6
def dkwX2_accept_4 : List UInt8 := [76, 43, 198, 0, 37, 42, 180, 0, 32, 182, 1, 49, 7, 162, 0, 94, 42, 42, 180, 0, 23, 180, 1, 39]
abbrev dktX2_accept_4 : List UInt8 := dkwX2_accept_4 ++ dktX2_accept_5
def dkwX2_accept_3 : List UInt8 := [42, 180, 0, 51, 42, 180, 0, 23, 180, 1, 39, 184, 1, 45, 182, 0, 137, 192, 0, 141, 167, 0, 4, 1]
abbrev dktX2_accept_3 : List UInt8 := dkwX2_accept_3 ++ dktX2_accept_4
def dkwX2_accept_2 : List UInt8 := [42, 180, 0, 150, 130, 42, 180, 0, 147, 126, 153, 0, 4, 177, 42, 180, 0, 23, 180, 1, 42, 153, 0, 26]
abbrev dktX2_accept_2 : List UInt8 := dkwX2_accept_2 ++ dktX2_accept_3
def dkwX2_accept_1 : List UInt8 := [100, 167, 0, 13, 3, 42, 180, 0, 77, 4, 100, 184, 1, 36, 181, 0, 77, 42, 180, 0, 23, 180, 1, 39]
abbrev dktX2_accept_1 : List UInt8 := dkwX2_accept_1 ++ dktX2_accept_2
def dkwX2_accept_0 : List UInt8 := [42, 42, 180, 0, 77, 42, 180, 0, 63, 180, 0, 174, 161, 0, 16, 42, 180, 0, 63, 180, 0, 174, 16, 8]
abbrev dktX2_accept_0 : List UInt8 := dkwX2_accept_0 ++ dktX2_accept_1
theorem dksX2_accept_0 : cX2_accept.data.toList.drop 0 = dktX2_accept_0 := by decide +kernel
theorem dksX2_accept_1 : cX2_accept.data.toList.drop 24 = dktX2_accept_1 := dk_seg dksX2_accept_0 24 rfl rfl
theorem dksX2_accept_2 : cX2_accept.data.toList.drop 48 = dktX2_accept_2 := dk_seg dksX2_accept_1 24 rfl rfl
theorem dksX2_accept_3 : cX2_accept.data.toList.drop 72 = dktX2_accept_3 := dk_seg dksX2_accept_2 24 rfl rfl
theorem dksX2_accept_4 : cX2_accept.data.toList.drop 96 = dktX2_accept_4 := dk_seg dksX2_accept_3 24 rfl rfl
theorem dksX2_accept_5 : cX2_accept.data.toList.drop 120 = dktX2_accept_5 := dk_seg dksX2_accept_4 24 rfl rfl
theorem dksX2_accept_6 : cX2_accept.data.toList.drop 144 = dktX2_accept_6 := dk_seg dksX2_accept_5 24 rfl rfl
theorem dksX2_accept_7 : cX2_accept.data.toList.drop 168 = dktX2_accept_7 := dk_seg dksX2_accept_6 24 rfl rfl
theorem dksX2_accept_8 : cX2_accept.data.toList.drop 190 = dktX2_accept_8 := dk_seg dksX2_accept_7 22 rfl rfl
theorem dX2_accept_0 : decode cX2_accept 0 = .ok (.aload_n 0, 1) := dk_42 (dk_at dksX2_accept_0 0 rfl rfl)
theorem dX2_accept_1 : decode cX2_accept 1 = .ok (.aload_n 0, 1) := dk_42 (dk_at dksX2_accept_0 1 rfl rfl)
theorem dX2_accept_2 : decode cX2_accept 2 = .ok (.getfield 77, 3) := dk_180 0 77 (dk_at dksX2_accept_0 2 rfl rfl)
theorem dX2_accept_5 : decode cX2_accept 5 = .ok (.aload_n 0, 1) := dk_42 (dk_at dksX2_accept_0 5 rfl rfl)
theorem dX2_accept_6 : decode cX2_accept 6 = .ok (.getfield 63, 3) := dk_180 0 63 (dk_at dksX2_accept_0 6 rfl rfl)
theorem dX2_accept_9 : decode cX2_accept 9 = .ok (.getfield 174, 3) := dk_180 0 174 (dk_at dksX2_accept_0 9 rfl rfl)
theorem dX2_accept_12 : decode cX2_accept 12 = .ok (.if_icmp .lt 16, 3) := dk_161 0 16 (dk_at dksX2_accept_0 12 rfl rfl)
theorem dX2_accept_15 : decode cX2_accept 15 = .ok (.aload_n 0, 1) := dk_42 (dk_at dksX2_accept_0 15 rfl rfl)
theorem dX2_accept_16 : decode cX2_accept 16 = .ok (.getfield 63, 3) := dk_180 0 63 (dk_at dksX2_accept_0 16 rfl rfl)
theorem dX2_accept_19 : decode cX2_accept 19 = .ok (.getfield 174, 3) := dk_180 0 174 (dk_at dksX2_accept_0 19 rfl rfl)
theorem dX2_accept_22 : decode cX2_accept 22 = .ok (.bipush 8, 2) := dk_16 8 (dk_at dksX2_accept_0 22 rfl rfl)
theorem dX2_accept_24 : decode cX2_accept 24 = .ok (.isub, 1) := dk_100 (dk_at dksX2_accept_1 0 rfl rfl)
theorem dX2_accept_25 : decode cX2_accept 25 = .ok (.goto 13, 3) := dk_167 0 13 (dk_at dksX2_accept_1 1 rfl rfl)
theorem dX2_accept_28 : decode cX2_accept 28 = .ok (.iconst 0, 1) := dk_3 (dk_at dksX2_accept_1 4 rfl rfl)
theorem dX2_accept_29 : decode cX2_accept 29 = .ok (.aload_n 0, 1) := dk_42 (dk_at dksX2_accept_1 5 rfl rfl)
theorem dX2_accept_30 : decode cX2_accept 30 = .ok (.getfield 77, 3) := dk_180 0 77 (dk_at dksX2_accept_1 6 rfl rfl)
theorem dX2_accept_33 : decode cX2_accept 33 = .ok (.iconst 1, 1) := dk_4 (dk_at dksX2_accept_1 9 rfl rfl)
theorem dX2_accept_34 : decode cX2_accept 34 = .ok (.isub, 1) := dk_100 (dk_at dksX2_accept_1 10 rfl rfl)
theorem dX2_accept_35 : decode cX2_accept 35 = .ok (.invokestatic 292, 3) := dk_184 1 36 (dk_at dksX2_accept_1 11 rfl rfl)
theorem dX2_accept_38 : decode cX2_accept 38 = .ok (.putfield 77, 3) := dk_181 0 77 (dk_at dksX2_accept_1 14 rfl rfl)
theorem dX2_accept_41 : decode cX2_accept 41 = .ok (.aload_n 0, 1) := dk_42 (dk_at dksX2_accept_1 17 rfl rfl)
theorem dX2_accept_42 : decode cX2_accept 42 = .ok (.getfield 23, 3) := dk_180 0 23 (dk_at dksX2_accept_1 18 rfl rfl)
theorem dX2_accept_45 : decode cX2_accept 45 = .ok (.getfield 295, 3) := dk_180 1 39 (dk_at dksX2_accept_1 21 rfl rfl)
theorem dX2_accept_48 : decode cX2_accept 48 = .ok (.aload_n 0, 1) := dk_42 (dk_at dksX2_accept_2 0 rfl rfl)
theorem dX2_accept_49 : decode cX2_accept 49 = .ok (.getfield 150, 3) := dk_180 0 150 (dk_at dksX2_accept_2 1 rfl rfl)
theorem dX2_accept_52 : decode cX2_accept 52 = .ok (.ixor, 1) := dk_130 (dk_at dksX2_accept_2 4 rfl rfl)
theorem dX2_accept_53 : decode cX2_accept 53 = .ok (.aload_n 0, 1) := dk_42 (dk_at dksX2_accept_2 5 rfl rfl)
theorem dX2_accept_54 : decode cX2_accept 54 = .ok (.getfield 147, 3) := dk_180 0 147 (dk_at dksX2_accept_2 6 rfl rfl)
theorem dX2_accept_57 : decode cX2_accept 57 = .ok (.iand, 1) := dk_126 (dk_at dksX2_accept_2 9 rfl rfl)
theorem dX2_accept_58 : decode cX2_accept 58 = .ok (.ifCond .eq 4, 3) := dk_153 0 4 (dk_at dksX2_accept_2 10 rfl rfl)
theorem dX2_accept_61 : decode cX2_accept 61 = .ok (.return_, 1) := dk_177 (dk_at dksX2_accept_2 13 rfl rfl)
theorem dX2_accept_62 : decode cX2_accept 62 = .ok (.aload_n 0, 1) := dk_42 (dk_at dksX2_accept_2 14 rfl rfl)
theorem dX2_accept_63 : decode cX2_accept 63 = .ok (.getfield 23, 3) := dk_180 0 23 (dk_at dksX2_accept_2 15 rfl rfl)
theorem dX2_accept_66 : decode cX2_accept 66 = .ok (.getfield 298, 3) := dk_180 1 42 (dk_at dksX2_accept_2 18 rfl rfl)
theorem dX2_accept_69 : decode cX2_accept 69 = .ok (.ifCond .eq 26, 3) := dk_153 0 26 (dk_at dksX2_accept_2 21 rfl rfl)
theorem dX2_accept_72 : decode cX2_accept 72 = .ok (.aload_n 0, 1) := dk_42 (dk_at dksX2_accept_3 0 rfl rfl)
theorem dX2_accept_73 : decode cX2_accept 73 = .ok (.getfield 51, 3) := dk_180 0 51 (dk_at dksX2_accept_3 1 rfl rfl)
theorem dX2_accept_76 : decode cX2_accept 76 = .ok (.aload_n 0, 1) := dk_42 (dk_at dksX2_accept_3 4 rfl rfl)
theorem dX2_accept_77 : decode cX2_accept 77 = .ok (.getfield 23, 3) := dk_180 0 23 (dk_at dksX2_accept_3 5 rfl rfl)
theorem dX2_accept_80 : decode cX2_accept 80 = .ok (.getfield 295, 3) := dk_180 1 39 (dk_at dksX2_accept_3 8 rfl rfl)
theorem dX2_accept_83 : decode cX2_accept 83 = .ok (.invokestatic 301, 3) := dk_184 1 45 (dk_at dksX2_accept_3 11 rfl rfl)
theorem dX2_accept_86 : decode cX2_accept 86 = .ok (.invokevirtual 137, 3) := dk_182 0 137 (dk_at dksX2_accept_3 14 rfl rfl)
theorem dX2_accept_89 : decode cX2_accept 89 = .ok (.checkcast 141, 3) := dk_192 0 141 (dk_at dksX2_accept_3 17 rfl rfl)
theorem dX2_accept_92 : decode cX2_accept 92 = .ok (.goto 4, 3) := dk_167 0 4 (dk_at dksX2_accept_3 20 rfl rfl)
theorem dX2_accept_95 : decode cX2_accept 95 = .ok (.aconst_null, 1) := dk_1 (dk_at dksX2_accept_3 23 rfl rfl)
theorem dX2_accept_96 : decode cX2_accept 96 = .ok (.astore_n 1, 1) := dk_76 (dk_at dksX2_accept_4 0 rfl rfl)
theorem dX2_accept_97 : decode cX2_accept 97 = .ok (.aload_n 1, 1) := dk_43 (dk_at dksX2_accept_4 1 rfl rfl)
theorem dX2_accept_98 : decode cX2_accept 98 = .ok (.ifnull 37, 3) := dk_198 0 37 (dk_at dksX2_accept_4 2 rfl rfl)
theorem dX2_accept_101 : decode cX2_accept 101 = .ok (.aload_n 0, 1) := dk_42 (dk_at dksX2_accept_4 5 rfl rfl)
theorem dX2_accept_102 : decode cX2_accept 102 = .ok (.getfield 32, 3) := dk_180 0 32 (dk_at dksX2_accept_4 6 rfl rfl)
theorem dX2_accept_105 : decode cX2_accept 105 = .ok (.invokevirtual 305, 3) := dk_182 1 49 (dk_at dksX2_accept_4 9 rfl rfl)
theorem dX2_accept_108 : decode cX2_accept 108 = .ok (.iconst 4, 1) := dk_7 (dk_at dksX2_accept_4 12 rfl rfl)
theorem dX2_accept_109 : decode cX2_accept 109 = .ok (.if_icmp .ge 94, 3) := dk_162 0 94 (dk_at dksX2_accept_4 13 rfl rfl)
theorem dX2_accept_112 : decode cX2_accept 112 = .ok (.aload_n 0, 1) := dk_42 (dk_at dksX2_accept_4 16 rfl rfl)
theorem dX2_accept_113 : decode cX2_accept 113 = .ok (.aload_n 0, 1) := dk_42 (dk_at dksX2_accept_4 17 rfl rfl)
theorem dX2_accept_114 : decode cX2_accept 114 = .ok (.getfield 23, 3) := dk_180 0 23 (dk_at dksX2_accept_4 18 rfl rfl)
theorem dX2_accept_117 : decode cX2_accept 117 = .ok (.getfield 295, 3) := dk_180 1 39 (dk_at dksX2_accept_4 21 rfl rfl)
theorem dX2_accept_120 : decode cX2_accept 120 = .ok (.iconst 0, 1) := dk_3 (dk_at dksX2_accept_5 0 rfl rfl)
theorem dX2_accept_121 : decode cX2_accept 121 = .ok (.aload_n 1, 1) := dk_43 (dk_at dksX2_accept_5 1 rfl rfl)
theorem dX2_accept_122 : decode cX2_accept 122 = .ok (.getfield 308, 3) := dk_180 1 52 (dk_at dksX2_accept_5 2 rfl rfl)
theorem dX2_accept_125 : decode cX2_accept 125 = .ok (.aload_n 1, 1) := dk_43 (dk_at dksX2_accept_5 5 rfl rfl)
theorem dX2_accept_126 : decode cX2_accept 126 = .ok (.getfield 309, 3) := dk_180 1 53 (dk_at dksX2_accept_5 6 rfl rfl)
theorem dX2_accept_129 : decode cX2_accept 129 = .ok (.invokevirtual 312, 3) := dk_182 1 56 (dk_at dksX2_accept_5 9 rfl rfl)
theorem dX2_accept_132 : decode cX2_accept 132 = .ok (.goto 71, 3) := dk_167 0 71 (dk_at dksX2_accept_5 12 rfl rfl)
theorem dX2_accept_135 : decode cX2_accept 135 = .ok (.aload_n 0, 1) := dk_42 (dk_at dksX2_accept_5 15 rfl rfl)
theorem dX2_accept_136 : decode cX2_accept 136 = .ok (.getfield 39, 3) := dk_180 0 39 (dk_at dksX2_accept_5 16 rfl rfl)
theorem dX2_accept_139 : decode cX2_accept 139 = .ok (.invokevirtual 315, 3) := dk_182 1 59 (dk_at dksX2_accept_5 19 rfl rfl)
theorem dX2_accept_142 : decode cX2_accept 142 = .ok (.bipush 6, 2) := dk_16 6 (dk_at dksX2_accept_5 22 rfl rfl)
theorem dX2_accept_144 : decode cX2_accept 144 = .ok (.if_icmp .ne 16, 3) := dk_160 0 16 (dk_at dksX2_accept_6 0 rfl rfl)
theorem dX2_accept_147 : decode cX2_accept 147 = .ok (.aload_n 0, 1) := dk_42 (dk_at dksX2_accept_6 3 rfl rfl)
theorem dX2_accept_148 : decode cX2_accept 148 = .ok (.dup, 1) := dk_89 (dk_at dksX2_accept_6 4 rfl rfl)
theorem dX2_accept_149 : decode cX2_accept 149 = .ok (.getfield 171, 3) := dk_180 0 171 (dk_at dksX2_accept_6 5 rfl rfl)
theorem dX2_accept_152 : decode cX2_accept 152 = .ok (.iconst 1, 1) := dk_4 (dk_at dksX2_accept_6 8 rfl rfl)
theorem dX2_accept_153 : decode cX2_accept 153 = .ok (.iadd, 1) := dk_96 (dk_at dksX2_accept_6 9 rfl rfl)
theorem dX2_accept_154 : decode cX2_accept 154 = .ok (.putfield 171, 3) := dk_181 0 171 (dk_at dksX2_accept_6 10 rfl rfl)
theorem dX2_accept_157 : decode cX2_accept 157 = .ok (.goto 46, 3) := dk_167 0 46 (dk_at dksX2_accept_6 13 rfl rfl)
theorem dX2_accept_160 : decode cX2_accept 160 = .ok (.aload_n 0, 1) := dk_42 (dk_at dksX2_accept_6 16 rfl rfl)
theorem dX2_accept_161 : decode cX2_accept 161 = .ok (.getfield 39, 3) := dk_180 0 39 (dk_at dksX2_accept_6 17 rfl rfl)
theorem dX2_accept_164 : decode cX2_accept 164 = .ok (.new 117, 3) := dk_187 0 117 (dk_at dksX2_accept_6 20 rfl rfl)
theorem dX2_accept_167 : decode cX2_accept 167 = .ok (.dup, 1) := dk_89 (dk_at dksX2_accept_6 23 rfl rfl)
theorem dX2_accept_168 : decode cX2_accept 168 = .ok (.aload_n 0, 1) := dk_42 (dk_at dksX2_accept_7 0 rfl rfl)
theorem dX2_accept_169 : decode cX2_accept 169 = .ok (.getfield 23, 3) := dk_180 0 23 (dk_at dksX2_accept_7 1 rfl rfl)
theorem dX2_accept_172 : decode cX2_accept 172 = .ok (.getfield 295, 3) := dk_180 1 39 (dk_at dksX2_accept_7 4 rfl rfl)
theorem dX2_accept_175 : decode cX2_accept 175 = .ok (.aload_n 0, 1) := dk_42 (dk_at dksX2_accept_7 7 rfl rfl)
theorem dX2_accept_176 : decode cX2_accept 176 = .ok (.getfield 23, 3) := dk_180 0 23 (dk_at dksX2_accept_7 8 rfl rfl)
theorem dX2_accept_179 : decode cX2_accept 179 = .ok (.getfield 298, 3) := dk_180 1 42 (dk_at dksX2_accept_7 11 rfl rfl)
theorem dX2_accept_182 : decode cX2_accept 182 = .ok (.aload_n 0, 1) := dk_42 (dk_at dksX2_accept_7 14 rfl rfl)
theorem dX2_accept_183 : decode cX2_accept 183 = .ok (.getfield 23, 3) := dk_180 0 23 (dk_at dksX2_accept_7 15 rfl rfl)
theorem dX2_accept_186 : decode cX2_accept 186 = .ok (.getfield 279, 3) := dk_180 1 23 (dk_at dksX2_accept_7 18 rfl rfl)
theorem dX2_accept_189 : decode cX2_accept 189 = .ok (.aload_n 0, 1) := dk_42 (dk_at dksX2_accept_7 21 rfl rfl)
theorem dX2_accept_190 : decode cX2_accept 190 = .ok (.getfield 23, 3) := dk_180 0 23 (dk_at dksX2_accept_8 0 rfl rfl)
theorem dX2_accept_193 : decode cX2_accept 193 = .ok (.getfield 316, 3) := dk_180 1 60 (dk_at dksX2_accept_8 3 rfl rfl)
theorem dX2_accept_196 : decode cX2_accept 196 = .ok (.iconst 0, 1) := dk_3 (dk_at dksX2_accept_8 6 rfl rfl)
theorem dX2_accept_197 : decode cX2_accept 197 = .ok (.invokespecial 317, 3) := dk_183 1 61 (dk_at dksX2_accept_8 7 rfl rfl)
theorem dX2_accept_200 : decode cX2_accept 200 = .ok (.invokevirtual 124, 3) := dk_182 0 124 (dk_at dksX2_accept_8 10 rfl rfl)
theorem dX2_accept_203 : decode cX2_accept 203 = .ok (.return_, 1) := dk_177 (dk_at dksX2_accept_8 13 rfl rfl)
abbrev cX2_flagBit : ByteArray := prog_10_method_14_code
def yX2_flagBit : MethodName := ⟨RX2, "flagBit", "(Z)V"⟩
def dkwX2_flagBit_0 : List UInt8 := [42, 16, 6, 182, 0, 234, 153, 0, 15, 42, 178, 0, 238, 182, 0, 200, 42, 27, 181, 0, 89, 177]
abbrev dktX2_flagBit_0 : List UInt8 := dkwX2_flagBit_0 ++ []
theorem dksX2_flagBit_0 : cX2_flagBit.data.toList.drop 0 = dktX2_flagBit_0 := by decide +kernel
theorem dX2_flagBit_0 : decode cX2_flagBit 0 = .ok (.aload_n 0, 1) := dk_42 (dk_at dksX2_flagBit_0 0 rfl rfl)
theorem dX2_flagBit_1 : decode cX2_flagBit 1 = .ok (.bipush 6, 2) := dk_16 6 (dk_at dksX2_flagBit_0 1 rfl rfl)
theorem dX2_flagBit_3 : decode cX2_flagBit 3 = .ok (.invokevirtual 234, 3) := dk_182 0 234 (dk_at dksX2_flagBit_0 3 rfl rfl)
theorem dX2_flagBit_6 : decode cX2_flagBit 6 = .ok (.ifCond .eq 15, 3) := dk_153 0 15 (dk_at dksX2_flagBit_0 6 rfl rfl)
theorem dX2_flagBit_9 : decode cX2_flagBit 9 = .ok (.aload_n 0, 1) := dk_42 (dk_at dksX2_flagBit_0 9 rfl rfl)
theorem dX2_flagBit_10 : decode cX2_flagBit 10 = .ok (.getstatic 238, 3) := dk_178 0 238 (dk_at dksX2_flagBit_0 10 rfl rfl)
theorem dX2_flagBit_13 : decode cX2_flagBit 13 = .ok (.invokevirtual 200, 3) := dk_182 0 200 (dk_at dksX2_flagBit_0 13 rfl rfl)
theorem dX2_flagBit_16 : decode cX2_flagBit 16 = .ok (.aload_n 0, 1) := dk_42 (dk_at dksX2_flagBit_0 16 rfl rfl)
theorem dX2_flagBit_17 : decode cX2_flagBit 17 = .ok (.iload_n 1, 1) := dk_27 (dk_at dksX2_flagBit_0 17 rfl rfl)
theorem dX2_flagBit_18 : decode cX2_flagBit 18 = .ok (.putfield 89, 3) := dk_181 0 89 (dk_at dksX2_flagBit_0 18 rfl rfl)
theorem dX2_flagBit_21 : decode cX2_flagBit 21 = .ok (.return_, 1) := dk_177 (dk_at dksX2_flagBit_0 21 rfl rfl)
abbrev cX2_delimiter : ByteArray := prog_10_method_15_code
def yX2_delimiter : MethodName := ⟨RX2, "delimiter", "(I)V"⟩
def dkwX2_delimiter_3 : List UInt8 := [180, 0, 70, 154, 0, 9, 42, 16, 8, 182, 0, 219, 177]
abbrev dktX2_delimiter_3 : List UInt8 := dkwX2_delimiter_3 ++ []
def dkwX2_delimiter_2 : List UInt8 := [167, 0, 35, 42, 180, 0, 80, 158, 0, 11, 42, 7, 182, 0, 247, 167, 0, 20, 28, 153, 0, 16, 42]
abbrev dktX2_delimiter_2 : List UInt8 := dkwX2_delimiter_2 ++ dktX2_delimiter_3
def dkwX2_delimiter_1 : List UInt8 := [42, 178, 0, 241, 182, 0, 200, 167, 0, 51, 42, 180, 0, 80, 16, 7, 160, 0, 10, 42, 182, 0, 244]
abbrev dktX2_delimiter_1 : List UInt8 := dkwX2_delimiter_1 ++ dktX2_delimiter_2
def dkwX2_delimiter_0 : List UInt8 := [42, 180, 0, 89, 61, 42, 3, 181, 0, 89, 27, 4, 160, 0, 22, 42, 16, 8, 182, 0, 234, 153, 0, 61]
abbrev dktX2_delimiter_0 : List UInt8 := dkwX2_delimiter_0 ++ dktX2_delimiter_1
theorem dksX2_delimiter_0 : cX2_delimiter.data.toList.drop 0 = dktX2_delimiter_0 := by decide +kernel
theorem dksX2_delimiter_1 : cX2_delimiter.data.toList.drop 24 = dktX2_delimiter_1 := dk_seg dksX2_delimiter_0 24 rfl rfl
theorem dksX2_delimiter_2 : cX2_delimiter.data.toList.drop 47 = dktX2_delimiter_2 := dk_seg dksX2_delimiter_1 23 rfl rfl
theorem dksX2_delimiter_3 : cX2_delimiter.data.toList.drop 70 = dktX2_delimiter_3 := dk_seg dksX2_delimiter_2 23 rfl rfl
theorem dX2_delimiter_0 : decode cX2_delimiter 0 = .ok (.aload_n 0, 1) := dk_42 (dk_at dksX2_delimiter_0 0 rfl rfl)
theorem dX2_delimiter_1 : decode cX2_delimiter 1 = .ok (.getfield 89, 3) := dk_180 0 89 (dk_at dksX2_delimiter_0 1 rfl rfl)
theorem dX2_delimiter_4 : decode cX2_delimiter 4 = .ok (.istore_n 2, 1) := dk_61 (dk_at dksX2_delimiter_0 4 rfl rfl)
theorem dX2_delimiter_5 : decode cX2_delimiter 5 = .ok (.aload_n 0, 1) := dk_42 (dk_at dksX2_delimiter_0 5 rfl rfl)
theorem dX2_delimiter_6 : decode cX2_delimiter 6 = .ok (.iconst 0, 1) := dk_3 (dk_at dksX2_delimiter_0 6 rfl rfl)
theorem dX2_delimiter_7 : decode cX2_delimiter 7 = .ok (.putfield 89, 3) := dk_181 0 89 (dk_at dksX2_delimiter_0 7 rfl rfl)
theorem dX2_delimiter_10 : decode cX2_delimiter 10 = .ok (.iload_n 1, 1) := dk_27 (dk_at dksX2_delimiter_0 10 rfl rfl)
theorem dX2_delimiter_11 : decode cX2_delimiter 11 = .ok (.iconst 1, 1) := dk_4 (dk_at dksX2_delimiter_0 11 rfl rfl)
theorem dX2_delimiter_12 : decode cX2_delimiter 12 = .ok (.if_icmp .ne 22, 3) := dk_160 0 22 (dk_at dksX2_delimiter_0 12 rfl rfl)
theorem dX2_delimiter_15 : decode cX2_delimiter 15 = .ok (.aload_n 0, 1) := dk_42 (dk_at dksX2_delimiter_0 15 rfl rfl)
theorem dX2_delimiter_16 : decode cX2_delimiter 16 = .ok (.bipush 8, 2) := dk_16 8 (dk_at dksX2_delimiter_0 16 rfl rfl)
theorem dX2_delimiter_18 : decode cX2_delimiter 18 = .ok (.invokevirtual 234, 3) := dk_182 0 234 (dk_at dksX2_delimiter_0 18 rfl rfl)
theorem dX2_delimiter_21 : decode cX2_delimiter 21 = .ok (.ifCond .eq 61, 3) := dk_153 0 61 (dk_at dksX2_delimiter_0 21 rfl rfl)
theorem dX2_delimiter_24 : decode cX2_delimiter 24 = .ok (.aload_n 0, 1) := dk_42 (dk_at dksX2_delimiter_1 0 rfl rfl)
theorem dX2_delimiter_25 : decode cX2_delimiter 25 = .ok (.getstatic 241, 3) := dk_178 0 241 (dk_at dksX2_delimiter_1 1 rfl rfl)
theorem dX2_delimiter_28 : decode cX2_delimiter 28 = .ok (.invokevirtual 200, 3) := dk_182 0 200 (dk_at dksX2_delimiter_1 4 rfl rfl)
theorem dX2_delimiter_31 : decode cX2_delimiter 31 = .ok (.goto 51, 3) := dk_167 0 51 (dk_at dksX2_delimiter_1 7 rfl rfl)
theorem dX2_delimiter_34 : decode cX2_delimiter 34 = .ok (.aload_n 0, 1) := dk_42 (dk_at dksX2_delimiter_1 10 rfl rfl)
theorem dX2_delimiter_35 : decode cX2_delimiter 35 = .ok (.getfield 80, 3) := dk_180 0 80 (dk_at dksX2_delimiter_1 11 rfl rfl)
theorem dX2_delimiter_38 : decode cX2_delimiter 38 = .ok (.bipush 7, 2) := dk_16 7 (dk_at dksX2_delimiter_1 14 rfl rfl)
theorem dX2_delimiter_40 : decode cX2_delimiter 40 = .ok (.if_icmp .ne 10, 3) := dk_160 0 10 (dk_at dksX2_delimiter_1 16 rfl rfl)
theorem dX2_delimiter_43 : decode cX2_delimiter 43 = .ok (.aload_n 0, 1) := dk_42 (dk_at dksX2_delimiter_1 19 rfl rfl)
theorem dX2_delimiter_44 : decode cX2_delimiter 44 = .ok (.invokevirtual 244, 3) := dk_182 0 244 (dk_at dksX2_delimiter_1 20 rfl rfl)
theorem dX2_delimiter_47 : decode cX2_delimiter 47 = .ok (.goto 35, 3) := dk_167 0 35 (dk_at dksX2_delimiter_2 0 rfl rfl)
theorem dX2_delimiter_50 : decode cX2_delimiter 50 = .ok (.aload_n 0, 1) := dk_42 (dk_at dksX2_delimiter_2 3 rfl rfl)
theorem dX2_delimiter_51 : decode cX2_delimiter 51 = .ok (.getfield 80, 3) := dk_180 0 80 (dk_at dksX2_delimiter_2 4 rfl rfl)
theorem dX2_delimiter_54 : decode cX2_delimiter 54 = .ok (.ifCond .le 11, 3) := dk_158 0 11 (dk_at dksX2_delimiter_2 7 rfl rfl)
theorem dX2_delimiter_57 : decode cX2_delimiter 57 = .ok (.aload_n 0, 1) := dk_42 (dk_at dksX2_delimiter_2 10 rfl rfl)
theorem dX2_delimiter_58 : decode cX2_delimiter 58 = .ok (.iconst 4, 1) := dk_7 (dk_at dksX2_delimiter_2 11 rfl rfl)
theorem dX2_delimiter_59 : decode cX2_delimiter 59 = .ok (.invokevirtual 247, 3) := dk_182 0 247 (dk_at dksX2_delimiter_2 12 rfl rfl)
theorem dX2_delimiter_62 : decode cX2_delimiter 62 = .ok (.goto 20, 3) := dk_167 0 20 (dk_at dksX2_delimiter_2 15 rfl rfl)
theorem dX2_delimiter_65 : decode cX2_delimiter 65 = .ok (.iload_n 2, 1) := dk_28 (dk_at dksX2_delimiter_2 18 rfl rfl)
theorem dX2_delimiter_66 : decode cX2_delimiter 66 = .ok (.ifCond .eq 16, 3) := dk_153 0 16 (dk_at dksX2_delimiter_2 19 rfl rfl)
theorem dX2_delimiter_69 : decode cX2_delimiter 69 = .ok (.aload_n 0, 1) := dk_42 (dk_at dksX2_delimiter_2 22 rfl rfl)
theorem dX2_delimiter_70 : decode cX2_delimiter 70 = .ok (.getfield 70, 3) := dk_180 0 70 (dk_at dksX2_delimiter_3 0 rfl rfl)
theorem dX2_delimiter_73 : decode cX2_delimiter 73 = .ok (.ifCond .ne 9, 3) := dk_154 0 9 (dk_at dksX2_delimiter_3 3 rfl rfl)
theorem dX2_delimiter_76 : decode cX2_delimiter 76 = .ok (.aload_n 0, 1) := dk_42 (dk_at dksX2_delimiter_3 6 rfl rfl)
theorem dX2_delimiter_77 : decode cX2_delimiter 77 = .ok (.bipush 8, 2) := dk_16 8 (dk_at dksX2_delimiter_3 7 rfl rfl)
theorem dX2_delimiter_79 : decode cX2_delimiter 79 = .ok (.invokevirtual 219, 3) := dk_182 0 219 (dk_at dksX2_delimiter_3 9 rfl rfl)
theorem dX2_delimiter_82 : decode cX2_delimiter 82 = .ok (.return_, 1) := dk_177 (dk_at dksX2_delimiter_3 12 rfl rfl)
abbrev cX2_intermission : ByteArray := prog_10_method_16_code
def yX2_intermission : MethodName := ⟨RX2, "intermission", "(I)V"⟩
def dkwX2_intermission_2 : List UInt8 := [153, 0, 9, 178, 0, 254, 167, 0, 6, 178, 0, 9, 182, 0, 200, 177]
abbrev dktX2_intermission_2 : List UInt8 := dkwX2_intermission_2 ++ []
def dkwX2_intermission_1 : List UInt8 := [167, 0, 38, 42, 6, 182, 0, 234, 153, 0, 30, 42, 42, 180, 0, 70, 153, 0, 16, 42, 182, 0, 222]
abbrev dktX2_intermission_1 : List UInt8 := dkwX2_intermission_1 ++ dktX2_intermission_2
def dkwX2_intermission_0 : List UInt8 := [27, 154, 0, 26, 42, 180, 0, 80, 5, 162, 0, 10, 42, 182, 0, 244, 167, 0, 46, 42, 3, 182, 0, 250]
abbrev dktX2_intermission_0 : List UInt8 := dkwX2_intermission_0 ++ dktX2_intermission_1
theorem dksX2_intermission_0 : cX2_intermission.data.toList.drop 0 = dktX2_intermission_0 := by decide +kernel
theorem dksX2_intermission_1 : cX2_intermission.data.toList.drop 24 = dktX2_intermission_1 := dk_seg dksX2_intermission_0 24 rfl rfl
theorem dksX2_intermission_2 : cX2_intermission.data.toList.drop 47 = dktX2_intermission_2 := dk_seg dksX2_intermission_1 23 rfl rfl
theorem dX2_intermission_0 : decode cX2_intermission 0 = .ok (.iload_n 1, 1) := dk_27 (dk_at dksX2_intermission_0 0 rfl rfl)
theorem dX2_intermission_1 : decode cX2_intermission 1 = .ok (.ifCond .ne 26, 3) := dk_154 0 26 (dk_at dksX2_intermission_0 1 rfl rfl)
theorem dX2_intermission_4 : decode cX2_intermission 4 = .ok (.aload_n 0, 1) := dk_42 (dk_at dksX2_intermission_0 4 rfl rfl)
theorem dX2_intermission_5 : decode cX2_intermission 5 = .ok (.getfield 80, 3) := dk_180 0 80 (dk_at dksX2_intermission_0 5 rfl rfl)
theorem dX2_intermission_8 : decode cX2_intermission 8 = .ok (.iconst 2, 1) := dk_5 (dk_at dksX2_intermission_0 8 rfl rfl)
theorem dX2_intermission_9 : decode cX2_intermission 9 = .ok (.if_icmp .ge 10, 3) := dk_162 0 10 (dk_at dksX2_intermission_0 9 rfl rfl)
theorem dX2_intermission_12 : decode cX2_intermission 12 = .ok (.aload_n 0, 1) := dk_42 (dk_at dksX2_intermission_0 12 rfl rfl)
theorem dX2_intermission_13 : decode cX2_intermission 13 = .ok (.invokevirtual 244, 3) := dk_182 0 244 (dk_at dksX2_intermission_0 13 rfl rfl)
theorem dX2_intermission_16 : decode cX2_intermission 16 = .ok (.goto 46, 3) := dk_167 0 46 (dk_at dksX2_intermission_0 16 rfl rfl)
theorem dX2_intermission_19 : decode cX2_intermission 19 = .ok (.aload_n 0, 1) := dk_42 (dk_at dksX2_intermission_0 19 rfl rfl)
theorem dX2_intermission_20 : decode cX2_intermission 20 = .ok (.iconst 0, 1) := dk_3 (dk_at dksX2_intermission_0 20 rfl rfl)
theorem dX2_intermission_21 : decode cX2_intermission 21 = .ok (.invokevirtual 250, 3) := dk_182 0 250 (dk_at dksX2_intermission_0 21 rfl rfl)
theorem dX2_intermission_24 : decode cX2_intermission 24 = .ok (.goto 38, 3) := dk_167 0 38 (dk_at dksX2_intermission_1 0 rfl rfl)
theorem dX2_intermission_27 : decode cX2_intermission 27 = .ok (.aload_n 0, 1) := dk_42 (dk_at dksX2_intermission_1 3 rfl rfl)
theorem dX2_intermission_28 : decode cX2_intermission 28 = .ok (.iconst 3, 1) := dk_6 (dk_at dksX2_intermission_1 4 rfl rfl)
theorem dX2_intermission_29 : decode cX2_intermission 29 = .ok (.invokevirtual 234, 3) := dk_182 0 234 (dk_at dksX2_intermission_1 5 rfl rfl)
theorem dX2_intermission_32 : decode cX2_intermission 32 = .ok (.ifCond .eq 30, 3) := dk_153 0 30 (dk_at dksX2_intermission_1 8 rfl rfl)
theorem dX2_intermission_35 : decode cX2_intermission 35 = .ok (.aload_n 0, 1) := dk_42 (dk_at dksX2_intermission_1 11 rfl rfl)
theorem dX2_intermission_36 : decode cX2_intermission 36 = .ok (.aload_n 0, 1) := dk_42 (dk_at dksX2_intermission_1 12 rfl rfl)
theorem dX2_intermission_37 : decode cX2_intermission 37 = .ok (.getfield 70, 3) := dk_180 0 70 (dk_at dksX2_intermission_1 13 rfl rfl)
theorem dX2_intermission_40 : decode cX2_intermission 40 = .ok (.ifCond .eq 16, 3) := dk_153 0 16 (dk_at dksX2_intermission_1 16 rfl rfl)
theorem dX2_intermission_43 : decode cX2_intermission 43 = .ok (.aload_n 0, 1) := dk_42 (dk_at dksX2_intermission_1 19 rfl rfl)
theorem dX2_intermission_44 : decode cX2_intermission 44 = .ok (.invokevirtual 222, 3) := dk_182 0 222 (dk_at dksX2_intermission_1 20 rfl rfl)
theorem dX2_intermission_47 : decode cX2_intermission 47 = .ok (.ifCond .eq 9, 3) := dk_153 0 9 (dk_at dksX2_intermission_2 0 rfl rfl)
theorem dX2_intermission_50 : decode cX2_intermission 50 = .ok (.getstatic 254, 3) := dk_178 0 254 (dk_at dksX2_intermission_2 3 rfl rfl)
theorem dX2_intermission_53 : decode cX2_intermission 53 = .ok (.goto 6, 3) := dk_167 0 6 (dk_at dksX2_intermission_2 6 rfl rfl)
theorem dX2_intermission_56 : decode cX2_intermission 56 = .ok (.getstatic 9, 3) := dk_178 0 9 (dk_at dksX2_intermission_2 9 rfl rfl)
theorem dX2_intermission_59 : decode cX2_intermission 59 = .ok (.invokevirtual 200, 3) := dk_182 0 200 (dk_at dksX2_intermission_2 12 rfl rfl)
theorem dX2_intermission_62 : decode cX2_intermission 62 = .ok (.return_, 1) := dk_177 (dk_at dksX2_intermission_2 15 rfl rfl)
abbrev cX2_isOn : ByteArray := prog_10_method_4_code
def yX2_isOn : MethodName := ⟨RX2, "isOn", "()Z"⟩
def dkwX2_isOn_1 : List UInt8 := [3, 172]
abbrev dktX2_isOn_1 : List UInt8 := dkwX2_isOn_1 ++ []
def dkwX2_isOn_0 : List UInt8 := [42, 180, 0, 15, 178, 0, 179, 165, 0, 17, 42, 180, 0, 15, 178, 0, 182, 165, 0, 7, 4, 167, 0, 4]
abbrev dktX2_isOn_0 : List UInt8 := dkwX2_isOn_0 ++ dktX2_isOn_1
theorem dksX2_isOn_0 : cX2_isOn.data.toList.drop 0 = dktX2_isOn_0 := by decide +kernel
theorem dksX2_isOn_1 : cX2_isOn.data.toList.drop 24 = dktX2_isOn_1 := dk_seg dksX2_isOn_0 24 rfl rfl
theorem dX2_isOn_0 : decode cX2_isOn 0 = .ok (.aload_n 0, 1) := dk_42 (dk_at dksX2_isOn_0 0 rfl rfl)
theorem dX2_isOn_1 : decode cX2_isOn 1 = .ok (.getfield 15, 3) := dk_180 0 15 (dk_at dksX2_isOn_0 1 rfl rfl)
theorem dX2_isOn_4 : decode cX2_isOn 4 = .ok (.getstatic 179, 3) := dk_178 0 179 (dk_at dksX2_isOn_0 4 rfl rfl)
theorem dX2_isOn_7 : decode cX2_isOn 7 = .ok (.if_acmp .eq 17, 3) := dk_165 0 17 (dk_at dksX2_isOn_0 7 rfl rfl)
theorem dX2_isOn_10 : decode cX2_isOn 10 = .ok (.aload_n 0, 1) := dk_42 (dk_at dksX2_isOn_0 10 rfl rfl)
theorem dX2_isOn_11 : decode cX2_isOn 11 = .ok (.getfield 15, 3) := dk_180 0 15 (dk_at dksX2_isOn_0 11 rfl rfl)
theorem dX2_isOn_14 : decode cX2_isOn 14 = .ok (.getstatic 182, 3) := dk_178 0 182 (dk_at dksX2_isOn_0 14 rfl rfl)
theorem dX2_isOn_17 : decode cX2_isOn 17 = .ok (.if_acmp .eq 7, 3) := dk_165 0 7 (dk_at dksX2_isOn_0 17 rfl rfl)
theorem dX2_isOn_20 : decode cX2_isOn 20 = .ok (.iconst 1, 1) := dk_4 (dk_at dksX2_isOn_0 20 rfl rfl)
theorem dX2_isOn_21 : decode cX2_isOn 21 = .ok (.goto 4, 3) := dk_167 0 4 (dk_at dksX2_isOn_0 21 rfl rfl)
theorem dX2_isOn_24 : decode cX2_isOn 24 = .ok (.iconst 0, 1) := dk_3 (dk_at dksX2_isOn_1 0 rfl rfl)
theorem dX2_isOn_25 : decode cX2_isOn 25 = .ok (.ireturn, 1) := dk_172 (dk_at dksX2_isOn_1 1 rfl rfl)
abbrev cX2_isTransmitter : ByteArray := prog_10_method_5_code
def yX2_isTransmitter : MethodName := ⟨RX2, "isTransmitter", "()Z"⟩
def dkwX2_isTransmitter_1 : List UInt8 := [153, 0, 7, 4, 167, 0, 4, 3, 172]
abbrev dktX2_isTransmitter_1 : List UInt8 := dkwX2_isTransmitter_1 ++ []
def dkwX2_isTransmitter_0 : List UInt8 := [42, 180, 0, 70, 153, 0, 27, 42, 180, 0, 15, 182, 0, 185, 133, 20, 0, 189, 20, 0, 191, 184, 0, 193]
abbrev dktX2_isTransmitter_0 : List UInt8 := dkwX2_isTransmitter_0 ++ dktX2_isTransmitter_1
theorem dksX2_isTransmitter_0 : cX2_isTransmitter.data.toList.drop 0 = dktX2_isTransmitter_0 := by decide +kernel
theorem dksX2_isTransmitter_1 : cX2_isTransmitter.data.toList.drop 24 = dktX2_isTransmitter_1 := dk_seg dksX2_isTransmitter_0 24 rfl rfl
theorem dX2_isTransmitter_0 : decode cX2_isTransmitter 0 = .ok (.aload_n 0, 1) := dk_42 (dk_at dksX2_isTransmitter_0 0 rfl rfl)
theorem dX2_isTransmitter_1 : decode cX2_isTransmitter 1 = .ok (.getfield 70, 3) := dk_180 0 70 (dk_at dksX2_isTransmitter_0 1 rfl rfl)
theorem dX2_isTransmitter_4 : decode cX2_isTransmitter 4 = .ok (.ifCond .eq 27, 3) := dk_153 0 27 (dk_at dksX2_isTransmitter_0 4 rfl rfl)
theorem dX2_isTransmitter_7 : decode cX2_isTransmitter 7 = .ok (.aload_n 0, 1) := dk_42 (dk_at dksX2_isTransmitter_0 7 rfl rfl)
theorem dX2_isTransmitter_8 : decode cX2_isTransmitter 8 = .ok (.getfield 15, 3) := dk_180 0 15 (dk_at dksX2_isTransmitter_0 8 rfl rfl)
theorem dX2_isTransmitter_11 : decode cX2_isTransmitter 11 = .ok (.invokevirtual 185, 3) := dk_182 0 185 (dk_at dksX2_isTransmitter_0 11 rfl rfl)
theorem dX2_isTransmitter_14 : decode cX2_isTransmitter 14 = .ok (.i2l, 1) := dk_133 (dk_at dksX2_isTransmitter_0 14 rfl rfl)
theorem dX2_isTransmitter_15 : decode cX2_isTransmitter 15 = .ok (.ldc2_w 189, 3) := dk_20 0 189 (dk_at dksX2_isTransmitter_0 15 rfl rfl)
theorem dX2_isTransmitter_18 : decode cX2_isTransmitter 18 = .ok (.ldc2_w 191, 3) := dk_20 0 191 (dk_at dksX2_isTransmitter_0 18 rfl rfl)
theorem dX2_isTransmitter_21 : decode cX2_isTransmitter 21 = .ok (.invokestatic 193, 3) := dk_184 0 193 (dk_at dksX2_isTransmitter_0 21 rfl rfl)
theorem dX2_isTransmitter_24 : decode cX2_isTransmitter 24 = .ok (.ifCond .eq 7, 3) := dk_153 0 7 (dk_at dksX2_isTransmitter_1 0 rfl rfl)
theorem dX2_isTransmitter_27 : decode cX2_isTransmitter 27 = .ok (.iconst 1, 1) := dk_4 (dk_at dksX2_isTransmitter_1 3 rfl rfl)
theorem dX2_isTransmitter_28 : decode cX2_isTransmitter 28 = .ok (.goto 4, 3) := dk_167 0 4 (dk_at dksX2_isTransmitter_1 4 rfl rfl)
theorem dX2_isTransmitter_31 : decode cX2_isTransmitter 31 = .ok (.iconst 0, 1) := dk_3 (dk_at dksX2_isTransmitter_1 7 rfl rfl)
theorem dX2_isTransmitter_32 : decode cX2_isTransmitter 32 = .ok (.ireturn, 1) := dk_172 (dk_at dksX2_isTransmitter_1 8 rfl rfl)
abbrev cX2_waitingAt : ByteArray := prog_10_method_25_code
def yX2_waitingAt : MethodName := ⟨RX2, "waitingAt", "(I)LArbitratedBus$Frame;"⟩
def dkwX2_waitingAt_3 : List UInt8 := [182, 1, 68, 192, 0, 117, 176]
abbrev dktX2_waitingAt_3 : List UInt8 := dkwX2_waitingAt_3 ++ []
def dkwX2_waitingAt_2 : List UInt8 := [3, 62, 29, 27, 162, 0, 18, 44, 182, 1, 68, 192, 0, 117, 58, 4, 132, 3, 1, 167, 255, 239, 44]
abbrev dktX2_waitingAt_2 : List UInt8 := dkwX2_waitingAt_2 ++ dktX2_waitingAt_3
def dkwX2_waitingAt_1 : List UInt8 := [153, 0, 24, 45, 185, 0, 113, 1, 0, 192, 0, 117, 58, 4, 44, 25, 4, 182, 0, 119, 87, 167, 255, 229]
abbrev dktX2_waitingAt_1 : List UInt8 := dkwX2_waitingAt_1 ++ dktX2_waitingAt_2
def dkwX2_waitingAt_0 : List UInt8 := [187, 0, 27, 89, 7, 183, 0, 29, 77, 42, 180, 0, 32, 182, 0, 103, 78, 45, 185, 0, 107, 1, 0]
abbrev dktX2_waitingAt_0 : List UInt8 := dkwX2_waitingAt_0 ++ dktX2_waitingAt_1
theorem dksX2_waitingAt_0 : cX2_waitingAt.data.toList.drop 0 = dktX2_waitingAt_0 := by decide +kernel
theorem dksX2_waitingAt_1 : cX2_waitingAt.data.toList.drop 23 = dktX2_waitingAt_1 := dk_seg dksX2_waitingAt_0 23 rfl rfl
theorem dksX2_waitingAt_2 : cX2_waitingAt.data.toList.drop 47 = dktX2_waitingAt_2 := dk_seg dksX2_waitingAt_1 24 rfl rfl
theorem dksX2_waitingAt_3 : cX2_waitingAt.data.toList.drop 70 = dktX2_waitingAt_3 := dk_seg dksX2_waitingAt_2 23 rfl rfl
theorem dX2_waitingAt_0 : decode cX2_waitingAt 0 = .ok (.new 27, 3) := dk_187 0 27 (dk_at dksX2_waitingAt_0 0 rfl rfl)
theorem dX2_waitingAt_3 : decode cX2_waitingAt 3 = .ok (.dup, 1) := dk_89 (dk_at dksX2_waitingAt_0 3 rfl rfl)
theorem dX2_waitingAt_4 : decode cX2_waitingAt 4 = .ok (.iconst 4, 1) := dk_7 (dk_at dksX2_waitingAt_0 4 rfl rfl)
theorem dX2_waitingAt_5 : decode cX2_waitingAt 5 = .ok (.invokespecial 29, 3) := dk_183 0 29 (dk_at dksX2_waitingAt_0 5 rfl rfl)
theorem dX2_waitingAt_8 : decode cX2_waitingAt 8 = .ok (.astore_n 2, 1) := dk_77 (dk_at dksX2_waitingAt_0 8 rfl rfl)
theorem dX2_waitingAt_9 : decode cX2_waitingAt 9 = .ok (.aload_n 0, 1) := dk_42 (dk_at dksX2_waitingAt_0 9 rfl rfl)
theorem dX2_waitingAt_10 : decode cX2_waitingAt 10 = .ok (.getfield 32, 3) := dk_180 0 32 (dk_at dksX2_waitingAt_0 10 rfl rfl)
theorem dX2_waitingAt_13 : decode cX2_waitingAt 13 = .ok (.invokevirtual 103, 3) := dk_182 0 103 (dk_at dksX2_waitingAt_0 13 rfl rfl)
theorem dX2_waitingAt_16 : decode cX2_waitingAt 16 = .ok (.astore_n 3, 1) := dk_78 (dk_at dksX2_waitingAt_0 16 rfl rfl)
theorem dX2_waitingAt_17 : decode cX2_waitingAt 17 = .ok (.aload_n 3, 1) := dk_45 (dk_at dksX2_waitingAt_0 17 rfl rfl)
theorem dX2_waitingAt_18 : decode cX2_waitingAt 18 = .ok (.invokeinterface 107 1, 5) := by decide +kernel
theorem dX2_waitingAt_23 : decode cX2_waitingAt 23 = .ok (.ifCond .eq 24, 3) := dk_153 0 24 (dk_at dksX2_waitingAt_1 0 rfl rfl)
theorem dX2_waitingAt_26 : decode cX2_waitingAt 26 = .ok (.aload_n 3, 1) := dk_45 (dk_at dksX2_waitingAt_1 3 rfl rfl)
theorem dX2_waitingAt_27 : decode cX2_waitingAt 27 = .ok (.invokeinterface 113 1, 5) := by decide +kernel
theorem dX2_waitingAt_32 : decode cX2_waitingAt 32 = .ok (.checkcast 117, 3) := dk_192 0 117 (dk_at dksX2_waitingAt_1 9 rfl rfl)
theorem dX2_waitingAt_35 : decode cX2_waitingAt 35 = .ok (.astore 4, 2) := dk_58 4 (dk_at dksX2_waitingAt_1 12 rfl rfl)
theorem dX2_waitingAt_37 : decode cX2_waitingAt 37 = .ok (.aload_n 2, 1) := dk_44 (dk_at dksX2_waitingAt_1 14 rfl rfl)
theorem dX2_waitingAt_38 : decode cX2_waitingAt 38 = .ok (.aload 4, 2) := dk_25 4 (dk_at dksX2_waitingAt_1 15 rfl rfl)
theorem dX2_waitingAt_40 : decode cX2_waitingAt 40 = .ok (.invokevirtual 119, 3) := dk_182 0 119 (dk_at dksX2_waitingAt_1 17 rfl rfl)
theorem dX2_waitingAt_43 : decode cX2_waitingAt 43 = .ok (.pop, 1) := dk_87 (dk_at dksX2_waitingAt_1 20 rfl rfl)
theorem dX2_waitingAt_44 : decode cX2_waitingAt 44 = .ok (.goto (-27), 3) := dk_167 255 229 (dk_at dksX2_waitingAt_1 21 rfl rfl)
theorem dX2_waitingAt_47 : decode cX2_waitingAt 47 = .ok (.iconst 0, 1) := dk_3 (dk_at dksX2_waitingAt_2 0 rfl rfl)
theorem dX2_waitingAt_48 : decode cX2_waitingAt 48 = .ok (.istore_n 3, 1) := dk_62 (dk_at dksX2_waitingAt_2 1 rfl rfl)
theorem dX2_waitingAt_49 : decode cX2_waitingAt 49 = .ok (.iload_n 3, 1) := dk_29 (dk_at dksX2_waitingAt_2 2 rfl rfl)
theorem dX2_waitingAt_50 : decode cX2_waitingAt 50 = .ok (.iload_n 1, 1) := dk_27 (dk_at dksX2_waitingAt_2 3 rfl rfl)
theorem dX2_waitingAt_51 : decode cX2_waitingAt 51 = .ok (.if_icmp .ge 18, 3) := dk_162 0 18 (dk_at dksX2_waitingAt_2 4 rfl rfl)
theorem dX2_waitingAt_54 : decode cX2_waitingAt 54 = .ok (.aload_n 2, 1) := dk_44 (dk_at dksX2_waitingAt_2 7 rfl rfl)
theorem dX2_waitingAt_55 : decode cX2_waitingAt 55 = .ok (.invokevirtual 324, 3) := dk_182 1 68 (dk_at dksX2_waitingAt_2 8 rfl rfl)
theorem dX2_waitingAt_58 : decode cX2_waitingAt 58 = .ok (.checkcast 117, 3) := dk_192 0 117 (dk_at dksX2_waitingAt_2 11 rfl rfl)
theorem dX2_waitingAt_61 : decode cX2_waitingAt 61 = .ok (.astore 4, 2) := dk_58 4 (dk_at dksX2_waitingAt_2 14 rfl rfl)
theorem dX2_waitingAt_63 : decode cX2_waitingAt 63 = .ok (.iinc 3 1, 3) := dk_132 3 1 (dk_at dksX2_waitingAt_2 16 rfl rfl)
theorem dX2_waitingAt_66 : decode cX2_waitingAt 66 = .ok (.goto (-17), 3) := dk_167 255 239 (dk_at dksX2_waitingAt_2 19 rfl rfl)
theorem dX2_waitingAt_69 : decode cX2_waitingAt 69 = .ok (.aload_n 2, 1) := dk_44 (dk_at dksX2_waitingAt_2 22 rfl rfl)
theorem dX2_waitingAt_70 : decode cX2_waitingAt 70 = .ok (.invokevirtual 324, 3) := dk_182 1 68 (dk_at dksX2_waitingAt_3 0 rfl rfl)
theorem dX2_waitingAt_73 : decode cX2_waitingAt 73 = .ok (.checkcast 117, 3) := dk_192 0 117 (dk_at dksX2_waitingAt_3 3 rfl rfl)
theorem dX2_waitingAt_76 : decode cX2_waitingAt 76 = .ok (.areturn, 1) := dk_176 (dk_at dksX2_waitingAt_3 6 rfl rfl)
abbrev cX2_receivedAt : ByteArray := prog_10_method_26_code
def yX2_receivedAt : MethodName := ⟨RX2, "receivedAt", "(I)LArbitratedBus$Frame;"⟩
def dkwX2_receivedAt_2 : List UInt8 := [176]
abbrev dktX2_receivedAt_2 : List UInt8 := dkwX2_receivedAt_2 ++ []
def dkwX2_receivedAt_1 : List UInt8 := [185, 0, 113, 1, 0, 192, 0, 117, 58, 4, 28, 154, 0, 6, 25, 4, 176, 132, 2, 255, 167, 255, 226, 1]
abbrev dktX2_receivedAt_1 : List UInt8 := dkwX2_receivedAt_1 ++ dktX2_receivedAt_2
def dkwX2_receivedAt_0 : List UInt8 := [27, 61, 42, 180, 0, 39, 182, 0, 123, 78, 45, 185, 0, 107, 1, 0, 153, 0, 27, 45]
abbrev dktX2_receivedAt_0 : List UInt8 := dkwX2_receivedAt_0 ++ dktX2_receivedAt_1
theorem dksX2_receivedAt_0 : cX2_receivedAt.data.toList.drop 0 = dktX2_receivedAt_0 := by decide +kernel
theorem dksX2_receivedAt_1 : cX2_receivedAt.data.toList.drop 20 = dktX2_receivedAt_1 := dk_seg dksX2_receivedAt_0 20 rfl rfl
theorem dksX2_receivedAt_2 : cX2_receivedAt.data.toList.drop 44 = dktX2_receivedAt_2 := dk_seg dksX2_receivedAt_1 24 rfl rfl
theorem dX2_receivedAt_0 : decode cX2_receivedAt 0 = .ok (.iload_n 1, 1) := dk_27 (dk_at dksX2_receivedAt_0 0 rfl rfl)
theorem dX2_receivedAt_1 : decode cX2_receivedAt 1 = .ok (.istore_n 2, 1) := dk_61 (dk_at dksX2_receivedAt_0 1 rfl rfl)
theorem dX2_receivedAt_2 : decode cX2_receivedAt 2 = .ok (.aload_n 0, 1) := dk_42 (dk_at dksX2_receivedAt_0 2 rfl rfl)
theorem dX2_receivedAt_3 : decode cX2_receivedAt 3 = .ok (.getfield 39, 3) := dk_180 0 39 (dk_at dksX2_receivedAt_0 3 rfl rfl)
theorem dX2_receivedAt_6 : decode cX2_receivedAt 6 = .ok (.invokevirtual 123, 3) := dk_182 0 123 (dk_at dksX2_receivedAt_0 6 rfl rfl)
theorem dX2_receivedAt_9 : decode cX2_receivedAt 9 = .ok (.astore_n 3, 1) := dk_78 (dk_at dksX2_receivedAt_0 9 rfl rfl)
theorem dX2_receivedAt_10 : decode cX2_receivedAt 10 = .ok (.aload_n 3, 1) := dk_45 (dk_at dksX2_receivedAt_0 10 rfl rfl)
theorem dX2_receivedAt_11 : decode cX2_receivedAt 11 = .ok (.invokeinterface 107 1, 5) := by decide +kernel
theorem dX2_receivedAt_16 : decode cX2_receivedAt 16 = .ok (.ifCond .eq 27, 3) := dk_153 0 27 (dk_at dksX2_receivedAt_0 16 rfl rfl)
theorem dX2_receivedAt_19 : decode cX2_receivedAt 19 = .ok (.aload_n 3, 1) := dk_45 (dk_at dksX2_receivedAt_0 19 rfl rfl)
theorem dX2_receivedAt_20 : decode cX2_receivedAt 20 = .ok (.invokeinterface 113 1, 5) := by decide +kernel
theorem dX2_receivedAt_25 : decode cX2_receivedAt 25 = .ok (.checkcast 117, 3) := dk_192 0 117 (dk_at dksX2_receivedAt_1 5 rfl rfl)
theorem dX2_receivedAt_28 : decode cX2_receivedAt 28 = .ok (.astore 4, 2) := dk_58 4 (dk_at dksX2_receivedAt_1 8 rfl rfl)
theorem dX2_receivedAt_30 : decode cX2_receivedAt 30 = .ok (.iload_n 2, 1) := dk_28 (dk_at dksX2_receivedAt_1 10 rfl rfl)
theorem dX2_receivedAt_31 : decode cX2_receivedAt 31 = .ok (.ifCond .ne 6, 3) := dk_154 0 6 (dk_at dksX2_receivedAt_1 11 rfl rfl)
theorem dX2_receivedAt_34 : decode cX2_receivedAt 34 = .ok (.aload 4, 2) := dk_25 4 (dk_at dksX2_receivedAt_1 14 rfl rfl)
theorem dX2_receivedAt_36 : decode cX2_receivedAt 36 = .ok (.areturn, 1) := dk_176 (dk_at dksX2_receivedAt_1 16 rfl rfl)
theorem dX2_receivedAt_37 : decode cX2_receivedAt 37 = .ok (.iinc 2 (-1), 3) := dk_132 2 255 (dk_at dksX2_receivedAt_1 17 rfl rfl)
theorem dX2_receivedAt_40 : decode cX2_receivedAt 40 = .ok (.goto (-30), 3) := dk_167 255 226 (dk_at dksX2_receivedAt_1 20 rfl rfl)
theorem dX2_receivedAt_43 : decode cX2_receivedAt 43 = .ok (.aconst_null, 1) := dk_1 (dk_at dksX2_receivedAt_1 23 rfl rfl)
theorem dX2_receivedAt_44 : decode cX2_receivedAt 44 = .ok (.areturn, 1) := dk_176 (dk_at dksX2_receivedAt_2 0 rfl rfl)
abbrev cX2_init_2 : ByteArray := prog_10_method_2_code
def yX2_init_2 : MethodName := ⟨RX2, "<init>", "(LArbitratedBus$Bus;LArbitratedBus$Node;)V"⟩
def dkwX2_init_2_13 : List UInt8 := [181, 0, 168, 42, 44, 180, 0, 171, 181, 0, 171, 177]
abbrev dktX2_init_2_13 : List UInt8 := dkwX2_init_2_13 ++ []
def dkwX2_init_2_12 : List UInt8 := [181, 0, 59, 42, 44, 180, 0, 162, 181, 0, 162, 42, 44, 180, 0, 165, 181, 0, 165, 42, 44, 180, 0, 168]
abbrev dktX2_init_2_12 : List UInt8 := dkwX2_init_2_12 ++ dktX2_init_2_13
def dkwX2_init_2_11 : List UInt8 := [181, 0, 153, 44, 180, 0, 55, 3, 42, 180, 0, 55, 3, 16, 6, 184, 0, 156, 42, 44, 180, 0, 59]
abbrev dktX2_init_2_11 : List UInt8 := dkwX2_init_2_11 ++ dktX2_init_2_12
def dkwX2_init_2_10 : List UInt8 := [167, 255, 214, 42, 44, 180, 0, 147, 181, 0, 147, 42, 44, 180, 0, 150, 181, 0, 150, 42, 44, 180, 0, 153]
abbrev dktX2_init_2_10 : List UInt8 := dkwX2_init_2_10 ++ dktX2_init_2_11
def dkwX2_init_2_9 : List UInt8 := [58, 4, 42, 180, 0, 51, 25, 4, 44, 180, 0, 51, 25, 4, 182, 0, 137, 192, 0, 141, 182, 0, 143, 87]
abbrev dktX2_init_2_9 : List UInt8 := dkwX2_init_2_9 ++ dktX2_init_2_10
def dkwX2_init_2_8 : List UInt8 := [185, 0, 132, 1, 0, 78, 45, 185, 0, 107, 1, 0, 153, 0, 39, 45, 185, 0, 113, 1, 0, 192, 0, 135]
abbrev dktX2_init_2_8 : List UInt8 := dkwX2_init_2_8 ++ dktX2_init_2_9
def dkwX2_init_2_7 : List UInt8 := [192, 0, 117, 58, 4, 42, 180, 0, 39, 25, 4, 182, 0, 124, 167, 255, 227, 44, 180, 0, 51, 182, 0, 128]
abbrev dktX2_init_2_7 : List UInt8 := dkwX2_init_2_7 ++ dktX2_init_2_8
def dkwX2_init_2_6 : List UInt8 := [180, 0, 39, 182, 0, 123, 78, 45, 185, 0, 107, 1, 0, 153, 0, 26, 45, 185, 0, 113, 1, 0]
abbrev dktX2_init_2_6 : List UInt8 := dkwX2_init_2_6 ++ dktX2_init_2_7
def dkwX2_init_2_5 : List UInt8 := [185, 0, 113, 1, 0, 192, 0, 117, 58, 4, 42, 180, 0, 32, 25, 4, 182, 0, 119, 87, 167, 255, 226, 44]
abbrev dktX2_init_2_5 : List UInt8 := dkwX2_init_2_5 ++ dktX2_init_2_6
def dkwX2_init_2_4 : List UInt8 := [182, 0, 99, 44, 180, 0, 32, 182, 0, 103, 78, 45, 185, 0, 107, 1, 0, 153, 0, 27, 45]
abbrev dktX2_init_2_4 : List UInt8 := dkwX2_init_2_4 ++ dktX2_init_2_5
def dkwX2_init_2_3 : List UInt8 := [180, 0, 92, 181, 0, 92, 42, 44, 180, 0, 95, 181, 0, 95, 42, 180, 0, 23, 44, 180, 0, 23]
abbrev dktX2_init_2_3 : List UInt8 := dkwX2_init_2_3 ++ dktX2_init_2_4
def dkwX2_init_2_2 : List UInt8 := [180, 0, 83, 181, 0, 83, 42, 44, 180, 0, 86, 181, 0, 86, 42, 44, 180, 0, 89, 181, 0, 89, 42, 44]
abbrev dktX2_init_2_2 : List UInt8 := dkwX2_init_2_2 ++ dktX2_init_2_3
def dkwX2_init_2_1 : List UInt8 := [180, 0, 74, 181, 0, 74, 42, 44, 180, 0, 77, 181, 0, 77, 42, 44, 180, 0, 80, 181, 0, 80, 42, 44]
abbrev dktX2_init_2_1 : List UInt8 := dkwX2_init_2_1 ++ dktX2_init_2_2
def dkwX2_init_2_0 : List UInt8 := [42, 43, 183, 0, 67, 42, 44, 180, 0, 15, 181, 0, 15, 42, 44, 180, 0, 70, 181, 0, 70, 42, 44]
abbrev dktX2_init_2_0 : List UInt8 := dkwX2_init_2_0 ++ dktX2_init_2_1
theorem dksX2_init_2_0 : cX2_init_2.data.toList.drop 0 = dktX2_init_2_0 := by decide +kernel
theorem dksX2_init_2_1 : cX2_init_2.data.toList.drop 23 = dktX2_init_2_1 := dk_seg dksX2_init_2_0 23 rfl rfl
theorem dksX2_init_2_2 : cX2_init_2.data.toList.drop 47 = dktX2_init_2_2 := dk_seg dksX2_init_2_1 24 rfl rfl
theorem dksX2_init_2_3 : cX2_init_2.data.toList.drop 71 = dktX2_init_2_3 := dk_seg dksX2_init_2_2 24 rfl rfl
theorem dksX2_init_2_4 : cX2_init_2.data.toList.drop 93 = dktX2_init_2_4 := dk_seg dksX2_init_2_3 22 rfl rfl
theorem dksX2_init_2_5 : cX2_init_2.data.toList.drop 114 = dktX2_init_2_5 := dk_seg dksX2_init_2_4 21 rfl rfl
theorem dksX2_init_2_6 : cX2_init_2.data.toList.drop 138 = dktX2_init_2_6 := dk_seg dksX2_init_2_5 24 rfl rfl
theorem dksX2_init_2_7 : cX2_init_2.data.toList.drop 160 = dktX2_init_2_7 := dk_seg dksX2_init_2_6 22 rfl rfl
theorem dksX2_init_2_8 : cX2_init_2.data.toList.drop 184 = dktX2_init_2_8 := dk_seg dksX2_init_2_7 24 rfl rfl
theorem dksX2_init_2_9 : cX2_init_2.data.toList.drop 208 = dktX2_init_2_9 := dk_seg dksX2_init_2_8 24 rfl rfl
theorem dksX2_init_2_10 : cX2_init_2.data.toList.drop 232 = dktX2_init_2_10 := dk_seg dksX2_init_2_9 24 rfl rfl
theorem dksX2_init_2_11 : cX2_init_2.data.toList.drop 256 = dktX2_init_2_11 := dk_seg dksX2_init_2_10 24 rfl rfl
theorem dksX2_init_2_12 : cX2_init_2.data.toList.drop 279 = dktX2_init_2_12 := dk_seg dksX2_init_2_11 23 rfl rfl
theorem dksX2_init_2_13 : cX2_init_2.data.toList.drop 303 = dktX2_init_2_13 := dk_seg dksX2_init_2_12 24 rfl rfl
theorem dX2_init_2_0 : decode cX2_init_2 0 = .ok (.aload_n 0, 1) := dk_42 (dk_at dksX2_init_2_0 0 rfl rfl)
theorem dX2_init_2_1 : decode cX2_init_2 1 = .ok (.aload_n 1, 1) := dk_43 (dk_at dksX2_init_2_0 1 rfl rfl)
theorem dX2_init_2_2 : decode cX2_init_2 2 = .ok (.invokespecial 67, 3) := dk_183 0 67 (dk_at dksX2_init_2_0 2 rfl rfl)
theorem dX2_init_2_5 : decode cX2_init_2 5 = .ok (.aload_n 0, 1) := dk_42 (dk_at dksX2_init_2_0 5 rfl rfl)
theorem dX2_init_2_6 : decode cX2_init_2 6 = .ok (.aload_n 2, 1) := dk_44 (dk_at dksX2_init_2_0 6 rfl rfl)
theorem dX2_init_2_7 : decode cX2_init_2 7 = .ok (.getfield 15, 3) := dk_180 0 15 (dk_at dksX2_init_2_0 7 rfl rfl)
theorem dX2_init_2_10 : decode cX2_init_2 10 = .ok (.putfield 15, 3) := dk_181 0 15 (dk_at dksX2_init_2_0 10 rfl rfl)
theorem dX2_init_2_13 : decode cX2_init_2 13 = .ok (.aload_n 0, 1) := dk_42 (dk_at dksX2_init_2_0 13 rfl rfl)
theorem dX2_init_2_14 : decode cX2_init_2 14 = .ok (.aload_n 2, 1) := dk_44 (dk_at dksX2_init_2_0 14 rfl rfl)
theorem dX2_init_2_15 : decode cX2_init_2 15 = .ok (.getfield 70, 3) := dk_180 0 70 (dk_at dksX2_init_2_0 15 rfl rfl)
theorem dX2_init_2_18 : decode cX2_init_2 18 = .ok (.putfield 70, 3) := dk_181 0 70 (dk_at dksX2_init_2_0 18 rfl rfl)
theorem dX2_init_2_21 : decode cX2_init_2 21 = .ok (.aload_n 0, 1) := dk_42 (dk_at dksX2_init_2_0 21 rfl rfl)
theorem dX2_init_2_22 : decode cX2_init_2 22 = .ok (.aload_n 2, 1) := dk_44 (dk_at dksX2_init_2_0 22 rfl rfl)
theorem dX2_init_2_23 : decode cX2_init_2 23 = .ok (.getfield 74, 3) := dk_180 0 74 (dk_at dksX2_init_2_1 0 rfl rfl)
theorem dX2_init_2_26 : decode cX2_init_2 26 = .ok (.putfield 74, 3) := dk_181 0 74 (dk_at dksX2_init_2_1 3 rfl rfl)
theorem dX2_init_2_29 : decode cX2_init_2 29 = .ok (.aload_n 0, 1) := dk_42 (dk_at dksX2_init_2_1 6 rfl rfl)
theorem dX2_init_2_30 : decode cX2_init_2 30 = .ok (.aload_n 2, 1) := dk_44 (dk_at dksX2_init_2_1 7 rfl rfl)
theorem dX2_init_2_31 : decode cX2_init_2 31 = .ok (.getfield 77, 3) := dk_180 0 77 (dk_at dksX2_init_2_1 8 rfl rfl)
theorem dX2_init_2_34 : decode cX2_init_2 34 = .ok (.putfield 77, 3) := dk_181 0 77 (dk_at dksX2_init_2_1 11 rfl rfl)
theorem dX2_init_2_37 : decode cX2_init_2 37 = .ok (.aload_n 0, 1) := dk_42 (dk_at dksX2_init_2_1 14 rfl rfl)
theorem dX2_init_2_38 : decode cX2_init_2 38 = .ok (.aload_n 2, 1) := dk_44 (dk_at dksX2_init_2_1 15 rfl rfl)
theorem dX2_init_2_39 : decode cX2_init_2 39 = .ok (.getfield 80, 3) := dk_180 0 80 (dk_at dksX2_init_2_1 16 rfl rfl)
theorem dX2_init_2_42 : decode cX2_init_2 42 = .ok (.putfield 80, 3) := dk_181 0 80 (dk_at dksX2_init_2_1 19 rfl rfl)
theorem dX2_init_2_45 : decode cX2_init_2 45 = .ok (.aload_n 0, 1) := dk_42 (dk_at dksX2_init_2_1 22 rfl rfl)
theorem dX2_init_2_46 : decode cX2_init_2 46 = .ok (.aload_n 2, 1) := dk_44 (dk_at dksX2_init_2_1 23 rfl rfl)
theorem dX2_init_2_47 : decode cX2_init_2 47 = .ok (.getfield 83, 3) := dk_180 0 83 (dk_at dksX2_init_2_2 0 rfl rfl)
theorem dX2_init_2_50 : decode cX2_init_2 50 = .ok (.putfield 83, 3) := dk_181 0 83 (dk_at dksX2_init_2_2 3 rfl rfl)
theorem dX2_init_2_53 : decode cX2_init_2 53 = .ok (.aload_n 0, 1) := dk_42 (dk_at dksX2_init_2_2 6 rfl rfl)
theorem dX2_init_2_54 : decode cX2_init_2 54 = .ok (.aload_n 2, 1) := dk_44 (dk_at dksX2_init_2_2 7 rfl rfl)
theorem dX2_init_2_55 : decode cX2_init_2 55 = .ok (.getfield 86, 3) := dk_180 0 86 (dk_at dksX2_init_2_2 8 rfl rfl)
theorem dX2_init_2_58 : decode cX2_init_2 58 = .ok (.putfield 86, 3) := dk_181 0 86 (dk_at dksX2_init_2_2 11 rfl rfl)
theorem dX2_init_2_61 : decode cX2_init_2 61 = .ok (.aload_n 0, 1) := dk_42 (dk_at dksX2_init_2_2 14 rfl rfl)
theorem dX2_init_2_62 : decode cX2_init_2 62 = .ok (.aload_n 2, 1) := dk_44 (dk_at dksX2_init_2_2 15 rfl rfl)
theorem dX2_init_2_63 : decode cX2_init_2 63 = .ok (.getfield 89, 3) := dk_180 0 89 (dk_at dksX2_init_2_2 16 rfl rfl)
theorem dX2_init_2_66 : decode cX2_init_2 66 = .ok (.putfield 89, 3) := dk_181 0 89 (dk_at dksX2_init_2_2 19 rfl rfl)
theorem dX2_init_2_69 : decode cX2_init_2 69 = .ok (.aload_n 0, 1) := dk_42 (dk_at dksX2_init_2_2 22 rfl rfl)
theorem dX2_init_2_70 : decode cX2_init_2 70 = .ok (.aload_n 2, 1) := dk_44 (dk_at dksX2_init_2_2 23 rfl rfl)
theorem dX2_init_2_71 : decode cX2_init_2 71 = .ok (.getfield 92, 3) := dk_180 0 92 (dk_at dksX2_init_2_3 0 rfl rfl)
theorem dX2_init_2_74 : decode cX2_init_2 74 = .ok (.putfield 92, 3) := dk_181 0 92 (dk_at dksX2_init_2_3 3 rfl rfl)
theorem dX2_init_2_77 : decode cX2_init_2 77 = .ok (.aload_n 0, 1) := dk_42 (dk_at dksX2_init_2_3 6 rfl rfl)
theorem dX2_init_2_78 : decode cX2_init_2 78 = .ok (.aload_n 2, 1) := dk_44 (dk_at dksX2_init_2_3 7 rfl rfl)
theorem dX2_init_2_79 : decode cX2_init_2 79 = .ok (.getfield 95, 3) := dk_180 0 95 (dk_at dksX2_init_2_3 8 rfl rfl)
theorem dX2_init_2_82 : decode cX2_init_2 82 = .ok (.putfield 95, 3) := dk_181 0 95 (dk_at dksX2_init_2_3 11 rfl rfl)
theorem dX2_init_2_85 : decode cX2_init_2 85 = .ok (.aload_n 0, 1) := dk_42 (dk_at dksX2_init_2_3 14 rfl rfl)
theorem dX2_init_2_86 : decode cX2_init_2 86 = .ok (.getfield 23, 3) := dk_180 0 23 (dk_at dksX2_init_2_3 15 rfl rfl)
theorem dX2_init_2_89 : decode cX2_init_2 89 = .ok (.aload_n 2, 1) := dk_44 (dk_at dksX2_init_2_3 18 rfl rfl)
theorem dX2_init_2_90 : decode cX2_init_2 90 = .ok (.getfield 23, 3) := dk_180 0 23 (dk_at dksX2_init_2_3 19 rfl rfl)
theorem dX2_init_2_93 : decode cX2_init_2 93 = .ok (.invokevirtual 99, 3) := dk_182 0 99 (dk_at dksX2_init_2_4 0 rfl rfl)
theorem dX2_init_2_96 : decode cX2_init_2 96 = .ok (.aload_n 2, 1) := dk_44 (dk_at dksX2_init_2_4 3 rfl rfl)
theorem dX2_init_2_97 : decode cX2_init_2 97 = .ok (.getfield 32, 3) := dk_180 0 32 (dk_at dksX2_init_2_4 4 rfl rfl)
theorem dX2_init_2_100 : decode cX2_init_2 100 = .ok (.invokevirtual 103, 3) := dk_182 0 103 (dk_at dksX2_init_2_4 7 rfl rfl)
theorem dX2_init_2_103 : decode cX2_init_2 103 = .ok (.astore_n 3, 1) := dk_78 (dk_at dksX2_init_2_4 10 rfl rfl)
theorem dX2_init_2_104 : decode cX2_init_2 104 = .ok (.aload_n 3, 1) := dk_45 (dk_at dksX2_init_2_4 11 rfl rfl)
theorem dX2_init_2_105 : decode cX2_init_2 105 = .ok (.invokeinterface 107 1, 5) := by decide +kernel
theorem dX2_init_2_110 : decode cX2_init_2 110 = .ok (.ifCond .eq 27, 3) := dk_153 0 27 (dk_at dksX2_init_2_4 17 rfl rfl)
theorem dX2_init_2_113 : decode cX2_init_2 113 = .ok (.aload_n 3, 1) := dk_45 (dk_at dksX2_init_2_4 20 rfl rfl)
theorem dX2_init_2_114 : decode cX2_init_2 114 = .ok (.invokeinterface 113 1, 5) := by decide +kernel
theorem dX2_init_2_119 : decode cX2_init_2 119 = .ok (.checkcast 117, 3) := dk_192 0 117 (dk_at dksX2_init_2_5 5 rfl rfl)
theorem dX2_init_2_122 : decode cX2_init_2 122 = .ok (.astore 4, 2) := dk_58 4 (dk_at dksX2_init_2_5 8 rfl rfl)
theorem dX2_init_2_124 : decode cX2_init_2 124 = .ok (.aload_n 0, 1) := dk_42 (dk_at dksX2_init_2_5 10 rfl rfl)
theorem dX2_init_2_125 : decode cX2_init_2 125 = .ok (.getfield 32, 3) := dk_180 0 32 (dk_at dksX2_init_2_5 11 rfl rfl)
theorem dX2_init_2_128 : decode cX2_init_2 128 = .ok (.aload 4, 2) := dk_25 4 (dk_at dksX2_init_2_5 14 rfl rfl)
theorem dX2_init_2_130 : decode cX2_init_2 130 = .ok (.invokevirtual 119, 3) := dk_182 0 119 (dk_at dksX2_init_2_5 16 rfl rfl)
theorem dX2_init_2_133 : decode cX2_init_2 133 = .ok (.pop, 1) := dk_87 (dk_at dksX2_init_2_5 19 rfl rfl)
theorem dX2_init_2_134 : decode cX2_init_2 134 = .ok (.goto (-30), 3) := dk_167 255 226 (dk_at dksX2_init_2_5 20 rfl rfl)
theorem dX2_init_2_137 : decode cX2_init_2 137 = .ok (.aload_n 2, 1) := dk_44 (dk_at dksX2_init_2_5 23 rfl rfl)
theorem dX2_init_2_138 : decode cX2_init_2 138 = .ok (.getfield 39, 3) := dk_180 0 39 (dk_at dksX2_init_2_6 0 rfl rfl)
theorem dX2_init_2_141 : decode cX2_init_2 141 = .ok (.invokevirtual 123, 3) := dk_182 0 123 (dk_at dksX2_init_2_6 3 rfl rfl)
theorem dX2_init_2_144 : decode cX2_init_2 144 = .ok (.astore_n 3, 1) := dk_78 (dk_at dksX2_init_2_6 6 rfl rfl)
theorem dX2_init_2_145 : decode cX2_init_2 145 = .ok (.aload_n 3, 1) := dk_45 (dk_at dksX2_init_2_6 7 rfl rfl)
theorem dX2_init_2_146 : decode cX2_init_2 146 = .ok (.invokeinterface 107 1, 5) := by decide +kernel
theorem dX2_init_2_151 : decode cX2_init_2 151 = .ok (.ifCond .eq 26, 3) := dk_153 0 26 (dk_at dksX2_init_2_6 13 rfl rfl)
theorem dX2_init_2_154 : decode cX2_init_2 154 = .ok (.aload_n 3, 1) := dk_45 (dk_at dksX2_init_2_6 16 rfl rfl)
theorem dX2_init_2_155 : decode cX2_init_2 155 = .ok (.invokeinterface 113 1, 5) := by decide +kernel
theorem dX2_init_2_160 : decode cX2_init_2 160 = .ok (.checkcast 117, 3) := dk_192 0 117 (dk_at dksX2_init_2_7 0 rfl rfl)
theorem dX2_init_2_163 : decode cX2_init_2 163 = .ok (.astore 4, 2) := dk_58 4 (dk_at dksX2_init_2_7 3 rfl rfl)
theorem dX2_init_2_165 : decode cX2_init_2 165 = .ok (.aload_n 0, 1) := dk_42 (dk_at dksX2_init_2_7 5 rfl rfl)
theorem dX2_init_2_166 : decode cX2_init_2 166 = .ok (.getfield 39, 3) := dk_180 0 39 (dk_at dksX2_init_2_7 6 rfl rfl)
theorem dX2_init_2_169 : decode cX2_init_2 169 = .ok (.aload 4, 2) := dk_25 4 (dk_at dksX2_init_2_7 9 rfl rfl)
theorem dX2_init_2_171 : decode cX2_init_2 171 = .ok (.invokevirtual 124, 3) := dk_182 0 124 (dk_at dksX2_init_2_7 11 rfl rfl)
theorem dX2_init_2_174 : decode cX2_init_2 174 = .ok (.goto (-29), 3) := dk_167 255 227 (dk_at dksX2_init_2_7 14 rfl rfl)
theorem dX2_init_2_177 : decode cX2_init_2 177 = .ok (.aload_n 2, 1) := dk_44 (dk_at dksX2_init_2_7 17 rfl rfl)
theorem dX2_init_2_178 : decode cX2_init_2 178 = .ok (.getfield 51, 3) := dk_180 0 51 (dk_at dksX2_init_2_7 18 rfl rfl)
theorem dX2_init_2_181 : decode cX2_init_2 181 = .ok (.invokevirtual 128, 3) := dk_182 0 128 (dk_at dksX2_init_2_7 21 rfl rfl)
theorem dX2_init_2_184 : decode cX2_init_2 184 = .ok (.invokeinterface 132 1, 5) := by decide +kernel
theorem dX2_init_2_189 : decode cX2_init_2 189 = .ok (.astore_n 3, 1) := dk_78 (dk_at dksX2_init_2_8 5 rfl rfl)
theorem dX2_init_2_190 : decode cX2_init_2 190 = .ok (.aload_n 3, 1) := dk_45 (dk_at dksX2_init_2_8 6 rfl rfl)
theorem dX2_init_2_191 : decode cX2_init_2 191 = .ok (.invokeinterface 107 1, 5) := by decide +kernel
theorem dX2_init_2_196 : decode cX2_init_2 196 = .ok (.ifCond .eq 39, 3) := dk_153 0 39 (dk_at dksX2_init_2_8 12 rfl rfl)
theorem dX2_init_2_199 : decode cX2_init_2 199 = .ok (.aload_n 3, 1) := dk_45 (dk_at dksX2_init_2_8 15 rfl rfl)
theorem dX2_init_2_200 : decode cX2_init_2 200 = .ok (.invokeinterface 113 1, 5) := by decide +kernel
theorem dX2_init_2_205 : decode cX2_init_2 205 = .ok (.checkcast 135, 3) := dk_192 0 135 (dk_at dksX2_init_2_8 21 rfl rfl)
theorem dX2_init_2_208 : decode cX2_init_2 208 = .ok (.astore 4, 2) := dk_58 4 (dk_at dksX2_init_2_9 0 rfl rfl)
theorem dX2_init_2_210 : decode cX2_init_2 210 = .ok (.aload_n 0, 1) := dk_42 (dk_at dksX2_init_2_9 2 rfl rfl)
theorem dX2_init_2_211 : decode cX2_init_2 211 = .ok (.getfield 51, 3) := dk_180 0 51 (dk_at dksX2_init_2_9 3 rfl rfl)
theorem dX2_init_2_214 : decode cX2_init_2 214 = .ok (.aload 4, 2) := dk_25 4 (dk_at dksX2_init_2_9 6 rfl rfl)
theorem dX2_init_2_216 : decode cX2_init_2 216 = .ok (.aload_n 2, 1) := dk_44 (dk_at dksX2_init_2_9 8 rfl rfl)
theorem dX2_init_2_217 : decode cX2_init_2 217 = .ok (.getfield 51, 3) := dk_180 0 51 (dk_at dksX2_init_2_9 9 rfl rfl)
theorem dX2_init_2_220 : decode cX2_init_2 220 = .ok (.aload 4, 2) := dk_25 4 (dk_at dksX2_init_2_9 12 rfl rfl)
theorem dX2_init_2_222 : decode cX2_init_2 222 = .ok (.invokevirtual 137, 3) := dk_182 0 137 (dk_at dksX2_init_2_9 14 rfl rfl)
theorem dX2_init_2_225 : decode cX2_init_2 225 = .ok (.checkcast 141, 3) := dk_192 0 141 (dk_at dksX2_init_2_9 17 rfl rfl)
theorem dX2_init_2_228 : decode cX2_init_2 228 = .ok (.invokevirtual 143, 3) := dk_182 0 143 (dk_at dksX2_init_2_9 20 rfl rfl)
theorem dX2_init_2_231 : decode cX2_init_2 231 = .ok (.pop, 1) := dk_87 (dk_at dksX2_init_2_9 23 rfl rfl)
theorem dX2_init_2_232 : decode cX2_init_2 232 = .ok (.goto (-42), 3) := dk_167 255 214 (dk_at dksX2_init_2_10 0 rfl rfl)
theorem dX2_init_2_235 : decode cX2_init_2 235 = .ok (.aload_n 0, 1) := dk_42 (dk_at dksX2_init_2_10 3 rfl rfl)
theorem dX2_init_2_236 : decode cX2_init_2 236 = .ok (.aload_n 2, 1) := dk_44 (dk_at dksX2_init_2_10 4 rfl rfl)
theorem dX2_init_2_237 : decode cX2_init_2 237 = .ok (.getfield 147, 3) := dk_180 0 147 (dk_at dksX2_init_2_10 5 rfl rfl)
theorem dX2_init_2_240 : decode cX2_init_2 240 = .ok (.putfield 147, 3) := dk_181 0 147 (dk_at dksX2_init_2_10 8 rfl rfl)
theorem dX2_init_2_243 : decode cX2_init_2 243 = .ok (.aload_n 0, 1) := dk_42 (dk_at dksX2_init_2_10 11 rfl rfl)
theorem dX2_init_2_244 : decode cX2_init_2 244 = .ok (.aload_n 2, 1) := dk_44 (dk_at dksX2_init_2_10 12 rfl rfl)
theorem dX2_init_2_245 : decode cX2_init_2 245 = .ok (.getfield 150, 3) := dk_180 0 150 (dk_at dksX2_init_2_10 13 rfl rfl)
theorem dX2_init_2_248 : decode cX2_init_2 248 = .ok (.putfield 150, 3) := dk_181 0 150 (dk_at dksX2_init_2_10 16 rfl rfl)
theorem dX2_init_2_251 : decode cX2_init_2 251 = .ok (.aload_n 0, 1) := dk_42 (dk_at dksX2_init_2_10 19 rfl rfl)
theorem dX2_init_2_252 : decode cX2_init_2 252 = .ok (.aload_n 2, 1) := dk_44 (dk_at dksX2_init_2_10 20 rfl rfl)
theorem dX2_init_2_253 : decode cX2_init_2 253 = .ok (.getfield 153, 3) := dk_180 0 153 (dk_at dksX2_init_2_10 21 rfl rfl)
theorem dX2_init_2_256 : decode cX2_init_2 256 = .ok (.putfield 153, 3) := dk_181 0 153 (dk_at dksX2_init_2_11 0 rfl rfl)
theorem dX2_init_2_259 : decode cX2_init_2 259 = .ok (.aload_n 2, 1) := dk_44 (dk_at dksX2_init_2_11 3 rfl rfl)
theorem dX2_init_2_260 : decode cX2_init_2 260 = .ok (.getfield 55, 3) := dk_180 0 55 (dk_at dksX2_init_2_11 4 rfl rfl)
theorem dX2_init_2_263 : decode cX2_init_2 263 = .ok (.iconst 0, 1) := dk_3 (dk_at dksX2_init_2_11 7 rfl rfl)
theorem dX2_init_2_264 : decode cX2_init_2 264 = .ok (.aload_n 0, 1) := dk_42 (dk_at dksX2_init_2_11 8 rfl rfl)
theorem dX2_init_2_265 : decode cX2_init_2 265 = .ok (.getfield 55, 3) := dk_180 0 55 (dk_at dksX2_init_2_11 9 rfl rfl)
theorem dX2_init_2_268 : decode cX2_init_2 268 = .ok (.iconst 0, 1) := dk_3 (dk_at dksX2_init_2_11 12 rfl rfl)
theorem dX2_init_2_269 : decode cX2_init_2 269 = .ok (.bipush 6, 2) := dk_16 6 (dk_at dksX2_init_2_11 13 rfl rfl)
theorem dX2_init_2_271 : decode cX2_init_2 271 = .ok (.invokestatic 156, 3) := dk_184 0 156 (dk_at dksX2_init_2_11 15 rfl rfl)
theorem dX2_init_2_274 : decode cX2_init_2 274 = .ok (.aload_n 0, 1) := dk_42 (dk_at dksX2_init_2_11 18 rfl rfl)
theorem dX2_init_2_275 : decode cX2_init_2 275 = .ok (.aload_n 2, 1) := dk_44 (dk_at dksX2_init_2_11 19 rfl rfl)
theorem dX2_init_2_276 : decode cX2_init_2 276 = .ok (.getfield 59, 3) := dk_180 0 59 (dk_at dksX2_init_2_11 20 rfl rfl)
theorem dX2_init_2_279 : decode cX2_init_2 279 = .ok (.putfield 59, 3) := dk_181 0 59 (dk_at dksX2_init_2_12 0 rfl rfl)
theorem dX2_init_2_282 : decode cX2_init_2 282 = .ok (.aload_n 0, 1) := dk_42 (dk_at dksX2_init_2_12 3 rfl rfl)
theorem dX2_init_2_283 : decode cX2_init_2 283 = .ok (.aload_n 2, 1) := dk_44 (dk_at dksX2_init_2_12 4 rfl rfl)
theorem dX2_init_2_284 : decode cX2_init_2 284 = .ok (.getfield 162, 3) := dk_180 0 162 (dk_at dksX2_init_2_12 5 rfl rfl)
theorem dX2_init_2_287 : decode cX2_init_2 287 = .ok (.putfield 162, 3) := dk_181 0 162 (dk_at dksX2_init_2_12 8 rfl rfl)
theorem dX2_init_2_290 : decode cX2_init_2 290 = .ok (.aload_n 0, 1) := dk_42 (dk_at dksX2_init_2_12 11 rfl rfl)
theorem dX2_init_2_291 : decode cX2_init_2 291 = .ok (.aload_n 2, 1) := dk_44 (dk_at dksX2_init_2_12 12 rfl rfl)
theorem dX2_init_2_292 : decode cX2_init_2 292 = .ok (.getfield 165, 3) := dk_180 0 165 (dk_at dksX2_init_2_12 13 rfl rfl)
theorem dX2_init_2_295 : decode cX2_init_2 295 = .ok (.putfield 165, 3) := dk_181 0 165 (dk_at dksX2_init_2_12 16 rfl rfl)
theorem dX2_init_2_298 : decode cX2_init_2 298 = .ok (.aload_n 0, 1) := dk_42 (dk_at dksX2_init_2_12 19 rfl rfl)
theorem dX2_init_2_299 : decode cX2_init_2 299 = .ok (.aload_n 2, 1) := dk_44 (dk_at dksX2_init_2_12 20 rfl rfl)
theorem dX2_init_2_300 : decode cX2_init_2 300 = .ok (.getfield 168, 3) := dk_180 0 168 (dk_at dksX2_init_2_12 21 rfl rfl)
theorem dX2_init_2_303 : decode cX2_init_2 303 = .ok (.putfield 168, 3) := dk_181 0 168 (dk_at dksX2_init_2_13 0 rfl rfl)
theorem dX2_init_2_306 : decode cX2_init_2 306 = .ok (.aload_n 0, 1) := dk_42 (dk_at dksX2_init_2_13 3 rfl rfl)
theorem dX2_init_2_307 : decode cX2_init_2 307 = .ok (.aload_n 2, 1) := dk_44 (dk_at dksX2_init_2_13 4 rfl rfl)
theorem dX2_init_2_308 : decode cX2_init_2 308 = .ok (.getfield 171, 3) := dk_180 0 171 (dk_at dksX2_init_2_13 5 rfl rfl)
theorem dX2_init_2_311 : decode cX2_init_2 311 = .ok (.putfield 171, 3) := dk_181 0 171 (dk_at dksX2_init_2_13 8 rfl rfl)
theorem dX2_init_2_314 : decode cX2_init_2 314 = .ok (.return_, 1) := dk_177 (dk_at dksX2_init_2_13 11 rfl rfl)
theorem q108 : (Jvm.Cond.initialized "ArbitratedBus$Node") ∈ lw_all := lw_g (lw_at lw_m1 7 rfl) rfl
theorem q222 : (Jvm.Cond.instantiable "ArbitratedBus$Node" (24 : Nat)) ∈ lw_all := lw_g (lw_at lw_m1 121 rfl) rfl
theorem q224 : (Jvm.Cond.instanceMethod ({ cls := "ArbitratedBus$Node", name := "<init>", desc := "(LArbitratedBus$Bus;)V" } : Jvm.MethodName)) ∈ lw_all := lw_g (lw_at lw_m1 123 rfl) rfl
theorem q225 : (Jvm.Cond.code ({ cls := "ArbitratedBus$Node", name := "<init>", desc := "(LArbitratedBus$Bus;)V" } : Jvm.MethodName) prog_10_method_1_code (2 : Nat) (Option.none : Option Jvm.ClassFile.FieldType)) ∈ lw_all := lw_g (lw_at lw_m1 124 rfl) rfl
theorem q226 : (Jvm.Cond.methodLink "ArbitratedBus$Node" (3 : Nat) ({ cls := "java/lang/Object", name := "<init>", desc := "()V" } : Jvm.MethodName)) ∈ lw_all := lw_g (lw_at lw_m1 125 rfl) rfl
theorem q227 : (Jvm.Cond.fieldLink "ArbitratedBus$Node" (9 : Nat) "ArbitratedBus$Phase" "READY" "LArbitratedBus$Phase;") ∈ lw_all := lw_g (lw_at lw_m1 126 rfl) rfl
theorem q229 : (Jvm.Cond.classLink "ArbitratedBus$Node" (20 : Nat) "ArbitratedBus$Sampled") ∈ lw_all := lw_g (lw_at lw_m1 128 rfl) rfl
theorem q231 : (Jvm.Cond.methodLinkNest "ArbitratedBus$Node" (22 : Nat) ({ cls := "ArbitratedBus$Sampled", name := "<init>", desc := "()V" } : Jvm.MethodName) "ArbitratedBus") ∈ lw_tbl := lw_at lw_m1 130 rfl
theorem q239 : (Jvm.Cond.fieldLinkNest "ArbitratedBus$Node" (266 : Nat) "ArbitratedBus$Sampled" "place" "I" "ArbitratedBus") ∈ lw_tbl := lw_at lw_m1 138 rfl
theorem q241 : (Jvm.Cond.fieldLinkNest "ArbitratedBus$Node" (295 : Nat) "ArbitratedBus$Sampled" "identifier" "I" "ArbitratedBus") ∈ lw_tbl := lw_at lw_m1 140 rfl
theorem q243 : (Jvm.Cond.fieldLinkNest "ArbitratedBus$Node" (298 : Nat) "ArbitratedBus$Sampled" "remote" "Z" "ArbitratedBus") ∈ lw_tbl := lw_at lw_m1 142 rfl
theorem q245 : (Jvm.Cond.fieldLinkNest "ArbitratedBus$Node" (279 : Nat) "ArbitratedBus$Sampled" "length" "I" "ArbitratedBus") ∈ lw_tbl := lw_at lw_m1 144 rfl
theorem q247 : (Jvm.Cond.fieldLinkNest "ArbitratedBus$Node" (316 : Nat) "ArbitratedBus$Sampled" "data" "I" "ArbitratedBus") ∈ lw_tbl := lw_at lw_m1 146 rfl
theorem q251 : (Jvm.Cond.fieldLinkNest "ArbitratedBus$Node" (273 : Nat) "ArbitratedBus$Sampled" "tail" "I" "ArbitratedBus") ∈ lw_tbl := lw_at lw_m1 150 rfl
theorem q276 : (Jvm.Cond.classLink "ArbitratedBus$Node" (27 : Nat) "java/util/PriorityQueue") ∈ lw_all := lw_g (lw_at lw_m1 175 rfl) rfl
theorem q278 : (Jvm.Cond.methodLink "ArbitratedBus$Node" (29 : Nat) ({ cls := "java/util/PriorityQueue", name := "<init>", desc := "(I)V" } : Jvm.MethodName)) ∈ lw_all := lw_g (lw_at lw_m1 177 rfl) rfl
theorem q306 : (Jvm.Cond.classLink "ArbitratedBus$Node" (36 : Nat) "java/util/ArrayDeque") ∈ lw_all := lw_g (lw_at lw_m1 205 rfl) rfl
theorem q308 : (Jvm.Cond.methodLink "ArbitratedBus$Node" (38 : Nat) ({ cls := "java/util/ArrayDeque", name := "<init>", desc := "(I)V" } : Jvm.MethodName)) ∈ lw_all := lw_g (lw_at lw_m1 207 rfl) rfl
theorem q326 : (Jvm.Cond.classLink "ArbitratedBus$Node" (43 : Nat) "java/util/TreeMap") ∈ lw_all := lw_g (lw_at lw_m1 225 rfl) rfl
theorem q328 : (Jvm.Cond.classLink "ArbitratedBus$Node" (45 : Nat) "ArbitratedBus$ByIdentifier") ∈ lw_all := lw_g (lw_at lw_m1 227 rfl) rfl
theorem q330 : (Jvm.Cond.methodLinkNest "ArbitratedBus$Node" (47 : Nat) ({ cls := "ArbitratedBus$ByIdentifier", name := "<init>", desc := "()V" } : Jvm.MethodName) "ArbitratedBus") ∈ lw_tbl := lw_at lw_m1 229 rfl
theorem q335 : (Jvm.Cond.methodLink "ArbitratedBus$Node" (48 : Nat) ({ cls := "java/util/TreeMap", name := "<init>", desc := "(Ljava/util/Comparator;)V" } : Jvm.MethodName)) ∈ lw_all := lw_g (lw_at lw_m1 234 rfl) rfl
theorem q367 : (Jvm.Cond.fieldLink "ArbitratedBus$Node" (63 : Nat) "ArbitratedBus$Node" "of" "LArbitratedBus$Bus;") ∈ lw_all := lw_g (lw_at lw_m2 26 rfl) rfl
theorem q369 : (Jvm.Cond.fieldLink "ArbitratedBus$Node" (15 : Nat) "ArbitratedBus$Node" "phase" "LArbitratedBus$Phase;") ∈ lw_all := lw_g (lw_at lw_m2 28 rfl) rfl
theorem q372 : (Jvm.Cond.fieldLink "ArbitratedBus$Node" (70 : Nat) "ArbitratedBus$Node" "transmitter" "Z") ∈ lw_all := lw_g (lw_at lw_m2 31 rfl) rfl
theorem q374 : (Jvm.Cond.fieldLink "ArbitratedBus$Node" (74 : Nat) "ArbitratedBus$Node" "transmitErrors" "I") ∈ lw_all := lw_g (lw_at lw_m2 33 rfl) rfl
theorem q377 : (Jvm.Cond.fieldLink "ArbitratedBus$Node" (77 : Nat) "ArbitratedBus$Node" "receiveErrors" "I") ∈ lw_all := lw_g (lw_at lw_m2 36 rfl) rfl
theorem q380 : (Jvm.Cond.fieldLink "ArbitratedBus$Node" (80 : Nat) "ArbitratedBus$Node" "count" "I") ∈ lw_all := lw_g (lw_at lw_m2 39 rfl) rfl
theorem q382 : (Jvm.Cond.fieldLink "ArbitratedBus$Node" (83 : Nat) "ArbitratedBus$Node" "sequences" "I") ∈ lw_all := lw_g (lw_at lw_m2 41 rfl) rfl
theorem q384 : (Jvm.Cond.fieldLink "ArbitratedBus$Node" (86 : Nat) "ArbitratedBus$Node" "active" "Z") ∈ lw_all := lw_g (lw_at lw_m2 43 rfl) rfl
theorem q385 : (Jvm.Cond.fieldLink "ArbitratedBus$Node" (89 : Nat) "ArbitratedBus$Node" "afterFlag" "Z") ∈ lw_all := lw_g (lw_at lw_m2 44 rfl) rfl
theorem q386 : (Jvm.Cond.fieldLink "ArbitratedBus$Node" (92 : Nat) "ArbitratedBus$Node" "driven" "I") ∈ lw_all := lw_g (lw_at lw_m2 45 rfl) rfl
theorem q390 : (Jvm.Cond.fieldLink "ArbitratedBus$Node" (95 : Nat) "ArbitratedBus$Node" "current" "LArbitratedBus$Frame;") ∈ lw_all := lw_g (lw_at lw_m2 49 rfl) rfl
theorem q391 : (Jvm.Cond.fieldLink "ArbitratedBus$Node" (23 : Nat) "ArbitratedBus$Node" "sampled" "LArbitratedBus$Sampled;") ∈ lw_all := lw_g (lw_at lw_m2 50 rfl) rfl
theorem q393 : (Jvm.Cond.fieldLink "ArbitratedBus$Node" (32 : Nat) "ArbitratedBus$Node" "waiting" "Ljava/util/PriorityQueue;") ∈ lw_all := lw_g (lw_at lw_m2 52 rfl) rfl
theorem q397 : (Jvm.Cond.fieldLink "ArbitratedBus$Node" (39 : Nat) "ArbitratedBus$Node" "received" "Ljava/util/ArrayDeque;") ∈ lw_all := lw_g (lw_at lw_m2 56 rfl) rfl
theorem q399 : (Jvm.Cond.fieldLink "ArbitratedBus$Node" (51 : Nat) "ArbitratedBus$Node" "answers" "Ljava/util/TreeMap;") ∈ lw_all := lw_g (lw_at lw_m2 58 rfl) rfl
theorem q401 : (Jvm.Cond.fieldLink "ArbitratedBus$Node" (147 : Nat) "ArbitratedBus$Node" "mask" "I") ∈ lw_all := lw_g (lw_at lw_m2 60 rfl) rfl
theorem q403 : (Jvm.Cond.fieldLink "ArbitratedBus$Node" (150 : Nat) "ArbitratedBus$Node" "code" "I") ∈ lw_all := lw_g (lw_at lw_m2 62 rfl) rfl
theorem q405 : (Jvm.Cond.fieldLink "ArbitratedBus$Node" (153 : Nat) "ArbitratedBus$Node" "requests" "I") ∈ lw_all := lw_g (lw_at lw_m2 64 rfl) rfl
theorem q406 : (Jvm.Cond.fieldLink "ArbitratedBus$Node" (55 : Nat) "ArbitratedBus$Node" "errors" "[I") ∈ lw_all := lw_g (lw_at lw_m2 65 rfl) rfl
theorem q408 : (Jvm.Cond.fieldLink "ArbitratedBus$Node" (59 : Nat) "ArbitratedBus$Node" "lastError" "I") ∈ lw_all := lw_g (lw_at lw_m2 67 rfl) rfl
theorem q410 : (Jvm.Cond.fieldLink "ArbitratedBus$Node" (162 : Nat) "ArbitratedBus$Node" "lost" "I") ∈ lw_all := lw_g (lw_at lw_m2 69 rfl) rfl
theorem q412 : (Jvm.Cond.fieldLink "ArbitratedBus$Node" (165 : Nat) "ArbitratedBus$Node" "overloads" "I") ∈ lw_all := lw_g (lw_at lw_m2 71 rfl) rfl
theorem q414 : (Jvm.Cond.fieldLink "ArbitratedBus$Node" (168 : Nat) "ArbitratedBus$Node" "sent" "I") ∈ lw_all := lw_g (lw_at lw_m2 73 rfl) rfl
theorem q417 : (Jvm.Cond.fieldLink "ArbitratedBus$Node" (171 : Nat) "ArbitratedBus$Node" "overruns" "I") ∈ lw_all := lw_g (lw_at lw_m2 76 rfl) rfl
theorem q419 : (Jvm.Cond.laysFinal "ArbitratedBus$Node" "ArbitratedBus$Node" "of" "LArbitratedBus$Bus;") ∈ lw_all := lw_g (lw_at lw_m2 78 rfl) rfl
theorem q420 : (Jvm.Cond.soleField "ArbitratedBus$Node" "of") ∈ lw_all := lw_g (lw_at lw_m2 79 rfl) rfl
theorem q421 : (Jvm.Cond.lays "ArbitratedBus$Node" "ArbitratedBus$Node" "phase" "LArbitratedBus$Phase;") ∈ lw_all := lw_g (lw_at lw_m2 80 rfl) rfl
theorem q422 : (Jvm.Cond.soleField "ArbitratedBus$Node" "phase") ∈ lw_all := lw_g (lw_at lw_m2 81 rfl) rfl
theorem q423 : (Jvm.Cond.lays "ArbitratedBus$Node" "ArbitratedBus$Node" "transmitter" "Z") ∈ lw_all := lw_g (lw_at lw_m2 82 rfl) rfl
theorem q424 : (Jvm.Cond.soleField "ArbitratedBus$Node" "transmitter") ∈ lw_all := lw_g (lw_at lw_m2 83 rfl) rfl
theorem q425 : (Jvm.Cond.lays "ArbitratedBus$Node" "ArbitratedBus$Node" "transmitErrors" "I") ∈ lw_all := lw_g (lw_at lw_m2 84 rfl) rfl
theorem q426 : (Jvm.Cond.soleField "ArbitratedBus$Node" "transmitErrors") ∈ lw_all := lw_g (lw_at lw_m2 85 rfl) rfl
theorem q427 : (Jvm.Cond.lays "ArbitratedBus$Node" "ArbitratedBus$Node" "receiveErrors" "I") ∈ lw_all := lw_g (lw_at lw_m2 86 rfl) rfl
theorem q428 : (Jvm.Cond.soleField "ArbitratedBus$Node" "receiveErrors") ∈ lw_all := lw_g (lw_at lw_m2 87 rfl) rfl
theorem q429 : (Jvm.Cond.lays "ArbitratedBus$Node" "ArbitratedBus$Node" "count" "I") ∈ lw_all := lw_g (lw_at lw_m2 88 rfl) rfl
theorem q430 : (Jvm.Cond.soleField "ArbitratedBus$Node" "count") ∈ lw_all := lw_g (lw_at lw_m2 89 rfl) rfl
theorem q431 : (Jvm.Cond.lays "ArbitratedBus$Node" "ArbitratedBus$Node" "sequences" "I") ∈ lw_all := lw_g (lw_at lw_m2 90 rfl) rfl
theorem q432 : (Jvm.Cond.soleField "ArbitratedBus$Node" "sequences") ∈ lw_all := lw_g (lw_at lw_m2 91 rfl) rfl
theorem q433 : (Jvm.Cond.lays "ArbitratedBus$Node" "ArbitratedBus$Node" "active" "Z") ∈ lw_all := lw_g (lw_at lw_m2 92 rfl) rfl
theorem q434 : (Jvm.Cond.soleField "ArbitratedBus$Node" "active") ∈ lw_all := lw_g (lw_at lw_m2 93 rfl) rfl
theorem q435 : (Jvm.Cond.lays "ArbitratedBus$Node" "ArbitratedBus$Node" "afterFlag" "Z") ∈ lw_all := lw_g (lw_at lw_m2 94 rfl) rfl
theorem q436 : (Jvm.Cond.soleField "ArbitratedBus$Node" "afterFlag") ∈ lw_all := lw_g (lw_at lw_m2 95 rfl) rfl
theorem q437 : (Jvm.Cond.lays "ArbitratedBus$Node" "ArbitratedBus$Node" "driven" "I") ∈ lw_all := lw_g (lw_at lw_m2 96 rfl) rfl
theorem q438 : (Jvm.Cond.soleField "ArbitratedBus$Node" "driven") ∈ lw_all := lw_g (lw_at lw_m2 97 rfl) rfl
theorem q439 : (Jvm.Cond.lays "ArbitratedBus$Node" "ArbitratedBus$Node" "current" "LArbitratedBus$Frame;") ∈ lw_all := lw_g (lw_at lw_m2 98 rfl) rfl
theorem q440 : (Jvm.Cond.soleField "ArbitratedBus$Node" "current") ∈ lw_all := lw_g (lw_at lw_m2 99 rfl) rfl
theorem q441 : (Jvm.Cond.laysFinal "ArbitratedBus$Node" "ArbitratedBus$Node" "sampled" "LArbitratedBus$Sampled;") ∈ lw_all := lw_g (lw_at lw_m2 100 rfl) rfl
theorem q442 : (Jvm.Cond.soleField "ArbitratedBus$Node" "sampled") ∈ lw_all := lw_g (lw_at lw_m2 101 rfl) rfl
theorem q443 : (Jvm.Cond.lays "ArbitratedBus$Node" "ArbitratedBus$Node" "waiting" "Ljava/util/PriorityQueue;") ∈ lw_all := lw_g (lw_at lw_m2 102 rfl) rfl
theorem q444 : (Jvm.Cond.soleField "ArbitratedBus$Node" "waiting") ∈ lw_all := lw_g (lw_at lw_m2 103 rfl) rfl
theorem q445 : (Jvm.Cond.laysFinal "ArbitratedBus$Node" "ArbitratedBus$Node" "received" "Ljava/util/ArrayDeque;") ∈ lw_all := lw_g (lw_at lw_m2 104 rfl) rfl
theorem q446 : (Jvm.Cond.soleField "ArbitratedBus$Node" "received") ∈ lw_all := lw_g (lw_at lw_m2 105 rfl) rfl
theorem q447 : (Jvm.Cond.laysFinal "ArbitratedBus$Node" "ArbitratedBus$Node" "answers" "Ljava/util/TreeMap;") ∈ lw_all := lw_g (lw_at lw_m2 106 rfl) rfl
theorem q448 : (Jvm.Cond.soleField "ArbitratedBus$Node" "answers") ∈ lw_all := lw_g (lw_at lw_m2 107 rfl) rfl
theorem q449 : (Jvm.Cond.lays "ArbitratedBus$Node" "ArbitratedBus$Node" "mask" "I") ∈ lw_all := lw_g (lw_at lw_m2 108 rfl) rfl
theorem q450 : (Jvm.Cond.soleField "ArbitratedBus$Node" "mask") ∈ lw_all := lw_g (lw_at lw_m2 109 rfl) rfl
theorem q451 : (Jvm.Cond.lays "ArbitratedBus$Node" "ArbitratedBus$Node" "code" "I") ∈ lw_all := lw_g (lw_at lw_m2 110 rfl) rfl
theorem q452 : (Jvm.Cond.soleField "ArbitratedBus$Node" "code") ∈ lw_all := lw_g (lw_at lw_m2 111 rfl) rfl
theorem q453 : (Jvm.Cond.lays "ArbitratedBus$Node" "ArbitratedBus$Node" "requests" "I") ∈ lw_all := lw_g (lw_at lw_m2 112 rfl) rfl
theorem q454 : (Jvm.Cond.soleField "ArbitratedBus$Node" "requests") ∈ lw_all := lw_g (lw_at lw_m2 113 rfl) rfl
theorem q455 : (Jvm.Cond.laysFinal "ArbitratedBus$Node" "ArbitratedBus$Node" "errors" "[I") ∈ lw_all := lw_g (lw_at lw_m2 114 rfl) rfl
theorem q456 : (Jvm.Cond.soleField "ArbitratedBus$Node" "errors") ∈ lw_all := lw_g (lw_at lw_m2 115 rfl) rfl
theorem q457 : (Jvm.Cond.lays "ArbitratedBus$Node" "ArbitratedBus$Node" "lastError" "I") ∈ lw_all := lw_g (lw_at lw_m2 116 rfl) rfl
theorem q458 : (Jvm.Cond.soleField "ArbitratedBus$Node" "lastError") ∈ lw_all := lw_g (lw_at lw_m2 117 rfl) rfl
theorem q459 : (Jvm.Cond.lays "ArbitratedBus$Node" "ArbitratedBus$Node" "lost" "I") ∈ lw_all := lw_g (lw_at lw_m2 118 rfl) rfl
theorem q460 : (Jvm.Cond.soleField "ArbitratedBus$Node" "lost") ∈ lw_all := lw_g (lw_at lw_m2 119 rfl) rfl
theorem q461 : (Jvm.Cond.lays "ArbitratedBus$Node" "ArbitratedBus$Node" "overloads" "I") ∈ lw_all := lw_g (lw_at lw_m2 120 rfl) rfl
theorem q462 : (Jvm.Cond.soleField "ArbitratedBus$Node" "overloads") ∈ lw_all := lw_g (lw_at lw_m2 121 rfl) rfl
theorem q463 : (Jvm.Cond.lays "ArbitratedBus$Node" "ArbitratedBus$Node" "sent" "I") ∈ lw_all := lw_g (lw_at lw_m2 122 rfl) rfl
theorem q464 : (Jvm.Cond.soleField "ArbitratedBus$Node" "sent") ∈ lw_all := lw_g (lw_at lw_m2 123 rfl) rfl
theorem q465 : (Jvm.Cond.lays "ArbitratedBus$Node" "ArbitratedBus$Node" "overruns" "I") ∈ lw_all := lw_g (lw_at lw_m2 124 rfl) rfl
theorem q466 : (Jvm.Cond.soleField "ArbitratedBus$Node" "overruns") ∈ lw_all := lw_g (lw_at lw_m2 125 rfl) rfl
theorem q467 : (Jvm.Cond.superclass "ArbitratedBus$Node" "java/lang/Object") ∈ lw_all := lw_g (lw_at lw_m2 126 rfl) rfl
theorem q478 : (Jvm.Cond.fieldLinkNest "ArbitratedBus$Node" (174 : Nat) "ArbitratedBus$Bus" "passiveLimit" "I" "ArbitratedBus") ∈ lw_tbl := lw_at lw_m2 137 rfl
theorem q482 : (Jvm.Cond.fieldLinkNest "ArbitratedBus$Node" (225 : Nat) "ArbitratedBus$Bus" "offLimit" "I" "ArbitratedBus") ∈ lw_tbl := lw_at lw_m2 141 rfl
theorem q681 : (Jvm.Cond.selects "ArbitratedBus$Node" ({ cls := "java/lang/Object", name := "getClass", desc := "()Ljava/lang/Class;" } : Jvm.MethodName) ({ cls := "java/lang/Object", name := "getClass", desc := "()Ljava/lang/Class;" } : Jvm.MethodName)) ∈ lw_all := lw_g (lw_at lw_m3 100 rfl) rfl
theorem q992 : (Jvm.Cond.fieldLinkNest "ArbitratedBus$Node" (308 : Nat) "ArbitratedBus$Answer" "length" "I" "ArbitratedBus") ∈ lw_tbl := lw_at lw_m4 171 rfl
theorem q994 : (Jvm.Cond.fieldLinkNest "ArbitratedBus$Node" (309 : Nat) "ArbitratedBus$Answer" "data" "I" "ArbitratedBus") ∈ lw_tbl := lw_at lw_m4 173 rfl
theorem q1120 : (Jvm.Cond.privateMethod ({ cls := "ArbitratedBus$Node", name := "enter", desc := "(LArbitratedBus$Phase;)V" } : Jvm.MethodName)) ∈ lw_tbl := lw_at lw_m5 59 rfl
theorem q1121 : (Jvm.Cond.instanceMethod ({ cls := "ArbitratedBus$Node", name := "enter", desc := "(LArbitratedBus$Phase;)V" } : Jvm.MethodName)) ∈ lw_all := lw_g (lw_at lw_m5 60 rfl) rfl
theorem q1122 : (Jvm.Cond.code ({ cls := "ArbitratedBus$Node", name := "enter", desc := "(LArbitratedBus$Phase;)V" } : Jvm.MethodName) prog_10_method_7_code (2 : Nat) (Option.none : Option Jvm.ClassFile.FieldType)) ∈ lw_all := lw_g (lw_at lw_m5 61 rfl) rfl
theorem q1143 : (Jvm.Cond.instanceMethod ({ cls := "ArbitratedBus$Node", name := "add", desc := "(IZII)V" } : Jvm.MethodName)) ∈ lw_all := lw_g (lw_at lw_m5 82 rfl) rfl
theorem q1144 : (Jvm.Cond.selects "ArbitratedBus$Node" ({ cls := "ArbitratedBus$Node", name := "add", desc := "(IZII)V" } : Jvm.MethodName) ({ cls := "ArbitratedBus$Node", name := "add", desc := "(IZII)V" } : Jvm.MethodName)) ∈ lw_all := lw_g (lw_at lw_m5 83 rfl) rfl
theorem q1145 : (Jvm.Cond.code ({ cls := "ArbitratedBus$Node", name := "add", desc := "(IZII)V" } : Jvm.MethodName) prog_10_method_23_code (5 : Nat) (Option.none : Option Jvm.ClassFile.FieldType)) ∈ lw_all := lw_g (lw_at lw_m5 84 rfl) rfl
theorem q1146 : (Jvm.Cond.classLink "ArbitratedBus$Node" (117 : Nat) "ArbitratedBus$Frame") ∈ lw_all := lw_g (lw_at lw_m5 85 rfl) rfl
theorem q1148 : (Jvm.Cond.methodLink "ArbitratedBus$Node" (317 : Nat) ({ cls := "ArbitratedBus$Frame", name := "<init>", desc := "(IZIII)V" } : Jvm.MethodName)) ∈ lw_all := lw_g (lw_at lw_m5 87 rfl) rfl
theorem q1153 : (Jvm.Cond.fieldLinkNest "ArbitratedBus$Node" (320 : Nat) "ArbitratedBus$Frame" "identifier" "I" "ArbitratedBus") ∈ lw_tbl := lw_at lw_m5 92 rfl
theorem q1171 : (Jvm.Cond.methodLink "ArbitratedBus$Node" (119 : Nat) ({ cls := "java/util/PriorityQueue", name := "add", desc := "(Ljava/lang/Object;)Z" } : Jvm.MethodName)) ∈ lw_all := lw_g (lw_at lw_m5 110 rfl) rfl
theorem q1226 : (Jvm.Cond.instanceMethod ({ cls := "ArbitratedBus$Node", name := "cancel", desc := "(I)I" } : Jvm.MethodName)) ∈ lw_all := lw_g (lw_at lw_m5 165 rfl) rfl
theorem q1227 : (Jvm.Cond.selects "ArbitratedBus$Node" ({ cls := "ArbitratedBus$Node", name := "cancel", desc := "(I)I" } : Jvm.MethodName) ({ cls := "ArbitratedBus$Node", name := "cancel", desc := "(I)I" } : Jvm.MethodName)) ∈ lw_all := lw_g (lw_at lw_m5 166 rfl) rfl
theorem q1228 : (Jvm.Cond.code ({ cls := "ArbitratedBus$Node", name := "cancel", desc := "(I)I" } : Jvm.MethodName) prog_10_method_24_code (6 : Nat) (Option.some Jvm.ClassFile.FieldType.int)) ∈ lw_all := lw_g (lw_at lw_m5 167 rfl) rfl
theorem q1229 : (Jvm.Cond.methodLink "ArbitratedBus$Node" (305 : Nat) ({ cls := "java/util/PriorityQueue", name := "size", desc := "()I" } : Jvm.MethodName)) ∈ lw_all := lw_g (lw_at lw_m5 168 rfl) rfl
theorem q1230 : (Jvm.Cond.methodLink "ArbitratedBus$Node" (103 : Nat) ({ cls := "java/util/PriorityQueue", name := "iterator", desc := "()Ljava/util/Iterator;" } : Jvm.MethodName)) ∈ lw_all := lw_g (lw_at lw_m5 169 rfl) rfl
theorem q1259 : (Jvm.Cond.interfaceEntry "ArbitratedBus$Node" (107 : Nat)) ∈ lw_tbl := lw_at lw_m5 198 rfl
theorem q1260 : (Jvm.Cond.methodLink "ArbitratedBus$Node" (107 : Nat) ({ cls := "java/util/Iterator", name := "hasNext", desc := "()Z" } : Jvm.MethodName)) ∈ lw_all := lw_g (lw_at lw_m5 199 rfl) rfl
theorem q1340 : (Jvm.Cond.interfaceEntry "ArbitratedBus$Node" (113 : Nat)) ∈ lw_tbl := lw_at lw_m6 39 rfl
theorem q1341 : (Jvm.Cond.methodLink "ArbitratedBus$Node" (113 : Nat) ({ cls := "java/util/Iterator", name := "next", desc := "()Ljava/lang/Object;" } : Jvm.MethodName)) ∈ lw_all := lw_g (lw_at lw_m6 40 rfl) rfl
theorem q1745 : (Jvm.Cond.methodLink "ArbitratedBus$Node" (321 : Nat) ({ cls := "ArbitratedBus$Node", name := "isSending", desc := "()Z" } : Jvm.MethodName)) ∈ lw_all := lw_g (lw_at lw_m7 204 rfl) rfl
theorem q1746 : (Jvm.Cond.instanceMethod ({ cls := "ArbitratedBus$Node", name := "isSending", desc := "()Z" } : Jvm.MethodName)) ∈ lw_all := lw_g (lw_at lw_m7 205 rfl) rfl
theorem q1747 : (Jvm.Cond.selects "ArbitratedBus$Node" ({ cls := "ArbitratedBus$Node", name := "isSending", desc := "()Z" } : Jvm.MethodName) ({ cls := "ArbitratedBus$Node", name := "isSending", desc := "()Z" } : Jvm.MethodName)) ∈ lw_all := lw_g (lw_at lw_m7 206 rfl) rfl
theorem q1748 : (Jvm.Cond.code ({ cls := "ArbitratedBus$Node", name := "isSending", desc := "()Z" } : Jvm.MethodName) prog_10_method_6_code (1 : Nat) (Option.some Jvm.ClassFile.FieldType.boolean)) ∈ lw_all := lw_g (lw_at lw_m7 207 rfl) rfl
theorem q1749 : (Jvm.Cond.fieldLink "ArbitratedBus$Node" (197 : Nat) "ArbitratedBus$Phase" "BUSY" "LArbitratedBus$Phase;") ∈ lw_all := lw_g (lw_at lw_m7 208 rfl) rfl
theorem q1837 : (Jvm.Cond.privateMethod ({ cls := "ArbitratedBus$Node", name := "driveFrame", desc := "()I" } : Jvm.MethodName)) ∈ lw_tbl := lw_at lw_m8 56 rfl
theorem q1838 : (Jvm.Cond.instanceMethod ({ cls := "ArbitratedBus$Node", name := "driveFrame", desc := "()I" } : Jvm.MethodName)) ∈ lw_all := lw_g (lw_at lw_m8 57 rfl) rfl
theorem q1839 : (Jvm.Cond.code ({ cls := "ArbitratedBus$Node", name := "driveFrame", desc := "()I" } : Jvm.MethodName) prog_10_method_17_code (1 : Nat) (Option.some Jvm.ClassFile.FieldType.int)) ∈ lw_all := lw_g (lw_at lw_m8 58 rfl) rfl
theorem q1840 : (Jvm.Cond.methodLink "ArbitratedBus$Node" (257 : Nat) ({ cls := "ArbitratedBus$Sampled", name := "isStuffed", desc := "()Z" } : Jvm.MethodName)) ∈ lw_all := lw_g (lw_at lw_m8 59 rfl) rfl
theorem q1852 : (Jvm.Cond.methodLink "ArbitratedBus$Node" (260 : Nat) ({ cls := "ArbitratedBus$Sampled", name := "isDue", desc := "()Z" } : Jvm.MethodName)) ∈ lw_all := lw_g (lw_at lw_m8 71 rfl) rfl
theorem q1853 : (Jvm.Cond.methodLink "ArbitratedBus$Node" (263 : Nat) ({ cls := "ArbitratedBus$Sampled", name := "stuff", desc := "()I" } : Jvm.MethodName)) ∈ lw_all := lw_g (lw_at lw_m8 72 rfl) rfl
theorem q1857 : (Jvm.Cond.methodLink "ArbitratedBus$Node" (269 : Nat) ({ cls := "ArbitratedBus$Frame", name := "bit", desc := "(I)I" } : Jvm.MethodName)) ∈ lw_all := lw_g (lw_at lw_m8 76 rfl) rfl
theorem q1858 : (Jvm.Cond.methodLink "ArbitratedBus$Node" (276 : Nat) ({ cls := "ArbitratedBus$Sampled", name := "isIntact", desc := "()Z" } : Jvm.MethodName)) ∈ lw_all := lw_g (lw_at lw_m8 77 rfl) rfl
theorem q2132 : (Jvm.Cond.privateMethod ({ cls := "ArbitratedBus$Node", name := "begin", desc := "(Z)V" } : Jvm.MethodName)) ∈ lw_tbl := lw_at lw_m9 111 rfl
theorem q2133 : (Jvm.Cond.instanceMethod ({ cls := "ArbitratedBus$Node", name := "begin", desc := "(Z)V" } : Jvm.MethodName)) ∈ lw_all := lw_g (lw_at lw_m9 112 rfl) rfl
theorem q2134 : (Jvm.Cond.code ({ cls := "ArbitratedBus$Node", name := "begin", desc := "(Z)V" } : Jvm.MethodName) prog_10_method_10_code (2 : Nat) (Option.none : Option Jvm.ClassFile.FieldType)) ∈ lw_all := lw_g (lw_at lw_m9 113 rfl) rfl
theorem q2135 : (Jvm.Cond.methodLink "ArbitratedBus$Node" (200 : Nat) ({ cls := "ArbitratedBus$Node", name := "enter", desc := "(LArbitratedBus$Phase;)V" } : Jvm.MethodName)) ∈ lw_all := lw_g (lw_at lw_m9 114 rfl) rfl
theorem q2136 : (Jvm.Cond.methodLink "ArbitratedBus$Node" (204 : Nat) ({ cls := "ArbitratedBus$Sampled", name := "clear", desc := "()V" } : Jvm.MethodName)) ∈ lw_all := lw_g (lw_at lw_m9 115 rfl) rfl
theorem q2151 : (Jvm.Cond.methodLink "ArbitratedBus$Node" (207 : Nat) ({ cls := "ArbitratedBus$Sampled", name := "see", desc := "(I)V" } : Jvm.MethodName)) ∈ lw_all := lw_g (lw_at lw_m9 130 rfl) rfl
theorem q2155 : (Jvm.Cond.methodLink "ArbitratedBus$Node" (210 : Nat) ({ cls := "ArbitratedBus$Sampled", name := "take", desc := "(I)V" } : Jvm.MethodName)) ∈ lw_all := lw_g (lw_at lw_m9 134 rfl) rfl
theorem q2161 : (Jvm.Cond.privateMethod ({ cls := "ArbitratedBus$Node", name := "counts", desc := "(I)Z" } : Jvm.MethodName)) ∈ lw_tbl := lw_at lw_m9 140 rfl
theorem q2162 : (Jvm.Cond.instanceMethod ({ cls := "ArbitratedBus$Node", name := "counts", desc := "(I)Z" } : Jvm.MethodName)) ∈ lw_all := lw_g (lw_at lw_m9 141 rfl) rfl
theorem q2163 : (Jvm.Cond.code ({ cls := "ArbitratedBus$Node", name := "counts", desc := "(I)Z" } : Jvm.MethodName) prog_10_method_8_code (2 : Nat) (Option.some Jvm.ClassFile.FieldType.boolean)) ∈ lw_all := lw_g (lw_at lw_m9 142 rfl) rfl
theorem q2171 : (Jvm.Cond.privateMethod ({ cls := "ArbitratedBus$Node", name := "endsRun", desc := "(I)Z" } : Jvm.MethodName)) ∈ lw_tbl := lw_at lw_m9 150 rfl
theorem q2172 : (Jvm.Cond.instanceMethod ({ cls := "ArbitratedBus$Node", name := "endsRun", desc := "(I)Z" } : Jvm.MethodName)) ∈ lw_all := lw_g (lw_at lw_m9 151 rfl) rfl
theorem q2173 : (Jvm.Cond.code ({ cls := "ArbitratedBus$Node", name := "endsRun", desc := "(I)Z" } : Jvm.MethodName) prog_10_method_9_code (3 : Nat) (Option.some Jvm.ClassFile.FieldType.boolean)) ∈ lw_all := lw_g (lw_at lw_m9 152 rfl) rfl
theorem q2189 : (Jvm.Cond.privateMethod ({ cls := "ArbitratedBus$Node", name := "fail", desc := "(I)V" } : Jvm.MethodName)) ∈ lw_tbl := lw_at lw_m9 168 rfl
theorem q2190 : (Jvm.Cond.instanceMethod ({ cls := "ArbitratedBus$Node", name := "fail", desc := "(I)V" } : Jvm.MethodName)) ∈ lw_all := lw_g (lw_at lw_m9 169 rfl) rfl
theorem q2191 : (Jvm.Cond.code ({ cls := "ArbitratedBus$Node", name := "fail", desc := "(I)V" } : Jvm.MethodName) prog_10_method_12_code (2 : Nat) (Option.none : Option Jvm.ClassFile.FieldType)) ∈ lw_all := lw_g (lw_at lw_m9 170 rfl) rfl
theorem q2192 : (Jvm.Cond.methodLink "ArbitratedBus$Node" (219 : Nat) ({ cls := "ArbitratedBus$Node", name := "raiseReceiveErrors", desc := "(I)V" } : Jvm.MethodName)) ∈ lw_all := lw_g (lw_at lw_m9 171 rfl) rfl
theorem q2193 : (Jvm.Cond.privateMethod ({ cls := "ArbitratedBus$Node", name := "raiseReceiveErrors", desc := "(I)V" } : Jvm.MethodName)) ∈ lw_tbl := lw_at lw_m9 172 rfl
theorem q2194 : (Jvm.Cond.instanceMethod ({ cls := "ArbitratedBus$Node", name := "raiseReceiveErrors", desc := "(I)V" } : Jvm.MethodName)) ∈ lw_all := lw_g (lw_at lw_m9 173 rfl) rfl
theorem q2195 : (Jvm.Cond.code ({ cls := "ArbitratedBus$Node", name := "raiseReceiveErrors", desc := "(I)V" } : Jvm.MethodName) prog_10_method_11_code (2 : Nat) (Option.none : Option Jvm.ClassFile.FieldType)) ∈ lw_all := lw_g (lw_at lw_m9 174 rfl) rfl
theorem q2196 : (Jvm.Cond.methodLink "ArbitratedBus$Node" (213 : Nat) ({ cls := "java/lang/Math", name := "min", desc := "(II)I" } : Jvm.MethodName)) ∈ lw_all := lw_g (lw_at lw_m9 175 rfl) rfl
theorem q2197 : (Jvm.Cond.methodLink "ArbitratedBus$Node" (222 : Nat) ({ cls := "ArbitratedBus$Node", name := "isPassive", desc := "()Z" } : Jvm.MethodName)) ∈ lw_all := lw_g (lw_at lw_m9 176 rfl) rfl
theorem q2198 : (Jvm.Cond.instanceMethod ({ cls := "ArbitratedBus$Node", name := "isPassive", desc := "()Z" } : Jvm.MethodName)) ∈ lw_all := lw_g (lw_at lw_m9 177 rfl) rfl
theorem q2199 : (Jvm.Cond.selects "ArbitratedBus$Node" ({ cls := "ArbitratedBus$Node", name := "isPassive", desc := "()Z" } : Jvm.MethodName) ({ cls := "ArbitratedBus$Node", name := "isPassive", desc := "()Z" } : Jvm.MethodName)) ∈ lw_all := lw_g (lw_at lw_m9 178 rfl) rfl
theorem q2200 : (Jvm.Cond.code ({ cls := "ArbitratedBus$Node", name := "isPassive", desc := "()Z" } : Jvm.MethodName) prog_10_method_3_code (1 : Nat) (Option.some Jvm.ClassFile.FieldType.boolean)) ∈ lw_all := lw_g (lw_at lw_m9 179 rfl) rfl
theorem q2201 : (Jvm.Cond.fieldLink "ArbitratedBus$Node" (182 : Nat) "ArbitratedBus$Phase" "SILENT" "LArbitratedBus$Phase;") ∈ lw_all := lw_g (lw_at lw_m9 180 rfl) rfl
theorem q2203 : (Jvm.Cond.fieldLink "ArbitratedBus$Node" (228 : Nat) "ArbitratedBus$Phase" "FLAGGING" "LArbitratedBus$Phase;") ∈ lw_all := lw_g (lw_at lw_m9 182 rfl) rfl
theorem q2210 : (Jvm.Cond.privateMethod ({ cls := "ArbitratedBus$Node", name := "stuffedPart", desc := "(I)V" } : Jvm.MethodName)) ∈ lw_tbl := lw_at lw_m9 189 rfl
theorem q2211 : (Jvm.Cond.instanceMethod ({ cls := "ArbitratedBus$Node", name := "stuffedPart", desc := "(I)V" } : Jvm.MethodName)) ∈ lw_all := lw_g (lw_at lw_m9 190 rfl) rfl
theorem q2212 : (Jvm.Cond.code ({ cls := "ArbitratedBus$Node", name := "stuffedPart", desc := "(I)V" } : Jvm.MethodName) prog_10_method_18_code (4 : Nat) (Option.none : Option Jvm.ClassFile.FieldType)) ∈ lw_all := lw_g (lw_at lw_m9 191 rfl) rfl
theorem q2213 : (Jvm.Cond.methodLink "ArbitratedBus$Node" (247 : Nat) ({ cls := "ArbitratedBus$Node", name := "fail", desc := "(I)V" } : Jvm.MethodName)) ∈ lw_all := lw_g (lw_at lw_m9 192 rfl) rfl
theorem q2215 : (Jvm.Cond.privateMethod ({ cls := "ArbitratedBus$Node", name := "tail", desc := "(I)V" } : Jvm.MethodName)) ∈ lw_tbl := lw_at lw_m9 194 rfl
theorem q2216 : (Jvm.Cond.instanceMethod ({ cls := "ArbitratedBus$Node", name := "tail", desc := "(I)V" } : Jvm.MethodName)) ∈ lw_all := lw_g (lw_at lw_m9 195 rfl) rfl
theorem q2217 : (Jvm.Cond.code ({ cls := "ArbitratedBus$Node", name := "tail", desc := "(I)V" } : Jvm.MethodName) prog_10_method_19_code (3 : Nat) (Option.none : Option Jvm.ClassFile.FieldType)) ∈ lw_all := lw_g (lw_at lw_m9 196 rfl) rfl
theorem q2218 : (Jvm.Cond.methodLink "ArbitratedBus$Node" (244 : Nat) ({ cls := "ArbitratedBus$Node", name := "overload", desc := "()V" } : Jvm.MethodName)) ∈ lw_all := lw_g (lw_at lw_m9 197 rfl) rfl
theorem q2219 : (Jvm.Cond.privateMethod ({ cls := "ArbitratedBus$Node", name := "overload", desc := "()V" } : Jvm.MethodName)) ∈ lw_tbl := lw_at lw_m9 198 rfl
theorem q2220 : (Jvm.Cond.instanceMethod ({ cls := "ArbitratedBus$Node", name := "overload", desc := "()V" } : Jvm.MethodName)) ∈ lw_all := lw_g (lw_at lw_m9 199 rfl) rfl
theorem q2221 : (Jvm.Cond.code ({ cls := "ArbitratedBus$Node", name := "overload", desc := "()V" } : Jvm.MethodName) prog_10_method_13_code (1 : Nat) (Option.none : Option Jvm.ClassFile.FieldType)) ∈ lw_all := lw_g (lw_at lw_m9 200 rfl) rfl
theorem q2222 : (Jvm.Cond.fieldLink "ArbitratedBus$Node" (231 : Nat) "ArbitratedBus$Phase" "OVERLOADED" "LArbitratedBus$Phase;") ∈ lw_all := lw_g (lw_at lw_m9 201 rfl) rfl
theorem q2224 : (Jvm.Cond.methodLink "ArbitratedBus$Node" (282 : Nat) ({ cls := "ArbitratedBus$Node", name := "finish", desc := "()V" } : Jvm.MethodName)) ∈ lw_all := lw_g (lw_at lw_m9 203 rfl) rfl
theorem q2225 : (Jvm.Cond.privateMethod ({ cls := "ArbitratedBus$Node", name := "finish", desc := "()V" } : Jvm.MethodName)) ∈ lw_tbl := lw_at lw_m9 204 rfl
theorem q2226 : (Jvm.Cond.instanceMethod ({ cls := "ArbitratedBus$Node", name := "finish", desc := "()V" } : Jvm.MethodName)) ∈ lw_all := lw_g (lw_at lw_m9 205 rfl) rfl
theorem q2227 : (Jvm.Cond.code ({ cls := "ArbitratedBus$Node", name := "finish", desc := "()V" } : Jvm.MethodName) prog_10_method_20_code (1 : Nat) (Option.none : Option Jvm.ClassFile.FieldType)) ∈ lw_all := lw_g (lw_at lw_m9 206 rfl) rfl
theorem q2228 : (Jvm.Cond.methodLink "ArbitratedBus$Node" (288 : Nat) ({ cls := "ArbitratedBus$Node", name := "removeWaiting", desc := "(LArbitratedBus$Frame;)V" } : Jvm.MethodName)) ∈ lw_all := lw_g (lw_at lw_m9 207 rfl) rfl
theorem q2229 : (Jvm.Cond.privateMethod ({ cls := "ArbitratedBus$Node", name := "removeWaiting", desc := "(LArbitratedBus$Frame;)V" } : Jvm.MethodName)) ∈ lw_tbl := lw_at lw_m9 208 rfl
theorem q2230 : (Jvm.Cond.instanceMethod ({ cls := "ArbitratedBus$Node", name := "removeWaiting", desc := "(LArbitratedBus$Frame;)V" } : Jvm.MethodName)) ∈ lw_all := lw_g (lw_at lw_m9 209 rfl) rfl
theorem q2231 : (Jvm.Cond.code ({ cls := "ArbitratedBus$Node", name := "removeWaiting", desc := "(LArbitratedBus$Frame;)V" } : Jvm.MethodName) prog_10_method_21_code (5 : Nat) (Option.none : Option Jvm.ClassFile.FieldType)) ∈ lw_all := lw_g (lw_at lw_m9 210 rfl) rfl
theorem q2232 : (Jvm.Cond.methodLink "ArbitratedBus$Node" (292 : Nat) ({ cls := "java/lang/Math", name := "max", desc := "(II)I" } : Jvm.MethodName)) ∈ lw_all := lw_g (lw_at lw_m9 211 rfl) rfl
theorem q2233 : (Jvm.Cond.fieldLink "ArbitratedBus$Node" (241 : Nat) "ArbitratedBus$Phase" "PAUSING" "LArbitratedBus$Phase;") ∈ lw_all := lw_g (lw_at lw_m9 212 rfl) rfl
theorem q2235 : (Jvm.Cond.methodLink "ArbitratedBus$Node" (285 : Nat) ({ cls := "ArbitratedBus$Node", name := "accept", desc := "()V" } : Jvm.MethodName)) ∈ lw_all := lw_g (lw_at lw_m9 214 rfl) rfl
theorem q2236 : (Jvm.Cond.privateMethod ({ cls := "ArbitratedBus$Node", name := "accept", desc := "()V" } : Jvm.MethodName)) ∈ lw_tbl := lw_at lw_m9 215 rfl
theorem q2237 : (Jvm.Cond.instanceMethod ({ cls := "ArbitratedBus$Node", name := "accept", desc := "()V" } : Jvm.MethodName)) ∈ lw_all := lw_g (lw_at lw_m9 216 rfl) rfl
theorem q2238 : (Jvm.Cond.code ({ cls := "ArbitratedBus$Node", name := "accept", desc := "()V" } : Jvm.MethodName) prog_10_method_22_code (2 : Nat) (Option.none : Option Jvm.ClassFile.FieldType)) ∈ lw_all := lw_g (lw_at lw_m9 217 rfl) rfl
theorem q2239 : (Jvm.Cond.methodLink "ArbitratedBus$Node" (301 : Nat) ({ cls := "java/lang/Integer", name := "valueOf", desc := "(I)Ljava/lang/Integer;" } : Jvm.MethodName)) ∈ lw_all := lw_g (lw_at lw_m9 218 rfl) rfl
theorem q2240 : (Jvm.Cond.methodLink "ArbitratedBus$Node" (137 : Nat) ({ cls := "java/util/TreeMap", name := "get", desc := "(Ljava/lang/Object;)Ljava/lang/Object;" } : Jvm.MethodName)) ∈ lw_all := lw_g (lw_at lw_m9 219 rfl) rfl
theorem q2244 : (Jvm.Cond.classLink "ArbitratedBus$Node" (141 : Nat) "ArbitratedBus$Answer") ∈ lw_all := lw_g (lw_at lw_m9 223 rfl) rfl
theorem q2245 : (Jvm.Cond.methodLink "ArbitratedBus$Node" (312 : Nat) ({ cls := "ArbitratedBus$Node", name := "add", desc := "(IZII)V" } : Jvm.MethodName)) ∈ lw_all := lw_g (lw_at lw_m9 224 rfl) rfl
theorem q2246 : (Jvm.Cond.methodLink "ArbitratedBus$Node" (315 : Nat) ({ cls := "java/util/ArrayDeque", name := "size", desc := "()I" } : Jvm.MethodName)) ∈ lw_all := lw_g (lw_at lw_m9 225 rfl) rfl
theorem q2250 : (Jvm.Cond.methodLink "ArbitratedBus$Node" (124 : Nat) ({ cls := "java/util/ArrayDeque", name := "addLast", desc := "(Ljava/lang/Object;)V" } : Jvm.MethodName)) ∈ lw_all := lw_g (lw_at lw_m9 229 rfl) rfl
theorem q2255 : (Jvm.Cond.privateMethod ({ cls := "ArbitratedBus$Node", name := "flagBit", desc := "(Z)V" } : Jvm.MethodName)) ∈ lw_tbl := lw_at lw_m9 234 rfl
theorem q2256 : (Jvm.Cond.instanceMethod ({ cls := "ArbitratedBus$Node", name := "flagBit", desc := "(Z)V" } : Jvm.MethodName)) ∈ lw_all := lw_g (lw_at lw_m9 235 rfl) rfl
theorem q2257 : (Jvm.Cond.code ({ cls := "ArbitratedBus$Node", name := "flagBit", desc := "(Z)V" } : Jvm.MethodName) prog_10_method_14_code (2 : Nat) (Option.none : Option Jvm.ClassFile.FieldType)) ∈ lw_all := lw_g (lw_at lw_m9 236 rfl) rfl
theorem q2258 : (Jvm.Cond.methodLink "ArbitratedBus$Node" (234 : Nat) ({ cls := "ArbitratedBus$Node", name := "counts", desc := "(I)Z" } : Jvm.MethodName)) ∈ lw_all := lw_g (lw_at lw_m9 237 rfl) rfl
theorem q2259 : (Jvm.Cond.fieldLink "ArbitratedBus$Node" (238 : Nat) "ArbitratedBus$Phase" "DELIMITING" "LArbitratedBus$Phase;") ∈ lw_all := lw_g (lw_at lw_m9 238 rfl) rfl
theorem q2269 : (Jvm.Cond.privateMethod ({ cls := "ArbitratedBus$Node", name := "delimiter", desc := "(I)V" } : Jvm.MethodName)) ∈ lw_tbl := lw_at lw_m10 8 rfl
theorem q2270 : (Jvm.Cond.instanceMethod ({ cls := "ArbitratedBus$Node", name := "delimiter", desc := "(I)V" } : Jvm.MethodName)) ∈ lw_all := lw_g (lw_at lw_m10 9 rfl) rfl
theorem q2271 : (Jvm.Cond.code ({ cls := "ArbitratedBus$Node", name := "delimiter", desc := "(I)V" } : Jvm.MethodName) prog_10_method_15_code (3 : Nat) (Option.none : Option Jvm.ClassFile.FieldType)) ∈ lw_all := lw_g (lw_at lw_m10 10 rfl) rfl
theorem q2276 : (Jvm.Cond.privateMethod ({ cls := "ArbitratedBus$Node", name := "intermission", desc := "(I)V" } : Jvm.MethodName)) ∈ lw_tbl := lw_at lw_m10 15 rfl
theorem q2277 : (Jvm.Cond.instanceMethod ({ cls := "ArbitratedBus$Node", name := "intermission", desc := "(I)V" } : Jvm.MethodName)) ∈ lw_all := lw_g (lw_at lw_m10 16 rfl) rfl
theorem q2278 : (Jvm.Cond.code ({ cls := "ArbitratedBus$Node", name := "intermission", desc := "(I)V" } : Jvm.MethodName) prog_10_method_16_code (2 : Nat) (Option.none : Option Jvm.ClassFile.FieldType)) ∈ lw_all := lw_g (lw_at lw_m10 17 rfl) rfl
theorem q2279 : (Jvm.Cond.methodLink "ArbitratedBus$Node" (250 : Nat) ({ cls := "ArbitratedBus$Node", name := "begin", desc := "(Z)V" } : Jvm.MethodName)) ∈ lw_all := lw_g (lw_at lw_m10 18 rfl) rfl
theorem q2280 : (Jvm.Cond.fieldLink "ArbitratedBus$Node" (254 : Nat) "ArbitratedBus$Phase" "SUSPENDED" "LArbitratedBus$Phase;") ∈ lw_all := lw_g (lw_at lw_m10 19 rfl) rfl
theorem q2295 : (Jvm.Cond.instanceMethod ({ cls := "ArbitratedBus$Node", name := "isOn", desc := "()Z" } : Jvm.MethodName)) ∈ lw_all := lw_g (lw_at lw_m10 34 rfl) rfl
theorem q2296 : (Jvm.Cond.selects "ArbitratedBus$Node" ({ cls := "ArbitratedBus$Node", name := "isOn", desc := "()Z" } : Jvm.MethodName) ({ cls := "ArbitratedBus$Node", name := "isOn", desc := "()Z" } : Jvm.MethodName)) ∈ lw_all := lw_g (lw_at lw_m10 35 rfl) rfl
theorem q2297 : (Jvm.Cond.code ({ cls := "ArbitratedBus$Node", name := "isOn", desc := "()Z" } : Jvm.MethodName) prog_10_method_4_code (1 : Nat) (Option.some Jvm.ClassFile.FieldType.boolean)) ∈ lw_all := lw_g (lw_at lw_m10 36 rfl) rfl
theorem q2298 : (Jvm.Cond.fieldLink "ArbitratedBus$Node" (179 : Nat) "ArbitratedBus$Phase" "OUT" "LArbitratedBus$Phase;") ∈ lw_all := lw_g (lw_at lw_m10 37 rfl) rfl
theorem q2324 : (Jvm.Cond.instanceMethod ({ cls := "ArbitratedBus$Node", name := "isTransmitter", desc := "()Z" } : Jvm.MethodName)) ∈ lw_all := lw_g (lw_at lw_m10 63 rfl) rfl
theorem q2325 : (Jvm.Cond.selects "ArbitratedBus$Node" ({ cls := "ArbitratedBus$Node", name := "isTransmitter", desc := "()Z" } : Jvm.MethodName) ({ cls := "ArbitratedBus$Node", name := "isTransmitter", desc := "()Z" } : Jvm.MethodName)) ∈ lw_all := lw_g (lw_at lw_m10 64 rfl) rfl
theorem q2326 : (Jvm.Cond.code ({ cls := "ArbitratedBus$Node", name := "isTransmitter", desc := "()Z" } : Jvm.MethodName) prog_10_method_5_code (1 : Nat) (Option.some Jvm.ClassFile.FieldType.boolean)) ∈ lw_all := lw_g (lw_at lw_m10 65 rfl) rfl
theorem q2327 : (Jvm.Cond.methodLink "ArbitratedBus$Node" (185 : Nat) ({ cls := "ArbitratedBus$Phase", name := "ordinal", desc := "()I" } : Jvm.MethodName)) ∈ lw_all := lw_g (lw_at lw_m10 66 rfl) rfl
theorem q2328 : (Jvm.Cond.constantLong "ArbitratedBus$Node" (189 : Nat) (4 : Int64)) ∈ lw_all := lw_g (lw_at lw_m10 67 rfl) rfl
theorem q2329 : (Jvm.Cond.constantLong "ArbitratedBus$Node" (191 : Nat) (8 : Int64)) ∈ lw_all := lw_g (lw_at lw_m10 68 rfl) rfl
theorem q2330 : (Jvm.Cond.methodLinkNest "ArbitratedBus$Node" (193 : Nat) ({ cls := "ArbitratedBus", name := "isIn", desc := "(JJJ)Z" } : Jvm.MethodName) "ArbitratedBus") ∈ lw_tbl := lw_at lw_m10 69 rfl
theorem q2381 : (Jvm.Cond.instanceMethod ({ cls := "ArbitratedBus$Node", name := "waitingAt", desc := "(I)LArbitratedBus$Frame;" } : Jvm.MethodName)) ∈ lw_all := lw_g (lw_at lw_m10 120 rfl) rfl
theorem q2382 : (Jvm.Cond.selects "ArbitratedBus$Node" ({ cls := "ArbitratedBus$Node", name := "waitingAt", desc := "(I)LArbitratedBus$Frame;" } : Jvm.MethodName) ({ cls := "ArbitratedBus$Node", name := "waitingAt", desc := "(I)LArbitratedBus$Frame;" } : Jvm.MethodName)) ∈ lw_all := lw_g (lw_at lw_m10 121 rfl) rfl
theorem q2383 : (Jvm.Cond.code ({ cls := "ArbitratedBus$Node", name := "waitingAt", desc := "(I)LArbitratedBus$Frame;" } : Jvm.MethodName) prog_10_method_25_code (5 : Nat) (Option.some (Jvm.ClassFile.FieldType.object "ArbitratedBus$Frame"))) ∈ lw_all := lw_g (lw_at lw_m10 122 rfl) rfl
theorem q2384 : (Jvm.Cond.methodLink "ArbitratedBus$Node" (324 : Nat) ({ cls := "java/util/PriorityQueue", name := "poll", desc := "()Ljava/lang/Object;" } : Jvm.MethodName)) ∈ lw_all := lw_g (lw_at lw_m10 123 rfl) rfl
theorem q2403 : (Jvm.Cond.instanceMethod ({ cls := "ArbitratedBus$Node", name := "receivedAt", desc := "(I)LArbitratedBus$Frame;" } : Jvm.MethodName)) ∈ lw_all := lw_g (lw_at lw_m10 142 rfl) rfl
theorem q2404 : (Jvm.Cond.selects "ArbitratedBus$Node" ({ cls := "ArbitratedBus$Node", name := "receivedAt", desc := "(I)LArbitratedBus$Frame;" } : Jvm.MethodName) ({ cls := "ArbitratedBus$Node", name := "receivedAt", desc := "(I)LArbitratedBus$Frame;" } : Jvm.MethodName)) ∈ lw_all := lw_g (lw_at lw_m10 143 rfl) rfl
theorem q2405 : (Jvm.Cond.code ({ cls := "ArbitratedBus$Node", name := "receivedAt", desc := "(I)LArbitratedBus$Frame;" } : Jvm.MethodName) prog_10_method_26_code (5 : Nat) (Option.some (Jvm.ClassFile.FieldType.object "ArbitratedBus$Frame"))) ∈ lw_all := lw_g (lw_at lw_m10 144 rfl) rfl
theorem q2406 : (Jvm.Cond.methodLink "ArbitratedBus$Node" (123 : Nat) ({ cls := "java/util/ArrayDeque", name := "iterator", desc := "()Ljava/util/Iterator;" } : Jvm.MethodName)) ∈ lw_all := lw_g (lw_at lw_m10 145 rfl) rfl
theorem q2470 : (Jvm.Cond.instanceMethod ({ cls := "ArbitratedBus$Node", name := "<init>", desc := "(LArbitratedBus$Bus;LArbitratedBus$Node;)V" } : Jvm.MethodName)) ∈ lw_all := lw_g (lw_at lw_m10 209 rfl) rfl
theorem q2471 : (Jvm.Cond.code ({ cls := "ArbitratedBus$Node", name := "<init>", desc := "(LArbitratedBus$Bus;LArbitratedBus$Node;)V" } : Jvm.MethodName) prog_10_method_2_code (5 : Nat) (Option.none : Option Jvm.ClassFile.FieldType)) ∈ lw_all := lw_g (lw_at lw_m10 210 rfl) rfl
theorem q2472 : (Jvm.Cond.methodLink "ArbitratedBus$Node" (67 : Nat) ({ cls := "ArbitratedBus$Node", name := "<init>", desc := "(LArbitratedBus$Bus;)V" } : Jvm.MethodName)) ∈ lw_all := lw_g (lw_at lw_m10 211 rfl) rfl
theorem q2473 : (Jvm.Cond.methodLink "ArbitratedBus$Node" (99 : Nat) ({ cls := "ArbitratedBus$Sampled", name := "copyAll", desc := "(LArbitratedBus$Sampled;)V" } : Jvm.MethodName)) ∈ lw_all := lw_g (lw_at lw_m10 212 rfl) rfl
theorem q2477 : (Jvm.Cond.methodLink "ArbitratedBus$Node" (128 : Nat) ({ cls := "java/util/TreeMap", name := "keySet", desc := "()Ljava/util/Set;" } : Jvm.MethodName)) ∈ lw_all := lw_g (lw_at lw_m10 216 rfl) rfl
theorem q2498 : (Jvm.Cond.interfaceEntry "ArbitratedBus$Node" (132 : Nat)) ∈ lw_tbl := lw_at lw_m10 237 rfl
theorem q2499 : (Jvm.Cond.methodLink "ArbitratedBus$Node" (132 : Nat) ({ cls := "java/util/Set", name := "iterator", desc := "()Ljava/util/Iterator;" } : Jvm.MethodName)) ∈ lw_all := lw_g (lw_at lw_m10 238 rfl) rfl
theorem q2543 : (Jvm.Cond.classLink "ArbitratedBus$Node" (135 : Nat) "java/lang/Integer") ∈ lw_all := lw_g (lw_at lw_m11 42 rfl) rfl
theorem q2544 : (Jvm.Cond.methodLink "ArbitratedBus$Node" (143 : Nat) ({ cls := "java/util/TreeMap", name := "put", desc := "(Ljava/lang/Object;Ljava/lang/Object;)Ljava/lang/Object;" } : Jvm.MethodName)) ∈ lw_all := lw_g (lw_at lw_m11 43 rfl) rfl
theorem q2545 : (Jvm.Cond.methodLink "ArbitratedBus$Node" (156 : Nat) ({ cls := "java/lang/System", name := "arraycopy", desc := "(Ljava/lang/Object;ILjava/lang/Object;II)V" } : Jvm.MethodName)) ∈ lw_all := lw_g (lw_at lw_m11 44 rfl) rfl
theorem q3416 : (Jvm.Cond.castable "ArbitratedBus$Node" "java/lang/Object") ∈ lw_tbl := lw_at lw_m14 195 rfl
theorem in_X2 : ∀ w ∈ wsX20, w ∈ lw_all := lw_in wsX20 [419, 421, 423, 425, 427, 429, 431, 433, 435, 437, 439, 441, 443, 445, 447, 449, 451, 453, 455, 457, 459, 461, 463, 465] (by decide +kernel) (by decide +kernel)

/-! ArbitratedBus$Phase -/
set_option maxRecDepth 100000
def RX3 : String := "ArbitratedBus$Phase"
abbrev cX3_drive : ByteArray := prog_11_method_4_code
def yX3_drive : MethodName := ⟨RX3, "drive", "(LArbitratedBus$Node;)I"⟩
theorem dX3_drive_0 : decode cX3_drive 0 = .ok (.iconst 1, 1) := by decide +kernel
theorem dX3_drive_1 : decode cX3_drive 1 = .ok (.ireturn, 1) := by decide +kernel
theorem q110 : (Jvm.Cond.initialized "ArbitratedBus$Phase") ∈ lw_all := lw_g (lw_at lw_m1 9 rfl) rfl
theorem q228 : (Jvm.Cond.laysStatic "ArbitratedBus$Phase" "READY" "LArbitratedBus$Phase;") ∈ lw_tbl := lw_at lw_m1 127 rfl
theorem q1103 : (Jvm.Cond.laysStatic "ArbitratedBus$Phase" "OUT" "LArbitratedBus$Phase;") ∈ lw_tbl := lw_at lw_m5 42 rfl
theorem q1105 : (Jvm.Cond.sameMethod "ArbitratedBus$Phase" "java/lang/Enum" "ordinal" "()I") ∈ lw_all := lw_g (lw_at lw_m5 44 rfl) rfl
theorem q1128 : (Jvm.Cond.laysStatic "ArbitratedBus$Phase" "LISTENING" "LArbitratedBus$Phase;") ∈ lw_tbl := lw_at lw_m5 67 rfl
theorem q1750 : (Jvm.Cond.laysStatic "ArbitratedBus$Phase" "BUSY" "LArbitratedBus$Phase;") ∈ lw_tbl := lw_at lw_m7 209 rfl
theorem q1819 : (Jvm.Cond.instanceMethod ({ cls := "ArbitratedBus$Phase", name := "drive", desc := "(LArbitratedBus$Node;)I" } : Jvm.MethodName)) ∈ lw_all := lw_g (lw_at lw_m8 38 rfl) rfl
theorem q1820 : (Jvm.Cond.sameMethod "ArbitratedBus$Phase" "ArbitratedBus$Phase" "drive" "(LArbitratedBus$Node;)I") ∈ lw_all := lw_g (lw_at lw_m8 39 rfl) rfl
theorem q1870 : (Jvm.Cond.code ({ cls := "ArbitratedBus$Phase", name := "drive", desc := "(LArbitratedBus$Node;)I" } : Jvm.MethodName) prog_11_method_4_code (2 : Nat) (Option.some Jvm.ClassFile.FieldType.int)) ∈ lw_all := lw_g (lw_at lw_m8 89 rfl) rfl
theorem q2123 : (Jvm.Cond.declares ({ cls := "ArbitratedBus$Phase", name := "act", desc := "(LArbitratedBus$Node;I)V" } : Jvm.MethodName)) ∈ lw_tbl := lw_at lw_m9 102 rfl
theorem q2124 : (Jvm.Cond.sameMethod "ArbitratedBus$Phase" "ArbitratedBus$Phase" "act" "(LArbitratedBus$Node;I)V") ∈ lw_all := lw_g (lw_at lw_m9 103 rfl) rfl
theorem q2202 : (Jvm.Cond.laysStatic "ArbitratedBus$Phase" "SILENT" "LArbitratedBus$Phase;") ∈ lw_tbl := lw_at lw_m9 181 rfl
theorem q2204 : (Jvm.Cond.laysStatic "ArbitratedBus$Phase" "FLAGGING" "LArbitratedBus$Phase;") ∈ lw_tbl := lw_at lw_m9 183 rfl
theorem q2223 : (Jvm.Cond.laysStatic "ArbitratedBus$Phase" "OVERLOADED" "LArbitratedBus$Phase;") ∈ lw_tbl := lw_at lw_m9 202 rfl
theorem q2234 : (Jvm.Cond.laysStatic "ArbitratedBus$Phase" "PAUSING" "LArbitratedBus$Phase;") ∈ lw_tbl := lw_at lw_m9 213 rfl
theorem q2260 : (Jvm.Cond.laysStatic "ArbitratedBus$Phase" "DELIMITING" "LArbitratedBus$Phase;") ∈ lw_tbl := lw_at lw_m9 239 rfl
theorem q2281 : (Jvm.Cond.laysStatic "ArbitratedBus$Phase" "SUSPENDED" "LArbitratedBus$Phase;") ∈ lw_tbl := lw_at lw_m10 20 rfl
theorem q3469 : (Jvm.Cond.castable "ArbitratedBus$Phase" "java/lang/Object") ∈ lw_tbl := lw_at lw_m15 8 rfl

/-! ArbitratedBus$Stuffing -/
set_option maxRecDepth 100000
def RX4 : String := "ArbitratedBus$Stuffing"
def TX4 : u_T := fun k => match k with
  | 0 => ("ArbitratedBus$Stuffing", "last", "I", false)
  | _ => ("ArbitratedBus$Stuffing", "run", "I", false)
def tyX4 : Nat → FieldType := fun k => match k with
  | 0 => .int
  | _ => .int
abbrev wsX40 : List Cond := u_ws RX4 TX4 2
theorem nmX4 : ∀ a, a < 2 → ∀ b, b < 2 → a ≠ b → (TX4 a).2.1 ≠ (TX4 b).2.1 := by decide +kernel
theorem tyX4_ok : ∀ k, k < 2 → parseFieldDescriptor (TX4 k).2.2.1 = some (tyX4 k) := by decide +kernel
abbrev cX4_init : ByteArray := prog_24_method_1_code
def yX4_init : MethodName := ⟨RX4, "<init>", "()V"⟩
def dkwX4_init_0 : List UInt8 := [42, 183, 0, 1, 42, 2, 181, 0, 7, 177]
abbrev dktX4_init_0 : List UInt8 := dkwX4_init_0 ++ []
theorem dksX4_init_0 : cX4_init.data.toList.drop 0 = dktX4_init_0 := by decide +kernel
theorem dX4_init_0 : decode cX4_init 0 = .ok (.aload_n 0, 1) := dk_42 (dk_at dksX4_init_0 0 rfl rfl)
theorem dX4_init_1 : decode cX4_init 1 = .ok (.invokespecial 1, 3) := dk_183 0 1 (dk_at dksX4_init_0 1 rfl rfl)
theorem dX4_init_4 : decode cX4_init 4 = .ok (.aload_n 0, 1) := dk_42 (dk_at dksX4_init_0 4 rfl rfl)
theorem dX4_init_5 : decode cX4_init 5 = .ok (.iconst (-1), 1) := dk_2 (dk_at dksX4_init_0 5 rfl rfl)
theorem dX4_init_6 : decode cX4_init 6 = .ok (.putfield 7, 3) := dk_181 0 7 (dk_at dksX4_init_0 6 rfl rfl)
theorem dX4_init_9 : decode cX4_init 9 = .ok (.return_, 1) := dk_177 (dk_at dksX4_init_0 9 rfl rfl)
abbrev cX4_isDue : ByteArray := prog_24_method_3_code
def yX4_isDue : MethodName := ⟨RX4, "isDue", "()Z"⟩
def dkwX4_isDue_0 : List UInt8 := [42, 180, 0, 13, 8, 160, 0, 7, 4, 167, 0, 4, 3, 172]
abbrev dktX4_isDue_0 : List UInt8 := dkwX4_isDue_0 ++ []
theorem dksX4_isDue_0 : cX4_isDue.data.toList.drop 0 = dktX4_isDue_0 := by decide +kernel
theorem dX4_isDue_0 : decode cX4_isDue 0 = .ok (.aload_n 0, 1) := dk_42 (dk_at dksX4_isDue_0 0 rfl rfl)
theorem dX4_isDue_1 : decode cX4_isDue 1 = .ok (.getfield 13, 3) := dk_180 0 13 (dk_at dksX4_isDue_0 1 rfl rfl)
theorem dX4_isDue_4 : decode cX4_isDue 4 = .ok (.iconst 5, 1) := dk_8 (dk_at dksX4_isDue_0 4 rfl rfl)
theorem dX4_isDue_5 : decode cX4_isDue 5 = .ok (.if_icmp .ne 7, 3) := dk_160 0 7 (dk_at dksX4_isDue_0 5 rfl rfl)
theorem dX4_isDue_8 : decode cX4_isDue 8 = .ok (.iconst 1, 1) := dk_4 (dk_at dksX4_isDue_0 8 rfl rfl)
theorem dX4_isDue_9 : decode cX4_isDue 9 = .ok (.goto 4, 3) := dk_167 0 4 (dk_at dksX4_isDue_0 9 rfl rfl)
theorem dX4_isDue_12 : decode cX4_isDue 12 = .ok (.iconst 0, 1) := dk_3 (dk_at dksX4_isDue_0 12 rfl rfl)
theorem dX4_isDue_13 : decode cX4_isDue 13 = .ok (.ireturn, 1) := dk_172 (dk_at dksX4_isDue_0 13 rfl rfl)
abbrev cX4_stuff : ByteArray := prog_24_method_4_code
def yX4_stuff : MethodName := ⟨RX4, "stuff", "()I"⟩
def dkwX4_stuff_0 : List UInt8 := [4, 42, 180, 0, 7, 100, 172]
abbrev dktX4_stuff_0 : List UInt8 := dkwX4_stuff_0 ++ []
theorem dksX4_stuff_0 : cX4_stuff.data.toList.drop 0 = dktX4_stuff_0 := by decide +kernel
theorem dX4_stuff_0 : decode cX4_stuff 0 = .ok (.iconst 1, 1) := dk_4 (dk_at dksX4_stuff_0 0 rfl rfl)
theorem dX4_stuff_1 : decode cX4_stuff 1 = .ok (.aload_n 0, 1) := dk_42 (dk_at dksX4_stuff_0 1 rfl rfl)
theorem dX4_stuff_2 : decode cX4_stuff 2 = .ok (.getfield 7, 3) := dk_180 0 7 (dk_at dksX4_stuff_0 2 rfl rfl)
theorem dX4_stuff_5 : decode cX4_stuff 5 = .ok (.isub, 1) := dk_100 (dk_at dksX4_stuff_0 5 rfl rfl)
theorem dX4_stuff_6 : decode cX4_stuff 6 = .ok (.ireturn, 1) := dk_172 (dk_at dksX4_stuff_0 6 rfl rfl)
abbrev cX4_see : ByteArray := prog_24_method_2_code
def yX4_see : MethodName := ⟨RX4, "see", "(I)V"⟩
def dkwX4_see_1 : List UInt8 := [181, 0, 7, 177]
abbrev dktX4_see_1 : List UInt8 := dkwX4_see_1 ++ []
def dkwX4_see_0 : List UInt8 := [42, 27, 42, 180, 0, 7, 160, 0, 12, 42, 180, 0, 13, 4, 96, 167, 0, 4, 4, 181, 0, 13, 42, 27]
abbrev dktX4_see_0 : List UInt8 := dkwX4_see_0 ++ dktX4_see_1
theorem dksX4_see_0 : cX4_see.data.toList.drop 0 = dktX4_see_0 := by decide +kernel
theorem dksX4_see_1 : cX4_see.data.toList.drop 24 = dktX4_see_1 := dk_seg dksX4_see_0 24 rfl rfl
theorem dX4_see_0 : decode cX4_see 0 = .ok (.aload_n 0, 1) := dk_42 (dk_at dksX4_see_0 0 rfl rfl)
theorem dX4_see_1 : decode cX4_see 1 = .ok (.iload_n 1, 1) := dk_27 (dk_at dksX4_see_0 1 rfl rfl)
theorem dX4_see_2 : decode cX4_see 2 = .ok (.aload_n 0, 1) := dk_42 (dk_at dksX4_see_0 2 rfl rfl)
theorem dX4_see_3 : decode cX4_see 3 = .ok (.getfield 7, 3) := dk_180 0 7 (dk_at dksX4_see_0 3 rfl rfl)
theorem dX4_see_6 : decode cX4_see 6 = .ok (.if_icmp .ne 12, 3) := dk_160 0 12 (dk_at dksX4_see_0 6 rfl rfl)
theorem dX4_see_9 : decode cX4_see 9 = .ok (.aload_n 0, 1) := dk_42 (dk_at dksX4_see_0 9 rfl rfl)
theorem dX4_see_10 : decode cX4_see 10 = .ok (.getfield 13, 3) := dk_180 0 13 (dk_at dksX4_see_0 10 rfl rfl)
theorem dX4_see_13 : decode cX4_see 13 = .ok (.iconst 1, 1) := dk_4 (dk_at dksX4_see_0 13 rfl rfl)
theorem dX4_see_14 : decode cX4_see 14 = .ok (.iadd, 1) := dk_96 (dk_at dksX4_see_0 14 rfl rfl)
theorem dX4_see_15 : decode cX4_see 15 = .ok (.goto 4, 3) := dk_167 0 4 (dk_at dksX4_see_0 15 rfl rfl)
theorem dX4_see_18 : decode cX4_see 18 = .ok (.iconst 1, 1) := dk_4 (dk_at dksX4_see_0 18 rfl rfl)
theorem dX4_see_19 : decode cX4_see 19 = .ok (.putfield 13, 3) := dk_181 0 13 (dk_at dksX4_see_0 19 rfl rfl)
theorem dX4_see_22 : decode cX4_see 22 = .ok (.aload_n 0, 1) := dk_42 (dk_at dksX4_see_0 22 rfl rfl)
theorem dX4_see_23 : decode cX4_see 23 = .ok (.iload_n 1, 1) := dk_27 (dk_at dksX4_see_0 23 rfl rfl)
theorem dX4_see_24 : decode cX4_see 24 = .ok (.putfield 7, 3) := dk_181 0 7 (dk_at dksX4_see_1 0 rfl rfl)
theorem dX4_see_27 : decode cX4_see 27 = .ok (.return_, 1) := dk_177 (dk_at dksX4_see_1 3 rfl rfl)
abbrev cX4_copy : ByteArray := prog_24_method_5_code
def yX4_copy : MethodName := ⟨RX4, "copy", "(LArbitratedBus$Stuffing;)V"⟩
def dkwX4_copy_0 : List UInt8 := [42, 43, 180, 0, 7, 181, 0, 7, 42, 43, 180, 0, 13, 181, 0, 13, 177]
abbrev dktX4_copy_0 : List UInt8 := dkwX4_copy_0 ++ []
theorem dksX4_copy_0 : cX4_copy.data.toList.drop 0 = dktX4_copy_0 := by decide +kernel
theorem dX4_copy_0 : decode cX4_copy 0 = .ok (.aload_n 0, 1) := dk_42 (dk_at dksX4_copy_0 0 rfl rfl)
theorem dX4_copy_1 : decode cX4_copy 1 = .ok (.aload_n 1, 1) := dk_43 (dk_at dksX4_copy_0 1 rfl rfl)
theorem dX4_copy_2 : decode cX4_copy 2 = .ok (.getfield 7, 3) := dk_180 0 7 (dk_at dksX4_copy_0 2 rfl rfl)
theorem dX4_copy_5 : decode cX4_copy 5 = .ok (.putfield 7, 3) := dk_181 0 7 (dk_at dksX4_copy_0 5 rfl rfl)
theorem dX4_copy_8 : decode cX4_copy 8 = .ok (.aload_n 0, 1) := dk_42 (dk_at dksX4_copy_0 8 rfl rfl)
theorem dX4_copy_9 : decode cX4_copy 9 = .ok (.aload_n 1, 1) := dk_43 (dk_at dksX4_copy_0 9 rfl rfl)
theorem dX4_copy_10 : decode cX4_copy 10 = .ok (.getfield 13, 3) := dk_180 0 13 (dk_at dksX4_copy_0 10 rfl rfl)
theorem dX4_copy_13 : decode cX4_copy 13 = .ok (.putfield 13, 3) := dk_181 0 13 (dk_at dksX4_copy_0 13 rfl rfl)
theorem dX4_copy_16 : decode cX4_copy 16 = .ok (.return_, 1) := dk_177 (dk_at dksX4_copy_0 16 rfl rfl)
theorem q111 : (Jvm.Cond.initialized "ArbitratedBus$Stuffing") ∈ lw_all := lw_g (lw_at lw_m1 10 rfl) rfl
theorem q235 : (Jvm.Cond.instanceMethod ({ cls := "ArbitratedBus$Stuffing", name := "<init>", desc := "()V" } : Jvm.MethodName)) ∈ lw_all := lw_g (lw_at lw_m1 134 rfl) rfl
theorem q236 : (Jvm.Cond.code ({ cls := "ArbitratedBus$Stuffing", name := "<init>", desc := "()V" } : Jvm.MethodName) prog_24_method_1_code (1 : Nat) (Option.none : Option Jvm.ClassFile.FieldType)) ∈ lw_all := lw_g (lw_at lw_m1 135 rfl) rfl
theorem q237 : (Jvm.Cond.methodLink "ArbitratedBus$Stuffing" (1 : Nat) ({ cls := "java/lang/Object", name := "<init>", desc := "()V" } : Jvm.MethodName)) ∈ lw_all := lw_g (lw_at lw_m1 136 rfl) rfl
theorem q252 : (Jvm.Cond.fieldLink "ArbitratedBus$Stuffing" (7 : Nat) "ArbitratedBus$Stuffing" "last" "I") ∈ lw_all := lw_g (lw_at lw_m1 151 rfl) rfl
theorem q253 : (Jvm.Cond.fieldLink "ArbitratedBus$Stuffing" (13 : Nat) "ArbitratedBus$Stuffing" "run" "I") ∈ lw_all := lw_g (lw_at lw_m1 152 rfl) rfl
theorem q271 : (Jvm.Cond.soleField "ArbitratedBus$Stuffing" "last") ∈ lw_all := lw_g (lw_at lw_m1 170 rfl) rfl
theorem q273 : (Jvm.Cond.soleField "ArbitratedBus$Stuffing" "run") ∈ lw_all := lw_g (lw_at lw_m1 172 rfl) rfl
theorem q694 : (Jvm.Cond.selects "ArbitratedBus$Stuffing" ({ cls := "java/lang/Object", name := "getClass", desc := "()Ljava/lang/Class;" } : Jvm.MethodName) ({ cls := "java/lang/Object", name := "getClass", desc := "()Ljava/lang/Class;" } : Jvm.MethodName)) ∈ lw_all := lw_g (lw_at lw_m3 113 rfl) rfl
theorem q1283 : (Jvm.Cond.instanceMethod ({ cls := "ArbitratedBus$Stuffing", name := "isDue", desc := "()Z" } : Jvm.MethodName)) ∈ lw_all := lw_g (lw_at lw_m5 222 rfl) rfl
theorem q1284 : (Jvm.Cond.selects "ArbitratedBus$Stuffing" ({ cls := "ArbitratedBus$Stuffing", name := "isDue", desc := "()Z" } : Jvm.MethodName) ({ cls := "ArbitratedBus$Stuffing", name := "isDue", desc := "()Z" } : Jvm.MethodName)) ∈ lw_all := lw_g (lw_at lw_m5 223 rfl) rfl
theorem q1285 : (Jvm.Cond.sameMethod "ArbitratedBus$Stuffing" "ArbitratedBus$Stuffing" "isDue" "()Z") ∈ lw_all := lw_g (lw_at lw_m5 224 rfl) rfl
theorem q1287 : (Jvm.Cond.code ({ cls := "ArbitratedBus$Stuffing", name := "isDue", desc := "()Z" } : Jvm.MethodName) prog_24_method_3_code (1 : Nat) (Option.some Jvm.ClassFile.FieldType.boolean)) ∈ lw_all := lw_g (lw_at lw_m5 226 rfl) rfl
theorem q1355 : (Jvm.Cond.instanceMethod ({ cls := "ArbitratedBus$Stuffing", name := "stuff", desc := "()I" } : Jvm.MethodName)) ∈ lw_all := lw_g (lw_at lw_m6 54 rfl) rfl
theorem q1356 : (Jvm.Cond.selects "ArbitratedBus$Stuffing" ({ cls := "ArbitratedBus$Stuffing", name := "stuff", desc := "()I" } : Jvm.MethodName) ({ cls := "ArbitratedBus$Stuffing", name := "stuff", desc := "()I" } : Jvm.MethodName)) ∈ lw_all := lw_g (lw_at lw_m6 55 rfl) rfl
theorem q1357 : (Jvm.Cond.sameMethod "ArbitratedBus$Stuffing" "ArbitratedBus$Stuffing" "stuff" "()I") ∈ lw_all := lw_g (lw_at lw_m6 56 rfl) rfl
theorem q1359 : (Jvm.Cond.code ({ cls := "ArbitratedBus$Stuffing", name := "stuff", desc := "()I" } : Jvm.MethodName) prog_24_method_4_code (1 : Nat) (Option.some Jvm.ClassFile.FieldType.int)) ∈ lw_all := lw_g (lw_at lw_m6 58 rfl) rfl
theorem q1377 : (Jvm.Cond.instanceMethod ({ cls := "ArbitratedBus$Stuffing", name := "see", desc := "(I)V" } : Jvm.MethodName)) ∈ lw_all := lw_g (lw_at lw_m6 76 rfl) rfl
theorem q1378 : (Jvm.Cond.selects "ArbitratedBus$Stuffing" ({ cls := "ArbitratedBus$Stuffing", name := "see", desc := "(I)V" } : Jvm.MethodName) ({ cls := "ArbitratedBus$Stuffing", name := "see", desc := "(I)V" } : Jvm.MethodName)) ∈ lw_all := lw_g (lw_at lw_m6 77 rfl) rfl
theorem q1379 : (Jvm.Cond.sameMethod "ArbitratedBus$Stuffing" "ArbitratedBus$Stuffing" "see" "(I)V") ∈ lw_all := lw_g (lw_at lw_m6 78 rfl) rfl
theorem q1381 : (Jvm.Cond.code ({ cls := "ArbitratedBus$Stuffing", name := "see", desc := "(I)V" } : Jvm.MethodName) prog_24_method_2_code (2 : Nat) (Option.none : Option Jvm.ClassFile.FieldType)) ∈ lw_all := lw_g (lw_at lw_m6 80 rfl) rfl
theorem q1850 : (Jvm.Cond.declares ({ cls := "ArbitratedBus$Stuffing", name := "isDue", desc := "()Z" } : Jvm.MethodName)) ∈ lw_tbl := lw_at lw_m8 69 rfl
theorem q1855 : (Jvm.Cond.declares ({ cls := "ArbitratedBus$Stuffing", name := "stuff", desc := "()I" } : Jvm.MethodName)) ∈ lw_tbl := lw_at lw_m8 74 rfl
theorem q2141 : (Jvm.Cond.instantiable "ArbitratedBus$Stuffing" (2 : Nat)) ∈ lw_all := lw_g (lw_at lw_m9 120 rfl) rfl
theorem q2142 : (Jvm.Cond.lays "ArbitratedBus$Stuffing" "ArbitratedBus$Stuffing" "last" "I") ∈ lw_all := lw_g (lw_at lw_m9 121 rfl) rfl
theorem q2143 : (Jvm.Cond.lays "ArbitratedBus$Stuffing" "ArbitratedBus$Stuffing" "run" "I") ∈ lw_all := lw_g (lw_at lw_m9 122 rfl) rfl
theorem q2144 : (Jvm.Cond.superclass "ArbitratedBus$Stuffing" "java/lang/Object") ∈ lw_all := lw_g (lw_at lw_m9 123 rfl) rfl
theorem q2147 : (Jvm.Cond.declares ({ cls := "ArbitratedBus$Stuffing", name := "copy", desc := "(LArbitratedBus$Stuffing;)V" } : Jvm.MethodName)) ∈ lw_tbl := lw_at lw_m9 126 rfl
theorem q2149 : (Jvm.Cond.instanceMethod ({ cls := "ArbitratedBus$Stuffing", name := "copy", desc := "(LArbitratedBus$Stuffing;)V" } : Jvm.MethodName)) ∈ lw_all := lw_g (lw_at lw_m9 128 rfl) rfl
theorem q2150 : (Jvm.Cond.code ({ cls := "ArbitratedBus$Stuffing", name := "copy", desc := "(LArbitratedBus$Stuffing;)V" } : Jvm.MethodName) prog_24_method_5_code (2 : Nat) (Option.none : Option Jvm.ClassFile.FieldType)) ∈ lw_all := lw_g (lw_at lw_m9 129 rfl) rfl
theorem q2153 : (Jvm.Cond.declares ({ cls := "ArbitratedBus$Stuffing", name := "see", desc := "(I)V" } : Jvm.MethodName)) ∈ lw_tbl := lw_at lw_m9 132 rfl
theorem q3446 : (Jvm.Cond.castable "ArbitratedBus$Stuffing" "java/lang/Object") ∈ lw_tbl := lw_at lw_m14 225 rfl
theorem in_X4 : ∀ w ∈ wsX40, w ∈ lw_all := lw_in wsX40 [2142, 2143] (by decide +kernel) (by decide +kernel)

/-! ArbitratedBus$Sampled -/
set_option maxRecDepth 100000
def RX5 : String := "ArbitratedBus$Sampled"
def TX5 : u_T := fun k => match k with
  | 0 => ("ArbitratedBus$Stuffing", "last", "I", false)
  | 1 => ("ArbitratedBus$Stuffing", "run", "I", false)
  | 2 => ("ArbitratedBus$Sampled", "place", "I", false)
  | 3 => ("ArbitratedBus$Sampled", "identifier", "I", false)
  | 4 => ("ArbitratedBus$Sampled", "remote", "Z", false)
  | 5 => ("ArbitratedBus$Sampled", "length", "I", false)
  | 6 => ("ArbitratedBus$Sampled", "data", "I", false)
  | 7 => ("ArbitratedBus$Sampled", "register", "I", false)
  | 8 => ("ArbitratedBus$Sampled", "check", "I", false)
  | _ => ("ArbitratedBus$Sampled", "tail", "I", false)
def tyX5 : Nat → FieldType := fun k => match k with
  | 0 => .int
  | 1 => .int
  | 2 => .int
  | 3 => .int
  | 4 => .boolean
  | 5 => .int
  | 6 => .int
  | 7 => .int
  | 8 => .int
  | _ => .int
abbrev wsX50 : List Cond := u_ws RX5 TX5 10
theorem nmX5 : ∀ a, a < 10 → ∀ b, b < 10 → a ≠ b → (TX5 a).2.1 ≠ (TX5 b).2.1 := by decide +kernel
theorem tyX5_ok : ∀ k, k < 10 → parseFieldDescriptor (TX5 k).2.2.1 = some (tyX5 k) := by decide +kernel
abbrev cX5_init : ByteArray := prog_23_method_1_code
def yX5_init : MethodName := ⟨RX5, "<init>", "()V"⟩
theorem dX5_init_0 : decode cX5_init 0 = .ok (.aload_n 0, 1) := by decide +kernel
theorem dX5_init_1 : decode cX5_init 1 = .ok (.invokespecial 3, 3) := by decide +kernel
theorem dX5_init_4 : decode cX5_init 4 = .ok (.return_, 1) := by decide +kernel
abbrev cX5_isStuffed : ByteArray := prog_23_method_5_code
def yX5_isStuffed : MethodName := ⟨RX5, "isStuffed", "()Z"⟩
def dkwX5_isStuffed_1 : List UInt8 := [182, 0, 45, 153, 0, 7, 4, 167, 0, 4, 3, 172]
abbrev dktX5_isStuffed_1 : List UInt8 := dkwX5_isStuffed_1 ++ []
def dkwX5_isStuffed_0 : List UInt8 := [42, 180, 0, 15, 16, 19, 161, 0, 24, 42, 180, 0, 15, 42, 182, 0, 41, 16, 15, 96, 161, 0, 10, 42]
abbrev dktX5_isStuffed_0 : List UInt8 := dkwX5_isStuffed_0 ++ dktX5_isStuffed_1
theorem dksX5_isStuffed_0 : cX5_isStuffed.data.toList.drop 0 = dktX5_isStuffed_0 := by decide +kernel
theorem dksX5_isStuffed_1 : cX5_isStuffed.data.toList.drop 24 = dktX5_isStuffed_1 := dk_seg dksX5_isStuffed_0 24 rfl rfl
theorem dX5_isStuffed_0 : decode cX5_isStuffed 0 = .ok (.aload_n 0, 1) := dk_42 (dk_at dksX5_isStuffed_0 0 rfl rfl)
theorem dX5_isStuffed_1 : decode cX5_isStuffed 1 = .ok (.getfield 15, 3) := dk_180 0 15 (dk_at dksX5_isStuffed_0 1 rfl rfl)
theorem dX5_isStuffed_4 : decode cX5_isStuffed 4 = .ok (.bipush 19, 2) := dk_16 19 (dk_at dksX5_isStuffed_0 4 rfl rfl)
theorem dX5_isStuffed_6 : decode cX5_isStuffed 6 = .ok (.if_icmp .lt 24, 3) := dk_161 0 24 (dk_at dksX5_isStuffed_0 6 rfl rfl)
theorem dX5_isStuffed_9 : decode cX5_isStuffed 9 = .ok (.aload_n 0, 1) := dk_42 (dk_at dksX5_isStuffed_0 9 rfl rfl)
theorem dX5_isStuffed_10 : decode cX5_isStuffed 10 = .ok (.getfield 15, 3) := dk_180 0 15 (dk_at dksX5_isStuffed_0 10 rfl rfl)
theorem dX5_isStuffed_13 : decode cX5_isStuffed 13 = .ok (.aload_n 0, 1) := dk_42 (dk_at dksX5_isStuffed_0 13 rfl rfl)
theorem dX5_isStuffed_14 : decode cX5_isStuffed 14 = .ok (.invokevirtual 41, 3) := dk_182 0 41 (dk_at dksX5_isStuffed_0 14 rfl rfl)
theorem dX5_isStuffed_17 : decode cX5_isStuffed 17 = .ok (.bipush 15, 2) := dk_16 15 (dk_at dksX5_isStuffed_0 17 rfl rfl)
theorem dX5_isStuffed_19 : decode cX5_isStuffed 19 = .ok (.iadd, 1) := dk_96 (dk_at dksX5_isStuffed_0 19 rfl rfl)
theorem dX5_isStuffed_20 : decode cX5_isStuffed 20 = .ok (.if_icmp .lt 10, 3) := dk_161 0 10 (dk_at dksX5_isStuffed_0 20 rfl rfl)
theorem dX5_isStuffed_23 : decode cX5_isStuffed 23 = .ok (.aload_n 0, 1) := dk_42 (dk_at dksX5_isStuffed_0 23 rfl rfl)
theorem dX5_isStuffed_24 : decode cX5_isStuffed 24 = .ok (.invokevirtual 45, 3) := dk_182 0 45 (dk_at dksX5_isStuffed_1 0 rfl rfl)
theorem dX5_isStuffed_27 : decode cX5_isStuffed 27 = .ok (.ifCond .eq 7, 3) := dk_153 0 7 (dk_at dksX5_isStuffed_1 3 rfl rfl)
theorem dX5_isStuffed_30 : decode cX5_isStuffed 30 = .ok (.iconst 1, 1) := dk_4 (dk_at dksX5_isStuffed_1 6 rfl rfl)
theorem dX5_isStuffed_31 : decode cX5_isStuffed 31 = .ok (.goto 4, 3) := dk_167 0 4 (dk_at dksX5_isStuffed_1 7 rfl rfl)
theorem dX5_isStuffed_34 : decode cX5_isStuffed 34 = .ok (.iconst 0, 1) := dk_3 (dk_at dksX5_isStuffed_1 10 rfl rfl)
theorem dX5_isStuffed_35 : decode cX5_isStuffed 35 = .ok (.ireturn, 1) := dk_172 (dk_at dksX5_isStuffed_1 11 rfl rfl)
abbrev cX5_bare : ByteArray := prog_23_method_4_code
def yX5_bare : MethodName := ⟨RX5, "bare", "()I"⟩
def dkwX5_bare_0 : List UInt8 := [16, 19, 42, 180, 0, 22, 153, 0, 7, 3, 167, 0, 10, 16, 8, 42, 180, 0, 26, 104, 96, 172]
abbrev dktX5_bare_0 : List UInt8 := dkwX5_bare_0 ++ []
theorem dksX5_bare_0 : cX5_bare.data.toList.drop 0 = dktX5_bare_0 := by decide +kernel
theorem dX5_bare_0 : decode cX5_bare 0 = .ok (.bipush 19, 2) := dk_16 19 (dk_at dksX5_bare_0 0 rfl rfl)
theorem dX5_bare_2 : decode cX5_bare 2 = .ok (.aload_n 0, 1) := dk_42 (dk_at dksX5_bare_0 2 rfl rfl)
theorem dX5_bare_3 : decode cX5_bare 3 = .ok (.getfield 22, 3) := dk_180 0 22 (dk_at dksX5_bare_0 3 rfl rfl)
theorem dX5_bare_6 : decode cX5_bare 6 = .ok (.ifCond .eq 7, 3) := dk_153 0 7 (dk_at dksX5_bare_0 6 rfl rfl)
theorem dX5_bare_9 : decode cX5_bare 9 = .ok (.iconst 0, 1) := dk_3 (dk_at dksX5_bare_0 9 rfl rfl)
theorem dX5_bare_10 : decode cX5_bare 10 = .ok (.goto 10, 3) := dk_167 0 10 (dk_at dksX5_bare_0 10 rfl rfl)
theorem dX5_bare_13 : decode cX5_bare 13 = .ok (.bipush 8, 2) := dk_16 8 (dk_at dksX5_bare_0 13 rfl rfl)
theorem dX5_bare_15 : decode cX5_bare 15 = .ok (.aload_n 0, 1) := dk_42 (dk_at dksX5_bare_0 15 rfl rfl)
theorem dX5_bare_16 : decode cX5_bare 16 = .ok (.getfield 26, 3) := dk_180 0 26 (dk_at dksX5_bare_0 16 rfl rfl)
theorem dX5_bare_19 : decode cX5_bare 19 = .ok (.imul, 1) := dk_104 (dk_at dksX5_bare_0 19 rfl rfl)
theorem dX5_bare_20 : decode cX5_bare 20 = .ok (.iadd, 1) := dk_96 (dk_at dksX5_bare_0 20 rfl rfl)
theorem dX5_bare_21 : decode cX5_bare 21 = .ok (.ireturn, 1) := dk_172 (dk_at dksX5_bare_0 21 rfl rfl)
abbrev cX5_isIntact : ByteArray := prog_23_method_6_code
def yX5_isIntact : MethodName := ⟨RX5, "isIntact", "()Z"⟩
def dkwX5_isIntact_0 : List UInt8 := [42, 180, 0, 32, 42, 180, 0, 35, 160, 0, 7, 4, 167, 0, 4, 3, 172]
abbrev dktX5_isIntact_0 : List UInt8 := dkwX5_isIntact_0 ++ []
theorem dksX5_isIntact_0 : cX5_isIntact.data.toList.drop 0 = dktX5_isIntact_0 := by decide +kernel
theorem dX5_isIntact_0 : decode cX5_isIntact 0 = .ok (.aload_n 0, 1) := dk_42 (dk_at dksX5_isIntact_0 0 rfl rfl)
theorem dX5_isIntact_1 : decode cX5_isIntact 1 = .ok (.getfield 32, 3) := dk_180 0 32 (dk_at dksX5_isIntact_0 1 rfl rfl)
theorem dX5_isIntact_4 : decode cX5_isIntact 4 = .ok (.aload_n 0, 1) := dk_42 (dk_at dksX5_isIntact_0 4 rfl rfl)
theorem dX5_isIntact_5 : decode cX5_isIntact 5 = .ok (.getfield 35, 3) := dk_180 0 35 (dk_at dksX5_isIntact_0 5 rfl rfl)
theorem dX5_isIntact_8 : decode cX5_isIntact 8 = .ok (.if_icmp .ne 7, 3) := dk_160 0 7 (dk_at dksX5_isIntact_0 8 rfl rfl)
theorem dX5_isIntact_11 : decode cX5_isIntact 11 = .ok (.iconst 1, 1) := dk_4 (dk_at dksX5_isIntact_0 11 rfl rfl)
theorem dX5_isIntact_12 : decode cX5_isIntact 12 = .ok (.goto 4, 3) := dk_167 0 4 (dk_at dksX5_isIntact_0 12 rfl rfl)
theorem dX5_isIntact_15 : decode cX5_isIntact 15 = .ok (.iconst 0, 1) := dk_3 (dk_at dksX5_isIntact_0 15 rfl rfl)
theorem dX5_isIntact_16 : decode cX5_isIntact 16 = .ok (.ireturn, 1) := dk_172 (dk_at dksX5_isIntact_0 16 rfl rfl)
abbrev cX5_clear : ByteArray := prog_23_method_2_code
def yX5_clear : MethodName := ⟨RX5, "clear", "()V"⟩
def dkwX5_clear_2 : List UInt8 := [3, 181, 0, 38, 177]
abbrev dktX5_clear_2 : List UInt8 := dkwX5_clear_2 ++ []
def dkwX5_clear_1 : List UInt8 := [181, 0, 22, 42, 3, 181, 0, 26, 42, 3, 181, 0, 29, 42, 3, 181, 0, 32, 42, 3, 181, 0, 35, 42]
abbrev dktX5_clear_1 : List UInt8 := dkwX5_clear_1 ++ dktX5_clear_2
def dkwX5_clear_0 : List UInt8 := [42, 187, 0, 4, 89, 183, 0, 3, 182, 0, 9, 42, 3, 181, 0, 15, 42, 3, 181, 0, 19, 42, 3]
abbrev dktX5_clear_0 : List UInt8 := dkwX5_clear_0 ++ dktX5_clear_1
theorem dksX5_clear_0 : cX5_clear.data.toList.drop 0 = dktX5_clear_0 := by decide +kernel
theorem dksX5_clear_1 : cX5_clear.data.toList.drop 23 = dktX5_clear_1 := dk_seg dksX5_clear_0 23 rfl rfl
theorem dksX5_clear_2 : cX5_clear.data.toList.drop 47 = dktX5_clear_2 := dk_seg dksX5_clear_1 24 rfl rfl
theorem dX5_clear_0 : decode cX5_clear 0 = .ok (.aload_n 0, 1) := dk_42 (dk_at dksX5_clear_0 0 rfl rfl)
theorem dX5_clear_1 : decode cX5_clear 1 = .ok (.new 4, 3) := dk_187 0 4 (dk_at dksX5_clear_0 1 rfl rfl)
theorem dX5_clear_4 : decode cX5_clear 4 = .ok (.dup, 1) := dk_89 (dk_at dksX5_clear_0 4 rfl rfl)
theorem dX5_clear_5 : decode cX5_clear 5 = .ok (.invokespecial 3, 3) := dk_183 0 3 (dk_at dksX5_clear_0 5 rfl rfl)
theorem dX5_clear_8 : decode cX5_clear 8 = .ok (.invokevirtual 9, 3) := dk_182 0 9 (dk_at dksX5_clear_0 8 rfl rfl)
theorem dX5_clear_11 : decode cX5_clear 11 = .ok (.aload_n 0, 1) := dk_42 (dk_at dksX5_clear_0 11 rfl rfl)
theorem dX5_clear_12 : decode cX5_clear 12 = .ok (.iconst 0, 1) := dk_3 (dk_at dksX5_clear_0 12 rfl rfl)
theorem dX5_clear_13 : decode cX5_clear 13 = .ok (.putfield 15, 3) := dk_181 0 15 (dk_at dksX5_clear_0 13 rfl rfl)
theorem dX5_clear_16 : decode cX5_clear 16 = .ok (.aload_n 0, 1) := dk_42 (dk_at dksX5_clear_0 16 rfl rfl)
theorem dX5_clear_17 : decode cX5_clear 17 = .ok (.iconst 0, 1) := dk_3 (dk_at dksX5_clear_0 17 rfl rfl)
theorem dX5_clear_18 : decode cX5_clear 18 = .ok (.putfield 19, 3) := dk_181 0 19 (dk_at dksX5_clear_0 18 rfl rfl)
theorem dX5_clear_21 : decode cX5_clear 21 = .ok (.aload_n 0, 1) := dk_42 (dk_at dksX5_clear_0 21 rfl rfl)
theorem dX5_clear_22 : decode cX5_clear 22 = .ok (.iconst 0, 1) := dk_3 (dk_at dksX5_clear_0 22 rfl rfl)
theorem dX5_clear_23 : decode cX5_clear 23 = .ok (.putfield 22, 3) := dk_181 0 22 (dk_at dksX5_clear_1 0 rfl rfl)
theorem dX5_clear_26 : decode cX5_clear 26 = .ok (.aload_n 0, 1) := dk_42 (dk_at dksX5_clear_1 3 rfl rfl)
theorem dX5_clear_27 : decode cX5_clear 27 = .ok (.iconst 0, 1) := dk_3 (dk_at dksX5_clear_1 4 rfl rfl)
theorem dX5_clear_28 : decode cX5_clear 28 = .ok (.putfield 26, 3) := dk_181 0 26 (dk_at dksX5_clear_1 5 rfl rfl)
theorem dX5_clear_31 : decode cX5_clear 31 = .ok (.aload_n 0, 1) := dk_42 (dk_at dksX5_clear_1 8 rfl rfl)
theorem dX5_clear_32 : decode cX5_clear 32 = .ok (.iconst 0, 1) := dk_3 (dk_at dksX5_clear_1 9 rfl rfl)
theorem dX5_clear_33 : decode cX5_clear 33 = .ok (.putfield 29, 3) := dk_181 0 29 (dk_at dksX5_clear_1 10 rfl rfl)
theorem dX5_clear_36 : decode cX5_clear 36 = .ok (.aload_n 0, 1) := dk_42 (dk_at dksX5_clear_1 13 rfl rfl)
theorem dX5_clear_37 : decode cX5_clear 37 = .ok (.iconst 0, 1) := dk_3 (dk_at dksX5_clear_1 14 rfl rfl)
theorem dX5_clear_38 : decode cX5_clear 38 = .ok (.putfield 32, 3) := dk_181 0 32 (dk_at dksX5_clear_1 15 rfl rfl)
theorem dX5_clear_41 : decode cX5_clear 41 = .ok (.aload_n 0, 1) := dk_42 (dk_at dksX5_clear_1 18 rfl rfl)
theorem dX5_clear_42 : decode cX5_clear 42 = .ok (.iconst 0, 1) := dk_3 (dk_at dksX5_clear_1 19 rfl rfl)
theorem dX5_clear_43 : decode cX5_clear 43 = .ok (.putfield 35, 3) := dk_181 0 35 (dk_at dksX5_clear_1 20 rfl rfl)
theorem dX5_clear_46 : decode cX5_clear 46 = .ok (.aload_n 0, 1) := dk_42 (dk_at dksX5_clear_1 23 rfl rfl)
theorem dX5_clear_47 : decode cX5_clear 47 = .ok (.iconst 0, 1) := dk_3 (dk_at dksX5_clear_2 0 rfl rfl)
theorem dX5_clear_48 : decode cX5_clear 48 = .ok (.putfield 38, 3) := dk_181 0 38 (dk_at dksX5_clear_2 1 rfl rfl)
theorem dX5_clear_51 : decode cX5_clear 51 = .ok (.return_, 1) := dk_177 (dk_at dksX5_clear_2 4 rfl rfl)
abbrev cX5_take : ByteArray := prog_23_method_7_code
def yX5_take : MethodName := ⟨RX5, "take", "(I)V"⟩
def dkwX5_take_7 : List UInt8 := [4, 120, 27, 128, 181, 0, 29, 42, 89, 180, 0, 15, 4, 96, 181, 0, 15, 177]
abbrev dktX5_take_7 : List UInt8 := dkwX5_take_7 ++ []
def dkwX5_take_6 : List UInt8 := [180, 0, 15, 16, 19, 161, 0, 26, 42, 180, 0, 15, 42, 182, 0, 41, 162, 0, 15, 42, 42, 180, 0, 29]
abbrev dktX5_take_6 : List UInt8 := dkwX5_take_6 ++ dktX5_take_7
def dkwX5_take_5 : List UInt8 := [180, 0, 15, 16, 19, 162, 0, 18, 42, 42, 180, 0, 26, 4, 120, 27, 128, 181, 0, 26, 167, 0, 35, 42]
abbrev dktX5_take_5 : List UInt8 := dkwX5_take_5 ++ dktX5_take_6
def dkwX5_take_4 : List UInt8 := [160, 0, 7, 4, 167, 0, 4, 3, 181, 0, 22, 167, 0, 68, 42, 180, 0, 15, 16, 15, 161, 0, 27, 42]
abbrev dktX5_take_4 : List UInt8 := dkwX5_take_4 ++ dktX5_take_5
def dkwX5_take_3 : List UInt8 := [4, 120, 27, 128, 181, 0, 19, 167, 0, 94, 42, 180, 0, 15, 16, 12, 160, 0, 20, 42, 27, 4]
abbrev dktX5_take_3 : List UInt8 := dkwX5_take_3 ++ dktX5_take_4
def dkwX5_take_2 : List UInt8 := [181, 0, 35, 42, 180, 0, 15, 158, 0, 27, 42, 180, 0, 15, 16, 12, 162, 0, 18, 42, 42, 180, 0, 19]
abbrev dktX5_take_2 : List UInt8 := dkwX5_take_2 ++ dktX5_take_3
def dkwX5_take_1 : List UInt8 := [180, 0, 32, 27, 184, 0, 49, 181, 0, 32, 167, 0, 15, 42, 42, 180, 0, 35, 4, 120, 27, 128]
abbrev dktX5_take_1 : List UInt8 := dkwX5_take_1 ++ dktX5_take_2
def dkwX5_take_0 : List UInt8 := [42, 180, 0, 15, 16, 19, 161, 0, 14, 42, 180, 0, 15, 42, 182, 0, 41, 162, 0, 18, 42, 42]
abbrev dktX5_take_0 : List UInt8 := dkwX5_take_0 ++ dktX5_take_1
theorem dksX5_take_0 : cX5_take.data.toList.drop 0 = dktX5_take_0 := by decide +kernel
theorem dksX5_take_1 : cX5_take.data.toList.drop 22 = dktX5_take_1 := dk_seg dksX5_take_0 22 rfl rfl
theorem dksX5_take_2 : cX5_take.data.toList.drop 44 = dktX5_take_2 := dk_seg dksX5_take_1 22 rfl rfl
theorem dksX5_take_3 : cX5_take.data.toList.drop 68 = dktX5_take_3 := dk_seg dksX5_take_2 24 rfl rfl
theorem dksX5_take_4 : cX5_take.data.toList.drop 90 = dktX5_take_4 := dk_seg dksX5_take_3 22 rfl rfl
theorem dksX5_take_5 : cX5_take.data.toList.drop 114 = dktX5_take_5 := dk_seg dksX5_take_4 24 rfl rfl
theorem dksX5_take_6 : cX5_take.data.toList.drop 138 = dktX5_take_6 := dk_seg dksX5_take_5 24 rfl rfl
theorem dksX5_take_7 : cX5_take.data.toList.drop 162 = dktX5_take_7 := dk_seg dksX5_take_6 24 rfl rfl
theorem dX5_take_0 : decode cX5_take 0 = .ok (.aload_n 0, 1) := dk_42 (dk_at dksX5_take_0 0 rfl rfl)
theorem dX5_take_1 : decode cX5_take 1 = .ok (.getfield 15, 3) := dk_180 0 15 (dk_at dksX5_take_0 1 rfl rfl)
theorem dX5_take_4 : decode cX5_take 4 = .ok (.bipush 19, 2) := dk_16 19 (dk_at dksX5_take_0 4 rfl rfl)
theorem dX5_take_6 : decode cX5_take 6 = .ok (.if_icmp .lt 14, 3) := dk_161 0 14 (dk_at dksX5_take_0 6 rfl rfl)
theorem dX5_take_9 : decode cX5_take 9 = .ok (.aload_n 0, 1) := dk_42 (dk_at dksX5_take_0 9 rfl rfl)
theorem dX5_take_10 : decode cX5_take 10 = .ok (.getfield 15, 3) := dk_180 0 15 (dk_at dksX5_take_0 10 rfl rfl)
theorem dX5_take_13 : decode cX5_take 13 = .ok (.aload_n 0, 1) := dk_42 (dk_at dksX5_take_0 13 rfl rfl)
theorem dX5_take_14 : decode cX5_take 14 = .ok (.invokevirtual 41, 3) := dk_182 0 41 (dk_at dksX5_take_0 14 rfl rfl)
theorem dX5_take_17 : decode cX5_take 17 = .ok (.if_icmp .ge 18, 3) := dk_162 0 18 (dk_at dksX5_take_0 17 rfl rfl)
theorem dX5_take_20 : decode cX5_take 20 = .ok (.aload_n 0, 1) := dk_42 (dk_at dksX5_take_0 20 rfl rfl)
theorem dX5_take_21 : decode cX5_take 21 = .ok (.aload_n 0, 1) := dk_42 (dk_at dksX5_take_0 21 rfl rfl)
theorem dX5_take_22 : decode cX5_take 22 = .ok (.getfield 32, 3) := dk_180 0 32 (dk_at dksX5_take_1 0 rfl rfl)
theorem dX5_take_25 : decode cX5_take 25 = .ok (.iload_n 1, 1) := dk_27 (dk_at dksX5_take_1 3 rfl rfl)
theorem dX5_take_26 : decode cX5_take 26 = .ok (.invokestatic 49, 3) := dk_184 0 49 (dk_at dksX5_take_1 4 rfl rfl)
theorem dX5_take_29 : decode cX5_take 29 = .ok (.putfield 32, 3) := dk_181 0 32 (dk_at dksX5_take_1 7 rfl rfl)
theorem dX5_take_32 : decode cX5_take 32 = .ok (.goto 15, 3) := dk_167 0 15 (dk_at dksX5_take_1 10 rfl rfl)
theorem dX5_take_35 : decode cX5_take 35 = .ok (.aload_n 0, 1) := dk_42 (dk_at dksX5_take_1 13 rfl rfl)
theorem dX5_take_36 : decode cX5_take 36 = .ok (.aload_n 0, 1) := dk_42 (dk_at dksX5_take_1 14 rfl rfl)
theorem dX5_take_37 : decode cX5_take 37 = .ok (.getfield 35, 3) := dk_180 0 35 (dk_at dksX5_take_1 15 rfl rfl)
theorem dX5_take_40 : decode cX5_take 40 = .ok (.iconst 1, 1) := dk_4 (dk_at dksX5_take_1 18 rfl rfl)
theorem dX5_take_41 : decode cX5_take 41 = .ok (.ishl, 1) := dk_120 (dk_at dksX5_take_1 19 rfl rfl)
theorem dX5_take_42 : decode cX5_take 42 = .ok (.iload_n 1, 1) := dk_27 (dk_at dksX5_take_1 20 rfl rfl)
theorem dX5_take_43 : decode cX5_take 43 = .ok (.ior, 1) := dk_128 (dk_at dksX5_take_1 21 rfl rfl)
theorem dX5_take_44 : decode cX5_take 44 = .ok (.putfield 35, 3) := dk_181 0 35 (dk_at dksX5_take_2 0 rfl rfl)
theorem dX5_take_47 : decode cX5_take 47 = .ok (.aload_n 0, 1) := dk_42 (dk_at dksX5_take_2 3 rfl rfl)
theorem dX5_take_48 : decode cX5_take 48 = .ok (.getfield 15, 3) := dk_180 0 15 (dk_at dksX5_take_2 4 rfl rfl)
theorem dX5_take_51 : decode cX5_take 51 = .ok (.ifCond .le 27, 3) := dk_158 0 27 (dk_at dksX5_take_2 7 rfl rfl)
theorem dX5_take_54 : decode cX5_take 54 = .ok (.aload_n 0, 1) := dk_42 (dk_at dksX5_take_2 10 rfl rfl)
theorem dX5_take_55 : decode cX5_take 55 = .ok (.getfield 15, 3) := dk_180 0 15 (dk_at dksX5_take_2 11 rfl rfl)
theorem dX5_take_58 : decode cX5_take 58 = .ok (.bipush 12, 2) := dk_16 12 (dk_at dksX5_take_2 14 rfl rfl)
theorem dX5_take_60 : decode cX5_take 60 = .ok (.if_icmp .ge 18, 3) := dk_162 0 18 (dk_at dksX5_take_2 16 rfl rfl)
theorem dX5_take_63 : decode cX5_take 63 = .ok (.aload_n 0, 1) := dk_42 (dk_at dksX5_take_2 19 rfl rfl)
theorem dX5_take_64 : decode cX5_take 64 = .ok (.aload_n 0, 1) := dk_42 (dk_at dksX5_take_2 20 rfl rfl)
theorem dX5_take_65 : decode cX5_take 65 = .ok (.getfield 19, 3) := dk_180 0 19 (dk_at dksX5_take_2 21 rfl rfl)
theorem dX5_take_68 : decode cX5_take 68 = .ok (.iconst 1, 1) := dk_4 (dk_at dksX5_take_3 0 rfl rfl)
theorem dX5_take_69 : decode cX5_take 69 = .ok (.ishl, 1) := dk_120 (dk_at dksX5_take_3 1 rfl rfl)
theorem dX5_take_70 : decode cX5_take 70 = .ok (.iload_n 1, 1) := dk_27 (dk_at dksX5_take_3 2 rfl rfl)
theorem dX5_take_71 : decode cX5_take 71 = .ok (.ior, 1) := dk_128 (dk_at dksX5_take_3 3 rfl rfl)
theorem dX5_take_72 : decode cX5_take 72 = .ok (.putfield 19, 3) := dk_181 0 19 (dk_at dksX5_take_3 4 rfl rfl)
theorem dX5_take_75 : decode cX5_take 75 = .ok (.goto 94, 3) := dk_167 0 94 (dk_at dksX5_take_3 7 rfl rfl)
theorem dX5_take_78 : decode cX5_take 78 = .ok (.aload_n 0, 1) := dk_42 (dk_at dksX5_take_3 10 rfl rfl)
theorem dX5_take_79 : decode cX5_take 79 = .ok (.getfield 15, 3) := dk_180 0 15 (dk_at dksX5_take_3 11 rfl rfl)
theorem dX5_take_82 : decode cX5_take 82 = .ok (.bipush 12, 2) := dk_16 12 (dk_at dksX5_take_3 14 rfl rfl)
theorem dX5_take_84 : decode cX5_take 84 = .ok (.if_icmp .ne 20, 3) := dk_160 0 20 (dk_at dksX5_take_3 16 rfl rfl)
theorem dX5_take_87 : decode cX5_take 87 = .ok (.aload_n 0, 1) := dk_42 (dk_at dksX5_take_3 19 rfl rfl)
theorem dX5_take_88 : decode cX5_take 88 = .ok (.iload_n 1, 1) := dk_27 (dk_at dksX5_take_3 20 rfl rfl)
theorem dX5_take_89 : decode cX5_take 89 = .ok (.iconst 1, 1) := dk_4 (dk_at dksX5_take_3 21 rfl rfl)
theorem dX5_take_90 : decode cX5_take 90 = .ok (.if_icmp .ne 7, 3) := dk_160 0 7 (dk_at dksX5_take_4 0 rfl rfl)
theorem dX5_take_93 : decode cX5_take 93 = .ok (.iconst 1, 1) := dk_4 (dk_at dksX5_take_4 3 rfl rfl)
theorem dX5_take_94 : decode cX5_take 94 = .ok (.goto 4, 3) := dk_167 0 4 (dk_at dksX5_take_4 4 rfl rfl)
theorem dX5_take_97 : decode cX5_take 97 = .ok (.iconst 0, 1) := dk_3 (dk_at dksX5_take_4 7 rfl rfl)
theorem dX5_take_98 : decode cX5_take 98 = .ok (.putfield 22, 3) := dk_181 0 22 (dk_at dksX5_take_4 8 rfl rfl)
theorem dX5_take_101 : decode cX5_take 101 = .ok (.goto 68, 3) := dk_167 0 68 (dk_at dksX5_take_4 11 rfl rfl)
theorem dX5_take_104 : decode cX5_take 104 = .ok (.aload_n 0, 1) := dk_42 (dk_at dksX5_take_4 14 rfl rfl)
theorem dX5_take_105 : decode cX5_take 105 = .ok (.getfield 15, 3) := dk_180 0 15 (dk_at dksX5_take_4 15 rfl rfl)
theorem dX5_take_108 : decode cX5_take 108 = .ok (.bipush 15, 2) := dk_16 15 (dk_at dksX5_take_4 18 rfl rfl)
theorem dX5_take_110 : decode cX5_take 110 = .ok (.if_icmp .lt 27, 3) := dk_161 0 27 (dk_at dksX5_take_4 20 rfl rfl)
theorem dX5_take_113 : decode cX5_take 113 = .ok (.aload_n 0, 1) := dk_42 (dk_at dksX5_take_4 23 rfl rfl)
theorem dX5_take_114 : decode cX5_take 114 = .ok (.getfield 15, 3) := dk_180 0 15 (dk_at dksX5_take_5 0 rfl rfl)
theorem dX5_take_117 : decode cX5_take 117 = .ok (.bipush 19, 2) := dk_16 19 (dk_at dksX5_take_5 3 rfl rfl)
theorem dX5_take_119 : decode cX5_take 119 = .ok (.if_icmp .ge 18, 3) := dk_162 0 18 (dk_at dksX5_take_5 5 rfl rfl)
theorem dX5_take_122 : decode cX5_take 122 = .ok (.aload_n 0, 1) := dk_42 (dk_at dksX5_take_5 8 rfl rfl)
theorem dX5_take_123 : decode cX5_take 123 = .ok (.aload_n 0, 1) := dk_42 (dk_at dksX5_take_5 9 rfl rfl)
theorem dX5_take_124 : decode cX5_take 124 = .ok (.getfield 26, 3) := dk_180 0 26 (dk_at dksX5_take_5 10 rfl rfl)
theorem dX5_take_127 : decode cX5_take 127 = .ok (.iconst 1, 1) := dk_4 (dk_at dksX5_take_5 13 rfl rfl)
theorem dX5_take_128 : decode cX5_take 128 = .ok (.ishl, 1) := dk_120 (dk_at dksX5_take_5 14 rfl rfl)
theorem dX5_take_129 : decode cX5_take 129 = .ok (.iload_n 1, 1) := dk_27 (dk_at dksX5_take_5 15 rfl rfl)
theorem dX5_take_130 : decode cX5_take 130 = .ok (.ior, 1) := dk_128 (dk_at dksX5_take_5 16 rfl rfl)
theorem dX5_take_131 : decode cX5_take 131 = .ok (.putfield 26, 3) := dk_181 0 26 (dk_at dksX5_take_5 17 rfl rfl)
theorem dX5_take_134 : decode cX5_take 134 = .ok (.goto 35, 3) := dk_167 0 35 (dk_at dksX5_take_5 20 rfl rfl)
theorem dX5_take_137 : decode cX5_take 137 = .ok (.aload_n 0, 1) := dk_42 (dk_at dksX5_take_5 23 rfl rfl)
theorem dX5_take_138 : decode cX5_take 138 = .ok (.getfield 15, 3) := dk_180 0 15 (dk_at dksX5_take_6 0 rfl rfl)
theorem dX5_take_141 : decode cX5_take 141 = .ok (.bipush 19, 2) := dk_16 19 (dk_at dksX5_take_6 3 rfl rfl)
theorem dX5_take_143 : decode cX5_take 143 = .ok (.if_icmp .lt 26, 3) := dk_161 0 26 (dk_at dksX5_take_6 5 rfl rfl)
theorem dX5_take_146 : decode cX5_take 146 = .ok (.aload_n 0, 1) := dk_42 (dk_at dksX5_take_6 8 rfl rfl)
theorem dX5_take_147 : decode cX5_take 147 = .ok (.getfield 15, 3) := dk_180 0 15 (dk_at dksX5_take_6 9 rfl rfl)
theorem dX5_take_150 : decode cX5_take 150 = .ok (.aload_n 0, 1) := dk_42 (dk_at dksX5_take_6 12 rfl rfl)
theorem dX5_take_151 : decode cX5_take 151 = .ok (.invokevirtual 41, 3) := dk_182 0 41 (dk_at dksX5_take_6 13 rfl rfl)
theorem dX5_take_154 : decode cX5_take 154 = .ok (.if_icmp .ge 15, 3) := dk_162 0 15 (dk_at dksX5_take_6 16 rfl rfl)
theorem dX5_take_157 : decode cX5_take 157 = .ok (.aload_n 0, 1) := dk_42 (dk_at dksX5_take_6 19 rfl rfl)
theorem dX5_take_158 : decode cX5_take 158 = .ok (.aload_n 0, 1) := dk_42 (dk_at dksX5_take_6 20 rfl rfl)
theorem dX5_take_159 : decode cX5_take 159 = .ok (.getfield 29, 3) := dk_180 0 29 (dk_at dksX5_take_6 21 rfl rfl)
theorem dX5_take_162 : decode cX5_take 162 = .ok (.iconst 1, 1) := dk_4 (dk_at dksX5_take_7 0 rfl rfl)
theorem dX5_take_163 : decode cX5_take 163 = .ok (.ishl, 1) := dk_120 (dk_at dksX5_take_7 1 rfl rfl)
theorem dX5_take_164 : decode cX5_take 164 = .ok (.iload_n 1, 1) := dk_27 (dk_at dksX5_take_7 2 rfl rfl)
theorem dX5_take_165 : decode cX5_take 165 = .ok (.ior, 1) := dk_128 (dk_at dksX5_take_7 3 rfl rfl)
theorem dX5_take_166 : decode cX5_take 166 = .ok (.putfield 29, 3) := dk_181 0 29 (dk_at dksX5_take_7 4 rfl rfl)
theorem dX5_take_169 : decode cX5_take 169 = .ok (.aload_n 0, 1) := dk_42 (dk_at dksX5_take_7 7 rfl rfl)
theorem dX5_take_170 : decode cX5_take 170 = .ok (.dup, 1) := dk_89 (dk_at dksX5_take_7 8 rfl rfl)
theorem dX5_take_171 : decode cX5_take 171 = .ok (.getfield 15, 3) := dk_180 0 15 (dk_at dksX5_take_7 9 rfl rfl)
theorem dX5_take_174 : decode cX5_take 174 = .ok (.iconst 1, 1) := dk_4 (dk_at dksX5_take_7 12 rfl rfl)
theorem dX5_take_175 : decode cX5_take 175 = .ok (.iadd, 1) := dk_96 (dk_at dksX5_take_7 13 rfl rfl)
theorem dX5_take_176 : decode cX5_take 176 = .ok (.putfield 15, 3) := dk_181 0 15 (dk_at dksX5_take_7 14 rfl rfl)
theorem dX5_take_179 : decode cX5_take 179 = .ok (.return_, 1) := dk_177 (dk_at dksX5_take_7 17 rfl rfl)
abbrev cX5_copyAll : ByteArray := prog_23_method_3_code
def yX5_copyAll : MethodName := ⟨RX5, "copyAll", "(LArbitratedBus$Sampled;)V"⟩
def dkwX5_copyAll_2 : List UInt8 := [180, 0, 32, 181, 0, 32, 42, 43, 180, 0, 35, 181, 0, 35, 42, 43, 180, 0, 38, 181, 0, 38, 177]
abbrev dktX5_copyAll_2 : List UInt8 := dkwX5_copyAll_2 ++ []
def dkwX5_copyAll_1 : List UInt8 := [180, 0, 22, 181, 0, 22, 42, 43, 180, 0, 26, 181, 0, 26, 42, 43, 180, 0, 29, 181, 0, 29, 42, 43]
abbrev dktX5_copyAll_1 : List UInt8 := dkwX5_copyAll_1 ++ dktX5_copyAll_2
def dkwX5_copyAll_0 : List UInt8 := [42, 43, 182, 0, 9, 42, 43, 180, 0, 15, 181, 0, 15, 42, 43, 180, 0, 19, 181, 0, 19, 42, 43]
abbrev dktX5_copyAll_0 : List UInt8 := dkwX5_copyAll_0 ++ dktX5_copyAll_1
theorem dksX5_copyAll_0 : cX5_copyAll.data.toList.drop 0 = dktX5_copyAll_0 := by decide +kernel
theorem dksX5_copyAll_1 : cX5_copyAll.data.toList.drop 23 = dktX5_copyAll_1 := dk_seg dksX5_copyAll_0 23 rfl rfl
theorem dksX5_copyAll_2 : cX5_copyAll.data.toList.drop 47 = dktX5_copyAll_2 := dk_seg dksX5_copyAll_1 24 rfl rfl
theorem dX5_copyAll_0 : decode cX5_copyAll 0 = .ok (.aload_n 0, 1) := dk_42 (dk_at dksX5_copyAll_0 0 rfl rfl)
theorem dX5_copyAll_1 : decode cX5_copyAll 1 = .ok (.aload_n 1, 1) := dk_43 (dk_at dksX5_copyAll_0 1 rfl rfl)
theorem dX5_copyAll_2 : decode cX5_copyAll 2 = .ok (.invokevirtual 9, 3) := dk_182 0 9 (dk_at dksX5_copyAll_0 2 rfl rfl)
theorem dX5_copyAll_5 : decode cX5_copyAll 5 = .ok (.aload_n 0, 1) := dk_42 (dk_at dksX5_copyAll_0 5 rfl rfl)
theorem dX5_copyAll_6 : decode cX5_copyAll 6 = .ok (.aload_n 1, 1) := dk_43 (dk_at dksX5_copyAll_0 6 rfl rfl)
theorem dX5_copyAll_7 : decode cX5_copyAll 7 = .ok (.getfield 15, 3) := dk_180 0 15 (dk_at dksX5_copyAll_0 7 rfl rfl)
theorem dX5_copyAll_10 : decode cX5_copyAll 10 = .ok (.putfield 15, 3) := dk_181 0 15 (dk_at dksX5_copyAll_0 10 rfl rfl)
theorem dX5_copyAll_13 : decode cX5_copyAll 13 = .ok (.aload_n 0, 1) := dk_42 (dk_at dksX5_copyAll_0 13 rfl rfl)
theorem dX5_copyAll_14 : decode cX5_copyAll 14 = .ok (.aload_n 1, 1) := dk_43 (dk_at dksX5_copyAll_0 14 rfl rfl)
theorem dX5_copyAll_15 : decode cX5_copyAll 15 = .ok (.getfield 19, 3) := dk_180 0 19 (dk_at dksX5_copyAll_0 15 rfl rfl)
theorem dX5_copyAll_18 : decode cX5_copyAll 18 = .ok (.putfield 19, 3) := dk_181 0 19 (dk_at dksX5_copyAll_0 18 rfl rfl)
theorem dX5_copyAll_21 : decode cX5_copyAll 21 = .ok (.aload_n 0, 1) := dk_42 (dk_at dksX5_copyAll_0 21 rfl rfl)
theorem dX5_copyAll_22 : decode cX5_copyAll 22 = .ok (.aload_n 1, 1) := dk_43 (dk_at dksX5_copyAll_0 22 rfl rfl)
theorem dX5_copyAll_23 : decode cX5_copyAll 23 = .ok (.getfield 22, 3) := dk_180 0 22 (dk_at dksX5_copyAll_1 0 rfl rfl)
theorem dX5_copyAll_26 : decode cX5_copyAll 26 = .ok (.putfield 22, 3) := dk_181 0 22 (dk_at dksX5_copyAll_1 3 rfl rfl)
theorem dX5_copyAll_29 : decode cX5_copyAll 29 = .ok (.aload_n 0, 1) := dk_42 (dk_at dksX5_copyAll_1 6 rfl rfl)
theorem dX5_copyAll_30 : decode cX5_copyAll 30 = .ok (.aload_n 1, 1) := dk_43 (dk_at dksX5_copyAll_1 7 rfl rfl)
theorem dX5_copyAll_31 : decode cX5_copyAll 31 = .ok (.getfield 26, 3) := dk_180 0 26 (dk_at dksX5_copyAll_1 8 rfl rfl)
theorem dX5_copyAll_34 : decode cX5_copyAll 34 = .ok (.putfield 26, 3) := dk_181 0 26 (dk_at dksX5_copyAll_1 11 rfl rfl)
theorem dX5_copyAll_37 : decode cX5_copyAll 37 = .ok (.aload_n 0, 1) := dk_42 (dk_at dksX5_copyAll_1 14 rfl rfl)
theorem dX5_copyAll_38 : decode cX5_copyAll 38 = .ok (.aload_n 1, 1) := dk_43 (dk_at dksX5_copyAll_1 15 rfl rfl)
theorem dX5_copyAll_39 : decode cX5_copyAll 39 = .ok (.getfield 29, 3) := dk_180 0 29 (dk_at dksX5_copyAll_1 16 rfl rfl)
theorem dX5_copyAll_42 : decode cX5_copyAll 42 = .ok (.putfield 29, 3) := dk_181 0 29 (dk_at dksX5_copyAll_1 19 rfl rfl)
theorem dX5_copyAll_45 : decode cX5_copyAll 45 = .ok (.aload_n 0, 1) := dk_42 (dk_at dksX5_copyAll_1 22 rfl rfl)
theorem dX5_copyAll_46 : decode cX5_copyAll 46 = .ok (.aload_n 1, 1) := dk_43 (dk_at dksX5_copyAll_1 23 rfl rfl)
theorem dX5_copyAll_47 : decode cX5_copyAll 47 = .ok (.getfield 32, 3) := dk_180 0 32 (dk_at dksX5_copyAll_2 0 rfl rfl)
theorem dX5_copyAll_50 : decode cX5_copyAll 50 = .ok (.putfield 32, 3) := dk_181 0 32 (dk_at dksX5_copyAll_2 3 rfl rfl)
theorem dX5_copyAll_53 : decode cX5_copyAll 53 = .ok (.aload_n 0, 1) := dk_42 (dk_at dksX5_copyAll_2 6 rfl rfl)
theorem dX5_copyAll_54 : decode cX5_copyAll 54 = .ok (.aload_n 1, 1) := dk_43 (dk_at dksX5_copyAll_2 7 rfl rfl)
theorem dX5_copyAll_55 : decode cX5_copyAll 55 = .ok (.getfield 35, 3) := dk_180 0 35 (dk_at dksX5_copyAll_2 8 rfl rfl)
theorem dX5_copyAll_58 : decode cX5_copyAll 58 = .ok (.putfield 35, 3) := dk_181 0 35 (dk_at dksX5_copyAll_2 11 rfl rfl)
theorem dX5_copyAll_61 : decode cX5_copyAll 61 = .ok (.aload_n 0, 1) := dk_42 (dk_at dksX5_copyAll_2 14 rfl rfl)
theorem dX5_copyAll_62 : decode cX5_copyAll 62 = .ok (.aload_n 1, 1) := dk_43 (dk_at dksX5_copyAll_2 15 rfl rfl)
theorem dX5_copyAll_63 : decode cX5_copyAll 63 = .ok (.getfield 38, 3) := dk_180 0 38 (dk_at dksX5_copyAll_2 16 rfl rfl)
theorem dX5_copyAll_66 : decode cX5_copyAll 66 = .ok (.putfield 38, 3) := dk_181 0 38 (dk_at dksX5_copyAll_2 19 rfl rfl)
theorem dX5_copyAll_69 : decode cX5_copyAll 69 = .ok (.return_, 1) := dk_177 (dk_at dksX5_copyAll_2 22 rfl rfl)
theorem q112 : (Jvm.Cond.initialized "ArbitratedBus$Sampled") ∈ lw_all := lw_g (lw_at lw_m1 11 rfl) rfl
theorem q230 : (Jvm.Cond.instantiable "ArbitratedBus$Sampled" (10 : Nat)) ∈ lw_all := lw_g (lw_at lw_m1 129 rfl) rfl
theorem q232 : (Jvm.Cond.instanceMethod ({ cls := "ArbitratedBus$Sampled", name := "<init>", desc := "()V" } : Jvm.MethodName)) ∈ lw_all := lw_g (lw_at lw_m1 131 rfl) rfl
theorem q233 : (Jvm.Cond.code ({ cls := "ArbitratedBus$Sampled", name := "<init>", desc := "()V" } : Jvm.MethodName) prog_23_method_1_code (1 : Nat) (Option.none : Option Jvm.ClassFile.FieldType)) ∈ lw_all := lw_g (lw_at lw_m1 132 rfl) rfl
theorem q234 : (Jvm.Cond.methodLinkNest "ArbitratedBus$Sampled" (3 : Nat) ({ cls := "ArbitratedBus$Stuffing", name := "<init>", desc := "()V" } : Jvm.MethodName) "ArbitratedBus") ∈ lw_tbl := lw_at lw_m1 133 rfl
theorem q238 : (Jvm.Cond.fieldLink "ArbitratedBus$Sampled" (15 : Nat) "ArbitratedBus$Sampled" "place" "I") ∈ lw_all := lw_g (lw_at lw_m1 137 rfl) rfl
theorem q240 : (Jvm.Cond.fieldLink "ArbitratedBus$Sampled" (19 : Nat) "ArbitratedBus$Sampled" "identifier" "I") ∈ lw_all := lw_g (lw_at lw_m1 139 rfl) rfl
theorem q242 : (Jvm.Cond.fieldLink "ArbitratedBus$Sampled" (22 : Nat) "ArbitratedBus$Sampled" "remote" "Z") ∈ lw_all := lw_g (lw_at lw_m1 141 rfl) rfl
theorem q244 : (Jvm.Cond.fieldLink "ArbitratedBus$Sampled" (26 : Nat) "ArbitratedBus$Sampled" "length" "I") ∈ lw_all := lw_g (lw_at lw_m1 143 rfl) rfl
theorem q246 : (Jvm.Cond.fieldLink "ArbitratedBus$Sampled" (29 : Nat) "ArbitratedBus$Sampled" "data" "I") ∈ lw_all := lw_g (lw_at lw_m1 145 rfl) rfl
theorem q248 : (Jvm.Cond.fieldLink "ArbitratedBus$Sampled" (32 : Nat) "ArbitratedBus$Sampled" "register" "I") ∈ lw_all := lw_g (lw_at lw_m1 147 rfl) rfl
theorem q249 : (Jvm.Cond.fieldLink "ArbitratedBus$Sampled" (35 : Nat) "ArbitratedBus$Sampled" "check" "I") ∈ lw_all := lw_g (lw_at lw_m1 148 rfl) rfl
theorem q250 : (Jvm.Cond.fieldLink "ArbitratedBus$Sampled" (38 : Nat) "ArbitratedBus$Sampled" "tail" "I") ∈ lw_all := lw_g (lw_at lw_m1 149 rfl) rfl
theorem q254 : (Jvm.Cond.lays "ArbitratedBus$Sampled" "ArbitratedBus$Sampled" "place" "I") ∈ lw_all := lw_g (lw_at lw_m1 153 rfl) rfl
theorem q255 : (Jvm.Cond.soleField "ArbitratedBus$Sampled" "place") ∈ lw_all := lw_g (lw_at lw_m1 154 rfl) rfl
theorem q256 : (Jvm.Cond.lays "ArbitratedBus$Sampled" "ArbitratedBus$Sampled" "identifier" "I") ∈ lw_all := lw_g (lw_at lw_m1 155 rfl) rfl
theorem q257 : (Jvm.Cond.soleField "ArbitratedBus$Sampled" "identifier") ∈ lw_all := lw_g (lw_at lw_m1 156 rfl) rfl
theorem q258 : (Jvm.Cond.lays "ArbitratedBus$Sampled" "ArbitratedBus$Sampled" "remote" "Z") ∈ lw_all := lw_g (lw_at lw_m1 157 rfl) rfl
theorem q259 : (Jvm.Cond.soleField "ArbitratedBus$Sampled" "remote") ∈ lw_all := lw_g (lw_at lw_m1 158 rfl) rfl
theorem q260 : (Jvm.Cond.lays "ArbitratedBus$Sampled" "ArbitratedBus$Sampled" "length" "I") ∈ lw_all := lw_g (lw_at lw_m1 159 rfl) rfl
theorem q261 : (Jvm.Cond.soleField "ArbitratedBus$Sampled" "length") ∈ lw_all := lw_g (lw_at lw_m1 160 rfl) rfl
theorem q262 : (Jvm.Cond.lays "ArbitratedBus$Sampled" "ArbitratedBus$Sampled" "data" "I") ∈ lw_all := lw_g (lw_at lw_m1 161 rfl) rfl
theorem q263 : (Jvm.Cond.soleField "ArbitratedBus$Sampled" "data") ∈ lw_all := lw_g (lw_at lw_m1 162 rfl) rfl
theorem q264 : (Jvm.Cond.lays "ArbitratedBus$Sampled" "ArbitratedBus$Sampled" "register" "I") ∈ lw_all := lw_g (lw_at lw_m1 163 rfl) rfl
theorem q265 : (Jvm.Cond.soleField "ArbitratedBus$Sampled" "register") ∈ lw_all := lw_g (lw_at lw_m1 164 rfl) rfl
theorem q266 : (Jvm.Cond.lays "ArbitratedBus$Sampled" "ArbitratedBus$Sampled" "check" "I") ∈ lw_all := lw_g (lw_at lw_m1 165 rfl) rfl
theorem q267 : (Jvm.Cond.soleField "ArbitratedBus$Sampled" "check") ∈ lw_all := lw_g (lw_at lw_m1 166 rfl) rfl
theorem q268 : (Jvm.Cond.lays "ArbitratedBus$Sampled" "ArbitratedBus$Sampled" "tail" "I") ∈ lw_all := lw_g (lw_at lw_m1 167 rfl) rfl
theorem q269 : (Jvm.Cond.soleField "ArbitratedBus$Sampled" "tail") ∈ lw_all := lw_g (lw_at lw_m1 168 rfl) rfl
theorem q270 : (Jvm.Cond.lays "ArbitratedBus$Sampled" "ArbitratedBus$Stuffing" "last" "I") ∈ lw_all := lw_g (lw_at lw_m1 169 rfl) rfl
theorem q272 : (Jvm.Cond.lays "ArbitratedBus$Sampled" "ArbitratedBus$Stuffing" "run" "I") ∈ lw_all := lw_g (lw_at lw_m1 171 rfl) rfl
theorem q274 : (Jvm.Cond.superclass "ArbitratedBus$Sampled" "ArbitratedBus$Stuffing") ∈ lw_all := lw_g (lw_at lw_m1 173 rfl) rfl
theorem q693 : (Jvm.Cond.selects "ArbitratedBus$Sampled" ({ cls := "java/lang/Object", name := "getClass", desc := "()Ljava/lang/Class;" } : Jvm.MethodName) ({ cls := "java/lang/Object", name := "getClass", desc := "()Ljava/lang/Class;" } : Jvm.MethodName)) ∈ lw_all := lw_g (lw_at lw_m3 112 rfl) rfl
theorem q1286 : (Jvm.Cond.selects "ArbitratedBus$Sampled" ({ cls := "ArbitratedBus$Stuffing", name := "isDue", desc := "()Z" } : Jvm.MethodName) ({ cls := "ArbitratedBus$Stuffing", name := "isDue", desc := "()Z" } : Jvm.MethodName)) ∈ lw_all := lw_g (lw_at lw_m5 225 rfl) rfl
theorem q1358 : (Jvm.Cond.selects "ArbitratedBus$Sampled" ({ cls := "ArbitratedBus$Stuffing", name := "stuff", desc := "()I" } : Jvm.MethodName) ({ cls := "ArbitratedBus$Stuffing", name := "stuff", desc := "()I" } : Jvm.MethodName)) ∈ lw_all := lw_g (lw_at lw_m6 57 rfl) rfl
theorem q1380 : (Jvm.Cond.selects "ArbitratedBus$Sampled" ({ cls := "ArbitratedBus$Stuffing", name := "see", desc := "(I)V" } : Jvm.MethodName) ({ cls := "ArbitratedBus$Stuffing", name := "see", desc := "(I)V" } : Jvm.MethodName)) ∈ lw_all := lw_g (lw_at lw_m6 79 rfl) rfl
theorem q1841 : (Jvm.Cond.instanceMethod ({ cls := "ArbitratedBus$Sampled", name := "isStuffed", desc := "()Z" } : Jvm.MethodName)) ∈ lw_all := lw_g (lw_at lw_m8 60 rfl) rfl
theorem q1842 : (Jvm.Cond.selects "ArbitratedBus$Sampled" ({ cls := "ArbitratedBus$Sampled", name := "isStuffed", desc := "()Z" } : Jvm.MethodName) ({ cls := "ArbitratedBus$Sampled", name := "isStuffed", desc := "()Z" } : Jvm.MethodName)) ∈ lw_all := lw_g (lw_at lw_m8 61 rfl) rfl
theorem q1843 : (Jvm.Cond.code ({ cls := "ArbitratedBus$Sampled", name := "isStuffed", desc := "()Z" } : Jvm.MethodName) prog_23_method_5_code (1 : Nat) (Option.some Jvm.ClassFile.FieldType.boolean)) ∈ lw_all := lw_g (lw_at lw_m8 62 rfl) rfl
theorem q1844 : (Jvm.Cond.methodLink "ArbitratedBus$Sampled" (41 : Nat) ({ cls := "ArbitratedBus$Sampled", name := "bare", desc := "()I" } : Jvm.MethodName)) ∈ lw_all := lw_g (lw_at lw_m8 63 rfl) rfl
theorem q1845 : (Jvm.Cond.instanceMethod ({ cls := "ArbitratedBus$Sampled", name := "bare", desc := "()I" } : Jvm.MethodName)) ∈ lw_all := lw_g (lw_at lw_m8 64 rfl) rfl
theorem q1846 : (Jvm.Cond.selects "ArbitratedBus$Sampled" ({ cls := "ArbitratedBus$Sampled", name := "bare", desc := "()I" } : Jvm.MethodName) ({ cls := "ArbitratedBus$Sampled", name := "bare", desc := "()I" } : Jvm.MethodName)) ∈ lw_all := lw_g (lw_at lw_m8 65 rfl) rfl
theorem q1847 : (Jvm.Cond.code ({ cls := "ArbitratedBus$Sampled", name := "bare", desc := "()I" } : Jvm.MethodName) prog_23_method_4_code (1 : Nat) (Option.some Jvm.ClassFile.FieldType.int)) ∈ lw_all := lw_g (lw_at lw_m8 66 rfl) rfl
theorem q1848 : (Jvm.Cond.methodLink "ArbitratedBus$Sampled" (45 : Nat) ({ cls := "ArbitratedBus$Sampled", name := "isDue", desc := "()Z" } : Jvm.MethodName)) ∈ lw_all := lw_g (lw_at lw_m8 67 rfl) rfl
theorem q1849 : (Jvm.Cond.sameMethod "ArbitratedBus$Sampled" "ArbitratedBus$Stuffing" "isDue" "()Z") ∈ lw_all := lw_g (lw_at lw_m8 68 rfl) rfl
theorem q1851 : (Jvm.Cond.selects "ArbitratedBus$Sampled" ({ cls := "ArbitratedBus$Sampled", name := "isDue", desc := "()Z" } : Jvm.MethodName) ({ cls := "ArbitratedBus$Stuffing", name := "isDue", desc := "()Z" } : Jvm.MethodName)) ∈ lw_all := lw_g (lw_at lw_m8 70 rfl) rfl
theorem q1854 : (Jvm.Cond.sameMethod "ArbitratedBus$Sampled" "ArbitratedBus$Stuffing" "stuff" "()I") ∈ lw_all := lw_g (lw_at lw_m8 73 rfl) rfl
theorem q1856 : (Jvm.Cond.selects "ArbitratedBus$Sampled" ({ cls := "ArbitratedBus$Sampled", name := "stuff", desc := "()I" } : Jvm.MethodName) ({ cls := "ArbitratedBus$Stuffing", name := "stuff", desc := "()I" } : Jvm.MethodName)) ∈ lw_all := lw_g (lw_at lw_m8 75 rfl) rfl
theorem q1859 : (Jvm.Cond.instanceMethod ({ cls := "ArbitratedBus$Sampled", name := "isIntact", desc := "()Z" } : Jvm.MethodName)) ∈ lw_all := lw_g (lw_at lw_m8 78 rfl) rfl
theorem q1860 : (Jvm.Cond.selects "ArbitratedBus$Sampled" ({ cls := "ArbitratedBus$Sampled", name := "isIntact", desc := "()Z" } : Jvm.MethodName) ({ cls := "ArbitratedBus$Sampled", name := "isIntact", desc := "()Z" } : Jvm.MethodName)) ∈ lw_all := lw_g (lw_at lw_m8 79 rfl) rfl
theorem q1861 : (Jvm.Cond.code ({ cls := "ArbitratedBus$Sampled", name := "isIntact", desc := "()Z" } : Jvm.MethodName) prog_23_method_6_code (1 : Nat) (Option.some Jvm.ClassFile.FieldType.boolean)) ∈ lw_all := lw_g (lw_at lw_m8 80 rfl) rfl
theorem q2137 : (Jvm.Cond.instanceMethod ({ cls := "ArbitratedBus$Sampled", name := "clear", desc := "()V" } : Jvm.MethodName)) ∈ lw_all := lw_g (lw_at lw_m9 116 rfl) rfl
theorem q2138 : (Jvm.Cond.selects "ArbitratedBus$Sampled" ({ cls := "ArbitratedBus$Sampled", name := "clear", desc := "()V" } : Jvm.MethodName) ({ cls := "ArbitratedBus$Sampled", name := "clear", desc := "()V" } : Jvm.MethodName)) ∈ lw_all := lw_g (lw_at lw_m9 117 rfl) rfl
theorem q2139 : (Jvm.Cond.code ({ cls := "ArbitratedBus$Sampled", name := "clear", desc := "()V" } : Jvm.MethodName) prog_23_method_2_code (1 : Nat) (Option.none : Option Jvm.ClassFile.FieldType)) ∈ lw_all := lw_g (lw_at lw_m9 118 rfl) rfl
theorem q2140 : (Jvm.Cond.classLink "ArbitratedBus$Sampled" (4 : Nat) "ArbitratedBus$Stuffing") ∈ lw_all := lw_g (lw_at lw_m9 119 rfl) rfl
theorem q2145 : (Jvm.Cond.methodLink "ArbitratedBus$Sampled" (9 : Nat) ({ cls := "ArbitratedBus$Sampled", name := "copy", desc := "(LArbitratedBus$Stuffing;)V" } : Jvm.MethodName)) ∈ lw_all := lw_g (lw_at lw_m9 124 rfl) rfl
theorem q2146 : (Jvm.Cond.sameMethod "ArbitratedBus$Sampled" "ArbitratedBus$Stuffing" "copy" "(LArbitratedBus$Stuffing;)V") ∈ lw_all := lw_g (lw_at lw_m9 125 rfl) rfl
theorem q2148 : (Jvm.Cond.selects "ArbitratedBus$Sampled" ({ cls := "ArbitratedBus$Sampled", name := "copy", desc := "(LArbitratedBus$Stuffing;)V" } : Jvm.MethodName) ({ cls := "ArbitratedBus$Stuffing", name := "copy", desc := "(LArbitratedBus$Stuffing;)V" } : Jvm.MethodName)) ∈ lw_all := lw_g (lw_at lw_m9 127 rfl) rfl
theorem q2152 : (Jvm.Cond.sameMethod "ArbitratedBus$Sampled" "ArbitratedBus$Stuffing" "see" "(I)V") ∈ lw_all := lw_g (lw_at lw_m9 131 rfl) rfl
theorem q2154 : (Jvm.Cond.selects "ArbitratedBus$Sampled" ({ cls := "ArbitratedBus$Sampled", name := "see", desc := "(I)V" } : Jvm.MethodName) ({ cls := "ArbitratedBus$Stuffing", name := "see", desc := "(I)V" } : Jvm.MethodName)) ∈ lw_all := lw_g (lw_at lw_m9 133 rfl) rfl
theorem q2156 : (Jvm.Cond.instanceMethod ({ cls := "ArbitratedBus$Sampled", name := "take", desc := "(I)V" } : Jvm.MethodName)) ∈ lw_all := lw_g (lw_at lw_m9 135 rfl) rfl
theorem q2157 : (Jvm.Cond.selects "ArbitratedBus$Sampled" ({ cls := "ArbitratedBus$Sampled", name := "take", desc := "(I)V" } : Jvm.MethodName) ({ cls := "ArbitratedBus$Sampled", name := "take", desc := "(I)V" } : Jvm.MethodName)) ∈ lw_all := lw_g (lw_at lw_m9 136 rfl) rfl
theorem q2158 : (Jvm.Cond.code ({ cls := "ArbitratedBus$Sampled", name := "take", desc := "(I)V" } : Jvm.MethodName) prog_23_method_7_code (2 : Nat) (Option.none : Option Jvm.ClassFile.FieldType)) ∈ lw_all := lw_g (lw_at lw_m9 137 rfl) rfl
theorem q2159 : (Jvm.Cond.methodLinkNest "ArbitratedBus$Sampled" (49 : Nat) ({ cls := "ArbitratedBus", name := "shifted", desc := "(II)I" } : Jvm.MethodName) "ArbitratedBus") ∈ lw_tbl := lw_at lw_m9 138 rfl
theorem q2474 : (Jvm.Cond.instanceMethod ({ cls := "ArbitratedBus$Sampled", name := "copyAll", desc := "(LArbitratedBus$Sampled;)V" } : Jvm.MethodName)) ∈ lw_all := lw_g (lw_at lw_m10 213 rfl) rfl
theorem q2475 : (Jvm.Cond.selects "ArbitratedBus$Sampled" ({ cls := "ArbitratedBus$Sampled", name := "copyAll", desc := "(LArbitratedBus$Sampled;)V" } : Jvm.MethodName) ({ cls := "ArbitratedBus$Sampled", name := "copyAll", desc := "(LArbitratedBus$Sampled;)V" } : Jvm.MethodName)) ∈ lw_all := lw_g (lw_at lw_m10 214 rfl) rfl
theorem q2476 : (Jvm.Cond.code ({ cls := "ArbitratedBus$Sampled", name := "copyAll", desc := "(LArbitratedBus$Sampled;)V" } : Jvm.MethodName) prog_23_method_3_code (2 : Nat) (Option.none : Option Jvm.ClassFile.FieldType)) ∈ lw_all := lw_g (lw_at lw_m10 215 rfl) rfl
theorem q3421 : (Jvm.Cond.castable "ArbitratedBus$Sampled" "java/lang/Object") ∈ lw_tbl := lw_at lw_m14 200 rfl
theorem in_X5 : ∀ w ∈ wsX50, w ∈ lw_all := lw_in wsX50 [270, 272, 254, 256, 258, 260, 262, 264, 266, 268] (by decide +kernel) (by decide +kernel)

/-! ArbitratedBus$ByIdentifier -/
set_option maxRecDepth 100000
def RX6 : String := "ArbitratedBus$ByIdentifier"
abbrev cX6_init : ByteArray := prog_4_method_1_code
def yX6_init : MethodName := ⟨RX6, "<init>", "()V"⟩
theorem dX6_init_0 : decode cX6_init 0 = .ok (.aload_n 0, 1) := by decide +kernel
theorem dX6_init_1 : decode cX6_init 1 = .ok (.invokespecial 1, 3) := by decide +kernel
theorem dX6_init_4 : decode cX6_init 4 = .ok (.return_, 1) := by decide +kernel
abbrev cX6_compare : ByteArray := prog_4_method_3_code
def yX6_compare : MethodName := ⟨RX6, "compare", "(Ljava/lang/Object;Ljava/lang/Object;)I"⟩
def dkwX6_compare_0 : List UInt8 := [42, 43, 192, 0, 8, 44, 192, 0, 8, 182, 0, 17, 172]
abbrev dktX6_compare_0 : List UInt8 := dkwX6_compare_0 ++ []
theorem dksX6_compare_0 : cX6_compare.data.toList.drop 0 = dktX6_compare_0 := by decide +kernel
theorem dX6_compare_0 : decode cX6_compare 0 = .ok (.aload_n 0, 1) := dk_42 (dk_at dksX6_compare_0 0 rfl rfl)
theorem dX6_compare_1 : decode cX6_compare 1 = .ok (.aload_n 1, 1) := dk_43 (dk_at dksX6_compare_0 1 rfl rfl)
theorem dX6_compare_2 : decode cX6_compare 2 = .ok (.checkcast 8, 3) := dk_192 0 8 (dk_at dksX6_compare_0 2 rfl rfl)
theorem dX6_compare_5 : decode cX6_compare 5 = .ok (.aload_n 2, 1) := dk_44 (dk_at dksX6_compare_0 5 rfl rfl)
theorem dX6_compare_6 : decode cX6_compare 6 = .ok (.checkcast 8, 3) := dk_192 0 8 (dk_at dksX6_compare_0 6 rfl rfl)
theorem dX6_compare_9 : decode cX6_compare 9 = .ok (.invokevirtual 17, 3) := dk_182 0 17 (dk_at dksX6_compare_0 9 rfl rfl)
theorem dX6_compare_12 : decode cX6_compare 12 = .ok (.ireturn, 1) := dk_172 (dk_at dksX6_compare_0 12 rfl rfl)
abbrev cX6_compare_2 : ByteArray := prog_4_method_2_code
def yX6_compare_2 : MethodName := ⟨RX6, "compare", "(Ljava/lang/Integer;Ljava/lang/Integer;)I"⟩
def dkwX6_compare_2_0 : List UInt8 := [43, 182, 0, 7, 44, 182, 0, 7, 184, 0, 13, 172]
abbrev dktX6_compare_2_0 : List UInt8 := dkwX6_compare_2_0 ++ []
theorem dksX6_compare_2_0 : cX6_compare_2.data.toList.drop 0 = dktX6_compare_2_0 := by decide +kernel
theorem dX6_compare_2_0 : decode cX6_compare_2 0 = .ok (.aload_n 1, 1) := dk_43 (dk_at dksX6_compare_2_0 0 rfl rfl)
theorem dX6_compare_2_1 : decode cX6_compare_2 1 = .ok (.invokevirtual 7, 3) := dk_182 0 7 (dk_at dksX6_compare_2_0 1 rfl rfl)
theorem dX6_compare_2_4 : decode cX6_compare_2 4 = .ok (.aload_n 2, 1) := dk_44 (dk_at dksX6_compare_2_0 4 rfl rfl)
theorem dX6_compare_2_5 : decode cX6_compare_2 5 = .ok (.invokevirtual 7, 3) := dk_182 0 7 (dk_at dksX6_compare_2_0 5 rfl rfl)
theorem dX6_compare_2_8 : decode cX6_compare_2 8 = .ok (.invokestatic 13, 3) := dk_184 0 13 (dk_at dksX6_compare_2_0 8 rfl rfl)
theorem dX6_compare_2_11 : decode cX6_compare_2 11 = .ok (.ireturn, 1) := dk_172 (dk_at dksX6_compare_2_0 11 rfl rfl)
theorem q118 : (Jvm.Cond.initialized "ArbitratedBus$ByIdentifier") ∈ lw_all := lw_g (lw_at lw_m1 17 rfl) rfl
theorem q329 : (Jvm.Cond.instantiable "ArbitratedBus$ByIdentifier" (0 : Nat)) ∈ lw_all := lw_g (lw_at lw_m1 228 rfl) rfl
theorem q331 : (Jvm.Cond.instanceMethod ({ cls := "ArbitratedBus$ByIdentifier", name := "<init>", desc := "()V" } : Jvm.MethodName)) ∈ lw_all := lw_g (lw_at lw_m1 230 rfl) rfl
theorem q332 : (Jvm.Cond.code ({ cls := "ArbitratedBus$ByIdentifier", name := "<init>", desc := "()V" } : Jvm.MethodName) prog_4_method_1_code (1 : Nat) (Option.none : Option Jvm.ClassFile.FieldType)) ∈ lw_all := lw_g (lw_at lw_m1 231 rfl) rfl
theorem q333 : (Jvm.Cond.methodLink "ArbitratedBus$ByIdentifier" (1 : Nat) ({ cls := "java/lang/Object", name := "<init>", desc := "()V" } : Jvm.MethodName)) ∈ lw_all := lw_g (lw_at lw_m1 232 rfl) rfl
theorem q334 : (Jvm.Cond.superclass "ArbitratedBus$ByIdentifier" "java/lang/Object") ∈ lw_all := lw_g (lw_at lw_m1 233 rfl) rfl
theorem q606 : (Jvm.Cond.castable "ArbitratedBus$ByIdentifier" "java/util/Comparator") ∈ lw_tbl := lw_at lw_m3 25 rfl
theorem q607 : (Jvm.Cond.selects "ArbitratedBus$ByIdentifier" ({ cls := "java/util/Comparator", name := "compare", desc := "(Ljava/lang/Object;Ljava/lang/Object;)I" } : Jvm.MethodName) ({ cls := "ArbitratedBus$ByIdentifier", name := "compare", desc := "(Ljava/lang/Object;Ljava/lang/Object;)I" } : Jvm.MethodName)) ∈ lw_all := lw_g (lw_at lw_m3 26 rfl) rfl
theorem q608 : (Jvm.Cond.unhidden "ArbitratedBus$ByIdentifier" "compare" "(Ljava/lang/Object;Ljava/lang/Object;)I") ∈ lw_tbl := lw_at lw_m3 27 rfl
theorem q609 : (Jvm.Cond.instanceMethod ({ cls := "ArbitratedBus$ByIdentifier", name := "compare", desc := "(Ljava/lang/Object;Ljava/lang/Object;)I" } : Jvm.MethodName)) ∈ lw_all := lw_g (lw_at lw_m3 28 rfl) rfl
theorem q610 : (Jvm.Cond.publicMethod ({ cls := "ArbitratedBus$ByIdentifier", name := "compare", desc := "(Ljava/lang/Object;Ljava/lang/Object;)I" } : Jvm.MethodName)) ∈ lw_tbl := lw_at lw_m3 29 rfl
theorem q611 : (Jvm.Cond.code ({ cls := "ArbitratedBus$ByIdentifier", name := "compare", desc := "(Ljava/lang/Object;Ljava/lang/Object;)I" } : Jvm.MethodName) prog_4_method_3_code (3 : Nat) (Option.some Jvm.ClassFile.FieldType.int)) ∈ lw_all := lw_g (lw_at lw_m3 30 rfl) rfl
theorem q612 : (Jvm.Cond.classLink "ArbitratedBus$ByIdentifier" (8 : Nat) "java/lang/Integer") ∈ lw_all := lw_g (lw_at lw_m3 31 rfl) rfl
theorem q613 : (Jvm.Cond.methodLink "ArbitratedBus$ByIdentifier" (17 : Nat) ({ cls := "ArbitratedBus$ByIdentifier", name := "compare", desc := "(Ljava/lang/Integer;Ljava/lang/Integer;)I" } : Jvm.MethodName)) ∈ lw_all := lw_g (lw_at lw_m3 32 rfl) rfl
theorem q614 : (Jvm.Cond.instanceMethod ({ cls := "ArbitratedBus$ByIdentifier", name := "compare", desc := "(Ljava/lang/Integer;Ljava/lang/Integer;)I" } : Jvm.MethodName)) ∈ lw_all := lw_g (lw_at lw_m3 33 rfl) rfl
theorem q615 : (Jvm.Cond.selects "ArbitratedBus$ByIdentifier" ({ cls := "ArbitratedBus$ByIdentifier", name := "compare", desc := "(Ljava/lang/Integer;Ljava/lang/Integer;)I" } : Jvm.MethodName) ({ cls := "ArbitratedBus$ByIdentifier", name := "compare", desc := "(Ljava/lang/Integer;Ljava/lang/Integer;)I" } : Jvm.MethodName)) ∈ lw_all := lw_g (lw_at lw_m3 34 rfl) rfl
theorem q616 : (Jvm.Cond.code ({ cls := "ArbitratedBus$ByIdentifier", name := "compare", desc := "(Ljava/lang/Integer;Ljava/lang/Integer;)I" } : Jvm.MethodName) prog_4_method_2_code (3 : Nat) (Option.some Jvm.ClassFile.FieldType.int)) ∈ lw_all := lw_g (lw_at lw_m3 35 rfl) rfl
theorem q617 : (Jvm.Cond.methodLink "ArbitratedBus$ByIdentifier" (7 : Nat) ({ cls := "java/lang/Integer", name := "intValue", desc := "()I" } : Jvm.MethodName)) ∈ lw_all := lw_g (lw_at lw_m3 36 rfl) rfl
theorem q621 : (Jvm.Cond.methodLink "ArbitratedBus$ByIdentifier" (13 : Nat) ({ cls := "java/lang/Integer", name := "compare", desc := "(II)I" } : Jvm.MethodName)) ∈ lw_all := lw_g (lw_at lw_m3 40 rfl) rfl
theorem q675 : (Jvm.Cond.selects "ArbitratedBus$ByIdentifier" ({ cls := "java/lang/Object", name := "getClass", desc := "()Ljava/lang/Class;" } : Jvm.MethodName) ({ cls := "java/lang/Object", name := "getClass", desc := "()Ljava/lang/Class;" } : Jvm.MethodName)) ∈ lw_all := lw_g (lw_at lw_m3 94 rfl) rfl
theorem q3425 : (Jvm.Cond.castable "ArbitratedBus$ByIdentifier" "java/lang/Object") ∈ lw_tbl := lw_at lw_m14 204 rfl

/-! ArbitratedBus$Messages -/
set_option maxRecDepth 100000
def RX7 : String := "ArbitratedBus$Messages"
def TX7 : u_T := fun k => match k with
  | _ => ("ArbitratedBus$Messages", "all", "Ljava/util/TreeMap;", true)
def tyX7 : Nat → FieldType := fun k => match k with
  | _ => .object "java/util/TreeMap"
abbrev wsX70 : List Cond := u_ws RX7 TX7 1
theorem nmX7 : ∀ a, a < 1 → ∀ b, b < 1 → a ≠ b → (TX7 a).2.1 ≠ (TX7 b).2.1 := by decide +kernel
theorem tyX7_ok : ∀ k, k < 1 → parseFieldDescriptor (TX7 k).2.2.1 = some (tyX7 k) := by decide +kernel
abbrev cX7_init : ByteArray := prog_9_method_1_code
def yX7_init : MethodName := ⟨RX7, "<init>", "()V"⟩
def dkwX7_init_0 : List UInt8 := [42, 183, 0, 3, 42, 187, 0, 9, 89, 187, 0, 11, 89, 183, 0, 13, 183, 0, 14, 181, 0, 17, 177]
abbrev dktX7_init_0 : List UInt8 := dkwX7_init_0 ++ []
theorem dksX7_init_0 : cX7_init.data.toList.drop 0 = dktX7_init_0 := by decide +kernel
theorem dX7_init_0 : decode cX7_init 0 = .ok (.aload_n 0, 1) := dk_42 (dk_at dksX7_init_0 0 rfl rfl)
theorem dX7_init_1 : decode cX7_init 1 = .ok (.invokespecial 3, 3) := dk_183 0 3 (dk_at dksX7_init_0 1 rfl rfl)
theorem dX7_init_4 : decode cX7_init 4 = .ok (.aload_n 0, 1) := dk_42 (dk_at dksX7_init_0 4 rfl rfl)
theorem dX7_init_5 : decode cX7_init 5 = .ok (.new 9, 3) := dk_187 0 9 (dk_at dksX7_init_0 5 rfl rfl)
theorem dX7_init_8 : decode cX7_init 8 = .ok (.dup, 1) := dk_89 (dk_at dksX7_init_0 8 rfl rfl)
theorem dX7_init_9 : decode cX7_init 9 = .ok (.new 11, 3) := dk_187 0 11 (dk_at dksX7_init_0 9 rfl rfl)
theorem dX7_init_12 : decode cX7_init 12 = .ok (.dup, 1) := dk_89 (dk_at dksX7_init_0 12 rfl rfl)
theorem dX7_init_13 : decode cX7_init 13 = .ok (.invokespecial 13, 3) := dk_183 0 13 (dk_at dksX7_init_0 13 rfl rfl)
theorem dX7_init_16 : decode cX7_init 16 = .ok (.invokespecial 14, 3) := dk_183 0 14 (dk_at dksX7_init_0 16 rfl rfl)
theorem dX7_init_19 : decode cX7_init 19 = .ok (.putfield 17, 3) := dk_181 0 17 (dk_at dksX7_init_0 19 rfl rfl)
theorem dX7_init_22 : decode cX7_init 22 = .ok (.return_, 1) := dk_177 (dk_at dksX7_init_0 22 rfl rfl)
abbrev cX7_response : ByteArray := prog_9_method_4_code
def yX7_response : MethodName := ⟨RX7, "response", "(I)I"⟩
def dkwX7_response_3 : List UInt8 := [96, 172, 21, 5, 54, 4, 167, 255, 202, 16, 251, 172]
abbrev dktX7_response_3 : List UInt8 := dkwX7_response_3 ++ []
def dkwX7_response_2 : List UInt8 := [182, 0, 64, 96, 54, 5, 21, 5, 21, 4, 160, 0, 16, 44, 180, 0, 58, 21, 4, 96, 44, 180, 0, 38]
abbrev dktX7_response_2 : List UInt8 := dkwX7_response_2 ++ dktX7_response_3
def dkwX7_response_1 : List UInt8 := [44, 180, 0, 58, 21, 4, 96, 44, 180, 0, 38, 96, 44, 180, 0, 61, 163, 0, 41, 29, 42, 27, 21, 4]
abbrev dktX7_response_1 : List UInt8 := dkwX7_response_1 ++ dktX7_response_2
def dkwX7_response_0 : List UInt8 := [42, 180, 0, 17, 27, 184, 0, 23, 182, 0, 33, 192, 0, 36, 77, 42, 27, 182, 0, 55, 62, 29, 54, 4]
abbrev dktX7_response_0 : List UInt8 := dkwX7_response_0 ++ dktX7_response_1
theorem dksX7_response_0 : cX7_response.data.toList.drop 0 = dktX7_response_0 := by decide +kernel
theorem dksX7_response_1 : cX7_response.data.toList.drop 24 = dktX7_response_1 := dk_seg dksX7_response_0 24 rfl rfl
theorem dksX7_response_2 : cX7_response.data.toList.drop 48 = dktX7_response_2 := dk_seg dksX7_response_1 24 rfl rfl
theorem dksX7_response_3 : cX7_response.data.toList.drop 72 = dktX7_response_3 := dk_seg dksX7_response_2 24 rfl rfl
theorem dX7_response_0 : decode cX7_response 0 = .ok (.aload_n 0, 1) := dk_42 (dk_at dksX7_response_0 0 rfl rfl)
theorem dX7_response_1 : decode cX7_response 1 = .ok (.getfield 17, 3) := dk_180 0 17 (dk_at dksX7_response_0 1 rfl rfl)
theorem dX7_response_4 : decode cX7_response 4 = .ok (.iload_n 1, 1) := dk_27 (dk_at dksX7_response_0 4 rfl rfl)
theorem dX7_response_5 : decode cX7_response 5 = .ok (.invokestatic 23, 3) := dk_184 0 23 (dk_at dksX7_response_0 5 rfl rfl)
theorem dX7_response_8 : decode cX7_response 8 = .ok (.invokevirtual 33, 3) := dk_182 0 33 (dk_at dksX7_response_0 8 rfl rfl)
theorem dX7_response_11 : decode cX7_response 11 = .ok (.checkcast 36, 3) := dk_192 0 36 (dk_at dksX7_response_0 11 rfl rfl)
theorem dX7_response_14 : decode cX7_response 14 = .ok (.astore_n 2, 1) := dk_77 (dk_at dksX7_response_0 14 rfl rfl)
theorem dX7_response_15 : decode cX7_response 15 = .ok (.aload_n 0, 1) := dk_42 (dk_at dksX7_response_0 15 rfl rfl)
theorem dX7_response_16 : decode cX7_response 16 = .ok (.iload_n 1, 1) := dk_27 (dk_at dksX7_response_0 16 rfl rfl)
theorem dX7_response_17 : decode cX7_response 17 = .ok (.invokevirtual 55, 3) := dk_182 0 55 (dk_at dksX7_response_0 17 rfl rfl)
theorem dX7_response_20 : decode cX7_response 20 = .ok (.istore_n 3, 1) := dk_62 (dk_at dksX7_response_0 20 rfl rfl)
theorem dX7_response_21 : decode cX7_response 21 = .ok (.iload_n 3, 1) := dk_29 (dk_at dksX7_response_0 21 rfl rfl)
theorem dX7_response_22 : decode cX7_response 22 = .ok (.istore 4, 2) := dk_54 4 (dk_at dksX7_response_0 22 rfl rfl)
theorem dX7_response_24 : decode cX7_response 24 = .ok (.aload_n 2, 1) := dk_44 (dk_at dksX7_response_1 0 rfl rfl)
theorem dX7_response_25 : decode cX7_response 25 = .ok (.getfield 58, 3) := dk_180 0 58 (dk_at dksX7_response_1 1 rfl rfl)
theorem dX7_response_28 : decode cX7_response 28 = .ok (.iload 4, 2) := dk_21 4 (dk_at dksX7_response_1 4 rfl rfl)
theorem dX7_response_30 : decode cX7_response 30 = .ok (.iadd, 1) := dk_96 (dk_at dksX7_response_1 6 rfl rfl)
theorem dX7_response_31 : decode cX7_response 31 = .ok (.aload_n 2, 1) := dk_44 (dk_at dksX7_response_1 7 rfl rfl)
theorem dX7_response_32 : decode cX7_response 32 = .ok (.getfield 38, 3) := dk_180 0 38 (dk_at dksX7_response_1 8 rfl rfl)
theorem dX7_response_35 : decode cX7_response 35 = .ok (.iadd, 1) := dk_96 (dk_at dksX7_response_1 11 rfl rfl)
theorem dX7_response_36 : decode cX7_response 36 = .ok (.aload_n 2, 1) := dk_44 (dk_at dksX7_response_1 12 rfl rfl)
theorem dX7_response_37 : decode cX7_response 37 = .ok (.getfield 61, 3) := dk_180 0 61 (dk_at dksX7_response_1 13 rfl rfl)
theorem dX7_response_40 : decode cX7_response 40 = .ok (.if_icmp .gt 41, 3) := dk_163 0 41 (dk_at dksX7_response_1 16 rfl rfl)
theorem dX7_response_43 : decode cX7_response 43 = .ok (.iload_n 3, 1) := dk_29 (dk_at dksX7_response_1 19 rfl rfl)
theorem dX7_response_44 : decode cX7_response 44 = .ok (.aload_n 0, 1) := dk_42 (dk_at dksX7_response_1 20 rfl rfl)
theorem dX7_response_45 : decode cX7_response 45 = .ok (.iload_n 1, 1) := dk_27 (dk_at dksX7_response_1 21 rfl rfl)
theorem dX7_response_46 : decode cX7_response 46 = .ok (.iload 4, 2) := dk_21 4 (dk_at dksX7_response_1 22 rfl rfl)
theorem dX7_response_48 : decode cX7_response 48 = .ok (.invokevirtual 64, 3) := dk_182 0 64 (dk_at dksX7_response_2 0 rfl rfl)
theorem dX7_response_51 : decode cX7_response 51 = .ok (.iadd, 1) := dk_96 (dk_at dksX7_response_2 3 rfl rfl)
theorem dX7_response_52 : decode cX7_response 52 = .ok (.istore 5, 2) := dk_54 5 (dk_at dksX7_response_2 4 rfl rfl)
theorem dX7_response_54 : decode cX7_response 54 = .ok (.iload 5, 2) := dk_21 5 (dk_at dksX7_response_2 6 rfl rfl)
theorem dX7_response_56 : decode cX7_response 56 = .ok (.iload 4, 2) := dk_21 4 (dk_at dksX7_response_2 8 rfl rfl)
theorem dX7_response_58 : decode cX7_response 58 = .ok (.if_icmp .ne 16, 3) := dk_160 0 16 (dk_at dksX7_response_2 10 rfl rfl)
theorem dX7_response_61 : decode cX7_response 61 = .ok (.aload_n 2, 1) := dk_44 (dk_at dksX7_response_2 13 rfl rfl)
theorem dX7_response_62 : decode cX7_response 62 = .ok (.getfield 58, 3) := dk_180 0 58 (dk_at dksX7_response_2 14 rfl rfl)
theorem dX7_response_65 : decode cX7_response 65 = .ok (.iload 4, 2) := dk_21 4 (dk_at dksX7_response_2 17 rfl rfl)
theorem dX7_response_67 : decode cX7_response 67 = .ok (.iadd, 1) := dk_96 (dk_at dksX7_response_2 19 rfl rfl)
theorem dX7_response_68 : decode cX7_response 68 = .ok (.aload_n 2, 1) := dk_44 (dk_at dksX7_response_2 20 rfl rfl)
theorem dX7_response_69 : decode cX7_response 69 = .ok (.getfield 38, 3) := dk_180 0 38 (dk_at dksX7_response_2 21 rfl rfl)
theorem dX7_response_72 : decode cX7_response 72 = .ok (.iadd, 1) := dk_96 (dk_at dksX7_response_3 0 rfl rfl)
theorem dX7_response_73 : decode cX7_response 73 = .ok (.ireturn, 1) := dk_172 (dk_at dksX7_response_3 1 rfl rfl)
theorem dX7_response_74 : decode cX7_response 74 = .ok (.iload 5, 2) := dk_21 5 (dk_at dksX7_response_3 2 rfl rfl)
theorem dX7_response_76 : decode cX7_response 76 = .ok (.istore 4, 2) := dk_54 4 (dk_at dksX7_response_3 4 rfl rfl)
theorem dX7_response_78 : decode cX7_response 78 = .ok (.goto (-54), 3) := dk_167 255 202 (dk_at dksX7_response_3 6 rfl rfl)
theorem dX7_response_81 : decode cX7_response 81 = .ok (.bipush (-5), 2) := dk_16 251 (dk_at dksX7_response_3 9 rfl rfl)
theorem dX7_response_83 : decode cX7_response 83 = .ok (.ireturn, 1) := dk_172 (dk_at dksX7_response_3 11 rfl rfl)
abbrev cX7_blocking : ByteArray := prog_9_method_2_code
def yX7_blocking : MethodName := ⟨RX7, "blocking", "(I)I"⟩
def dkwX7_blocking_2 : List UInt8 := [182, 0, 29, 192, 0, 24, 78, 167, 255, 221, 28, 172]
abbrev dktX7_blocking_2 : List UInt8 := dkwX7_blocking_2 ++ []
def dkwX7_blocking_1 : List UInt8 := [180, 0, 17, 45, 182, 0, 33, 192, 0, 36, 180, 0, 38, 184, 0, 42, 61, 42, 180, 0, 17, 45]
abbrev dktX7_blocking_1 : List UInt8 := dkwX7_blocking_1 ++ dktX7_blocking_2
def dkwX7_blocking_0 : List UInt8 := [3, 61, 42, 180, 0, 17, 27, 184, 0, 23, 182, 0, 29, 192, 0, 24, 78, 45, 198, 0, 37, 28, 42]
abbrev dktX7_blocking_0 : List UInt8 := dkwX7_blocking_0 ++ dktX7_blocking_1
theorem dksX7_blocking_0 : cX7_blocking.data.toList.drop 0 = dktX7_blocking_0 := by decide +kernel
theorem dksX7_blocking_1 : cX7_blocking.data.toList.drop 23 = dktX7_blocking_1 := dk_seg dksX7_blocking_0 23 rfl rfl
theorem dksX7_blocking_2 : cX7_blocking.data.toList.drop 45 = dktX7_blocking_2 := dk_seg dksX7_blocking_1 22 rfl rfl
theorem dX7_blocking_0 : decode cX7_blocking 0 = .ok (.iconst 0, 1) := dk_3 (dk_at dksX7_blocking_0 0 rfl rfl)
theorem dX7_blocking_1 : decode cX7_blocking 1 = .ok (.istore_n 2, 1) := dk_61 (dk_at dksX7_blocking_0 1 rfl rfl)
theorem dX7_blocking_2 : decode cX7_blocking 2 = .ok (.aload_n 0, 1) := dk_42 (dk_at dksX7_blocking_0 2 rfl rfl)
theorem dX7_blocking_3 : decode cX7_blocking 3 = .ok (.getfield 17, 3) := dk_180 0 17 (dk_at dksX7_blocking_0 3 rfl rfl)
theorem dX7_blocking_6 : decode cX7_blocking 6 = .ok (.iload_n 1, 1) := dk_27 (dk_at dksX7_blocking_0 6 rfl rfl)
theorem dX7_blocking_7 : decode cX7_blocking 7 = .ok (.invokestatic 23, 3) := dk_184 0 23 (dk_at dksX7_blocking_0 7 rfl rfl)
theorem dX7_blocking_10 : decode cX7_blocking 10 = .ok (.invokevirtual 29, 3) := dk_182 0 29 (dk_at dksX7_blocking_0 10 rfl rfl)
theorem dX7_blocking_13 : decode cX7_blocking 13 = .ok (.checkcast 24, 3) := dk_192 0 24 (dk_at dksX7_blocking_0 13 rfl rfl)
theorem dX7_blocking_16 : decode cX7_blocking 16 = .ok (.astore_n 3, 1) := dk_78 (dk_at dksX7_blocking_0 16 rfl rfl)
theorem dX7_blocking_17 : decode cX7_blocking 17 = .ok (.aload_n 3, 1) := dk_45 (dk_at dksX7_blocking_0 17 rfl rfl)
theorem dX7_blocking_18 : decode cX7_blocking 18 = .ok (.ifnull 37, 3) := dk_198 0 37 (dk_at dksX7_blocking_0 18 rfl rfl)
theorem dX7_blocking_21 : decode cX7_blocking 21 = .ok (.iload_n 2, 1) := dk_28 (dk_at dksX7_blocking_0 21 rfl rfl)
theorem dX7_blocking_22 : decode cX7_blocking 22 = .ok (.aload_n 0, 1) := dk_42 (dk_at dksX7_blocking_0 22 rfl rfl)
theorem dX7_blocking_23 : decode cX7_blocking 23 = .ok (.getfield 17, 3) := dk_180 0 17 (dk_at dksX7_blocking_1 0 rfl rfl)
theorem dX7_blocking_26 : decode cX7_blocking 26 = .ok (.aload_n 3, 1) := dk_45 (dk_at dksX7_blocking_1 3 rfl rfl)
theorem dX7_blocking_27 : decode cX7_blocking 27 = .ok (.invokevirtual 33, 3) := dk_182 0 33 (dk_at dksX7_blocking_1 4 rfl rfl)
theorem dX7_blocking_30 : decode cX7_blocking 30 = .ok (.checkcast 36, 3) := dk_192 0 36 (dk_at dksX7_blocking_1 7 rfl rfl)
theorem dX7_blocking_33 : decode cX7_blocking 33 = .ok (.getfield 38, 3) := dk_180 0 38 (dk_at dksX7_blocking_1 10 rfl rfl)
theorem dX7_blocking_36 : decode cX7_blocking 36 = .ok (.invokestatic 42, 3) := dk_184 0 42 (dk_at dksX7_blocking_1 13 rfl rfl)
theorem dX7_blocking_39 : decode cX7_blocking 39 = .ok (.istore_n 2, 1) := dk_61 (dk_at dksX7_blocking_1 16 rfl rfl)
theorem dX7_blocking_40 : decode cX7_blocking 40 = .ok (.aload_n 0, 1) := dk_42 (dk_at dksX7_blocking_1 17 rfl rfl)
theorem dX7_blocking_41 : decode cX7_blocking 41 = .ok (.getfield 17, 3) := dk_180 0 17 (dk_at dksX7_blocking_1 18 rfl rfl)
theorem dX7_blocking_44 : decode cX7_blocking 44 = .ok (.aload_n 3, 1) := dk_45 (dk_at dksX7_blocking_1 21 rfl rfl)
theorem dX7_blocking_45 : decode cX7_blocking 45 = .ok (.invokevirtual 29, 3) := dk_182 0 29 (dk_at dksX7_blocking_2 0 rfl rfl)
theorem dX7_blocking_48 : decode cX7_blocking 48 = .ok (.checkcast 24, 3) := dk_192 0 24 (dk_at dksX7_blocking_2 3 rfl rfl)
theorem dX7_blocking_51 : decode cX7_blocking 51 = .ok (.astore_n 3, 1) := dk_78 (dk_at dksX7_blocking_2 6 rfl rfl)
theorem dX7_blocking_52 : decode cX7_blocking 52 = .ok (.goto (-35), 3) := dk_167 255 221 (dk_at dksX7_blocking_2 7 rfl rfl)
theorem dX7_blocking_55 : decode cX7_blocking 55 = .ok (.iload_n 2, 1) := dk_28 (dk_at dksX7_blocking_2 10 rfl rfl)
theorem dX7_blocking_56 : decode cX7_blocking 56 = .ok (.ireturn, 1) := dk_172 (dk_at dksX7_blocking_2 11 rfl rfl)
abbrev cX7_interference : ByteArray := prog_9_method_3_code
def yX7_interference : MethodName := ⟨RX7, "interference", "(II)I"⟩
def dkwX7_interference_2 : List UInt8 := [182, 0, 48, 192, 0, 24, 58, 4, 167, 255, 218, 29, 172]
abbrev dktX7_interference_2 : List UInt8 := dkwX7_interference_2 ++ []
def dkwX7_interference_1 : List UInt8 := [42, 180, 0, 17, 25, 4, 182, 0, 33, 192, 0, 36, 28, 182, 0, 51, 96, 62, 42, 180, 0, 17, 25, 4]
abbrev dktX7_interference_1 : List UInt8 := dkwX7_interference_1 ++ dktX7_interference_2
def dkwX7_interference_0 : List UInt8 := [3, 62, 42, 180, 0, 17, 27, 184, 0, 23, 182, 0, 48, 192, 0, 24, 58, 4, 25, 4, 198, 0, 39, 29]
abbrev dktX7_interference_0 : List UInt8 := dkwX7_interference_0 ++ dktX7_interference_1
theorem dksX7_interference_0 : cX7_interference.data.toList.drop 0 = dktX7_interference_0 := by decide +kernel
theorem dksX7_interference_1 : cX7_interference.data.toList.drop 24 = dktX7_interference_1 := dk_seg dksX7_interference_0 24 rfl rfl
theorem dksX7_interference_2 : cX7_interference.data.toList.drop 48 = dktX7_interference_2 := dk_seg dksX7_interference_1 24 rfl rfl
theorem dX7_interference_0 : decode cX7_interference 0 = .ok (.iconst 0, 1) := dk_3 (dk_at dksX7_interference_0 0 rfl rfl)
theorem dX7_interference_1 : decode cX7_interference 1 = .ok (.istore_n 3, 1) := dk_62 (dk_at dksX7_interference_0 1 rfl rfl)
theorem dX7_interference_2 : decode cX7_interference 2 = .ok (.aload_n 0, 1) := dk_42 (dk_at dksX7_interference_0 2 rfl rfl)
theorem dX7_interference_3 : decode cX7_interference 3 = .ok (.getfield 17, 3) := dk_180 0 17 (dk_at dksX7_interference_0 3 rfl rfl)
theorem dX7_interference_6 : decode cX7_interference 6 = .ok (.iload_n 1, 1) := dk_27 (dk_at dksX7_interference_0 6 rfl rfl)
theorem dX7_interference_7 : decode cX7_interference 7 = .ok (.invokestatic 23, 3) := dk_184 0 23 (dk_at dksX7_interference_0 7 rfl rfl)
theorem dX7_interference_10 : decode cX7_interference 10 = .ok (.invokevirtual 48, 3) := dk_182 0 48 (dk_at dksX7_interference_0 10 rfl rfl)
theorem dX7_interference_13 : decode cX7_interference 13 = .ok (.checkcast 24, 3) := dk_192 0 24 (dk_at dksX7_interference_0 13 rfl rfl)
theorem dX7_interference_16 : decode cX7_interference 16 = .ok (.astore 4, 2) := dk_58 4 (dk_at dksX7_interference_0 16 rfl rfl)
theorem dX7_interference_18 : decode cX7_interference 18 = .ok (.aload 4, 2) := dk_25 4 (dk_at dksX7_interference_0 18 rfl rfl)
theorem dX7_interference_20 : decode cX7_interference 20 = .ok (.ifnull 39, 3) := dk_198 0 39 (dk_at dksX7_interference_0 20 rfl rfl)
theorem dX7_interference_23 : decode cX7_interference 23 = .ok (.iload_n 3, 1) := dk_29 (dk_at dksX7_interference_0 23 rfl rfl)
theorem dX7_interference_24 : decode cX7_interference 24 = .ok (.aload_n 0, 1) := dk_42 (dk_at dksX7_interference_1 0 rfl rfl)
theorem dX7_interference_25 : decode cX7_interference 25 = .ok (.getfield 17, 3) := dk_180 0 17 (dk_at dksX7_interference_1 1 rfl rfl)
theorem dX7_interference_28 : decode cX7_interference 28 = .ok (.aload 4, 2) := dk_25 4 (dk_at dksX7_interference_1 4 rfl rfl)
theorem dX7_interference_30 : decode cX7_interference 30 = .ok (.invokevirtual 33, 3) := dk_182 0 33 (dk_at dksX7_interference_1 6 rfl rfl)
theorem dX7_interference_33 : decode cX7_interference 33 = .ok (.checkcast 36, 3) := dk_192 0 36 (dk_at dksX7_interference_1 9 rfl rfl)
theorem dX7_interference_36 : decode cX7_interference 36 = .ok (.iload_n 2, 1) := dk_28 (dk_at dksX7_interference_1 12 rfl rfl)
theorem dX7_interference_37 : decode cX7_interference 37 = .ok (.invokevirtual 51, 3) := dk_182 0 51 (dk_at dksX7_interference_1 13 rfl rfl)
theorem dX7_interference_40 : decode cX7_interference 40 = .ok (.iadd, 1) := dk_96 (dk_at dksX7_interference_1 16 rfl rfl)
theorem dX7_interference_41 : decode cX7_interference 41 = .ok (.istore_n 3, 1) := dk_62 (dk_at dksX7_interference_1 17 rfl rfl)
theorem dX7_interference_42 : decode cX7_interference 42 = .ok (.aload_n 0, 1) := dk_42 (dk_at dksX7_interference_1 18 rfl rfl)
theorem dX7_interference_43 : decode cX7_interference 43 = .ok (.getfield 17, 3) := dk_180 0 17 (dk_at dksX7_interference_1 19 rfl rfl)
theorem dX7_interference_46 : decode cX7_interference 46 = .ok (.aload 4, 2) := dk_25 4 (dk_at dksX7_interference_1 22 rfl rfl)
theorem dX7_interference_48 : decode cX7_interference 48 = .ok (.invokevirtual 48, 3) := dk_182 0 48 (dk_at dksX7_interference_2 0 rfl rfl)
theorem dX7_interference_51 : decode cX7_interference 51 = .ok (.checkcast 24, 3) := dk_192 0 24 (dk_at dksX7_interference_2 3 rfl rfl)
theorem dX7_interference_54 : decode cX7_interference 54 = .ok (.astore 4, 2) := dk_58 4 (dk_at dksX7_interference_2 6 rfl rfl)
theorem dX7_interference_56 : decode cX7_interference 56 = .ok (.goto (-38), 3) := dk_167 255 218 (dk_at dksX7_interference_2 8 rfl rfl)
theorem dX7_interference_59 : decode cX7_interference 59 = .ok (.iload_n 3, 1) := dk_29 (dk_at dksX7_interference_2 11 rfl rfl)
theorem dX7_interference_60 : decode cX7_interference 60 = .ok (.ireturn, 1) := dk_172 (dk_at dksX7_interference_2 12 rfl rfl)
abbrev cX7_misses : ByteArray := prog_9_method_5_code
def yX7_misses : MethodName := ⟨RX7, "misses", "()I"⟩
def dkwX7_misses_2 : List UInt8 := [4, 167, 0, 4, 3, 96, 60, 167, 255, 216, 27, 172]
abbrev dktX7_misses_2 : List UInt8 := dkwX7_misses_2 ++ []
def dkwX7_misses_1 : List UInt8 := [44, 185, 0, 83, 1, 0, 192, 0, 24, 78, 27, 42, 45, 182, 0, 87, 182, 0, 91, 16, 251, 160, 0, 7]
abbrev dktX7_misses_1 : List UInt8 := dkwX7_misses_1 ++ dktX7_misses_2
def dkwX7_misses_0 : List UInt8 := [3, 60, 42, 180, 0, 17, 182, 0, 67, 185, 0, 71, 1, 0, 77, 44, 185, 0, 77, 1, 0, 153, 0, 37]
abbrev dktX7_misses_0 : List UInt8 := dkwX7_misses_0 ++ dktX7_misses_1
theorem dksX7_misses_0 : cX7_misses.data.toList.drop 0 = dktX7_misses_0 := by decide +kernel
theorem dksX7_misses_1 : cX7_misses.data.toList.drop 24 = dktX7_misses_1 := dk_seg dksX7_misses_0 24 rfl rfl
theorem dksX7_misses_2 : cX7_misses.data.toList.drop 48 = dktX7_misses_2 := dk_seg dksX7_misses_1 24 rfl rfl
theorem dX7_misses_0 : decode cX7_misses 0 = .ok (.iconst 0, 1) := dk_3 (dk_at dksX7_misses_0 0 rfl rfl)
theorem dX7_misses_1 : decode cX7_misses 1 = .ok (.istore_n 1, 1) := dk_60 (dk_at dksX7_misses_0 1 rfl rfl)
theorem dX7_misses_2 : decode cX7_misses 2 = .ok (.aload_n 0, 1) := dk_42 (dk_at dksX7_misses_0 2 rfl rfl)
theorem dX7_misses_3 : decode cX7_misses 3 = .ok (.getfield 17, 3) := dk_180 0 17 (dk_at dksX7_misses_0 3 rfl rfl)
theorem dX7_misses_6 : decode cX7_misses 6 = .ok (.invokevirtual 67, 3) := dk_182 0 67 (dk_at dksX7_misses_0 6 rfl rfl)
theorem dX7_misses_9 : decode cX7_misses 9 = .ok (.invokeinterface 71 1, 5) := by decide +kernel
theorem dX7_misses_14 : decode cX7_misses 14 = .ok (.astore_n 2, 1) := dk_77 (dk_at dksX7_misses_0 14 rfl rfl)
theorem dX7_misses_15 : decode cX7_misses 15 = .ok (.aload_n 2, 1) := dk_44 (dk_at dksX7_misses_0 15 rfl rfl)
theorem dX7_misses_16 : decode cX7_misses 16 = .ok (.invokeinterface 77 1, 5) := by decide +kernel
theorem dX7_misses_21 : decode cX7_misses 21 = .ok (.ifCond .eq 37, 3) := dk_153 0 37 (dk_at dksX7_misses_0 21 rfl rfl)
theorem dX7_misses_24 : decode cX7_misses 24 = .ok (.aload_n 2, 1) := dk_44 (dk_at dksX7_misses_1 0 rfl rfl)
theorem dX7_misses_25 : decode cX7_misses 25 = .ok (.invokeinterface 83 1, 5) := by decide +kernel
theorem dX7_misses_30 : decode cX7_misses 30 = .ok (.checkcast 24, 3) := dk_192 0 24 (dk_at dksX7_misses_1 6 rfl rfl)
theorem dX7_misses_33 : decode cX7_misses 33 = .ok (.astore_n 3, 1) := dk_78 (dk_at dksX7_misses_1 9 rfl rfl)
theorem dX7_misses_34 : decode cX7_misses 34 = .ok (.iload_n 1, 1) := dk_27 (dk_at dksX7_misses_1 10 rfl rfl)
theorem dX7_misses_35 : decode cX7_misses 35 = .ok (.aload_n 0, 1) := dk_42 (dk_at dksX7_misses_1 11 rfl rfl)
theorem dX7_misses_36 : decode cX7_misses 36 = .ok (.aload_n 3, 1) := dk_45 (dk_at dksX7_misses_1 12 rfl rfl)
theorem dX7_misses_37 : decode cX7_misses 37 = .ok (.invokevirtual 87, 3) := dk_182 0 87 (dk_at dksX7_misses_1 13 rfl rfl)
theorem dX7_misses_40 : decode cX7_misses 40 = .ok (.invokevirtual 91, 3) := dk_182 0 91 (dk_at dksX7_misses_1 16 rfl rfl)
theorem dX7_misses_43 : decode cX7_misses 43 = .ok (.bipush (-5), 2) := dk_16 251 (dk_at dksX7_misses_1 19 rfl rfl)
theorem dX7_misses_45 : decode cX7_misses 45 = .ok (.if_icmp .ne 7, 3) := dk_160 0 7 (dk_at dksX7_misses_1 21 rfl rfl)
theorem dX7_misses_48 : decode cX7_misses 48 = .ok (.iconst 1, 1) := dk_4 (dk_at dksX7_misses_2 0 rfl rfl)
theorem dX7_misses_49 : decode cX7_misses 49 = .ok (.goto 4, 3) := dk_167 0 4 (dk_at dksX7_misses_2 1 rfl rfl)
theorem dX7_misses_52 : decode cX7_misses 52 = .ok (.iconst 0, 1) := dk_3 (dk_at dksX7_misses_2 4 rfl rfl)
theorem dX7_misses_53 : decode cX7_misses 53 = .ok (.iadd, 1) := dk_96 (dk_at dksX7_misses_2 5 rfl rfl)
theorem dX7_misses_54 : decode cX7_misses 54 = .ok (.istore_n 1, 1) := dk_60 (dk_at dksX7_misses_2 6 rfl rfl)
theorem dX7_misses_55 : decode cX7_misses 55 = .ok (.goto (-40), 3) := dk_167 255 216 (dk_at dksX7_misses_2 7 rfl rfl)
theorem dX7_misses_58 : decode cX7_misses 58 = .ok (.iload_n 1, 1) := dk_27 (dk_at dksX7_misses_2 10 rfl rfl)
theorem dX7_misses_59 : decode cX7_misses 59 = .ok (.ireturn, 1) := dk_172 (dk_at dksX7_misses_2 11 rfl rfl)
theorem q119 : (Jvm.Cond.initialized "ArbitratedBus$Messages") ∈ lw_all := lw_g (lw_at lw_m1 18 rfl) rfl
theorem q503 : (Jvm.Cond.instantiable "ArbitratedBus$Messages" (1 : Nat)) ∈ lw_all := lw_g (lw_at lw_m2 162 rfl) rfl
theorem q505 : (Jvm.Cond.instanceMethod ({ cls := "ArbitratedBus$Messages", name := "<init>", desc := "()V" } : Jvm.MethodName)) ∈ lw_all := lw_g (lw_at lw_m2 164 rfl) rfl
theorem q506 : (Jvm.Cond.code ({ cls := "ArbitratedBus$Messages", name := "<init>", desc := "()V" } : Jvm.MethodName) prog_9_method_1_code (1 : Nat) (Option.none : Option Jvm.ClassFile.FieldType)) ∈ lw_all := lw_g (lw_at lw_m2 165 rfl) rfl
theorem q507 : (Jvm.Cond.methodLink "ArbitratedBus$Messages" (3 : Nat) ({ cls := "java/lang/Object", name := "<init>", desc := "()V" } : Jvm.MethodName)) ∈ lw_all := lw_g (lw_at lw_m2 166 rfl) rfl
theorem q508 : (Jvm.Cond.classLink "ArbitratedBus$Messages" (9 : Nat) "java/util/TreeMap") ∈ lw_all := lw_g (lw_at lw_m2 167 rfl) rfl
theorem q509 : (Jvm.Cond.classLink "ArbitratedBus$Messages" (11 : Nat) "ArbitratedBus$ByIdentifier") ∈ lw_all := lw_g (lw_at lw_m2 168 rfl) rfl
theorem q510 : (Jvm.Cond.methodLinkNest "ArbitratedBus$Messages" (13 : Nat) ({ cls := "ArbitratedBus$ByIdentifier", name := "<init>", desc := "()V" } : Jvm.MethodName) "ArbitratedBus") ∈ lw_tbl := lw_at lw_m2 169 rfl
theorem q511 : (Jvm.Cond.methodLink "ArbitratedBus$Messages" (14 : Nat) ({ cls := "java/util/TreeMap", name := "<init>", desc := "(Ljava/util/Comparator;)V" } : Jvm.MethodName)) ∈ lw_all := lw_g (lw_at lw_m2 170 rfl) rfl
theorem q512 : (Jvm.Cond.fieldLink "ArbitratedBus$Messages" (17 : Nat) "ArbitratedBus$Messages" "all" "Ljava/util/TreeMap;") ∈ lw_all := lw_g (lw_at lw_m2 171 rfl) rfl
theorem q514 : (Jvm.Cond.laysFinal "ArbitratedBus$Messages" "ArbitratedBus$Messages" "all" "Ljava/util/TreeMap;") ∈ lw_all := lw_g (lw_at lw_m2 173 rfl) rfl
theorem q515 : (Jvm.Cond.soleField "ArbitratedBus$Messages" "all") ∈ lw_all := lw_g (lw_at lw_m2 174 rfl) rfl
theorem q516 : (Jvm.Cond.superclass "ArbitratedBus$Messages" "java/lang/Object") ∈ lw_all := lw_g (lw_at lw_m2 175 rfl) rfl
theorem q680 : (Jvm.Cond.selects "ArbitratedBus$Messages" ({ cls := "java/lang/Object", name := "getClass", desc := "()Ljava/lang/Class;" } : Jvm.MethodName) ({ cls := "java/lang/Object", name := "getClass", desc := "()Ljava/lang/Class;" } : Jvm.MethodName)) ∈ lw_all := lw_g (lw_at lw_m3 99 rfl) rfl
theorem q2636 : (Jvm.Cond.fieldLinkNest "ArbitratedBus$Messages" (38 : Nat) "ArbitratedBus$Message" "bits" "I" "ArbitratedBus") ∈ lw_tbl := lw_at lw_m11 135 rfl
theorem q2638 : (Jvm.Cond.fieldLinkNest "ArbitratedBus$Messages" (61 : Nat) "ArbitratedBus$Message" "period" "I" "ArbitratedBus") ∈ lw_tbl := lw_at lw_m11 137 rfl
theorem q2640 : (Jvm.Cond.fieldLinkNest "ArbitratedBus$Messages" (58 : Nat) "ArbitratedBus$Message" "jitter" "I" "ArbitratedBus") ∈ lw_tbl := lw_at lw_m11 139 rfl
theorem q2657 : (Jvm.Cond.instanceMethod ({ cls := "ArbitratedBus$Messages", name := "response", desc := "(I)I" } : Jvm.MethodName)) ∈ lw_all := lw_g (lw_at lw_m11 156 rfl) rfl
theorem q2658 : (Jvm.Cond.selects "ArbitratedBus$Messages" ({ cls := "ArbitratedBus$Messages", name := "response", desc := "(I)I" } : Jvm.MethodName) ({ cls := "ArbitratedBus$Messages", name := "response", desc := "(I)I" } : Jvm.MethodName)) ∈ lw_all := lw_g (lw_at lw_m11 157 rfl) rfl
theorem q2659 : (Jvm.Cond.code ({ cls := "ArbitratedBus$Messages", name := "response", desc := "(I)I" } : Jvm.MethodName) prog_9_method_4_code (6 : Nat) (Option.some Jvm.ClassFile.FieldType.int)) ∈ lw_all := lw_g (lw_at lw_m11 158 rfl) rfl
theorem q2660 : (Jvm.Cond.methodLink "ArbitratedBus$Messages" (23 : Nat) ({ cls := "java/lang/Integer", name := "valueOf", desc := "(I)Ljava/lang/Integer;" } : Jvm.MethodName)) ∈ lw_all := lw_g (lw_at lw_m11 159 rfl) rfl
theorem q2661 : (Jvm.Cond.methodLink "ArbitratedBus$Messages" (33 : Nat) ({ cls := "java/util/TreeMap", name := "get", desc := "(Ljava/lang/Object;)Ljava/lang/Object;" } : Jvm.MethodName)) ∈ lw_all := lw_g (lw_at lw_m11 160 rfl) rfl
theorem q2662 : (Jvm.Cond.classLink "ArbitratedBus$Messages" (36 : Nat) "ArbitratedBus$Message") ∈ lw_all := lw_g (lw_at lw_m11 161 rfl) rfl
theorem q2663 : (Jvm.Cond.methodLink "ArbitratedBus$Messages" (55 : Nat) ({ cls := "ArbitratedBus$Messages", name := "blocking", desc := "(I)I" } : Jvm.MethodName)) ∈ lw_all := lw_g (lw_at lw_m11 162 rfl) rfl
theorem q2664 : (Jvm.Cond.privateMethod ({ cls := "ArbitratedBus$Messages", name := "blocking", desc := "(I)I" } : Jvm.MethodName)) ∈ lw_tbl := lw_at lw_m11 163 rfl
theorem q2665 : (Jvm.Cond.instanceMethod ({ cls := "ArbitratedBus$Messages", name := "blocking", desc := "(I)I" } : Jvm.MethodName)) ∈ lw_all := lw_g (lw_at lw_m11 164 rfl) rfl
theorem q2666 : (Jvm.Cond.code ({ cls := "ArbitratedBus$Messages", name := "blocking", desc := "(I)I" } : Jvm.MethodName) prog_9_method_2_code (4 : Nat) (Option.some Jvm.ClassFile.FieldType.int)) ∈ lw_all := lw_g (lw_at lw_m11 165 rfl) rfl
theorem q2667 : (Jvm.Cond.methodLink "ArbitratedBus$Messages" (29 : Nat) ({ cls := "java/util/TreeMap", name := "higherKey", desc := "(Ljava/lang/Object;)Ljava/lang/Object;" } : Jvm.MethodName)) ∈ lw_all := lw_g (lw_at lw_m11 166 rfl) rfl
theorem q2678 : (Jvm.Cond.classLink "ArbitratedBus$Messages" (24 : Nat) "java/lang/Integer") ∈ lw_all := lw_g (lw_at lw_m11 177 rfl) rfl
theorem q2679 : (Jvm.Cond.methodLink "ArbitratedBus$Messages" (42 : Nat) ({ cls := "java/lang/Math", name := "max", desc := "(II)I" } : Jvm.MethodName)) ∈ lw_all := lw_g (lw_at lw_m11 178 rfl) rfl
theorem q2680 : (Jvm.Cond.methodLink "ArbitratedBus$Messages" (64 : Nat) ({ cls := "ArbitratedBus$Messages", name := "interference", desc := "(II)I" } : Jvm.MethodName)) ∈ lw_all := lw_g (lw_at lw_m11 179 rfl) rfl
theorem q2681 : (Jvm.Cond.privateMethod ({ cls := "ArbitratedBus$Messages", name := "interference", desc := "(II)I" } : Jvm.MethodName)) ∈ lw_tbl := lw_at lw_m11 180 rfl
theorem q2682 : (Jvm.Cond.instanceMethod ({ cls := "ArbitratedBus$Messages", name := "interference", desc := "(II)I" } : Jvm.MethodName)) ∈ lw_all := lw_g (lw_at lw_m11 181 rfl) rfl
theorem q2683 : (Jvm.Cond.code ({ cls := "ArbitratedBus$Messages", name := "interference", desc := "(II)I" } : Jvm.MethodName) prog_9_method_3_code (5 : Nat) (Option.some Jvm.ClassFile.FieldType.int)) ∈ lw_all := lw_g (lw_at lw_m11 182 rfl) rfl
theorem q2684 : (Jvm.Cond.methodLink "ArbitratedBus$Messages" (48 : Nat) ({ cls := "java/util/TreeMap", name := "lowerKey", desc := "(Ljava/lang/Object;)Ljava/lang/Object;" } : Jvm.MethodName)) ∈ lw_all := lw_g (lw_at lw_m11 183 rfl) rfl
theorem q2692 : (Jvm.Cond.methodLink "ArbitratedBus$Messages" (51 : Nat) ({ cls := "ArbitratedBus$Message", name := "demand", desc := "(I)I" } : Jvm.MethodName)) ∈ lw_all := lw_g (lw_at lw_m11 191 rfl) rfl
theorem q2701 : (Jvm.Cond.instanceMethod ({ cls := "ArbitratedBus$Messages", name := "misses", desc := "()I" } : Jvm.MethodName)) ∈ lw_all := lw_g (lw_at lw_m11 200 rfl) rfl
theorem q2702 : (Jvm.Cond.selects "ArbitratedBus$Messages" ({ cls := "ArbitratedBus$Messages", name := "misses", desc := "()I" } : Jvm.MethodName) ({ cls := "ArbitratedBus$Messages", name := "misses", desc := "()I" } : Jvm.MethodName)) ∈ lw_all := lw_g (lw_at lw_m11 201 rfl) rfl
theorem q2703 : (Jvm.Cond.code ({ cls := "ArbitratedBus$Messages", name := "misses", desc := "()I" } : Jvm.MethodName) prog_9_method_5_code (4 : Nat) (Option.some Jvm.ClassFile.FieldType.int)) ∈ lw_all := lw_g (lw_at lw_m11 202 rfl) rfl
theorem q2704 : (Jvm.Cond.methodLink "ArbitratedBus$Messages" (67 : Nat) ({ cls := "java/util/TreeMap", name := "keySet", desc := "()Ljava/util/Set;" } : Jvm.MethodName)) ∈ lw_all := lw_g (lw_at lw_m11 203 rfl) rfl
theorem q2705 : (Jvm.Cond.interfaceEntry "ArbitratedBus$Messages" (71 : Nat)) ∈ lw_tbl := lw_at lw_m11 204 rfl
theorem q2706 : (Jvm.Cond.methodLink "ArbitratedBus$Messages" (71 : Nat) ({ cls := "java/util/Set", name := "iterator", desc := "()Ljava/util/Iterator;" } : Jvm.MethodName)) ∈ lw_all := lw_g (lw_at lw_m11 205 rfl) rfl
theorem q2707 : (Jvm.Cond.interfaceEntry "ArbitratedBus$Messages" (77 : Nat)) ∈ lw_tbl := lw_at lw_m11 206 rfl
theorem q2708 : (Jvm.Cond.methodLink "ArbitratedBus$Messages" (77 : Nat) ({ cls := "java/util/Iterator", name := "hasNext", desc := "()Z" } : Jvm.MethodName)) ∈ lw_all := lw_g (lw_at lw_m11 207 rfl) rfl
theorem q2709 : (Jvm.Cond.interfaceEntry "ArbitratedBus$Messages" (83 : Nat)) ∈ lw_tbl := lw_at lw_m11 208 rfl
theorem q2710 : (Jvm.Cond.methodLink "ArbitratedBus$Messages" (83 : Nat) ({ cls := "java/util/Iterator", name := "next", desc := "()Ljava/lang/Object;" } : Jvm.MethodName)) ∈ lw_all := lw_g (lw_at lw_m11 209 rfl) rfl
theorem q2711 : (Jvm.Cond.methodLink "ArbitratedBus$Messages" (87 : Nat) ({ cls := "java/lang/Integer", name := "intValue", desc := "()I" } : Jvm.MethodName)) ∈ lw_all := lw_g (lw_at lw_m11 210 rfl) rfl
theorem q2712 : (Jvm.Cond.methodLink "ArbitratedBus$Messages" (91 : Nat) ({ cls := "ArbitratedBus$Messages", name := "response", desc := "(I)I" } : Jvm.MethodName)) ∈ lw_all := lw_g (lw_at lw_m11 211 rfl) rfl
theorem q3426 : (Jvm.Cond.castable "ArbitratedBus$Messages" "java/lang/Object") ∈ lw_tbl := lw_at lw_m14 205 rfl
theorem in_X7 : ∀ w ∈ wsX70, w ∈ lw_all := lw_in wsX70 [514] (by decide +kernel) (by decide +kernel)

/-! ArbitratedBus$Frame -/
set_option maxRecDepth 100000
def RX9 : String := "ArbitratedBus$Frame"
def TX9 : u_T := fun k => match k with
  | 0 => ("ArbitratedBus$Frame", "identifier", "I", true)
  | 1 => ("ArbitratedBus$Frame", "remote", "Z", true)
  | 2 => ("ArbitratedBus$Frame", "length", "I", true)
  | 3 => ("ArbitratedBus$Frame", "data", "I", true)
  | _ => ("ArbitratedBus$Frame", "order", "I", true)
def tyX9 : Nat → FieldType := fun k => match k with
  | 0 => .int
  | 1 => .boolean
  | 2 => .int
  | 3 => .int
  | _ => .int
abbrev wsX90 : List Cond := u_ws RX9 TX9 5
theorem nmX9 : ∀ a, a < 5 → ∀ b, b < 5 → a ≠ b → (TX9 a).2.1 ≠ (TX9 b).2.1 := by decide +kernel
theorem tyX9_ok : ∀ k, k < 5 → parseFieldDescriptor (TX9 k).2.2.1 = some (tyX9 k) := by decide +kernel
abbrev cX9_fits : ByteArray := prog_7_method_4_code
def yX9_fits : MethodName := ⟨RX9, "fits", "(II)Z"⟩
def dkwX9_fits_0 : List UInt8 := [26, 7, 159, 0, 12, 27, 16, 8, 26, 104, 124, 154, 0, 7, 4, 167, 0, 4, 3, 172]
abbrev dktX9_fits_0 : List UInt8 := dkwX9_fits_0 ++ []
theorem dksX9_fits_0 : cX9_fits.data.toList.drop 0 = dktX9_fits_0 := by decide +kernel
theorem dX9_fits_0 : decode cX9_fits 0 = .ok (.iload_n 0, 1) := dk_26 (dk_at dksX9_fits_0 0 rfl rfl)
theorem dX9_fits_1 : decode cX9_fits 1 = .ok (.iconst 4, 1) := dk_7 (dk_at dksX9_fits_0 1 rfl rfl)
theorem dX9_fits_2 : decode cX9_fits 2 = .ok (.if_icmp .eq 12, 3) := dk_159 0 12 (dk_at dksX9_fits_0 2 rfl rfl)
theorem dX9_fits_5 : decode cX9_fits 5 = .ok (.iload_n 1, 1) := dk_27 (dk_at dksX9_fits_0 5 rfl rfl)
theorem dX9_fits_6 : decode cX9_fits 6 = .ok (.bipush 8, 2) := dk_16 8 (dk_at dksX9_fits_0 6 rfl rfl)
theorem dX9_fits_8 : decode cX9_fits 8 = .ok (.iload_n 0, 1) := dk_26 (dk_at dksX9_fits_0 8 rfl rfl)
theorem dX9_fits_9 : decode cX9_fits 9 = .ok (.imul, 1) := dk_104 (dk_at dksX9_fits_0 9 rfl rfl)
theorem dX9_fits_10 : decode cX9_fits 10 = .ok (.iushr, 1) := dk_124 (dk_at dksX9_fits_0 10 rfl rfl)
theorem dX9_fits_11 : decode cX9_fits 11 = .ok (.ifCond .ne 7, 3) := dk_154 0 7 (dk_at dksX9_fits_0 11 rfl rfl)
theorem dX9_fits_14 : decode cX9_fits 14 = .ok (.iconst 1, 1) := dk_4 (dk_at dksX9_fits_0 14 rfl rfl)
theorem dX9_fits_15 : decode cX9_fits 15 = .ok (.goto 4, 3) := dk_167 0 4 (dk_at dksX9_fits_0 15 rfl rfl)
theorem dX9_fits_18 : decode cX9_fits 18 = .ok (.iconst 0, 1) := dk_3 (dk_at dksX9_fits_0 18 rfl rfl)
theorem dX9_fits_19 : decode cX9_fits 19 = .ok (.ireturn, 1) := dk_172 (dk_at dksX9_fits_0 19 rfl rfl)
abbrev cX9_compareTo : ByteArray := prog_7_method_10_code
def yX9_compareTo : MethodName := ⟨RX9, "compareTo", "(Ljava/lang/Object;)I"⟩
def dkwX9_compareTo_0 : List UInt8 := [42, 43, 192, 0, 10, 182, 0, 53, 172]
abbrev dktX9_compareTo_0 : List UInt8 := dkwX9_compareTo_0 ++ []
theorem dksX9_compareTo_0 : cX9_compareTo.data.toList.drop 0 = dktX9_compareTo_0 := by decide +kernel
theorem dX9_compareTo_0 : decode cX9_compareTo 0 = .ok (.aload_n 0, 1) := dk_42 (dk_at dksX9_compareTo_0 0 rfl rfl)
theorem dX9_compareTo_1 : decode cX9_compareTo 1 = .ok (.aload_n 1, 1) := dk_43 (dk_at dksX9_compareTo_0 1 rfl rfl)
theorem dX9_compareTo_2 : decode cX9_compareTo 2 = .ok (.checkcast 10, 3) := dk_192 0 10 (dk_at dksX9_compareTo_0 2 rfl rfl)
theorem dX9_compareTo_5 : decode cX9_compareTo 5 = .ok (.invokevirtual 53, 3) := dk_182 0 53 (dk_at dksX9_compareTo_0 5 rfl rfl)
theorem dX9_compareTo_8 : decode cX9_compareTo 8 = .ok (.ireturn, 1) := dk_172 (dk_at dksX9_compareTo_0 8 rfl rfl)
abbrev cX9_compareTo_2 : ByteArray := prog_7_method_3_code
def yX9_compareTo_2 : MethodName := ⟨RX9, "compareTo", "(LArbitratedBus$Frame;)I"⟩
def dkwX9_compareTo_2_1 : List UInt8 := [167, 0, 14, 42, 180, 0, 25, 43, 180, 0, 25, 184, 0, 32, 172]
abbrev dktX9_compareTo_2_1 : List UInt8 := dkwX9_compareTo_2_1 ++ []
def dkwX9_compareTo_2_0 : List UInt8 := [42, 182, 0, 28, 43, 182, 0, 28, 159, 0, 17, 42, 182, 0, 28, 43, 182, 0, 28, 184, 0, 32]
abbrev dktX9_compareTo_2_0 : List UInt8 := dkwX9_compareTo_2_0 ++ dktX9_compareTo_2_1
theorem dksX9_compareTo_2_0 : cX9_compareTo_2.data.toList.drop 0 = dktX9_compareTo_2_0 := by decide +kernel
theorem dksX9_compareTo_2_1 : cX9_compareTo_2.data.toList.drop 22 = dktX9_compareTo_2_1 := dk_seg dksX9_compareTo_2_0 22 rfl rfl
theorem dX9_compareTo_2_0 : decode cX9_compareTo_2 0 = .ok (.aload_n 0, 1) := dk_42 (dk_at dksX9_compareTo_2_0 0 rfl rfl)
theorem dX9_compareTo_2_1 : decode cX9_compareTo_2 1 = .ok (.invokevirtual 28, 3) := dk_182 0 28 (dk_at dksX9_compareTo_2_0 1 rfl rfl)
theorem dX9_compareTo_2_4 : decode cX9_compareTo_2 4 = .ok (.aload_n 1, 1) := dk_43 (dk_at dksX9_compareTo_2_0 4 rfl rfl)
theorem dX9_compareTo_2_5 : decode cX9_compareTo_2 5 = .ok (.invokevirtual 28, 3) := dk_182 0 28 (dk_at dksX9_compareTo_2_0 5 rfl rfl)
theorem dX9_compareTo_2_8 : decode cX9_compareTo_2 8 = .ok (.if_icmp .eq 17, 3) := dk_159 0 17 (dk_at dksX9_compareTo_2_0 8 rfl rfl)
theorem dX9_compareTo_2_11 : decode cX9_compareTo_2 11 = .ok (.aload_n 0, 1) := dk_42 (dk_at dksX9_compareTo_2_0 11 rfl rfl)
theorem dX9_compareTo_2_12 : decode cX9_compareTo_2 12 = .ok (.invokevirtual 28, 3) := dk_182 0 28 (dk_at dksX9_compareTo_2_0 12 rfl rfl)
theorem dX9_compareTo_2_15 : decode cX9_compareTo_2 15 = .ok (.aload_n 1, 1) := dk_43 (dk_at dksX9_compareTo_2_0 15 rfl rfl)
theorem dX9_compareTo_2_16 : decode cX9_compareTo_2 16 = .ok (.invokevirtual 28, 3) := dk_182 0 28 (dk_at dksX9_compareTo_2_0 16 rfl rfl)
theorem dX9_compareTo_2_19 : decode cX9_compareTo_2 19 = .ok (.invokestatic 32, 3) := dk_184 0 32 (dk_at dksX9_compareTo_2_0 19 rfl rfl)
theorem dX9_compareTo_2_22 : decode cX9_compareTo_2 22 = .ok (.goto 14, 3) := dk_167 0 14 (dk_at dksX9_compareTo_2_1 0 rfl rfl)
theorem dX9_compareTo_2_25 : decode cX9_compareTo_2 25 = .ok (.aload_n 0, 1) := dk_42 (dk_at dksX9_compareTo_2_1 3 rfl rfl)
theorem dX9_compareTo_2_26 : decode cX9_compareTo_2 26 = .ok (.getfield 25, 3) := dk_180 0 25 (dk_at dksX9_compareTo_2_1 4 rfl rfl)
theorem dX9_compareTo_2_29 : decode cX9_compareTo_2 29 = .ok (.aload_n 1, 1) := dk_43 (dk_at dksX9_compareTo_2_1 7 rfl rfl)
theorem dX9_compareTo_2_30 : decode cX9_compareTo_2 30 = .ok (.getfield 25, 3) := dk_180 0 25 (dk_at dksX9_compareTo_2_1 8 rfl rfl)
theorem dX9_compareTo_2_33 : decode cX9_compareTo_2 33 = .ok (.invokestatic 32, 3) := dk_184 0 32 (dk_at dksX9_compareTo_2_1 11 rfl rfl)
theorem dX9_compareTo_2_36 : decode cX9_compareTo_2 36 = .ok (.ireturn, 1) := dk_172 (dk_at dksX9_compareTo_2_1 14 rfl rfl)
abbrev cX9_key : ByteArray := prog_7_method_2_code
def yX9_key : MethodName := ⟨RX9, "key", "()I"⟩
def dkwX9_key_0 : List UInt8 := [5, 42, 180, 0, 9, 104, 42, 180, 0, 15, 153, 0, 7, 4, 167, 0, 4, 3, 96, 172]
abbrev dktX9_key_0 : List UInt8 := dkwX9_key_0 ++ []
theorem dksX9_key_0 : cX9_key.data.toList.drop 0 = dktX9_key_0 := by decide +kernel
theorem dX9_key_0 : decode cX9_key 0 = .ok (.iconst 2, 1) := dk_5 (dk_at dksX9_key_0 0 rfl rfl)
theorem dX9_key_1 : decode cX9_key 1 = .ok (.aload_n 0, 1) := dk_42 (dk_at dksX9_key_0 1 rfl rfl)
theorem dX9_key_2 : decode cX9_key 2 = .ok (.getfield 9, 3) := dk_180 0 9 (dk_at dksX9_key_0 2 rfl rfl)
theorem dX9_key_5 : decode cX9_key 5 = .ok (.imul, 1) := dk_104 (dk_at dksX9_key_0 5 rfl rfl)
theorem dX9_key_6 : decode cX9_key 6 = .ok (.aload_n 0, 1) := dk_42 (dk_at dksX9_key_0 6 rfl rfl)
theorem dX9_key_7 : decode cX9_key 7 = .ok (.getfield 15, 3) := dk_180 0 15 (dk_at dksX9_key_0 7 rfl rfl)
theorem dX9_key_10 : decode cX9_key 10 = .ok (.ifCond .eq 7, 3) := dk_153 0 7 (dk_at dksX9_key_0 10 rfl rfl)
theorem dX9_key_13 : decode cX9_key 13 = .ok (.iconst 1, 1) := dk_4 (dk_at dksX9_key_0 13 rfl rfl)
theorem dX9_key_14 : decode cX9_key 14 = .ok (.goto 4, 3) := dk_167 0 4 (dk_at dksX9_key_0 14 rfl rfl)
theorem dX9_key_17 : decode cX9_key 17 = .ok (.iconst 0, 1) := dk_3 (dk_at dksX9_key_0 17 rfl rfl)
theorem dX9_key_18 : decode cX9_key 18 = .ok (.iadd, 1) := dk_96 (dk_at dksX9_key_0 18 rfl rfl)
theorem dX9_key_19 : decode cX9_key 19 = .ok (.ireturn, 1) := dk_172 (dk_at dksX9_key_0 19 rfl rfl)
abbrev cX9_init : ByteArray := prog_7_method_1_code
def yX9_init : MethodName := ⟨RX9, "<init>", "(IZIII)V"⟩
def dkwX9_init_1 : List UInt8 := [181, 0, 22, 42, 21, 5, 181, 0, 25, 177]
abbrev dktX9_init_1 : List UInt8 := dkwX9_init_1 ++ []
def dkwX9_init_0 : List UInt8 := [42, 183, 0, 3, 42, 27, 181, 0, 9, 42, 28, 181, 0, 15, 42, 29, 181, 0, 19, 42, 21, 4]
abbrev dktX9_init_0 : List UInt8 := dkwX9_init_0 ++ dktX9_init_1
theorem dksX9_init_0 : cX9_init.data.toList.drop 0 = dktX9_init_0 := by decide +kernel
theorem dksX9_init_1 : cX9_init.data.toList.drop 22 = dktX9_init_1 := dk_seg dksX9_init_0 22 rfl rfl
theorem dX9_init_0 : decode cX9_init 0 = .ok (.aload_n 0, 1) := dk_42 (dk_at dksX9_init_0 0 rfl rfl)
theorem dX9_init_1 : decode cX9_init 1 = .ok (.invokespecial 3, 3) := dk_183 0 3 (dk_at dksX9_init_0 1 rfl rfl)
theorem dX9_init_4 : decode cX9_init 4 = .ok (.aload_n 0, 1) := dk_42 (dk_at dksX9_init_0 4 rfl rfl)
theorem dX9_init_5 : decode cX9_init 5 = .ok (.iload_n 1, 1) := dk_27 (dk_at dksX9_init_0 5 rfl rfl)
theorem dX9_init_6 : decode cX9_init 6 = .ok (.putfield 9, 3) := dk_181 0 9 (dk_at dksX9_init_0 6 rfl rfl)
theorem dX9_init_9 : decode cX9_init 9 = .ok (.aload_n 0, 1) := dk_42 (dk_at dksX9_init_0 9 rfl rfl)
theorem dX9_init_10 : decode cX9_init 10 = .ok (.iload_n 2, 1) := dk_28 (dk_at dksX9_init_0 10 rfl rfl)
theorem dX9_init_11 : decode cX9_init 11 = .ok (.putfield 15, 3) := dk_181 0 15 (dk_at dksX9_init_0 11 rfl rfl)
theorem dX9_init_14 : decode cX9_init 14 = .ok (.aload_n 0, 1) := dk_42 (dk_at dksX9_init_0 14 rfl rfl)
theorem dX9_init_15 : decode cX9_init 15 = .ok (.iload_n 3, 1) := dk_29 (dk_at dksX9_init_0 15 rfl rfl)
theorem dX9_init_16 : decode cX9_init 16 = .ok (.putfield 19, 3) := dk_181 0 19 (dk_at dksX9_init_0 16 rfl rfl)
theorem dX9_init_19 : decode cX9_init 19 = .ok (.aload_n 0, 1) := dk_42 (dk_at dksX9_init_0 19 rfl rfl)
theorem dX9_init_20 : decode cX9_init 20 = .ok (.iload 4, 2) := dk_21 4 (dk_at dksX9_init_0 20 rfl rfl)
theorem dX9_init_22 : decode cX9_init 22 = .ok (.putfield 22, 3) := dk_181 0 22 (dk_at dksX9_init_1 0 rfl rfl)
theorem dX9_init_25 : decode cX9_init 25 = .ok (.aload_n 0, 1) := dk_42 (dk_at dksX9_init_1 3 rfl rfl)
theorem dX9_init_26 : decode cX9_init 26 = .ok (.iload 5, 2) := dk_21 5 (dk_at dksX9_init_1 4 rfl rfl)
theorem dX9_init_28 : decode cX9_init 28 = .ok (.putfield 25, 3) := dk_181 0 25 (dk_at dksX9_init_1 6 rfl rfl)
theorem dX9_init_31 : decode cX9_init 31 = .ok (.return_, 1) := dk_177 (dk_at dksX9_init_1 9 rfl rfl)
abbrev cX9_basic : ByteArray := prog_7_method_6_code
def yX9_basic : MethodName := ⟨RX9, "basic", "()I"⟩
def dkwX9_basic_0 : List UInt8 := [42, 182, 0, 38, 16, 15, 96, 172]
abbrev dktX9_basic_0 : List UInt8 := dkwX9_basic_0 ++ []
theorem dksX9_basic_0 : cX9_basic.data.toList.drop 0 = dktX9_basic_0 := by decide +kernel
theorem dX9_basic_0 : decode cX9_basic 0 = .ok (.aload_n 0, 1) := dk_42 (dk_at dksX9_basic_0 0 rfl rfl)
theorem dX9_basic_1 : decode cX9_basic 1 = .ok (.invokevirtual 38, 3) := dk_182 0 38 (dk_at dksX9_basic_0 1 rfl rfl)
theorem dX9_basic_4 : decode cX9_basic 4 = .ok (.bipush 15, 2) := dk_16 15 (dk_at dksX9_basic_0 4 rfl rfl)
theorem dX9_basic_6 : decode cX9_basic 6 = .ok (.iadd, 1) := dk_96 (dk_at dksX9_basic_0 6 rfl rfl)
theorem dX9_basic_7 : decode cX9_basic 7 = .ok (.ireturn, 1) := dk_172 (dk_at dksX9_basic_0 7 rfl rfl)
abbrev cX9_bare : ByteArray := prog_7_method_5_code
def yX9_bare : MethodName := ⟨RX9, "bare", "()I"⟩
def dkwX9_bare_0 : List UInt8 := [16, 19, 42, 180, 0, 15, 153, 0, 7, 3, 167, 0, 10, 16, 8, 42, 180, 0, 19, 104, 96, 172]
abbrev dktX9_bare_0 : List UInt8 := dkwX9_bare_0 ++ []
theorem dksX9_bare_0 : cX9_bare.data.toList.drop 0 = dktX9_bare_0 := by decide +kernel
theorem dX9_bare_0 : decode cX9_bare 0 = .ok (.bipush 19, 2) := dk_16 19 (dk_at dksX9_bare_0 0 rfl rfl)
theorem dX9_bare_2 : decode cX9_bare 2 = .ok (.aload_n 0, 1) := dk_42 (dk_at dksX9_bare_0 2 rfl rfl)
theorem dX9_bare_3 : decode cX9_bare 3 = .ok (.getfield 15, 3) := dk_180 0 15 (dk_at dksX9_bare_0 3 rfl rfl)
theorem dX9_bare_6 : decode cX9_bare 6 = .ok (.ifCond .eq 7, 3) := dk_153 0 7 (dk_at dksX9_bare_0 6 rfl rfl)
theorem dX9_bare_9 : decode cX9_bare 9 = .ok (.iconst 0, 1) := dk_3 (dk_at dksX9_bare_0 9 rfl rfl)
theorem dX9_bare_10 : decode cX9_bare 10 = .ok (.goto 10, 3) := dk_167 0 10 (dk_at dksX9_bare_0 10 rfl rfl)
theorem dX9_bare_13 : decode cX9_bare 13 = .ok (.bipush 8, 2) := dk_16 8 (dk_at dksX9_bare_0 13 rfl rfl)
theorem dX9_bare_15 : decode cX9_bare 15 = .ok (.aload_n 0, 1) := dk_42 (dk_at dksX9_bare_0 15 rfl rfl)
theorem dX9_bare_16 : decode cX9_bare 16 = .ok (.getfield 19, 3) := dk_180 0 19 (dk_at dksX9_bare_0 16 rfl rfl)
theorem dX9_bare_19 : decode cX9_bare 19 = .ok (.imul, 1) := dk_104 (dk_at dksX9_bare_0 19 rfl rfl)
theorem dX9_bare_20 : decode cX9_bare 20 = .ok (.iadd, 1) := dk_96 (dk_at dksX9_bare_0 20 rfl rfl)
theorem dX9_bare_21 : decode cX9_bare 21 = .ok (.ireturn, 1) := dk_172 (dk_at dksX9_bare_0 21 rfl rfl)
abbrev cX9_bit : ByteArray := prog_7_method_9_code
def yX9_bit : MethodName := ⟨RX9, "bit", "(I)I"⟩
def dkwX9_bit_1 : List UInt8 := [4, 100, 27, 100, 122, 4, 126, 172]
abbrev dktX9_bit_1 : List UInt8 := dkwX9_bit_1 ++ []
def dkwX9_bit_0 : List UInt8 := [27, 42, 182, 0, 38, 162, 0, 11, 42, 27, 182, 0, 41, 167, 0, 18, 42, 182, 0, 47, 42, 182, 0, 50]
abbrev dktX9_bit_0 : List UInt8 := dkwX9_bit_0 ++ dktX9_bit_1
theorem dksX9_bit_0 : cX9_bit.data.toList.drop 0 = dktX9_bit_0 := by decide +kernel
theorem dksX9_bit_1 : cX9_bit.data.toList.drop 24 = dktX9_bit_1 := dk_seg dksX9_bit_0 24 rfl rfl
theorem dX9_bit_0 : decode cX9_bit 0 = .ok (.iload_n 1, 1) := dk_27 (dk_at dksX9_bit_0 0 rfl rfl)
theorem dX9_bit_1 : decode cX9_bit 1 = .ok (.aload_n 0, 1) := dk_42 (dk_at dksX9_bit_0 1 rfl rfl)
theorem dX9_bit_2 : decode cX9_bit 2 = .ok (.invokevirtual 38, 3) := dk_182 0 38 (dk_at dksX9_bit_0 2 rfl rfl)
theorem dX9_bit_5 : decode cX9_bit 5 = .ok (.if_icmp .ge 11, 3) := dk_162 0 11 (dk_at dksX9_bit_0 5 rfl rfl)
theorem dX9_bit_8 : decode cX9_bit 8 = .ok (.aload_n 0, 1) := dk_42 (dk_at dksX9_bit_0 8 rfl rfl)
theorem dX9_bit_9 : decode cX9_bit 9 = .ok (.iload_n 1, 1) := dk_27 (dk_at dksX9_bit_0 9 rfl rfl)
theorem dX9_bit_10 : decode cX9_bit 10 = .ok (.invokevirtual 41, 3) := dk_182 0 41 (dk_at dksX9_bit_0 10 rfl rfl)
theorem dX9_bit_13 : decode cX9_bit 13 = .ok (.goto 18, 3) := dk_167 0 18 (dk_at dksX9_bit_0 13 rfl rfl)
theorem dX9_bit_16 : decode cX9_bit 16 = .ok (.aload_n 0, 1) := dk_42 (dk_at dksX9_bit_0 16 rfl rfl)
theorem dX9_bit_17 : decode cX9_bit 17 = .ok (.invokevirtual 47, 3) := dk_182 0 47 (dk_at dksX9_bit_0 17 rfl rfl)
theorem dX9_bit_20 : decode cX9_bit 20 = .ok (.aload_n 0, 1) := dk_42 (dk_at dksX9_bit_0 20 rfl rfl)
theorem dX9_bit_21 : decode cX9_bit 21 = .ok (.invokevirtual 50, 3) := dk_182 0 50 (dk_at dksX9_bit_0 21 rfl rfl)
theorem dX9_bit_24 : decode cX9_bit 24 = .ok (.iconst 1, 1) := dk_4 (dk_at dksX9_bit_1 0 rfl rfl)
theorem dX9_bit_25 : decode cX9_bit 25 = .ok (.isub, 1) := dk_100 (dk_at dksX9_bit_1 1 rfl rfl)
theorem dX9_bit_26 : decode cX9_bit 26 = .ok (.iload_n 1, 1) := dk_27 (dk_at dksX9_bit_1 2 rfl rfl)
theorem dX9_bit_27 : decode cX9_bit 27 = .ok (.isub, 1) := dk_100 (dk_at dksX9_bit_1 3 rfl rfl)
theorem dX9_bit_28 : decode cX9_bit 28 = .ok (.ishr, 1) := dk_122 (dk_at dksX9_bit_1 4 rfl rfl)
theorem dX9_bit_29 : decode cX9_bit 29 = .ok (.iconst 1, 1) := dk_4 (dk_at dksX9_bit_1 5 rfl rfl)
theorem dX9_bit_30 : decode cX9_bit 30 = .ok (.iand, 1) := dk_126 (dk_at dksX9_bit_1 6 rfl rfl)
theorem dX9_bit_31 : decode cX9_bit 31 = .ok (.ireturn, 1) := dk_172 (dk_at dksX9_bit_1 7 rfl rfl)
abbrev cX9_bare_2 : ByteArray := prog_7_method_7_code
def yX9_bare_2 : MethodName := ⟨RX9, "bare", "(I)I"⟩
def dkwX9_bare_2_3 : List UInt8 := [167, 0, 18, 42, 180, 0, 22, 42, 182, 0, 38, 4, 100, 27, 100, 122, 4, 126, 172]
abbrev dktX9_bare_2_3 : List UInt8 := dkwX9_bare_2_3 ++ []
def dkwX9_bare_2_2 : List UInt8 := [162, 0, 5, 3, 172, 27, 16, 19, 162, 0, 17, 42, 180, 0, 19, 16, 18, 27, 100, 122, 4, 126]
abbrev dktX9_bare_2_2 : List UInt8 := dkwX9_bare_2_2 ++ dktX9_bare_2_3
def dkwX9_bare_2_1 : List UInt8 := [27, 16, 12, 160, 0, 16, 42, 180, 0, 15, 153, 0, 7, 4, 167, 0, 4, 3, 172, 27, 16, 15]
abbrev dktX9_bare_2_1 : List UInt8 := dkwX9_bare_2_1 ++ dktX9_bare_2_2
def dkwX9_bare_2_0 : List UInt8 := [27, 154, 0, 5, 3, 172, 27, 16, 12, 162, 0, 15, 42, 180, 0, 9, 16, 11, 27, 100, 122, 4, 126, 172]
abbrev dktX9_bare_2_0 : List UInt8 := dkwX9_bare_2_0 ++ dktX9_bare_2_1
theorem dksX9_bare_2_0 : cX9_bare_2.data.toList.drop 0 = dktX9_bare_2_0 := by decide +kernel
theorem dksX9_bare_2_1 : cX9_bare_2.data.toList.drop 24 = dktX9_bare_2_1 := dk_seg dksX9_bare_2_0 24 rfl rfl
theorem dksX9_bare_2_2 : cX9_bare_2.data.toList.drop 46 = dktX9_bare_2_2 := dk_seg dksX9_bare_2_1 22 rfl rfl
theorem dksX9_bare_2_3 : cX9_bare_2.data.toList.drop 68 = dktX9_bare_2_3 := dk_seg dksX9_bare_2_2 22 rfl rfl
theorem dX9_bare_2_0 : decode cX9_bare_2 0 = .ok (.iload_n 1, 1) := dk_27 (dk_at dksX9_bare_2_0 0 rfl rfl)
theorem dX9_bare_2_1 : decode cX9_bare_2 1 = .ok (.ifCond .ne 5, 3) := dk_154 0 5 (dk_at dksX9_bare_2_0 1 rfl rfl)
theorem dX9_bare_2_4 : decode cX9_bare_2 4 = .ok (.iconst 0, 1) := dk_3 (dk_at dksX9_bare_2_0 4 rfl rfl)
theorem dX9_bare_2_5 : decode cX9_bare_2 5 = .ok (.ireturn, 1) := dk_172 (dk_at dksX9_bare_2_0 5 rfl rfl)
theorem dX9_bare_2_6 : decode cX9_bare_2 6 = .ok (.iload_n 1, 1) := dk_27 (dk_at dksX9_bare_2_0 6 rfl rfl)
theorem dX9_bare_2_7 : decode cX9_bare_2 7 = .ok (.bipush 12, 2) := dk_16 12 (dk_at dksX9_bare_2_0 7 rfl rfl)
theorem dX9_bare_2_9 : decode cX9_bare_2 9 = .ok (.if_icmp .ge 15, 3) := dk_162 0 15 (dk_at dksX9_bare_2_0 9 rfl rfl)
theorem dX9_bare_2_12 : decode cX9_bare_2 12 = .ok (.aload_n 0, 1) := dk_42 (dk_at dksX9_bare_2_0 12 rfl rfl)
theorem dX9_bare_2_13 : decode cX9_bare_2 13 = .ok (.getfield 9, 3) := dk_180 0 9 (dk_at dksX9_bare_2_0 13 rfl rfl)
theorem dX9_bare_2_16 : decode cX9_bare_2 16 = .ok (.bipush 11, 2) := dk_16 11 (dk_at dksX9_bare_2_0 16 rfl rfl)
theorem dX9_bare_2_18 : decode cX9_bare_2 18 = .ok (.iload_n 1, 1) := dk_27 (dk_at dksX9_bare_2_0 18 rfl rfl)
theorem dX9_bare_2_19 : decode cX9_bare_2 19 = .ok (.isub, 1) := dk_100 (dk_at dksX9_bare_2_0 19 rfl rfl)
theorem dX9_bare_2_20 : decode cX9_bare_2 20 = .ok (.ishr, 1) := dk_122 (dk_at dksX9_bare_2_0 20 rfl rfl)
theorem dX9_bare_2_21 : decode cX9_bare_2 21 = .ok (.iconst 1, 1) := dk_4 (dk_at dksX9_bare_2_0 21 rfl rfl)
theorem dX9_bare_2_22 : decode cX9_bare_2 22 = .ok (.iand, 1) := dk_126 (dk_at dksX9_bare_2_0 22 rfl rfl)
theorem dX9_bare_2_23 : decode cX9_bare_2 23 = .ok (.ireturn, 1) := dk_172 (dk_at dksX9_bare_2_0 23 rfl rfl)
theorem dX9_bare_2_24 : decode cX9_bare_2 24 = .ok (.iload_n 1, 1) := dk_27 (dk_at dksX9_bare_2_1 0 rfl rfl)
theorem dX9_bare_2_25 : decode cX9_bare_2 25 = .ok (.bipush 12, 2) := dk_16 12 (dk_at dksX9_bare_2_1 1 rfl rfl)
theorem dX9_bare_2_27 : decode cX9_bare_2 27 = .ok (.if_icmp .ne 16, 3) := dk_160 0 16 (dk_at dksX9_bare_2_1 3 rfl rfl)
theorem dX9_bare_2_30 : decode cX9_bare_2 30 = .ok (.aload_n 0, 1) := dk_42 (dk_at dksX9_bare_2_1 6 rfl rfl)
theorem dX9_bare_2_31 : decode cX9_bare_2 31 = .ok (.getfield 15, 3) := dk_180 0 15 (dk_at dksX9_bare_2_1 7 rfl rfl)
theorem dX9_bare_2_34 : decode cX9_bare_2 34 = .ok (.ifCond .eq 7, 3) := dk_153 0 7 (dk_at dksX9_bare_2_1 10 rfl rfl)
theorem dX9_bare_2_37 : decode cX9_bare_2 37 = .ok (.iconst 1, 1) := dk_4 (dk_at dksX9_bare_2_1 13 rfl rfl)
theorem dX9_bare_2_38 : decode cX9_bare_2 38 = .ok (.goto 4, 3) := dk_167 0 4 (dk_at dksX9_bare_2_1 14 rfl rfl)
theorem dX9_bare_2_41 : decode cX9_bare_2 41 = .ok (.iconst 0, 1) := dk_3 (dk_at dksX9_bare_2_1 17 rfl rfl)
theorem dX9_bare_2_42 : decode cX9_bare_2 42 = .ok (.ireturn, 1) := dk_172 (dk_at dksX9_bare_2_1 18 rfl rfl)
theorem dX9_bare_2_43 : decode cX9_bare_2 43 = .ok (.iload_n 1, 1) := dk_27 (dk_at dksX9_bare_2_1 19 rfl rfl)
theorem dX9_bare_2_44 : decode cX9_bare_2 44 = .ok (.bipush 15, 2) := dk_16 15 (dk_at dksX9_bare_2_1 20 rfl rfl)
theorem dX9_bare_2_46 : decode cX9_bare_2 46 = .ok (.if_icmp .ge 5, 3) := dk_162 0 5 (dk_at dksX9_bare_2_2 0 rfl rfl)
theorem dX9_bare_2_49 : decode cX9_bare_2 49 = .ok (.iconst 0, 1) := dk_3 (dk_at dksX9_bare_2_2 3 rfl rfl)
theorem dX9_bare_2_50 : decode cX9_bare_2 50 = .ok (.ireturn, 1) := dk_172 (dk_at dksX9_bare_2_2 4 rfl rfl)
theorem dX9_bare_2_51 : decode cX9_bare_2 51 = .ok (.iload_n 1, 1) := dk_27 (dk_at dksX9_bare_2_2 5 rfl rfl)
theorem dX9_bare_2_52 : decode cX9_bare_2 52 = .ok (.bipush 19, 2) := dk_16 19 (dk_at dksX9_bare_2_2 6 rfl rfl)
theorem dX9_bare_2_54 : decode cX9_bare_2 54 = .ok (.if_icmp .ge 17, 3) := dk_162 0 17 (dk_at dksX9_bare_2_2 8 rfl rfl)
theorem dX9_bare_2_57 : decode cX9_bare_2 57 = .ok (.aload_n 0, 1) := dk_42 (dk_at dksX9_bare_2_2 11 rfl rfl)
theorem dX9_bare_2_58 : decode cX9_bare_2 58 = .ok (.getfield 19, 3) := dk_180 0 19 (dk_at dksX9_bare_2_2 12 rfl rfl)
theorem dX9_bare_2_61 : decode cX9_bare_2 61 = .ok (.bipush 18, 2) := dk_16 18 (dk_at dksX9_bare_2_2 15 rfl rfl)
theorem dX9_bare_2_63 : decode cX9_bare_2 63 = .ok (.iload_n 1, 1) := dk_27 (dk_at dksX9_bare_2_2 17 rfl rfl)
theorem dX9_bare_2_64 : decode cX9_bare_2 64 = .ok (.isub, 1) := dk_100 (dk_at dksX9_bare_2_2 18 rfl rfl)
theorem dX9_bare_2_65 : decode cX9_bare_2 65 = .ok (.ishr, 1) := dk_122 (dk_at dksX9_bare_2_2 19 rfl rfl)
theorem dX9_bare_2_66 : decode cX9_bare_2 66 = .ok (.iconst 1, 1) := dk_4 (dk_at dksX9_bare_2_2 20 rfl rfl)
theorem dX9_bare_2_67 : decode cX9_bare_2 67 = .ok (.iand, 1) := dk_126 (dk_at dksX9_bare_2_2 21 rfl rfl)
theorem dX9_bare_2_68 : decode cX9_bare_2 68 = .ok (.goto 18, 3) := dk_167 0 18 (dk_at dksX9_bare_2_3 0 rfl rfl)
theorem dX9_bare_2_71 : decode cX9_bare_2 71 = .ok (.aload_n 0, 1) := dk_42 (dk_at dksX9_bare_2_3 3 rfl rfl)
theorem dX9_bare_2_72 : decode cX9_bare_2 72 = .ok (.getfield 22, 3) := dk_180 0 22 (dk_at dksX9_bare_2_3 4 rfl rfl)
theorem dX9_bare_2_75 : decode cX9_bare_2 75 = .ok (.aload_n 0, 1) := dk_42 (dk_at dksX9_bare_2_3 7 rfl rfl)
theorem dX9_bare_2_76 : decode cX9_bare_2 76 = .ok (.invokevirtual 38, 3) := dk_182 0 38 (dk_at dksX9_bare_2_3 8 rfl rfl)
theorem dX9_bare_2_79 : decode cX9_bare_2 79 = .ok (.iconst 1, 1) := dk_4 (dk_at dksX9_bare_2_3 11 rfl rfl)
theorem dX9_bare_2_80 : decode cX9_bare_2 80 = .ok (.isub, 1) := dk_100 (dk_at dksX9_bare_2_3 12 rfl rfl)
theorem dX9_bare_2_81 : decode cX9_bare_2 81 = .ok (.iload_n 1, 1) := dk_27 (dk_at dksX9_bare_2_3 13 rfl rfl)
theorem dX9_bare_2_82 : decode cX9_bare_2 82 = .ok (.isub, 1) := dk_100 (dk_at dksX9_bare_2_3 14 rfl rfl)
theorem dX9_bare_2_83 : decode cX9_bare_2 83 = .ok (.ishr, 1) := dk_122 (dk_at dksX9_bare_2_3 15 rfl rfl)
theorem dX9_bare_2_84 : decode cX9_bare_2 84 = .ok (.iconst 1, 1) := dk_4 (dk_at dksX9_bare_2_3 16 rfl rfl)
theorem dX9_bare_2_85 : decode cX9_bare_2 85 = .ok (.iand, 1) := dk_126 (dk_at dksX9_bare_2_3 17 rfl rfl)
theorem dX9_bare_2_86 : decode cX9_bare_2 86 = .ok (.ireturn, 1) := dk_172 (dk_at dksX9_bare_2_3 18 rfl rfl)
abbrev cX9_crc : ByteArray := prog_7_method_8_code
def yX9_crc : MethodName := ⟨RX9, "crc", "()I"⟩
def dkwX9_crc_1 : List UInt8 := [132, 2, 1, 167, 255, 235, 27, 172]
abbrev dktX9_crc_1 : List UInt8 := dkwX9_crc_1 ++ []
def dkwX9_crc_0 : List UInt8 := [3, 60, 3, 61, 28, 42, 182, 0, 38, 162, 0, 19, 27, 42, 28, 182, 0, 41, 184, 0, 44, 60]
abbrev dktX9_crc_0 : List UInt8 := dkwX9_crc_0 ++ dktX9_crc_1
theorem dksX9_crc_0 : cX9_crc.data.toList.drop 0 = dktX9_crc_0 := by decide +kernel
theorem dksX9_crc_1 : cX9_crc.data.toList.drop 22 = dktX9_crc_1 := dk_seg dksX9_crc_0 22 rfl rfl
theorem dX9_crc_0 : decode cX9_crc 0 = .ok (.iconst 0, 1) := dk_3 (dk_at dksX9_crc_0 0 rfl rfl)
theorem dX9_crc_1 : decode cX9_crc 1 = .ok (.istore_n 1, 1) := dk_60 (dk_at dksX9_crc_0 1 rfl rfl)
theorem dX9_crc_2 : decode cX9_crc 2 = .ok (.iconst 0, 1) := dk_3 (dk_at dksX9_crc_0 2 rfl rfl)
theorem dX9_crc_3 : decode cX9_crc 3 = .ok (.istore_n 2, 1) := dk_61 (dk_at dksX9_crc_0 3 rfl rfl)
theorem dX9_crc_4 : decode cX9_crc 4 = .ok (.iload_n 2, 1) := dk_28 (dk_at dksX9_crc_0 4 rfl rfl)
theorem dX9_crc_5 : decode cX9_crc 5 = .ok (.aload_n 0, 1) := dk_42 (dk_at dksX9_crc_0 5 rfl rfl)
theorem dX9_crc_6 : decode cX9_crc 6 = .ok (.invokevirtual 38, 3) := dk_182 0 38 (dk_at dksX9_crc_0 6 rfl rfl)
theorem dX9_crc_9 : decode cX9_crc 9 = .ok (.if_icmp .ge 19, 3) := dk_162 0 19 (dk_at dksX9_crc_0 9 rfl rfl)
theorem dX9_crc_12 : decode cX9_crc 12 = .ok (.iload_n 1, 1) := dk_27 (dk_at dksX9_crc_0 12 rfl rfl)
theorem dX9_crc_13 : decode cX9_crc 13 = .ok (.aload_n 0, 1) := dk_42 (dk_at dksX9_crc_0 13 rfl rfl)
theorem dX9_crc_14 : decode cX9_crc 14 = .ok (.iload_n 2, 1) := dk_28 (dk_at dksX9_crc_0 14 rfl rfl)
theorem dX9_crc_15 : decode cX9_crc 15 = .ok (.invokevirtual 41, 3) := dk_182 0 41 (dk_at dksX9_crc_0 15 rfl rfl)
theorem dX9_crc_18 : decode cX9_crc 18 = .ok (.invokestatic 44, 3) := dk_184 0 44 (dk_at dksX9_crc_0 18 rfl rfl)
theorem dX9_crc_21 : decode cX9_crc 21 = .ok (.istore_n 1, 1) := dk_60 (dk_at dksX9_crc_0 21 rfl rfl)
theorem dX9_crc_22 : decode cX9_crc 22 = .ok (.iinc 2 1, 3) := dk_132 2 1 (dk_at dksX9_crc_1 0 rfl rfl)
theorem dX9_crc_25 : decode cX9_crc 25 = .ok (.goto (-21), 3) := dk_167 255 235 (dk_at dksX9_crc_1 3 rfl rfl)
theorem dX9_crc_28 : decode cX9_crc 28 = .ok (.iload_n 1, 1) := dk_27 (dk_at dksX9_crc_1 6 rfl rfl)
theorem dX9_crc_29 : decode cX9_crc 29 = .ok (.ireturn, 1) := dk_172 (dk_at dksX9_crc_1 7 rfl rfl)
theorem q121 : (Jvm.Cond.initialized "ArbitratedBus$Frame") ∈ lw_all := lw_g (lw_at lw_m1 20 rfl) rfl
theorem q564 : (Jvm.Cond.static ({ cls := "ArbitratedBus$Frame", name := "fits", desc := "(II)Z" } : Jvm.MethodName)) ∈ lw_all := lw_g (lw_at lw_m2 223 rfl) rfl
theorem q565 : (Jvm.Cond.code ({ cls := "ArbitratedBus$Frame", name := "fits", desc := "(II)Z" } : Jvm.MethodName) prog_7_method_4_code (2 : Nat) (Option.some Jvm.ClassFile.FieldType.boolean)) ∈ lw_all := lw_g (lw_at lw_m2 224 rfl) rfl
theorem q632 : (Jvm.Cond.castable "ArbitratedBus$Frame" "java/lang/Comparable") ∈ lw_tbl := lw_at lw_m3 51 rfl
theorem q633 : (Jvm.Cond.selects "ArbitratedBus$Frame" ({ cls := "java/lang/Comparable", name := "compareTo", desc := "(Ljava/lang/Object;)I" } : Jvm.MethodName) ({ cls := "ArbitratedBus$Frame", name := "compareTo", desc := "(Ljava/lang/Object;)I" } : Jvm.MethodName)) ∈ lw_all := lw_g (lw_at lw_m3 52 rfl) rfl
theorem q634 : (Jvm.Cond.unhidden "ArbitratedBus$Frame" "compareTo" "(Ljava/lang/Object;)I") ∈ lw_tbl := lw_at lw_m3 53 rfl
theorem q635 : (Jvm.Cond.instanceMethod ({ cls := "ArbitratedBus$Frame", name := "compareTo", desc := "(Ljava/lang/Object;)I" } : Jvm.MethodName)) ∈ lw_all := lw_g (lw_at lw_m3 54 rfl) rfl
theorem q636 : (Jvm.Cond.publicMethod ({ cls := "ArbitratedBus$Frame", name := "compareTo", desc := "(Ljava/lang/Object;)I" } : Jvm.MethodName)) ∈ lw_tbl := lw_at lw_m3 55 rfl
theorem q637 : (Jvm.Cond.code ({ cls := "ArbitratedBus$Frame", name := "compareTo", desc := "(Ljava/lang/Object;)I" } : Jvm.MethodName) prog_7_method_10_code (2 : Nat) (Option.some Jvm.ClassFile.FieldType.int)) ∈ lw_all := lw_g (lw_at lw_m3 56 rfl) rfl
theorem q638 : (Jvm.Cond.classLink "ArbitratedBus$Frame" (10 : Nat) "ArbitratedBus$Frame") ∈ lw_all := lw_g (lw_at lw_m3 57 rfl) rfl
theorem q639 : (Jvm.Cond.methodLink "ArbitratedBus$Frame" (53 : Nat) ({ cls := "ArbitratedBus$Frame", name := "compareTo", desc := "(LArbitratedBus$Frame;)I" } : Jvm.MethodName)) ∈ lw_all := lw_g (lw_at lw_m3 58 rfl) rfl
theorem q640 : (Jvm.Cond.instanceMethod ({ cls := "ArbitratedBus$Frame", name := "compareTo", desc := "(LArbitratedBus$Frame;)I" } : Jvm.MethodName)) ∈ lw_all := lw_g (lw_at lw_m3 59 rfl) rfl
theorem q641 : (Jvm.Cond.selects "ArbitratedBus$Frame" ({ cls := "ArbitratedBus$Frame", name := "compareTo", desc := "(LArbitratedBus$Frame;)I" } : Jvm.MethodName) ({ cls := "ArbitratedBus$Frame", name := "compareTo", desc := "(LArbitratedBus$Frame;)I" } : Jvm.MethodName)) ∈ lw_all := lw_g (lw_at lw_m3 60 rfl) rfl
theorem q642 : (Jvm.Cond.code ({ cls := "ArbitratedBus$Frame", name := "compareTo", desc := "(LArbitratedBus$Frame;)I" } : Jvm.MethodName) prog_7_method_3_code (2 : Nat) (Option.some Jvm.ClassFile.FieldType.int)) ∈ lw_all := lw_g (lw_at lw_m3 61 rfl) rfl
theorem q643 : (Jvm.Cond.methodLink "ArbitratedBus$Frame" (28 : Nat) ({ cls := "ArbitratedBus$Frame", name := "key", desc := "()I" } : Jvm.MethodName)) ∈ lw_all := lw_g (lw_at lw_m3 62 rfl) rfl
theorem q644 : (Jvm.Cond.instanceMethod ({ cls := "ArbitratedBus$Frame", name := "key", desc := "()I" } : Jvm.MethodName)) ∈ lw_all := lw_g (lw_at lw_m3 63 rfl) rfl
theorem q645 : (Jvm.Cond.selects "ArbitratedBus$Frame" ({ cls := "ArbitratedBus$Frame", name := "key", desc := "()I" } : Jvm.MethodName) ({ cls := "ArbitratedBus$Frame", name := "key", desc := "()I" } : Jvm.MethodName)) ∈ lw_all := lw_g (lw_at lw_m3 64 rfl) rfl
theorem q646 : (Jvm.Cond.code ({ cls := "ArbitratedBus$Frame", name := "key", desc := "()I" } : Jvm.MethodName) prog_7_method_2_code (1 : Nat) (Option.some Jvm.ClassFile.FieldType.int)) ∈ lw_all := lw_g (lw_at lw_m3 65 rfl) rfl
theorem q647 : (Jvm.Cond.methodLink "ArbitratedBus$Frame" (32 : Nat) ({ cls := "java/lang/Integer", name := "compare", desc := "(II)I" } : Jvm.MethodName)) ∈ lw_all := lw_g (lw_at lw_m3 66 rfl) rfl
theorem q678 : (Jvm.Cond.selects "ArbitratedBus$Frame" ({ cls := "java/lang/Object", name := "getClass", desc := "()Ljava/lang/Class;" } : Jvm.MethodName) ({ cls := "java/lang/Object", name := "getClass", desc := "()Ljava/lang/Class;" } : Jvm.MethodName)) ∈ lw_all := lw_g (lw_at lw_m3 97 rfl) rfl
theorem q1147 : (Jvm.Cond.instantiable "ArbitratedBus$Frame" (5 : Nat)) ∈ lw_all := lw_g (lw_at lw_m5 86 rfl) rfl
theorem q1149 : (Jvm.Cond.instanceMethod ({ cls := "ArbitratedBus$Frame", name := "<init>", desc := "(IZIII)V" } : Jvm.MethodName)) ∈ lw_all := lw_g (lw_at lw_m5 88 rfl) rfl
theorem q1150 : (Jvm.Cond.code ({ cls := "ArbitratedBus$Frame", name := "<init>", desc := "(IZIII)V" } : Jvm.MethodName) prog_7_method_1_code (6 : Nat) (Option.none : Option Jvm.ClassFile.FieldType)) ∈ lw_all := lw_g (lw_at lw_m5 89 rfl) rfl
theorem q1151 : (Jvm.Cond.methodLink "ArbitratedBus$Frame" (3 : Nat) ({ cls := "java/lang/Object", name := "<init>", desc := "()V" } : Jvm.MethodName)) ∈ lw_all := lw_g (lw_at lw_m5 90 rfl) rfl
theorem q1152 : (Jvm.Cond.fieldLink "ArbitratedBus$Frame" (9 : Nat) "ArbitratedBus$Frame" "identifier" "I") ∈ lw_all := lw_g (lw_at lw_m5 91 rfl) rfl
theorem q1154 : (Jvm.Cond.fieldLink "ArbitratedBus$Frame" (15 : Nat) "ArbitratedBus$Frame" "remote" "Z") ∈ lw_all := lw_g (lw_at lw_m5 93 rfl) rfl
theorem q1155 : (Jvm.Cond.fieldLink "ArbitratedBus$Frame" (19 : Nat) "ArbitratedBus$Frame" "length" "I") ∈ lw_all := lw_g (lw_at lw_m5 94 rfl) rfl
theorem q1157 : (Jvm.Cond.fieldLink "ArbitratedBus$Frame" (22 : Nat) "ArbitratedBus$Frame" "data" "I") ∈ lw_all := lw_g (lw_at lw_m5 96 rfl) rfl
theorem q1159 : (Jvm.Cond.fieldLink "ArbitratedBus$Frame" (25 : Nat) "ArbitratedBus$Frame" "order" "I") ∈ lw_all := lw_g (lw_at lw_m5 98 rfl) rfl
theorem q1160 : (Jvm.Cond.laysFinal "ArbitratedBus$Frame" "ArbitratedBus$Frame" "identifier" "I") ∈ lw_all := lw_g (lw_at lw_m5 99 rfl) rfl
theorem q1161 : (Jvm.Cond.soleField "ArbitratedBus$Frame" "identifier") ∈ lw_all := lw_g (lw_at lw_m5 100 rfl) rfl
theorem q1162 : (Jvm.Cond.laysFinal "ArbitratedBus$Frame" "ArbitratedBus$Frame" "remote" "Z") ∈ lw_all := lw_g (lw_at lw_m5 101 rfl) rfl
theorem q1163 : (Jvm.Cond.soleField "ArbitratedBus$Frame" "remote") ∈ lw_all := lw_g (lw_at lw_m5 102 rfl) rfl
theorem q1164 : (Jvm.Cond.laysFinal "ArbitratedBus$Frame" "ArbitratedBus$Frame" "length" "I") ∈ lw_all := lw_g (lw_at lw_m5 103 rfl) rfl
theorem q1165 : (Jvm.Cond.soleField "ArbitratedBus$Frame" "length") ∈ lw_all := lw_g (lw_at lw_m5 104 rfl) rfl
theorem q1166 : (Jvm.Cond.laysFinal "ArbitratedBus$Frame" "ArbitratedBus$Frame" "data" "I") ∈ lw_all := lw_g (lw_at lw_m5 105 rfl) rfl
theorem q1167 : (Jvm.Cond.soleField "ArbitratedBus$Frame" "data") ∈ lw_all := lw_g (lw_at lw_m5 106 rfl) rfl
theorem q1168 : (Jvm.Cond.laysFinal "ArbitratedBus$Frame" "ArbitratedBus$Frame" "order" "I") ∈ lw_all := lw_g (lw_at lw_m5 107 rfl) rfl
theorem q1169 : (Jvm.Cond.soleField "ArbitratedBus$Frame" "order") ∈ lw_all := lw_g (lw_at lw_m5 108 rfl) rfl
theorem q1170 : (Jvm.Cond.superclass "ArbitratedBus$Frame" "java/lang/Object") ∈ lw_all := lw_g (lw_at lw_m5 109 rfl) rfl
theorem q1275 : (Jvm.Cond.instanceMethod ({ cls := "ArbitratedBus$Frame", name := "basic", desc := "()I" } : Jvm.MethodName)) ∈ lw_all := lw_g (lw_at lw_m5 214 rfl) rfl
theorem q1276 : (Jvm.Cond.selects "ArbitratedBus$Frame" ({ cls := "ArbitratedBus$Frame", name := "basic", desc := "()I" } : Jvm.MethodName) ({ cls := "ArbitratedBus$Frame", name := "basic", desc := "()I" } : Jvm.MethodName)) ∈ lw_all := lw_g (lw_at lw_m5 215 rfl) rfl
theorem q1277 : (Jvm.Cond.code ({ cls := "ArbitratedBus$Frame", name := "basic", desc := "()I" } : Jvm.MethodName) prog_7_method_6_code (1 : Nat) (Option.some Jvm.ClassFile.FieldType.int)) ∈ lw_all := lw_g (lw_at lw_m5 216 rfl) rfl
theorem q1278 : (Jvm.Cond.methodLink "ArbitratedBus$Frame" (38 : Nat) ({ cls := "ArbitratedBus$Frame", name := "bare", desc := "()I" } : Jvm.MethodName)) ∈ lw_all := lw_g (lw_at lw_m5 217 rfl) rfl
theorem q1279 : (Jvm.Cond.instanceMethod ({ cls := "ArbitratedBus$Frame", name := "bare", desc := "()I" } : Jvm.MethodName)) ∈ lw_all := lw_g (lw_at lw_m5 218 rfl) rfl
theorem q1280 : (Jvm.Cond.selects "ArbitratedBus$Frame" ({ cls := "ArbitratedBus$Frame", name := "bare", desc := "()I" } : Jvm.MethodName) ({ cls := "ArbitratedBus$Frame", name := "bare", desc := "()I" } : Jvm.MethodName)) ∈ lw_all := lw_g (lw_at lw_m5 219 rfl) rfl
theorem q1281 : (Jvm.Cond.code ({ cls := "ArbitratedBus$Frame", name := "bare", desc := "()I" } : Jvm.MethodName) prog_7_method_5_code (1 : Nat) (Option.some Jvm.ClassFile.FieldType.int)) ∈ lw_all := lw_g (lw_at lw_m5 220 rfl) rfl
theorem q1361 : (Jvm.Cond.instanceMethod ({ cls := "ArbitratedBus$Frame", name := "bit", desc := "(I)I" } : Jvm.MethodName)) ∈ lw_all := lw_g (lw_at lw_m6 60 rfl) rfl
theorem q1362 : (Jvm.Cond.selects "ArbitratedBus$Frame" ({ cls := "ArbitratedBus$Frame", name := "bit", desc := "(I)I" } : Jvm.MethodName) ({ cls := "ArbitratedBus$Frame", name := "bit", desc := "(I)I" } : Jvm.MethodName)) ∈ lw_all := lw_g (lw_at lw_m6 61 rfl) rfl
theorem q1363 : (Jvm.Cond.code ({ cls := "ArbitratedBus$Frame", name := "bit", desc := "(I)I" } : Jvm.MethodName) prog_7_method_9_code (2 : Nat) (Option.some Jvm.ClassFile.FieldType.int)) ∈ lw_all := lw_g (lw_at lw_m6 62 rfl) rfl
theorem q1364 : (Jvm.Cond.methodLink "ArbitratedBus$Frame" (41 : Nat) ({ cls := "ArbitratedBus$Frame", name := "bare", desc := "(I)I" } : Jvm.MethodName)) ∈ lw_all := lw_g (lw_at lw_m6 63 rfl) rfl
theorem q1365 : (Jvm.Cond.privateMethod ({ cls := "ArbitratedBus$Frame", name := "bare", desc := "(I)I" } : Jvm.MethodName)) ∈ lw_tbl := lw_at lw_m6 64 rfl
theorem q1366 : (Jvm.Cond.instanceMethod ({ cls := "ArbitratedBus$Frame", name := "bare", desc := "(I)I" } : Jvm.MethodName)) ∈ lw_all := lw_g (lw_at lw_m6 65 rfl) rfl
theorem q1367 : (Jvm.Cond.code ({ cls := "ArbitratedBus$Frame", name := "bare", desc := "(I)I" } : Jvm.MethodName) prog_7_method_7_code (2 : Nat) (Option.some Jvm.ClassFile.FieldType.int)) ∈ lw_all := lw_g (lw_at lw_m6 66 rfl) rfl
theorem q1368 : (Jvm.Cond.methodLink "ArbitratedBus$Frame" (47 : Nat) ({ cls := "ArbitratedBus$Frame", name := "crc", desc := "()I" } : Jvm.MethodName)) ∈ lw_all := lw_g (lw_at lw_m6 67 rfl) rfl
theorem q1369 : (Jvm.Cond.instanceMethod ({ cls := "ArbitratedBus$Frame", name := "crc", desc := "()I" } : Jvm.MethodName)) ∈ lw_all := lw_g (lw_at lw_m6 68 rfl) rfl
theorem q1370 : (Jvm.Cond.selects "ArbitratedBus$Frame" ({ cls := "ArbitratedBus$Frame", name := "crc", desc := "()I" } : Jvm.MethodName) ({ cls := "ArbitratedBus$Frame", name := "crc", desc := "()I" } : Jvm.MethodName)) ∈ lw_all := lw_g (lw_at lw_m6 69 rfl) rfl
theorem q1371 : (Jvm.Cond.code ({ cls := "ArbitratedBus$Frame", name := "crc", desc := "()I" } : Jvm.MethodName) prog_7_method_8_code (3 : Nat) (Option.some Jvm.ClassFile.FieldType.int)) ∈ lw_all := lw_g (lw_at lw_m6 70 rfl) rfl
theorem q1372 : (Jvm.Cond.methodLinkNest "ArbitratedBus$Frame" (44 : Nat) ({ cls := "ArbitratedBus", name := "shifted", desc := "(II)I" } : Jvm.MethodName) "ArbitratedBus") ∈ lw_tbl := lw_at lw_m6 71 rfl
theorem q1375 : (Jvm.Cond.methodLink "ArbitratedBus$Frame" (50 : Nat) ({ cls := "ArbitratedBus$Frame", name := "basic", desc := "()I" } : Jvm.MethodName)) ∈ lw_all := lw_g (lw_at lw_m6 74 rfl) rfl
theorem q3433 : (Jvm.Cond.castable "ArbitratedBus$Frame" "java/lang/Object") ∈ lw_tbl := lw_at lw_m14 212 rfl
theorem in_X9 : ∀ w ∈ wsX90, w ∈ lw_all := lw_in wsX90 [1160, 1162, 1164, 1166, 1168] (by decide +kernel) (by decide +kernel)

/-! ArbitratedBus$Answer -/
set_option maxRecDepth 100000
def RX10 : String := "ArbitratedBus$Answer"
def TX10 : u_T := fun k => match k with
  | 0 => ("ArbitratedBus$Answer", "length", "I", true)
  | _ => ("ArbitratedBus$Answer", "data", "I", true)
def tyX10 : Nat → FieldType := fun k => match k with
  | 0 => .int
  | _ => .int
abbrev wsX100 : List Cond := u_ws RX10 TX10 2
theorem nmX10 : ∀ a, a < 2 → ∀ b, b < 2 → a ≠ b → (TX10 a).2.1 ≠ (TX10 b).2.1 := by decide +kernel
theorem tyX10_ok : ∀ k, k < 2 → parseFieldDescriptor (TX10 k).2.2.1 = some (tyX10 k) := by decide +kernel
abbrev cX10_init : ByteArray := prog_2_method_1_code
def yX10_init : MethodName := ⟨RX10, "<init>", "(II)V"⟩
def dkwX10_init_0 : List UInt8 := [42, 183, 0, 1, 42, 27, 181, 0, 7, 42, 28, 181, 0, 13, 177]
abbrev dktX10_init_0 : List UInt8 := dkwX10_init_0 ++ []
theorem dksX10_init_0 : cX10_init.data.toList.drop 0 = dktX10_init_0 := by decide +kernel
theorem dX10_init_0 : decode cX10_init 0 = .ok (.aload_n 0, 1) := dk_42 (dk_at dksX10_init_0 0 rfl rfl)
theorem dX10_init_1 : decode cX10_init 1 = .ok (.invokespecial 1, 3) := dk_183 0 1 (dk_at dksX10_init_0 1 rfl rfl)
theorem dX10_init_4 : decode cX10_init 4 = .ok (.aload_n 0, 1) := dk_42 (dk_at dksX10_init_0 4 rfl rfl)
theorem dX10_init_5 : decode cX10_init 5 = .ok (.iload_n 1, 1) := dk_27 (dk_at dksX10_init_0 5 rfl rfl)
theorem dX10_init_6 : decode cX10_init 6 = .ok (.putfield 7, 3) := dk_181 0 7 (dk_at dksX10_init_0 6 rfl rfl)
theorem dX10_init_9 : decode cX10_init 9 = .ok (.aload_n 0, 1) := dk_42 (dk_at dksX10_init_0 9 rfl rfl)
theorem dX10_init_10 : decode cX10_init 10 = .ok (.iload_n 2, 1) := dk_28 (dk_at dksX10_init_0 10 rfl rfl)
theorem dX10_init_11 : decode cX10_init 11 = .ok (.putfield 13, 3) := dk_181 0 13 (dk_at dksX10_init_0 11 rfl rfl)
theorem dX10_init_14 : decode cX10_init 14 = .ok (.return_, 1) := dk_177 (dk_at dksX10_init_0 14 rfl rfl)
theorem q135 : (Jvm.Cond.initialized "ArbitratedBus$Answer") ∈ lw_all := lw_g (lw_at lw_m1 34 rfl) rfl
theorem q673 : (Jvm.Cond.selects "ArbitratedBus$Answer" ({ cls := "java/lang/Object", name := "getClass", desc := "()Ljava/lang/Class;" } : Jvm.MethodName) ({ cls := "java/lang/Object", name := "getClass", desc := "()Ljava/lang/Class;" } : Jvm.MethodName)) ∈ lw_all := lw_g (lw_at lw_m3 92 rfl) rfl
theorem q986 : (Jvm.Cond.instantiable "ArbitratedBus$Answer" (2 : Nat)) ∈ lw_all := lw_g (lw_at lw_m4 165 rfl) rfl
theorem q988 : (Jvm.Cond.instanceMethod ({ cls := "ArbitratedBus$Answer", name := "<init>", desc := "(II)V" } : Jvm.MethodName)) ∈ lw_all := lw_g (lw_at lw_m4 167 rfl) rfl
theorem q989 : (Jvm.Cond.code ({ cls := "ArbitratedBus$Answer", name := "<init>", desc := "(II)V" } : Jvm.MethodName) prog_2_method_1_code (3 : Nat) (Option.none : Option Jvm.ClassFile.FieldType)) ∈ lw_all := lw_g (lw_at lw_m4 168 rfl) rfl
theorem q990 : (Jvm.Cond.methodLink "ArbitratedBus$Answer" (1 : Nat) ({ cls := "java/lang/Object", name := "<init>", desc := "()V" } : Jvm.MethodName)) ∈ lw_all := lw_g (lw_at lw_m4 169 rfl) rfl
theorem q991 : (Jvm.Cond.fieldLink "ArbitratedBus$Answer" (7 : Nat) "ArbitratedBus$Answer" "length" "I") ∈ lw_all := lw_g (lw_at lw_m4 170 rfl) rfl
theorem q993 : (Jvm.Cond.fieldLink "ArbitratedBus$Answer" (13 : Nat) "ArbitratedBus$Answer" "data" "I") ∈ lw_all := lw_g (lw_at lw_m4 172 rfl) rfl
theorem q995 : (Jvm.Cond.laysFinal "ArbitratedBus$Answer" "ArbitratedBus$Answer" "length" "I") ∈ lw_all := lw_g (lw_at lw_m4 174 rfl) rfl
theorem q996 : (Jvm.Cond.soleField "ArbitratedBus$Answer" "length") ∈ lw_all := lw_g (lw_at lw_m4 175 rfl) rfl
theorem q997 : (Jvm.Cond.laysFinal "ArbitratedBus$Answer" "ArbitratedBus$Answer" "data" "I") ∈ lw_all := lw_g (lw_at lw_m4 176 rfl) rfl
theorem q998 : (Jvm.Cond.soleField "ArbitratedBus$Answer" "data") ∈ lw_all := lw_g (lw_at lw_m4 177 rfl) rfl
theorem q999 : (Jvm.Cond.superclass "ArbitratedBus$Answer" "java/lang/Object") ∈ lw_all := lw_g (lw_at lw_m4 178 rfl) rfl
theorem q3429 : (Jvm.Cond.castable "ArbitratedBus$Answer" "java/lang/Object") ∈ lw_tbl := lw_at lw_m14 208 rfl
theorem in_X10 : ∀ w ∈ wsX100, w ∈ lw_all := lw_in wsX100 [995, 997] (by decide +kernel) (by decide +kernel)

/-! ArbitratedBus$Disturbance -/
set_option maxRecDepth 100000
def RX11 : String := "ArbitratedBus$Disturbance"
def TX11 : u_T := fun k => match k with
  | 0 => ("ArbitratedBus$Disturbance", "nodes", "I", true)
  | _ => ("ArbitratedBus$Disturbance", "time", "I", true)
def tyX11 : Nat → FieldType := fun k => match k with
  | 0 => .int
  | _ => .int
abbrev wsX110 : List Cond := u_ws RX11 TX11 2
theorem nmX11 : ∀ a, a < 2 → ∀ b, b < 2 → a ≠ b → (TX11 a).2.1 ≠ (TX11 b).2.1 := by decide +kernel
theorem tyX11_ok : ∀ k, k < 2 → parseFieldDescriptor (TX11 k).2.2.1 = some (tyX11 k) := by decide +kernel
abbrev cX11_init : ByteArray := prog_5_method_1_code
def yX11_init : MethodName := ⟨RX11, "<init>", "(II)V"⟩
def dkwX11_init_0 : List UInt8 := [42, 183, 0, 1, 42, 27, 181, 0, 7, 42, 28, 181, 0, 13, 177]
abbrev dktX11_init_0 : List UInt8 := dkwX11_init_0 ++ []
theorem dksX11_init_0 : cX11_init.data.toList.drop 0 = dktX11_init_0 := by decide +kernel
theorem dX11_init_0 : decode cX11_init 0 = .ok (.aload_n 0, 1) := dk_42 (dk_at dksX11_init_0 0 rfl rfl)
theorem dX11_init_1 : decode cX11_init 1 = .ok (.invokespecial 1, 3) := dk_183 0 1 (dk_at dksX11_init_0 1 rfl rfl)
theorem dX11_init_4 : decode cX11_init 4 = .ok (.aload_n 0, 1) := dk_42 (dk_at dksX11_init_0 4 rfl rfl)
theorem dX11_init_5 : decode cX11_init 5 = .ok (.iload_n 1, 1) := dk_27 (dk_at dksX11_init_0 5 rfl rfl)
theorem dX11_init_6 : decode cX11_init 6 = .ok (.putfield 7, 3) := dk_181 0 7 (dk_at dksX11_init_0 6 rfl rfl)
theorem dX11_init_9 : decode cX11_init 9 = .ok (.aload_n 0, 1) := dk_42 (dk_at dksX11_init_0 9 rfl rfl)
theorem dX11_init_10 : decode cX11_init 10 = .ok (.iload_n 2, 1) := dk_28 (dk_at dksX11_init_0 10 rfl rfl)
theorem dX11_init_11 : decode cX11_init 11 = .ok (.putfield 13, 3) := dk_181 0 13 (dk_at dksX11_init_0 11 rfl rfl)
theorem dX11_init_14 : decode cX11_init 14 = .ok (.return_, 1) := dk_177 (dk_at dksX11_init_0 14 rfl rfl)
theorem q146 : (Jvm.Cond.initialized "ArbitratedBus$Disturbance") ∈ lw_all := lw_g (lw_at lw_m1 45 rfl) rfl
theorem q676 : (Jvm.Cond.selects "ArbitratedBus$Disturbance" ({ cls := "java/lang/Object", name := "getClass", desc := "()Ljava/lang/Class;" } : Jvm.MethodName) ({ cls := "java/lang/Object", name := "getClass", desc := "()Ljava/lang/Class;" } : Jvm.MethodName)) ∈ lw_all := lw_g (lw_at lw_m3 95 rfl) rfl
theorem q1759 : (Jvm.Cond.instantiable "ArbitratedBus$Disturbance" (2 : Nat)) ∈ lw_all := lw_g (lw_at lw_m7 218 rfl) rfl
theorem q1761 : (Jvm.Cond.instanceMethod ({ cls := "ArbitratedBus$Disturbance", name := "<init>", desc := "(II)V" } : Jvm.MethodName)) ∈ lw_all := lw_g (lw_at lw_m7 220 rfl) rfl
theorem q1762 : (Jvm.Cond.code ({ cls := "ArbitratedBus$Disturbance", name := "<init>", desc := "(II)V" } : Jvm.MethodName) prog_5_method_1_code (3 : Nat) (Option.none : Option Jvm.ClassFile.FieldType)) ∈ lw_all := lw_g (lw_at lw_m7 221 rfl) rfl
theorem q1763 : (Jvm.Cond.methodLink "ArbitratedBus$Disturbance" (1 : Nat) ({ cls := "java/lang/Object", name := "<init>", desc := "()V" } : Jvm.MethodName)) ∈ lw_all := lw_g (lw_at lw_m7 222 rfl) rfl
theorem q1764 : (Jvm.Cond.fieldLink "ArbitratedBus$Disturbance" (7 : Nat) "ArbitratedBus$Disturbance" "nodes" "I") ∈ lw_all := lw_g (lw_at lw_m7 223 rfl) rfl
theorem q1766 : (Jvm.Cond.fieldLink "ArbitratedBus$Disturbance" (13 : Nat) "ArbitratedBus$Disturbance" "time" "I") ∈ lw_all := lw_g (lw_at lw_m7 225 rfl) rfl
theorem q1768 : (Jvm.Cond.laysFinal "ArbitratedBus$Disturbance" "ArbitratedBus$Disturbance" "nodes" "I") ∈ lw_all := lw_g (lw_at lw_m7 227 rfl) rfl
theorem q1769 : (Jvm.Cond.soleField "ArbitratedBus$Disturbance" "nodes") ∈ lw_all := lw_g (lw_at lw_m7 228 rfl) rfl
theorem q1770 : (Jvm.Cond.laysFinal "ArbitratedBus$Disturbance" "ArbitratedBus$Disturbance" "time" "I") ∈ lw_all := lw_g (lw_at lw_m7 229 rfl) rfl
theorem q1771 : (Jvm.Cond.soleField "ArbitratedBus$Disturbance" "time") ∈ lw_all := lw_g (lw_at lw_m7 230 rfl) rfl
theorem q1772 : (Jvm.Cond.superclass "ArbitratedBus$Disturbance" "java/lang/Object") ∈ lw_all := lw_g (lw_at lw_m7 231 rfl) rfl
theorem q3436 : (Jvm.Cond.castable "ArbitratedBus$Disturbance" "java/lang/Object") ∈ lw_tbl := lw_at lw_m14 215 rfl
theorem in_X11 : ∀ w ∈ wsX110, w ∈ lw_all := lw_in wsX110 [1768, 1770] (by decide +kernel) (by decide +kernel)

/-! ArbitratedBus$Phase$10 -/
set_option maxRecDepth 100000
def RX12 : String := "ArbitratedBus$Phase$10"
abbrev cX12_act : ByteArray := prog_13_method_2_code
def yX12_act : MethodName := ⟨RX12, "act", "(LArbitratedBus$Node;I)V"⟩
def dkwX12_act_1 : List UInt8 := [178, 0, 17, 182, 0, 23, 177]
abbrev dktX12_act_1 : List UInt8 := dkwX12_act_1 ++ []
def dkwX12_act_0 : List UInt8 := [28, 154, 0, 11, 43, 3, 182, 0, 7, 167, 0, 19, 43, 16, 8, 182, 0, 13, 153, 0, 10, 43]
abbrev dktX12_act_0 : List UInt8 := dkwX12_act_0 ++ dktX12_act_1
theorem dksX12_act_0 : cX12_act.data.toList.drop 0 = dktX12_act_0 := by decide +kernel
theorem dksX12_act_1 : cX12_act.data.toList.drop 22 = dktX12_act_1 := dk_seg dksX12_act_0 22 rfl rfl
theorem dX12_act_0 : decode cX12_act 0 = .ok (.iload_n 2, 1) := dk_28 (dk_at dksX12_act_0 0 rfl rfl)
theorem dX12_act_1 : decode cX12_act 1 = .ok (.ifCond .ne 11, 3) := dk_154 0 11 (dk_at dksX12_act_0 1 rfl rfl)
theorem dX12_act_4 : decode cX12_act 4 = .ok (.aload_n 1, 1) := dk_43 (dk_at dksX12_act_0 4 rfl rfl)
theorem dX12_act_5 : decode cX12_act 5 = .ok (.iconst 0, 1) := dk_3 (dk_at dksX12_act_0 5 rfl rfl)
theorem dX12_act_6 : decode cX12_act 6 = .ok (.invokevirtual 7, 3) := dk_182 0 7 (dk_at dksX12_act_0 6 rfl rfl)
theorem dX12_act_9 : decode cX12_act 9 = .ok (.goto 19, 3) := dk_167 0 19 (dk_at dksX12_act_0 9 rfl rfl)
theorem dX12_act_12 : decode cX12_act 12 = .ok (.aload_n 1, 1) := dk_43 (dk_at dksX12_act_0 12 rfl rfl)
theorem dX12_act_13 : decode cX12_act 13 = .ok (.bipush 8, 2) := dk_16 8 (dk_at dksX12_act_0 13 rfl rfl)
theorem dX12_act_15 : decode cX12_act 15 = .ok (.invokevirtual 13, 3) := dk_182 0 13 (dk_at dksX12_act_0 15 rfl rfl)
theorem dX12_act_18 : decode cX12_act 18 = .ok (.ifCond .eq 10, 3) := dk_153 0 10 (dk_at dksX12_act_0 18 rfl rfl)
theorem dX12_act_21 : decode cX12_act 21 = .ok (.aload_n 1, 1) := dk_43 (dk_at dksX12_act_0 21 rfl rfl)
theorem dX12_act_22 : decode cX12_act 22 = .ok (.getstatic 17, 3) := dk_178 0 17 (dk_at dksX12_act_1 0 rfl rfl)
theorem dX12_act_25 : decode cX12_act 25 = .ok (.invokevirtual 23, 3) := dk_182 0 23 (dk_at dksX12_act_1 3 rfl rfl)
theorem dX12_act_28 : decode cX12_act 28 = .ok (.return_, 1) := dk_177 (dk_at dksX12_act_1 6 rfl rfl)
theorem q155 : (Jvm.Cond.initialized "ArbitratedBus$Phase$10") ∈ lw_all := lw_g (lw_at lw_m1 54 rfl) rfl
theorem q659 : (Jvm.Cond.selects "ArbitratedBus$Phase$10" ({ cls := "java/lang/Enum", name := "compareTo", desc := "(Ljava/lang/Enum;)I" } : Jvm.MethodName) ({ cls := "java/lang/Enum", name := "compareTo", desc := "(Ljava/lang/Enum;)I" } : Jvm.MethodName)) ∈ lw_all := lw_g (lw_at lw_m3 78 rfl) rfl
theorem q683 : (Jvm.Cond.selects "ArbitratedBus$Phase$10" ({ cls := "java/lang/Object", name := "getClass", desc := "()Ljava/lang/Class;" } : Jvm.MethodName) ({ cls := "java/lang/Object", name := "getClass", desc := "()Ljava/lang/Class;" } : Jvm.MethodName)) ∈ lw_all := lw_g (lw_at lw_m3 102 rfl) rfl
theorem q726 : (Jvm.Cond.selects "ArbitratedBus$Phase$10" ({ cls := "java/lang/Enum", name := "getDeclaringClass", desc := "()Ljava/lang/Class;" } : Jvm.MethodName) ({ cls := "java/lang/Enum", name := "getDeclaringClass", desc := "()Ljava/lang/Class;" } : Jvm.MethodName)) ∈ lw_all := lw_g (lw_at lw_m3 145 rfl) rfl
theorem q736 : (Jvm.Cond.castable "ArbitratedBus$Phase$10" "java/lang/Comparable") ∈ lw_tbl := lw_at lw_m3 155 rfl
theorem q737 : (Jvm.Cond.selects "ArbitratedBus$Phase$10" ({ cls := "java/lang/Comparable", name := "compareTo", desc := "(Ljava/lang/Object;)I" } : Jvm.MethodName) ({ cls := "java/lang/Enum", name := "compareTo", desc := "(Ljava/lang/Object;)I" } : Jvm.MethodName)) ∈ lw_all := lw_g (lw_at lw_m3 156 rfl) rfl
theorem q738 : (Jvm.Cond.unhidden "ArbitratedBus$Phase$10" "compareTo" "(Ljava/lang/Object;)I") ∈ lw_tbl := lw_at lw_m3 157 rfl
theorem q1108 : (Jvm.Cond.selects "ArbitratedBus$Phase$10" ({ cls := "ArbitratedBus$Phase", name := "ordinal", desc := "()I" } : Jvm.MethodName) ({ cls := "java/lang/Enum", name := "ordinal", desc := "()I" } : Jvm.MethodName)) ∈ lw_all := lw_g (lw_at lw_m5 47 rfl) rfl
theorem q1822 : (Jvm.Cond.selects "ArbitratedBus$Phase$10" ({ cls := "ArbitratedBus$Phase", name := "drive", desc := "(LArbitratedBus$Node;)I" } : Jvm.MethodName) ({ cls := "ArbitratedBus$Phase", name := "drive", desc := "(LArbitratedBus$Node;)I" } : Jvm.MethodName)) ∈ lw_all := lw_g (lw_at lw_m8 41 rfl) rfl
theorem q2128 : (Jvm.Cond.selects "ArbitratedBus$Phase$10" ({ cls := "ArbitratedBus$Phase", name := "act", desc := "(LArbitratedBus$Node;I)V" } : Jvm.MethodName) ({ cls := "ArbitratedBus$Phase$10", name := "act", desc := "(LArbitratedBus$Node;I)V" } : Jvm.MethodName)) ∈ lw_all := lw_g (lw_at lw_m9 107 rfl) rfl
theorem q2129 : (Jvm.Cond.instanceMethod ({ cls := "ArbitratedBus$Phase$10", name := "act", desc := "(LArbitratedBus$Node;I)V" } : Jvm.MethodName)) ∈ lw_all := lw_g (lw_at lw_m9 108 rfl) rfl
theorem q2130 : (Jvm.Cond.code ({ cls := "ArbitratedBus$Phase$10", name := "act", desc := "(LArbitratedBus$Node;I)V" } : Jvm.MethodName) prog_13_method_2_code (3 : Nat) (Option.none : Option Jvm.ClassFile.FieldType)) ∈ lw_all := lw_g (lw_at lw_m9 109 rfl) rfl
theorem q2131 : (Jvm.Cond.methodLinkNest "ArbitratedBus$Phase$10" (7 : Nat) ({ cls := "ArbitratedBus$Node", name := "begin", desc := "(Z)V" } : Jvm.MethodName) "ArbitratedBus") ∈ lw_tbl := lw_at lw_m9 110 rfl
theorem q2160 : (Jvm.Cond.methodLinkNest "ArbitratedBus$Phase$10" (13 : Nat) ({ cls := "ArbitratedBus$Node", name := "counts", desc := "(I)Z" } : Jvm.MethodName) "ArbitratedBus") ∈ lw_tbl := lw_at lw_m9 139 rfl
theorem q2164 : (Jvm.Cond.fieldLink "ArbitratedBus$Phase$10" (17 : Nat) "ArbitratedBus$Phase$10" "READY" "LArbitratedBus$Phase;") ∈ lw_all := lw_g (lw_at lw_m9 143 rfl) rfl
theorem q2165 : (Jvm.Cond.sameField "ArbitratedBus$Phase$10" "ArbitratedBus$Phase" "READY" "LArbitratedBus$Phase;") ∈ lw_all := lw_g (lw_at lw_m9 144 rfl) rfl
theorem q2166 : (Jvm.Cond.methodLinkNest "ArbitratedBus$Phase$10" (23 : Nat) ({ cls := "ArbitratedBus$Node", name := "enter", desc := "(LArbitratedBus$Phase;)V" } : Jvm.MethodName) "ArbitratedBus") ∈ lw_tbl := lw_at lw_m9 145 rfl
theorem q3407 : (Jvm.Cond.castable "ArbitratedBus$Phase$10" "java/lang/Enum") ∈ lw_tbl := lw_at lw_m14 186 rfl
theorem q3464 : (Jvm.Cond.castable "ArbitratedBus$Phase$10" "java/lang/Object") ∈ lw_tbl := lw_at lw_m15 3 rfl

/-! ArbitratedBus$Phase$2 -/
set_option maxRecDepth 100000
def RX13 : String := "ArbitratedBus$Phase$2"
abbrev cX13_act : ByteArray := prog_14_method_2_code
def yX13_act : MethodName := ⟨RX13, "act", "(LArbitratedBus$Node;I)V"⟩
def dkwX13_act_2 : List UInt8 := [182, 0, 38, 177]
abbrev dktX13_act_2 : List UInt8 := dkwX13_act_2 ++ []
def dkwX13_act_1 : List UInt8 := [180, 0, 17, 180, 0, 21, 161, 0, 20, 43, 3, 181, 0, 26, 43, 3, 181, 0, 29, 43, 178, 0, 32]
abbrev dktX13_act_1 : List UInt8 := dkwX13_act_1 ++ dktX13_act_2
def dkwX13_act_0 : List UInt8 := [43, 28, 182, 0, 7, 153, 0, 44, 43, 89, 180, 0, 13, 4, 96, 181, 0, 13, 43, 180, 0, 13, 43]
abbrev dktX13_act_0 : List UInt8 := dkwX13_act_0 ++ dktX13_act_1
theorem dksX13_act_0 : cX13_act.data.toList.drop 0 = dktX13_act_0 := by decide +kernel
theorem dksX13_act_1 : cX13_act.data.toList.drop 23 = dktX13_act_1 := dk_seg dksX13_act_0 23 rfl rfl
theorem dksX13_act_2 : cX13_act.data.toList.drop 46 = dktX13_act_2 := dk_seg dksX13_act_1 23 rfl rfl
theorem dX13_act_0 : decode cX13_act 0 = .ok (.aload_n 1, 1) := dk_43 (dk_at dksX13_act_0 0 rfl rfl)
theorem dX13_act_1 : decode cX13_act 1 = .ok (.iload_n 2, 1) := dk_28 (dk_at dksX13_act_0 1 rfl rfl)
theorem dX13_act_2 : decode cX13_act 2 = .ok (.invokevirtual 7, 3) := dk_182 0 7 (dk_at dksX13_act_0 2 rfl rfl)
theorem dX13_act_5 : decode cX13_act 5 = .ok (.ifCond .eq 44, 3) := dk_153 0 44 (dk_at dksX13_act_0 5 rfl rfl)
theorem dX13_act_8 : decode cX13_act 8 = .ok (.aload_n 1, 1) := dk_43 (dk_at dksX13_act_0 8 rfl rfl)
theorem dX13_act_9 : decode cX13_act 9 = .ok (.dup, 1) := dk_89 (dk_at dksX13_act_0 9 rfl rfl)
theorem dX13_act_10 : decode cX13_act 10 = .ok (.getfield 13, 3) := dk_180 0 13 (dk_at dksX13_act_0 10 rfl rfl)
theorem dX13_act_13 : decode cX13_act 13 = .ok (.iconst 1, 1) := dk_4 (dk_at dksX13_act_0 13 rfl rfl)
theorem dX13_act_14 : decode cX13_act 14 = .ok (.iadd, 1) := dk_96 (dk_at dksX13_act_0 14 rfl rfl)
theorem dX13_act_15 : decode cX13_act 15 = .ok (.putfield 13, 3) := dk_181 0 13 (dk_at dksX13_act_0 15 rfl rfl)
theorem dX13_act_18 : decode cX13_act 18 = .ok (.aload_n 1, 1) := dk_43 (dk_at dksX13_act_0 18 rfl rfl)
theorem dX13_act_19 : decode cX13_act 19 = .ok (.getfield 13, 3) := dk_180 0 13 (dk_at dksX13_act_0 19 rfl rfl)
theorem dX13_act_22 : decode cX13_act 22 = .ok (.aload_n 1, 1) := dk_43 (dk_at dksX13_act_0 22 rfl rfl)
theorem dX13_act_23 : decode cX13_act 23 = .ok (.getfield 17, 3) := dk_180 0 17 (dk_at dksX13_act_1 0 rfl rfl)
theorem dX13_act_26 : decode cX13_act 26 = .ok (.getfield 21, 3) := dk_180 0 21 (dk_at dksX13_act_1 3 rfl rfl)
theorem dX13_act_29 : decode cX13_act 29 = .ok (.if_icmp .lt 20, 3) := dk_161 0 20 (dk_at dksX13_act_1 6 rfl rfl)
theorem dX13_act_32 : decode cX13_act 32 = .ok (.aload_n 1, 1) := dk_43 (dk_at dksX13_act_1 9 rfl rfl)
theorem dX13_act_33 : decode cX13_act 33 = .ok (.iconst 0, 1) := dk_3 (dk_at dksX13_act_1 10 rfl rfl)
theorem dX13_act_34 : decode cX13_act 34 = .ok (.putfield 26, 3) := dk_181 0 26 (dk_at dksX13_act_1 11 rfl rfl)
theorem dX13_act_37 : decode cX13_act 37 = .ok (.aload_n 1, 1) := dk_43 (dk_at dksX13_act_1 14 rfl rfl)
theorem dX13_act_38 : decode cX13_act 38 = .ok (.iconst 0, 1) := dk_3 (dk_at dksX13_act_1 15 rfl rfl)
theorem dX13_act_39 : decode cX13_act 39 = .ok (.putfield 29, 3) := dk_181 0 29 (dk_at dksX13_act_1 16 rfl rfl)
theorem dX13_act_42 : decode cX13_act 42 = .ok (.aload_n 1, 1) := dk_43 (dk_at dksX13_act_1 19 rfl rfl)
theorem dX13_act_43 : decode cX13_act 43 = .ok (.getstatic 32, 3) := dk_178 0 32 (dk_at dksX13_act_1 20 rfl rfl)
theorem dX13_act_46 : decode cX13_act 46 = .ok (.invokevirtual 38, 3) := dk_182 0 38 (dk_at dksX13_act_2 0 rfl rfl)
theorem dX13_act_49 : decode cX13_act 49 = .ok (.return_, 1) := dk_177 (dk_at dksX13_act_2 3 rfl rfl)
theorem q156 : (Jvm.Cond.initialized "ArbitratedBus$Phase$2") ∈ lw_all := lw_g (lw_at lw_m1 55 rfl) rfl
theorem q368 : (Jvm.Cond.fieldLinkNest "ArbitratedBus$Phase$2" (17 : Nat) "ArbitratedBus$Node" "of" "LArbitratedBus$Bus;" "ArbitratedBus") ∈ lw_tbl := lw_at lw_m2 27 rfl
theorem q375 : (Jvm.Cond.fieldLinkNest "ArbitratedBus$Phase$2" (26 : Nat) "ArbitratedBus$Node" "transmitErrors" "I" "ArbitratedBus") ∈ lw_tbl := lw_at lw_m2 34 rfl
theorem q378 : (Jvm.Cond.fieldLinkNest "ArbitratedBus$Phase$2" (29 : Nat) "ArbitratedBus$Node" "receiveErrors" "I" "ArbitratedBus") ∈ lw_tbl := lw_at lw_m2 37 rfl
theorem q381 : (Jvm.Cond.fieldLinkNest "ArbitratedBus$Phase$2" (13 : Nat) "ArbitratedBus$Node" "sequences" "I" "ArbitratedBus") ∈ lw_tbl := lw_at lw_m2 40 rfl
theorem q484 : (Jvm.Cond.fieldLinkNest "ArbitratedBus$Phase$2" (21 : Nat) "ArbitratedBus$Bus" "recovery" "I" "ArbitratedBus") ∈ lw_tbl := lw_at lw_m2 143 rfl
theorem q660 : (Jvm.Cond.selects "ArbitratedBus$Phase$2" ({ cls := "java/lang/Enum", name := "compareTo", desc := "(Ljava/lang/Enum;)I" } : Jvm.MethodName) ({ cls := "java/lang/Enum", name := "compareTo", desc := "(Ljava/lang/Enum;)I" } : Jvm.MethodName)) ∈ lw_all := lw_g (lw_at lw_m3 79 rfl) rfl
theorem q684 : (Jvm.Cond.selects "ArbitratedBus$Phase$2" ({ cls := "java/lang/Object", name := "getClass", desc := "()Ljava/lang/Class;" } : Jvm.MethodName) ({ cls := "java/lang/Object", name := "getClass", desc := "()Ljava/lang/Class;" } : Jvm.MethodName)) ∈ lw_all := lw_g (lw_at lw_m3 103 rfl) rfl
theorem q727 : (Jvm.Cond.selects "ArbitratedBus$Phase$2" ({ cls := "java/lang/Enum", name := "getDeclaringClass", desc := "()Ljava/lang/Class;" } : Jvm.MethodName) ({ cls := "java/lang/Enum", name := "getDeclaringClass", desc := "()Ljava/lang/Class;" } : Jvm.MethodName)) ∈ lw_all := lw_g (lw_at lw_m3 146 rfl) rfl
theorem q739 : (Jvm.Cond.castable "ArbitratedBus$Phase$2" "java/lang/Comparable") ∈ lw_tbl := lw_at lw_m3 158 rfl
theorem q740 : (Jvm.Cond.selects "ArbitratedBus$Phase$2" ({ cls := "java/lang/Comparable", name := "compareTo", desc := "(Ljava/lang/Object;)I" } : Jvm.MethodName) ({ cls := "java/lang/Enum", name := "compareTo", desc := "(Ljava/lang/Object;)I" } : Jvm.MethodName)) ∈ lw_all := lw_g (lw_at lw_m3 159 rfl) rfl
theorem q741 : (Jvm.Cond.unhidden "ArbitratedBus$Phase$2" "compareTo" "(Ljava/lang/Object;)I") ∈ lw_tbl := lw_at lw_m3 160 rfl
theorem q1109 : (Jvm.Cond.selects "ArbitratedBus$Phase$2" ({ cls := "ArbitratedBus$Phase", name := "ordinal", desc := "()I" } : Jvm.MethodName) ({ cls := "java/lang/Enum", name := "ordinal", desc := "()I" } : Jvm.MethodName)) ∈ lw_all := lw_g (lw_at lw_m5 48 rfl) rfl
theorem q1823 : (Jvm.Cond.selects "ArbitratedBus$Phase$2" ({ cls := "ArbitratedBus$Phase", name := "drive", desc := "(LArbitratedBus$Node;)I" } : Jvm.MethodName) ({ cls := "ArbitratedBus$Phase", name := "drive", desc := "(LArbitratedBus$Node;)I" } : Jvm.MethodName)) ∈ lw_all := lw_g (lw_at lw_m8 42 rfl) rfl
theorem q2167 : (Jvm.Cond.selects "ArbitratedBus$Phase$2" ({ cls := "ArbitratedBus$Phase", name := "act", desc := "(LArbitratedBus$Node;I)V" } : Jvm.MethodName) ({ cls := "ArbitratedBus$Phase$2", name := "act", desc := "(LArbitratedBus$Node;I)V" } : Jvm.MethodName)) ∈ lw_all := lw_g (lw_at lw_m9 146 rfl) rfl
theorem q2168 : (Jvm.Cond.instanceMethod ({ cls := "ArbitratedBus$Phase$2", name := "act", desc := "(LArbitratedBus$Node;I)V" } : Jvm.MethodName)) ∈ lw_all := lw_g (lw_at lw_m9 147 rfl) rfl
theorem q2169 : (Jvm.Cond.code ({ cls := "ArbitratedBus$Phase$2", name := "act", desc := "(LArbitratedBus$Node;I)V" } : Jvm.MethodName) prog_14_method_2_code (3 : Nat) (Option.none : Option Jvm.ClassFile.FieldType)) ∈ lw_all := lw_g (lw_at lw_m9 148 rfl) rfl
theorem q2170 : (Jvm.Cond.methodLinkNest "ArbitratedBus$Phase$2" (7 : Nat) ({ cls := "ArbitratedBus$Node", name := "endsRun", desc := "(I)Z" } : Jvm.MethodName) "ArbitratedBus") ∈ lw_tbl := lw_at lw_m9 149 rfl
theorem q2174 : (Jvm.Cond.fieldLink "ArbitratedBus$Phase$2" (32 : Nat) "ArbitratedBus$Phase$2" "READY" "LArbitratedBus$Phase;") ∈ lw_all := lw_g (lw_at lw_m9 153 rfl) rfl
theorem q2175 : (Jvm.Cond.sameField "ArbitratedBus$Phase$2" "ArbitratedBus$Phase" "READY" "LArbitratedBus$Phase;") ∈ lw_all := lw_g (lw_at lw_m9 154 rfl) rfl
theorem q2176 : (Jvm.Cond.methodLinkNest "ArbitratedBus$Phase$2" (38 : Nat) ({ cls := "ArbitratedBus$Node", name := "enter", desc := "(LArbitratedBus$Phase;)V" } : Jvm.MethodName) "ArbitratedBus") ∈ lw_tbl := lw_at lw_m9 155 rfl
theorem q3408 : (Jvm.Cond.castable "ArbitratedBus$Phase$2" "java/lang/Enum") ∈ lw_tbl := lw_at lw_m14 187 rfl
theorem q3447 : (Jvm.Cond.castable "ArbitratedBus$Phase$2" "java/lang/Object") ∈ lw_tbl := lw_at lw_m14 226 rfl

/-! ArbitratedBus$Phase$3 -/
set_option maxRecDepth 100000
def RX14 : String := "ArbitratedBus$Phase$3"
abbrev cX14_act : ByteArray := prog_15_method_2_code
def yX14_act : MethodName := ⟨RX14, "act", "(LArbitratedBus$Node;I)V"⟩
def dkwX14_act_0 : List UInt8 := [43, 28, 182, 0, 7, 153, 0, 10, 43, 178, 0, 13, 182, 0, 19, 177]
abbrev dktX14_act_0 : List UInt8 := dkwX14_act_0 ++ []
theorem dksX14_act_0 : cX14_act.data.toList.drop 0 = dktX14_act_0 := by decide +kernel
theorem dX14_act_0 : decode cX14_act 0 = .ok (.aload_n 1, 1) := dk_43 (dk_at dksX14_act_0 0 rfl rfl)
theorem dX14_act_1 : decode cX14_act 1 = .ok (.iload_n 2, 1) := dk_28 (dk_at dksX14_act_0 1 rfl rfl)
theorem dX14_act_2 : decode cX14_act 2 = .ok (.invokevirtual 7, 3) := dk_182 0 7 (dk_at dksX14_act_0 2 rfl rfl)
theorem dX14_act_5 : decode cX14_act 5 = .ok (.ifCond .eq 10, 3) := dk_153 0 10 (dk_at dksX14_act_0 5 rfl rfl)
theorem dX14_act_8 : decode cX14_act 8 = .ok (.aload_n 1, 1) := dk_43 (dk_at dksX14_act_0 8 rfl rfl)
theorem dX14_act_9 : decode cX14_act 9 = .ok (.getstatic 13, 3) := dk_178 0 13 (dk_at dksX14_act_0 9 rfl rfl)
theorem dX14_act_12 : decode cX14_act 12 = .ok (.invokevirtual 19, 3) := dk_182 0 19 (dk_at dksX14_act_0 12 rfl rfl)
theorem dX14_act_15 : decode cX14_act 15 = .ok (.return_, 1) := dk_177 (dk_at dksX14_act_0 15 rfl rfl)
theorem q157 : (Jvm.Cond.initialized "ArbitratedBus$Phase$3") ∈ lw_all := lw_g (lw_at lw_m1 56 rfl) rfl
theorem q661 : (Jvm.Cond.selects "ArbitratedBus$Phase$3" ({ cls := "java/lang/Enum", name := "compareTo", desc := "(Ljava/lang/Enum;)I" } : Jvm.MethodName) ({ cls := "java/lang/Enum", name := "compareTo", desc := "(Ljava/lang/Enum;)I" } : Jvm.MethodName)) ∈ lw_all := lw_g (lw_at lw_m3 80 rfl) rfl
theorem q685 : (Jvm.Cond.selects "ArbitratedBus$Phase$3" ({ cls := "java/lang/Object", name := "getClass", desc := "()Ljava/lang/Class;" } : Jvm.MethodName) ({ cls := "java/lang/Object", name := "getClass", desc := "()Ljava/lang/Class;" } : Jvm.MethodName)) ∈ lw_all := lw_g (lw_at lw_m3 104 rfl) rfl
theorem q728 : (Jvm.Cond.selects "ArbitratedBus$Phase$3" ({ cls := "java/lang/Enum", name := "getDeclaringClass", desc := "()Ljava/lang/Class;" } : Jvm.MethodName) ({ cls := "java/lang/Enum", name := "getDeclaringClass", desc := "()Ljava/lang/Class;" } : Jvm.MethodName)) ∈ lw_all := lw_g (lw_at lw_m3 147 rfl) rfl
theorem q742 : (Jvm.Cond.castable "ArbitratedBus$Phase$3" "java/lang/Comparable") ∈ lw_tbl := lw_at lw_m3 161 rfl
theorem q743 : (Jvm.Cond.selects "ArbitratedBus$Phase$3" ({ cls := "java/lang/Comparable", name := "compareTo", desc := "(Ljava/lang/Object;)I" } : Jvm.MethodName) ({ cls := "java/lang/Enum", name := "compareTo", desc := "(Ljava/lang/Object;)I" } : Jvm.MethodName)) ∈ lw_all := lw_g (lw_at lw_m3 162 rfl) rfl
theorem q744 : (Jvm.Cond.unhidden "ArbitratedBus$Phase$3" "compareTo" "(Ljava/lang/Object;)I") ∈ lw_tbl := lw_at lw_m3 163 rfl
theorem q1110 : (Jvm.Cond.selects "ArbitratedBus$Phase$3" ({ cls := "ArbitratedBus$Phase", name := "ordinal", desc := "()I" } : Jvm.MethodName) ({ cls := "java/lang/Enum", name := "ordinal", desc := "()I" } : Jvm.MethodName)) ∈ lw_all := lw_g (lw_at lw_m5 49 rfl) rfl
theorem q1824 : (Jvm.Cond.selects "ArbitratedBus$Phase$3" ({ cls := "ArbitratedBus$Phase", name := "drive", desc := "(LArbitratedBus$Node;)I" } : Jvm.MethodName) ({ cls := "ArbitratedBus$Phase", name := "drive", desc := "(LArbitratedBus$Node;)I" } : Jvm.MethodName)) ∈ lw_all := lw_g (lw_at lw_m8 43 rfl) rfl
theorem q2177 : (Jvm.Cond.selects "ArbitratedBus$Phase$3" ({ cls := "ArbitratedBus$Phase", name := "act", desc := "(LArbitratedBus$Node;I)V" } : Jvm.MethodName) ({ cls := "ArbitratedBus$Phase$3", name := "act", desc := "(LArbitratedBus$Node;I)V" } : Jvm.MethodName)) ∈ lw_all := lw_g (lw_at lw_m9 156 rfl) rfl
theorem q2178 : (Jvm.Cond.instanceMethod ({ cls := "ArbitratedBus$Phase$3", name := "act", desc := "(LArbitratedBus$Node;I)V" } : Jvm.MethodName)) ∈ lw_all := lw_g (lw_at lw_m9 157 rfl) rfl
theorem q2179 : (Jvm.Cond.code ({ cls := "ArbitratedBus$Phase$3", name := "act", desc := "(LArbitratedBus$Node;I)V" } : Jvm.MethodName) prog_15_method_2_code (3 : Nat) (Option.none : Option Jvm.ClassFile.FieldType)) ∈ lw_all := lw_g (lw_at lw_m9 158 rfl) rfl
theorem q2180 : (Jvm.Cond.methodLinkNest "ArbitratedBus$Phase$3" (7 : Nat) ({ cls := "ArbitratedBus$Node", name := "endsRun", desc := "(I)Z" } : Jvm.MethodName) "ArbitratedBus") ∈ lw_tbl := lw_at lw_m9 159 rfl
theorem q2181 : (Jvm.Cond.fieldLink "ArbitratedBus$Phase$3" (13 : Nat) "ArbitratedBus$Phase$3" "READY" "LArbitratedBus$Phase;") ∈ lw_all := lw_g (lw_at lw_m9 160 rfl) rfl
theorem q2182 : (Jvm.Cond.sameField "ArbitratedBus$Phase$3" "ArbitratedBus$Phase" "READY" "LArbitratedBus$Phase;") ∈ lw_all := lw_g (lw_at lw_m9 161 rfl) rfl
theorem q2183 : (Jvm.Cond.methodLinkNest "ArbitratedBus$Phase$3" (19 : Nat) ({ cls := "ArbitratedBus$Node", name := "enter", desc := "(LArbitratedBus$Phase;)V" } : Jvm.MethodName) "ArbitratedBus") ∈ lw_tbl := lw_at lw_m9 162 rfl
theorem q3409 : (Jvm.Cond.castable "ArbitratedBus$Phase$3" "java/lang/Enum") ∈ lw_tbl := lw_at lw_m14 188 rfl
theorem q3432 : (Jvm.Cond.castable "ArbitratedBus$Phase$3" "java/lang/Object") ∈ lw_tbl := lw_at lw_m14 211 rfl

/-! ArbitratedBus$Wire -/
set_option maxRecDepth 100000
def RX15 : String := "ArbitratedBus$Wire"
def TX15 : u_T := fun k => match k with
  | _ => ("ArbitratedBus$Wire", "frame", "LArbitratedBus$Frame;", true)
def tyX15 : Nat → FieldType := fun k => match k with
  | _ => .object "ArbitratedBus$Frame"
abbrev wsX150 : List Cond := u_ws RX15 TX15 1
theorem nmX15 : ∀ a, a < 1 → ∀ b, b < 1 → a ≠ b → (TX15 a).2.1 ≠ (TX15 b).2.1 := by decide +kernel
theorem tyX15_ok : ∀ k, k < 1 → parseFieldDescriptor (TX15 k).2.2.1 = some (tyX15 k) := by decide +kernel
abbrev cX15_init : ByteArray := prog_26_method_1_code
def yX15_init : MethodName := ⟨RX15, "<init>", "(LArbitratedBus$Frame;)V"⟩
def dkwX15_init_0 : List UInt8 := [42, 183, 0, 3, 42, 43, 181, 0, 9, 177]
abbrev dktX15_init_0 : List UInt8 := dkwX15_init_0 ++ []
theorem dksX15_init_0 : cX15_init.data.toList.drop 0 = dktX15_init_0 := by decide +kernel
theorem dX15_init_0 : decode cX15_init 0 = .ok (.aload_n 0, 1) := dk_42 (dk_at dksX15_init_0 0 rfl rfl)
theorem dX15_init_1 : decode cX15_init 1 = .ok (.invokespecial 3, 3) := dk_183 0 3 (dk_at dksX15_init_0 1 rfl rfl)
theorem dX15_init_4 : decode cX15_init 4 = .ok (.aload_n 0, 1) := dk_42 (dk_at dksX15_init_0 4 rfl rfl)
theorem dX15_init_5 : decode cX15_init 5 = .ok (.aload_n 1, 1) := dk_43 (dk_at dksX15_init_0 5 rfl rfl)
theorem dX15_init_6 : decode cX15_init 6 = .ok (.putfield 9, 3) := dk_181 0 9 (dk_at dksX15_init_0 6 rfl rfl)
theorem dX15_init_9 : decode cX15_init 9 = .ok (.return_, 1) := dk_177 (dk_at dksX15_init_0 9 rfl rfl)
abbrev cX15_bits : ByteArray := prog_26_method_3_code
def yX15_bits : MethodName := ⟨RX15, "bits", "()I"⟩
def dkwX15_bits_1 : List UInt8 := [192, 0, 34, 78, 27, 45, 182, 0, 36, 155, 0, 7, 4, 167, 0, 4, 3, 96, 60, 167, 255, 222, 27, 172]
abbrev dktX15_bits_1 : List UInt8 := dkwX15_bits_1 ++ []
def dkwX15_bits_0 : List UInt8 := [3, 60, 42, 182, 0, 20, 77, 44, 185, 0, 24, 1, 0, 153, 0, 31, 44, 185, 0, 30, 1, 0]
abbrev dktX15_bits_0 : List UInt8 := dkwX15_bits_0 ++ dktX15_bits_1
theorem dksX15_bits_0 : cX15_bits.data.toList.drop 0 = dktX15_bits_0 := by decide +kernel
theorem dksX15_bits_1 : cX15_bits.data.toList.drop 22 = dktX15_bits_1 := dk_seg dksX15_bits_0 22 rfl rfl
theorem dX15_bits_0 : decode cX15_bits 0 = .ok (.iconst 0, 1) := dk_3 (dk_at dksX15_bits_0 0 rfl rfl)
theorem dX15_bits_1 : decode cX15_bits 1 = .ok (.istore_n 1, 1) := dk_60 (dk_at dksX15_bits_0 1 rfl rfl)
theorem dX15_bits_2 : decode cX15_bits 2 = .ok (.aload_n 0, 1) := dk_42 (dk_at dksX15_bits_0 2 rfl rfl)
theorem dX15_bits_3 : decode cX15_bits 3 = .ok (.invokevirtual 20, 3) := dk_182 0 20 (dk_at dksX15_bits_0 3 rfl rfl)
theorem dX15_bits_6 : decode cX15_bits 6 = .ok (.astore_n 2, 1) := dk_77 (dk_at dksX15_bits_0 6 rfl rfl)
theorem dX15_bits_7 : decode cX15_bits 7 = .ok (.aload_n 2, 1) := dk_44 (dk_at dksX15_bits_0 7 rfl rfl)
theorem dX15_bits_8 : decode cX15_bits 8 = .ok (.invokeinterface 24 1, 5) := by decide +kernel
theorem dX15_bits_13 : decode cX15_bits 13 = .ok (.ifCond .eq 31, 3) := dk_153 0 31 (dk_at dksX15_bits_0 13 rfl rfl)
theorem dX15_bits_16 : decode cX15_bits 16 = .ok (.aload_n 2, 1) := dk_44 (dk_at dksX15_bits_0 16 rfl rfl)
theorem dX15_bits_17 : decode cX15_bits 17 = .ok (.invokeinterface 30 1, 5) := by decide +kernel
theorem dX15_bits_22 : decode cX15_bits 22 = .ok (.checkcast 34, 3) := dk_192 0 34 (dk_at dksX15_bits_1 0 rfl rfl)
theorem dX15_bits_25 : decode cX15_bits 25 = .ok (.astore_n 3, 1) := dk_78 (dk_at dksX15_bits_1 3 rfl rfl)
theorem dX15_bits_26 : decode cX15_bits 26 = .ok (.iload_n 1, 1) := dk_27 (dk_at dksX15_bits_1 4 rfl rfl)
theorem dX15_bits_27 : decode cX15_bits 27 = .ok (.aload_n 3, 1) := dk_45 (dk_at dksX15_bits_1 5 rfl rfl)
theorem dX15_bits_28 : decode cX15_bits 28 = .ok (.invokevirtual 36, 3) := dk_182 0 36 (dk_at dksX15_bits_1 6 rfl rfl)
theorem dX15_bits_31 : decode cX15_bits 31 = .ok (.ifCond .lt 7, 3) := dk_155 0 7 (dk_at dksX15_bits_1 9 rfl rfl)
theorem dX15_bits_34 : decode cX15_bits 34 = .ok (.iconst 1, 1) := dk_4 (dk_at dksX15_bits_1 12 rfl rfl)
theorem dX15_bits_35 : decode cX15_bits 35 = .ok (.goto 4, 3) := dk_167 0 4 (dk_at dksX15_bits_1 13 rfl rfl)
theorem dX15_bits_38 : decode cX15_bits 38 = .ok (.iconst 0, 1) := dk_3 (dk_at dksX15_bits_1 16 rfl rfl)
theorem dX15_bits_39 : decode cX15_bits 39 = .ok (.iadd, 1) := dk_96 (dk_at dksX15_bits_1 17 rfl rfl)
theorem dX15_bits_40 : decode cX15_bits 40 = .ok (.istore_n 1, 1) := dk_60 (dk_at dksX15_bits_1 18 rfl rfl)
theorem dX15_bits_41 : decode cX15_bits 41 = .ok (.goto (-34), 3) := dk_167 255 222 (dk_at dksX15_bits_1 19 rfl rfl)
theorem dX15_bits_44 : decode cX15_bits 44 = .ok (.iload_n 1, 1) := dk_27 (dk_at dksX15_bits_1 22 rfl rfl)
theorem dX15_bits_45 : decode cX15_bits 45 = .ok (.ireturn, 1) := dk_172 (dk_at dksX15_bits_1 23 rfl rfl)
abbrev cX15_iterator : ByteArray := prog_26_method_2_code
def yX15_iterator : MethodName := ⟨RX15, "iterator", "()Ljava/util/Iterator;"⟩
def dkwX15_iterator_0 : List UInt8 := [187, 0, 15, 89, 42, 183, 0, 17, 176]
abbrev dktX15_iterator_0 : List UInt8 := dkwX15_iterator_0 ++ []
theorem dksX15_iterator_0 : cX15_iterator.data.toList.drop 0 = dktX15_iterator_0 := by decide +kernel
theorem dX15_iterator_0 : decode cX15_iterator 0 = .ok (.new 15, 3) := dk_187 0 15 (dk_at dksX15_iterator_0 0 rfl rfl)
theorem dX15_iterator_3 : decode cX15_iterator 3 = .ok (.dup, 1) := dk_89 (dk_at dksX15_iterator_0 3 rfl rfl)
theorem dX15_iterator_4 : decode cX15_iterator 4 = .ok (.aload_n 0, 1) := dk_42 (dk_at dksX15_iterator_0 4 rfl rfl)
theorem dX15_iterator_5 : decode cX15_iterator 5 = .ok (.invokespecial 17, 3) := dk_183 0 17 (dk_at dksX15_iterator_0 5 rfl rfl)
theorem dX15_iterator_8 : decode cX15_iterator 8 = .ok (.areturn, 1) := dk_176 (dk_at dksX15_iterator_0 8 rfl rfl)
abbrev cX15_bit : ByteArray := prog_26_method_4_code
def yX15_bit : MethodName := ⟨RX15, "bit", "(I)I"⟩
def dkwX15_bit_1 : List UInt8 := [192, 0, 34, 58, 4, 28, 154, 0, 9, 25, 4, 182, 0, 36, 172, 132, 2, 255, 167, 255, 223, 16, 251, 172]
abbrev dktX15_bit_1 : List UInt8 := dkwX15_bit_1 ++ []
def dkwX15_bit_0 : List UInt8 := [27, 61, 42, 182, 0, 20, 78, 45, 185, 0, 24, 1, 0, 153, 0, 30, 45, 185, 0, 30, 1, 0]
abbrev dktX15_bit_0 : List UInt8 := dkwX15_bit_0 ++ dktX15_bit_1
theorem dksX15_bit_0 : cX15_bit.data.toList.drop 0 = dktX15_bit_0 := by decide +kernel
theorem dksX15_bit_1 : cX15_bit.data.toList.drop 22 = dktX15_bit_1 := dk_seg dksX15_bit_0 22 rfl rfl
theorem dX15_bit_0 : decode cX15_bit 0 = .ok (.iload_n 1, 1) := dk_27 (dk_at dksX15_bit_0 0 rfl rfl)
theorem dX15_bit_1 : decode cX15_bit 1 = .ok (.istore_n 2, 1) := dk_61 (dk_at dksX15_bit_0 1 rfl rfl)
theorem dX15_bit_2 : decode cX15_bit 2 = .ok (.aload_n 0, 1) := dk_42 (dk_at dksX15_bit_0 2 rfl rfl)
theorem dX15_bit_3 : decode cX15_bit 3 = .ok (.invokevirtual 20, 3) := dk_182 0 20 (dk_at dksX15_bit_0 3 rfl rfl)
theorem dX15_bit_6 : decode cX15_bit 6 = .ok (.astore_n 3, 1) := dk_78 (dk_at dksX15_bit_0 6 rfl rfl)
theorem dX15_bit_7 : decode cX15_bit 7 = .ok (.aload_n 3, 1) := dk_45 (dk_at dksX15_bit_0 7 rfl rfl)
theorem dX15_bit_8 : decode cX15_bit 8 = .ok (.invokeinterface 24 1, 5) := by decide +kernel
theorem dX15_bit_13 : decode cX15_bit 13 = .ok (.ifCond .eq 30, 3) := dk_153 0 30 (dk_at dksX15_bit_0 13 rfl rfl)
theorem dX15_bit_16 : decode cX15_bit 16 = .ok (.aload_n 3, 1) := dk_45 (dk_at dksX15_bit_0 16 rfl rfl)
theorem dX15_bit_17 : decode cX15_bit 17 = .ok (.invokeinterface 30 1, 5) := by decide +kernel
theorem dX15_bit_22 : decode cX15_bit 22 = .ok (.checkcast 34, 3) := dk_192 0 34 (dk_at dksX15_bit_1 0 rfl rfl)
theorem dX15_bit_25 : decode cX15_bit 25 = .ok (.astore 4, 2) := dk_58 4 (dk_at dksX15_bit_1 3 rfl rfl)
theorem dX15_bit_27 : decode cX15_bit 27 = .ok (.iload_n 2, 1) := dk_28 (dk_at dksX15_bit_1 5 rfl rfl)
theorem dX15_bit_28 : decode cX15_bit 28 = .ok (.ifCond .ne 9, 3) := dk_154 0 9 (dk_at dksX15_bit_1 6 rfl rfl)
theorem dX15_bit_31 : decode cX15_bit 31 = .ok (.aload 4, 2) := dk_25 4 (dk_at dksX15_bit_1 9 rfl rfl)
theorem dX15_bit_33 : decode cX15_bit 33 = .ok (.invokevirtual 36, 3) := dk_182 0 36 (dk_at dksX15_bit_1 11 rfl rfl)
theorem dX15_bit_36 : decode cX15_bit 36 = .ok (.ireturn, 1) := dk_172 (dk_at dksX15_bit_1 14 rfl rfl)
theorem dX15_bit_37 : decode cX15_bit 37 = .ok (.iinc 2 (-1), 3) := dk_132 2 255 (dk_at dksX15_bit_1 15 rfl rfl)
theorem dX15_bit_40 : decode cX15_bit 40 = .ok (.goto (-33), 3) := dk_167 255 223 (dk_at dksX15_bit_1 18 rfl rfl)
theorem dX15_bit_43 : decode cX15_bit 43 = .ok (.bipush (-5), 2) := dk_16 251 (dk_at dksX15_bit_1 21 rfl rfl)
theorem dX15_bit_45 : decode cX15_bit 45 = .ok (.ireturn, 1) := dk_172 (dk_at dksX15_bit_1 23 rfl rfl)
theorem q163 : (Jvm.Cond.initialized "ArbitratedBus$Wire") ∈ lw_all := lw_g (lw_at lw_m1 62 rfl) rfl
theorem q696 : (Jvm.Cond.selects "ArbitratedBus$Wire" ({ cls := "java/lang/Object", name := "getClass", desc := "()Ljava/lang/Class;" } : Jvm.MethodName) ({ cls := "java/lang/Object", name := "getClass", desc := "()Ljava/lang/Class;" } : Jvm.MethodName)) ∈ lw_all := lw_g (lw_at lw_m3 115 rfl) rfl
theorem q2564 : (Jvm.Cond.instantiable "ArbitratedBus$Wire" (1 : Nat)) ∈ lw_all := lw_g (lw_at lw_m11 63 rfl) rfl
theorem q2566 : (Jvm.Cond.instanceMethod ({ cls := "ArbitratedBus$Wire", name := "<init>", desc := "(LArbitratedBus$Frame;)V" } : Jvm.MethodName)) ∈ lw_all := lw_g (lw_at lw_m11 65 rfl) rfl
theorem q2567 : (Jvm.Cond.code ({ cls := "ArbitratedBus$Wire", name := "<init>", desc := "(LArbitratedBus$Frame;)V" } : Jvm.MethodName) prog_26_method_1_code (2 : Nat) (Option.none : Option Jvm.ClassFile.FieldType)) ∈ lw_all := lw_g (lw_at lw_m11 66 rfl) rfl
theorem q2568 : (Jvm.Cond.methodLink "ArbitratedBus$Wire" (3 : Nat) ({ cls := "java/lang/Object", name := "<init>", desc := "()V" } : Jvm.MethodName)) ∈ lw_all := lw_g (lw_at lw_m11 67 rfl) rfl
theorem q2569 : (Jvm.Cond.fieldLink "ArbitratedBus$Wire" (9 : Nat) "ArbitratedBus$Wire" "frame" "LArbitratedBus$Frame;") ∈ lw_all := lw_g (lw_at lw_m11 68 rfl) rfl
theorem q2571 : (Jvm.Cond.laysFinal "ArbitratedBus$Wire" "ArbitratedBus$Wire" "frame" "LArbitratedBus$Frame;") ∈ lw_all := lw_g (lw_at lw_m11 70 rfl) rfl
theorem q2572 : (Jvm.Cond.soleField "ArbitratedBus$Wire" "frame") ∈ lw_all := lw_g (lw_at lw_m11 71 rfl) rfl
theorem q2573 : (Jvm.Cond.superclass "ArbitratedBus$Wire" "java/lang/Object") ∈ lw_all := lw_g (lw_at lw_m11 72 rfl) rfl
theorem q2575 : (Jvm.Cond.instanceMethod ({ cls := "ArbitratedBus$Wire", name := "bits", desc := "()I" } : Jvm.MethodName)) ∈ lw_all := lw_g (lw_at lw_m11 74 rfl) rfl
theorem q2576 : (Jvm.Cond.selects "ArbitratedBus$Wire" ({ cls := "ArbitratedBus$Wire", name := "bits", desc := "()I" } : Jvm.MethodName) ({ cls := "ArbitratedBus$Wire", name := "bits", desc := "()I" } : Jvm.MethodName)) ∈ lw_all := lw_g (lw_at lw_m11 75 rfl) rfl
theorem q2577 : (Jvm.Cond.code ({ cls := "ArbitratedBus$Wire", name := "bits", desc := "()I" } : Jvm.MethodName) prog_26_method_3_code (4 : Nat) (Option.some Jvm.ClassFile.FieldType.int)) ∈ lw_all := lw_g (lw_at lw_m11 76 rfl) rfl
theorem q2578 : (Jvm.Cond.methodLink "ArbitratedBus$Wire" (20 : Nat) ({ cls := "ArbitratedBus$Wire", name := "iterator", desc := "()Ljava/util/Iterator;" } : Jvm.MethodName)) ∈ lw_all := lw_g (lw_at lw_m11 77 rfl) rfl
theorem q2579 : (Jvm.Cond.instanceMethod ({ cls := "ArbitratedBus$Wire", name := "iterator", desc := "()Ljava/util/Iterator;" } : Jvm.MethodName)) ∈ lw_all := lw_g (lw_at lw_m11 78 rfl) rfl
theorem q2580 : (Jvm.Cond.selects "ArbitratedBus$Wire" ({ cls := "ArbitratedBus$Wire", name := "iterator", desc := "()Ljava/util/Iterator;" } : Jvm.MethodName) ({ cls := "ArbitratedBus$Wire", name := "iterator", desc := "()Ljava/util/Iterator;" } : Jvm.MethodName)) ∈ lw_all := lw_g (lw_at lw_m11 79 rfl) rfl
theorem q2581 : (Jvm.Cond.code ({ cls := "ArbitratedBus$Wire", name := "iterator", desc := "()Ljava/util/Iterator;" } : Jvm.MethodName) prog_26_method_2_code (1 : Nat) (Option.some (Jvm.ClassFile.FieldType.object "java/util/Iterator"))) ∈ lw_all := lw_g (lw_at lw_m11 80 rfl) rfl
theorem q2582 : (Jvm.Cond.classLink "ArbitratedBus$Wire" (15 : Nat) "ArbitratedBus$Wire$1") ∈ lw_all := lw_g (lw_at lw_m11 81 rfl) rfl
theorem q2583 : (Jvm.Cond.methodLink "ArbitratedBus$Wire" (17 : Nat) ({ cls := "ArbitratedBus$Wire$1", name := "<init>", desc := "(LArbitratedBus$Wire;)V" } : Jvm.MethodName)) ∈ lw_all := lw_g (lw_at lw_m11 82 rfl) rfl
theorem q2602 : (Jvm.Cond.interfaceEntry "ArbitratedBus$Wire" (24 : Nat)) ∈ lw_tbl := lw_at lw_m11 101 rfl
theorem q2603 : (Jvm.Cond.methodLink "ArbitratedBus$Wire" (24 : Nat) ({ cls := "java/util/Iterator", name := "hasNext", desc := "()Z" } : Jvm.MethodName)) ∈ lw_all := lw_g (lw_at lw_m11 102 rfl) rfl
theorem q2604 : (Jvm.Cond.interfaceEntry "ArbitratedBus$Wire" (30 : Nat)) ∈ lw_tbl := lw_at lw_m11 103 rfl
theorem q2605 : (Jvm.Cond.methodLink "ArbitratedBus$Wire" (30 : Nat) ({ cls := "java/util/Iterator", name := "next", desc := "()Ljava/lang/Object;" } : Jvm.MethodName)) ∈ lw_all := lw_g (lw_at lw_m11 104 rfl) rfl
theorem q2606 : (Jvm.Cond.classLink "ArbitratedBus$Wire" (34 : Nat) "java/lang/Integer") ∈ lw_all := lw_g (lw_at lw_m11 105 rfl) rfl
theorem q2607 : (Jvm.Cond.methodLink "ArbitratedBus$Wire" (36 : Nat) ({ cls := "java/lang/Integer", name := "intValue", desc := "()I" } : Jvm.MethodName)) ∈ lw_all := lw_g (lw_at lw_m11 106 rfl) rfl
theorem q2613 : (Jvm.Cond.instanceMethod ({ cls := "ArbitratedBus$Wire", name := "bit", desc := "(I)I" } : Jvm.MethodName)) ∈ lw_all := lw_g (lw_at lw_m11 112 rfl) rfl
theorem q2614 : (Jvm.Cond.selects "ArbitratedBus$Wire" ({ cls := "ArbitratedBus$Wire", name := "bit", desc := "(I)I" } : Jvm.MethodName) ({ cls := "ArbitratedBus$Wire", name := "bit", desc := "(I)I" } : Jvm.MethodName)) ∈ lw_all := lw_g (lw_at lw_m11 113 rfl) rfl
theorem q2615 : (Jvm.Cond.code ({ cls := "ArbitratedBus$Wire", name := "bit", desc := "(I)I" } : Jvm.MethodName) prog_26_method_4_code (5 : Nat) (Option.some Jvm.ClassFile.FieldType.int)) ∈ lw_all := lw_g (lw_at lw_m11 114 rfl) rfl
theorem q3454 : (Jvm.Cond.castable "ArbitratedBus$Wire" "java/lang/Object") ∈ lw_tbl := lw_at lw_m14 233 rfl
theorem in_X15 : ∀ w ∈ wsX150, w ∈ lw_all := lw_in wsX150 [2571] (by decide +kernel) (by decide +kernel)

/-! ArbitratedBus$Wire$1 -/
set_option maxRecDepth 100000
def RX16 : String := "ArbitratedBus$Wire$1"
def TX16 : u_T := fun k => match k with
  | 0 => ("ArbitratedBus$Wire$1", "stuffing", "LArbitratedBus$Stuffing;", true)
  | 1 => ("ArbitratedBus$Wire$1", "place", "I", false)
  | 2 => ("ArbitratedBus$Wire$1", "tail", "I", false)
  | _ => ("ArbitratedBus$Wire$1", "this$0", "LArbitratedBus$Wire;", true)
def tyX16 : Nat → FieldType := fun k => match k with
  | 0 => .object "ArbitratedBus$Stuffing"
  | 1 => .int
  | 2 => .int
  | _ => .object "ArbitratedBus$Wire"
abbrev wsX160 : List Cond := u_ws RX16 TX16 4
theorem nmX16 : ∀ a, a < 4 → ∀ b, b < 4 → a ≠ b → (TX16 a).2.1 ≠ (TX16 b).2.1 := by decide +kernel
theorem tyX16_ok : ∀ k, k < 4 → parseFieldDescriptor (TX16 k).2.2.1 = some (tyX16 k) := by decide +kernel
abbrev cX16_hasNext : ByteArray := prog_27_method_3_code
def yX16_hasNext : MethodName := ⟨RX16, "hasNext", "()Z"⟩
def dkwX16_hasNext_0 : List UInt8 := [42, 182, 0, 42, 154, 0, 12, 42, 180, 0, 45, 16, 9, 163, 0, 7, 4, 167, 0, 4, 3, 172]
abbrev dktX16_hasNext_0 : List UInt8 := dkwX16_hasNext_0 ++ []
theorem dksX16_hasNext_0 : cX16_hasNext.data.toList.drop 0 = dktX16_hasNext_0 := by decide +kernel
theorem dX16_hasNext_0 : decode cX16_hasNext 0 = .ok (.aload_n 0, 1) := dk_42 (dk_at dksX16_hasNext_0 0 rfl rfl)
theorem dX16_hasNext_1 : decode cX16_hasNext 1 = .ok (.invokevirtual 42, 3) := dk_182 0 42 (dk_at dksX16_hasNext_0 1 rfl rfl)
theorem dX16_hasNext_4 : decode cX16_hasNext 4 = .ok (.ifCond .ne 12, 3) := dk_154 0 12 (dk_at dksX16_hasNext_0 4 rfl rfl)
theorem dX16_hasNext_7 : decode cX16_hasNext 7 = .ok (.aload_n 0, 1) := dk_42 (dk_at dksX16_hasNext_0 7 rfl rfl)
theorem dX16_hasNext_8 : decode cX16_hasNext 8 = .ok (.getfield 45, 3) := dk_180 0 45 (dk_at dksX16_hasNext_0 8 rfl rfl)
theorem dX16_hasNext_11 : decode cX16_hasNext 11 = .ok (.bipush 9, 2) := dk_16 9 (dk_at dksX16_hasNext_0 11 rfl rfl)
theorem dX16_hasNext_13 : decode cX16_hasNext 13 = .ok (.if_icmp .gt 7, 3) := dk_163 0 7 (dk_at dksX16_hasNext_0 13 rfl rfl)
theorem dX16_hasNext_16 : decode cX16_hasNext 16 = .ok (.iconst 1, 1) := dk_4 (dk_at dksX16_hasNext_0 16 rfl rfl)
theorem dX16_hasNext_17 : decode cX16_hasNext 17 = .ok (.goto 4, 3) := dk_167 0 4 (dk_at dksX16_hasNext_0 17 rfl rfl)
theorem dX16_hasNext_20 : decode cX16_hasNext 20 = .ok (.iconst 0, 1) := dk_3 (dk_at dksX16_hasNext_0 20 rfl rfl)
theorem dX16_hasNext_21 : decode cX16_hasNext 21 = .ok (.ireturn, 1) := dk_172 (dk_at dksX16_hasNext_0 21 rfl rfl)
abbrev cX16_isStuffed : ByteArray := prog_27_method_2_code
def yX16_isStuffed : MethodName := ⟨RX16, "isStuffed", "()Z"⟩
def dkwX16_isStuffed_1 : List UInt8 := [153, 0, 7, 4, 167, 0, 4, 3, 172]
abbrev dktX16_isStuffed_1 : List UInt8 := dkwX16_isStuffed_1 ++ []
def dkwX16_isStuffed_0 : List UInt8 := [42, 180, 0, 22, 42, 180, 0, 3, 180, 0, 26, 182, 0, 32, 161, 0, 13, 42, 180, 0, 18, 182, 0, 38]
abbrev dktX16_isStuffed_0 : List UInt8 := dkwX16_isStuffed_0 ++ dktX16_isStuffed_1
theorem dksX16_isStuffed_0 : cX16_isStuffed.data.toList.drop 0 = dktX16_isStuffed_0 := by decide +kernel
theorem dksX16_isStuffed_1 : cX16_isStuffed.data.toList.drop 24 = dktX16_isStuffed_1 := dk_seg dksX16_isStuffed_0 24 rfl rfl
theorem dX16_isStuffed_0 : decode cX16_isStuffed 0 = .ok (.aload_n 0, 1) := dk_42 (dk_at dksX16_isStuffed_0 0 rfl rfl)
theorem dX16_isStuffed_1 : decode cX16_isStuffed 1 = .ok (.getfield 22, 3) := dk_180 0 22 (dk_at dksX16_isStuffed_0 1 rfl rfl)
theorem dX16_isStuffed_4 : decode cX16_isStuffed 4 = .ok (.aload_n 0, 1) := dk_42 (dk_at dksX16_isStuffed_0 4 rfl rfl)
theorem dX16_isStuffed_5 : decode cX16_isStuffed 5 = .ok (.getfield 3, 3) := dk_180 0 3 (dk_at dksX16_isStuffed_0 5 rfl rfl)
theorem dX16_isStuffed_8 : decode cX16_isStuffed 8 = .ok (.getfield 26, 3) := dk_180 0 26 (dk_at dksX16_isStuffed_0 8 rfl rfl)
theorem dX16_isStuffed_11 : decode cX16_isStuffed 11 = .ok (.invokevirtual 32, 3) := dk_182 0 32 (dk_at dksX16_isStuffed_0 11 rfl rfl)
theorem dX16_isStuffed_14 : decode cX16_isStuffed 14 = .ok (.if_icmp .lt 13, 3) := dk_161 0 13 (dk_at dksX16_isStuffed_0 14 rfl rfl)
theorem dX16_isStuffed_17 : decode cX16_isStuffed 17 = .ok (.aload_n 0, 1) := dk_42 (dk_at dksX16_isStuffed_0 17 rfl rfl)
theorem dX16_isStuffed_18 : decode cX16_isStuffed 18 = .ok (.getfield 18, 3) := dk_180 0 18 (dk_at dksX16_isStuffed_0 18 rfl rfl)
theorem dX16_isStuffed_21 : decode cX16_isStuffed 21 = .ok (.invokevirtual 38, 3) := dk_182 0 38 (dk_at dksX16_isStuffed_0 21 rfl rfl)
theorem dX16_isStuffed_24 : decode cX16_isStuffed 24 = .ok (.ifCond .eq 7, 3) := dk_153 0 7 (dk_at dksX16_isStuffed_1 0 rfl rfl)
theorem dX16_isStuffed_27 : decode cX16_isStuffed 27 = .ok (.iconst 1, 1) := dk_4 (dk_at dksX16_isStuffed_1 3 rfl rfl)
theorem dX16_isStuffed_28 : decode cX16_isStuffed 28 = .ok (.goto 4, 3) := dk_167 0 4 (dk_at dksX16_isStuffed_1 4 rfl rfl)
theorem dX16_isStuffed_31 : decode cX16_isStuffed 31 = .ok (.iconst 0, 1) := dk_3 (dk_at dksX16_isStuffed_1 7 rfl rfl)
theorem dX16_isStuffed_32 : decode cX16_isStuffed 32 = .ok (.ireturn, 1) := dk_172 (dk_at dksX16_isStuffed_1 8 rfl rfl)
abbrev cX16_next : ByteArray := prog_27_method_5_code
def yX16_next : MethodName := ⟨RX16, "next", "()Ljava/lang/Object;"⟩
theorem dX16_next_0 : decode cX16_next 0 = .ok (.aload_n 0, 1) := by decide +kernel
theorem dX16_next_1 : decode cX16_next 1 = .ok (.invokevirtual 65, 3) := by decide +kernel
theorem dX16_next_4 : decode cX16_next 4 = .ok (.areturn, 1) := by decide +kernel
abbrev cX16_next_2 : ByteArray := prog_27_method_4_code
def yX16_next_2 : MethodName := ⟨RX16, "next", "()Ljava/lang/Integer;"⟩
def dkwX16_next_2_4 : List UInt8 := [176]
abbrev dktX16_next_2_4 : List UInt8 := dkwX16_next_2_4 ++ []
def dkwX16_next_2_3 : List UInt8 := [153, 0, 7, 3, 167, 0, 4, 4, 96, 181, 0, 22, 42, 180, 0, 18, 27, 182, 0, 61, 27, 184, 0, 48]
abbrev dktX16_next_2_3 : List UInt8 := dkwX16_next_2_3 ++ dktX16_next_2_4
def dkwX16_next_2_2 : List UInt8 := [180, 0, 26, 42, 180, 0, 22, 182, 0, 57, 60, 42, 89, 180, 0, 22, 42, 180, 0, 18, 182, 0, 38]
abbrev dktX16_next_2_2 : List UInt8 := dkwX16_next_2_2 ++ dktX16_next_2_3
def dkwX16_next_2_1 : List UInt8 := [180, 0, 18, 182, 0, 38, 153, 0, 13, 42, 180, 0, 18, 182, 0, 54, 167, 0, 17, 42, 180, 0, 3]
abbrev dktX16_next_2_1 : List UInt8 := dkwX16_next_2_1 ++ dktX16_next_2_2
def dkwX16_next_2_0 : List UInt8 := [42, 182, 0, 42, 154, 0, 18, 42, 89, 180, 0, 45, 4, 96, 181, 0, 45, 4, 184, 0, 48, 176, 42]
abbrev dktX16_next_2_0 : List UInt8 := dkwX16_next_2_0 ++ dktX16_next_2_1
theorem dksX16_next_2_0 : cX16_next_2.data.toList.drop 0 = dktX16_next_2_0 := by decide +kernel
theorem dksX16_next_2_1 : cX16_next_2.data.toList.drop 23 = dktX16_next_2_1 := dk_seg dksX16_next_2_0 23 rfl rfl
theorem dksX16_next_2_2 : cX16_next_2.data.toList.drop 46 = dktX16_next_2_2 := dk_seg dksX16_next_2_1 23 rfl rfl
theorem dksX16_next_2_3 : cX16_next_2.data.toList.drop 69 = dktX16_next_2_3 := dk_seg dksX16_next_2_2 23 rfl rfl
theorem dksX16_next_2_4 : cX16_next_2.data.toList.drop 93 = dktX16_next_2_4 := dk_seg dksX16_next_2_3 24 rfl rfl
theorem dX16_next_2_0 : decode cX16_next_2 0 = .ok (.aload_n 0, 1) := dk_42 (dk_at dksX16_next_2_0 0 rfl rfl)
theorem dX16_next_2_1 : decode cX16_next_2 1 = .ok (.invokevirtual 42, 3) := dk_182 0 42 (dk_at dksX16_next_2_0 1 rfl rfl)
theorem dX16_next_2_4 : decode cX16_next_2 4 = .ok (.ifCond .ne 18, 3) := dk_154 0 18 (dk_at dksX16_next_2_0 4 rfl rfl)
theorem dX16_next_2_7 : decode cX16_next_2 7 = .ok (.aload_n 0, 1) := dk_42 (dk_at dksX16_next_2_0 7 rfl rfl)
theorem dX16_next_2_8 : decode cX16_next_2 8 = .ok (.dup, 1) := dk_89 (dk_at dksX16_next_2_0 8 rfl rfl)
theorem dX16_next_2_9 : decode cX16_next_2 9 = .ok (.getfield 45, 3) := dk_180 0 45 (dk_at dksX16_next_2_0 9 rfl rfl)
theorem dX16_next_2_12 : decode cX16_next_2 12 = .ok (.iconst 1, 1) := dk_4 (dk_at dksX16_next_2_0 12 rfl rfl)
theorem dX16_next_2_13 : decode cX16_next_2 13 = .ok (.iadd, 1) := dk_96 (dk_at dksX16_next_2_0 13 rfl rfl)
theorem dX16_next_2_14 : decode cX16_next_2 14 = .ok (.putfield 45, 3) := dk_181 0 45 (dk_at dksX16_next_2_0 14 rfl rfl)
theorem dX16_next_2_17 : decode cX16_next_2 17 = .ok (.iconst 1, 1) := dk_4 (dk_at dksX16_next_2_0 17 rfl rfl)
theorem dX16_next_2_18 : decode cX16_next_2 18 = .ok (.invokestatic 48, 3) := dk_184 0 48 (dk_at dksX16_next_2_0 18 rfl rfl)
theorem dX16_next_2_21 : decode cX16_next_2 21 = .ok (.areturn, 1) := dk_176 (dk_at dksX16_next_2_0 21 rfl rfl)
theorem dX16_next_2_22 : decode cX16_next_2 22 = .ok (.aload_n 0, 1) := dk_42 (dk_at dksX16_next_2_0 22 rfl rfl)
theorem dX16_next_2_23 : decode cX16_next_2 23 = .ok (.getfield 18, 3) := dk_180 0 18 (dk_at dksX16_next_2_1 0 rfl rfl)
theorem dX16_next_2_26 : decode cX16_next_2 26 = .ok (.invokevirtual 38, 3) := dk_182 0 38 (dk_at dksX16_next_2_1 3 rfl rfl)
theorem dX16_next_2_29 : decode cX16_next_2 29 = .ok (.ifCond .eq 13, 3) := dk_153 0 13 (dk_at dksX16_next_2_1 6 rfl rfl)
theorem dX16_next_2_32 : decode cX16_next_2 32 = .ok (.aload_n 0, 1) := dk_42 (dk_at dksX16_next_2_1 9 rfl rfl)
theorem dX16_next_2_33 : decode cX16_next_2 33 = .ok (.getfield 18, 3) := dk_180 0 18 (dk_at dksX16_next_2_1 10 rfl rfl)
theorem dX16_next_2_36 : decode cX16_next_2 36 = .ok (.invokevirtual 54, 3) := dk_182 0 54 (dk_at dksX16_next_2_1 13 rfl rfl)
theorem dX16_next_2_39 : decode cX16_next_2 39 = .ok (.goto 17, 3) := dk_167 0 17 (dk_at dksX16_next_2_1 16 rfl rfl)
theorem dX16_next_2_42 : decode cX16_next_2 42 = .ok (.aload_n 0, 1) := dk_42 (dk_at dksX16_next_2_1 19 rfl rfl)
theorem dX16_next_2_43 : decode cX16_next_2 43 = .ok (.getfield 3, 3) := dk_180 0 3 (dk_at dksX16_next_2_1 20 rfl rfl)
theorem dX16_next_2_46 : decode cX16_next_2 46 = .ok (.getfield 26, 3) := dk_180 0 26 (dk_at dksX16_next_2_2 0 rfl rfl)
theorem dX16_next_2_49 : decode cX16_next_2 49 = .ok (.aload_n 0, 1) := dk_42 (dk_at dksX16_next_2_2 3 rfl rfl)
theorem dX16_next_2_50 : decode cX16_next_2 50 = .ok (.getfield 22, 3) := dk_180 0 22 (dk_at dksX16_next_2_2 4 rfl rfl)
theorem dX16_next_2_53 : decode cX16_next_2 53 = .ok (.invokevirtual 57, 3) := dk_182 0 57 (dk_at dksX16_next_2_2 7 rfl rfl)
theorem dX16_next_2_56 : decode cX16_next_2 56 = .ok (.istore_n 1, 1) := dk_60 (dk_at dksX16_next_2_2 10 rfl rfl)
theorem dX16_next_2_57 : decode cX16_next_2 57 = .ok (.aload_n 0, 1) := dk_42 (dk_at dksX16_next_2_2 11 rfl rfl)
theorem dX16_next_2_58 : decode cX16_next_2 58 = .ok (.dup, 1) := dk_89 (dk_at dksX16_next_2_2 12 rfl rfl)
theorem dX16_next_2_59 : decode cX16_next_2 59 = .ok (.getfield 22, 3) := dk_180 0 22 (dk_at dksX16_next_2_2 13 rfl rfl)
theorem dX16_next_2_62 : decode cX16_next_2 62 = .ok (.aload_n 0, 1) := dk_42 (dk_at dksX16_next_2_2 16 rfl rfl)
theorem dX16_next_2_63 : decode cX16_next_2 63 = .ok (.getfield 18, 3) := dk_180 0 18 (dk_at dksX16_next_2_2 17 rfl rfl)
theorem dX16_next_2_66 : decode cX16_next_2 66 = .ok (.invokevirtual 38, 3) := dk_182 0 38 (dk_at dksX16_next_2_2 20 rfl rfl)
theorem dX16_next_2_69 : decode cX16_next_2 69 = .ok (.ifCond .eq 7, 3) := dk_153 0 7 (dk_at dksX16_next_2_3 0 rfl rfl)
theorem dX16_next_2_72 : decode cX16_next_2 72 = .ok (.iconst 0, 1) := dk_3 (dk_at dksX16_next_2_3 3 rfl rfl)
theorem dX16_next_2_73 : decode cX16_next_2 73 = .ok (.goto 4, 3) := dk_167 0 4 (dk_at dksX16_next_2_3 4 rfl rfl)
theorem dX16_next_2_76 : decode cX16_next_2 76 = .ok (.iconst 1, 1) := dk_4 (dk_at dksX16_next_2_3 7 rfl rfl)
theorem dX16_next_2_77 : decode cX16_next_2 77 = .ok (.iadd, 1) := dk_96 (dk_at dksX16_next_2_3 8 rfl rfl)
theorem dX16_next_2_78 : decode cX16_next_2 78 = .ok (.putfield 22, 3) := dk_181 0 22 (dk_at dksX16_next_2_3 9 rfl rfl)
theorem dX16_next_2_81 : decode cX16_next_2 81 = .ok (.aload_n 0, 1) := dk_42 (dk_at dksX16_next_2_3 12 rfl rfl)
theorem dX16_next_2_82 : decode cX16_next_2 82 = .ok (.getfield 18, 3) := dk_180 0 18 (dk_at dksX16_next_2_3 13 rfl rfl)
theorem dX16_next_2_85 : decode cX16_next_2 85 = .ok (.iload_n 1, 1) := dk_27 (dk_at dksX16_next_2_3 16 rfl rfl)
theorem dX16_next_2_86 : decode cX16_next_2 86 = .ok (.invokevirtual 61, 3) := dk_182 0 61 (dk_at dksX16_next_2_3 17 rfl rfl)
theorem dX16_next_2_89 : decode cX16_next_2 89 = .ok (.iload_n 1, 1) := dk_27 (dk_at dksX16_next_2_3 20 rfl rfl)
theorem dX16_next_2_90 : decode cX16_next_2 90 = .ok (.invokestatic 48, 3) := dk_184 0 48 (dk_at dksX16_next_2_3 21 rfl rfl)
theorem dX16_next_2_93 : decode cX16_next_2 93 = .ok (.areturn, 1) := dk_176 (dk_at dksX16_next_2_4 0 rfl rfl)
abbrev cX16_init : ByteArray := prog_27_method_1_code
def yX16_init : MethodName := ⟨RX16, "<init>", "(LArbitratedBus$Wire;)V"⟩
def dkwX16_init_0 : List UInt8 := [42, 43, 181, 0, 3, 42, 183, 0, 9, 42, 187, 0, 15, 89, 183, 0, 17, 181, 0, 18, 177]
abbrev dktX16_init_0 : List UInt8 := dkwX16_init_0 ++ []
theorem dksX16_init_0 : cX16_init.data.toList.drop 0 = dktX16_init_0 := by decide +kernel
theorem dX16_init_0 : decode cX16_init 0 = .ok (.aload_n 0, 1) := dk_42 (dk_at dksX16_init_0 0 rfl rfl)
theorem dX16_init_1 : decode cX16_init 1 = .ok (.aload_n 1, 1) := dk_43 (dk_at dksX16_init_0 1 rfl rfl)
theorem dX16_init_2 : decode cX16_init 2 = .ok (.putfield 3, 3) := dk_181 0 3 (dk_at dksX16_init_0 2 rfl rfl)
theorem dX16_init_5 : decode cX16_init 5 = .ok (.aload_n 0, 1) := dk_42 (dk_at dksX16_init_0 5 rfl rfl)
theorem dX16_init_6 : decode cX16_init 6 = .ok (.invokespecial 9, 3) := dk_183 0 9 (dk_at dksX16_init_0 6 rfl rfl)
theorem dX16_init_9 : decode cX16_init 9 = .ok (.aload_n 0, 1) := dk_42 (dk_at dksX16_init_0 9 rfl rfl)
theorem dX16_init_10 : decode cX16_init 10 = .ok (.new 15, 3) := dk_187 0 15 (dk_at dksX16_init_0 10 rfl rfl)
theorem dX16_init_13 : decode cX16_init 13 = .ok (.dup, 1) := dk_89 (dk_at dksX16_init_0 13 rfl rfl)
theorem dX16_init_14 : decode cX16_init 14 = .ok (.invokespecial 17, 3) := dk_183 0 17 (dk_at dksX16_init_0 14 rfl rfl)
theorem dX16_init_17 : decode cX16_init 17 = .ok (.putfield 18, 3) := dk_181 0 18 (dk_at dksX16_init_0 17 rfl rfl)
theorem dX16_init_20 : decode cX16_init 20 = .ok (.return_, 1) := dk_177 (dk_at dksX16_init_0 20 rfl rfl)
theorem q164 : (Jvm.Cond.initialized "ArbitratedBus$Wire$1") ∈ lw_all := lw_g (lw_at lw_m1 63 rfl) rfl
theorem q697 : (Jvm.Cond.selects "ArbitratedBus$Wire$1" ({ cls := "java/lang/Object", name := "getClass", desc := "()Ljava/lang/Class;" } : Jvm.MethodName) ({ cls := "java/lang/Object", name := "getClass", desc := "()Ljava/lang/Class;" } : Jvm.MethodName)) ∈ lw_all := lw_g (lw_at lw_m3 116 rfl) rfl
theorem q1263 : (Jvm.Cond.castable "ArbitratedBus$Wire$1" "java/util/Iterator") ∈ lw_tbl := lw_at lw_m5 202 rfl
theorem q1264 : (Jvm.Cond.selects "ArbitratedBus$Wire$1" ({ cls := "java/util/Iterator", name := "hasNext", desc := "()Z" } : Jvm.MethodName) ({ cls := "ArbitratedBus$Wire$1", name := "hasNext", desc := "()Z" } : Jvm.MethodName)) ∈ lw_all := lw_g (lw_at lw_m5 203 rfl) rfl
theorem q1265 : (Jvm.Cond.unhidden "ArbitratedBus$Wire$1" "hasNext" "()Z") ∈ lw_tbl := lw_at lw_m5 204 rfl
theorem q1266 : (Jvm.Cond.instanceMethod ({ cls := "ArbitratedBus$Wire$1", name := "hasNext", desc := "()Z" } : Jvm.MethodName)) ∈ lw_all := lw_g (lw_at lw_m5 205 rfl) rfl
theorem q1267 : (Jvm.Cond.publicMethod ({ cls := "ArbitratedBus$Wire$1", name := "hasNext", desc := "()Z" } : Jvm.MethodName)) ∈ lw_tbl := lw_at lw_m5 206 rfl
theorem q1268 : (Jvm.Cond.code ({ cls := "ArbitratedBus$Wire$1", name := "hasNext", desc := "()Z" } : Jvm.MethodName) prog_27_method_3_code (1 : Nat) (Option.some Jvm.ClassFile.FieldType.boolean)) ∈ lw_all := lw_g (lw_at lw_m5 207 rfl) rfl
theorem q1269 : (Jvm.Cond.methodLink "ArbitratedBus$Wire$1" (42 : Nat) ({ cls := "ArbitratedBus$Wire$1", name := "isStuffed", desc := "()Z" } : Jvm.MethodName)) ∈ lw_all := lw_g (lw_at lw_m5 208 rfl) rfl
theorem q1270 : (Jvm.Cond.privateMethod ({ cls := "ArbitratedBus$Wire$1", name := "isStuffed", desc := "()Z" } : Jvm.MethodName)) ∈ lw_tbl := lw_at lw_m5 209 rfl
theorem q1271 : (Jvm.Cond.instanceMethod ({ cls := "ArbitratedBus$Wire$1", name := "isStuffed", desc := "()Z" } : Jvm.MethodName)) ∈ lw_all := lw_g (lw_at lw_m5 210 rfl) rfl
theorem q1272 : (Jvm.Cond.instantiable "ArbitratedBus$Wire$1" (4 : Nat)) ∈ lw_all := lw_g (lw_at lw_m5 211 rfl) rfl
theorem q1273 : (Jvm.Cond.code ({ cls := "ArbitratedBus$Wire$1", name := "isStuffed", desc := "()Z" } : Jvm.MethodName) prog_27_method_2_code (1 : Nat) (Option.some Jvm.ClassFile.FieldType.boolean)) ∈ lw_all := lw_g (lw_at lw_m5 212 rfl) rfl
theorem q1274 : (Jvm.Cond.methodLink "ArbitratedBus$Wire$1" (32 : Nat) ({ cls := "ArbitratedBus$Frame", name := "basic", desc := "()I" } : Jvm.MethodName)) ∈ lw_all := lw_g (lw_at lw_m5 213 rfl) rfl
theorem q1282 : (Jvm.Cond.methodLink "ArbitratedBus$Wire$1" (38 : Nat) ({ cls := "ArbitratedBus$Stuffing", name := "isDue", desc := "()Z" } : Jvm.MethodName)) ∈ lw_all := lw_g (lw_at lw_m5 221 rfl) rfl
theorem q1344 : (Jvm.Cond.selects "ArbitratedBus$Wire$1" ({ cls := "java/util/Iterator", name := "next", desc := "()Ljava/lang/Object;" } : Jvm.MethodName) ({ cls := "ArbitratedBus$Wire$1", name := "next", desc := "()Ljava/lang/Object;" } : Jvm.MethodName)) ∈ lw_all := lw_g (lw_at lw_m6 43 rfl) rfl
theorem q1345 : (Jvm.Cond.unhidden "ArbitratedBus$Wire$1" "next" "()Ljava/lang/Object;") ∈ lw_tbl := lw_at lw_m6 44 rfl
theorem q1346 : (Jvm.Cond.instanceMethod ({ cls := "ArbitratedBus$Wire$1", name := "next", desc := "()Ljava/lang/Object;" } : Jvm.MethodName)) ∈ lw_all := lw_g (lw_at lw_m6 45 rfl) rfl
theorem q1347 : (Jvm.Cond.publicMethod ({ cls := "ArbitratedBus$Wire$1", name := "next", desc := "()Ljava/lang/Object;" } : Jvm.MethodName)) ∈ lw_tbl := lw_at lw_m6 46 rfl
theorem q1348 : (Jvm.Cond.code ({ cls := "ArbitratedBus$Wire$1", name := "next", desc := "()Ljava/lang/Object;" } : Jvm.MethodName) prog_27_method_5_code (1 : Nat) (Option.some (Jvm.ClassFile.FieldType.object "java/lang/Object"))) ∈ lw_all := lw_g (lw_at lw_m6 47 rfl) rfl
theorem q1349 : (Jvm.Cond.methodLink "ArbitratedBus$Wire$1" (65 : Nat) ({ cls := "ArbitratedBus$Wire$1", name := "next", desc := "()Ljava/lang/Integer;" } : Jvm.MethodName)) ∈ lw_all := lw_g (lw_at lw_m6 48 rfl) rfl
theorem q1350 : (Jvm.Cond.instanceMethod ({ cls := "ArbitratedBus$Wire$1", name := "next", desc := "()Ljava/lang/Integer;" } : Jvm.MethodName)) ∈ lw_all := lw_g (lw_at lw_m6 49 rfl) rfl
theorem q1351 : (Jvm.Cond.selects "ArbitratedBus$Wire$1" ({ cls := "ArbitratedBus$Wire$1", name := "next", desc := "()Ljava/lang/Integer;" } : Jvm.MethodName) ({ cls := "ArbitratedBus$Wire$1", name := "next", desc := "()Ljava/lang/Integer;" } : Jvm.MethodName)) ∈ lw_all := lw_g (lw_at lw_m6 50 rfl) rfl
theorem q1352 : (Jvm.Cond.code ({ cls := "ArbitratedBus$Wire$1", name := "next", desc := "()Ljava/lang/Integer;" } : Jvm.MethodName) prog_27_method_4_code (2 : Nat) (Option.some (Jvm.ClassFile.FieldType.object "java/lang/Integer"))) ∈ lw_all := lw_g (lw_at lw_m6 51 rfl) rfl
theorem q1353 : (Jvm.Cond.methodLink "ArbitratedBus$Wire$1" (48 : Nat) ({ cls := "java/lang/Integer", name := "valueOf", desc := "(I)Ljava/lang/Integer;" } : Jvm.MethodName)) ∈ lw_all := lw_g (lw_at lw_m6 52 rfl) rfl
theorem q1354 : (Jvm.Cond.methodLink "ArbitratedBus$Wire$1" (54 : Nat) ({ cls := "ArbitratedBus$Stuffing", name := "stuff", desc := "()I" } : Jvm.MethodName)) ∈ lw_all := lw_g (lw_at lw_m6 53 rfl) rfl
theorem q1360 : (Jvm.Cond.methodLink "ArbitratedBus$Wire$1" (57 : Nat) ({ cls := "ArbitratedBus$Frame", name := "bit", desc := "(I)I" } : Jvm.MethodName)) ∈ lw_all := lw_g (lw_at lw_m6 59 rfl) rfl
theorem q1376 : (Jvm.Cond.methodLink "ArbitratedBus$Wire$1" (61 : Nat) ({ cls := "ArbitratedBus$Stuffing", name := "see", desc := "(I)V" } : Jvm.MethodName)) ∈ lw_all := lw_g (lw_at lw_m6 75 rfl) rfl
theorem q1969 : (Jvm.Cond.unhidden "ArbitratedBus$Wire$1" "remove" "()V") ∈ lw_tbl := lw_at lw_m8 188 rfl
theorem q2570 : (Jvm.Cond.fieldLinkNest "ArbitratedBus$Wire$1" (26 : Nat) "ArbitratedBus$Wire" "frame" "LArbitratedBus$Frame;" "ArbitratedBus") ∈ lw_tbl := lw_at lw_m11 69 rfl
theorem q2584 : (Jvm.Cond.instanceMethod ({ cls := "ArbitratedBus$Wire$1", name := "<init>", desc := "(LArbitratedBus$Wire;)V" } : Jvm.MethodName)) ∈ lw_all := lw_g (lw_at lw_m11 83 rfl) rfl
theorem q2585 : (Jvm.Cond.code ({ cls := "ArbitratedBus$Wire$1", name := "<init>", desc := "(LArbitratedBus$Wire;)V" } : Jvm.MethodName) prog_27_method_1_code (2 : Nat) (Option.none : Option Jvm.ClassFile.FieldType)) ∈ lw_all := lw_g (lw_at lw_m11 84 rfl) rfl
theorem q2586 : (Jvm.Cond.methodLink "ArbitratedBus$Wire$1" (9 : Nat) ({ cls := "java/lang/Object", name := "<init>", desc := "()V" } : Jvm.MethodName)) ∈ lw_all := lw_g (lw_at lw_m11 85 rfl) rfl
theorem q2587 : (Jvm.Cond.classLink "ArbitratedBus$Wire$1" (15 : Nat) "ArbitratedBus$Stuffing") ∈ lw_all := lw_g (lw_at lw_m11 86 rfl) rfl
theorem q2588 : (Jvm.Cond.methodLinkNest "ArbitratedBus$Wire$1" (17 : Nat) ({ cls := "ArbitratedBus$Stuffing", name := "<init>", desc := "()V" } : Jvm.MethodName) "ArbitratedBus") ∈ lw_tbl := lw_at lw_m11 87 rfl
theorem q2589 : (Jvm.Cond.fieldLink "ArbitratedBus$Wire$1" (18 : Nat) "ArbitratedBus$Wire$1" "stuffing" "LArbitratedBus$Stuffing;") ∈ lw_all := lw_g (lw_at lw_m11 88 rfl) rfl
theorem q2590 : (Jvm.Cond.fieldLink "ArbitratedBus$Wire$1" (22 : Nat) "ArbitratedBus$Wire$1" "place" "I") ∈ lw_all := lw_g (lw_at lw_m11 89 rfl) rfl
theorem q2591 : (Jvm.Cond.fieldLink "ArbitratedBus$Wire$1" (45 : Nat) "ArbitratedBus$Wire$1" "tail" "I") ∈ lw_all := lw_g (lw_at lw_m11 90 rfl) rfl
theorem q2592 : (Jvm.Cond.fieldLink "ArbitratedBus$Wire$1" (3 : Nat) "ArbitratedBus$Wire$1" "this$0" "LArbitratedBus$Wire;") ∈ lw_all := lw_g (lw_at lw_m11 91 rfl) rfl
theorem q2593 : (Jvm.Cond.laysFinal "ArbitratedBus$Wire$1" "ArbitratedBus$Wire$1" "stuffing" "LArbitratedBus$Stuffing;") ∈ lw_all := lw_g (lw_at lw_m11 92 rfl) rfl
theorem q2594 : (Jvm.Cond.soleField "ArbitratedBus$Wire$1" "stuffing") ∈ lw_all := lw_g (lw_at lw_m11 93 rfl) rfl
theorem q2595 : (Jvm.Cond.lays "ArbitratedBus$Wire$1" "ArbitratedBus$Wire$1" "place" "I") ∈ lw_all := lw_g (lw_at lw_m11 94 rfl) rfl
theorem q2596 : (Jvm.Cond.soleField "ArbitratedBus$Wire$1" "place") ∈ lw_all := lw_g (lw_at lw_m11 95 rfl) rfl
theorem q2597 : (Jvm.Cond.lays "ArbitratedBus$Wire$1" "ArbitratedBus$Wire$1" "tail" "I") ∈ lw_all := lw_g (lw_at lw_m11 96 rfl) rfl
theorem q2598 : (Jvm.Cond.soleField "ArbitratedBus$Wire$1" "tail") ∈ lw_all := lw_g (lw_at lw_m11 97 rfl) rfl
theorem q2599 : (Jvm.Cond.laysFinal "ArbitratedBus$Wire$1" "ArbitratedBus$Wire$1" "this$0" "LArbitratedBus$Wire;") ∈ lw_all := lw_g (lw_at lw_m11 98 rfl) rfl
theorem q2600 : (Jvm.Cond.soleField "ArbitratedBus$Wire$1" "this$0") ∈ lw_all := lw_g (lw_at lw_m11 99 rfl) rfl
theorem q2601 : (Jvm.Cond.superclass "ArbitratedBus$Wire$1" "java/lang/Object") ∈ lw_all := lw_g (lw_at lw_m11 100 rfl) rfl
theorem q3455 : (Jvm.Cond.castable "ArbitratedBus$Wire$1" "java/lang/Object") ∈ lw_tbl := lw_at lw_m14 234 rfl
theorem in_X16 : ∀ w ∈ wsX160, w ∈ lw_all := lw_in wsX160 [2593, 2595, 2597, 2599] (by decide +kernel) (by decide +kernel)

/-! ArbitratedBus$Message -/
set_option maxRecDepth 100000
def RX17 : String := "ArbitratedBus$Message"
def TX17 : u_T := fun k => match k with
  | 0 => ("ArbitratedBus$Message", "bits", "I", true)
  | 1 => ("ArbitratedBus$Message", "period", "I", true)
  | _ => ("ArbitratedBus$Message", "jitter", "I", true)
def tyX17 : Nat → FieldType := fun k => match k with
  | 0 => .int
  | 1 => .int
  | _ => .int
abbrev wsX170 : List Cond := u_ws RX17 TX17 3
theorem nmX17 : ∀ a, a < 3 → ∀ b, b < 3 → a ≠ b → (TX17 a).2.1 ≠ (TX17 b).2.1 := by decide +kernel
theorem tyX17_ok : ∀ k, k < 3 → parseFieldDescriptor (TX17 k).2.2.1 = some (tyX17 k) := by decide +kernel
abbrev cX17_init : ByteArray := prog_8_method_1_code
def yX17_init : MethodName := ⟨RX17, "<init>", "(III)V"⟩
def dkwX17_init_0 : List UInt8 := [42, 183, 0, 1, 42, 27, 181, 0, 7, 42, 28, 181, 0, 13, 42, 29, 181, 0, 16, 177]
abbrev dktX17_init_0 : List UInt8 := dkwX17_init_0 ++ []
theorem dksX17_init_0 : cX17_init.data.toList.drop 0 = dktX17_init_0 := by decide +kernel
theorem dX17_init_0 : decode cX17_init 0 = .ok (.aload_n 0, 1) := dk_42 (dk_at dksX17_init_0 0 rfl rfl)
theorem dX17_init_1 : decode cX17_init 1 = .ok (.invokespecial 1, 3) := dk_183 0 1 (dk_at dksX17_init_0 1 rfl rfl)
theorem dX17_init_4 : decode cX17_init 4 = .ok (.aload_n 0, 1) := dk_42 (dk_at dksX17_init_0 4 rfl rfl)
theorem dX17_init_5 : decode cX17_init 5 = .ok (.iload_n 1, 1) := dk_27 (dk_at dksX17_init_0 5 rfl rfl)
theorem dX17_init_6 : decode cX17_init 6 = .ok (.putfield 7, 3) := dk_181 0 7 (dk_at dksX17_init_0 6 rfl rfl)
theorem dX17_init_9 : decode cX17_init 9 = .ok (.aload_n 0, 1) := dk_42 (dk_at dksX17_init_0 9 rfl rfl)
theorem dX17_init_10 : decode cX17_init 10 = .ok (.iload_n 2, 1) := dk_28 (dk_at dksX17_init_0 10 rfl rfl)
theorem dX17_init_11 : decode cX17_init 11 = .ok (.putfield 13, 3) := dk_181 0 13 (dk_at dksX17_init_0 11 rfl rfl)
theorem dX17_init_14 : decode cX17_init 14 = .ok (.aload_n 0, 1) := dk_42 (dk_at dksX17_init_0 14 rfl rfl)
theorem dX17_init_15 : decode cX17_init 15 = .ok (.iload_n 3, 1) := dk_29 (dk_at dksX17_init_0 15 rfl rfl)
theorem dX17_init_16 : decode cX17_init 16 = .ok (.putfield 16, 3) := dk_181 0 16 (dk_at dksX17_init_0 16 rfl rfl)
theorem dX17_init_19 : decode cX17_init 19 = .ok (.return_, 1) := dk_177 (dk_at dksX17_init_0 19 rfl rfl)
abbrev cX17_demand : ByteArray := prog_8_method_2_code
def yX17_demand : MethodName := ⟨RX17, "demand", "(I)I"⟩
def dkwX17_demand_0 : List UInt8 := [42, 180, 0, 7, 27, 42, 180, 0, 16, 96, 42, 180, 0, 13, 96, 42, 180, 0, 13, 108, 104, 172]
abbrev dktX17_demand_0 : List UInt8 := dkwX17_demand_0 ++ []
theorem dksX17_demand_0 : cX17_demand.data.toList.drop 0 = dktX17_demand_0 := by decide +kernel
theorem dX17_demand_0 : decode cX17_demand 0 = .ok (.aload_n 0, 1) := dk_42 (dk_at dksX17_demand_0 0 rfl rfl)
theorem dX17_demand_1 : decode cX17_demand 1 = .ok (.getfield 7, 3) := dk_180 0 7 (dk_at dksX17_demand_0 1 rfl rfl)
theorem dX17_demand_4 : decode cX17_demand 4 = .ok (.iload_n 1, 1) := dk_27 (dk_at dksX17_demand_0 4 rfl rfl)
theorem dX17_demand_5 : decode cX17_demand 5 = .ok (.aload_n 0, 1) := dk_42 (dk_at dksX17_demand_0 5 rfl rfl)
theorem dX17_demand_6 : decode cX17_demand 6 = .ok (.getfield 16, 3) := dk_180 0 16 (dk_at dksX17_demand_0 6 rfl rfl)
theorem dX17_demand_9 : decode cX17_demand 9 = .ok (.iadd, 1) := dk_96 (dk_at dksX17_demand_0 9 rfl rfl)
theorem dX17_demand_10 : decode cX17_demand 10 = .ok (.aload_n 0, 1) := dk_42 (dk_at dksX17_demand_0 10 rfl rfl)
theorem dX17_demand_11 : decode cX17_demand 11 = .ok (.getfield 13, 3) := dk_180 0 13 (dk_at dksX17_demand_0 11 rfl rfl)
theorem dX17_demand_14 : decode cX17_demand 14 = .ok (.iadd, 1) := dk_96 (dk_at dksX17_demand_0 14 rfl rfl)
theorem dX17_demand_15 : decode cX17_demand 15 = .ok (.aload_n 0, 1) := dk_42 (dk_at dksX17_demand_0 15 rfl rfl)
theorem dX17_demand_16 : decode cX17_demand 16 = .ok (.getfield 13, 3) := dk_180 0 13 (dk_at dksX17_demand_0 16 rfl rfl)
theorem dX17_demand_19 : decode cX17_demand 19 = .ok (.idiv, 1) := dk_108 (dk_at dksX17_demand_0 19 rfl rfl)
theorem dX17_demand_20 : decode cX17_demand 20 = .ok (.imul, 1) := dk_104 (dk_at dksX17_demand_0 20 rfl rfl)
theorem dX17_demand_21 : decode cX17_demand 21 = .ok (.ireturn, 1) := dk_172 (dk_at dksX17_demand_0 21 rfl rfl)
theorem q165 : (Jvm.Cond.initialized "ArbitratedBus$Message") ∈ lw_all := lw_g (lw_at lw_m1 64 rfl) rfl
theorem q679 : (Jvm.Cond.selects "ArbitratedBus$Message" ({ cls := "java/lang/Object", name := "getClass", desc := "()Ljava/lang/Class;" } : Jvm.MethodName) ({ cls := "java/lang/Object", name := "getClass", desc := "()Ljava/lang/Class;" } : Jvm.MethodName)) ∈ lw_all := lw_g (lw_at lw_m3 98 rfl) rfl
theorem q2630 : (Jvm.Cond.instantiable "ArbitratedBus$Message" (3 : Nat)) ∈ lw_all := lw_g (lw_at lw_m11 129 rfl) rfl
theorem q2632 : (Jvm.Cond.instanceMethod ({ cls := "ArbitratedBus$Message", name := "<init>", desc := "(III)V" } : Jvm.MethodName)) ∈ lw_all := lw_g (lw_at lw_m11 131 rfl) rfl
theorem q2633 : (Jvm.Cond.code ({ cls := "ArbitratedBus$Message", name := "<init>", desc := "(III)V" } : Jvm.MethodName) prog_8_method_1_code (4 : Nat) (Option.none : Option Jvm.ClassFile.FieldType)) ∈ lw_all := lw_g (lw_at lw_m11 132 rfl) rfl
theorem q2634 : (Jvm.Cond.methodLink "ArbitratedBus$Message" (1 : Nat) ({ cls := "java/lang/Object", name := "<init>", desc := "()V" } : Jvm.MethodName)) ∈ lw_all := lw_g (lw_at lw_m11 133 rfl) rfl
theorem q2635 : (Jvm.Cond.fieldLink "ArbitratedBus$Message" (7 : Nat) "ArbitratedBus$Message" "bits" "I") ∈ lw_all := lw_g (lw_at lw_m11 134 rfl) rfl
theorem q2637 : (Jvm.Cond.fieldLink "ArbitratedBus$Message" (13 : Nat) "ArbitratedBus$Message" "period" "I") ∈ lw_all := lw_g (lw_at lw_m11 136 rfl) rfl
theorem q2639 : (Jvm.Cond.fieldLink "ArbitratedBus$Message" (16 : Nat) "ArbitratedBus$Message" "jitter" "I") ∈ lw_all := lw_g (lw_at lw_m11 138 rfl) rfl
theorem q2641 : (Jvm.Cond.laysFinal "ArbitratedBus$Message" "ArbitratedBus$Message" "bits" "I") ∈ lw_all := lw_g (lw_at lw_m11 140 rfl) rfl
theorem q2642 : (Jvm.Cond.soleField "ArbitratedBus$Message" "bits") ∈ lw_all := lw_g (lw_at lw_m11 141 rfl) rfl
theorem q2643 : (Jvm.Cond.laysFinal "ArbitratedBus$Message" "ArbitratedBus$Message" "period" "I") ∈ lw_all := lw_g (lw_at lw_m11 142 rfl) rfl
theorem q2644 : (Jvm.Cond.soleField "ArbitratedBus$Message" "period") ∈ lw_all := lw_g (lw_at lw_m11 143 rfl) rfl
theorem q2645 : (Jvm.Cond.laysFinal "ArbitratedBus$Message" "ArbitratedBus$Message" "jitter" "I") ∈ lw_all := lw_g (lw_at lw_m11 144 rfl) rfl
theorem q2646 : (Jvm.Cond.soleField "ArbitratedBus$Message" "jitter") ∈ lw_all := lw_g (lw_at lw_m11 145 rfl) rfl
theorem q2647 : (Jvm.Cond.superclass "ArbitratedBus$Message" "java/lang/Object") ∈ lw_all := lw_g (lw_at lw_m11 146 rfl) rfl
theorem q2693 : (Jvm.Cond.instanceMethod ({ cls := "ArbitratedBus$Message", name := "demand", desc := "(I)I" } : Jvm.MethodName)) ∈ lw_all := lw_g (lw_at lw_m11 192 rfl) rfl
theorem q2694 : (Jvm.Cond.selects "ArbitratedBus$Message" ({ cls := "ArbitratedBus$Message", name := "demand", desc := "(I)I" } : Jvm.MethodName) ({ cls := "ArbitratedBus$Message", name := "demand", desc := "(I)I" } : Jvm.MethodName)) ∈ lw_all := lw_g (lw_at lw_m11 193 rfl) rfl
theorem q2695 : (Jvm.Cond.code ({ cls := "ArbitratedBus$Message", name := "demand", desc := "(I)I" } : Jvm.MethodName) prog_8_method_2_code (2 : Nat) (Option.some Jvm.ClassFile.FieldType.int)) ∈ lw_all := lw_g (lw_at lw_m11 194 rfl) rfl
theorem q3456 : (Jvm.Cond.castable "ArbitratedBus$Message" "java/lang/Object") ∈ lw_tbl := lw_at lw_m14 235 rfl
theorem in_X17 : ∀ w ∈ wsX170, w ∈ lw_all := lw_in wsX170 [2641, 2643, 2645] (by decide +kernel) (by decide +kernel)

/-! ArbitratedBus$Reader -/
set_option maxRecDepth 100000
def RX18 : String := "ArbitratedBus$Reader"
def TX18 : u_T := fun k => match k with
  | 0 => ("ArbitratedBus$Reader", "at", "I", false)
  | _ => ("ArbitratedBus$Reader", "this$0", "LArbitratedBus;", true)
def tyX18 : Nat → FieldType := fun k => match k with
  | 0 => .int
  | _ => .object "ArbitratedBus"
abbrev wsX180 : List Cond := u_ws RX18 TX18 2
theorem nmX18 : ∀ a, a < 2 → ∀ b, b < 2 → a ≠ b → (TX18 a).2.1 ≠ (TX18 b).2.1 := by decide +kernel
theorem tyX18_ok : ∀ k, k < 2 → parseFieldDescriptor (TX18 k).2.2.1 = some (tyX18 k) := by decide +kernel
abbrev cX18_init : ByteArray := prog_22_method_1_code
def yX18_init : MethodName := ⟨RX18, "<init>", "(LArbitratedBus;)V"⟩
def dkwX18_init_0 : List UInt8 := [42, 43, 181, 0, 3, 42, 183, 0, 9, 177]
abbrev dktX18_init_0 : List UInt8 := dkwX18_init_0 ++ []
theorem dksX18_init_0 : cX18_init.data.toList.drop 0 = dktX18_init_0 := by decide +kernel
theorem dX18_init_0 : decode cX18_init 0 = .ok (.aload_n 0, 1) := dk_42 (dk_at dksX18_init_0 0 rfl rfl)
theorem dX18_init_1 : decode cX18_init 1 = .ok (.aload_n 1, 1) := dk_43 (dk_at dksX18_init_0 1 rfl rfl)
theorem dX18_init_2 : decode cX18_init 2 = .ok (.putfield 3, 3) := dk_181 0 3 (dk_at dksX18_init_0 2 rfl rfl)
theorem dX18_init_5 : decode cX18_init 5 = .ok (.aload_n 0, 1) := dk_42 (dk_at dksX18_init_0 5 rfl rfl)
theorem dX18_init_6 : decode cX18_init 6 = .ok (.invokespecial 9, 3) := dk_183 0 9 (dk_at dksX18_init_0 6 rfl rfl)
theorem dX18_init_9 : decode cX18_init 9 = .ok (.return_, 1) := dk_177 (dk_at dksX18_init_0 9 rfl rfl)
abbrev cX18_all : ByteArray := prog_22_method_11_code
def yX18_all : MethodName := ⟨RX18, "all", "()Ljava/util/ArrayList;"⟩
def dkwX18_all_1 : List UInt8 := [43, 42, 182, 0, 80, 182, 0, 84, 87, 42, 16, 59, 182, 0, 66, 167, 255, 227, 43, 176]
abbrev dktX18_all_1 : List UInt8 := dkwX18_all_1 ++ []
def dkwX18_all_0 : List UInt8 := [187, 0, 77, 89, 16, 20, 183, 0, 79, 76, 42, 180, 0, 15, 42, 180, 0, 3, 180, 0, 19, 162, 0, 21]
abbrev dktX18_all_0 : List UInt8 := dkwX18_all_0 ++ dktX18_all_1
theorem dksX18_all_0 : cX18_all.data.toList.drop 0 = dktX18_all_0 := by decide +kernel
theorem dksX18_all_1 : cX18_all.data.toList.drop 24 = dktX18_all_1 := dk_seg dksX18_all_0 24 rfl rfl
theorem dX18_all_0 : decode cX18_all 0 = .ok (.new 77, 3) := dk_187 0 77 (dk_at dksX18_all_0 0 rfl rfl)
theorem dX18_all_3 : decode cX18_all 3 = .ok (.dup, 1) := dk_89 (dk_at dksX18_all_0 3 rfl rfl)
theorem dX18_all_4 : decode cX18_all 4 = .ok (.bipush 20, 2) := dk_16 20 (dk_at dksX18_all_0 4 rfl rfl)
theorem dX18_all_6 : decode cX18_all 6 = .ok (.invokespecial 79, 3) := dk_183 0 79 (dk_at dksX18_all_0 6 rfl rfl)
theorem dX18_all_9 : decode cX18_all 9 = .ok (.astore_n 1, 1) := dk_76 (dk_at dksX18_all_0 9 rfl rfl)
theorem dX18_all_10 : decode cX18_all 10 = .ok (.aload_n 0, 1) := dk_42 (dk_at dksX18_all_0 10 rfl rfl)
theorem dX18_all_11 : decode cX18_all 11 = .ok (.getfield 15, 3) := dk_180 0 15 (dk_at dksX18_all_0 11 rfl rfl)
theorem dX18_all_14 : decode cX18_all 14 = .ok (.aload_n 0, 1) := dk_42 (dk_at dksX18_all_0 14 rfl rfl)
theorem dX18_all_15 : decode cX18_all 15 = .ok (.getfield 3, 3) := dk_180 0 3 (dk_at dksX18_all_0 15 rfl rfl)
theorem dX18_all_18 : decode cX18_all 18 = .ok (.getfield 19, 3) := dk_180 0 19 (dk_at dksX18_all_0 18 rfl rfl)
theorem dX18_all_21 : decode cX18_all 21 = .ok (.if_icmp .ge 21, 3) := dk_162 0 21 (dk_at dksX18_all_0 21 rfl rfl)
theorem dX18_all_24 : decode cX18_all 24 = .ok (.aload_n 1, 1) := dk_43 (dk_at dksX18_all_1 0 rfl rfl)
theorem dX18_all_25 : decode cX18_all 25 = .ok (.aload_n 0, 1) := dk_42 (dk_at dksX18_all_1 1 rfl rfl)
theorem dX18_all_26 : decode cX18_all 26 = .ok (.invokevirtual 80, 3) := dk_182 0 80 (dk_at dksX18_all_1 2 rfl rfl)
theorem dX18_all_29 : decode cX18_all 29 = .ok (.invokevirtual 84, 3) := dk_182 0 84 (dk_at dksX18_all_1 5 rfl rfl)
theorem dX18_all_32 : decode cX18_all 32 = .ok (.pop, 1) := dk_87 (dk_at dksX18_all_1 8 rfl rfl)
theorem dX18_all_33 : decode cX18_all 33 = .ok (.aload_n 0, 1) := dk_42 (dk_at dksX18_all_1 9 rfl rfl)
theorem dX18_all_34 : decode cX18_all 34 = .ok (.bipush 59, 2) := dk_16 59 (dk_at dksX18_all_1 10 rfl rfl)
theorem dX18_all_36 : decode cX18_all 36 = .ok (.invokevirtual 66, 3) := dk_182 0 66 (dk_at dksX18_all_1 12 rfl rfl)
theorem dX18_all_39 : decode cX18_all 39 = .ok (.goto (-29), 3) := dk_167 255 227 (dk_at dksX18_all_1 15 rfl rfl)
theorem dX18_all_42 : decode cX18_all 42 = .ok (.aload_n 1, 1) := dk_43 (dk_at dksX18_all_1 18 rfl rfl)
theorem dX18_all_43 : decode cX18_all 43 = .ok (.areturn, 1) := dk_176 (dk_at dksX18_all_1 19 rfl rfl)
abbrev cX18_wanted : ByteArray := prog_22_method_10_code
def yX18_wanted : MethodName := ⟨RX18, "wanted", "()LArbitratedBus$Wanted;"⟩
def dkwX18_wanted_2 : List UInt8 := [4, 42, 7, 182, 0, 63, 3, 183, 0, 60, 176, 42, 27, 28, 182, 0, 73, 176]
abbrev dktX18_wanted_2 : List UInt8 := dkwX18_wanted_2 ++ []
def dkwX18_wanted_1 : List UInt8 := [182, 0, 31, 16, 82, 160, 0, 30, 42, 89, 180, 0, 15, 4, 96, 181, 0, 15, 187, 0, 58, 89, 27, 28]
abbrev dktX18_wanted_1 : List UInt8 := dkwX18_wanted_1 ++ dktX18_wanted_2
def dkwX18_wanted_0 : List UInt8 := [42, 6, 182, 0, 63, 60, 42, 16, 58, 182, 0, 66, 42, 182, 0, 70, 61, 42, 16, 35, 182, 0, 66, 42]
abbrev dktX18_wanted_0 : List UInt8 := dkwX18_wanted_0 ++ dktX18_wanted_1
theorem dksX18_wanted_0 : cX18_wanted.data.toList.drop 0 = dktX18_wanted_0 := by decide +kernel
theorem dksX18_wanted_1 : cX18_wanted.data.toList.drop 24 = dktX18_wanted_1 := dk_seg dksX18_wanted_0 24 rfl rfl
theorem dksX18_wanted_2 : cX18_wanted.data.toList.drop 48 = dktX18_wanted_2 := dk_seg dksX18_wanted_1 24 rfl rfl
theorem dX18_wanted_0 : decode cX18_wanted 0 = .ok (.aload_n 0, 1) := dk_42 (dk_at dksX18_wanted_0 0 rfl rfl)
theorem dX18_wanted_1 : decode cX18_wanted 1 = .ok (.iconst 3, 1) := dk_6 (dk_at dksX18_wanted_0 1 rfl rfl)
theorem dX18_wanted_2 : decode cX18_wanted 2 = .ok (.invokevirtual 63, 3) := dk_182 0 63 (dk_at dksX18_wanted_0 2 rfl rfl)
theorem dX18_wanted_5 : decode cX18_wanted 5 = .ok (.istore_n 1, 1) := dk_60 (dk_at dksX18_wanted_0 5 rfl rfl)
theorem dX18_wanted_6 : decode cX18_wanted 6 = .ok (.aload_n 0, 1) := dk_42 (dk_at dksX18_wanted_0 6 rfl rfl)
theorem dX18_wanted_7 : decode cX18_wanted 7 = .ok (.bipush 58, 2) := dk_16 58 (dk_at dksX18_wanted_0 7 rfl rfl)
theorem dX18_wanted_9 : decode cX18_wanted 9 = .ok (.invokevirtual 66, 3) := dk_182 0 66 (dk_at dksX18_wanted_0 9 rfl rfl)
theorem dX18_wanted_12 : decode cX18_wanted 12 = .ok (.aload_n 0, 1) := dk_42 (dk_at dksX18_wanted_0 12 rfl rfl)
theorem dX18_wanted_13 : decode cX18_wanted 13 = .ok (.invokevirtual 70, 3) := dk_182 0 70 (dk_at dksX18_wanted_0 13 rfl rfl)
theorem dX18_wanted_16 : decode cX18_wanted 16 = .ok (.istore_n 2, 1) := dk_61 (dk_at dksX18_wanted_0 16 rfl rfl)
theorem dX18_wanted_17 : decode cX18_wanted 17 = .ok (.aload_n 0, 1) := dk_42 (dk_at dksX18_wanted_0 17 rfl rfl)
theorem dX18_wanted_18 : decode cX18_wanted 18 = .ok (.bipush 35, 2) := dk_16 35 (dk_at dksX18_wanted_0 18 rfl rfl)
theorem dX18_wanted_20 : decode cX18_wanted 20 = .ok (.invokevirtual 66, 3) := dk_182 0 66 (dk_at dksX18_wanted_0 20 rfl rfl)
theorem dX18_wanted_23 : decode cX18_wanted 23 = .ok (.aload_n 0, 1) := dk_42 (dk_at dksX18_wanted_0 23 rfl rfl)
theorem dX18_wanted_24 : decode cX18_wanted 24 = .ok (.invokevirtual 31, 3) := dk_182 0 31 (dk_at dksX18_wanted_1 0 rfl rfl)
theorem dX18_wanted_27 : decode cX18_wanted 27 = .ok (.bipush 82, 2) := dk_16 82 (dk_at dksX18_wanted_1 3 rfl rfl)
theorem dX18_wanted_29 : decode cX18_wanted 29 = .ok (.if_icmp .ne 30, 3) := dk_160 0 30 (dk_at dksX18_wanted_1 5 rfl rfl)
theorem dX18_wanted_32 : decode cX18_wanted 32 = .ok (.aload_n 0, 1) := dk_42 (dk_at dksX18_wanted_1 8 rfl rfl)
theorem dX18_wanted_33 : decode cX18_wanted 33 = .ok (.dup, 1) := dk_89 (dk_at dksX18_wanted_1 9 rfl rfl)
theorem dX18_wanted_34 : decode cX18_wanted 34 = .ok (.getfield 15, 3) := dk_180 0 15 (dk_at dksX18_wanted_1 10 rfl rfl)
theorem dX18_wanted_37 : decode cX18_wanted 37 = .ok (.iconst 1, 1) := dk_4 (dk_at dksX18_wanted_1 13 rfl rfl)
theorem dX18_wanted_38 : decode cX18_wanted 38 = .ok (.iadd, 1) := dk_96 (dk_at dksX18_wanted_1 14 rfl rfl)
theorem dX18_wanted_39 : decode cX18_wanted 39 = .ok (.putfield 15, 3) := dk_181 0 15 (dk_at dksX18_wanted_1 15 rfl rfl)
theorem dX18_wanted_42 : decode cX18_wanted 42 = .ok (.new 58, 3) := dk_187 0 58 (dk_at dksX18_wanted_1 18 rfl rfl)
theorem dX18_wanted_45 : decode cX18_wanted 45 = .ok (.dup, 1) := dk_89 (dk_at dksX18_wanted_1 21 rfl rfl)
theorem dX18_wanted_46 : decode cX18_wanted 46 = .ok (.iload_n 1, 1) := dk_27 (dk_at dksX18_wanted_1 22 rfl rfl)
theorem dX18_wanted_47 : decode cX18_wanted 47 = .ok (.iload_n 2, 1) := dk_28 (dk_at dksX18_wanted_1 23 rfl rfl)
theorem dX18_wanted_48 : decode cX18_wanted 48 = .ok (.iconst 1, 1) := dk_4 (dk_at dksX18_wanted_2 0 rfl rfl)
theorem dX18_wanted_49 : decode cX18_wanted 49 = .ok (.aload_n 0, 1) := dk_42 (dk_at dksX18_wanted_2 1 rfl rfl)
theorem dX18_wanted_50 : decode cX18_wanted 50 = .ok (.iconst 4, 1) := dk_7 (dk_at dksX18_wanted_2 2 rfl rfl)
theorem dX18_wanted_51 : decode cX18_wanted 51 = .ok (.invokevirtual 63, 3) := dk_182 0 63 (dk_at dksX18_wanted_2 3 rfl rfl)
theorem dX18_wanted_54 : decode cX18_wanted 54 = .ok (.iconst 0, 1) := dk_3 (dk_at dksX18_wanted_2 6 rfl rfl)
theorem dX18_wanted_55 : decode cX18_wanted 55 = .ok (.invokespecial 60, 3) := dk_183 0 60 (dk_at dksX18_wanted_2 7 rfl rfl)
theorem dX18_wanted_58 : decode cX18_wanted 58 = .ok (.areturn, 1) := dk_176 (dk_at dksX18_wanted_2 10 rfl rfl)
theorem dX18_wanted_59 : decode cX18_wanted 59 = .ok (.aload_n 0, 1) := dk_42 (dk_at dksX18_wanted_2 11 rfl rfl)
theorem dX18_wanted_60 : decode cX18_wanted 60 = .ok (.iload_n 1, 1) := dk_27 (dk_at dksX18_wanted_2 12 rfl rfl)
theorem dX18_wanted_61 : decode cX18_wanted 61 = .ok (.iload_n 2, 1) := dk_28 (dk_at dksX18_wanted_2 13 rfl rfl)
theorem dX18_wanted_62 : decode cX18_wanted 62 = .ok (.invokevirtual 73, 3) := dk_182 0 73 (dk_at dksX18_wanted_2 14 rfl rfl)
theorem dX18_wanted_65 : decode cX18_wanted 65 = .ok (.areturn, 1) := dk_176 (dk_at dksX18_wanted_2 17 rfl rfl)
abbrev cX18_digit : ByteArray := prog_22_method_5_code
def yX18_digit : MethodName := ⟨RX18, "digit", "(I)I"⟩
def dkwX18_digit_2 : List UInt8 := [100, 172]
abbrev dktX18_digit_2 : List UInt8 := dkwX18_digit_2 ++ []
def dkwX18_digit_1 : List UInt8 := [180, 0, 15, 4, 96, 181, 0, 15, 42, 180, 0, 3, 180, 0, 22, 42, 180, 0, 15, 4, 100, 51, 16, 48]
abbrev dktX18_digit_1 : List UInt8 := dkwX18_digit_1 ++ dktX18_digit_2
def dkwX18_digit_0 : List UInt8 := [42, 42, 182, 0, 31, 133, 20, 0, 39, 16, 48, 27, 96, 133, 184, 0, 41, 182, 0, 35, 42, 89]
abbrev dktX18_digit_0 : List UInt8 := dkwX18_digit_0 ++ dktX18_digit_1
theorem dksX18_digit_0 : cX18_digit.data.toList.drop 0 = dktX18_digit_0 := by decide +kernel
theorem dksX18_digit_1 : cX18_digit.data.toList.drop 22 = dktX18_digit_1 := dk_seg dksX18_digit_0 22 rfl rfl
theorem dksX18_digit_2 : cX18_digit.data.toList.drop 46 = dktX18_digit_2 := dk_seg dksX18_digit_1 24 rfl rfl
theorem dX18_digit_0 : decode cX18_digit 0 = .ok (.aload_n 0, 1) := dk_42 (dk_at dksX18_digit_0 0 rfl rfl)
theorem dX18_digit_1 : decode cX18_digit 1 = .ok (.aload_n 0, 1) := dk_42 (dk_at dksX18_digit_0 1 rfl rfl)
theorem dX18_digit_2 : decode cX18_digit 2 = .ok (.invokevirtual 31, 3) := dk_182 0 31 (dk_at dksX18_digit_0 2 rfl rfl)
theorem dX18_digit_5 : decode cX18_digit 5 = .ok (.i2l, 1) := dk_133 (dk_at dksX18_digit_0 5 rfl rfl)
theorem dX18_digit_6 : decode cX18_digit 6 = .ok (.ldc2_w 39, 3) := dk_20 0 39 (dk_at dksX18_digit_0 6 rfl rfl)
theorem dX18_digit_9 : decode cX18_digit 9 = .ok (.bipush 48, 2) := dk_16 48 (dk_at dksX18_digit_0 9 rfl rfl)
theorem dX18_digit_11 : decode cX18_digit 11 = .ok (.iload_n 1, 1) := dk_27 (dk_at dksX18_digit_0 11 rfl rfl)
theorem dX18_digit_12 : decode cX18_digit 12 = .ok (.iadd, 1) := dk_96 (dk_at dksX18_digit_0 12 rfl rfl)
theorem dX18_digit_13 : decode cX18_digit 13 = .ok (.i2l, 1) := dk_133 (dk_at dksX18_digit_0 13 rfl rfl)
theorem dX18_digit_14 : decode cX18_digit 14 = .ok (.invokestatic 41, 3) := dk_184 0 41 (dk_at dksX18_digit_0 14 rfl rfl)
theorem dX18_digit_17 : decode cX18_digit 17 = .ok (.invokevirtual 35, 3) := dk_182 0 35 (dk_at dksX18_digit_0 17 rfl rfl)
theorem dX18_digit_20 : decode cX18_digit 20 = .ok (.aload_n 0, 1) := dk_42 (dk_at dksX18_digit_0 20 rfl rfl)
theorem dX18_digit_21 : decode cX18_digit 21 = .ok (.dup, 1) := dk_89 (dk_at dksX18_digit_0 21 rfl rfl)
theorem dX18_digit_22 : decode cX18_digit 22 = .ok (.getfield 15, 3) := dk_180 0 15 (dk_at dksX18_digit_1 0 rfl rfl)
theorem dX18_digit_25 : decode cX18_digit 25 = .ok (.iconst 1, 1) := dk_4 (dk_at dksX18_digit_1 3 rfl rfl)
theorem dX18_digit_26 : decode cX18_digit 26 = .ok (.iadd, 1) := dk_96 (dk_at dksX18_digit_1 4 rfl rfl)
theorem dX18_digit_27 : decode cX18_digit 27 = .ok (.putfield 15, 3) := dk_181 0 15 (dk_at dksX18_digit_1 5 rfl rfl)
theorem dX18_digit_30 : decode cX18_digit 30 = .ok (.aload_n 0, 1) := dk_42 (dk_at dksX18_digit_1 8 rfl rfl)
theorem dX18_digit_31 : decode cX18_digit 31 = .ok (.getfield 3, 3) := dk_180 0 3 (dk_at dksX18_digit_1 9 rfl rfl)
theorem dX18_digit_34 : decode cX18_digit 34 = .ok (.getfield 22, 3) := dk_180 0 22 (dk_at dksX18_digit_1 12 rfl rfl)
theorem dX18_digit_37 : decode cX18_digit 37 = .ok (.aload_n 0, 1) := dk_42 (dk_at dksX18_digit_1 15 rfl rfl)
theorem dX18_digit_38 : decode cX18_digit 38 = .ok (.getfield 15, 3) := dk_180 0 15 (dk_at dksX18_digit_1 16 rfl rfl)
theorem dX18_digit_41 : decode cX18_digit 41 = .ok (.iconst 1, 1) := dk_4 (dk_at dksX18_digit_1 19 rfl rfl)
theorem dX18_digit_42 : decode cX18_digit 42 = .ok (.isub, 1) := dk_100 (dk_at dksX18_digit_1 20 rfl rfl)
theorem dX18_digit_43 : decode cX18_digit 43 = .ok (.baload, 1) := dk_51 (dk_at dksX18_digit_1 21 rfl rfl)
theorem dX18_digit_44 : decode cX18_digit 44 = .ok (.bipush 48, 2) := dk_16 48 (dk_at dksX18_digit_1 22 rfl rfl)
theorem dX18_digit_46 : decode cX18_digit 46 = .ok (.isub, 1) := dk_100 (dk_at dksX18_digit_2 0 rfl rfl)
theorem dX18_digit_47 : decode cX18_digit 47 = .ok (.ireturn, 1) := dk_172 (dk_at dksX18_digit_2 1 rfl rfl)
abbrev cX18_here : ByteArray := prog_22_method_2_code
def yX18_here : MethodName := ⟨RX18, "here", "()I"⟩
def dkwX18_here_1 : List UInt8 := [180, 0, 15, 51, 167, 0, 4, 2, 172]
abbrev dktX18_here_1 : List UInt8 := dkwX18_here_1 ++ []
def dkwX18_here_0 : List UInt8 := [42, 180, 0, 15, 42, 180, 0, 3, 180, 0, 19, 162, 0, 18, 42, 180, 0, 3, 180, 0, 22, 42]
abbrev dktX18_here_0 : List UInt8 := dkwX18_here_0 ++ dktX18_here_1
theorem dksX18_here_0 : cX18_here.data.toList.drop 0 = dktX18_here_0 := by decide +kernel
theorem dksX18_here_1 : cX18_here.data.toList.drop 22 = dktX18_here_1 := dk_seg dksX18_here_0 22 rfl rfl
theorem dX18_here_0 : decode cX18_here 0 = .ok (.aload_n 0, 1) := dk_42 (dk_at dksX18_here_0 0 rfl rfl)
theorem dX18_here_1 : decode cX18_here 1 = .ok (.getfield 15, 3) := dk_180 0 15 (dk_at dksX18_here_0 1 rfl rfl)
theorem dX18_here_4 : decode cX18_here 4 = .ok (.aload_n 0, 1) := dk_42 (dk_at dksX18_here_0 4 rfl rfl)
theorem dX18_here_5 : decode cX18_here 5 = .ok (.getfield 3, 3) := dk_180 0 3 (dk_at dksX18_here_0 5 rfl rfl)
theorem dX18_here_8 : decode cX18_here 8 = .ok (.getfield 19, 3) := dk_180 0 19 (dk_at dksX18_here_0 8 rfl rfl)
theorem dX18_here_11 : decode cX18_here 11 = .ok (.if_icmp .ge 18, 3) := dk_162 0 18 (dk_at dksX18_here_0 11 rfl rfl)
theorem dX18_here_14 : decode cX18_here 14 = .ok (.aload_n 0, 1) := dk_42 (dk_at dksX18_here_0 14 rfl rfl)
theorem dX18_here_15 : decode cX18_here 15 = .ok (.getfield 3, 3) := dk_180 0 3 (dk_at dksX18_here_0 15 rfl rfl)
theorem dX18_here_18 : decode cX18_here 18 = .ok (.getfield 22, 3) := dk_180 0 22 (dk_at dksX18_here_0 18 rfl rfl)
theorem dX18_here_21 : decode cX18_here 21 = .ok (.aload_n 0, 1) := dk_42 (dk_at dksX18_here_0 21 rfl rfl)
theorem dX18_here_22 : decode cX18_here 22 = .ok (.getfield 15, 3) := dk_180 0 15 (dk_at dksX18_here_1 0 rfl rfl)
theorem dX18_here_25 : decode cX18_here 25 = .ok (.baload, 1) := dk_51 (dk_at dksX18_here_1 3 rfl rfl)
theorem dX18_here_26 : decode cX18_here 26 = .ok (.goto 4, 3) := dk_167 0 4 (dk_at dksX18_here_1 4 rfl rfl)
theorem dX18_here_29 : decode cX18_here 29 = .ok (.iconst (-1), 1) := dk_2 (dk_at dksX18_here_1 7 rfl rfl)
theorem dX18_here_30 : decode cX18_here 30 = .ok (.ireturn, 1) := dk_172 (dk_at dksX18_here_1 8 rfl rfl)
abbrev cX18_expect : ByteArray := prog_22_method_3_code
def yX18_expect : MethodName := ⟨RX18, "expect", "(Z)V"⟩
def dkwX18_expect_0 : List UInt8 := [27, 154, 0, 15, 187, 0, 26, 89, 42, 180, 0, 15, 183, 0, 28, 191, 177]
abbrev dktX18_expect_0 : List UInt8 := dkwX18_expect_0 ++ []
theorem dksX18_expect_0 : cX18_expect.data.toList.drop 0 = dktX18_expect_0 := by decide +kernel
theorem dX18_expect_0 : decode cX18_expect 0 = .ok (.iload_n 1, 1) := dk_27 (dk_at dksX18_expect_0 0 rfl rfl)
theorem dX18_expect_1 : decode cX18_expect 1 = .ok (.ifCond .ne 15, 3) := dk_154 0 15 (dk_at dksX18_expect_0 1 rfl rfl)
theorem dX18_expect_4 : decode cX18_expect 4 = .ok (.new 26, 3) := dk_187 0 26 (dk_at dksX18_expect_0 4 rfl rfl)
theorem dX18_expect_7 : decode cX18_expect 7 = .ok (.dup, 1) := dk_89 (dk_at dksX18_expect_0 7 rfl rfl)
theorem dX18_expect_8 : decode cX18_expect 8 = .ok (.aload_n 0, 1) := dk_42 (dk_at dksX18_expect_0 8 rfl rfl)
theorem dX18_expect_9 : decode cX18_expect 9 = .ok (.getfield 15, 3) := dk_180 0 15 (dk_at dksX18_expect_0 9 rfl rfl)
theorem dX18_expect_12 : decode cX18_expect 12 = .ok (.invokespecial 28, 3) := dk_183 0 28 (dk_at dksX18_expect_0 12 rfl rfl)
theorem dX18_expect_15 : decode cX18_expect 15 = .ok (.athrow, 1) := dk_191 (dk_at dksX18_expect_0 15 rfl rfl)
theorem dX18_expect_16 : decode cX18_expect 16 = .ok (.return_, 1) := dk_177 (dk_at dksX18_expect_0 16 rfl rfl)
abbrev cX18_sign : ByteArray := prog_22_method_4_code
def yX18_sign : MethodName := ⟨RX18, "sign", "(C)V"⟩
def dkwX18_sign_1 : List UInt8 := [181, 0, 15, 177]
abbrev dktX18_sign_1 : List UInt8 := dkwX18_sign_1 ++ []
def dkwX18_sign_0 : List UInt8 := [42, 42, 182, 0, 31, 27, 160, 0, 7, 4, 167, 0, 4, 3, 182, 0, 35, 42, 89, 180, 0, 15, 4, 96]
abbrev dktX18_sign_0 : List UInt8 := dkwX18_sign_0 ++ dktX18_sign_1
theorem dksX18_sign_0 : cX18_sign.data.toList.drop 0 = dktX18_sign_0 := by decide +kernel
theorem dksX18_sign_1 : cX18_sign.data.toList.drop 24 = dktX18_sign_1 := dk_seg dksX18_sign_0 24 rfl rfl
theorem dX18_sign_0 : decode cX18_sign 0 = .ok (.aload_n 0, 1) := dk_42 (dk_at dksX18_sign_0 0 rfl rfl)
theorem dX18_sign_1 : decode cX18_sign 1 = .ok (.aload_n 0, 1) := dk_42 (dk_at dksX18_sign_0 1 rfl rfl)
theorem dX18_sign_2 : decode cX18_sign 2 = .ok (.invokevirtual 31, 3) := dk_182 0 31 (dk_at dksX18_sign_0 2 rfl rfl)
theorem dX18_sign_5 : decode cX18_sign 5 = .ok (.iload_n 1, 1) := dk_27 (dk_at dksX18_sign_0 5 rfl rfl)
theorem dX18_sign_6 : decode cX18_sign 6 = .ok (.if_icmp .ne 7, 3) := dk_160 0 7 (dk_at dksX18_sign_0 6 rfl rfl)
theorem dX18_sign_9 : decode cX18_sign 9 = .ok (.iconst 1, 1) := dk_4 (dk_at dksX18_sign_0 9 rfl rfl)
theorem dX18_sign_10 : decode cX18_sign 10 = .ok (.goto 4, 3) := dk_167 0 4 (dk_at dksX18_sign_0 10 rfl rfl)
theorem dX18_sign_13 : decode cX18_sign 13 = .ok (.iconst 0, 1) := dk_3 (dk_at dksX18_sign_0 13 rfl rfl)
theorem dX18_sign_14 : decode cX18_sign 14 = .ok (.invokevirtual 35, 3) := dk_182 0 35 (dk_at dksX18_sign_0 14 rfl rfl)
theorem dX18_sign_17 : decode cX18_sign 17 = .ok (.aload_n 0, 1) := dk_42 (dk_at dksX18_sign_0 17 rfl rfl)
theorem dX18_sign_18 : decode cX18_sign 18 = .ok (.dup, 1) := dk_89 (dk_at dksX18_sign_0 18 rfl rfl)
theorem dX18_sign_19 : decode cX18_sign 19 = .ok (.getfield 15, 3) := dk_180 0 15 (dk_at dksX18_sign_0 19 rfl rfl)
theorem dX18_sign_22 : decode cX18_sign 22 = .ok (.iconst 1, 1) := dk_4 (dk_at dksX18_sign_0 22 rfl rfl)
theorem dX18_sign_23 : decode cX18_sign 23 = .ok (.iadd, 1) := dk_96 (dk_at dksX18_sign_0 23 rfl rfl)
theorem dX18_sign_24 : decode cX18_sign 24 = .ok (.putfield 15, 3) := dk_181 0 15 (dk_at dksX18_sign_1 0 rfl rfl)
theorem dX18_sign_27 : decode cX18_sign 27 = .ok (.return_, 1) := dk_177 (dk_at dksX18_sign_1 3 rfl rfl)
abbrev cX18_identifier : ByteArray := prog_22_method_8_code
def yX18_identifier : MethodName := ⟨RX18, "identifier", "()I"⟩
def dkwX18_identifier_1 : List UInt8 := [16, 15, 182, 0, 54, 96, 172]
abbrev dktX18_identifier_1 : List UInt8 := dkwX18_identifier_1 ++ []
def dkwX18_identifier_0 : List UInt8 := [42, 16, 7, 182, 0, 54, 60, 16, 16, 27, 104, 42, 16, 15, 182, 0, 54, 96, 60, 16, 16, 27, 104, 42]
abbrev dktX18_identifier_0 : List UInt8 := dkwX18_identifier_0 ++ dktX18_identifier_1
theorem dksX18_identifier_0 : cX18_identifier.data.toList.drop 0 = dktX18_identifier_0 := by decide +kernel
theorem dksX18_identifier_1 : cX18_identifier.data.toList.drop 24 = dktX18_identifier_1 := dk_seg dksX18_identifier_0 24 rfl rfl
theorem dX18_identifier_0 : decode cX18_identifier 0 = .ok (.aload_n 0, 1) := dk_42 (dk_at dksX18_identifier_0 0 rfl rfl)
theorem dX18_identifier_1 : decode cX18_identifier 1 = .ok (.bipush 7, 2) := dk_16 7 (dk_at dksX18_identifier_0 1 rfl rfl)
theorem dX18_identifier_3 : decode cX18_identifier 3 = .ok (.invokevirtual 54, 3) := dk_182 0 54 (dk_at dksX18_identifier_0 3 rfl rfl)
theorem dX18_identifier_6 : decode cX18_identifier 6 = .ok (.istore_n 1, 1) := dk_60 (dk_at dksX18_identifier_0 6 rfl rfl)
theorem dX18_identifier_7 : decode cX18_identifier 7 = .ok (.bipush 16, 2) := dk_16 16 (dk_at dksX18_identifier_0 7 rfl rfl)
theorem dX18_identifier_9 : decode cX18_identifier 9 = .ok (.iload_n 1, 1) := dk_27 (dk_at dksX18_identifier_0 9 rfl rfl)
theorem dX18_identifier_10 : decode cX18_identifier 10 = .ok (.imul, 1) := dk_104 (dk_at dksX18_identifier_0 10 rfl rfl)
theorem dX18_identifier_11 : decode cX18_identifier 11 = .ok (.aload_n 0, 1) := dk_42 (dk_at dksX18_identifier_0 11 rfl rfl)
theorem dX18_identifier_12 : decode cX18_identifier 12 = .ok (.bipush 15, 2) := dk_16 15 (dk_at dksX18_identifier_0 12 rfl rfl)
theorem dX18_identifier_14 : decode cX18_identifier 14 = .ok (.invokevirtual 54, 3) := dk_182 0 54 (dk_at dksX18_identifier_0 14 rfl rfl)
theorem dX18_identifier_17 : decode cX18_identifier 17 = .ok (.iadd, 1) := dk_96 (dk_at dksX18_identifier_0 17 rfl rfl)
theorem dX18_identifier_18 : decode cX18_identifier 18 = .ok (.istore_n 1, 1) := dk_60 (dk_at dksX18_identifier_0 18 rfl rfl)
theorem dX18_identifier_19 : decode cX18_identifier 19 = .ok (.bipush 16, 2) := dk_16 16 (dk_at dksX18_identifier_0 19 rfl rfl)
theorem dX18_identifier_21 : decode cX18_identifier 21 = .ok (.iload_n 1, 1) := dk_27 (dk_at dksX18_identifier_0 21 rfl rfl)
theorem dX18_identifier_22 : decode cX18_identifier 22 = .ok (.imul, 1) := dk_104 (dk_at dksX18_identifier_0 22 rfl rfl)
theorem dX18_identifier_23 : decode cX18_identifier 23 = .ok (.aload_n 0, 1) := dk_42 (dk_at dksX18_identifier_0 23 rfl rfl)
theorem dX18_identifier_24 : decode cX18_identifier 24 = .ok (.bipush 15, 2) := dk_16 15 (dk_at dksX18_identifier_1 0 rfl rfl)
theorem dX18_identifier_26 : decode cX18_identifier 26 = .ok (.invokevirtual 54, 3) := dk_182 0 54 (dk_at dksX18_identifier_1 2 rfl rfl)
theorem dX18_identifier_29 : decode cX18_identifier 29 = .ok (.iadd, 1) := dk_96 (dk_at dksX18_identifier_1 5 rfl rfl)
theorem dX18_identifier_30 : decode cX18_identifier 30 = .ok (.ireturn, 1) := dk_172 (dk_at dksX18_identifier_1 6 rfl rfl)
abbrev cX18_takeHex : ByteArray := prog_22_method_7_code
def yX18_takeHex : MethodName := ⟨RX18, "takeHex", "(I)I"⟩
def dkwX18_takeHex_1 : List UInt8 := [181, 0, 15, 28, 172]
abbrev dktX18_takeHex_1 : List UInt8 := dkwX18_takeHex_1 ++ []
def dkwX18_takeHex_0 : List UInt8 := [42, 182, 0, 51, 61, 42, 28, 133, 9, 27, 133, 184, 0, 41, 182, 0, 35, 42, 89, 180, 0, 15, 4, 96]
abbrev dktX18_takeHex_0 : List UInt8 := dkwX18_takeHex_0 ++ dktX18_takeHex_1
theorem dksX18_takeHex_0 : cX18_takeHex.data.toList.drop 0 = dktX18_takeHex_0 := by decide +kernel
theorem dksX18_takeHex_1 : cX18_takeHex.data.toList.drop 24 = dktX18_takeHex_1 := dk_seg dksX18_takeHex_0 24 rfl rfl
theorem dX18_takeHex_0 : decode cX18_takeHex 0 = .ok (.aload_n 0, 1) := dk_42 (dk_at dksX18_takeHex_0 0 rfl rfl)
theorem dX18_takeHex_1 : decode cX18_takeHex 1 = .ok (.invokevirtual 51, 3) := dk_182 0 51 (dk_at dksX18_takeHex_0 1 rfl rfl)
theorem dX18_takeHex_4 : decode cX18_takeHex 4 = .ok (.istore_n 2, 1) := dk_61 (dk_at dksX18_takeHex_0 4 rfl rfl)
theorem dX18_takeHex_5 : decode cX18_takeHex 5 = .ok (.aload_n 0, 1) := dk_42 (dk_at dksX18_takeHex_0 5 rfl rfl)
theorem dX18_takeHex_6 : decode cX18_takeHex 6 = .ok (.iload_n 2, 1) := dk_28 (dk_at dksX18_takeHex_0 6 rfl rfl)
theorem dX18_takeHex_7 : decode cX18_takeHex 7 = .ok (.i2l, 1) := dk_133 (dk_at dksX18_takeHex_0 7 rfl rfl)
theorem dX18_takeHex_8 : decode cX18_takeHex 8 = .ok (.lconst 0, 1) := dk_9 (dk_at dksX18_takeHex_0 8 rfl rfl)
theorem dX18_takeHex_9 : decode cX18_takeHex 9 = .ok (.iload_n 1, 1) := dk_27 (dk_at dksX18_takeHex_0 9 rfl rfl)
theorem dX18_takeHex_10 : decode cX18_takeHex 10 = .ok (.i2l, 1) := dk_133 (dk_at dksX18_takeHex_0 10 rfl rfl)
theorem dX18_takeHex_11 : decode cX18_takeHex 11 = .ok (.invokestatic 41, 3) := dk_184 0 41 (dk_at dksX18_takeHex_0 11 rfl rfl)
theorem dX18_takeHex_14 : decode cX18_takeHex 14 = .ok (.invokevirtual 35, 3) := dk_182 0 35 (dk_at dksX18_takeHex_0 14 rfl rfl)
theorem dX18_takeHex_17 : decode cX18_takeHex 17 = .ok (.aload_n 0, 1) := dk_42 (dk_at dksX18_takeHex_0 17 rfl rfl)
theorem dX18_takeHex_18 : decode cX18_takeHex 18 = .ok (.dup, 1) := dk_89 (dk_at dksX18_takeHex_0 18 rfl rfl)
theorem dX18_takeHex_19 : decode cX18_takeHex 19 = .ok (.getfield 15, 3) := dk_180 0 15 (dk_at dksX18_takeHex_0 19 rfl rfl)
theorem dX18_takeHex_22 : decode cX18_takeHex 22 = .ok (.iconst 1, 1) := dk_4 (dk_at dksX18_takeHex_0 22 rfl rfl)
theorem dX18_takeHex_23 : decode cX18_takeHex 23 = .ok (.iadd, 1) := dk_96 (dk_at dksX18_takeHex_0 23 rfl rfl)
theorem dX18_takeHex_24 : decode cX18_takeHex 24 = .ok (.putfield 15, 3) := dk_181 0 15 (dk_at dksX18_takeHex_1 0 rfl rfl)
theorem dX18_takeHex_27 : decode cX18_takeHex 27 = .ok (.iload_n 2, 1) := dk_28 (dk_at dksX18_takeHex_1 3 rfl rfl)
theorem dX18_takeHex_28 : decode cX18_takeHex 28 = .ok (.ireturn, 1) := dk_172 (dk_at dksX18_takeHex_1 4 rfl rfl)
abbrev cX18_hex : ByteArray := prog_22_method_6_code
def yX18_hex : MethodName := ⟨RX18, "hex", "()I"⟩
def dkwX18_hex_2 : List UInt8 := [167, 0, 4, 2, 172]
abbrev dktX18_hex_2 : List UInt8 := dkwX18_hex_2 ++ []
def dkwX18_hex_1 : List UInt8 := [167, 0, 28, 27, 133, 20, 0, 47, 20, 0, 49, 184, 0, 41, 153, 0, 13, 27, 16, 97, 100, 16, 10, 96]
abbrev dktX18_hex_1 : List UInt8 := dkwX18_hex_1 ++ dktX18_hex_2
def dkwX18_hex_0 : List UInt8 := [42, 182, 0, 31, 60, 27, 133, 20, 0, 39, 20, 0, 45, 184, 0, 41, 153, 0, 10, 27, 16, 48, 100]
abbrev dktX18_hex_0 : List UInt8 := dkwX18_hex_0 ++ dktX18_hex_1
theorem dksX18_hex_0 : cX18_hex.data.toList.drop 0 = dktX18_hex_0 := by decide +kernel
theorem dksX18_hex_1 : cX18_hex.data.toList.drop 23 = dktX18_hex_1 := dk_seg dksX18_hex_0 23 rfl rfl
theorem dksX18_hex_2 : cX18_hex.data.toList.drop 47 = dktX18_hex_2 := dk_seg dksX18_hex_1 24 rfl rfl
theorem dX18_hex_0 : decode cX18_hex 0 = .ok (.aload_n 0, 1) := dk_42 (dk_at dksX18_hex_0 0 rfl rfl)
theorem dX18_hex_1 : decode cX18_hex 1 = .ok (.invokevirtual 31, 3) := dk_182 0 31 (dk_at dksX18_hex_0 1 rfl rfl)
theorem dX18_hex_4 : decode cX18_hex 4 = .ok (.istore_n 1, 1) := dk_60 (dk_at dksX18_hex_0 4 rfl rfl)
theorem dX18_hex_5 : decode cX18_hex 5 = .ok (.iload_n 1, 1) := dk_27 (dk_at dksX18_hex_0 5 rfl rfl)
theorem dX18_hex_6 : decode cX18_hex 6 = .ok (.i2l, 1) := dk_133 (dk_at dksX18_hex_0 6 rfl rfl)
theorem dX18_hex_7 : decode cX18_hex 7 = .ok (.ldc2_w 39, 3) := dk_20 0 39 (dk_at dksX18_hex_0 7 rfl rfl)
theorem dX18_hex_10 : decode cX18_hex 10 = .ok (.ldc2_w 45, 3) := dk_20 0 45 (dk_at dksX18_hex_0 10 rfl rfl)
theorem dX18_hex_13 : decode cX18_hex 13 = .ok (.invokestatic 41, 3) := dk_184 0 41 (dk_at dksX18_hex_0 13 rfl rfl)
theorem dX18_hex_16 : decode cX18_hex 16 = .ok (.ifCond .eq 10, 3) := dk_153 0 10 (dk_at dksX18_hex_0 16 rfl rfl)
theorem dX18_hex_19 : decode cX18_hex 19 = .ok (.iload_n 1, 1) := dk_27 (dk_at dksX18_hex_0 19 rfl rfl)
theorem dX18_hex_20 : decode cX18_hex 20 = .ok (.bipush 48, 2) := dk_16 48 (dk_at dksX18_hex_0 20 rfl rfl)
theorem dX18_hex_22 : decode cX18_hex 22 = .ok (.isub, 1) := dk_100 (dk_at dksX18_hex_0 22 rfl rfl)
theorem dX18_hex_23 : decode cX18_hex 23 = .ok (.goto 28, 3) := dk_167 0 28 (dk_at dksX18_hex_1 0 rfl rfl)
theorem dX18_hex_26 : decode cX18_hex 26 = .ok (.iload_n 1, 1) := dk_27 (dk_at dksX18_hex_1 3 rfl rfl)
theorem dX18_hex_27 : decode cX18_hex 27 = .ok (.i2l, 1) := dk_133 (dk_at dksX18_hex_1 4 rfl rfl)
theorem dX18_hex_28 : decode cX18_hex 28 = .ok (.ldc2_w 47, 3) := dk_20 0 47 (dk_at dksX18_hex_1 5 rfl rfl)
theorem dX18_hex_31 : decode cX18_hex 31 = .ok (.ldc2_w 49, 3) := dk_20 0 49 (dk_at dksX18_hex_1 8 rfl rfl)
theorem dX18_hex_34 : decode cX18_hex 34 = .ok (.invokestatic 41, 3) := dk_184 0 41 (dk_at dksX18_hex_1 11 rfl rfl)
theorem dX18_hex_37 : decode cX18_hex 37 = .ok (.ifCond .eq 13, 3) := dk_153 0 13 (dk_at dksX18_hex_1 14 rfl rfl)
theorem dX18_hex_40 : decode cX18_hex 40 = .ok (.iload_n 1, 1) := dk_27 (dk_at dksX18_hex_1 17 rfl rfl)
theorem dX18_hex_41 : decode cX18_hex 41 = .ok (.bipush 97, 2) := dk_16 97 (dk_at dksX18_hex_1 18 rfl rfl)
theorem dX18_hex_43 : decode cX18_hex 43 = .ok (.isub, 1) := dk_100 (dk_at dksX18_hex_1 20 rfl rfl)
theorem dX18_hex_44 : decode cX18_hex 44 = .ok (.bipush 10, 2) := dk_16 10 (dk_at dksX18_hex_1 21 rfl rfl)
theorem dX18_hex_46 : decode cX18_hex 46 = .ok (.iadd, 1) := dk_96 (dk_at dksX18_hex_1 23 rfl rfl)
theorem dX18_hex_47 : decode cX18_hex 47 = .ok (.goto 4, 3) := dk_167 0 4 (dk_at dksX18_hex_2 0 rfl rfl)
theorem dX18_hex_50 : decode cX18_hex 50 = .ok (.iconst (-1), 1) := dk_2 (dk_at dksX18_hex_2 3 rfl rfl)
theorem dX18_hex_51 : decode cX18_hex 51 = .ok (.ireturn, 1) := dk_172 (dk_at dksX18_hex_2 4 rfl rfl)
abbrev cX18_data : ByteArray := prog_22_method_9_code
def yX18_data : MethodName := ⟨RX18, "data", "(II)LArbitratedBus$Wanted;"⟩
def dkwX18_data_2 : List UInt8 := [167, 0, 4, 3, 182, 0, 35, 187, 0, 58, 89, 27, 28, 3, 21, 4, 5, 108, 29, 183, 0, 60, 176]
abbrev dktX18_data_2 : List UInt8 := dkwX18_data_2 ++ []
def dkwX18_data_1 : List UInt8 := [16, 15, 182, 0, 54, 128, 62, 132, 4, 1, 167, 255, 228, 42, 21, 4, 5, 112, 154, 0, 7, 4]
abbrev dktX18_data_1 : List UInt8 := dkwX18_data_1 ++ dktX18_data_2
def dkwX18_data_0 : List UInt8 := [3, 62, 3, 54, 4, 42, 182, 0, 51, 155, 0, 27, 21, 4, 16, 8, 162, 0, 20, 29, 7, 120, 42]
abbrev dktX18_data_0 : List UInt8 := dkwX18_data_0 ++ dktX18_data_1
theorem dksX18_data_0 : cX18_data.data.toList.drop 0 = dktX18_data_0 := by decide +kernel
theorem dksX18_data_1 : cX18_data.data.toList.drop 23 = dktX18_data_1 := dk_seg dksX18_data_0 23 rfl rfl
theorem dksX18_data_2 : cX18_data.data.toList.drop 45 = dktX18_data_2 := dk_seg dksX18_data_1 22 rfl rfl
theorem dX18_data_0 : decode cX18_data 0 = .ok (.iconst 0, 1) := dk_3 (dk_at dksX18_data_0 0 rfl rfl)
theorem dX18_data_1 : decode cX18_data 1 = .ok (.istore_n 3, 1) := dk_62 (dk_at dksX18_data_0 1 rfl rfl)
theorem dX18_data_2 : decode cX18_data 2 = .ok (.iconst 0, 1) := dk_3 (dk_at dksX18_data_0 2 rfl rfl)
theorem dX18_data_3 : decode cX18_data 3 = .ok (.istore 4, 2) := dk_54 4 (dk_at dksX18_data_0 3 rfl rfl)
theorem dX18_data_5 : decode cX18_data 5 = .ok (.aload_n 0, 1) := dk_42 (dk_at dksX18_data_0 5 rfl rfl)
theorem dX18_data_6 : decode cX18_data 6 = .ok (.invokevirtual 51, 3) := dk_182 0 51 (dk_at dksX18_data_0 6 rfl rfl)
theorem dX18_data_9 : decode cX18_data 9 = .ok (.ifCond .lt 27, 3) := dk_155 0 27 (dk_at dksX18_data_0 9 rfl rfl)
theorem dX18_data_12 : decode cX18_data 12 = .ok (.iload 4, 2) := dk_21 4 (dk_at dksX18_data_0 12 rfl rfl)
theorem dX18_data_14 : decode cX18_data 14 = .ok (.bipush 8, 2) := dk_16 8 (dk_at dksX18_data_0 14 rfl rfl)
theorem dX18_data_16 : decode cX18_data 16 = .ok (.if_icmp .ge 20, 3) := dk_162 0 20 (dk_at dksX18_data_0 16 rfl rfl)
theorem dX18_data_19 : decode cX18_data 19 = .ok (.iload_n 3, 1) := dk_29 (dk_at dksX18_data_0 19 rfl rfl)
theorem dX18_data_20 : decode cX18_data 20 = .ok (.iconst 4, 1) := dk_7 (dk_at dksX18_data_0 20 rfl rfl)
theorem dX18_data_21 : decode cX18_data 21 = .ok (.ishl, 1) := dk_120 (dk_at dksX18_data_0 21 rfl rfl)
theorem dX18_data_22 : decode cX18_data 22 = .ok (.aload_n 0, 1) := dk_42 (dk_at dksX18_data_0 22 rfl rfl)
theorem dX18_data_23 : decode cX18_data 23 = .ok (.bipush 15, 2) := dk_16 15 (dk_at dksX18_data_1 0 rfl rfl)
theorem dX18_data_25 : decode cX18_data 25 = .ok (.invokevirtual 54, 3) := dk_182 0 54 (dk_at dksX18_data_1 2 rfl rfl)
theorem dX18_data_28 : decode cX18_data 28 = .ok (.ior, 1) := dk_128 (dk_at dksX18_data_1 5 rfl rfl)
theorem dX18_data_29 : decode cX18_data 29 = .ok (.istore_n 3, 1) := dk_62 (dk_at dksX18_data_1 6 rfl rfl)
theorem dX18_data_30 : decode cX18_data 30 = .ok (.iinc 4 1, 3) := dk_132 4 1 (dk_at dksX18_data_1 7 rfl rfl)
theorem dX18_data_33 : decode cX18_data 33 = .ok (.goto (-28), 3) := dk_167 255 228 (dk_at dksX18_data_1 10 rfl rfl)
theorem dX18_data_36 : decode cX18_data 36 = .ok (.aload_n 0, 1) := dk_42 (dk_at dksX18_data_1 13 rfl rfl)
theorem dX18_data_37 : decode cX18_data 37 = .ok (.iload 4, 2) := dk_21 4 (dk_at dksX18_data_1 14 rfl rfl)
theorem dX18_data_39 : decode cX18_data 39 = .ok (.iconst 2, 1) := dk_5 (dk_at dksX18_data_1 16 rfl rfl)
theorem dX18_data_40 : decode cX18_data 40 = .ok (.irem, 1) := dk_112 (dk_at dksX18_data_1 17 rfl rfl)
theorem dX18_data_41 : decode cX18_data 41 = .ok (.ifCond .ne 7, 3) := dk_154 0 7 (dk_at dksX18_data_1 18 rfl rfl)
theorem dX18_data_44 : decode cX18_data 44 = .ok (.iconst 1, 1) := dk_4 (dk_at dksX18_data_1 21 rfl rfl)
theorem dX18_data_45 : decode cX18_data 45 = .ok (.goto 4, 3) := dk_167 0 4 (dk_at dksX18_data_2 0 rfl rfl)
theorem dX18_data_48 : decode cX18_data 48 = .ok (.iconst 0, 1) := dk_3 (dk_at dksX18_data_2 3 rfl rfl)
theorem dX18_data_49 : decode cX18_data 49 = .ok (.invokevirtual 35, 3) := dk_182 0 35 (dk_at dksX18_data_2 4 rfl rfl)
theorem dX18_data_52 : decode cX18_data 52 = .ok (.new 58, 3) := dk_187 0 58 (dk_at dksX18_data_2 7 rfl rfl)
theorem dX18_data_55 : decode cX18_data 55 = .ok (.dup, 1) := dk_89 (dk_at dksX18_data_2 10 rfl rfl)
theorem dX18_data_56 : decode cX18_data 56 = .ok (.iload_n 1, 1) := dk_27 (dk_at dksX18_data_2 11 rfl rfl)
theorem dX18_data_57 : decode cX18_data 57 = .ok (.iload_n 2, 1) := dk_28 (dk_at dksX18_data_2 12 rfl rfl)
theorem dX18_data_58 : decode cX18_data 58 = .ok (.iconst 0, 1) := dk_3 (dk_at dksX18_data_2 13 rfl rfl)
theorem dX18_data_59 : decode cX18_data 59 = .ok (.iload 4, 2) := dk_21 4 (dk_at dksX18_data_2 14 rfl rfl)
theorem dX18_data_61 : decode cX18_data 61 = .ok (.iconst 2, 1) := dk_5 (dk_at dksX18_data_2 16 rfl rfl)
theorem dX18_data_62 : decode cX18_data 62 = .ok (.idiv, 1) := dk_108 (dk_at dksX18_data_2 17 rfl rfl)
theorem dX18_data_63 : decode cX18_data 63 = .ok (.iload_n 3, 1) := dk_29 (dk_at dksX18_data_2 18 rfl rfl)
theorem dX18_data_64 : decode cX18_data 64 = .ok (.invokespecial 60, 3) := dk_183 0 60 (dk_at dksX18_data_2 19 rfl rfl)
theorem dX18_data_67 : decode cX18_data 67 = .ok (.areturn, 1) := dk_176 (dk_at dksX18_data_2 22 rfl rfl)
theorem q166 : (Jvm.Cond.initialized "ArbitratedBus$Reader") ∈ lw_all := lw_g (lw_at lw_m1 65 rfl) rfl
theorem q520 : (Jvm.Cond.fieldLinkNest "ArbitratedBus$Reader" (22 : Nat) "ArbitratedBus" "text" "[B" "ArbitratedBus") ∈ lw_tbl := lw_at lw_m2 179 rfl
theorem q522 : (Jvm.Cond.fieldLinkNest "ArbitratedBus$Reader" (19 : Nat) "ArbitratedBus" "length" "I" "ArbitratedBus") ∈ lw_tbl := lw_at lw_m2 181 rfl
theorem q692 : (Jvm.Cond.selects "ArbitratedBus$Reader" ({ cls := "java/lang/Object", name := "getClass", desc := "()Ljava/lang/Class;" } : Jvm.MethodName) ({ cls := "java/lang/Object", name := "getClass", desc := "()Ljava/lang/Class;" } : Jvm.MethodName)) ∈ lw_all := lw_g (lw_at lw_m3 111 rfl) rfl
theorem q2728 : (Jvm.Cond.instantiable "ArbitratedBus$Reader" (2 : Nat)) ∈ lw_all := lw_g (lw_at lw_m11 227 rfl) rfl
theorem q2730 : (Jvm.Cond.instanceMethod ({ cls := "ArbitratedBus$Reader", name := "<init>", desc := "(LArbitratedBus;)V" } : Jvm.MethodName)) ∈ lw_all := lw_g (lw_at lw_m11 229 rfl) rfl
theorem q2731 : (Jvm.Cond.code ({ cls := "ArbitratedBus$Reader", name := "<init>", desc := "(LArbitratedBus;)V" } : Jvm.MethodName) prog_22_method_1_code (2 : Nat) (Option.none : Option Jvm.ClassFile.FieldType)) ∈ lw_all := lw_g (lw_at lw_m11 230 rfl) rfl
theorem q2732 : (Jvm.Cond.methodLink "ArbitratedBus$Reader" (9 : Nat) ({ cls := "java/lang/Object", name := "<init>", desc := "()V" } : Jvm.MethodName)) ∈ lw_all := lw_g (lw_at lw_m11 231 rfl) rfl
theorem q2733 : (Jvm.Cond.fieldLink "ArbitratedBus$Reader" (15 : Nat) "ArbitratedBus$Reader" "at" "I") ∈ lw_all := lw_g (lw_at lw_m11 232 rfl) rfl
theorem q2734 : (Jvm.Cond.fieldLink "ArbitratedBus$Reader" (3 : Nat) "ArbitratedBus$Reader" "this$0" "LArbitratedBus;") ∈ lw_all := lw_g (lw_at lw_m11 233 rfl) rfl
theorem q2735 : (Jvm.Cond.lays "ArbitratedBus$Reader" "ArbitratedBus$Reader" "at" "I") ∈ lw_all := lw_g (lw_at lw_m11 234 rfl) rfl
theorem q2736 : (Jvm.Cond.soleField "ArbitratedBus$Reader" "at") ∈ lw_all := lw_g (lw_at lw_m11 235 rfl) rfl
theorem q2737 : (Jvm.Cond.laysFinal "ArbitratedBus$Reader" "ArbitratedBus$Reader" "this$0" "LArbitratedBus;") ∈ lw_all := lw_g (lw_at lw_m11 236 rfl) rfl
theorem q2738 : (Jvm.Cond.soleField "ArbitratedBus$Reader" "this$0") ∈ lw_all := lw_g (lw_at lw_m11 237 rfl) rfl
theorem q2739 : (Jvm.Cond.superclass "ArbitratedBus$Reader" "java/lang/Object") ∈ lw_all := lw_g (lw_at lw_m11 238 rfl) rfl
theorem q2741 : (Jvm.Cond.instanceMethod ({ cls := "ArbitratedBus$Reader", name := "all", desc := "()Ljava/util/ArrayList;" } : Jvm.MethodName)) ∈ lw_all := lw_g (lw_at lw_m12 0 rfl) rfl
theorem q2742 : (Jvm.Cond.selects "ArbitratedBus$Reader" ({ cls := "ArbitratedBus$Reader", name := "all", desc := "()Ljava/util/ArrayList;" } : Jvm.MethodName) ({ cls := "ArbitratedBus$Reader", name := "all", desc := "()Ljava/util/ArrayList;" } : Jvm.MethodName)) ∈ lw_all := lw_g (lw_at lw_m12 1 rfl) rfl
theorem q2743 : (Jvm.Cond.code ({ cls := "ArbitratedBus$Reader", name := "all", desc := "()Ljava/util/ArrayList;" } : Jvm.MethodName) prog_22_method_11_code (2 : Nat) (Option.some (Jvm.ClassFile.FieldType.object "java/util/ArrayList"))) ∈ lw_all := lw_g (lw_at lw_m12 2 rfl) rfl
theorem q2744 : (Jvm.Cond.classLink "ArbitratedBus$Reader" (77 : Nat) "java/util/ArrayList") ∈ lw_all := lw_g (lw_at lw_m12 3 rfl) rfl
theorem q2745 : (Jvm.Cond.methodLink "ArbitratedBus$Reader" (79 : Nat) ({ cls := "java/util/ArrayList", name := "<init>", desc := "(I)V" } : Jvm.MethodName)) ∈ lw_all := lw_g (lw_at lw_m12 4 rfl) rfl
theorem q2762 : (Jvm.Cond.methodLink "ArbitratedBus$Reader" (80 : Nat) ({ cls := "ArbitratedBus$Reader", name := "wanted", desc := "()LArbitratedBus$Wanted;" } : Jvm.MethodName)) ∈ lw_all := lw_g (lw_at lw_m12 21 rfl) rfl
theorem q2763 : (Jvm.Cond.privateMethod ({ cls := "ArbitratedBus$Reader", name := "wanted", desc := "()LArbitratedBus$Wanted;" } : Jvm.MethodName)) ∈ lw_tbl := lw_at lw_m12 22 rfl
theorem q2764 : (Jvm.Cond.instanceMethod ({ cls := "ArbitratedBus$Reader", name := "wanted", desc := "()LArbitratedBus$Wanted;" } : Jvm.MethodName)) ∈ lw_all := lw_g (lw_at lw_m12 23 rfl) rfl
theorem q2765 : (Jvm.Cond.code ({ cls := "ArbitratedBus$Reader", name := "wanted", desc := "()LArbitratedBus$Wanted;" } : Jvm.MethodName) prog_22_method_10_code (3 : Nat) (Option.some (Jvm.ClassFile.FieldType.object "ArbitratedBus$Wanted"))) ∈ lw_all := lw_g (lw_at lw_m12 24 rfl) rfl
theorem q2766 : (Jvm.Cond.methodLink "ArbitratedBus$Reader" (63 : Nat) ({ cls := "ArbitratedBus$Reader", name := "digit", desc := "(I)I" } : Jvm.MethodName)) ∈ lw_all := lw_g (lw_at lw_m12 25 rfl) rfl
theorem q2767 : (Jvm.Cond.privateMethod ({ cls := "ArbitratedBus$Reader", name := "digit", desc := "(I)I" } : Jvm.MethodName)) ∈ lw_tbl := lw_at lw_m12 26 rfl
theorem q2768 : (Jvm.Cond.instanceMethod ({ cls := "ArbitratedBus$Reader", name := "digit", desc := "(I)I" } : Jvm.MethodName)) ∈ lw_all := lw_g (lw_at lw_m12 27 rfl) rfl
theorem q2769 : (Jvm.Cond.code ({ cls := "ArbitratedBus$Reader", name := "digit", desc := "(I)I" } : Jvm.MethodName) prog_22_method_5_code (2 : Nat) (Option.some Jvm.ClassFile.FieldType.int)) ∈ lw_all := lw_g (lw_at lw_m12 28 rfl) rfl
theorem q2770 : (Jvm.Cond.methodLink "ArbitratedBus$Reader" (31 : Nat) ({ cls := "ArbitratedBus$Reader", name := "here", desc := "()I" } : Jvm.MethodName)) ∈ lw_all := lw_g (lw_at lw_m12 29 rfl) rfl
theorem q2771 : (Jvm.Cond.privateMethod ({ cls := "ArbitratedBus$Reader", name := "here", desc := "()I" } : Jvm.MethodName)) ∈ lw_tbl := lw_at lw_m12 30 rfl
theorem q2772 : (Jvm.Cond.instanceMethod ({ cls := "ArbitratedBus$Reader", name := "here", desc := "()I" } : Jvm.MethodName)) ∈ lw_all := lw_g (lw_at lw_m12 31 rfl) rfl
theorem q2773 : (Jvm.Cond.code ({ cls := "ArbitratedBus$Reader", name := "here", desc := "()I" } : Jvm.MethodName) prog_22_method_2_code (1 : Nat) (Option.some Jvm.ClassFile.FieldType.int)) ∈ lw_all := lw_g (lw_at lw_m12 32 rfl) rfl
theorem q2774 : (Jvm.Cond.constantLong "ArbitratedBus$Reader" (39 : Nat) (48 : Int64)) ∈ lw_all := lw_g (lw_at lw_m12 33 rfl) rfl
theorem q2775 : (Jvm.Cond.methodLinkNest "ArbitratedBus$Reader" (41 : Nat) ({ cls := "ArbitratedBus", name := "isIn", desc := "(JJJ)Z" } : Jvm.MethodName) "ArbitratedBus") ∈ lw_tbl := lw_at lw_m12 34 rfl
theorem q2776 : (Jvm.Cond.methodLink "ArbitratedBus$Reader" (35 : Nat) ({ cls := "ArbitratedBus$Reader", name := "expect", desc := "(Z)V" } : Jvm.MethodName)) ∈ lw_all := lw_g (lw_at lw_m12 35 rfl) rfl
theorem q2777 : (Jvm.Cond.privateMethod ({ cls := "ArbitratedBus$Reader", name := "expect", desc := "(Z)V" } : Jvm.MethodName)) ∈ lw_tbl := lw_at lw_m12 36 rfl
theorem q2778 : (Jvm.Cond.instanceMethod ({ cls := "ArbitratedBus$Reader", name := "expect", desc := "(Z)V" } : Jvm.MethodName)) ∈ lw_all := lw_g (lw_at lw_m12 37 rfl) rfl
theorem q2779 : (Jvm.Cond.code ({ cls := "ArbitratedBus$Reader", name := "expect", desc := "(Z)V" } : Jvm.MethodName) prog_22_method_3_code (2 : Nat) (Option.none : Option Jvm.ClassFile.FieldType)) ∈ lw_all := lw_g (lw_at lw_m12 38 rfl) rfl
theorem q2780 : (Jvm.Cond.classLink "ArbitratedBus$Reader" (26 : Nat) "ArbitratedBus$Fault") ∈ lw_all := lw_g (lw_at lw_m12 39 rfl) rfl
theorem q2789 : (Jvm.Cond.methodLink "ArbitratedBus$Reader" (28 : Nat) ({ cls := "ArbitratedBus$Fault", name := "<init>", desc := "(I)V" } : Jvm.MethodName)) ∈ lw_all := lw_g (lw_at lw_m12 48 rfl) rfl
theorem q2804 : (Jvm.Cond.methodLink "ArbitratedBus$Reader" (66 : Nat) ({ cls := "ArbitratedBus$Reader", name := "sign", desc := "(C)V" } : Jvm.MethodName)) ∈ lw_all := lw_g (lw_at lw_m12 63 rfl) rfl
theorem q2805 : (Jvm.Cond.privateMethod ({ cls := "ArbitratedBus$Reader", name := "sign", desc := "(C)V" } : Jvm.MethodName)) ∈ lw_tbl := lw_at lw_m12 64 rfl
theorem q2806 : (Jvm.Cond.instanceMethod ({ cls := "ArbitratedBus$Reader", name := "sign", desc := "(C)V" } : Jvm.MethodName)) ∈ lw_all := lw_g (lw_at lw_m12 65 rfl) rfl
theorem q2807 : (Jvm.Cond.code ({ cls := "ArbitratedBus$Reader", name := "sign", desc := "(C)V" } : Jvm.MethodName) prog_22_method_4_code (2 : Nat) (Option.none : Option Jvm.ClassFile.FieldType)) ∈ lw_all := lw_g (lw_at lw_m12 66 rfl) rfl
theorem q2808 : (Jvm.Cond.methodLink "ArbitratedBus$Reader" (70 : Nat) ({ cls := "ArbitratedBus$Reader", name := "identifier", desc := "()I" } : Jvm.MethodName)) ∈ lw_all := lw_g (lw_at lw_m12 67 rfl) rfl
theorem q2809 : (Jvm.Cond.privateMethod ({ cls := "ArbitratedBus$Reader", name := "identifier", desc := "()I" } : Jvm.MethodName)) ∈ lw_tbl := lw_at lw_m12 68 rfl
theorem q2810 : (Jvm.Cond.instanceMethod ({ cls := "ArbitratedBus$Reader", name := "identifier", desc := "()I" } : Jvm.MethodName)) ∈ lw_all := lw_g (lw_at lw_m12 69 rfl) rfl
theorem q2811 : (Jvm.Cond.code ({ cls := "ArbitratedBus$Reader", name := "identifier", desc := "()I" } : Jvm.MethodName) prog_22_method_8_code (2 : Nat) (Option.some Jvm.ClassFile.FieldType.int)) ∈ lw_all := lw_g (lw_at lw_m12 70 rfl) rfl
theorem q2812 : (Jvm.Cond.methodLink "ArbitratedBus$Reader" (54 : Nat) ({ cls := "ArbitratedBus$Reader", name := "takeHex", desc := "(I)I" } : Jvm.MethodName)) ∈ lw_all := lw_g (lw_at lw_m12 71 rfl) rfl
theorem q2813 : (Jvm.Cond.privateMethod ({ cls := "ArbitratedBus$Reader", name := "takeHex", desc := "(I)I" } : Jvm.MethodName)) ∈ lw_tbl := lw_at lw_m12 72 rfl
theorem q2814 : (Jvm.Cond.instanceMethod ({ cls := "ArbitratedBus$Reader", name := "takeHex", desc := "(I)I" } : Jvm.MethodName)) ∈ lw_all := lw_g (lw_at lw_m12 73 rfl) rfl
theorem q2815 : (Jvm.Cond.code ({ cls := "ArbitratedBus$Reader", name := "takeHex", desc := "(I)I" } : Jvm.MethodName) prog_22_method_7_code (3 : Nat) (Option.some Jvm.ClassFile.FieldType.int)) ∈ lw_all := lw_g (lw_at lw_m12 74 rfl) rfl
theorem q2816 : (Jvm.Cond.methodLink "ArbitratedBus$Reader" (51 : Nat) ({ cls := "ArbitratedBus$Reader", name := "hex", desc := "()I" } : Jvm.MethodName)) ∈ lw_all := lw_g (lw_at lw_m12 75 rfl) rfl
theorem q2817 : (Jvm.Cond.privateMethod ({ cls := "ArbitratedBus$Reader", name := "hex", desc := "()I" } : Jvm.MethodName)) ∈ lw_tbl := lw_at lw_m12 76 rfl
theorem q2818 : (Jvm.Cond.instanceMethod ({ cls := "ArbitratedBus$Reader", name := "hex", desc := "()I" } : Jvm.MethodName)) ∈ lw_all := lw_g (lw_at lw_m12 77 rfl) rfl
theorem q2819 : (Jvm.Cond.code ({ cls := "ArbitratedBus$Reader", name := "hex", desc := "()I" } : Jvm.MethodName) prog_22_method_6_code (2 : Nat) (Option.some Jvm.ClassFile.FieldType.int)) ∈ lw_all := lw_g (lw_at lw_m12 78 rfl) rfl
theorem q2820 : (Jvm.Cond.constantLong "ArbitratedBus$Reader" (45 : Nat) (57 : Int64)) ∈ lw_all := lw_g (lw_at lw_m12 79 rfl) rfl
theorem q2821 : (Jvm.Cond.constantLong "ArbitratedBus$Reader" (47 : Nat) (97 : Int64)) ∈ lw_all := lw_g (lw_at lw_m12 80 rfl) rfl
theorem q2822 : (Jvm.Cond.constantLong "ArbitratedBus$Reader" (49 : Nat) (102 : Int64)) ∈ lw_all := lw_g (lw_at lw_m12 81 rfl) rfl
theorem q2823 : (Jvm.Cond.classLink "ArbitratedBus$Reader" (58 : Nat) "ArbitratedBus$Wanted") ∈ lw_all := lw_g (lw_at lw_m12 82 rfl) rfl
theorem q2825 : (Jvm.Cond.methodLink "ArbitratedBus$Reader" (60 : Nat) ({ cls := "ArbitratedBus$Wanted", name := "<init>", desc := "(IIZII)V" } : Jvm.MethodName)) ∈ lw_all := lw_g (lw_at lw_m12 84 rfl) rfl
theorem q2850 : (Jvm.Cond.methodLink "ArbitratedBus$Reader" (73 : Nat) ({ cls := "ArbitratedBus$Reader", name := "data", desc := "(II)LArbitratedBus$Wanted;" } : Jvm.MethodName)) ∈ lw_all := lw_g (lw_at lw_m12 109 rfl) rfl
theorem q2851 : (Jvm.Cond.privateMethod ({ cls := "ArbitratedBus$Reader", name := "data", desc := "(II)LArbitratedBus$Wanted;" } : Jvm.MethodName)) ∈ lw_tbl := lw_at lw_m12 110 rfl
theorem q2852 : (Jvm.Cond.instanceMethod ({ cls := "ArbitratedBus$Reader", name := "data", desc := "(II)LArbitratedBus$Wanted;" } : Jvm.MethodName)) ∈ lw_all := lw_g (lw_at lw_m12 111 rfl) rfl
theorem q2853 : (Jvm.Cond.code ({ cls := "ArbitratedBus$Reader", name := "data", desc := "(II)LArbitratedBus$Wanted;" } : Jvm.MethodName) prog_22_method_9_code (5 : Nat) (Option.some (Jvm.ClassFile.FieldType.object "ArbitratedBus$Wanted"))) ∈ lw_all := lw_g (lw_at lw_m12 112 rfl) rfl
theorem q2854 : (Jvm.Cond.methodLink "ArbitratedBus$Reader" (84 : Nat) ({ cls := "java/util/ArrayList", name := "add", desc := "(Ljava/lang/Object;)Z" } : Jvm.MethodName)) ∈ lw_all := lw_g (lw_at lw_m12 113 rfl) rfl
theorem q3457 : (Jvm.Cond.castable "ArbitratedBus$Reader" "java/lang/Object") ∈ lw_tbl := lw_at lw_m14 236 rfl
theorem in_X18 : ∀ w ∈ wsX180, w ∈ lw_all := lw_in wsX180 [2735, 2737] (by decide +kernel) (by decide +kernel)

/-! ArbitratedBus$Fault -/
set_option maxRecDepth 100000
def RX19 : String := "ArbitratedBus$Fault"
def TX19 : u_T := fun k => match k with
  | 0 => ("java/lang/Throwable", "cause", "Ljava/lang/Throwable;", false)
  | 1 => ("java/lang/Throwable", "stackTrace", "[Ljava/lang/StackTraceElement;", false)
  | 2 => ("java/lang/Throwable", "suppressedExceptions", "Ljava/util/List;", false)
  | 3 => ("java/lang/Throwable", "detailMessage", "Ljava/lang/String;", false)
  | 4 => ("java/lang/Throwable", "backtrace", "Ljava/lang/Object;", false)
  | 5 => ("java/lang/Throwable", "depth", "I", false)
  | _ => ("ArbitratedBus$Fault", "position", "I", true)
def tyX19 : Nat → FieldType := fun k => match k with
  | 0 => .object "java/lang/Throwable"
  | 1 => .array (.object "java/lang/StackTraceElement")
  | 2 => .object "java/util/List"
  | 3 => .object "java/lang/String"
  | 4 => .object "java/lang/Object"
  | 5 => .int
  | _ => .int
abbrev wsX190 : List Cond := u_ws RX19 TX19 7
theorem nmX19 : ∀ a, a < 7 → ∀ b, b < 7 → a ≠ b → (TX19 a).2.1 ≠ (TX19 b).2.1 := by decide +kernel
theorem tyX19_ok : ∀ k, k < 7 → parseFieldDescriptor (TX19 k).2.2.1 = some (tyX19 k) := by decide +kernel
abbrev cX19_init : ByteArray := prog_6_method_1_code
def yX19_init : MethodName := ⟨RX19, "<init>", "(I)V"⟩
def dkwX19_init_0 : List UInt8 := [42, 1, 1, 3, 3, 183, 0, 1, 42, 27, 181, 0, 7, 177]
abbrev dktX19_init_0 : List UInt8 := dkwX19_init_0 ++ []
theorem dksX19_init_0 : cX19_init.data.toList.drop 0 = dktX19_init_0 := by decide +kernel
theorem dX19_init_0 : decode cX19_init 0 = .ok (.aload_n 0, 1) := dk_42 (dk_at dksX19_init_0 0 rfl rfl)
theorem dX19_init_1 : decode cX19_init 1 = .ok (.aconst_null, 1) := dk_1 (dk_at dksX19_init_0 1 rfl rfl)
theorem dX19_init_2 : decode cX19_init 2 = .ok (.aconst_null, 1) := dk_1 (dk_at dksX19_init_0 2 rfl rfl)
theorem dX19_init_3 : decode cX19_init 3 = .ok (.iconst 0, 1) := dk_3 (dk_at dksX19_init_0 3 rfl rfl)
theorem dX19_init_4 : decode cX19_init 4 = .ok (.iconst 0, 1) := dk_3 (dk_at dksX19_init_0 4 rfl rfl)
theorem dX19_init_5 : decode cX19_init 5 = .ok (.invokespecial 1, 3) := dk_183 0 1 (dk_at dksX19_init_0 5 rfl rfl)
theorem dX19_init_8 : decode cX19_init 8 = .ok (.aload_n 0, 1) := dk_42 (dk_at dksX19_init_0 8 rfl rfl)
theorem dX19_init_9 : decode cX19_init 9 = .ok (.iload_n 1, 1) := dk_27 (dk_at dksX19_init_0 9 rfl rfl)
theorem dX19_init_10 : decode cX19_init 10 = .ok (.putfield 7, 3) := dk_181 0 7 (dk_at dksX19_init_0 10 rfl rfl)
theorem dX19_init_13 : decode cX19_init 13 = .ok (.return_, 1) := dk_177 (dk_at dksX19_init_0 13 rfl rfl)
theorem q168 : (Jvm.Cond.initialized "ArbitratedBus$Fault") ∈ lw_all := lw_g (lw_at lw_m1 67 rfl) rfl
theorem q677 : (Jvm.Cond.selects "ArbitratedBus$Fault" ({ cls := "java/lang/Object", name := "getClass", desc := "()Ljava/lang/Class;" } : Jvm.MethodName) ({ cls := "java/lang/Object", name := "getClass", desc := "()Ljava/lang/Class;" } : Jvm.MethodName)) ∈ lw_all := lw_g (lw_at lw_m3 96 rfl) rfl
theorem q1456 : (Jvm.Cond.selects "ArbitratedBus$Fault" ({ cls := "java/lang/Throwable", name := "fillInStackTrace", desc := "()Ljava/lang/Throwable;" } : Jvm.MethodName) ({ cls := "java/lang/Throwable", name := "fillInStackTrace", desc := "()Ljava/lang/Throwable;" } : Jvm.MethodName)) ∈ lw_all := lw_g (lw_at lw_m6 155 rfl) rfl
theorem q1480 : (Jvm.Cond.selects "ArbitratedBus$Fault" ({ cls := "java/lang/Throwable", name := "toString", desc := "()Ljava/lang/String;" } : Jvm.MethodName) ({ cls := "java/lang/Throwable", name := "toString", desc := "()Ljava/lang/String;" } : Jvm.MethodName)) ∈ lw_all := lw_g (lw_at lw_m6 179 rfl) rfl
theorem q1489 : (Jvm.Cond.selects "ArbitratedBus$Fault" ({ cls := "java/lang/Throwable", name := "getLocalizedMessage", desc := "()Ljava/lang/String;" } : Jvm.MethodName) ({ cls := "java/lang/Throwable", name := "getLocalizedMessage", desc := "()Ljava/lang/String;" } : Jvm.MethodName)) ∈ lw_all := lw_g (lw_at lw_m6 188 rfl) rfl
theorem q1497 : (Jvm.Cond.selects "ArbitratedBus$Fault" ({ cls := "java/lang/Throwable", name := "getMessage", desc := "()Ljava/lang/String;" } : Jvm.MethodName) ({ cls := "java/lang/Throwable", name := "getMessage", desc := "()Ljava/lang/String;" } : Jvm.MethodName)) ∈ lw_all := lw_g (lw_at lw_m6 196 rfl) rfl
theorem q2781 : (Jvm.Cond.instantiable "ArbitratedBus$Fault" (7 : Nat)) ∈ lw_all := lw_g (lw_at lw_m12 40 rfl) rfl
theorem q2782 : (Jvm.Cond.castable "ArbitratedBus$Fault" "ArbitratedBus$Fault") ∈ lw_tbl := lw_at lw_m12 41 rfl
theorem q2783 : (Jvm.Cond.selects "ArbitratedBus$Fault" ({ cls := "java/lang/Throwable", name := "fillInStackTrace", desc := "(I)Ljava/lang/Throwable;" } : Jvm.MethodName) ({ cls := "java/lang/Throwable", name := "fillInStackTrace", desc := "(I)Ljava/lang/Throwable;" } : Jvm.MethodName)) ∈ lw_all := lw_g (lw_at lw_m12 42 rfl) rfl
theorem q2784 : (Jvm.Cond.lays "ArbitratedBus$Fault" "java/lang/Throwable" "cause" "Ljava/lang/Throwable;") ∈ lw_all := lw_g (lw_at lw_m12 43 rfl) rfl
theorem q2785 : (Jvm.Cond.lays "ArbitratedBus$Fault" "java/lang/Throwable" "stackTrace" "[Ljava/lang/StackTraceElement;") ∈ lw_all := lw_g (lw_at lw_m12 44 rfl) rfl
theorem q2786 : (Jvm.Cond.lays "ArbitratedBus$Fault" "java/lang/Throwable" "suppressedExceptions" "Ljava/util/List;") ∈ lw_all := lw_g (lw_at lw_m12 45 rfl) rfl
theorem q2787 : (Jvm.Cond.lays "ArbitratedBus$Fault" "java/lang/Throwable" "detailMessage" "Ljava/lang/String;") ∈ lw_all := lw_g (lw_at lw_m12 46 rfl) rfl
theorem q2788 : (Jvm.Cond.lays "ArbitratedBus$Fault" "java/lang/Throwable" "backtrace" "Ljava/lang/Object;") ∈ lw_all := lw_g (lw_at lw_m12 47 rfl) rfl
theorem q2790 : (Jvm.Cond.instanceMethod ({ cls := "ArbitratedBus$Fault", name := "<init>", desc := "(I)V" } : Jvm.MethodName)) ∈ lw_all := lw_g (lw_at lw_m12 49 rfl) rfl
theorem q2791 : (Jvm.Cond.code ({ cls := "ArbitratedBus$Fault", name := "<init>", desc := "(I)V" } : Jvm.MethodName) prog_6_method_1_code (2 : Nat) (Option.none : Option Jvm.ClassFile.FieldType)) ∈ lw_all := lw_g (lw_at lw_m12 50 rfl) rfl
theorem q2792 : (Jvm.Cond.methodLink "ArbitratedBus$Fault" (1 : Nat) ({ cls := "java/lang/Exception", name := "<init>", desc := "(Ljava/lang/String;Ljava/lang/Throwable;ZZ)V" } : Jvm.MethodName)) ∈ lw_all := lw_g (lw_at lw_m12 51 rfl) rfl
theorem q2798 : (Jvm.Cond.fieldLink "ArbitratedBus$Fault" (7 : Nat) "ArbitratedBus$Fault" "position" "I") ∈ lw_all := lw_g (lw_at lw_m12 57 rfl) rfl
theorem q2800 : (Jvm.Cond.laysFinal "ArbitratedBus$Fault" "ArbitratedBus$Fault" "position" "I") ∈ lw_all := lw_g (lw_at lw_m12 59 rfl) rfl
theorem q2801 : (Jvm.Cond.soleField "ArbitratedBus$Fault" "position") ∈ lw_all := lw_g (lw_at lw_m12 60 rfl) rfl
theorem q2802 : (Jvm.Cond.lays "ArbitratedBus$Fault" "java/lang/Throwable" "depth" "I") ∈ lw_all := lw_g (lw_at lw_m12 61 rfl) rfl
theorem q2803 : (Jvm.Cond.superclass "ArbitratedBus$Fault" "java/lang/Exception") ∈ lw_all := lw_g (lw_at lw_m12 62 rfl) rfl
theorem q3459 : (Jvm.Cond.castable "ArbitratedBus$Fault" "java/lang/Object") ∈ lw_tbl := lw_at lw_m14 238 rfl
theorem in_X19 : ∀ w ∈ wsX190, w ∈ lw_all := lw_in wsX190 [2784, 2785, 2786, 2787, 2788, 2802, 2800] (by decide +kernel) (by decide +kernel)

/-! ArbitratedBus$Wanted -/
set_option maxRecDepth 100000
def RX20 : String := "ArbitratedBus$Wanted"
def TX20 : u_T := fun k => match k with
  | 0 => ("ArbitratedBus$Wanted", "node", "I", true)
  | 1 => ("ArbitratedBus$Wanted", "identifier", "I", true)
  | 2 => ("ArbitratedBus$Wanted", "remote", "Z", true)
  | 3 => ("ArbitratedBus$Wanted", "length", "I", true)
  | _ => ("ArbitratedBus$Wanted", "data", "I", true)
def tyX20 : Nat → FieldType := fun k => match k with
  | 0 => .int
  | 1 => .int
  | 2 => .boolean
  | 3 => .int
  | _ => .int
abbrev wsX200 : List Cond := u_ws RX20 TX20 5
theorem nmX20 : ∀ a, a < 5 → ∀ b, b < 5 → a ≠ b → (TX20 a).2.1 ≠ (TX20 b).2.1 := by decide +kernel
theorem tyX20_ok : ∀ k, k < 5 → parseFieldDescriptor (TX20 k).2.2.1 = some (tyX20 k) := by decide +kernel
abbrev cX20_init : ByteArray := prog_25_method_1_code
def yX20_init : MethodName := ⟨RX20, "<init>", "(IIZII)V"⟩
def dkwX20_init_1 : List UInt8 := [181, 0, 20, 42, 21, 5, 181, 0, 23, 177]
abbrev dktX20_init_1 : List UInt8 := dkwX20_init_1 ++ []
def dkwX20_init_0 : List UInt8 := [42, 183, 0, 1, 42, 27, 181, 0, 7, 42, 28, 181, 0, 13, 42, 29, 181, 0, 16, 42, 21, 4]
abbrev dktX20_init_0 : List UInt8 := dkwX20_init_0 ++ dktX20_init_1
theorem dksX20_init_0 : cX20_init.data.toList.drop 0 = dktX20_init_0 := by decide +kernel
theorem dksX20_init_1 : cX20_init.data.toList.drop 22 = dktX20_init_1 := dk_seg dksX20_init_0 22 rfl rfl
theorem dX20_init_0 : decode cX20_init 0 = .ok (.aload_n 0, 1) := dk_42 (dk_at dksX20_init_0 0 rfl rfl)
theorem dX20_init_1 : decode cX20_init 1 = .ok (.invokespecial 1, 3) := dk_183 0 1 (dk_at dksX20_init_0 1 rfl rfl)
theorem dX20_init_4 : decode cX20_init 4 = .ok (.aload_n 0, 1) := dk_42 (dk_at dksX20_init_0 4 rfl rfl)
theorem dX20_init_5 : decode cX20_init 5 = .ok (.iload_n 1, 1) := dk_27 (dk_at dksX20_init_0 5 rfl rfl)
theorem dX20_init_6 : decode cX20_init 6 = .ok (.putfield 7, 3) := dk_181 0 7 (dk_at dksX20_init_0 6 rfl rfl)
theorem dX20_init_9 : decode cX20_init 9 = .ok (.aload_n 0, 1) := dk_42 (dk_at dksX20_init_0 9 rfl rfl)
theorem dX20_init_10 : decode cX20_init 10 = .ok (.iload_n 2, 1) := dk_28 (dk_at dksX20_init_0 10 rfl rfl)
theorem dX20_init_11 : decode cX20_init 11 = .ok (.putfield 13, 3) := dk_181 0 13 (dk_at dksX20_init_0 11 rfl rfl)
theorem dX20_init_14 : decode cX20_init 14 = .ok (.aload_n 0, 1) := dk_42 (dk_at dksX20_init_0 14 rfl rfl)
theorem dX20_init_15 : decode cX20_init 15 = .ok (.iload_n 3, 1) := dk_29 (dk_at dksX20_init_0 15 rfl rfl)
theorem dX20_init_16 : decode cX20_init 16 = .ok (.putfield 16, 3) := dk_181 0 16 (dk_at dksX20_init_0 16 rfl rfl)
theorem dX20_init_19 : decode cX20_init 19 = .ok (.aload_n 0, 1) := dk_42 (dk_at dksX20_init_0 19 rfl rfl)
theorem dX20_init_20 : decode cX20_init 20 = .ok (.iload 4, 2) := dk_21 4 (dk_at dksX20_init_0 20 rfl rfl)
theorem dX20_init_22 : decode cX20_init 22 = .ok (.putfield 20, 3) := dk_181 0 20 (dk_at dksX20_init_1 0 rfl rfl)
theorem dX20_init_25 : decode cX20_init 25 = .ok (.aload_n 0, 1) := dk_42 (dk_at dksX20_init_1 3 rfl rfl)
theorem dX20_init_26 : decode cX20_init 26 = .ok (.iload 5, 2) := dk_21 5 (dk_at dksX20_init_1 4 rfl rfl)
theorem dX20_init_28 : decode cX20_init 28 = .ok (.putfield 23, 3) := dk_181 0 23 (dk_at dksX20_init_1 6 rfl rfl)
theorem dX20_init_31 : decode cX20_init 31 = .ok (.return_, 1) := dk_177 (dk_at dksX20_init_1 9 rfl rfl)
theorem q169 : (Jvm.Cond.initialized "ArbitratedBus$Wanted") ∈ lw_all := lw_g (lw_at lw_m1 68 rfl) rfl
theorem q695 : (Jvm.Cond.selects "ArbitratedBus$Wanted" ({ cls := "java/lang/Object", name := "getClass", desc := "()Ljava/lang/Class;" } : Jvm.MethodName) ({ cls := "java/lang/Object", name := "getClass", desc := "()Ljava/lang/Class;" } : Jvm.MethodName)) ∈ lw_all := lw_g (lw_at lw_m3 114 rfl) rfl
theorem q2824 : (Jvm.Cond.instantiable "ArbitratedBus$Wanted" (5 : Nat)) ∈ lw_all := lw_g (lw_at lw_m12 83 rfl) rfl
theorem q2826 : (Jvm.Cond.instanceMethod ({ cls := "ArbitratedBus$Wanted", name := "<init>", desc := "(IIZII)V" } : Jvm.MethodName)) ∈ lw_all := lw_g (lw_at lw_m12 85 rfl) rfl
theorem q2827 : (Jvm.Cond.code ({ cls := "ArbitratedBus$Wanted", name := "<init>", desc := "(IIZII)V" } : Jvm.MethodName) prog_25_method_1_code (6 : Nat) (Option.none : Option Jvm.ClassFile.FieldType)) ∈ lw_all := lw_g (lw_at lw_m12 86 rfl) rfl
theorem q2828 : (Jvm.Cond.methodLink "ArbitratedBus$Wanted" (1 : Nat) ({ cls := "java/lang/Object", name := "<init>", desc := "()V" } : Jvm.MethodName)) ∈ lw_all := lw_g (lw_at lw_m12 87 rfl) rfl
theorem q2829 : (Jvm.Cond.fieldLink "ArbitratedBus$Wanted" (7 : Nat) "ArbitratedBus$Wanted" "node" "I") ∈ lw_all := lw_g (lw_at lw_m12 88 rfl) rfl
theorem q2831 : (Jvm.Cond.fieldLink "ArbitratedBus$Wanted" (13 : Nat) "ArbitratedBus$Wanted" "identifier" "I") ∈ lw_all := lw_g (lw_at lw_m12 90 rfl) rfl
theorem q2833 : (Jvm.Cond.fieldLink "ArbitratedBus$Wanted" (16 : Nat) "ArbitratedBus$Wanted" "remote" "Z") ∈ lw_all := lw_g (lw_at lw_m12 92 rfl) rfl
theorem q2835 : (Jvm.Cond.fieldLink "ArbitratedBus$Wanted" (20 : Nat) "ArbitratedBus$Wanted" "length" "I") ∈ lw_all := lw_g (lw_at lw_m12 94 rfl) rfl
theorem q2837 : (Jvm.Cond.fieldLink "ArbitratedBus$Wanted" (23 : Nat) "ArbitratedBus$Wanted" "data" "I") ∈ lw_all := lw_g (lw_at lw_m12 96 rfl) rfl
theorem q2839 : (Jvm.Cond.laysFinal "ArbitratedBus$Wanted" "ArbitratedBus$Wanted" "node" "I") ∈ lw_all := lw_g (lw_at lw_m12 98 rfl) rfl
theorem q2840 : (Jvm.Cond.soleField "ArbitratedBus$Wanted" "node") ∈ lw_all := lw_g (lw_at lw_m12 99 rfl) rfl
theorem q2841 : (Jvm.Cond.laysFinal "ArbitratedBus$Wanted" "ArbitratedBus$Wanted" "identifier" "I") ∈ lw_all := lw_g (lw_at lw_m12 100 rfl) rfl
theorem q2842 : (Jvm.Cond.soleField "ArbitratedBus$Wanted" "identifier") ∈ lw_all := lw_g (lw_at lw_m12 101 rfl) rfl
theorem q2843 : (Jvm.Cond.laysFinal "ArbitratedBus$Wanted" "ArbitratedBus$Wanted" "remote" "Z") ∈ lw_all := lw_g (lw_at lw_m12 102 rfl) rfl
theorem q2844 : (Jvm.Cond.soleField "ArbitratedBus$Wanted" "remote") ∈ lw_all := lw_g (lw_at lw_m12 103 rfl) rfl
theorem q2845 : (Jvm.Cond.laysFinal "ArbitratedBus$Wanted" "ArbitratedBus$Wanted" "length" "I") ∈ lw_all := lw_g (lw_at lw_m12 104 rfl) rfl
theorem q2846 : (Jvm.Cond.soleField "ArbitratedBus$Wanted" "length") ∈ lw_all := lw_g (lw_at lw_m12 105 rfl) rfl
theorem q2847 : (Jvm.Cond.laysFinal "ArbitratedBus$Wanted" "ArbitratedBus$Wanted" "data" "I") ∈ lw_all := lw_g (lw_at lw_m12 106 rfl) rfl
theorem q2848 : (Jvm.Cond.soleField "ArbitratedBus$Wanted" "data") ∈ lw_all := lw_g (lw_at lw_m12 107 rfl) rfl
theorem q2849 : (Jvm.Cond.superclass "ArbitratedBus$Wanted" "java/lang/Object") ∈ lw_all := lw_g (lw_at lw_m12 108 rfl) rfl
theorem q3460 : (Jvm.Cond.castable "ArbitratedBus$Wanted" "java/lang/Object") ∈ lw_tbl := lw_at lw_m14 239 rfl
theorem in_X20 : ∀ w ∈ wsX200, w ∈ lw_all := lw_in wsX200 [2839, 2841, 2843, 2845, 2847] (by decide +kernel) (by decide +kernel)

/-! ArbitratedBus$Phase$4 -/
set_option maxRecDepth 100000
def RX21 : String := "ArbitratedBus$Phase$4"
abbrev cX21_drive : ByteArray := prog_16_method_2_code
def yX21_drive : MethodName := ⟨RX21, "drive", "(LArbitratedBus$Node;)I"⟩
def dkwX21_drive_1 : List UInt8 := [167, 0, 4, 3, 172]
abbrev dktX21_drive_1 : List UInt8 := dkwX21_drive_1 ++ []
def dkwX21_drive_0 : List UInt8 := [43, 43, 180, 0, 9, 182, 0, 15, 192, 0, 21, 181, 0, 23, 43, 180, 0, 23, 199, 0, 7, 4]
abbrev dktX21_drive_0 : List UInt8 := dkwX21_drive_0 ++ dktX21_drive_1
theorem dksX21_drive_0 : cX21_drive.data.toList.drop 0 = dktX21_drive_0 := by decide +kernel
theorem dksX21_drive_1 : cX21_drive.data.toList.drop 22 = dktX21_drive_1 := dk_seg dksX21_drive_0 22 rfl rfl
theorem dX21_drive_0 : decode cX21_drive 0 = .ok (.aload_n 1, 1) := dk_43 (dk_at dksX21_drive_0 0 rfl rfl)
theorem dX21_drive_1 : decode cX21_drive 1 = .ok (.aload_n 1, 1) := dk_43 (dk_at dksX21_drive_0 1 rfl rfl)
theorem dX21_drive_2 : decode cX21_drive 2 = .ok (.getfield 9, 3) := dk_180 0 9 (dk_at dksX21_drive_0 2 rfl rfl)
theorem dX21_drive_5 : decode cX21_drive 5 = .ok (.invokevirtual 15, 3) := dk_182 0 15 (dk_at dksX21_drive_0 5 rfl rfl)
theorem dX21_drive_8 : decode cX21_drive 8 = .ok (.checkcast 21, 3) := dk_192 0 21 (dk_at dksX21_drive_0 8 rfl rfl)
theorem dX21_drive_11 : decode cX21_drive 11 = .ok (.putfield 23, 3) := dk_181 0 23 (dk_at dksX21_drive_0 11 rfl rfl)
theorem dX21_drive_14 : decode cX21_drive 14 = .ok (.aload_n 1, 1) := dk_43 (dk_at dksX21_drive_0 14 rfl rfl)
theorem dX21_drive_15 : decode cX21_drive 15 = .ok (.getfield 23, 3) := dk_180 0 23 (dk_at dksX21_drive_0 15 rfl rfl)
theorem dX21_drive_18 : decode cX21_drive 18 = .ok (.ifnonnull 7, 3) := dk_199 0 7 (dk_at dksX21_drive_0 18 rfl rfl)
theorem dX21_drive_21 : decode cX21_drive 21 = .ok (.iconst 1, 1) := dk_4 (dk_at dksX21_drive_0 21 rfl rfl)
theorem dX21_drive_22 : decode cX21_drive 22 = .ok (.goto 4, 3) := dk_167 0 4 (dk_at dksX21_drive_1 0 rfl rfl)
theorem dX21_drive_25 : decode cX21_drive 25 = .ok (.iconst 0, 1) := dk_3 (dk_at dksX21_drive_1 3 rfl rfl)
theorem dX21_drive_26 : decode cX21_drive 26 = .ok (.ireturn, 1) := dk_172 (dk_at dksX21_drive_1 4 rfl rfl)
abbrev cX21_act : ByteArray := prog_16_method_3_code
def yX21_act : MethodName := ⟨RX21, "act", "(LArbitratedBus$Node;I)V"⟩
def dkwX21_act_1 : List UInt8 := [180, 0, 27, 154, 0, 13, 43, 4, 181, 0, 35, 43, 4, 182, 0, 39, 177]
abbrev dktX21_act_1 : List UInt8 := dkwX21_act_1 ++ []
def dkwX21_act_0 : List UInt8 := [28, 154, 0, 22, 43, 43, 180, 0, 27, 154, 0, 7, 4, 167, 0, 4, 3, 182, 0, 31, 167, 0, 20, 43]
abbrev dktX21_act_0 : List UInt8 := dkwX21_act_0 ++ dktX21_act_1
theorem dksX21_act_0 : cX21_act.data.toList.drop 0 = dktX21_act_0 := by decide +kernel
theorem dksX21_act_1 : cX21_act.data.toList.drop 24 = dktX21_act_1 := dk_seg dksX21_act_0 24 rfl rfl
theorem dX21_act_0 : decode cX21_act 0 = .ok (.iload_n 2, 1) := dk_28 (dk_at dksX21_act_0 0 rfl rfl)
theorem dX21_act_1 : decode cX21_act 1 = .ok (.ifCond .ne 22, 3) := dk_154 0 22 (dk_at dksX21_act_0 1 rfl rfl)
theorem dX21_act_4 : decode cX21_act 4 = .ok (.aload_n 1, 1) := dk_43 (dk_at dksX21_act_0 4 rfl rfl)
theorem dX21_act_5 : decode cX21_act 5 = .ok (.aload_n 1, 1) := dk_43 (dk_at dksX21_act_0 5 rfl rfl)
theorem dX21_act_6 : decode cX21_act 6 = .ok (.getfield 27, 3) := dk_180 0 27 (dk_at dksX21_act_0 6 rfl rfl)
theorem dX21_act_9 : decode cX21_act 9 = .ok (.ifCond .ne 7, 3) := dk_154 0 7 (dk_at dksX21_act_0 9 rfl rfl)
theorem dX21_act_12 : decode cX21_act 12 = .ok (.iconst 1, 1) := dk_4 (dk_at dksX21_act_0 12 rfl rfl)
theorem dX21_act_13 : decode cX21_act 13 = .ok (.goto 4, 3) := dk_167 0 4 (dk_at dksX21_act_0 13 rfl rfl)
theorem dX21_act_16 : decode cX21_act 16 = .ok (.iconst 0, 1) := dk_3 (dk_at dksX21_act_0 16 rfl rfl)
theorem dX21_act_17 : decode cX21_act 17 = .ok (.invokevirtual 31, 3) := dk_182 0 31 (dk_at dksX21_act_0 17 rfl rfl)
theorem dX21_act_20 : decode cX21_act 20 = .ok (.goto 20, 3) := dk_167 0 20 (dk_at dksX21_act_0 20 rfl rfl)
theorem dX21_act_23 : decode cX21_act 23 = .ok (.aload_n 1, 1) := dk_43 (dk_at dksX21_act_0 23 rfl rfl)
theorem dX21_act_24 : decode cX21_act 24 = .ok (.getfield 27, 3) := dk_180 0 27 (dk_at dksX21_act_1 0 rfl rfl)
theorem dX21_act_27 : decode cX21_act 27 = .ok (.ifCond .ne 13, 3) := dk_154 0 13 (dk_at dksX21_act_1 3 rfl rfl)
theorem dX21_act_30 : decode cX21_act 30 = .ok (.aload_n 1, 1) := dk_43 (dk_at dksX21_act_1 6 rfl rfl)
theorem dX21_act_31 : decode cX21_act 31 = .ok (.iconst 1, 1) := dk_4 (dk_at dksX21_act_1 7 rfl rfl)
theorem dX21_act_32 : decode cX21_act 32 = .ok (.putfield 35, 3) := dk_181 0 35 (dk_at dksX21_act_1 8 rfl rfl)
theorem dX21_act_35 : decode cX21_act 35 = .ok (.aload_n 1, 1) := dk_43 (dk_at dksX21_act_1 11 rfl rfl)
theorem dX21_act_36 : decode cX21_act 36 = .ok (.iconst 1, 1) := dk_4 (dk_at dksX21_act_1 12 rfl rfl)
theorem dX21_act_37 : decode cX21_act 37 = .ok (.invokevirtual 39, 3) := dk_182 0 39 (dk_at dksX21_act_1 13 rfl rfl)
theorem dX21_act_40 : decode cX21_act 40 = .ok (.return_, 1) := dk_177 (dk_at dksX21_act_1 16 rfl rfl)
theorem q373 : (Jvm.Cond.fieldLinkNest "ArbitratedBus$Phase$4" (35 : Nat) "ArbitratedBus$Node" "transmitter" "Z" "ArbitratedBus") ∈ lw_tbl := lw_at lw_m2 32 rfl
theorem q387 : (Jvm.Cond.fieldLinkNest "ArbitratedBus$Phase$4" (27 : Nat) "ArbitratedBus$Node" "driven" "I" "ArbitratedBus") ∈ lw_tbl := lw_at lw_m2 46 rfl
theorem q389 : (Jvm.Cond.fieldLinkNest "ArbitratedBus$Phase$4" (23 : Nat) "ArbitratedBus$Node" "current" "LArbitratedBus$Frame;" "ArbitratedBus") ∈ lw_tbl := lw_at lw_m2 48 rfl
theorem q394 : (Jvm.Cond.fieldLinkNest "ArbitratedBus$Phase$4" (9 : Nat) "ArbitratedBus$Node" "waiting" "Ljava/util/PriorityQueue;" "ArbitratedBus") ∈ lw_tbl := lw_at lw_m2 53 rfl
theorem q662 : (Jvm.Cond.selects "ArbitratedBus$Phase$4" ({ cls := "java/lang/Enum", name := "compareTo", desc := "(Ljava/lang/Enum;)I" } : Jvm.MethodName) ({ cls := "java/lang/Enum", name := "compareTo", desc := "(Ljava/lang/Enum;)I" } : Jvm.MethodName)) ∈ lw_all := lw_g (lw_at lw_m3 81 rfl) rfl
theorem q686 : (Jvm.Cond.selects "ArbitratedBus$Phase$4" ({ cls := "java/lang/Object", name := "getClass", desc := "()Ljava/lang/Class;" } : Jvm.MethodName) ({ cls := "java/lang/Object", name := "getClass", desc := "()Ljava/lang/Class;" } : Jvm.MethodName)) ∈ lw_all := lw_g (lw_at lw_m3 105 rfl) rfl
theorem q729 : (Jvm.Cond.selects "ArbitratedBus$Phase$4" ({ cls := "java/lang/Enum", name := "getDeclaringClass", desc := "()Ljava/lang/Class;" } : Jvm.MethodName) ({ cls := "java/lang/Enum", name := "getDeclaringClass", desc := "()Ljava/lang/Class;" } : Jvm.MethodName)) ∈ lw_all := lw_g (lw_at lw_m3 148 rfl) rfl
theorem q745 : (Jvm.Cond.castable "ArbitratedBus$Phase$4" "java/lang/Comparable") ∈ lw_tbl := lw_at lw_m3 164 rfl
theorem q746 : (Jvm.Cond.selects "ArbitratedBus$Phase$4" ({ cls := "java/lang/Comparable", name := "compareTo", desc := "(Ljava/lang/Object;)I" } : Jvm.MethodName) ({ cls := "java/lang/Enum", name := "compareTo", desc := "(Ljava/lang/Object;)I" } : Jvm.MethodName)) ∈ lw_all := lw_g (lw_at lw_m3 165 rfl) rfl
theorem q747 : (Jvm.Cond.unhidden "ArbitratedBus$Phase$4" "compareTo" "(Ljava/lang/Object;)I") ∈ lw_tbl := lw_at lw_m3 166 rfl
theorem q1111 : (Jvm.Cond.selects "ArbitratedBus$Phase$4" ({ cls := "ArbitratedBus$Phase", name := "ordinal", desc := "()I" } : Jvm.MethodName) ({ cls := "java/lang/Enum", name := "ordinal", desc := "()I" } : Jvm.MethodName)) ∈ lw_all := lw_g (lw_at lw_m5 50 rfl) rfl
theorem q1825 : (Jvm.Cond.selects "ArbitratedBus$Phase$4" ({ cls := "ArbitratedBus$Phase", name := "drive", desc := "(LArbitratedBus$Node;)I" } : Jvm.MethodName) ({ cls := "ArbitratedBus$Phase$4", name := "drive", desc := "(LArbitratedBus$Node;)I" } : Jvm.MethodName)) ∈ lw_all := lw_g (lw_at lw_m8 44 rfl) rfl
theorem q1826 : (Jvm.Cond.instanceMethod ({ cls := "ArbitratedBus$Phase$4", name := "drive", desc := "(LArbitratedBus$Node;)I" } : Jvm.MethodName)) ∈ lw_all := lw_g (lw_at lw_m8 45 rfl) rfl
theorem q1827 : (Jvm.Cond.code ({ cls := "ArbitratedBus$Phase$4", name := "drive", desc := "(LArbitratedBus$Node;)I" } : Jvm.MethodName) prog_16_method_2_code (2 : Nat) (Option.some Jvm.ClassFile.FieldType.int)) ∈ lw_all := lw_g (lw_at lw_m8 46 rfl) rfl
theorem q1828 : (Jvm.Cond.methodLink "ArbitratedBus$Phase$4" (15 : Nat) ({ cls := "java/util/PriorityQueue", name := "peek", desc := "()Ljava/lang/Object;" } : Jvm.MethodName)) ∈ lw_all := lw_g (lw_at lw_m8 47 rfl) rfl
theorem q1832 : (Jvm.Cond.classLink "ArbitratedBus$Phase$4" (21 : Nat) "ArbitratedBus$Frame") ∈ lw_all := lw_g (lw_at lw_m8 51 rfl) rfl
theorem q2184 : (Jvm.Cond.selects "ArbitratedBus$Phase$4" ({ cls := "ArbitratedBus$Phase", name := "act", desc := "(LArbitratedBus$Node;I)V" } : Jvm.MethodName) ({ cls := "ArbitratedBus$Phase$4", name := "act", desc := "(LArbitratedBus$Node;I)V" } : Jvm.MethodName)) ∈ lw_all := lw_g (lw_at lw_m9 163 rfl) rfl
theorem q2185 : (Jvm.Cond.instanceMethod ({ cls := "ArbitratedBus$Phase$4", name := "act", desc := "(LArbitratedBus$Node;I)V" } : Jvm.MethodName)) ∈ lw_all := lw_g (lw_at lw_m9 164 rfl) rfl
theorem q2186 : (Jvm.Cond.code ({ cls := "ArbitratedBus$Phase$4", name := "act", desc := "(LArbitratedBus$Node;I)V" } : Jvm.MethodName) prog_16_method_3_code (3 : Nat) (Option.none : Option Jvm.ClassFile.FieldType)) ∈ lw_all := lw_g (lw_at lw_m9 165 rfl) rfl
theorem q2187 : (Jvm.Cond.methodLinkNest "ArbitratedBus$Phase$4" (31 : Nat) ({ cls := "ArbitratedBus$Node", name := "begin", desc := "(Z)V" } : Jvm.MethodName) "ArbitratedBus") ∈ lw_tbl := lw_at lw_m9 166 rfl
theorem q2188 : (Jvm.Cond.methodLinkNest "ArbitratedBus$Phase$4" (39 : Nat) ({ cls := "ArbitratedBus$Node", name := "fail", desc := "(I)V" } : Jvm.MethodName) "ArbitratedBus") ∈ lw_tbl := lw_at lw_m9 167 rfl
theorem q3410 : (Jvm.Cond.castable "ArbitratedBus$Phase$4" "java/lang/Enum") ∈ lw_tbl := lw_at lw_m14 189 rfl
theorem q3420 : (Jvm.Cond.castable "ArbitratedBus$Phase$4" "java/lang/Object") ∈ lw_tbl := lw_at lw_m14 199 rfl

/-! ArbitratedBus$Phase$6 -/
set_option maxRecDepth 100000
def RX22 : String := "ArbitratedBus$Phase$6"
abbrev cX22_drive : ByteArray := prog_18_method_2_code
def yX22_drive : MethodName := ⟨RX22, "drive", "(LArbitratedBus$Node;)I"⟩
def dkwX22_drive_0 : List UInt8 := [43, 180, 0, 7, 153, 0, 7, 3, 167, 0, 4, 4, 172]
abbrev dktX22_drive_0 : List UInt8 := dkwX22_drive_0 ++ []
theorem dksX22_drive_0 : cX22_drive.data.toList.drop 0 = dktX22_drive_0 := by decide +kernel
theorem dX22_drive_0 : decode cX22_drive 0 = .ok (.aload_n 1, 1) := dk_43 (dk_at dksX22_drive_0 0 rfl rfl)
theorem dX22_drive_1 : decode cX22_drive 1 = .ok (.getfield 7, 3) := dk_180 0 7 (dk_at dksX22_drive_0 1 rfl rfl)
theorem dX22_drive_4 : decode cX22_drive 4 = .ok (.ifCond .eq 7, 3) := dk_153 0 7 (dk_at dksX22_drive_0 4 rfl rfl)
theorem dX22_drive_7 : decode cX22_drive 7 = .ok (.iconst 0, 1) := dk_3 (dk_at dksX22_drive_0 7 rfl rfl)
theorem dX22_drive_8 : decode cX22_drive 8 = .ok (.goto 4, 3) := dk_167 0 4 (dk_at dksX22_drive_0 8 rfl rfl)
theorem dX22_drive_11 : decode cX22_drive 11 = .ok (.iconst 1, 1) := dk_4 (dk_at dksX22_drive_0 11 rfl rfl)
theorem dX22_drive_12 : decode cX22_drive 12 = .ok (.ireturn, 1) := dk_172 (dk_at dksX22_drive_0 12 rfl rfl)
abbrev cX22_act : ByteArray := prog_18_method_3_code
def yX22_act : MethodName := ⟨RX22, "act", "(LArbitratedBus$Node;I)V"⟩
def dkwX22_act_0 : List UInt8 := [43, 4, 182, 0, 13, 177]
abbrev dktX22_act_0 : List UInt8 := dkwX22_act_0 ++ []
theorem dksX22_act_0 : cX22_act.data.toList.drop 0 = dktX22_act_0 := by decide +kernel
theorem dX22_act_0 : decode cX22_act 0 = .ok (.aload_n 1, 1) := dk_43 (dk_at dksX22_act_0 0 rfl rfl)
theorem dX22_act_1 : decode cX22_act 1 = .ok (.iconst 1, 1) := dk_4 (dk_at dksX22_act_0 1 rfl rfl)
theorem dX22_act_2 : decode cX22_act 2 = .ok (.invokevirtual 13, 3) := dk_182 0 13 (dk_at dksX22_act_0 2 rfl rfl)
theorem dX22_act_5 : decode cX22_act 5 = .ok (.return_, 1) := dk_177 (dk_at dksX22_act_0 5 rfl rfl)
theorem q383 : (Jvm.Cond.fieldLinkNest "ArbitratedBus$Phase$6" (7 : Nat) "ArbitratedBus$Node" "active" "Z" "ArbitratedBus") ∈ lw_tbl := lw_at lw_m2 42 rfl
theorem q664 : (Jvm.Cond.selects "ArbitratedBus$Phase$6" ({ cls := "java/lang/Enum", name := "compareTo", desc := "(Ljava/lang/Enum;)I" } : Jvm.MethodName) ({ cls := "java/lang/Enum", name := "compareTo", desc := "(Ljava/lang/Enum;)I" } : Jvm.MethodName)) ∈ lw_all := lw_g (lw_at lw_m3 83 rfl) rfl
theorem q688 : (Jvm.Cond.selects "ArbitratedBus$Phase$6" ({ cls := "java/lang/Object", name := "getClass", desc := "()Ljava/lang/Class;" } : Jvm.MethodName) ({ cls := "java/lang/Object", name := "getClass", desc := "()Ljava/lang/Class;" } : Jvm.MethodName)) ∈ lw_all := lw_g (lw_at lw_m3 107 rfl) rfl
theorem q731 : (Jvm.Cond.selects "ArbitratedBus$Phase$6" ({ cls := "java/lang/Enum", name := "getDeclaringClass", desc := "()Ljava/lang/Class;" } : Jvm.MethodName) ({ cls := "java/lang/Enum", name := "getDeclaringClass", desc := "()Ljava/lang/Class;" } : Jvm.MethodName)) ∈ lw_all := lw_g (lw_at lw_m3 150 rfl) rfl
theorem q751 : (Jvm.Cond.castable "ArbitratedBus$Phase$6" "java/lang/Comparable") ∈ lw_tbl := lw_at lw_m3 170 rfl
theorem q752 : (Jvm.Cond.selects "ArbitratedBus$Phase$6" ({ cls := "java/lang/Comparable", name := "compareTo", desc := "(Ljava/lang/Object;)I" } : Jvm.MethodName) ({ cls := "java/lang/Enum", name := "compareTo", desc := "(Ljava/lang/Object;)I" } : Jvm.MethodName)) ∈ lw_all := lw_g (lw_at lw_m3 171 rfl) rfl
theorem q753 : (Jvm.Cond.unhidden "ArbitratedBus$Phase$6" "compareTo" "(Ljava/lang/Object;)I") ∈ lw_tbl := lw_at lw_m3 172 rfl
theorem q1113 : (Jvm.Cond.selects "ArbitratedBus$Phase$6" ({ cls := "ArbitratedBus$Phase", name := "ordinal", desc := "()I" } : Jvm.MethodName) ({ cls := "java/lang/Enum", name := "ordinal", desc := "()I" } : Jvm.MethodName)) ∈ lw_all := lw_g (lw_at lw_m5 52 rfl) rfl
theorem q1862 : (Jvm.Cond.selects "ArbitratedBus$Phase$6" ({ cls := "ArbitratedBus$Phase", name := "drive", desc := "(LArbitratedBus$Node;)I" } : Jvm.MethodName) ({ cls := "ArbitratedBus$Phase$6", name := "drive", desc := "(LArbitratedBus$Node;)I" } : Jvm.MethodName)) ∈ lw_all := lw_g (lw_at lw_m8 81 rfl) rfl
theorem q1863 : (Jvm.Cond.instanceMethod ({ cls := "ArbitratedBus$Phase$6", name := "drive", desc := "(LArbitratedBus$Node;)I" } : Jvm.MethodName)) ∈ lw_all := lw_g (lw_at lw_m8 82 rfl) rfl
theorem q1864 : (Jvm.Cond.code ({ cls := "ArbitratedBus$Phase$6", name := "drive", desc := "(LArbitratedBus$Node;)I" } : Jvm.MethodName) prog_18_method_2_code (2 : Nat) (Option.some Jvm.ClassFile.FieldType.int)) ∈ lw_all := lw_g (lw_at lw_m8 83 rfl) rfl
theorem q2251 : (Jvm.Cond.selects "ArbitratedBus$Phase$6" ({ cls := "ArbitratedBus$Phase", name := "act", desc := "(LArbitratedBus$Node;I)V" } : Jvm.MethodName) ({ cls := "ArbitratedBus$Phase$6", name := "act", desc := "(LArbitratedBus$Node;I)V" } : Jvm.MethodName)) ∈ lw_all := lw_g (lw_at lw_m9 230 rfl) rfl
theorem q2252 : (Jvm.Cond.instanceMethod ({ cls := "ArbitratedBus$Phase$6", name := "act", desc := "(LArbitratedBus$Node;I)V" } : Jvm.MethodName)) ∈ lw_all := lw_g (lw_at lw_m9 231 rfl) rfl
theorem q2253 : (Jvm.Cond.code ({ cls := "ArbitratedBus$Phase$6", name := "act", desc := "(LArbitratedBus$Node;I)V" } : Jvm.MethodName) prog_18_method_3_code (3 : Nat) (Option.none : Option Jvm.ClassFile.FieldType)) ∈ lw_all := lw_g (lw_at lw_m9 232 rfl) rfl
theorem q2254 : (Jvm.Cond.methodLinkNest "ArbitratedBus$Phase$6" (13 : Nat) ({ cls := "ArbitratedBus$Node", name := "flagBit", desc := "(Z)V" } : Jvm.MethodName) "ArbitratedBus") ∈ lw_tbl := lw_at lw_m9 233 rfl
theorem q3412 : (Jvm.Cond.castable "ArbitratedBus$Phase$6" "java/lang/Enum") ∈ lw_tbl := lw_at lw_m14 191 rfl
theorem q3448 : (Jvm.Cond.castable "ArbitratedBus$Phase$6" "java/lang/Object") ∈ lw_tbl := lw_at lw_m14 227 rfl

/-! ArbitratedBus$Phase$5 -/
set_option maxRecDepth 100000
def RX23 : String := "ArbitratedBus$Phase$5"
abbrev cX23_drive : ByteArray := prog_17_method_2_code
def yX23_drive : MethodName := ⟨RX23, "drive", "(LArbitratedBus$Node;)I"⟩
theorem dX23_drive_0 : decode cX23_drive 0 = .ok (.aload_n 1, 1) := by decide +kernel
theorem dX23_drive_1 : decode cX23_drive 1 = .ok (.invokevirtual 7, 3) := by decide +kernel
theorem dX23_drive_4 : decode cX23_drive 4 = .ok (.ireturn, 1) := by decide +kernel
abbrev cX23_act : ByteArray := prog_17_method_3_code
def yX23_act : MethodName := ⟨RX23, "act", "(LArbitratedBus$Node;I)V"⟩
def dkwX23_act_0 : List UInt8 := [43, 180, 0, 13, 182, 0, 17, 153, 0, 11, 43, 28, 182, 0, 23, 167, 0, 8, 43, 28, 182, 0, 27, 177]
abbrev dktX23_act_0 : List UInt8 := dkwX23_act_0 ++ []
theorem dksX23_act_0 : cX23_act.data.toList.drop 0 = dktX23_act_0 := by decide +kernel
theorem dX23_act_0 : decode cX23_act 0 = .ok (.aload_n 1, 1) := dk_43 (dk_at dksX23_act_0 0 rfl rfl)
theorem dX23_act_1 : decode cX23_act 1 = .ok (.getfield 13, 3) := dk_180 0 13 (dk_at dksX23_act_0 1 rfl rfl)
theorem dX23_act_4 : decode cX23_act 4 = .ok (.invokevirtual 17, 3) := dk_182 0 17 (dk_at dksX23_act_0 4 rfl rfl)
theorem dX23_act_7 : decode cX23_act 7 = .ok (.ifCond .eq 11, 3) := dk_153 0 11 (dk_at dksX23_act_0 7 rfl rfl)
theorem dX23_act_10 : decode cX23_act 10 = .ok (.aload_n 1, 1) := dk_43 (dk_at dksX23_act_0 10 rfl rfl)
theorem dX23_act_11 : decode cX23_act 11 = .ok (.iload_n 2, 1) := dk_28 (dk_at dksX23_act_0 11 rfl rfl)
theorem dX23_act_12 : decode cX23_act 12 = .ok (.invokevirtual 23, 3) := dk_182 0 23 (dk_at dksX23_act_0 12 rfl rfl)
theorem dX23_act_15 : decode cX23_act 15 = .ok (.goto 8, 3) := dk_167 0 8 (dk_at dksX23_act_0 15 rfl rfl)
theorem dX23_act_18 : decode cX23_act 18 = .ok (.aload_n 1, 1) := dk_43 (dk_at dksX23_act_0 18 rfl rfl)
theorem dX23_act_19 : decode cX23_act 19 = .ok (.iload_n 2, 1) := dk_28 (dk_at dksX23_act_0 19 rfl rfl)
theorem dX23_act_20 : decode cX23_act 20 = .ok (.invokevirtual 27, 3) := dk_182 0 27 (dk_at dksX23_act_0 20 rfl rfl)
theorem dX23_act_23 : decode cX23_act 23 = .ok (.return_, 1) := dk_177 (dk_at dksX23_act_0 23 rfl rfl)
theorem q392 : (Jvm.Cond.fieldLinkNest "ArbitratedBus$Phase$5" (13 : Nat) "ArbitratedBus$Node" "sampled" "LArbitratedBus$Sampled;" "ArbitratedBus") ∈ lw_tbl := lw_at lw_m2 51 rfl
theorem q663 : (Jvm.Cond.selects "ArbitratedBus$Phase$5" ({ cls := "java/lang/Enum", name := "compareTo", desc := "(Ljava/lang/Enum;)I" } : Jvm.MethodName) ({ cls := "java/lang/Enum", name := "compareTo", desc := "(Ljava/lang/Enum;)I" } : Jvm.MethodName)) ∈ lw_all := lw_g (lw_at lw_m3 82 rfl) rfl
theorem q687 : (Jvm.Cond.selects "ArbitratedBus$Phase$5" ({ cls := "java/lang/Object", name := "getClass", desc := "()Ljava/lang/Class;" } : Jvm.MethodName) ({ cls := "java/lang/Object", name := "getClass", desc := "()Ljava/lang/Class;" } : Jvm.MethodName)) ∈ lw_all := lw_g (lw_at lw_m3 106 rfl) rfl
theorem q730 : (Jvm.Cond.selects "ArbitratedBus$Phase$5" ({ cls := "java/lang/Enum", name := "getDeclaringClass", desc := "()Ljava/lang/Class;" } : Jvm.MethodName) ({ cls := "java/lang/Enum", name := "getDeclaringClass", desc := "()Ljava/lang/Class;" } : Jvm.MethodName)) ∈ lw_all := lw_g (lw_at lw_m3 149 rfl) rfl
theorem q748 : (Jvm.Cond.castable "ArbitratedBus$Phase$5" "java/lang/Comparable") ∈ lw_tbl := lw_at lw_m3 167 rfl
theorem q749 : (Jvm.Cond.selects "ArbitratedBus$Phase$5" ({ cls := "java/lang/Comparable", name := "compareTo", desc := "(Ljava/lang/Object;)I" } : Jvm.MethodName) ({ cls := "java/lang/Enum", name := "compareTo", desc := "(Ljava/lang/Object;)I" } : Jvm.MethodName)) ∈ lw_all := lw_g (lw_at lw_m3 168 rfl) rfl
theorem q750 : (Jvm.Cond.unhidden "ArbitratedBus$Phase$5" "compareTo" "(Ljava/lang/Object;)I") ∈ lw_tbl := lw_at lw_m3 169 rfl
theorem q1112 : (Jvm.Cond.selects "ArbitratedBus$Phase$5" ({ cls := "ArbitratedBus$Phase", name := "ordinal", desc := "()I" } : Jvm.MethodName) ({ cls := "java/lang/Enum", name := "ordinal", desc := "()I" } : Jvm.MethodName)) ∈ lw_all := lw_g (lw_at lw_m5 51 rfl) rfl
theorem q1833 : (Jvm.Cond.selects "ArbitratedBus$Phase$5" ({ cls := "ArbitratedBus$Phase", name := "drive", desc := "(LArbitratedBus$Node;)I" } : Jvm.MethodName) ({ cls := "ArbitratedBus$Phase$5", name := "drive", desc := "(LArbitratedBus$Node;)I" } : Jvm.MethodName)) ∈ lw_all := lw_g (lw_at lw_m8 52 rfl) rfl
theorem q1834 : (Jvm.Cond.instanceMethod ({ cls := "ArbitratedBus$Phase$5", name := "drive", desc := "(LArbitratedBus$Node;)I" } : Jvm.MethodName)) ∈ lw_all := lw_g (lw_at lw_m8 53 rfl) rfl
theorem q1835 : (Jvm.Cond.code ({ cls := "ArbitratedBus$Phase$5", name := "drive", desc := "(LArbitratedBus$Node;)I" } : Jvm.MethodName) prog_17_method_2_code (2 : Nat) (Option.some Jvm.ClassFile.FieldType.int)) ∈ lw_all := lw_g (lw_at lw_m8 54 rfl) rfl
theorem q1836 : (Jvm.Cond.methodLinkNest "ArbitratedBus$Phase$5" (7 : Nat) ({ cls := "ArbitratedBus$Node", name := "driveFrame", desc := "()I" } : Jvm.MethodName) "ArbitratedBus") ∈ lw_tbl := lw_at lw_m8 55 rfl
theorem q2205 : (Jvm.Cond.selects "ArbitratedBus$Phase$5" ({ cls := "ArbitratedBus$Phase", name := "act", desc := "(LArbitratedBus$Node;I)V" } : Jvm.MethodName) ({ cls := "ArbitratedBus$Phase$5", name := "act", desc := "(LArbitratedBus$Node;I)V" } : Jvm.MethodName)) ∈ lw_all := lw_g (lw_at lw_m9 184 rfl) rfl
theorem q2206 : (Jvm.Cond.instanceMethod ({ cls := "ArbitratedBus$Phase$5", name := "act", desc := "(LArbitratedBus$Node;I)V" } : Jvm.MethodName)) ∈ lw_all := lw_g (lw_at lw_m9 185 rfl) rfl
theorem q2207 : (Jvm.Cond.code ({ cls := "ArbitratedBus$Phase$5", name := "act", desc := "(LArbitratedBus$Node;I)V" } : Jvm.MethodName) prog_17_method_3_code (3 : Nat) (Option.none : Option Jvm.ClassFile.FieldType)) ∈ lw_all := lw_g (lw_at lw_m9 186 rfl) rfl
theorem q2208 : (Jvm.Cond.methodLink "ArbitratedBus$Phase$5" (17 : Nat) ({ cls := "ArbitratedBus$Sampled", name := "isStuffed", desc := "()Z" } : Jvm.MethodName)) ∈ lw_all := lw_g (lw_at lw_m9 187 rfl) rfl
theorem q2209 : (Jvm.Cond.methodLinkNest "ArbitratedBus$Phase$5" (23 : Nat) ({ cls := "ArbitratedBus$Node", name := "stuffedPart", desc := "(I)V" } : Jvm.MethodName) "ArbitratedBus") ∈ lw_tbl := lw_at lw_m9 188 rfl
theorem q2214 : (Jvm.Cond.methodLinkNest "ArbitratedBus$Phase$5" (27 : Nat) ({ cls := "ArbitratedBus$Node", name := "tail", desc := "(I)V" } : Jvm.MethodName) "ArbitratedBus") ∈ lw_tbl := lw_at lw_m9 193 rfl
theorem q3411 : (Jvm.Cond.castable "ArbitratedBus$Phase$5" "java/lang/Enum") ∈ lw_tbl := lw_at lw_m14 190 rfl
theorem q3435 : (Jvm.Cond.castable "ArbitratedBus$Phase$5" "java/lang/Object") ∈ lw_tbl := lw_at lw_m14 214 rfl

/-! ArbitratedBus$Phase$1 -/
set_option maxRecDepth 100000
def RX24 : String := "ArbitratedBus$Phase$1"
abbrev cX24_act : ByteArray := prog_12_method_2_code
def yX24_act : MethodName := ⟨RX24, "act", "(LArbitratedBus$Node;I)V"⟩
theorem dX24_act_0 : decode cX24_act 0 = .ok (.return_, 1) := by decide +kernel
theorem q648 : (Jvm.Cond.castable "ArbitratedBus$Phase$1" "java/lang/Comparable") ∈ lw_tbl := lw_at lw_m3 67 rfl
theorem q649 : (Jvm.Cond.selects "ArbitratedBus$Phase$1" ({ cls := "java/lang/Comparable", name := "compareTo", desc := "(Ljava/lang/Object;)I" } : Jvm.MethodName) ({ cls := "java/lang/Enum", name := "compareTo", desc := "(Ljava/lang/Object;)I" } : Jvm.MethodName)) ∈ lw_all := lw_g (lw_at lw_m3 68 rfl) rfl
theorem q650 : (Jvm.Cond.unhidden "ArbitratedBus$Phase$1" "compareTo" "(Ljava/lang/Object;)I") ∈ lw_tbl := lw_at lw_m3 69 rfl
theorem q658 : (Jvm.Cond.selects "ArbitratedBus$Phase$1" ({ cls := "java/lang/Enum", name := "compareTo", desc := "(Ljava/lang/Enum;)I" } : Jvm.MethodName) ({ cls := "java/lang/Enum", name := "compareTo", desc := "(Ljava/lang/Enum;)I" } : Jvm.MethodName)) ∈ lw_all := lw_g (lw_at lw_m3 77 rfl) rfl
theorem q682 : (Jvm.Cond.selects "ArbitratedBus$Phase$1" ({ cls := "java/lang/Object", name := "getClass", desc := "()Ljava/lang/Class;" } : Jvm.MethodName) ({ cls := "java/lang/Object", name := "getClass", desc := "()Ljava/lang/Class;" } : Jvm.MethodName)) ∈ lw_all := lw_g (lw_at lw_m3 101 rfl) rfl
theorem q725 : (Jvm.Cond.selects "ArbitratedBus$Phase$1" ({ cls := "java/lang/Enum", name := "getDeclaringClass", desc := "()Ljava/lang/Class;" } : Jvm.MethodName) ({ cls := "java/lang/Enum", name := "getDeclaringClass", desc := "()Ljava/lang/Class;" } : Jvm.MethodName)) ∈ lw_all := lw_g (lw_at lw_m3 144 rfl) rfl
theorem q1107 : (Jvm.Cond.selects "ArbitratedBus$Phase$1" ({ cls := "ArbitratedBus$Phase", name := "ordinal", desc := "()I" } : Jvm.MethodName) ({ cls := "java/lang/Enum", name := "ordinal", desc := "()I" } : Jvm.MethodName)) ∈ lw_all := lw_g (lw_at lw_m5 46 rfl) rfl
theorem q1821 : (Jvm.Cond.selects "ArbitratedBus$Phase$1" ({ cls := "ArbitratedBus$Phase", name := "drive", desc := "(LArbitratedBus$Node;)I" } : Jvm.MethodName) ({ cls := "ArbitratedBus$Phase", name := "drive", desc := "(LArbitratedBus$Node;)I" } : Jvm.MethodName)) ∈ lw_all := lw_g (lw_at lw_m8 40 rfl) rfl
theorem q2125 : (Jvm.Cond.selects "ArbitratedBus$Phase$1" ({ cls := "ArbitratedBus$Phase", name := "act", desc := "(LArbitratedBus$Node;I)V" } : Jvm.MethodName) ({ cls := "ArbitratedBus$Phase$1", name := "act", desc := "(LArbitratedBus$Node;I)V" } : Jvm.MethodName)) ∈ lw_all := lw_g (lw_at lw_m9 104 rfl) rfl
theorem q2126 : (Jvm.Cond.instanceMethod ({ cls := "ArbitratedBus$Phase$1", name := "act", desc := "(LArbitratedBus$Node;I)V" } : Jvm.MethodName)) ∈ lw_all := lw_g (lw_at lw_m9 105 rfl) rfl
theorem q2127 : (Jvm.Cond.code ({ cls := "ArbitratedBus$Phase$1", name := "act", desc := "(LArbitratedBus$Node;I)V" } : Jvm.MethodName) prog_12_method_2_code (3 : Nat) (Option.none : Option Jvm.ClassFile.FieldType)) ∈ lw_all := lw_g (lw_at lw_m9 106 rfl) rfl
theorem q3406 : (Jvm.Cond.castable "ArbitratedBus$Phase$1" "java/lang/Enum") ∈ lw_tbl := lw_at lw_m14 185 rfl
theorem q3431 : (Jvm.Cond.castable "ArbitratedBus$Phase$1" "java/lang/Object") ∈ lw_tbl := lw_at lw_m14 210 rfl

/-! ArbitratedBus$Phase$7 -/
set_option maxRecDepth 100000
def RX25 : String := "ArbitratedBus$Phase$7"
abbrev cX25_drive : ByteArray := prog_19_method_2_code
def yX25_drive : MethodName := ⟨RX25, "drive", "(LArbitratedBus$Node;)I"⟩
theorem dX25_drive_0 : decode cX25_drive 0 = .ok (.iconst 0, 1) := by decide +kernel
theorem dX25_drive_1 : decode cX25_drive 1 = .ok (.ireturn, 1) := by decide +kernel
abbrev cX25_act : ByteArray := prog_19_method_3_code
def yX25_act : MethodName := ⟨RX25, "act", "(LArbitratedBus$Node;I)V"⟩
def dkwX25_act_0 : List UInt8 := [43, 3, 182, 0, 7, 177]
abbrev dktX25_act_0 : List UInt8 := dkwX25_act_0 ++ []
theorem dksX25_act_0 : cX25_act.data.toList.drop 0 = dktX25_act_0 := by decide +kernel
theorem dX25_act_0 : decode cX25_act 0 = .ok (.aload_n 1, 1) := dk_43 (dk_at dksX25_act_0 0 rfl rfl)
theorem dX25_act_1 : decode cX25_act 1 = .ok (.iconst 0, 1) := dk_3 (dk_at dksX25_act_0 1 rfl rfl)
theorem dX25_act_2 : decode cX25_act 2 = .ok (.invokevirtual 7, 3) := dk_182 0 7 (dk_at dksX25_act_0 2 rfl rfl)
theorem dX25_act_5 : decode cX25_act 5 = .ok (.return_, 1) := dk_177 (dk_at dksX25_act_0 5 rfl rfl)
theorem q665 : (Jvm.Cond.selects "ArbitratedBus$Phase$7" ({ cls := "java/lang/Enum", name := "compareTo", desc := "(Ljava/lang/Enum;)I" } : Jvm.MethodName) ({ cls := "java/lang/Enum", name := "compareTo", desc := "(Ljava/lang/Enum;)I" } : Jvm.MethodName)) ∈ lw_all := lw_g (lw_at lw_m3 84 rfl) rfl
theorem q689 : (Jvm.Cond.selects "ArbitratedBus$Phase$7" ({ cls := "java/lang/Object", name := "getClass", desc := "()Ljava/lang/Class;" } : Jvm.MethodName) ({ cls := "java/lang/Object", name := "getClass", desc := "()Ljava/lang/Class;" } : Jvm.MethodName)) ∈ lw_all := lw_g (lw_at lw_m3 108 rfl) rfl
theorem q732 : (Jvm.Cond.selects "ArbitratedBus$Phase$7" ({ cls := "java/lang/Enum", name := "getDeclaringClass", desc := "()Ljava/lang/Class;" } : Jvm.MethodName) ({ cls := "java/lang/Enum", name := "getDeclaringClass", desc := "()Ljava/lang/Class;" } : Jvm.MethodName)) ∈ lw_all := lw_g (lw_at lw_m3 151 rfl) rfl
theorem q754 : (Jvm.Cond.castable "ArbitratedBus$Phase$7" "java/lang/Comparable") ∈ lw_tbl := lw_at lw_m3 173 rfl
theorem q755 : (Jvm.Cond.selects "ArbitratedBus$Phase$7" ({ cls := "java/lang/Comparable", name := "compareTo", desc := "(Ljava/lang/Object;)I" } : Jvm.MethodName) ({ cls := "java/lang/Enum", name := "compareTo", desc := "(Ljava/lang/Object;)I" } : Jvm.MethodName)) ∈ lw_all := lw_g (lw_at lw_m3 174 rfl) rfl
theorem q756 : (Jvm.Cond.unhidden "ArbitratedBus$Phase$7" "compareTo" "(Ljava/lang/Object;)I") ∈ lw_tbl := lw_at lw_m3 175 rfl
theorem q1114 : (Jvm.Cond.selects "ArbitratedBus$Phase$7" ({ cls := "ArbitratedBus$Phase", name := "ordinal", desc := "()I" } : Jvm.MethodName) ({ cls := "java/lang/Enum", name := "ordinal", desc := "()I" } : Jvm.MethodName)) ∈ lw_all := lw_g (lw_at lw_m5 53 rfl) rfl
theorem q1865 : (Jvm.Cond.selects "ArbitratedBus$Phase$7" ({ cls := "ArbitratedBus$Phase", name := "drive", desc := "(LArbitratedBus$Node;)I" } : Jvm.MethodName) ({ cls := "ArbitratedBus$Phase$7", name := "drive", desc := "(LArbitratedBus$Node;)I" } : Jvm.MethodName)) ∈ lw_all := lw_g (lw_at lw_m8 84 rfl) rfl
theorem q1866 : (Jvm.Cond.instanceMethod ({ cls := "ArbitratedBus$Phase$7", name := "drive", desc := "(LArbitratedBus$Node;)I" } : Jvm.MethodName)) ∈ lw_all := lw_g (lw_at lw_m8 85 rfl) rfl
theorem q1867 : (Jvm.Cond.code ({ cls := "ArbitratedBus$Phase$7", name := "drive", desc := "(LArbitratedBus$Node;)I" } : Jvm.MethodName) prog_19_method_2_code (2 : Nat) (Option.some Jvm.ClassFile.FieldType.int)) ∈ lw_all := lw_g (lw_at lw_m8 86 rfl) rfl
theorem q2261 : (Jvm.Cond.selects "ArbitratedBus$Phase$7" ({ cls := "ArbitratedBus$Phase", name := "act", desc := "(LArbitratedBus$Node;I)V" } : Jvm.MethodName) ({ cls := "ArbitratedBus$Phase$7", name := "act", desc := "(LArbitratedBus$Node;I)V" } : Jvm.MethodName)) ∈ lw_all := lw_g (lw_at lw_m10 0 rfl) rfl
theorem q2262 : (Jvm.Cond.instanceMethod ({ cls := "ArbitratedBus$Phase$7", name := "act", desc := "(LArbitratedBus$Node;I)V" } : Jvm.MethodName)) ∈ lw_all := lw_g (lw_at lw_m10 1 rfl) rfl
theorem q2263 : (Jvm.Cond.code ({ cls := "ArbitratedBus$Phase$7", name := "act", desc := "(LArbitratedBus$Node;I)V" } : Jvm.MethodName) prog_19_method_3_code (3 : Nat) (Option.none : Option Jvm.ClassFile.FieldType)) ∈ lw_all := lw_g (lw_at lw_m10 2 rfl) rfl
theorem q2264 : (Jvm.Cond.methodLinkNest "ArbitratedBus$Phase$7" (7 : Nat) ({ cls := "ArbitratedBus$Node", name := "flagBit", desc := "(Z)V" } : Jvm.MethodName) "ArbitratedBus") ∈ lw_tbl := lw_at lw_m10 3 rfl
theorem q3413 : (Jvm.Cond.castable "ArbitratedBus$Phase$7" "java/lang/Enum") ∈ lw_tbl := lw_at lw_m14 192 rfl
theorem q3449 : (Jvm.Cond.castable "ArbitratedBus$Phase$7" "java/lang/Object") ∈ lw_tbl := lw_at lw_m14 228 rfl

/-! ArbitratedBus$Phase$8 -/
set_option maxRecDepth 100000
def RX26 : String := "ArbitratedBus$Phase$8"
abbrev cX26_act : ByteArray := prog_20_method_2_code
def yX26_act : MethodName := ⟨RX26, "act", "(LArbitratedBus$Node;I)V"⟩
def dkwX26_act_0 : List UInt8 := [43, 28, 182, 0, 7, 177]
abbrev dktX26_act_0 : List UInt8 := dkwX26_act_0 ++ []
theorem dksX26_act_0 : cX26_act.data.toList.drop 0 = dktX26_act_0 := by decide +kernel
theorem dX26_act_0 : decode cX26_act 0 = .ok (.aload_n 1, 1) := dk_43 (dk_at dksX26_act_0 0 rfl rfl)
theorem dX26_act_1 : decode cX26_act 1 = .ok (.iload_n 2, 1) := dk_28 (dk_at dksX26_act_0 1 rfl rfl)
theorem dX26_act_2 : decode cX26_act 2 = .ok (.invokevirtual 7, 3) := dk_182 0 7 (dk_at dksX26_act_0 2 rfl rfl)
theorem dX26_act_5 : decode cX26_act 5 = .ok (.return_, 1) := dk_177 (dk_at dksX26_act_0 5 rfl rfl)
theorem q666 : (Jvm.Cond.selects "ArbitratedBus$Phase$8" ({ cls := "java/lang/Enum", name := "compareTo", desc := "(Ljava/lang/Enum;)I" } : Jvm.MethodName) ({ cls := "java/lang/Enum", name := "compareTo", desc := "(Ljava/lang/Enum;)I" } : Jvm.MethodName)) ∈ lw_all := lw_g (lw_at lw_m3 85 rfl) rfl
theorem q690 : (Jvm.Cond.selects "ArbitratedBus$Phase$8" ({ cls := "java/lang/Object", name := "getClass", desc := "()Ljava/lang/Class;" } : Jvm.MethodName) ({ cls := "java/lang/Object", name := "getClass", desc := "()Ljava/lang/Class;" } : Jvm.MethodName)) ∈ lw_all := lw_g (lw_at lw_m3 109 rfl) rfl
theorem q733 : (Jvm.Cond.selects "ArbitratedBus$Phase$8" ({ cls := "java/lang/Enum", name := "getDeclaringClass", desc := "()Ljava/lang/Class;" } : Jvm.MethodName) ({ cls := "java/lang/Enum", name := "getDeclaringClass", desc := "()Ljava/lang/Class;" } : Jvm.MethodName)) ∈ lw_all := lw_g (lw_at lw_m3 152 rfl) rfl
theorem q757 : (Jvm.Cond.castable "ArbitratedBus$Phase$8" "java/lang/Comparable") ∈ lw_tbl := lw_at lw_m3 176 rfl
theorem q758 : (Jvm.Cond.selects "ArbitratedBus$Phase$8" ({ cls := "java/lang/Comparable", name := "compareTo", desc := "(Ljava/lang/Object;)I" } : Jvm.MethodName) ({ cls := "java/lang/Enum", name := "compareTo", desc := "(Ljava/lang/Object;)I" } : Jvm.MethodName)) ∈ lw_all := lw_g (lw_at lw_m3 177 rfl) rfl
theorem q759 : (Jvm.Cond.unhidden "ArbitratedBus$Phase$8" "compareTo" "(Ljava/lang/Object;)I") ∈ lw_tbl := lw_at lw_m3 178 rfl
theorem q1115 : (Jvm.Cond.selects "ArbitratedBus$Phase$8" ({ cls := "ArbitratedBus$Phase", name := "ordinal", desc := "()I" } : Jvm.MethodName) ({ cls := "java/lang/Enum", name := "ordinal", desc := "()I" } : Jvm.MethodName)) ∈ lw_all := lw_g (lw_at lw_m5 54 rfl) rfl
theorem q1868 : (Jvm.Cond.selects "ArbitratedBus$Phase$8" ({ cls := "ArbitratedBus$Phase", name := "drive", desc := "(LArbitratedBus$Node;)I" } : Jvm.MethodName) ({ cls := "ArbitratedBus$Phase", name := "drive", desc := "(LArbitratedBus$Node;)I" } : Jvm.MethodName)) ∈ lw_all := lw_g (lw_at lw_m8 87 rfl) rfl
theorem q2265 : (Jvm.Cond.selects "ArbitratedBus$Phase$8" ({ cls := "ArbitratedBus$Phase", name := "act", desc := "(LArbitratedBus$Node;I)V" } : Jvm.MethodName) ({ cls := "ArbitratedBus$Phase$8", name := "act", desc := "(LArbitratedBus$Node;I)V" } : Jvm.MethodName)) ∈ lw_all := lw_g (lw_at lw_m10 4 rfl) rfl
theorem q2266 : (Jvm.Cond.instanceMethod ({ cls := "ArbitratedBus$Phase$8", name := "act", desc := "(LArbitratedBus$Node;I)V" } : Jvm.MethodName)) ∈ lw_all := lw_g (lw_at lw_m10 5 rfl) rfl
theorem q2267 : (Jvm.Cond.code ({ cls := "ArbitratedBus$Phase$8", name := "act", desc := "(LArbitratedBus$Node;I)V" } : Jvm.MethodName) prog_20_method_2_code (3 : Nat) (Option.none : Option Jvm.ClassFile.FieldType)) ∈ lw_all := lw_g (lw_at lw_m10 6 rfl) rfl
theorem q2268 : (Jvm.Cond.methodLinkNest "ArbitratedBus$Phase$8" (7 : Nat) ({ cls := "ArbitratedBus$Node", name := "delimiter", desc := "(I)V" } : Jvm.MethodName) "ArbitratedBus") ∈ lw_tbl := lw_at lw_m10 7 rfl
theorem q3414 : (Jvm.Cond.castable "ArbitratedBus$Phase$8" "java/lang/Enum") ∈ lw_tbl := lw_at lw_m14 193 rfl
theorem q3463 : (Jvm.Cond.castable "ArbitratedBus$Phase$8" "java/lang/Object") ∈ lw_tbl := lw_at lw_m15 2 rfl

/-! ArbitratedBus$Phase$9 -/
set_option maxRecDepth 100000
def RX27 : String := "ArbitratedBus$Phase$9"
abbrev cX27_act : ByteArray := prog_21_method_2_code
def yX27_act : MethodName := ⟨RX27, "act", "(LArbitratedBus$Node;I)V"⟩
def dkwX27_act_0 : List UInt8 := [43, 28, 182, 0, 7, 177]
abbrev dktX27_act_0 : List UInt8 := dkwX27_act_0 ++ []
theorem dksX27_act_0 : cX27_act.data.toList.drop 0 = dktX27_act_0 := by decide +kernel
theorem dX27_act_0 : decode cX27_act 0 = .ok (.aload_n 1, 1) := dk_43 (dk_at dksX27_act_0 0 rfl rfl)
theorem dX27_act_1 : decode cX27_act 1 = .ok (.iload_n 2, 1) := dk_28 (dk_at dksX27_act_0 1 rfl rfl)
theorem dX27_act_2 : decode cX27_act 2 = .ok (.invokevirtual 7, 3) := dk_182 0 7 (dk_at dksX27_act_0 2 rfl rfl)
theorem dX27_act_5 : decode cX27_act 5 = .ok (.return_, 1) := dk_177 (dk_at dksX27_act_0 5 rfl rfl)
theorem q667 : (Jvm.Cond.selects "ArbitratedBus$Phase$9" ({ cls := "java/lang/Enum", name := "compareTo", desc := "(Ljava/lang/Enum;)I" } : Jvm.MethodName) ({ cls := "java/lang/Enum", name := "compareTo", desc := "(Ljava/lang/Enum;)I" } : Jvm.MethodName)) ∈ lw_all := lw_g (lw_at lw_m3 86 rfl) rfl
theorem q691 : (Jvm.Cond.selects "ArbitratedBus$Phase$9" ({ cls := "java/lang/Object", name := "getClass", desc := "()Ljava/lang/Class;" } : Jvm.MethodName) ({ cls := "java/lang/Object", name := "getClass", desc := "()Ljava/lang/Class;" } : Jvm.MethodName)) ∈ lw_all := lw_g (lw_at lw_m3 110 rfl) rfl
theorem q734 : (Jvm.Cond.selects "ArbitratedBus$Phase$9" ({ cls := "java/lang/Enum", name := "getDeclaringClass", desc := "()Ljava/lang/Class;" } : Jvm.MethodName) ({ cls := "java/lang/Enum", name := "getDeclaringClass", desc := "()Ljava/lang/Class;" } : Jvm.MethodName)) ∈ lw_all := lw_g (lw_at lw_m3 153 rfl) rfl
theorem q760 : (Jvm.Cond.castable "ArbitratedBus$Phase$9" "java/lang/Comparable") ∈ lw_tbl := lw_at lw_m3 179 rfl
theorem q761 : (Jvm.Cond.selects "ArbitratedBus$Phase$9" ({ cls := "java/lang/Comparable", name := "compareTo", desc := "(Ljava/lang/Object;)I" } : Jvm.MethodName) ({ cls := "java/lang/Enum", name := "compareTo", desc := "(Ljava/lang/Object;)I" } : Jvm.MethodName)) ∈ lw_all := lw_g (lw_at lw_m3 180 rfl) rfl
theorem q762 : (Jvm.Cond.unhidden "ArbitratedBus$Phase$9" "compareTo" "(Ljava/lang/Object;)I") ∈ lw_tbl := lw_at lw_m3 181 rfl
theorem q1116 : (Jvm.Cond.selects "ArbitratedBus$Phase$9" ({ cls := "ArbitratedBus$Phase", name := "ordinal", desc := "()I" } : Jvm.MethodName) ({ cls := "java/lang/Enum", name := "ordinal", desc := "()I" } : Jvm.MethodName)) ∈ lw_all := lw_g (lw_at lw_m5 55 rfl) rfl
theorem q1869 : (Jvm.Cond.selects "ArbitratedBus$Phase$9" ({ cls := "ArbitratedBus$Phase", name := "drive", desc := "(LArbitratedBus$Node;)I" } : Jvm.MethodName) ({ cls := "ArbitratedBus$Phase", name := "drive", desc := "(LArbitratedBus$Node;)I" } : Jvm.MethodName)) ∈ lw_all := lw_g (lw_at lw_m8 88 rfl) rfl
theorem q2272 : (Jvm.Cond.selects "ArbitratedBus$Phase$9" ({ cls := "ArbitratedBus$Phase", name := "act", desc := "(LArbitratedBus$Node;I)V" } : Jvm.MethodName) ({ cls := "ArbitratedBus$Phase$9", name := "act", desc := "(LArbitratedBus$Node;I)V" } : Jvm.MethodName)) ∈ lw_all := lw_g (lw_at lw_m10 11 rfl) rfl
theorem q2273 : (Jvm.Cond.instanceMethod ({ cls := "ArbitratedBus$Phase$9", name := "act", desc := "(LArbitratedBus$Node;I)V" } : Jvm.MethodName)) ∈ lw_all := lw_g (lw_at lw_m10 12 rfl) rfl
theorem q2274 : (Jvm.Cond.code ({ cls := "ArbitratedBus$Phase$9", name := "act", desc := "(LArbitratedBus$Node;I)V" } : Jvm.MethodName) prog_21_method_2_code (3 : Nat) (Option.none : Option Jvm.ClassFile.FieldType)) ∈ lw_all := lw_g (lw_at lw_m10 13 rfl) rfl
theorem q2275 : (Jvm.Cond.methodLinkNest "ArbitratedBus$Phase$9" (7 : Nat) ({ cls := "ArbitratedBus$Node", name := "intermission", desc := "(I)V" } : Jvm.MethodName) "ArbitratedBus") ∈ lw_tbl := lw_at lw_m10 14 rfl
theorem q3415 : (Jvm.Cond.castable "ArbitratedBus$Phase$9" "java/lang/Enum") ∈ lw_tbl := lw_at lw_m14 194 rfl
theorem q3450 : (Jvm.Cond.castable "ArbitratedBus$Phase$9" "java/lang/Object") ∈ lw_tbl := lw_at lw_m14 229 rfl
