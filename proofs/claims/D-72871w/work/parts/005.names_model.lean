/-! ArbitratedBusModel -/
set_option maxRecDepth 100000
def RX8 : String := "ArbitratedBusModel"
def TX8 : u_T := fun k => match k with
  | 0 => ("ArbitratedBusModel", "v", "[I", true)
  | 1 => ("ArbitratedBusModel", "spare", "[I", true)
  | 2 => ("ArbitratedBusModel", "kept", "[I", true)
  | 3 => ("ArbitratedBusModel", "isKept", "[Z", true)
  | 4 => ("ArbitratedBusModel", "text", "[I", true)
  | 5 => ("ArbitratedBusModel", "letters", "I", false)
  | 6 => ("ArbitratedBusModel", "messages", "[I", true)
  | 7 => ("ArbitratedBusModel", "many", "I", false)
  | 8 => ("ArbitratedBusModel", "asked", "[I", true)
  | 9 => ("ArbitratedBusModel", "place", "I", false)
  | _ => ("ArbitratedBusModel", "told", "[I", true)
def tyX8 : Nat → FieldType := fun k => match k with
  | 0 => .array .int
  | 1 => .array .int
  | 2 => .array .int
  | 3 => .array .boolean
  | 4 => .array .int
  | 5 => .int
  | 6 => .array .int
  | 7 => .int
  | 8 => .array .int
  | 9 => .int
  | _ => .array .int
abbrev wsX80 : List Cond := u_ws RX8 TX8 11
theorem nmX8 : ∀ a, a < 11 → ∀ b, b < 11 → a ≠ b → (TX8 a).2.1 ≠ (TX8 b).2.1 := by decide +kernel
theorem tyX8_ok : ∀ k, k < 11 → parseFieldDescriptor (TX8 k).2.2.1 = some (tyX8 k) := by decide +kernel
abbrev cX8_init : ByteArray := prog_29_method_1_code
def yX8_init : MethodName := ⟨RX8, "<init>", "()V"⟩
def dkwX8_init_5 : List UInt8 := [6, 79, 132, 1, 1, 167, 255, 237, 177]
abbrev dktX8_init_5 : List UInt8 := dkwX8_init_5 ++ []
def dkwX8_init_4 : List UInt8 := [180, 0, 7, 17, 4, 3, 7, 79, 3, 60, 27, 7, 162, 0, 20, 42, 180, 0, 7, 27, 3, 184, 0, 35]
abbrev dktX8_init_4 : List UInt8 := dkwX8_init_4 ++ dktX8_init_5
def dkwX8_init_3 : List UInt8 := [180, 0, 7, 17, 4, 1, 17, 0, 128, 79, 42, 180, 0, 7, 17, 4, 2, 17, 1, 0, 79, 42]
abbrev dktX8_init_3 : List UInt8 := dkwX8_init_3 ++ dktX8_init_4
def dkwX8_init_2 : List UInt8 := [16, 32, 188, 10, 181, 0, 26, 42, 16, 66, 188, 10, 181, 0, 29, 42, 8, 188, 10, 181, 0, 32, 42]
abbrev dktX8_init_2 : List UInt8 := dkwX8_init_2 ++ dktX8_init_3
def dkwX8_init_1 : List UInt8 := [17, 10, 60, 188, 10, 181, 0, 16, 42, 5, 188, 4, 181, 0, 19, 42, 16, 120, 188, 10, 181, 0, 23, 42]
abbrev dktX8_init_1 : List UInt8 := dkwX8_init_1 ++ dktX8_init_2
def dkwX8_init_0 : List UInt8 := [42, 183, 0, 1, 42, 17, 5, 30, 188, 10, 181, 0, 7, 42, 17, 5, 30, 188, 10, 181, 0, 13, 42]
abbrev dktX8_init_0 : List UInt8 := dkwX8_init_0 ++ dktX8_init_1
theorem dksX8_init_0 : cX8_init.data.toList.drop 0 = dktX8_init_0 := by decide +kernel
theorem dksX8_init_1 : cX8_init.data.toList.drop 23 = dktX8_init_1 := dk_seg dksX8_init_0 23 rfl rfl
theorem dksX8_init_2 : cX8_init.data.toList.drop 47 = dktX8_init_2 := dk_seg dksX8_init_1 24 rfl rfl
theorem dksX8_init_3 : cX8_init.data.toList.drop 70 = dktX8_init_3 := dk_seg dksX8_init_2 23 rfl rfl
theorem dksX8_init_4 : cX8_init.data.toList.drop 92 = dktX8_init_4 := dk_seg dksX8_init_3 22 rfl rfl
theorem dksX8_init_5 : cX8_init.data.toList.drop 116 = dktX8_init_5 := dk_seg dksX8_init_4 24 rfl rfl
theorem dX8_init_0 : decode cX8_init 0 = .ok (.aload_n 0, 1) := dk_42 (dk_at dksX8_init_0 0 rfl rfl)
theorem dX8_init_1 : decode cX8_init 1 = .ok (.invokespecial 1, 3) := dk_183 0 1 (dk_at dksX8_init_0 1 rfl rfl)
theorem dX8_init_4 : decode cX8_init 4 = .ok (.aload_n 0, 1) := dk_42 (dk_at dksX8_init_0 4 rfl rfl)
theorem dX8_init_5 : decode cX8_init 5 = .ok (.sipush 1310, 3) := dk_17 5 30 (dk_at dksX8_init_0 5 rfl rfl)
theorem dX8_init_8 : decode cX8_init 8 = .ok (.newarray .int, 2) := dk_188_10 (dk_at dksX8_init_0 8 rfl rfl)
theorem dX8_init_10 : decode cX8_init 10 = .ok (.putfield 7, 3) := dk_181 0 7 (dk_at dksX8_init_0 10 rfl rfl)
theorem dX8_init_13 : decode cX8_init 13 = .ok (.aload_n 0, 1) := dk_42 (dk_at dksX8_init_0 13 rfl rfl)
theorem dX8_init_14 : decode cX8_init 14 = .ok (.sipush 1310, 3) := dk_17 5 30 (dk_at dksX8_init_0 14 rfl rfl)
theorem dX8_init_17 : decode cX8_init 17 = .ok (.newarray .int, 2) := dk_188_10 (dk_at dksX8_init_0 17 rfl rfl)
theorem dX8_init_19 : decode cX8_init 19 = .ok (.putfield 13, 3) := dk_181 0 13 (dk_at dksX8_init_0 19 rfl rfl)
theorem dX8_init_22 : decode cX8_init 22 = .ok (.aload_n 0, 1) := dk_42 (dk_at dksX8_init_0 22 rfl rfl)
theorem dX8_init_23 : decode cX8_init 23 = .ok (.sipush 2620, 3) := dk_17 10 60 (dk_at dksX8_init_1 0 rfl rfl)
theorem dX8_init_26 : decode cX8_init 26 = .ok (.newarray .int, 2) := dk_188_10 (dk_at dksX8_init_1 3 rfl rfl)
theorem dX8_init_28 : decode cX8_init 28 = .ok (.putfield 16, 3) := dk_181 0 16 (dk_at dksX8_init_1 5 rfl rfl)
theorem dX8_init_31 : decode cX8_init 31 = .ok (.aload_n 0, 1) := dk_42 (dk_at dksX8_init_1 8 rfl rfl)
theorem dX8_init_32 : decode cX8_init 32 = .ok (.iconst 2, 1) := dk_5 (dk_at dksX8_init_1 9 rfl rfl)
theorem dX8_init_33 : decode cX8_init 33 = .ok (.newarray .boolean, 2) := dk_188_4 (dk_at dksX8_init_1 10 rfl rfl)
theorem dX8_init_35 : decode cX8_init 35 = .ok (.putfield 19, 3) := dk_181 0 19 (dk_at dksX8_init_1 12 rfl rfl)
theorem dX8_init_38 : decode cX8_init 38 = .ok (.aload_n 0, 1) := dk_42 (dk_at dksX8_init_1 15 rfl rfl)
theorem dX8_init_39 : decode cX8_init 39 = .ok (.bipush 120, 2) := dk_16 120 (dk_at dksX8_init_1 16 rfl rfl)
theorem dX8_init_41 : decode cX8_init 41 = .ok (.newarray .int, 2) := dk_188_10 (dk_at dksX8_init_1 18 rfl rfl)
theorem dX8_init_43 : decode cX8_init 43 = .ok (.putfield 23, 3) := dk_181 0 23 (dk_at dksX8_init_1 20 rfl rfl)
theorem dX8_init_46 : decode cX8_init 46 = .ok (.aload_n 0, 1) := dk_42 (dk_at dksX8_init_1 23 rfl rfl)
theorem dX8_init_47 : decode cX8_init 47 = .ok (.bipush 32, 2) := dk_16 32 (dk_at dksX8_init_2 0 rfl rfl)
theorem dX8_init_49 : decode cX8_init 49 = .ok (.newarray .int, 2) := dk_188_10 (dk_at dksX8_init_2 2 rfl rfl)
theorem dX8_init_51 : decode cX8_init 51 = .ok (.putfield 26, 3) := dk_181 0 26 (dk_at dksX8_init_2 4 rfl rfl)
theorem dX8_init_54 : decode cX8_init 54 = .ok (.aload_n 0, 1) := dk_42 (dk_at dksX8_init_2 7 rfl rfl)
theorem dX8_init_55 : decode cX8_init 55 = .ok (.bipush 66, 2) := dk_16 66 (dk_at dksX8_init_2 8 rfl rfl)
theorem dX8_init_57 : decode cX8_init 57 = .ok (.newarray .int, 2) := dk_188_10 (dk_at dksX8_init_2 10 rfl rfl)
theorem dX8_init_59 : decode cX8_init 59 = .ok (.putfield 29, 3) := dk_181 0 29 (dk_at dksX8_init_2 12 rfl rfl)
theorem dX8_init_62 : decode cX8_init 62 = .ok (.aload_n 0, 1) := dk_42 (dk_at dksX8_init_2 15 rfl rfl)
theorem dX8_init_63 : decode cX8_init 63 = .ok (.iconst 5, 1) := dk_8 (dk_at dksX8_init_2 16 rfl rfl)
theorem dX8_init_64 : decode cX8_init 64 = .ok (.newarray .int, 2) := dk_188_10 (dk_at dksX8_init_2 17 rfl rfl)
theorem dX8_init_66 : decode cX8_init 66 = .ok (.putfield 32, 3) := dk_181 0 32 (dk_at dksX8_init_2 19 rfl rfl)
theorem dX8_init_69 : decode cX8_init 69 = .ok (.aload_n 0, 1) := dk_42 (dk_at dksX8_init_2 22 rfl rfl)
theorem dX8_init_70 : decode cX8_init 70 = .ok (.getfield 7, 3) := dk_180 0 7 (dk_at dksX8_init_3 0 rfl rfl)
theorem dX8_init_73 : decode cX8_init 73 = .ok (.sipush 1025, 3) := dk_17 4 1 (dk_at dksX8_init_3 3 rfl rfl)
theorem dX8_init_76 : decode cX8_init 76 = .ok (.sipush 128, 3) := dk_17 0 128 (dk_at dksX8_init_3 6 rfl rfl)
theorem dX8_init_79 : decode cX8_init 79 = .ok (.iastore, 1) := dk_79 (dk_at dksX8_init_3 9 rfl rfl)
theorem dX8_init_80 : decode cX8_init 80 = .ok (.aload_n 0, 1) := dk_42 (dk_at dksX8_init_3 10 rfl rfl)
theorem dX8_init_81 : decode cX8_init 81 = .ok (.getfield 7, 3) := dk_180 0 7 (dk_at dksX8_init_3 11 rfl rfl)
theorem dX8_init_84 : decode cX8_init 84 = .ok (.sipush 1026, 3) := dk_17 4 2 (dk_at dksX8_init_3 14 rfl rfl)
theorem dX8_init_87 : decode cX8_init 87 = .ok (.sipush 256, 3) := dk_17 1 0 (dk_at dksX8_init_3 17 rfl rfl)
theorem dX8_init_90 : decode cX8_init 90 = .ok (.iastore, 1) := dk_79 (dk_at dksX8_init_3 20 rfl rfl)
theorem dX8_init_91 : decode cX8_init 91 = .ok (.aload_n 0, 1) := dk_42 (dk_at dksX8_init_3 21 rfl rfl)
theorem dX8_init_92 : decode cX8_init 92 = .ok (.getfield 7, 3) := dk_180 0 7 (dk_at dksX8_init_4 0 rfl rfl)
theorem dX8_init_95 : decode cX8_init 95 = .ok (.sipush 1027, 3) := dk_17 4 3 (dk_at dksX8_init_4 3 rfl rfl)
theorem dX8_init_98 : decode cX8_init 98 = .ok (.iconst 4, 1) := dk_7 (dk_at dksX8_init_4 6 rfl rfl)
theorem dX8_init_99 : decode cX8_init 99 = .ok (.iastore, 1) := dk_79 (dk_at dksX8_init_4 7 rfl rfl)
theorem dX8_init_100 : decode cX8_init 100 = .ok (.iconst 0, 1) := dk_3 (dk_at dksX8_init_4 8 rfl rfl)
theorem dX8_init_101 : decode cX8_init 101 = .ok (.istore_n 1, 1) := dk_60 (dk_at dksX8_init_4 9 rfl rfl)
theorem dX8_init_102 : decode cX8_init 102 = .ok (.iload_n 1, 1) := dk_27 (dk_at dksX8_init_4 10 rfl rfl)
theorem dX8_init_103 : decode cX8_init 103 = .ok (.iconst 4, 1) := dk_7 (dk_at dksX8_init_4 11 rfl rfl)
theorem dX8_init_104 : decode cX8_init 104 = .ok (.if_icmp .ge 20, 3) := dk_162 0 20 (dk_at dksX8_init_4 12 rfl rfl)
theorem dX8_init_107 : decode cX8_init 107 = .ok (.aload_n 0, 1) := dk_42 (dk_at dksX8_init_4 15 rfl rfl)
theorem dX8_init_108 : decode cX8_init 108 = .ok (.getfield 7, 3) := dk_180 0 7 (dk_at dksX8_init_4 16 rfl rfl)
theorem dX8_init_111 : decode cX8_init 111 = .ok (.iload_n 1, 1) := dk_27 (dk_at dksX8_init_4 19 rfl rfl)
theorem dX8_init_112 : decode cX8_init 112 = .ok (.iconst 0, 1) := dk_3 (dk_at dksX8_init_4 20 rfl rfl)
theorem dX8_init_113 : decode cX8_init 113 = .ok (.invokestatic 35, 3) := dk_184 0 35 (dk_at dksX8_init_4 21 rfl rfl)
theorem dX8_init_116 : decode cX8_init 116 = .ok (.iconst 3, 1) := dk_6 (dk_at dksX8_init_5 0 rfl rfl)
theorem dX8_init_117 : decode cX8_init 117 = .ok (.iastore, 1) := dk_79 (dk_at dksX8_init_5 1 rfl rfl)
theorem dX8_init_118 : decode cX8_init 118 = .ok (.iinc 1 1, 3) := dk_132 1 1 (dk_at dksX8_init_5 2 rfl rfl)
theorem dX8_init_121 : decode cX8_init 121 = .ok (.goto (-19), 3) := dk_167 255 237 (dk_at dksX8_init_5 5 rfl rfl)
theorem dX8_init_124 : decode cX8_init 124 = .ok (.return_, 1) := dk_177 (dk_at dksX8_init_5 8 rfl rfl)
abbrev cX8_at : ByteArray := prog_29_method_4_code
def yX8_at : MethodName := ⟨RX8, "at", "(II)I"⟩
def dkwX8_at_0 : List UInt8 := [17, 1, 0, 26, 104, 27, 96, 172]
abbrev dktX8_at_0 : List UInt8 := dkwX8_at_0 ++ []
theorem dksX8_at_0 : cX8_at.data.toList.drop 0 = dktX8_at_0 := by decide +kernel
theorem dX8_at_0 : decode cX8_at 0 = .ok (.sipush 256, 3) := dk_17 1 0 (dk_at dksX8_at_0 0 rfl rfl)
theorem dX8_at_3 : decode cX8_at 3 = .ok (.iload_n 0, 1) := dk_26 (dk_at dksX8_at_0 3 rfl rfl)
theorem dX8_at_4 : decode cX8_at 4 = .ok (.imul, 1) := dk_104 (dk_at dksX8_at_0 4 rfl rfl)
theorem dX8_at_5 : decode cX8_at 5 = .ok (.iload_n 1, 1) := dk_27 (dk_at dksX8_at_0 5 rfl rfl)
theorem dX8_at_6 : decode cX8_at 6 = .ok (.iadd, 1) := dk_96 (dk_at dksX8_at_0 6 rfl rfl)
theorem dX8_at_7 : decode cX8_at 7 = .ok (.ireturn, 1) := dk_172 (dk_at dksX8_at_0 7 rfl rfl)
abbrev cX8_crc : ByteArray := prog_29_method_14_code
def yX8_crc : MethodName := ⟨RX8, "crc", "(IZII)I"⟩
def dkwX8_crc_2 : List UInt8 := [184, 0, 47, 172]
abbrev dktX8_crc_2 : List UInt8 := dkwX8_crc_2 ++ []
def dkwX8_crc_1 : List UInt8 := [4, 167, 0, 4, 3, 29, 21, 4, 184, 0, 55, 54, 5, 42, 180, 0, 29, 3, 21, 5, 16, 15, 100]
abbrev dktX8_crc_1 : List UInt8 := dkwX8_crc_1 ++ dktX8_crc_2
def dkwX8_crc_0 : List UInt8 := [27, 28, 29, 21, 4, 184, 0, 51, 154, 0, 6, 16, 254, 172, 42, 180, 0, 29, 3, 27, 28, 153, 0, 7]
abbrev dktX8_crc_0 : List UInt8 := dkwX8_crc_0 ++ dktX8_crc_1
theorem dksX8_crc_0 : cX8_crc.data.toList.drop 0 = dktX8_crc_0 := by decide +kernel
theorem dksX8_crc_1 : cX8_crc.data.toList.drop 24 = dktX8_crc_1 := dk_seg dksX8_crc_0 24 rfl rfl
theorem dksX8_crc_2 : cX8_crc.data.toList.drop 47 = dktX8_crc_2 := dk_seg dksX8_crc_1 23 rfl rfl
theorem dX8_crc_0 : decode cX8_crc 0 = .ok (.iload_n 1, 1) := dk_27 (dk_at dksX8_crc_0 0 rfl rfl)
theorem dX8_crc_1 : decode cX8_crc 1 = .ok (.iload_n 2, 1) := dk_28 (dk_at dksX8_crc_0 1 rfl rfl)
theorem dX8_crc_2 : decode cX8_crc 2 = .ok (.iload_n 3, 1) := dk_29 (dk_at dksX8_crc_0 2 rfl rfl)
theorem dX8_crc_3 : decode cX8_crc 3 = .ok (.iload 4, 2) := dk_21 4 (dk_at dksX8_crc_0 3 rfl rfl)
theorem dX8_crc_5 : decode cX8_crc 5 = .ok (.invokestatic 51, 3) := dk_184 0 51 (dk_at dksX8_crc_0 5 rfl rfl)
theorem dX8_crc_8 : decode cX8_crc 8 = .ok (.ifCond .ne 6, 3) := dk_154 0 6 (dk_at dksX8_crc_0 8 rfl rfl)
theorem dX8_crc_11 : decode cX8_crc 11 = .ok (.bipush (-2), 2) := dk_16 254 (dk_at dksX8_crc_0 11 rfl rfl)
theorem dX8_crc_13 : decode cX8_crc 13 = .ok (.ireturn, 1) := dk_172 (dk_at dksX8_crc_0 13 rfl rfl)
theorem dX8_crc_14 : decode cX8_crc 14 = .ok (.aload_n 0, 1) := dk_42 (dk_at dksX8_crc_0 14 rfl rfl)
theorem dX8_crc_15 : decode cX8_crc 15 = .ok (.getfield 29, 3) := dk_180 0 29 (dk_at dksX8_crc_0 15 rfl rfl)
theorem dX8_crc_18 : decode cX8_crc 18 = .ok (.iconst 0, 1) := dk_3 (dk_at dksX8_crc_0 18 rfl rfl)
theorem dX8_crc_19 : decode cX8_crc 19 = .ok (.iload_n 1, 1) := dk_27 (dk_at dksX8_crc_0 19 rfl rfl)
theorem dX8_crc_20 : decode cX8_crc 20 = .ok (.iload_n 2, 1) := dk_28 (dk_at dksX8_crc_0 20 rfl rfl)
theorem dX8_crc_21 : decode cX8_crc 21 = .ok (.ifCond .eq 7, 3) := dk_153 0 7 (dk_at dksX8_crc_0 21 rfl rfl)
theorem dX8_crc_24 : decode cX8_crc 24 = .ok (.iconst 1, 1) := dk_4 (dk_at dksX8_crc_1 0 rfl rfl)
theorem dX8_crc_25 : decode cX8_crc 25 = .ok (.goto 4, 3) := dk_167 0 4 (dk_at dksX8_crc_1 1 rfl rfl)
theorem dX8_crc_28 : decode cX8_crc 28 = .ok (.iconst 0, 1) := dk_3 (dk_at dksX8_crc_1 4 rfl rfl)
theorem dX8_crc_29 : decode cX8_crc 29 = .ok (.iload_n 3, 1) := dk_29 (dk_at dksX8_crc_1 5 rfl rfl)
theorem dX8_crc_30 : decode cX8_crc 30 = .ok (.iload 4, 2) := dk_21 4 (dk_at dksX8_crc_1 6 rfl rfl)
theorem dX8_crc_32 : decode cX8_crc 32 = .ok (.invokestatic 55, 3) := dk_184 0 55 (dk_at dksX8_crc_1 8 rfl rfl)
theorem dX8_crc_35 : decode cX8_crc 35 = .ok (.istore 5, 2) := dk_54 5 (dk_at dksX8_crc_1 11 rfl rfl)
theorem dX8_crc_37 : decode cX8_crc 37 = .ok (.aload_n 0, 1) := dk_42 (dk_at dksX8_crc_1 13 rfl rfl)
theorem dX8_crc_38 : decode cX8_crc 38 = .ok (.getfield 29, 3) := dk_180 0 29 (dk_at dksX8_crc_1 14 rfl rfl)
theorem dX8_crc_41 : decode cX8_crc 41 = .ok (.iconst 0, 1) := dk_3 (dk_at dksX8_crc_1 17 rfl rfl)
theorem dX8_crc_42 : decode cX8_crc 42 = .ok (.iload 5, 2) := dk_21 5 (dk_at dksX8_crc_1 18 rfl rfl)
theorem dX8_crc_44 : decode cX8_crc 44 = .ok (.bipush 15, 2) := dk_16 15 (dk_at dksX8_crc_1 20 rfl rfl)
theorem dX8_crc_46 : decode cX8_crc 46 = .ok (.isub, 1) := dk_100 (dk_at dksX8_crc_1 22 rfl rfl)
theorem dX8_crc_47 : decode cX8_crc 47 = .ok (.invokestatic 47, 3) := dk_184 0 47 (dk_at dksX8_crc_2 0 rfl rfl)
theorem dX8_crc_50 : decode cX8_crc 50 = .ok (.ireturn, 1) := dk_172 (dk_at dksX8_crc_2 3 rfl rfl)
abbrev cX8_isFrame : ByteArray := prog_29_method_9_code
def yX8_isFrame : MethodName := ⟨RX8, "isFrame", "(IZII)Z"⟩
def dkwX8_isFrame_2 : List UInt8 := [28, 104, 124, 154, 0, 7, 4, 167, 0, 4, 3, 172]
abbrev dktX8_isFrame_2 : List UInt8 := dkwX8_isFrame_2 ++ []
def dkwX8_isFrame_1 : List UInt8 := [29, 154, 0, 7, 4, 167, 0, 4, 3, 54, 4, 21, 4, 153, 0, 21, 28, 7, 159, 0, 12, 29, 16, 8]
abbrev dktX8_isFrame_1 : List UInt8 := dkwX8_isFrame_1 ++ dktX8_isFrame_2
def dkwX8_isFrame_0 : List UInt8 := [26, 3, 17, 7, 255, 184, 0, 39, 153, 0, 24, 28, 3, 7, 184, 0, 39, 153, 0, 15, 27, 153, 0, 7]
abbrev dktX8_isFrame_0 : List UInt8 := dkwX8_isFrame_0 ++ dktX8_isFrame_1
theorem dksX8_isFrame_0 : cX8_isFrame.data.toList.drop 0 = dktX8_isFrame_0 := by decide +kernel
theorem dksX8_isFrame_1 : cX8_isFrame.data.toList.drop 24 = dktX8_isFrame_1 := dk_seg dksX8_isFrame_0 24 rfl rfl
theorem dksX8_isFrame_2 : cX8_isFrame.data.toList.drop 48 = dktX8_isFrame_2 := dk_seg dksX8_isFrame_1 24 rfl rfl
theorem dX8_isFrame_0 : decode cX8_isFrame 0 = .ok (.iload_n 0, 1) := dk_26 (dk_at dksX8_isFrame_0 0 rfl rfl)
theorem dX8_isFrame_1 : decode cX8_isFrame 1 = .ok (.iconst 0, 1) := dk_3 (dk_at dksX8_isFrame_0 1 rfl rfl)
theorem dX8_isFrame_2 : decode cX8_isFrame 2 = .ok (.sipush 2047, 3) := dk_17 7 255 (dk_at dksX8_isFrame_0 2 rfl rfl)
theorem dX8_isFrame_5 : decode cX8_isFrame 5 = .ok (.invokestatic 39, 3) := dk_184 0 39 (dk_at dksX8_isFrame_0 5 rfl rfl)
theorem dX8_isFrame_8 : decode cX8_isFrame 8 = .ok (.ifCond .eq 24, 3) := dk_153 0 24 (dk_at dksX8_isFrame_0 8 rfl rfl)
theorem dX8_isFrame_11 : decode cX8_isFrame 11 = .ok (.iload_n 2, 1) := dk_28 (dk_at dksX8_isFrame_0 11 rfl rfl)
theorem dX8_isFrame_12 : decode cX8_isFrame 12 = .ok (.iconst 0, 1) := dk_3 (dk_at dksX8_isFrame_0 12 rfl rfl)
theorem dX8_isFrame_13 : decode cX8_isFrame 13 = .ok (.iconst 4, 1) := dk_7 (dk_at dksX8_isFrame_0 13 rfl rfl)
theorem dX8_isFrame_14 : decode cX8_isFrame 14 = .ok (.invokestatic 39, 3) := dk_184 0 39 (dk_at dksX8_isFrame_0 14 rfl rfl)
theorem dX8_isFrame_17 : decode cX8_isFrame 17 = .ok (.ifCond .eq 15, 3) := dk_153 0 15 (dk_at dksX8_isFrame_0 17 rfl rfl)
theorem dX8_isFrame_20 : decode cX8_isFrame 20 = .ok (.iload_n 1, 1) := dk_27 (dk_at dksX8_isFrame_0 20 rfl rfl)
theorem dX8_isFrame_21 : decode cX8_isFrame 21 = .ok (.ifCond .eq 7, 3) := dk_153 0 7 (dk_at dksX8_isFrame_0 21 rfl rfl)
theorem dX8_isFrame_24 : decode cX8_isFrame 24 = .ok (.iload_n 3, 1) := dk_29 (dk_at dksX8_isFrame_1 0 rfl rfl)
theorem dX8_isFrame_25 : decode cX8_isFrame 25 = .ok (.ifCond .ne 7, 3) := dk_154 0 7 (dk_at dksX8_isFrame_1 1 rfl rfl)
theorem dX8_isFrame_28 : decode cX8_isFrame 28 = .ok (.iconst 1, 1) := dk_4 (dk_at dksX8_isFrame_1 4 rfl rfl)
theorem dX8_isFrame_29 : decode cX8_isFrame 29 = .ok (.goto 4, 3) := dk_167 0 4 (dk_at dksX8_isFrame_1 5 rfl rfl)
theorem dX8_isFrame_32 : decode cX8_isFrame 32 = .ok (.iconst 0, 1) := dk_3 (dk_at dksX8_isFrame_1 8 rfl rfl)
theorem dX8_isFrame_33 : decode cX8_isFrame 33 = .ok (.istore 4, 2) := dk_54 4 (dk_at dksX8_isFrame_1 9 rfl rfl)
theorem dX8_isFrame_35 : decode cX8_isFrame 35 = .ok (.iload 4, 2) := dk_21 4 (dk_at dksX8_isFrame_1 11 rfl rfl)
theorem dX8_isFrame_37 : decode cX8_isFrame 37 = .ok (.ifCond .eq 21, 3) := dk_153 0 21 (dk_at dksX8_isFrame_1 13 rfl rfl)
theorem dX8_isFrame_40 : decode cX8_isFrame 40 = .ok (.iload_n 2, 1) := dk_28 (dk_at dksX8_isFrame_1 16 rfl rfl)
theorem dX8_isFrame_41 : decode cX8_isFrame 41 = .ok (.iconst 4, 1) := dk_7 (dk_at dksX8_isFrame_1 17 rfl rfl)
theorem dX8_isFrame_42 : decode cX8_isFrame 42 = .ok (.if_icmp .eq 12, 3) := dk_159 0 12 (dk_at dksX8_isFrame_1 18 rfl rfl)
theorem dX8_isFrame_45 : decode cX8_isFrame 45 = .ok (.iload_n 3, 1) := dk_29 (dk_at dksX8_isFrame_1 21 rfl rfl)
theorem dX8_isFrame_46 : decode cX8_isFrame 46 = .ok (.bipush 8, 2) := dk_16 8 (dk_at dksX8_isFrame_1 22 rfl rfl)
theorem dX8_isFrame_48 : decode cX8_isFrame 48 = .ok (.iload_n 2, 1) := dk_28 (dk_at dksX8_isFrame_2 0 rfl rfl)
theorem dX8_isFrame_49 : decode cX8_isFrame 49 = .ok (.imul, 1) := dk_104 (dk_at dksX8_isFrame_2 1 rfl rfl)
theorem dX8_isFrame_50 : decode cX8_isFrame 50 = .ok (.iushr, 1) := dk_124 (dk_at dksX8_isFrame_2 2 rfl rfl)
theorem dX8_isFrame_51 : decode cX8_isFrame 51 = .ok (.ifCond .ne 7, 3) := dk_154 0 7 (dk_at dksX8_isFrame_2 3 rfl rfl)
theorem dX8_isFrame_54 : decode cX8_isFrame 54 = .ok (.iconst 1, 1) := dk_4 (dk_at dksX8_isFrame_2 6 rfl rfl)
theorem dX8_isFrame_55 : decode cX8_isFrame 55 = .ok (.goto 4, 3) := dk_167 0 4 (dk_at dksX8_isFrame_2 7 rfl rfl)
theorem dX8_isFrame_58 : decode cX8_isFrame 58 = .ok (.iconst 0, 1) := dk_3 (dk_at dksX8_isFrame_2 10 rfl rfl)
theorem dX8_isFrame_59 : decode cX8_isFrame 59 = .ok (.ireturn, 1) := dk_172 (dk_at dksX8_isFrame_2 11 rfl rfl)
abbrev cX8_in : ByteArray := prog_29_method_3_code
def yX8_in : MethodName := ⟨RX8, "in", "(III)Z"⟩
def dkwX8_in_0 : List UInt8 := [26, 27, 161, 0, 12, 26, 28, 163, 0, 7, 4, 167, 0, 4, 3, 172]
abbrev dktX8_in_0 : List UInt8 := dkwX8_in_0 ++ []
theorem dksX8_in_0 : cX8_in.data.toList.drop 0 = dktX8_in_0 := by decide +kernel
theorem dX8_in_0 : decode cX8_in 0 = .ok (.iload_n 0, 1) := dk_26 (dk_at dksX8_in_0 0 rfl rfl)
theorem dX8_in_1 : decode cX8_in 1 = .ok (.iload_n 1, 1) := dk_27 (dk_at dksX8_in_0 1 rfl rfl)
theorem dX8_in_2 : decode cX8_in 2 = .ok (.if_icmp .lt 12, 3) := dk_161 0 12 (dk_at dksX8_in_0 2 rfl rfl)
theorem dX8_in_5 : decode cX8_in 5 = .ok (.iload_n 0, 1) := dk_26 (dk_at dksX8_in_0 5 rfl rfl)
theorem dX8_in_6 : decode cX8_in 6 = .ok (.iload_n 2, 1) := dk_28 (dk_at dksX8_in_0 6 rfl rfl)
theorem dX8_in_7 : decode cX8_in 7 = .ok (.if_icmp .gt 7, 3) := dk_163 0 7 (dk_at dksX8_in_0 7 rfl rfl)
theorem dX8_in_10 : decode cX8_in 10 = .ok (.iconst 1, 1) := dk_4 (dk_at dksX8_in_0 10 rfl rfl)
theorem dX8_in_11 : decode cX8_in 11 = .ok (.goto 4, 3) := dk_167 0 4 (dk_at dksX8_in_0 11 rfl rfl)
theorem dX8_in_14 : decode cX8_in 14 = .ok (.iconst 0, 1) := dk_3 (dk_at dksX8_in_0 14 rfl rfl)
theorem dX8_in_15 : decode cX8_in 15 = .ok (.ireturn, 1) := dk_172 (dk_at dksX8_in_0 15 rfl rfl)
abbrev cX8_lays : ByteArray := prog_29_method_12_code
def yX8_lays : MethodName := ⟨RX8, "lays", "([IIIIII)I"⟩
def dkwX8_lays_4 : List UInt8 := [184, 0, 43, 16, 34, 21, 6, 96, 172]
abbrev dktX8_lays_4 : List UInt8 := dkwX8_lays_4 ++ []
def dkwX8_lays_3 : List UInt8 := [184, 0, 43, 42, 27, 16, 19, 96, 21, 6, 96, 42, 27, 16, 19, 21, 6, 96, 184, 0, 47, 16, 15]
abbrev dktX8_lays_3 : List UInt8 := dkwX8_lays_3 ++ dktX8_lays_4
def dkwX8_lays_2 : List UInt8 := [4, 160, 0, 7, 3, 167, 0, 8, 16, 8, 21, 4, 104, 54, 6, 42, 27, 16, 19, 96, 21, 5, 21, 6]
abbrev dktX8_lays_2 : List UInt8 := dkwX8_lays_2 ++ dktX8_lays_3
def dkwX8_lays_1 : List UInt8 := [16, 13, 96, 3, 79, 42, 27, 16, 14, 96, 3, 79, 42, 27, 16, 15, 96, 21, 4, 7, 184, 0, 43, 29]
abbrev dktX8_lays_1 : List UInt8 := dkwX8_lays_1 ++ dktX8_lays_2
def dkwX8_lays_0 : List UInt8 := [42, 27, 3, 79, 42, 27, 4, 96, 28, 16, 11, 184, 0, 43, 42, 27, 16, 12, 96, 29, 79, 42, 27]
abbrev dktX8_lays_0 : List UInt8 := dkwX8_lays_0 ++ dktX8_lays_1
theorem dksX8_lays_0 : cX8_lays.data.toList.drop 0 = dktX8_lays_0 := by decide +kernel
theorem dksX8_lays_1 : cX8_lays.data.toList.drop 23 = dktX8_lays_1 := dk_seg dksX8_lays_0 23 rfl rfl
theorem dksX8_lays_2 : cX8_lays.data.toList.drop 47 = dktX8_lays_2 := dk_seg dksX8_lays_1 24 rfl rfl
theorem dksX8_lays_3 : cX8_lays.data.toList.drop 71 = dktX8_lays_3 := dk_seg dksX8_lays_2 24 rfl rfl
theorem dksX8_lays_4 : cX8_lays.data.toList.drop 94 = dktX8_lays_4 := dk_seg dksX8_lays_3 23 rfl rfl
theorem dX8_lays_0 : decode cX8_lays 0 = .ok (.aload_n 0, 1) := dk_42 (dk_at dksX8_lays_0 0 rfl rfl)
theorem dX8_lays_1 : decode cX8_lays 1 = .ok (.iload_n 1, 1) := dk_27 (dk_at dksX8_lays_0 1 rfl rfl)
theorem dX8_lays_2 : decode cX8_lays 2 = .ok (.iconst 0, 1) := dk_3 (dk_at dksX8_lays_0 2 rfl rfl)
theorem dX8_lays_3 : decode cX8_lays 3 = .ok (.iastore, 1) := dk_79 (dk_at dksX8_lays_0 3 rfl rfl)
theorem dX8_lays_4 : decode cX8_lays 4 = .ok (.aload_n 0, 1) := dk_42 (dk_at dksX8_lays_0 4 rfl rfl)
theorem dX8_lays_5 : decode cX8_lays 5 = .ok (.iload_n 1, 1) := dk_27 (dk_at dksX8_lays_0 5 rfl rfl)
theorem dX8_lays_6 : decode cX8_lays 6 = .ok (.iconst 1, 1) := dk_4 (dk_at dksX8_lays_0 6 rfl rfl)
theorem dX8_lays_7 : decode cX8_lays 7 = .ok (.iadd, 1) := dk_96 (dk_at dksX8_lays_0 7 rfl rfl)
theorem dX8_lays_8 : decode cX8_lays 8 = .ok (.iload_n 2, 1) := dk_28 (dk_at dksX8_lays_0 8 rfl rfl)
theorem dX8_lays_9 : decode cX8_lays 9 = .ok (.bipush 11, 2) := dk_16 11 (dk_at dksX8_lays_0 9 rfl rfl)
theorem dX8_lays_11 : decode cX8_lays 11 = .ok (.invokestatic 43, 3) := dk_184 0 43 (dk_at dksX8_lays_0 11 rfl rfl)
theorem dX8_lays_14 : decode cX8_lays 14 = .ok (.aload_n 0, 1) := dk_42 (dk_at dksX8_lays_0 14 rfl rfl)
theorem dX8_lays_15 : decode cX8_lays 15 = .ok (.iload_n 1, 1) := dk_27 (dk_at dksX8_lays_0 15 rfl rfl)
theorem dX8_lays_16 : decode cX8_lays 16 = .ok (.bipush 12, 2) := dk_16 12 (dk_at dksX8_lays_0 16 rfl rfl)
theorem dX8_lays_18 : decode cX8_lays 18 = .ok (.iadd, 1) := dk_96 (dk_at dksX8_lays_0 18 rfl rfl)
theorem dX8_lays_19 : decode cX8_lays 19 = .ok (.iload_n 3, 1) := dk_29 (dk_at dksX8_lays_0 19 rfl rfl)
theorem dX8_lays_20 : decode cX8_lays 20 = .ok (.iastore, 1) := dk_79 (dk_at dksX8_lays_0 20 rfl rfl)
theorem dX8_lays_21 : decode cX8_lays 21 = .ok (.aload_n 0, 1) := dk_42 (dk_at dksX8_lays_0 21 rfl rfl)
theorem dX8_lays_22 : decode cX8_lays 22 = .ok (.iload_n 1, 1) := dk_27 (dk_at dksX8_lays_0 22 rfl rfl)
theorem dX8_lays_23 : decode cX8_lays 23 = .ok (.bipush 13, 2) := dk_16 13 (dk_at dksX8_lays_1 0 rfl rfl)
theorem dX8_lays_25 : decode cX8_lays 25 = .ok (.iadd, 1) := dk_96 (dk_at dksX8_lays_1 2 rfl rfl)
theorem dX8_lays_26 : decode cX8_lays 26 = .ok (.iconst 0, 1) := dk_3 (dk_at dksX8_lays_1 3 rfl rfl)
theorem dX8_lays_27 : decode cX8_lays 27 = .ok (.iastore, 1) := dk_79 (dk_at dksX8_lays_1 4 rfl rfl)
theorem dX8_lays_28 : decode cX8_lays 28 = .ok (.aload_n 0, 1) := dk_42 (dk_at dksX8_lays_1 5 rfl rfl)
theorem dX8_lays_29 : decode cX8_lays 29 = .ok (.iload_n 1, 1) := dk_27 (dk_at dksX8_lays_1 6 rfl rfl)
theorem dX8_lays_30 : decode cX8_lays 30 = .ok (.bipush 14, 2) := dk_16 14 (dk_at dksX8_lays_1 7 rfl rfl)
theorem dX8_lays_32 : decode cX8_lays 32 = .ok (.iadd, 1) := dk_96 (dk_at dksX8_lays_1 9 rfl rfl)
theorem dX8_lays_33 : decode cX8_lays 33 = .ok (.iconst 0, 1) := dk_3 (dk_at dksX8_lays_1 10 rfl rfl)
theorem dX8_lays_34 : decode cX8_lays 34 = .ok (.iastore, 1) := dk_79 (dk_at dksX8_lays_1 11 rfl rfl)
theorem dX8_lays_35 : decode cX8_lays 35 = .ok (.aload_n 0, 1) := dk_42 (dk_at dksX8_lays_1 12 rfl rfl)
theorem dX8_lays_36 : decode cX8_lays 36 = .ok (.iload_n 1, 1) := dk_27 (dk_at dksX8_lays_1 13 rfl rfl)
theorem dX8_lays_37 : decode cX8_lays 37 = .ok (.bipush 15, 2) := dk_16 15 (dk_at dksX8_lays_1 14 rfl rfl)
theorem dX8_lays_39 : decode cX8_lays 39 = .ok (.iadd, 1) := dk_96 (dk_at dksX8_lays_1 16 rfl rfl)
theorem dX8_lays_40 : decode cX8_lays 40 = .ok (.iload 4, 2) := dk_21 4 (dk_at dksX8_lays_1 17 rfl rfl)
theorem dX8_lays_42 : decode cX8_lays 42 = .ok (.iconst 4, 1) := dk_7 (dk_at dksX8_lays_1 19 rfl rfl)
theorem dX8_lays_43 : decode cX8_lays 43 = .ok (.invokestatic 43, 3) := dk_184 0 43 (dk_at dksX8_lays_1 20 rfl rfl)
theorem dX8_lays_46 : decode cX8_lays 46 = .ok (.iload_n 3, 1) := dk_29 (dk_at dksX8_lays_1 23 rfl rfl)
theorem dX8_lays_47 : decode cX8_lays 47 = .ok (.iconst 1, 1) := dk_4 (dk_at dksX8_lays_2 0 rfl rfl)
theorem dX8_lays_48 : decode cX8_lays 48 = .ok (.if_icmp .ne 7, 3) := dk_160 0 7 (dk_at dksX8_lays_2 1 rfl rfl)
theorem dX8_lays_51 : decode cX8_lays 51 = .ok (.iconst 0, 1) := dk_3 (dk_at dksX8_lays_2 4 rfl rfl)
theorem dX8_lays_52 : decode cX8_lays 52 = .ok (.goto 8, 3) := dk_167 0 8 (dk_at dksX8_lays_2 5 rfl rfl)
theorem dX8_lays_55 : decode cX8_lays 55 = .ok (.bipush 8, 2) := dk_16 8 (dk_at dksX8_lays_2 8 rfl rfl)
theorem dX8_lays_57 : decode cX8_lays 57 = .ok (.iload 4, 2) := dk_21 4 (dk_at dksX8_lays_2 10 rfl rfl)
theorem dX8_lays_59 : decode cX8_lays 59 = .ok (.imul, 1) := dk_104 (dk_at dksX8_lays_2 12 rfl rfl)
theorem dX8_lays_60 : decode cX8_lays 60 = .ok (.istore 6, 2) := dk_54 6 (dk_at dksX8_lays_2 13 rfl rfl)
theorem dX8_lays_62 : decode cX8_lays 62 = .ok (.aload_n 0, 1) := dk_42 (dk_at dksX8_lays_2 15 rfl rfl)
theorem dX8_lays_63 : decode cX8_lays 63 = .ok (.iload_n 1, 1) := dk_27 (dk_at dksX8_lays_2 16 rfl rfl)
theorem dX8_lays_64 : decode cX8_lays 64 = .ok (.bipush 19, 2) := dk_16 19 (dk_at dksX8_lays_2 17 rfl rfl)
theorem dX8_lays_66 : decode cX8_lays 66 = .ok (.iadd, 1) := dk_96 (dk_at dksX8_lays_2 19 rfl rfl)
theorem dX8_lays_67 : decode cX8_lays 67 = .ok (.iload 5, 2) := dk_21 5 (dk_at dksX8_lays_2 20 rfl rfl)
theorem dX8_lays_69 : decode cX8_lays 69 = .ok (.iload 6, 2) := dk_21 6 (dk_at dksX8_lays_2 22 rfl rfl)
theorem dX8_lays_71 : decode cX8_lays 71 = .ok (.invokestatic 43, 3) := dk_184 0 43 (dk_at dksX8_lays_3 0 rfl rfl)
theorem dX8_lays_74 : decode cX8_lays 74 = .ok (.aload_n 0, 1) := dk_42 (dk_at dksX8_lays_3 3 rfl rfl)
theorem dX8_lays_75 : decode cX8_lays 75 = .ok (.iload_n 1, 1) := dk_27 (dk_at dksX8_lays_3 4 rfl rfl)
theorem dX8_lays_76 : decode cX8_lays 76 = .ok (.bipush 19, 2) := dk_16 19 (dk_at dksX8_lays_3 5 rfl rfl)
theorem dX8_lays_78 : decode cX8_lays 78 = .ok (.iadd, 1) := dk_96 (dk_at dksX8_lays_3 7 rfl rfl)
theorem dX8_lays_79 : decode cX8_lays 79 = .ok (.iload 6, 2) := dk_21 6 (dk_at dksX8_lays_3 8 rfl rfl)
theorem dX8_lays_81 : decode cX8_lays 81 = .ok (.iadd, 1) := dk_96 (dk_at dksX8_lays_3 10 rfl rfl)
theorem dX8_lays_82 : decode cX8_lays 82 = .ok (.aload_n 0, 1) := dk_42 (dk_at dksX8_lays_3 11 rfl rfl)
theorem dX8_lays_83 : decode cX8_lays 83 = .ok (.iload_n 1, 1) := dk_27 (dk_at dksX8_lays_3 12 rfl rfl)
theorem dX8_lays_84 : decode cX8_lays 84 = .ok (.bipush 19, 2) := dk_16 19 (dk_at dksX8_lays_3 13 rfl rfl)
theorem dX8_lays_86 : decode cX8_lays 86 = .ok (.iload 6, 2) := dk_21 6 (dk_at dksX8_lays_3 15 rfl rfl)
theorem dX8_lays_88 : decode cX8_lays 88 = .ok (.iadd, 1) := dk_96 (dk_at dksX8_lays_3 17 rfl rfl)
theorem dX8_lays_89 : decode cX8_lays 89 = .ok (.invokestatic 47, 3) := dk_184 0 47 (dk_at dksX8_lays_3 18 rfl rfl)
theorem dX8_lays_92 : decode cX8_lays 92 = .ok (.bipush 15, 2) := dk_16 15 (dk_at dksX8_lays_3 21 rfl rfl)
theorem dX8_lays_94 : decode cX8_lays 94 = .ok (.invokestatic 43, 3) := dk_184 0 43 (dk_at dksX8_lays_4 0 rfl rfl)
theorem dX8_lays_97 : decode cX8_lays 97 = .ok (.bipush 34, 2) := dk_16 34 (dk_at dksX8_lays_4 3 rfl rfl)
theorem dX8_lays_99 : decode cX8_lays 99 = .ok (.iload 6, 2) := dk_21 6 (dk_at dksX8_lays_4 5 rfl rfl)
theorem dX8_lays_101 : decode cX8_lays 101 = .ok (.iadd, 1) := dk_96 (dk_at dksX8_lays_4 7 rfl rfl)
theorem dX8_lays_102 : decode cX8_lays 102 = .ok (.ireturn, 1) := dk_172 (dk_at dksX8_lays_4 8 rfl rfl)
abbrev cX8_bits : ByteArray := prog_29_method_11_code
def yX8_bits : MethodName := ⟨RX8, "bits", "([IIII)V"⟩
def dkwX8_bits_1 : List UInt8 := [79, 132, 4, 1, 167, 255, 231, 177]
abbrev dktX8_bits_1 : List UInt8 := dkwX8_bits_1 ++ []
def dkwX8_bits_0 : List UInt8 := [3, 54, 4, 21, 4, 29, 162, 0, 25, 42, 27, 21, 4, 96, 28, 29, 4, 100, 21, 4, 100, 122, 4, 126]
abbrev dktX8_bits_0 : List UInt8 := dkwX8_bits_0 ++ dktX8_bits_1
theorem dksX8_bits_0 : cX8_bits.data.toList.drop 0 = dktX8_bits_0 := by decide +kernel
theorem dksX8_bits_1 : cX8_bits.data.toList.drop 24 = dktX8_bits_1 := dk_seg dksX8_bits_0 24 rfl rfl
theorem dX8_bits_0 : decode cX8_bits 0 = .ok (.iconst 0, 1) := dk_3 (dk_at dksX8_bits_0 0 rfl rfl)
theorem dX8_bits_1 : decode cX8_bits 1 = .ok (.istore 4, 2) := dk_54 4 (dk_at dksX8_bits_0 1 rfl rfl)
theorem dX8_bits_3 : decode cX8_bits 3 = .ok (.iload 4, 2) := dk_21 4 (dk_at dksX8_bits_0 3 rfl rfl)
theorem dX8_bits_5 : decode cX8_bits 5 = .ok (.iload_n 3, 1) := dk_29 (dk_at dksX8_bits_0 5 rfl rfl)
theorem dX8_bits_6 : decode cX8_bits 6 = .ok (.if_icmp .ge 25, 3) := dk_162 0 25 (dk_at dksX8_bits_0 6 rfl rfl)
theorem dX8_bits_9 : decode cX8_bits 9 = .ok (.aload_n 0, 1) := dk_42 (dk_at dksX8_bits_0 9 rfl rfl)
theorem dX8_bits_10 : decode cX8_bits 10 = .ok (.iload_n 1, 1) := dk_27 (dk_at dksX8_bits_0 10 rfl rfl)
theorem dX8_bits_11 : decode cX8_bits 11 = .ok (.iload 4, 2) := dk_21 4 (dk_at dksX8_bits_0 11 rfl rfl)
theorem dX8_bits_13 : decode cX8_bits 13 = .ok (.iadd, 1) := dk_96 (dk_at dksX8_bits_0 13 rfl rfl)
theorem dX8_bits_14 : decode cX8_bits 14 = .ok (.iload_n 2, 1) := dk_28 (dk_at dksX8_bits_0 14 rfl rfl)
theorem dX8_bits_15 : decode cX8_bits 15 = .ok (.iload_n 3, 1) := dk_29 (dk_at dksX8_bits_0 15 rfl rfl)
theorem dX8_bits_16 : decode cX8_bits 16 = .ok (.iconst 1, 1) := dk_4 (dk_at dksX8_bits_0 16 rfl rfl)
theorem dX8_bits_17 : decode cX8_bits 17 = .ok (.isub, 1) := dk_100 (dk_at dksX8_bits_0 17 rfl rfl)
theorem dX8_bits_18 : decode cX8_bits 18 = .ok (.iload 4, 2) := dk_21 4 (dk_at dksX8_bits_0 18 rfl rfl)
theorem dX8_bits_20 : decode cX8_bits 20 = .ok (.isub, 1) := dk_100 (dk_at dksX8_bits_0 20 rfl rfl)
theorem dX8_bits_21 : decode cX8_bits 21 = .ok (.ishr, 1) := dk_122 (dk_at dksX8_bits_0 21 rfl rfl)
theorem dX8_bits_22 : decode cX8_bits 22 = .ok (.iconst 1, 1) := dk_4 (dk_at dksX8_bits_0 22 rfl rfl)
theorem dX8_bits_23 : decode cX8_bits 23 = .ok (.iand, 1) := dk_126 (dk_at dksX8_bits_0 23 rfl rfl)
theorem dX8_bits_24 : decode cX8_bits 24 = .ok (.iastore, 1) := dk_79 (dk_at dksX8_bits_1 0 rfl rfl)
theorem dX8_bits_25 : decode cX8_bits 25 = .ok (.iinc 4 1, 3) := dk_132 4 1 (dk_at dksX8_bits_1 1 rfl rfl)
theorem dX8_bits_28 : decode cX8_bits 28 = .ok (.goto (-25), 3) := dk_167 255 231 (dk_at dksX8_bits_1 4 rfl rfl)
theorem dX8_bits_31 : decode cX8_bits 31 = .ok (.return_, 1) := dk_177 (dk_at dksX8_bits_1 7 rfl rfl)
abbrev cX8_crcOf : ByteArray := prog_29_method_10_code
def yX8_crcOf : MethodName := ⟨RX8, "crcOf", "([III)I"⟩
def dkwX8_crcOf_2 : List UInt8 := [29, 62, 132, 4, 1, 167, 255, 208, 29, 172]
abbrev dktX8_crcOf_2 : List UInt8 := dkwX8_crcOf_2 ++ []
def dkwX8_crcOf_1 : List UInt8 := [54, 5, 29, 4, 120, 17, 127, 255, 126, 62, 21, 5, 4, 160, 0, 11, 29, 17, 69, 153, 130, 167, 0, 4]
abbrev dktX8_crcOf_1 : List UInt8 := dkwX8_crcOf_1 ++ dktX8_crcOf_2
def dkwX8_crcOf_0 : List UInt8 := [3, 62, 3, 54, 4, 21, 4, 28, 162, 0, 48, 42, 27, 21, 4, 96, 46, 29, 16, 14, 122, 4, 126, 130]
abbrev dktX8_crcOf_0 : List UInt8 := dkwX8_crcOf_0 ++ dktX8_crcOf_1
theorem dksX8_crcOf_0 : cX8_crcOf.data.toList.drop 0 = dktX8_crcOf_0 := by decide +kernel
theorem dksX8_crcOf_1 : cX8_crcOf.data.toList.drop 24 = dktX8_crcOf_1 := dk_seg dksX8_crcOf_0 24 rfl rfl
theorem dksX8_crcOf_2 : cX8_crcOf.data.toList.drop 48 = dktX8_crcOf_2 := dk_seg dksX8_crcOf_1 24 rfl rfl
theorem dX8_crcOf_0 : decode cX8_crcOf 0 = .ok (.iconst 0, 1) := dk_3 (dk_at dksX8_crcOf_0 0 rfl rfl)
theorem dX8_crcOf_1 : decode cX8_crcOf 1 = .ok (.istore_n 3, 1) := dk_62 (dk_at dksX8_crcOf_0 1 rfl rfl)
theorem dX8_crcOf_2 : decode cX8_crcOf 2 = .ok (.iconst 0, 1) := dk_3 (dk_at dksX8_crcOf_0 2 rfl rfl)
theorem dX8_crcOf_3 : decode cX8_crcOf 3 = .ok (.istore 4, 2) := dk_54 4 (dk_at dksX8_crcOf_0 3 rfl rfl)
theorem dX8_crcOf_5 : decode cX8_crcOf 5 = .ok (.iload 4, 2) := dk_21 4 (dk_at dksX8_crcOf_0 5 rfl rfl)
theorem dX8_crcOf_7 : decode cX8_crcOf 7 = .ok (.iload_n 2, 1) := dk_28 (dk_at dksX8_crcOf_0 7 rfl rfl)
theorem dX8_crcOf_8 : decode cX8_crcOf 8 = .ok (.if_icmp .ge 48, 3) := dk_162 0 48 (dk_at dksX8_crcOf_0 8 rfl rfl)
theorem dX8_crcOf_11 : decode cX8_crcOf 11 = .ok (.aload_n 0, 1) := dk_42 (dk_at dksX8_crcOf_0 11 rfl rfl)
theorem dX8_crcOf_12 : decode cX8_crcOf 12 = .ok (.iload_n 1, 1) := dk_27 (dk_at dksX8_crcOf_0 12 rfl rfl)
theorem dX8_crcOf_13 : decode cX8_crcOf 13 = .ok (.iload 4, 2) := dk_21 4 (dk_at dksX8_crcOf_0 13 rfl rfl)
theorem dX8_crcOf_15 : decode cX8_crcOf 15 = .ok (.iadd, 1) := dk_96 (dk_at dksX8_crcOf_0 15 rfl rfl)
theorem dX8_crcOf_16 : decode cX8_crcOf 16 = .ok (.iaload, 1) := dk_46 (dk_at dksX8_crcOf_0 16 rfl rfl)
theorem dX8_crcOf_17 : decode cX8_crcOf 17 = .ok (.iload_n 3, 1) := dk_29 (dk_at dksX8_crcOf_0 17 rfl rfl)
theorem dX8_crcOf_18 : decode cX8_crcOf 18 = .ok (.bipush 14, 2) := dk_16 14 (dk_at dksX8_crcOf_0 18 rfl rfl)
theorem dX8_crcOf_20 : decode cX8_crcOf 20 = .ok (.ishr, 1) := dk_122 (dk_at dksX8_crcOf_0 20 rfl rfl)
theorem dX8_crcOf_21 : decode cX8_crcOf 21 = .ok (.iconst 1, 1) := dk_4 (dk_at dksX8_crcOf_0 21 rfl rfl)
theorem dX8_crcOf_22 : decode cX8_crcOf 22 = .ok (.iand, 1) := dk_126 (dk_at dksX8_crcOf_0 22 rfl rfl)
theorem dX8_crcOf_23 : decode cX8_crcOf 23 = .ok (.ixor, 1) := dk_130 (dk_at dksX8_crcOf_0 23 rfl rfl)
theorem dX8_crcOf_24 : decode cX8_crcOf 24 = .ok (.istore 5, 2) := dk_54 5 (dk_at dksX8_crcOf_1 0 rfl rfl)
theorem dX8_crcOf_26 : decode cX8_crcOf 26 = .ok (.iload_n 3, 1) := dk_29 (dk_at dksX8_crcOf_1 2 rfl rfl)
theorem dX8_crcOf_27 : decode cX8_crcOf 27 = .ok (.iconst 1, 1) := dk_4 (dk_at dksX8_crcOf_1 3 rfl rfl)
theorem dX8_crcOf_28 : decode cX8_crcOf 28 = .ok (.ishl, 1) := dk_120 (dk_at dksX8_crcOf_1 4 rfl rfl)
theorem dX8_crcOf_29 : decode cX8_crcOf 29 = .ok (.sipush 32767, 3) := dk_17 127 255 (dk_at dksX8_crcOf_1 5 rfl rfl)
theorem dX8_crcOf_32 : decode cX8_crcOf 32 = .ok (.iand, 1) := dk_126 (dk_at dksX8_crcOf_1 8 rfl rfl)
theorem dX8_crcOf_33 : decode cX8_crcOf 33 = .ok (.istore_n 3, 1) := dk_62 (dk_at dksX8_crcOf_1 9 rfl rfl)
theorem dX8_crcOf_34 : decode cX8_crcOf 34 = .ok (.iload 5, 2) := dk_21 5 (dk_at dksX8_crcOf_1 10 rfl rfl)
theorem dX8_crcOf_36 : decode cX8_crcOf 36 = .ok (.iconst 1, 1) := dk_4 (dk_at dksX8_crcOf_1 12 rfl rfl)
theorem dX8_crcOf_37 : decode cX8_crcOf 37 = .ok (.if_icmp .ne 11, 3) := dk_160 0 11 (dk_at dksX8_crcOf_1 13 rfl rfl)
theorem dX8_crcOf_40 : decode cX8_crcOf 40 = .ok (.iload_n 3, 1) := dk_29 (dk_at dksX8_crcOf_1 16 rfl rfl)
theorem dX8_crcOf_41 : decode cX8_crcOf 41 = .ok (.sipush 17817, 3) := dk_17 69 153 (dk_at dksX8_crcOf_1 17 rfl rfl)
theorem dX8_crcOf_44 : decode cX8_crcOf 44 = .ok (.ixor, 1) := dk_130 (dk_at dksX8_crcOf_1 20 rfl rfl)
theorem dX8_crcOf_45 : decode cX8_crcOf 45 = .ok (.goto 4, 3) := dk_167 0 4 (dk_at dksX8_crcOf_1 21 rfl rfl)
theorem dX8_crcOf_48 : decode cX8_crcOf 48 = .ok (.iload_n 3, 1) := dk_29 (dk_at dksX8_crcOf_2 0 rfl rfl)
theorem dX8_crcOf_49 : decode cX8_crcOf 49 = .ok (.istore_n 3, 1) := dk_62 (dk_at dksX8_crcOf_2 1 rfl rfl)
theorem dX8_crcOf_50 : decode cX8_crcOf 50 = .ok (.iinc 4 1, 3) := dk_132 4 1 (dk_at dksX8_crcOf_2 2 rfl rfl)
theorem dX8_crcOf_53 : decode cX8_crcOf 53 = .ok (.goto (-48), 3) := dk_167 255 208 (dk_at dksX8_crcOf_2 5 rfl rfl)
theorem dX8_crcOf_56 : decode cX8_crcOf 56 = .ok (.iload_n 3, 1) := dk_29 (dk_at dksX8_crcOf_2 8 rfl rfl)
theorem dX8_crcOf_57 : decode cX8_crcOf 57 = .ok (.ireturn, 1) := dk_172 (dk_at dksX8_crcOf_2 9 rfl rfl)
abbrev cX8_frameBits : ByteArray := prog_29_method_15_code
def yX8_frameBits : MethodName := ⟨RX8, "frameBits", "(IZII)I"⟩
def dkwX8_frameBits_1 : List UInt8 := [153, 0, 7, 4, 167, 0, 4, 3, 29, 21, 4, 184, 0, 55, 2, 182, 0, 59, 172]
abbrev dktX8_frameBits_1 : List UInt8 := dkwX8_frameBits_1 ++ []
def dkwX8_frameBits_0 : List UInt8 := [27, 28, 29, 21, 4, 184, 0, 51, 154, 0, 6, 16, 254, 172, 42, 42, 180, 0, 29, 3, 27, 28]
abbrev dktX8_frameBits_0 : List UInt8 := dkwX8_frameBits_0 ++ dktX8_frameBits_1
theorem dksX8_frameBits_0 : cX8_frameBits.data.toList.drop 0 = dktX8_frameBits_0 := by decide +kernel
theorem dksX8_frameBits_1 : cX8_frameBits.data.toList.drop 22 = dktX8_frameBits_1 := dk_seg dksX8_frameBits_0 22 rfl rfl
theorem dX8_frameBits_0 : decode cX8_frameBits 0 = .ok (.iload_n 1, 1) := dk_27 (dk_at dksX8_frameBits_0 0 rfl rfl)
theorem dX8_frameBits_1 : decode cX8_frameBits 1 = .ok (.iload_n 2, 1) := dk_28 (dk_at dksX8_frameBits_0 1 rfl rfl)
theorem dX8_frameBits_2 : decode cX8_frameBits 2 = .ok (.iload_n 3, 1) := dk_29 (dk_at dksX8_frameBits_0 2 rfl rfl)
theorem dX8_frameBits_3 : decode cX8_frameBits 3 = .ok (.iload 4, 2) := dk_21 4 (dk_at dksX8_frameBits_0 3 rfl rfl)
theorem dX8_frameBits_5 : decode cX8_frameBits 5 = .ok (.invokestatic 51, 3) := dk_184 0 51 (dk_at dksX8_frameBits_0 5 rfl rfl)
theorem dX8_frameBits_8 : decode cX8_frameBits 8 = .ok (.ifCond .ne 6, 3) := dk_154 0 6 (dk_at dksX8_frameBits_0 8 rfl rfl)
theorem dX8_frameBits_11 : decode cX8_frameBits 11 = .ok (.bipush (-2), 2) := dk_16 254 (dk_at dksX8_frameBits_0 11 rfl rfl)
theorem dX8_frameBits_13 : decode cX8_frameBits 13 = .ok (.ireturn, 1) := dk_172 (dk_at dksX8_frameBits_0 13 rfl rfl)
theorem dX8_frameBits_14 : decode cX8_frameBits 14 = .ok (.aload_n 0, 1) := dk_42 (dk_at dksX8_frameBits_0 14 rfl rfl)
theorem dX8_frameBits_15 : decode cX8_frameBits 15 = .ok (.aload_n 0, 1) := dk_42 (dk_at dksX8_frameBits_0 15 rfl rfl)
theorem dX8_frameBits_16 : decode cX8_frameBits 16 = .ok (.getfield 29, 3) := dk_180 0 29 (dk_at dksX8_frameBits_0 16 rfl rfl)
theorem dX8_frameBits_19 : decode cX8_frameBits 19 = .ok (.iconst 0, 1) := dk_3 (dk_at dksX8_frameBits_0 19 rfl rfl)
theorem dX8_frameBits_20 : decode cX8_frameBits 20 = .ok (.iload_n 1, 1) := dk_27 (dk_at dksX8_frameBits_0 20 rfl rfl)
theorem dX8_frameBits_21 : decode cX8_frameBits 21 = .ok (.iload_n 2, 1) := dk_28 (dk_at dksX8_frameBits_0 21 rfl rfl)
theorem dX8_frameBits_22 : decode cX8_frameBits 22 = .ok (.ifCond .eq 7, 3) := dk_153 0 7 (dk_at dksX8_frameBits_1 0 rfl rfl)
theorem dX8_frameBits_25 : decode cX8_frameBits 25 = .ok (.iconst 1, 1) := dk_4 (dk_at dksX8_frameBits_1 3 rfl rfl)
theorem dX8_frameBits_26 : decode cX8_frameBits 26 = .ok (.goto 4, 3) := dk_167 0 4 (dk_at dksX8_frameBits_1 4 rfl rfl)
theorem dX8_frameBits_29 : decode cX8_frameBits 29 = .ok (.iconst 0, 1) := dk_3 (dk_at dksX8_frameBits_1 7 rfl rfl)
theorem dX8_frameBits_30 : decode cX8_frameBits 30 = .ok (.iload_n 3, 1) := dk_29 (dk_at dksX8_frameBits_1 8 rfl rfl)
theorem dX8_frameBits_31 : decode cX8_frameBits 31 = .ok (.iload 4, 2) := dk_21 4 (dk_at dksX8_frameBits_1 9 rfl rfl)
theorem dX8_frameBits_33 : decode cX8_frameBits 33 = .ok (.invokestatic 55, 3) := dk_184 0 55 (dk_at dksX8_frameBits_1 11 rfl rfl)
theorem dX8_frameBits_36 : decode cX8_frameBits 36 = .ok (.iconst (-1), 1) := dk_2 (dk_at dksX8_frameBits_1 14 rfl rfl)
theorem dX8_frameBits_37 : decode cX8_frameBits 37 = .ok (.invokevirtual 59, 3) := dk_182 0 59 (dk_at dksX8_frameBits_1 15 rfl rfl)
theorem dX8_frameBits_40 : decode cX8_frameBits 40 = .ok (.ireturn, 1) := dk_172 (dk_at dksX8_frameBits_1 18 rfl rfl)
abbrev cX8_onBus : ByteArray := prog_29_method_13_code
def yX8_onBus : MethodName := ⟨RX8, "onBus", "(II)I"⟩
def dkwX8_onBus_5 : List UInt8 := [167, 0, 5, 16, 251, 172]
abbrev dktX8_onBus_5 : List UInt8 := dkwX8_onBus_5 ++ []
def dkwX8_onBus_4 : List UInt8 := [172, 132, 3, 1, 167, 255, 168, 132, 3, 10, 28, 156, 0, 7, 29, 167, 0, 14, 28, 29, 162, 0, 7, 4]
abbrev dktX8_onBus_4 : List UInt8 := dkwX8_onBus_4 ++ dktX8_onBus_5
def dkwX8_onBus_3 : List UInt8 := [162, 0, 10, 21, 4, 4, 96, 167, 0, 4, 4, 54, 4, 21, 7, 54, 5, 29, 28, 160, 0, 6, 21, 7]
abbrev dktX8_onBus_3 : List UInt8 := dkwX8_onBus_3 ++ dktX8_onBus_4
def dkwX8_onBus_2 : List UInt8 := [21, 4, 8, 160, 0, 7, 3, 167, 0, 4, 4, 96, 54, 6, 21, 7, 21, 5, 160, 0, 16, 21, 4, 8]
abbrev dktX8_onBus_2 : List UInt8 := dkwX8_onBus_2 ++ dktX8_onBus_3
def dkwX8_onBus_1 : List UInt8 := [21, 4, 8, 160, 0, 10, 4, 21, 5, 100, 167, 0, 10, 42, 180, 0, 29, 21, 6, 46, 54, 7, 21, 6]
abbrev dktX8_onBus_1 : List UInt8 := dkwX8_onBus_1 ++ dktX8_onBus_2
def dkwX8_onBus_0 : List UInt8 := [3, 62, 3, 54, 4, 2, 54, 5, 3, 54, 6, 21, 6, 27, 161, 0, 9, 21, 4, 8, 160, 0, 82]
abbrev dktX8_onBus_0 : List UInt8 := dkwX8_onBus_0 ++ dktX8_onBus_1
theorem dksX8_onBus_0 : cX8_onBus.data.toList.drop 0 = dktX8_onBus_0 := by decide +kernel
theorem dksX8_onBus_1 : cX8_onBus.data.toList.drop 23 = dktX8_onBus_1 := dk_seg dksX8_onBus_0 23 rfl rfl
theorem dksX8_onBus_2 : cX8_onBus.data.toList.drop 47 = dktX8_onBus_2 := dk_seg dksX8_onBus_1 24 rfl rfl
theorem dksX8_onBus_3 : cX8_onBus.data.toList.drop 71 = dktX8_onBus_3 := dk_seg dksX8_onBus_2 24 rfl rfl
theorem dksX8_onBus_4 : cX8_onBus.data.toList.drop 95 = dktX8_onBus_4 := dk_seg dksX8_onBus_3 24 rfl rfl
theorem dksX8_onBus_5 : cX8_onBus.data.toList.drop 119 = dktX8_onBus_5 := dk_seg dksX8_onBus_4 24 rfl rfl
theorem dX8_onBus_0 : decode cX8_onBus 0 = .ok (.iconst 0, 1) := dk_3 (dk_at dksX8_onBus_0 0 rfl rfl)
theorem dX8_onBus_1 : decode cX8_onBus 1 = .ok (.istore_n 3, 1) := dk_62 (dk_at dksX8_onBus_0 1 rfl rfl)
theorem dX8_onBus_2 : decode cX8_onBus 2 = .ok (.iconst 0, 1) := dk_3 (dk_at dksX8_onBus_0 2 rfl rfl)
theorem dX8_onBus_3 : decode cX8_onBus 3 = .ok (.istore 4, 2) := dk_54 4 (dk_at dksX8_onBus_0 3 rfl rfl)
theorem dX8_onBus_5 : decode cX8_onBus 5 = .ok (.iconst (-1), 1) := dk_2 (dk_at dksX8_onBus_0 5 rfl rfl)
theorem dX8_onBus_6 : decode cX8_onBus 6 = .ok (.istore 5, 2) := dk_54 5 (dk_at dksX8_onBus_0 6 rfl rfl)
theorem dX8_onBus_8 : decode cX8_onBus 8 = .ok (.iconst 0, 1) := dk_3 (dk_at dksX8_onBus_0 8 rfl rfl)
theorem dX8_onBus_9 : decode cX8_onBus 9 = .ok (.istore 6, 2) := dk_54 6 (dk_at dksX8_onBus_0 9 rfl rfl)
theorem dX8_onBus_11 : decode cX8_onBus 11 = .ok (.iload 6, 2) := dk_21 6 (dk_at dksX8_onBus_0 11 rfl rfl)
theorem dX8_onBus_13 : decode cX8_onBus 13 = .ok (.iload_n 1, 1) := dk_27 (dk_at dksX8_onBus_0 13 rfl rfl)
theorem dX8_onBus_14 : decode cX8_onBus 14 = .ok (.if_icmp .lt 9, 3) := dk_161 0 9 (dk_at dksX8_onBus_0 14 rfl rfl)
theorem dX8_onBus_17 : decode cX8_onBus 17 = .ok (.iload 4, 2) := dk_21 4 (dk_at dksX8_onBus_0 17 rfl rfl)
theorem dX8_onBus_19 : decode cX8_onBus 19 = .ok (.iconst 5, 1) := dk_8 (dk_at dksX8_onBus_0 19 rfl rfl)
theorem dX8_onBus_20 : decode cX8_onBus 20 = .ok (.if_icmp .ne 82, 3) := dk_160 0 82 (dk_at dksX8_onBus_0 20 rfl rfl)
theorem dX8_onBus_23 : decode cX8_onBus 23 = .ok (.iload 4, 2) := dk_21 4 (dk_at dksX8_onBus_1 0 rfl rfl)
theorem dX8_onBus_25 : decode cX8_onBus 25 = .ok (.iconst 5, 1) := dk_8 (dk_at dksX8_onBus_1 2 rfl rfl)
theorem dX8_onBus_26 : decode cX8_onBus 26 = .ok (.if_icmp .ne 10, 3) := dk_160 0 10 (dk_at dksX8_onBus_1 3 rfl rfl)
theorem dX8_onBus_29 : decode cX8_onBus 29 = .ok (.iconst 1, 1) := dk_4 (dk_at dksX8_onBus_1 6 rfl rfl)
theorem dX8_onBus_30 : decode cX8_onBus 30 = .ok (.iload 5, 2) := dk_21 5 (dk_at dksX8_onBus_1 7 rfl rfl)
theorem dX8_onBus_32 : decode cX8_onBus 32 = .ok (.isub, 1) := dk_100 (dk_at dksX8_onBus_1 9 rfl rfl)
theorem dX8_onBus_33 : decode cX8_onBus 33 = .ok (.goto 10, 3) := dk_167 0 10 (dk_at dksX8_onBus_1 10 rfl rfl)
theorem dX8_onBus_36 : decode cX8_onBus 36 = .ok (.aload_n 0, 1) := dk_42 (dk_at dksX8_onBus_1 13 rfl rfl)
theorem dX8_onBus_37 : decode cX8_onBus 37 = .ok (.getfield 29, 3) := dk_180 0 29 (dk_at dksX8_onBus_1 14 rfl rfl)
theorem dX8_onBus_40 : decode cX8_onBus 40 = .ok (.iload 6, 2) := dk_21 6 (dk_at dksX8_onBus_1 17 rfl rfl)
theorem dX8_onBus_42 : decode cX8_onBus 42 = .ok (.iaload, 1) := dk_46 (dk_at dksX8_onBus_1 19 rfl rfl)
theorem dX8_onBus_43 : decode cX8_onBus 43 = .ok (.istore 7, 2) := dk_54 7 (dk_at dksX8_onBus_1 20 rfl rfl)
theorem dX8_onBus_45 : decode cX8_onBus 45 = .ok (.iload 6, 2) := dk_21 6 (dk_at dksX8_onBus_1 22 rfl rfl)
theorem dX8_onBus_47 : decode cX8_onBus 47 = .ok (.iload 4, 2) := dk_21 4 (dk_at dksX8_onBus_2 0 rfl rfl)
theorem dX8_onBus_49 : decode cX8_onBus 49 = .ok (.iconst 5, 1) := dk_8 (dk_at dksX8_onBus_2 2 rfl rfl)
theorem dX8_onBus_50 : decode cX8_onBus 50 = .ok (.if_icmp .ne 7, 3) := dk_160 0 7 (dk_at dksX8_onBus_2 3 rfl rfl)
theorem dX8_onBus_53 : decode cX8_onBus 53 = .ok (.iconst 0, 1) := dk_3 (dk_at dksX8_onBus_2 6 rfl rfl)
theorem dX8_onBus_54 : decode cX8_onBus 54 = .ok (.goto 4, 3) := dk_167 0 4 (dk_at dksX8_onBus_2 7 rfl rfl)
theorem dX8_onBus_57 : decode cX8_onBus 57 = .ok (.iconst 1, 1) := dk_4 (dk_at dksX8_onBus_2 10 rfl rfl)
theorem dX8_onBus_58 : decode cX8_onBus 58 = .ok (.iadd, 1) := dk_96 (dk_at dksX8_onBus_2 11 rfl rfl)
theorem dX8_onBus_59 : decode cX8_onBus 59 = .ok (.istore 6, 2) := dk_54 6 (dk_at dksX8_onBus_2 12 rfl rfl)
theorem dX8_onBus_61 : decode cX8_onBus 61 = .ok (.iload 7, 2) := dk_21 7 (dk_at dksX8_onBus_2 14 rfl rfl)
theorem dX8_onBus_63 : decode cX8_onBus 63 = .ok (.iload 5, 2) := dk_21 5 (dk_at dksX8_onBus_2 16 rfl rfl)
theorem dX8_onBus_65 : decode cX8_onBus 65 = .ok (.if_icmp .ne 16, 3) := dk_160 0 16 (dk_at dksX8_onBus_2 18 rfl rfl)
theorem dX8_onBus_68 : decode cX8_onBus 68 = .ok (.iload 4, 2) := dk_21 4 (dk_at dksX8_onBus_2 21 rfl rfl)
theorem dX8_onBus_70 : decode cX8_onBus 70 = .ok (.iconst 5, 1) := dk_8 (dk_at dksX8_onBus_2 23 rfl rfl)
theorem dX8_onBus_71 : decode cX8_onBus 71 = .ok (.if_icmp .ge 10, 3) := dk_162 0 10 (dk_at dksX8_onBus_3 0 rfl rfl)
theorem dX8_onBus_74 : decode cX8_onBus 74 = .ok (.iload 4, 2) := dk_21 4 (dk_at dksX8_onBus_3 3 rfl rfl)
theorem dX8_onBus_76 : decode cX8_onBus 76 = .ok (.iconst 1, 1) := dk_4 (dk_at dksX8_onBus_3 5 rfl rfl)
theorem dX8_onBus_77 : decode cX8_onBus 77 = .ok (.iadd, 1) := dk_96 (dk_at dksX8_onBus_3 6 rfl rfl)
theorem dX8_onBus_78 : decode cX8_onBus 78 = .ok (.goto 4, 3) := dk_167 0 4 (dk_at dksX8_onBus_3 7 rfl rfl)
theorem dX8_onBus_81 : decode cX8_onBus 81 = .ok (.iconst 1, 1) := dk_4 (dk_at dksX8_onBus_3 10 rfl rfl)
theorem dX8_onBus_82 : decode cX8_onBus 82 = .ok (.istore 4, 2) := dk_54 4 (dk_at dksX8_onBus_3 11 rfl rfl)
theorem dX8_onBus_84 : decode cX8_onBus 84 = .ok (.iload 7, 2) := dk_21 7 (dk_at dksX8_onBus_3 13 rfl rfl)
theorem dX8_onBus_86 : decode cX8_onBus 86 = .ok (.istore 5, 2) := dk_54 5 (dk_at dksX8_onBus_3 15 rfl rfl)
theorem dX8_onBus_88 : decode cX8_onBus 88 = .ok (.iload_n 3, 1) := dk_29 (dk_at dksX8_onBus_3 17 rfl rfl)
theorem dX8_onBus_89 : decode cX8_onBus 89 = .ok (.iload_n 2, 1) := dk_28 (dk_at dksX8_onBus_3 18 rfl rfl)
theorem dX8_onBus_90 : decode cX8_onBus 90 = .ok (.if_icmp .ne 6, 3) := dk_160 0 6 (dk_at dksX8_onBus_3 19 rfl rfl)
theorem dX8_onBus_93 : decode cX8_onBus 93 = .ok (.iload 7, 2) := dk_21 7 (dk_at dksX8_onBus_3 22 rfl rfl)
theorem dX8_onBus_95 : decode cX8_onBus 95 = .ok (.ireturn, 1) := dk_172 (dk_at dksX8_onBus_4 0 rfl rfl)
theorem dX8_onBus_96 : decode cX8_onBus 96 = .ok (.iinc 3 1, 3) := dk_132 3 1 (dk_at dksX8_onBus_4 1 rfl rfl)
theorem dX8_onBus_99 : decode cX8_onBus 99 = .ok (.goto (-88), 3) := dk_167 255 168 (dk_at dksX8_onBus_4 4 rfl rfl)
theorem dX8_onBus_102 : decode cX8_onBus 102 = .ok (.iinc 3 10, 3) := dk_132 3 10 (dk_at dksX8_onBus_4 7 rfl rfl)
theorem dX8_onBus_105 : decode cX8_onBus 105 = .ok (.iload_n 2, 1) := dk_28 (dk_at dksX8_onBus_4 10 rfl rfl)
theorem dX8_onBus_106 : decode cX8_onBus 106 = .ok (.ifCond .ge 7, 3) := dk_156 0 7 (dk_at dksX8_onBus_4 11 rfl rfl)
theorem dX8_onBus_109 : decode cX8_onBus 109 = .ok (.iload_n 3, 1) := dk_29 (dk_at dksX8_onBus_4 14 rfl rfl)
theorem dX8_onBus_110 : decode cX8_onBus 110 = .ok (.goto 14, 3) := dk_167 0 14 (dk_at dksX8_onBus_4 15 rfl rfl)
theorem dX8_onBus_113 : decode cX8_onBus 113 = .ok (.iload_n 2, 1) := dk_28 (dk_at dksX8_onBus_4 18 rfl rfl)
theorem dX8_onBus_114 : decode cX8_onBus 114 = .ok (.iload_n 3, 1) := dk_29 (dk_at dksX8_onBus_4 19 rfl rfl)
theorem dX8_onBus_115 : decode cX8_onBus 115 = .ok (.if_icmp .ge 7, 3) := dk_162 0 7 (dk_at dksX8_onBus_4 20 rfl rfl)
theorem dX8_onBus_118 : decode cX8_onBus 118 = .ok (.iconst 1, 1) := dk_4 (dk_at dksX8_onBus_4 23 rfl rfl)
theorem dX8_onBus_119 : decode cX8_onBus 119 = .ok (.goto 5, 3) := dk_167 0 5 (dk_at dksX8_onBus_5 0 rfl rfl)
theorem dX8_onBus_122 : decode cX8_onBus 122 = .ok (.bipush (-5), 2) := dk_16 251 (dk_at dksX8_onBus_5 3 rfl rfl)
theorem dX8_onBus_124 : decode cX8_onBus 124 = .ok (.ireturn, 1) := dk_172 (dk_at dksX8_onBus_5 5 rfl rfl)
abbrev cX8_frameBit : ByteArray := prog_29_method_16_code
def yX8_frameBit : MethodName := ⟨RX8, "frameBit", "(IZIII)I"⟩
def dkwX8_frameBit_2 : List UInt8 := [182, 0, 59, 172]
abbrev dktX8_frameBit_2 : List UInt8 := dkwX8_frameBit_2 ++ []
def dkwX8_frameBit_1 : List UInt8 := [42, 42, 180, 0, 29, 3, 27, 28, 153, 0, 7, 4, 167, 0, 4, 3, 29, 21, 4, 184, 0, 55, 21, 5]
abbrev dktX8_frameBit_1 : List UInt8 := dkwX8_frameBit_1 ++ dktX8_frameBit_2
def dkwX8_frameBit_0 : List UInt8 := [27, 28, 29, 21, 4, 184, 0, 51, 154, 0, 6, 16, 254, 172, 21, 5, 156, 0, 8, 16, 251, 167, 0, 30]
abbrev dktX8_frameBit_0 : List UInt8 := dkwX8_frameBit_0 ++ dktX8_frameBit_1
theorem dksX8_frameBit_0 : cX8_frameBit.data.toList.drop 0 = dktX8_frameBit_0 := by decide +kernel
theorem dksX8_frameBit_1 : cX8_frameBit.data.toList.drop 24 = dktX8_frameBit_1 := dk_seg dksX8_frameBit_0 24 rfl rfl
theorem dksX8_frameBit_2 : cX8_frameBit.data.toList.drop 48 = dktX8_frameBit_2 := dk_seg dksX8_frameBit_1 24 rfl rfl
theorem dX8_frameBit_0 : decode cX8_frameBit 0 = .ok (.iload_n 1, 1) := dk_27 (dk_at dksX8_frameBit_0 0 rfl rfl)
theorem dX8_frameBit_1 : decode cX8_frameBit 1 = .ok (.iload_n 2, 1) := dk_28 (dk_at dksX8_frameBit_0 1 rfl rfl)
theorem dX8_frameBit_2 : decode cX8_frameBit 2 = .ok (.iload_n 3, 1) := dk_29 (dk_at dksX8_frameBit_0 2 rfl rfl)
theorem dX8_frameBit_3 : decode cX8_frameBit 3 = .ok (.iload 4, 2) := dk_21 4 (dk_at dksX8_frameBit_0 3 rfl rfl)
theorem dX8_frameBit_5 : decode cX8_frameBit 5 = .ok (.invokestatic 51, 3) := dk_184 0 51 (dk_at dksX8_frameBit_0 5 rfl rfl)
theorem dX8_frameBit_8 : decode cX8_frameBit 8 = .ok (.ifCond .ne 6, 3) := dk_154 0 6 (dk_at dksX8_frameBit_0 8 rfl rfl)
theorem dX8_frameBit_11 : decode cX8_frameBit 11 = .ok (.bipush (-2), 2) := dk_16 254 (dk_at dksX8_frameBit_0 11 rfl rfl)
theorem dX8_frameBit_13 : decode cX8_frameBit 13 = .ok (.ireturn, 1) := dk_172 (dk_at dksX8_frameBit_0 13 rfl rfl)
theorem dX8_frameBit_14 : decode cX8_frameBit 14 = .ok (.iload 5, 2) := dk_21 5 (dk_at dksX8_frameBit_0 14 rfl rfl)
theorem dX8_frameBit_16 : decode cX8_frameBit 16 = .ok (.ifCond .ge 8, 3) := dk_156 0 8 (dk_at dksX8_frameBit_0 16 rfl rfl)
theorem dX8_frameBit_19 : decode cX8_frameBit 19 = .ok (.bipush (-5), 2) := dk_16 251 (dk_at dksX8_frameBit_0 19 rfl rfl)
theorem dX8_frameBit_21 : decode cX8_frameBit 21 = .ok (.goto 30, 3) := dk_167 0 30 (dk_at dksX8_frameBit_0 21 rfl rfl)
theorem dX8_frameBit_24 : decode cX8_frameBit 24 = .ok (.aload_n 0, 1) := dk_42 (dk_at dksX8_frameBit_1 0 rfl rfl)
theorem dX8_frameBit_25 : decode cX8_frameBit 25 = .ok (.aload_n 0, 1) := dk_42 (dk_at dksX8_frameBit_1 1 rfl rfl)
theorem dX8_frameBit_26 : decode cX8_frameBit 26 = .ok (.getfield 29, 3) := dk_180 0 29 (dk_at dksX8_frameBit_1 2 rfl rfl)
theorem dX8_frameBit_29 : decode cX8_frameBit 29 = .ok (.iconst 0, 1) := dk_3 (dk_at dksX8_frameBit_1 5 rfl rfl)
theorem dX8_frameBit_30 : decode cX8_frameBit 30 = .ok (.iload_n 1, 1) := dk_27 (dk_at dksX8_frameBit_1 6 rfl rfl)
theorem dX8_frameBit_31 : decode cX8_frameBit 31 = .ok (.iload_n 2, 1) := dk_28 (dk_at dksX8_frameBit_1 7 rfl rfl)
theorem dX8_frameBit_32 : decode cX8_frameBit 32 = .ok (.ifCond .eq 7, 3) := dk_153 0 7 (dk_at dksX8_frameBit_1 8 rfl rfl)
theorem dX8_frameBit_35 : decode cX8_frameBit 35 = .ok (.iconst 1, 1) := dk_4 (dk_at dksX8_frameBit_1 11 rfl rfl)
theorem dX8_frameBit_36 : decode cX8_frameBit 36 = .ok (.goto 4, 3) := dk_167 0 4 (dk_at dksX8_frameBit_1 12 rfl rfl)
theorem dX8_frameBit_39 : decode cX8_frameBit 39 = .ok (.iconst 0, 1) := dk_3 (dk_at dksX8_frameBit_1 15 rfl rfl)
theorem dX8_frameBit_40 : decode cX8_frameBit 40 = .ok (.iload_n 3, 1) := dk_29 (dk_at dksX8_frameBit_1 16 rfl rfl)
theorem dX8_frameBit_41 : decode cX8_frameBit 41 = .ok (.iload 4, 2) := dk_21 4 (dk_at dksX8_frameBit_1 17 rfl rfl)
theorem dX8_frameBit_43 : decode cX8_frameBit 43 = .ok (.invokestatic 55, 3) := dk_184 0 55 (dk_at dksX8_frameBit_1 19 rfl rfl)
theorem dX8_frameBit_46 : decode cX8_frameBit 46 = .ok (.iload 5, 2) := dk_21 5 (dk_at dksX8_frameBit_1 22 rfl rfl)
theorem dX8_frameBit_48 : decode cX8_frameBit 48 = .ok (.invokevirtual 59, 3) := dk_182 0 59 (dk_at dksX8_frameBit_2 0 rfl rfl)
theorem dX8_frameBit_51 : decode cX8_frameBit 51 = .ok (.ireturn, 1) := dk_172 (dk_at dksX8_frameBit_2 3 rfl rfl)
abbrev cX8_worstBits : ByteArray := prog_29_method_18_code
def yX8_worstBits : MethodName := ⟨RX8, "worstBits", "(I)I"⟩
def dkwX8_worstBits_0 : List UInt8 := [27, 3, 7, 184, 0, 39, 153, 0, 10, 27, 184, 0, 62, 167, 0, 5, 16, 254, 172]
abbrev dktX8_worstBits_0 : List UInt8 := dkwX8_worstBits_0 ++ []
theorem dksX8_worstBits_0 : cX8_worstBits.data.toList.drop 0 = dktX8_worstBits_0 := by decide +kernel
theorem dX8_worstBits_0 : decode cX8_worstBits 0 = .ok (.iload_n 1, 1) := dk_27 (dk_at dksX8_worstBits_0 0 rfl rfl)
theorem dX8_worstBits_1 : decode cX8_worstBits 1 = .ok (.iconst 0, 1) := dk_3 (dk_at dksX8_worstBits_0 1 rfl rfl)
theorem dX8_worstBits_2 : decode cX8_worstBits 2 = .ok (.iconst 4, 1) := dk_7 (dk_at dksX8_worstBits_0 2 rfl rfl)
theorem dX8_worstBits_3 : decode cX8_worstBits 3 = .ok (.invokestatic 39, 3) := dk_184 0 39 (dk_at dksX8_worstBits_0 3 rfl rfl)
theorem dX8_worstBits_6 : decode cX8_worstBits 6 = .ok (.ifCond .eq 10, 3) := dk_153 0 10 (dk_at dksX8_worstBits_0 6 rfl rfl)
theorem dX8_worstBits_9 : decode cX8_worstBits 9 = .ok (.iload_n 1, 1) := dk_27 (dk_at dksX8_worstBits_0 9 rfl rfl)
theorem dX8_worstBits_10 : decode cX8_worstBits 10 = .ok (.invokestatic 62, 3) := dk_184 0 62 (dk_at dksX8_worstBits_0 10 rfl rfl)
theorem dX8_worstBits_13 : decode cX8_worstBits 13 = .ok (.goto 5, 3) := dk_167 0 5 (dk_at dksX8_worstBits_0 13 rfl rfl)
theorem dX8_worstBits_16 : decode cX8_worstBits 16 = .ok (.bipush (-2), 2) := dk_16 254 (dk_at dksX8_worstBits_0 16 rfl rfl)
theorem dX8_worstBits_18 : decode cX8_worstBits 18 = .ok (.ireturn, 1) := dk_172 (dk_at dksX8_worstBits_0 18 rfl rfl)
abbrev cX8_worst : ByteArray := prog_29_method_17_code
def yX8_worst : MethodName := ⟨RX8, "worst", "(I)I"⟩
def dkwX8_worst_0 : List UInt8 := [16, 47, 16, 8, 26, 104, 96, 16, 33, 16, 8, 26, 104, 96, 7, 108, 96, 172]
abbrev dktX8_worst_0 : List UInt8 := dkwX8_worst_0 ++ []
theorem dksX8_worst_0 : cX8_worst.data.toList.drop 0 = dktX8_worst_0 := by decide +kernel
theorem dX8_worst_0 : decode cX8_worst 0 = .ok (.bipush 47, 2) := dk_16 47 (dk_at dksX8_worst_0 0 rfl rfl)
theorem dX8_worst_2 : decode cX8_worst 2 = .ok (.bipush 8, 2) := dk_16 8 (dk_at dksX8_worst_0 2 rfl rfl)
theorem dX8_worst_4 : decode cX8_worst 4 = .ok (.iload_n 0, 1) := dk_26 (dk_at dksX8_worst_0 4 rfl rfl)
theorem dX8_worst_5 : decode cX8_worst 5 = .ok (.imul, 1) := dk_104 (dk_at dksX8_worst_0 5 rfl rfl)
theorem dX8_worst_6 : decode cX8_worst 6 = .ok (.iadd, 1) := dk_96 (dk_at dksX8_worst_0 6 rfl rfl)
theorem dX8_worst_7 : decode cX8_worst 7 = .ok (.bipush 33, 2) := dk_16 33 (dk_at dksX8_worst_0 7 rfl rfl)
theorem dX8_worst_9 : decode cX8_worst 9 = .ok (.bipush 8, 2) := dk_16 8 (dk_at dksX8_worst_0 9 rfl rfl)
theorem dX8_worst_11 : decode cX8_worst 11 = .ok (.iload_n 0, 1) := dk_26 (dk_at dksX8_worst_0 11 rfl rfl)
theorem dX8_worst_12 : decode cX8_worst 12 = .ok (.imul, 1) := dk_104 (dk_at dksX8_worst_0 12 rfl rfl)
theorem dX8_worst_13 : decode cX8_worst 13 = .ok (.iadd, 1) := dk_96 (dk_at dksX8_worst_0 13 rfl rfl)
theorem dX8_worst_14 : decode cX8_worst 14 = .ok (.iconst 4, 1) := dk_7 (dk_at dksX8_worst_0 14 rfl rfl)
theorem dX8_worst_15 : decode cX8_worst 15 = .ok (.idiv, 1) := dk_108 (dk_at dksX8_worst_0 15 rfl rfl)
theorem dX8_worst_16 : decode cX8_worst 16 = .ok (.iadd, 1) := dk_96 (dk_at dksX8_worst_0 16 rfl rfl)
theorem dX8_worst_17 : decode cX8_worst 17 = .ok (.ireturn, 1) := dk_172 (dk_at dksX8_worst_0 17 rfl rfl)
abbrev cX8_setLimits : ByteArray := prog_29_method_19_code
def yX8_setLimits : MethodName := ⟨RX8, "setLimits", "(III)I"⟩
def dkwX8_setLimits_3 : List UInt8 := [42, 180, 0, 7, 17, 4, 3, 29, 79, 21, 4, 172]
abbrev dktX8_setLimits_3 : List UInt8 := dkwX8_setLimits_3 ++ []
def dkwX8_setLimits_2 : List UInt8 := [17, 4, 1, 46, 54, 4, 42, 180, 0, 7, 17, 4, 1, 27, 79, 42, 180, 0, 7, 17, 4, 2, 28, 79]
abbrev dktX8_setLimits_2 : List UInt8 := dkwX8_setLimits_2 ++ dktX8_setLimits_3
def dkwX8_setLimits_1 : List UInt8 := [28, 27, 164, 0, 13, 29, 4, 16, 16, 184, 0, 39, 154, 0, 6, 16, 254, 172, 42, 180, 0, 7]
abbrev dktX8_setLimits_1 : List UInt8 := dkwX8_setLimits_1 ++ dktX8_setLimits_2
def dkwX8_setLimits_0 : List UInt8 := [27, 16, 8, 17, 0, 128, 184, 0, 39, 153, 0, 30, 28, 16, 16, 17, 1, 0, 184, 0, 39, 153, 0, 18]
abbrev dktX8_setLimits_0 : List UInt8 := dkwX8_setLimits_0 ++ dktX8_setLimits_1
theorem dksX8_setLimits_0 : cX8_setLimits.data.toList.drop 0 = dktX8_setLimits_0 := by decide +kernel
theorem dksX8_setLimits_1 : cX8_setLimits.data.toList.drop 24 = dktX8_setLimits_1 := dk_seg dksX8_setLimits_0 24 rfl rfl
theorem dksX8_setLimits_2 : cX8_setLimits.data.toList.drop 46 = dktX8_setLimits_2 := dk_seg dksX8_setLimits_1 22 rfl rfl
theorem dksX8_setLimits_3 : cX8_setLimits.data.toList.drop 70 = dktX8_setLimits_3 := dk_seg dksX8_setLimits_2 24 rfl rfl
theorem dX8_setLimits_0 : decode cX8_setLimits 0 = .ok (.iload_n 1, 1) := dk_27 (dk_at dksX8_setLimits_0 0 rfl rfl)
theorem dX8_setLimits_1 : decode cX8_setLimits 1 = .ok (.bipush 8, 2) := dk_16 8 (dk_at dksX8_setLimits_0 1 rfl rfl)
theorem dX8_setLimits_3 : decode cX8_setLimits 3 = .ok (.sipush 128, 3) := dk_17 0 128 (dk_at dksX8_setLimits_0 3 rfl rfl)
theorem dX8_setLimits_6 : decode cX8_setLimits 6 = .ok (.invokestatic 39, 3) := dk_184 0 39 (dk_at dksX8_setLimits_0 6 rfl rfl)
theorem dX8_setLimits_9 : decode cX8_setLimits 9 = .ok (.ifCond .eq 30, 3) := dk_153 0 30 (dk_at dksX8_setLimits_0 9 rfl rfl)
theorem dX8_setLimits_12 : decode cX8_setLimits 12 = .ok (.iload_n 2, 1) := dk_28 (dk_at dksX8_setLimits_0 12 rfl rfl)
theorem dX8_setLimits_13 : decode cX8_setLimits 13 = .ok (.bipush 16, 2) := dk_16 16 (dk_at dksX8_setLimits_0 13 rfl rfl)
theorem dX8_setLimits_15 : decode cX8_setLimits 15 = .ok (.sipush 256, 3) := dk_17 1 0 (dk_at dksX8_setLimits_0 15 rfl rfl)
theorem dX8_setLimits_18 : decode cX8_setLimits 18 = .ok (.invokestatic 39, 3) := dk_184 0 39 (dk_at dksX8_setLimits_0 18 rfl rfl)
theorem dX8_setLimits_21 : decode cX8_setLimits 21 = .ok (.ifCond .eq 18, 3) := dk_153 0 18 (dk_at dksX8_setLimits_0 21 rfl rfl)
theorem dX8_setLimits_24 : decode cX8_setLimits 24 = .ok (.iload_n 2, 1) := dk_28 (dk_at dksX8_setLimits_1 0 rfl rfl)
theorem dX8_setLimits_25 : decode cX8_setLimits 25 = .ok (.iload_n 1, 1) := dk_27 (dk_at dksX8_setLimits_1 1 rfl rfl)
theorem dX8_setLimits_26 : decode cX8_setLimits 26 = .ok (.if_icmp .le 13, 3) := dk_164 0 13 (dk_at dksX8_setLimits_1 2 rfl rfl)
theorem dX8_setLimits_29 : decode cX8_setLimits 29 = .ok (.iload_n 3, 1) := dk_29 (dk_at dksX8_setLimits_1 5 rfl rfl)
theorem dX8_setLimits_30 : decode cX8_setLimits 30 = .ok (.iconst 1, 1) := dk_4 (dk_at dksX8_setLimits_1 6 rfl rfl)
theorem dX8_setLimits_31 : decode cX8_setLimits 31 = .ok (.bipush 16, 2) := dk_16 16 (dk_at dksX8_setLimits_1 7 rfl rfl)
theorem dX8_setLimits_33 : decode cX8_setLimits 33 = .ok (.invokestatic 39, 3) := dk_184 0 39 (dk_at dksX8_setLimits_1 9 rfl rfl)
theorem dX8_setLimits_36 : decode cX8_setLimits 36 = .ok (.ifCond .ne 6, 3) := dk_154 0 6 (dk_at dksX8_setLimits_1 12 rfl rfl)
theorem dX8_setLimits_39 : decode cX8_setLimits 39 = .ok (.bipush (-2), 2) := dk_16 254 (dk_at dksX8_setLimits_1 15 rfl rfl)
theorem dX8_setLimits_41 : decode cX8_setLimits 41 = .ok (.ireturn, 1) := dk_172 (dk_at dksX8_setLimits_1 17 rfl rfl)
theorem dX8_setLimits_42 : decode cX8_setLimits 42 = .ok (.aload_n 0, 1) := dk_42 (dk_at dksX8_setLimits_1 18 rfl rfl)
theorem dX8_setLimits_43 : decode cX8_setLimits 43 = .ok (.getfield 7, 3) := dk_180 0 7 (dk_at dksX8_setLimits_1 19 rfl rfl)
theorem dX8_setLimits_46 : decode cX8_setLimits 46 = .ok (.sipush 1025, 3) := dk_17 4 1 (dk_at dksX8_setLimits_2 0 rfl rfl)
theorem dX8_setLimits_49 : decode cX8_setLimits 49 = .ok (.iaload, 1) := dk_46 (dk_at dksX8_setLimits_2 3 rfl rfl)
theorem dX8_setLimits_50 : decode cX8_setLimits 50 = .ok (.istore 4, 2) := dk_54 4 (dk_at dksX8_setLimits_2 4 rfl rfl)
theorem dX8_setLimits_52 : decode cX8_setLimits 52 = .ok (.aload_n 0, 1) := dk_42 (dk_at dksX8_setLimits_2 6 rfl rfl)
theorem dX8_setLimits_53 : decode cX8_setLimits 53 = .ok (.getfield 7, 3) := dk_180 0 7 (dk_at dksX8_setLimits_2 7 rfl rfl)
theorem dX8_setLimits_56 : decode cX8_setLimits 56 = .ok (.sipush 1025, 3) := dk_17 4 1 (dk_at dksX8_setLimits_2 10 rfl rfl)
theorem dX8_setLimits_59 : decode cX8_setLimits 59 = .ok (.iload_n 1, 1) := dk_27 (dk_at dksX8_setLimits_2 13 rfl rfl)
theorem dX8_setLimits_60 : decode cX8_setLimits 60 = .ok (.iastore, 1) := dk_79 (dk_at dksX8_setLimits_2 14 rfl rfl)
theorem dX8_setLimits_61 : decode cX8_setLimits 61 = .ok (.aload_n 0, 1) := dk_42 (dk_at dksX8_setLimits_2 15 rfl rfl)
theorem dX8_setLimits_62 : decode cX8_setLimits 62 = .ok (.getfield 7, 3) := dk_180 0 7 (dk_at dksX8_setLimits_2 16 rfl rfl)
theorem dX8_setLimits_65 : decode cX8_setLimits 65 = .ok (.sipush 1026, 3) := dk_17 4 2 (dk_at dksX8_setLimits_2 19 rfl rfl)
theorem dX8_setLimits_68 : decode cX8_setLimits 68 = .ok (.iload_n 2, 1) := dk_28 (dk_at dksX8_setLimits_2 22 rfl rfl)
theorem dX8_setLimits_69 : decode cX8_setLimits 69 = .ok (.iastore, 1) := dk_79 (dk_at dksX8_setLimits_2 23 rfl rfl)
theorem dX8_setLimits_70 : decode cX8_setLimits 70 = .ok (.aload_n 0, 1) := dk_42 (dk_at dksX8_setLimits_3 0 rfl rfl)
theorem dX8_setLimits_71 : decode cX8_setLimits 71 = .ok (.getfield 7, 3) := dk_180 0 7 (dk_at dksX8_setLimits_3 1 rfl rfl)
theorem dX8_setLimits_74 : decode cX8_setLimits 74 = .ok (.sipush 1027, 3) := dk_17 4 3 (dk_at dksX8_setLimits_3 4 rfl rfl)
theorem dX8_setLimits_77 : decode cX8_setLimits 77 = .ok (.iload_n 3, 1) := dk_29 (dk_at dksX8_setLimits_3 7 rfl rfl)
theorem dX8_setLimits_78 : decode cX8_setLimits 78 = .ok (.iastore, 1) := dk_79 (dk_at dksX8_setLimits_3 8 rfl rfl)
theorem dX8_setLimits_79 : decode cX8_setLimits 79 = .ok (.iload 4, 2) := dk_21 4 (dk_at dksX8_setLimits_3 9 rfl rfl)
theorem dX8_setLimits_81 : decode cX8_setLimits 81 = .ok (.ireturn, 1) := dk_172 (dk_at dksX8_setLimits_3 11 rfl rfl)
abbrev cX8_setFilter : ByteArray := prog_29_method_20_code
def yX8_setFilter : MethodName := ⟨RX8, "setFilter", "(III)I"⟩
def dkwX8_setFilter_3 : List UInt8 := [29, 79, 21, 4, 172]
abbrev dktX8_setFilter_3 : List UInt8 := dkwX8_setFilter_3 ++ []
def dkwX8_setFilter_2 : List UInt8 := [54, 4, 42, 180, 0, 7, 27, 16, 16, 184, 0, 35, 28, 79, 42, 180, 0, 7, 27, 16, 17, 184, 0, 35]
abbrev dktX8_setFilter_2 : List UInt8 := dkwX8_setFilter_2 ++ dktX8_setFilter_3
def dkwX8_setFilter_1 : List UInt8 := [17, 7, 255, 184, 0, 39, 154, 0, 6, 16, 254, 172, 42, 180, 0, 7, 27, 16, 16, 184, 0, 35, 46]
abbrev dktX8_setFilter_1 : List UInt8 := dkwX8_setFilter_1 ++ dktX8_setFilter_2
def dkwX8_setFilter_0 : List UInt8 := [27, 184, 0, 66, 154, 0, 5, 2, 172, 28, 3, 17, 7, 255, 184, 0, 39, 153, 0, 14, 29, 3]
abbrev dktX8_setFilter_0 : List UInt8 := dkwX8_setFilter_0 ++ dktX8_setFilter_1
theorem dksX8_setFilter_0 : cX8_setFilter.data.toList.drop 0 = dktX8_setFilter_0 := by decide +kernel
theorem dksX8_setFilter_1 : cX8_setFilter.data.toList.drop 22 = dktX8_setFilter_1 := dk_seg dksX8_setFilter_0 22 rfl rfl
theorem dksX8_setFilter_2 : cX8_setFilter.data.toList.drop 45 = dktX8_setFilter_2 := dk_seg dksX8_setFilter_1 23 rfl rfl
theorem dksX8_setFilter_3 : cX8_setFilter.data.toList.drop 69 = dktX8_setFilter_3 := dk_seg dksX8_setFilter_2 24 rfl rfl
theorem dX8_setFilter_0 : decode cX8_setFilter 0 = .ok (.iload_n 1, 1) := dk_27 (dk_at dksX8_setFilter_0 0 rfl rfl)
theorem dX8_setFilter_1 : decode cX8_setFilter 1 = .ok (.invokestatic 66, 3) := dk_184 0 66 (dk_at dksX8_setFilter_0 1 rfl rfl)
theorem dX8_setFilter_4 : decode cX8_setFilter 4 = .ok (.ifCond .ne 5, 3) := dk_154 0 5 (dk_at dksX8_setFilter_0 4 rfl rfl)
theorem dX8_setFilter_7 : decode cX8_setFilter 7 = .ok (.iconst (-1), 1) := dk_2 (dk_at dksX8_setFilter_0 7 rfl rfl)
theorem dX8_setFilter_8 : decode cX8_setFilter 8 = .ok (.ireturn, 1) := dk_172 (dk_at dksX8_setFilter_0 8 rfl rfl)
theorem dX8_setFilter_9 : decode cX8_setFilter 9 = .ok (.iload_n 2, 1) := dk_28 (dk_at dksX8_setFilter_0 9 rfl rfl)
theorem dX8_setFilter_10 : decode cX8_setFilter 10 = .ok (.iconst 0, 1) := dk_3 (dk_at dksX8_setFilter_0 10 rfl rfl)
theorem dX8_setFilter_11 : decode cX8_setFilter 11 = .ok (.sipush 2047, 3) := dk_17 7 255 (dk_at dksX8_setFilter_0 11 rfl rfl)
theorem dX8_setFilter_14 : decode cX8_setFilter 14 = .ok (.invokestatic 39, 3) := dk_184 0 39 (dk_at dksX8_setFilter_0 14 rfl rfl)
theorem dX8_setFilter_17 : decode cX8_setFilter 17 = .ok (.ifCond .eq 14, 3) := dk_153 0 14 (dk_at dksX8_setFilter_0 17 rfl rfl)
theorem dX8_setFilter_20 : decode cX8_setFilter 20 = .ok (.iload_n 3, 1) := dk_29 (dk_at dksX8_setFilter_0 20 rfl rfl)
theorem dX8_setFilter_21 : decode cX8_setFilter 21 = .ok (.iconst 0, 1) := dk_3 (dk_at dksX8_setFilter_0 21 rfl rfl)
theorem dX8_setFilter_22 : decode cX8_setFilter 22 = .ok (.sipush 2047, 3) := dk_17 7 255 (dk_at dksX8_setFilter_1 0 rfl rfl)
theorem dX8_setFilter_25 : decode cX8_setFilter 25 = .ok (.invokestatic 39, 3) := dk_184 0 39 (dk_at dksX8_setFilter_1 3 rfl rfl)
theorem dX8_setFilter_28 : decode cX8_setFilter 28 = .ok (.ifCond .ne 6, 3) := dk_154 0 6 (dk_at dksX8_setFilter_1 6 rfl rfl)
theorem dX8_setFilter_31 : decode cX8_setFilter 31 = .ok (.bipush (-2), 2) := dk_16 254 (dk_at dksX8_setFilter_1 9 rfl rfl)
theorem dX8_setFilter_33 : decode cX8_setFilter 33 = .ok (.ireturn, 1) := dk_172 (dk_at dksX8_setFilter_1 11 rfl rfl)
theorem dX8_setFilter_34 : decode cX8_setFilter 34 = .ok (.aload_n 0, 1) := dk_42 (dk_at dksX8_setFilter_1 12 rfl rfl)
theorem dX8_setFilter_35 : decode cX8_setFilter 35 = .ok (.getfield 7, 3) := dk_180 0 7 (dk_at dksX8_setFilter_1 13 rfl rfl)
theorem dX8_setFilter_38 : decode cX8_setFilter 38 = .ok (.iload_n 1, 1) := dk_27 (dk_at dksX8_setFilter_1 16 rfl rfl)
theorem dX8_setFilter_39 : decode cX8_setFilter 39 = .ok (.bipush 16, 2) := dk_16 16 (dk_at dksX8_setFilter_1 17 rfl rfl)
theorem dX8_setFilter_41 : decode cX8_setFilter 41 = .ok (.invokestatic 35, 3) := dk_184 0 35 (dk_at dksX8_setFilter_1 19 rfl rfl)
theorem dX8_setFilter_44 : decode cX8_setFilter 44 = .ok (.iaload, 1) := dk_46 (dk_at dksX8_setFilter_1 22 rfl rfl)
theorem dX8_setFilter_45 : decode cX8_setFilter 45 = .ok (.istore 4, 2) := dk_54 4 (dk_at dksX8_setFilter_2 0 rfl rfl)
theorem dX8_setFilter_47 : decode cX8_setFilter 47 = .ok (.aload_n 0, 1) := dk_42 (dk_at dksX8_setFilter_2 2 rfl rfl)
theorem dX8_setFilter_48 : decode cX8_setFilter 48 = .ok (.getfield 7, 3) := dk_180 0 7 (dk_at dksX8_setFilter_2 3 rfl rfl)
theorem dX8_setFilter_51 : decode cX8_setFilter 51 = .ok (.iload_n 1, 1) := dk_27 (dk_at dksX8_setFilter_2 6 rfl rfl)
theorem dX8_setFilter_52 : decode cX8_setFilter 52 = .ok (.bipush 16, 2) := dk_16 16 (dk_at dksX8_setFilter_2 7 rfl rfl)
theorem dX8_setFilter_54 : decode cX8_setFilter 54 = .ok (.invokestatic 35, 3) := dk_184 0 35 (dk_at dksX8_setFilter_2 9 rfl rfl)
theorem dX8_setFilter_57 : decode cX8_setFilter 57 = .ok (.iload_n 2, 1) := dk_28 (dk_at dksX8_setFilter_2 12 rfl rfl)
theorem dX8_setFilter_58 : decode cX8_setFilter 58 = .ok (.iastore, 1) := dk_79 (dk_at dksX8_setFilter_2 13 rfl rfl)
theorem dX8_setFilter_59 : decode cX8_setFilter 59 = .ok (.aload_n 0, 1) := dk_42 (dk_at dksX8_setFilter_2 14 rfl rfl)
theorem dX8_setFilter_60 : decode cX8_setFilter 60 = .ok (.getfield 7, 3) := dk_180 0 7 (dk_at dksX8_setFilter_2 15 rfl rfl)
theorem dX8_setFilter_63 : decode cX8_setFilter 63 = .ok (.iload_n 1, 1) := dk_27 (dk_at dksX8_setFilter_2 18 rfl rfl)
theorem dX8_setFilter_64 : decode cX8_setFilter 64 = .ok (.bipush 17, 2) := dk_16 17 (dk_at dksX8_setFilter_2 19 rfl rfl)
theorem dX8_setFilter_66 : decode cX8_setFilter 66 = .ok (.invokestatic 35, 3) := dk_184 0 35 (dk_at dksX8_setFilter_2 21 rfl rfl)
theorem dX8_setFilter_69 : decode cX8_setFilter 69 = .ok (.iload_n 3, 1) := dk_29 (dk_at dksX8_setFilter_3 0 rfl rfl)
theorem dX8_setFilter_70 : decode cX8_setFilter 70 = .ok (.iastore, 1) := dk_79 (dk_at dksX8_setFilter_3 1 rfl rfl)
theorem dX8_setFilter_71 : decode cX8_setFilter 71 = .ok (.iload 4, 2) := dk_21 4 (dk_at dksX8_setFilter_3 2 rfl rfl)
theorem dX8_setFilter_73 : decode cX8_setFilter 73 = .ok (.ireturn, 1) := dk_172 (dk_at dksX8_setFilter_3 4 rfl rfl)
abbrev cX8_isNode : ByteArray := prog_29_method_8_code
def yX8_isNode : MethodName := ⟨RX8, "isNode", "(I)Z"⟩
def dkwX8_isNode_0 : List UInt8 := [26, 3, 6, 184, 0, 39, 172]
abbrev dktX8_isNode_0 : List UInt8 := dkwX8_isNode_0 ++ []
theorem dksX8_isNode_0 : cX8_isNode.data.toList.drop 0 = dktX8_isNode_0 := by decide +kernel
theorem dX8_isNode_0 : decode cX8_isNode 0 = .ok (.iload_n 0, 1) := dk_26 (dk_at dksX8_isNode_0 0 rfl rfl)
theorem dX8_isNode_1 : decode cX8_isNode 1 = .ok (.iconst 0, 1) := dk_3 (dk_at dksX8_isNode_0 1 rfl rfl)
theorem dX8_isNode_2 : decode cX8_isNode 2 = .ok (.iconst 3, 1) := dk_6 (dk_at dksX8_isNode_0 2 rfl rfl)
theorem dX8_isNode_3 : decode cX8_isNode 3 = .ok (.invokestatic 39, 3) := dk_184 0 39 (dk_at dksX8_isNode_0 3 rfl rfl)
theorem dX8_isNode_6 : decode cX8_isNode 6 = .ok (.ireturn, 1) := dk_172 (dk_at dksX8_isNode_0 6 rfl rfl)
abbrev cX8_setAnswer : ByteArray := prog_29_method_22_code
def yX8_setAnswer : MethodName := ⟨RX8, "setAnswer", "(IIII)I"⟩
def dkwX8_setAnswer_5 : List UInt8 := [21, 4, 79, 42, 180, 0, 7, 27, 16, 25, 184, 0, 35, 46, 172]
abbrev dktX8_setAnswer_5 : List UInt8 := dkwX8_setAnswer_5 ++ []
def dkwX8_setAnswer_4 : List UInt8 := [180, 0, 7, 27, 21, 5, 4, 184, 0, 70, 29, 79, 42, 180, 0, 7, 27, 21, 5, 5, 184, 0, 70]
abbrev dktX8_setAnswer_4 : List UInt8 := dkwX8_setAnswer_4 ++ dktX8_setAnswer_5
def dkwX8_setAnswer_3 : List UInt8 := [16, 25, 184, 0, 35, 92, 46, 4, 96, 79, 42, 180, 0, 7, 27, 21, 5, 3, 184, 0, 70, 28, 79, 42]
abbrev dktX8_setAnswer_3 : List UInt8 := dkwX8_setAnswer_3 ++ dktX8_setAnswer_4
def dkwX8_setAnswer_2 : List UInt8 := [160, 0, 6, 16, 253, 172, 42, 180, 0, 7, 27, 16, 25, 184, 0, 35, 46, 54, 5, 42, 180, 0, 7, 27]
abbrev dktX8_setAnswer_2 : List UInt8 := dkwX8_setAnswer_2 ++ dktX8_setAnswer_3
def dkwX8_setAnswer_1 : List UInt8 := [27, 28, 182, 0, 74, 54, 5, 21, 5, 156, 0, 49, 42, 180, 0, 7, 27, 16, 25, 184, 0, 35, 46, 7]
abbrev dktX8_setAnswer_1 : List UInt8 := dkwX8_setAnswer_1 ++ dktX8_setAnswer_2
def dkwX8_setAnswer_0 : List UInt8 := [27, 184, 0, 66, 154, 0, 5, 2, 172, 28, 3, 29, 21, 4, 184, 0, 51, 154, 0, 6, 16, 254, 172, 42]
abbrev dktX8_setAnswer_0 : List UInt8 := dkwX8_setAnswer_0 ++ dktX8_setAnswer_1
theorem dksX8_setAnswer_0 : cX8_setAnswer.data.toList.drop 0 = dktX8_setAnswer_0 := by decide +kernel
theorem dksX8_setAnswer_1 : cX8_setAnswer.data.toList.drop 24 = dktX8_setAnswer_1 := dk_seg dksX8_setAnswer_0 24 rfl rfl
theorem dksX8_setAnswer_2 : cX8_setAnswer.data.toList.drop 48 = dktX8_setAnswer_2 := dk_seg dksX8_setAnswer_1 24 rfl rfl
theorem dksX8_setAnswer_3 : cX8_setAnswer.data.toList.drop 72 = dktX8_setAnswer_3 := dk_seg dksX8_setAnswer_2 24 rfl rfl
theorem dksX8_setAnswer_4 : cX8_setAnswer.data.toList.drop 96 = dktX8_setAnswer_4 := dk_seg dksX8_setAnswer_3 24 rfl rfl
theorem dksX8_setAnswer_5 : cX8_setAnswer.data.toList.drop 119 = dktX8_setAnswer_5 := dk_seg dksX8_setAnswer_4 23 rfl rfl
theorem dX8_setAnswer_0 : decode cX8_setAnswer 0 = .ok (.iload_n 1, 1) := dk_27 (dk_at dksX8_setAnswer_0 0 rfl rfl)
theorem dX8_setAnswer_1 : decode cX8_setAnswer 1 = .ok (.invokestatic 66, 3) := dk_184 0 66 (dk_at dksX8_setAnswer_0 1 rfl rfl)
theorem dX8_setAnswer_4 : decode cX8_setAnswer 4 = .ok (.ifCond .ne 5, 3) := dk_154 0 5 (dk_at dksX8_setAnswer_0 4 rfl rfl)
theorem dX8_setAnswer_7 : decode cX8_setAnswer 7 = .ok (.iconst (-1), 1) := dk_2 (dk_at dksX8_setAnswer_0 7 rfl rfl)
theorem dX8_setAnswer_8 : decode cX8_setAnswer 8 = .ok (.ireturn, 1) := dk_172 (dk_at dksX8_setAnswer_0 8 rfl rfl)
theorem dX8_setAnswer_9 : decode cX8_setAnswer 9 = .ok (.iload_n 2, 1) := dk_28 (dk_at dksX8_setAnswer_0 9 rfl rfl)
theorem dX8_setAnswer_10 : decode cX8_setAnswer 10 = .ok (.iconst 0, 1) := dk_3 (dk_at dksX8_setAnswer_0 10 rfl rfl)
theorem dX8_setAnswer_11 : decode cX8_setAnswer 11 = .ok (.iload_n 3, 1) := dk_29 (dk_at dksX8_setAnswer_0 11 rfl rfl)
theorem dX8_setAnswer_12 : decode cX8_setAnswer 12 = .ok (.iload 4, 2) := dk_21 4 (dk_at dksX8_setAnswer_0 12 rfl rfl)
theorem dX8_setAnswer_14 : decode cX8_setAnswer 14 = .ok (.invokestatic 51, 3) := dk_184 0 51 (dk_at dksX8_setAnswer_0 14 rfl rfl)
theorem dX8_setAnswer_17 : decode cX8_setAnswer 17 = .ok (.ifCond .ne 6, 3) := dk_154 0 6 (dk_at dksX8_setAnswer_0 17 rfl rfl)
theorem dX8_setAnswer_20 : decode cX8_setAnswer 20 = .ok (.bipush (-2), 2) := dk_16 254 (dk_at dksX8_setAnswer_0 20 rfl rfl)
theorem dX8_setAnswer_22 : decode cX8_setAnswer 22 = .ok (.ireturn, 1) := dk_172 (dk_at dksX8_setAnswer_0 22 rfl rfl)
theorem dX8_setAnswer_23 : decode cX8_setAnswer 23 = .ok (.aload_n 0, 1) := dk_42 (dk_at dksX8_setAnswer_0 23 rfl rfl)
theorem dX8_setAnswer_24 : decode cX8_setAnswer 24 = .ok (.iload_n 1, 1) := dk_27 (dk_at dksX8_setAnswer_1 0 rfl rfl)
theorem dX8_setAnswer_25 : decode cX8_setAnswer 25 = .ok (.iload_n 2, 1) := dk_28 (dk_at dksX8_setAnswer_1 1 rfl rfl)
theorem dX8_setAnswer_26 : decode cX8_setAnswer 26 = .ok (.invokevirtual 74, 3) := dk_182 0 74 (dk_at dksX8_setAnswer_1 2 rfl rfl)
theorem dX8_setAnswer_29 : decode cX8_setAnswer 29 = .ok (.istore 5, 2) := dk_54 5 (dk_at dksX8_setAnswer_1 5 rfl rfl)
theorem dX8_setAnswer_31 : decode cX8_setAnswer 31 = .ok (.iload 5, 2) := dk_21 5 (dk_at dksX8_setAnswer_1 7 rfl rfl)
theorem dX8_setAnswer_33 : decode cX8_setAnswer 33 = .ok (.ifCond .ge 49, 3) := dk_156 0 49 (dk_at dksX8_setAnswer_1 9 rfl rfl)
theorem dX8_setAnswer_36 : decode cX8_setAnswer 36 = .ok (.aload_n 0, 1) := dk_42 (dk_at dksX8_setAnswer_1 12 rfl rfl)
theorem dX8_setAnswer_37 : decode cX8_setAnswer 37 = .ok (.getfield 7, 3) := dk_180 0 7 (dk_at dksX8_setAnswer_1 13 rfl rfl)
theorem dX8_setAnswer_40 : decode cX8_setAnswer 40 = .ok (.iload_n 1, 1) := dk_27 (dk_at dksX8_setAnswer_1 16 rfl rfl)
theorem dX8_setAnswer_41 : decode cX8_setAnswer 41 = .ok (.bipush 25, 2) := dk_16 25 (dk_at dksX8_setAnswer_1 17 rfl rfl)
theorem dX8_setAnswer_43 : decode cX8_setAnswer 43 = .ok (.invokestatic 35, 3) := dk_184 0 35 (dk_at dksX8_setAnswer_1 19 rfl rfl)
theorem dX8_setAnswer_46 : decode cX8_setAnswer 46 = .ok (.iaload, 1) := dk_46 (dk_at dksX8_setAnswer_1 22 rfl rfl)
theorem dX8_setAnswer_47 : decode cX8_setAnswer 47 = .ok (.iconst 4, 1) := dk_7 (dk_at dksX8_setAnswer_1 23 rfl rfl)
theorem dX8_setAnswer_48 : decode cX8_setAnswer 48 = .ok (.if_icmp .ne 6, 3) := dk_160 0 6 (dk_at dksX8_setAnswer_2 0 rfl rfl)
theorem dX8_setAnswer_51 : decode cX8_setAnswer 51 = .ok (.bipush (-3), 2) := dk_16 253 (dk_at dksX8_setAnswer_2 3 rfl rfl)
theorem dX8_setAnswer_53 : decode cX8_setAnswer 53 = .ok (.ireturn, 1) := dk_172 (dk_at dksX8_setAnswer_2 5 rfl rfl)
theorem dX8_setAnswer_54 : decode cX8_setAnswer 54 = .ok (.aload_n 0, 1) := dk_42 (dk_at dksX8_setAnswer_2 6 rfl rfl)
theorem dX8_setAnswer_55 : decode cX8_setAnswer 55 = .ok (.getfield 7, 3) := dk_180 0 7 (dk_at dksX8_setAnswer_2 7 rfl rfl)
theorem dX8_setAnswer_58 : decode cX8_setAnswer 58 = .ok (.iload_n 1, 1) := dk_27 (dk_at dksX8_setAnswer_2 10 rfl rfl)
theorem dX8_setAnswer_59 : decode cX8_setAnswer 59 = .ok (.bipush 25, 2) := dk_16 25 (dk_at dksX8_setAnswer_2 11 rfl rfl)
theorem dX8_setAnswer_61 : decode cX8_setAnswer 61 = .ok (.invokestatic 35, 3) := dk_184 0 35 (dk_at dksX8_setAnswer_2 13 rfl rfl)
theorem dX8_setAnswer_64 : decode cX8_setAnswer 64 = .ok (.iaload, 1) := dk_46 (dk_at dksX8_setAnswer_2 16 rfl rfl)
theorem dX8_setAnswer_65 : decode cX8_setAnswer 65 = .ok (.istore 5, 2) := dk_54 5 (dk_at dksX8_setAnswer_2 17 rfl rfl)
theorem dX8_setAnswer_67 : decode cX8_setAnswer 67 = .ok (.aload_n 0, 1) := dk_42 (dk_at dksX8_setAnswer_2 19 rfl rfl)
theorem dX8_setAnswer_68 : decode cX8_setAnswer 68 = .ok (.getfield 7, 3) := dk_180 0 7 (dk_at dksX8_setAnswer_2 20 rfl rfl)
theorem dX8_setAnswer_71 : decode cX8_setAnswer 71 = .ok (.iload_n 1, 1) := dk_27 (dk_at dksX8_setAnswer_2 23 rfl rfl)
theorem dX8_setAnswer_72 : decode cX8_setAnswer 72 = .ok (.bipush 25, 2) := dk_16 25 (dk_at dksX8_setAnswer_3 0 rfl rfl)
theorem dX8_setAnswer_74 : decode cX8_setAnswer 74 = .ok (.invokestatic 35, 3) := dk_184 0 35 (dk_at dksX8_setAnswer_3 2 rfl rfl)
theorem dX8_setAnswer_77 : decode cX8_setAnswer 77 = .ok (.dup2, 1) := dk_92 (dk_at dksX8_setAnswer_3 5 rfl rfl)
theorem dX8_setAnswer_78 : decode cX8_setAnswer 78 = .ok (.iaload, 1) := dk_46 (dk_at dksX8_setAnswer_3 6 rfl rfl)
theorem dX8_setAnswer_79 : decode cX8_setAnswer 79 = .ok (.iconst 1, 1) := dk_4 (dk_at dksX8_setAnswer_3 7 rfl rfl)
theorem dX8_setAnswer_80 : decode cX8_setAnswer 80 = .ok (.iadd, 1) := dk_96 (dk_at dksX8_setAnswer_3 8 rfl rfl)
theorem dX8_setAnswer_81 : decode cX8_setAnswer 81 = .ok (.iastore, 1) := dk_79 (dk_at dksX8_setAnswer_3 9 rfl rfl)
theorem dX8_setAnswer_82 : decode cX8_setAnswer 82 = .ok (.aload_n 0, 1) := dk_42 (dk_at dksX8_setAnswer_3 10 rfl rfl)
theorem dX8_setAnswer_83 : decode cX8_setAnswer 83 = .ok (.getfield 7, 3) := dk_180 0 7 (dk_at dksX8_setAnswer_3 11 rfl rfl)
theorem dX8_setAnswer_86 : decode cX8_setAnswer 86 = .ok (.iload_n 1, 1) := dk_27 (dk_at dksX8_setAnswer_3 14 rfl rfl)
theorem dX8_setAnswer_87 : decode cX8_setAnswer 87 = .ok (.iload 5, 2) := dk_21 5 (dk_at dksX8_setAnswer_3 15 rfl rfl)
theorem dX8_setAnswer_89 : decode cX8_setAnswer 89 = .ok (.iconst 0, 1) := dk_3 (dk_at dksX8_setAnswer_3 17 rfl rfl)
theorem dX8_setAnswer_90 : decode cX8_setAnswer 90 = .ok (.invokestatic 70, 3) := dk_184 0 70 (dk_at dksX8_setAnswer_3 18 rfl rfl)
theorem dX8_setAnswer_93 : decode cX8_setAnswer 93 = .ok (.iload_n 2, 1) := dk_28 (dk_at dksX8_setAnswer_3 21 rfl rfl)
theorem dX8_setAnswer_94 : decode cX8_setAnswer 94 = .ok (.iastore, 1) := dk_79 (dk_at dksX8_setAnswer_3 22 rfl rfl)
theorem dX8_setAnswer_95 : decode cX8_setAnswer 95 = .ok (.aload_n 0, 1) := dk_42 (dk_at dksX8_setAnswer_3 23 rfl rfl)
theorem dX8_setAnswer_96 : decode cX8_setAnswer 96 = .ok (.getfield 7, 3) := dk_180 0 7 (dk_at dksX8_setAnswer_4 0 rfl rfl)
theorem dX8_setAnswer_99 : decode cX8_setAnswer 99 = .ok (.iload_n 1, 1) := dk_27 (dk_at dksX8_setAnswer_4 3 rfl rfl)
theorem dX8_setAnswer_100 : decode cX8_setAnswer 100 = .ok (.iload 5, 2) := dk_21 5 (dk_at dksX8_setAnswer_4 4 rfl rfl)
theorem dX8_setAnswer_102 : decode cX8_setAnswer 102 = .ok (.iconst 1, 1) := dk_4 (dk_at dksX8_setAnswer_4 6 rfl rfl)
theorem dX8_setAnswer_103 : decode cX8_setAnswer 103 = .ok (.invokestatic 70, 3) := dk_184 0 70 (dk_at dksX8_setAnswer_4 7 rfl rfl)
theorem dX8_setAnswer_106 : decode cX8_setAnswer 106 = .ok (.iload_n 3, 1) := dk_29 (dk_at dksX8_setAnswer_4 10 rfl rfl)
theorem dX8_setAnswer_107 : decode cX8_setAnswer 107 = .ok (.iastore, 1) := dk_79 (dk_at dksX8_setAnswer_4 11 rfl rfl)
theorem dX8_setAnswer_108 : decode cX8_setAnswer 108 = .ok (.aload_n 0, 1) := dk_42 (dk_at dksX8_setAnswer_4 12 rfl rfl)
theorem dX8_setAnswer_109 : decode cX8_setAnswer 109 = .ok (.getfield 7, 3) := dk_180 0 7 (dk_at dksX8_setAnswer_4 13 rfl rfl)
theorem dX8_setAnswer_112 : decode cX8_setAnswer 112 = .ok (.iload_n 1, 1) := dk_27 (dk_at dksX8_setAnswer_4 16 rfl rfl)
theorem dX8_setAnswer_113 : decode cX8_setAnswer 113 = .ok (.iload 5, 2) := dk_21 5 (dk_at dksX8_setAnswer_4 17 rfl rfl)
theorem dX8_setAnswer_115 : decode cX8_setAnswer 115 = .ok (.iconst 2, 1) := dk_5 (dk_at dksX8_setAnswer_4 19 rfl rfl)
theorem dX8_setAnswer_116 : decode cX8_setAnswer 116 = .ok (.invokestatic 70, 3) := dk_184 0 70 (dk_at dksX8_setAnswer_4 20 rfl rfl)
theorem dX8_setAnswer_119 : decode cX8_setAnswer 119 = .ok (.iload 4, 2) := dk_21 4 (dk_at dksX8_setAnswer_5 0 rfl rfl)
theorem dX8_setAnswer_121 : decode cX8_setAnswer 121 = .ok (.iastore, 1) := dk_79 (dk_at dksX8_setAnswer_5 2 rfl rfl)
theorem dX8_setAnswer_122 : decode cX8_setAnswer 122 = .ok (.aload_n 0, 1) := dk_42 (dk_at dksX8_setAnswer_5 3 rfl rfl)
theorem dX8_setAnswer_123 : decode cX8_setAnswer 123 = .ok (.getfield 7, 3) := dk_180 0 7 (dk_at dksX8_setAnswer_5 4 rfl rfl)
theorem dX8_setAnswer_126 : decode cX8_setAnswer 126 = .ok (.iload_n 1, 1) := dk_27 (dk_at dksX8_setAnswer_5 7 rfl rfl)
theorem dX8_setAnswer_127 : decode cX8_setAnswer 127 = .ok (.bipush 25, 2) := dk_16 25 (dk_at dksX8_setAnswer_5 8 rfl rfl)
theorem dX8_setAnswer_129 : decode cX8_setAnswer 129 = .ok (.invokestatic 35, 3) := dk_184 0 35 (dk_at dksX8_setAnswer_5 10 rfl rfl)
theorem dX8_setAnswer_132 : decode cX8_setAnswer 132 = .ok (.iaload, 1) := dk_46 (dk_at dksX8_setAnswer_5 13 rfl rfl)
theorem dX8_setAnswer_133 : decode cX8_setAnswer 133 = .ok (.ireturn, 1) := dk_172 (dk_at dksX8_setAnswer_5 14 rfl rfl)
abbrev cX8_answerFor : ByteArray := prog_29_method_21_code
def yX8_answerFor : MethodName := ⟨RX8, "answerFor", "(II)I"⟩
def dkwX8_answerFor_1 : List UInt8 := [184, 0, 70, 46, 28, 160, 0, 5, 29, 172, 132, 3, 1, 167, 255, 221, 2, 172]
abbrev dktX8_answerFor_1 : List UInt8 := dkwX8_answerFor_1 ++ []
def dkwX8_answerFor_0 : List UInt8 := [3, 62, 29, 42, 180, 0, 7, 27, 16, 25, 184, 0, 35, 46, 162, 0, 26, 42, 180, 0, 7, 27, 29, 3]
abbrev dktX8_answerFor_0 : List UInt8 := dkwX8_answerFor_0 ++ dktX8_answerFor_1
theorem dksX8_answerFor_0 : cX8_answerFor.data.toList.drop 0 = dktX8_answerFor_0 := by decide +kernel
theorem dksX8_answerFor_1 : cX8_answerFor.data.toList.drop 24 = dktX8_answerFor_1 := dk_seg dksX8_answerFor_0 24 rfl rfl
theorem dX8_answerFor_0 : decode cX8_answerFor 0 = .ok (.iconst 0, 1) := dk_3 (dk_at dksX8_answerFor_0 0 rfl rfl)
theorem dX8_answerFor_1 : decode cX8_answerFor 1 = .ok (.istore_n 3, 1) := dk_62 (dk_at dksX8_answerFor_0 1 rfl rfl)
theorem dX8_answerFor_2 : decode cX8_answerFor 2 = .ok (.iload_n 3, 1) := dk_29 (dk_at dksX8_answerFor_0 2 rfl rfl)
theorem dX8_answerFor_3 : decode cX8_answerFor 3 = .ok (.aload_n 0, 1) := dk_42 (dk_at dksX8_answerFor_0 3 rfl rfl)
theorem dX8_answerFor_4 : decode cX8_answerFor 4 = .ok (.getfield 7, 3) := dk_180 0 7 (dk_at dksX8_answerFor_0 4 rfl rfl)
theorem dX8_answerFor_7 : decode cX8_answerFor 7 = .ok (.iload_n 1, 1) := dk_27 (dk_at dksX8_answerFor_0 7 rfl rfl)
theorem dX8_answerFor_8 : decode cX8_answerFor 8 = .ok (.bipush 25, 2) := dk_16 25 (dk_at dksX8_answerFor_0 8 rfl rfl)
theorem dX8_answerFor_10 : decode cX8_answerFor 10 = .ok (.invokestatic 35, 3) := dk_184 0 35 (dk_at dksX8_answerFor_0 10 rfl rfl)
theorem dX8_answerFor_13 : decode cX8_answerFor 13 = .ok (.iaload, 1) := dk_46 (dk_at dksX8_answerFor_0 13 rfl rfl)
theorem dX8_answerFor_14 : decode cX8_answerFor 14 = .ok (.if_icmp .ge 26, 3) := dk_162 0 26 (dk_at dksX8_answerFor_0 14 rfl rfl)
theorem dX8_answerFor_17 : decode cX8_answerFor 17 = .ok (.aload_n 0, 1) := dk_42 (dk_at dksX8_answerFor_0 17 rfl rfl)
theorem dX8_answerFor_18 : decode cX8_answerFor 18 = .ok (.getfield 7, 3) := dk_180 0 7 (dk_at dksX8_answerFor_0 18 rfl rfl)
theorem dX8_answerFor_21 : decode cX8_answerFor 21 = .ok (.iload_n 1, 1) := dk_27 (dk_at dksX8_answerFor_0 21 rfl rfl)
theorem dX8_answerFor_22 : decode cX8_answerFor 22 = .ok (.iload_n 3, 1) := dk_29 (dk_at dksX8_answerFor_0 22 rfl rfl)
theorem dX8_answerFor_23 : decode cX8_answerFor 23 = .ok (.iconst 0, 1) := dk_3 (dk_at dksX8_answerFor_0 23 rfl rfl)
theorem dX8_answerFor_24 : decode cX8_answerFor 24 = .ok (.invokestatic 70, 3) := dk_184 0 70 (dk_at dksX8_answerFor_1 0 rfl rfl)
theorem dX8_answerFor_27 : decode cX8_answerFor 27 = .ok (.iaload, 1) := dk_46 (dk_at dksX8_answerFor_1 3 rfl rfl)
theorem dX8_answerFor_28 : decode cX8_answerFor 28 = .ok (.iload_n 2, 1) := dk_28 (dk_at dksX8_answerFor_1 4 rfl rfl)
theorem dX8_answerFor_29 : decode cX8_answerFor 29 = .ok (.if_icmp .ne 5, 3) := dk_160 0 5 (dk_at dksX8_answerFor_1 5 rfl rfl)
theorem dX8_answerFor_32 : decode cX8_answerFor 32 = .ok (.iload_n 3, 1) := dk_29 (dk_at dksX8_answerFor_1 8 rfl rfl)
theorem dX8_answerFor_33 : decode cX8_answerFor 33 = .ok (.ireturn, 1) := dk_172 (dk_at dksX8_answerFor_1 9 rfl rfl)
theorem dX8_answerFor_34 : decode cX8_answerFor 34 = .ok (.iinc 3 1, 3) := dk_132 3 1 (dk_at dksX8_answerFor_1 10 rfl rfl)
theorem dX8_answerFor_37 : decode cX8_answerFor 37 = .ok (.goto (-35), 3) := dk_167 255 221 (dk_at dksX8_answerFor_1 13 rfl rfl)
theorem dX8_answerFor_40 : decode cX8_answerFor 40 = .ok (.iconst (-1), 1) := dk_2 (dk_at dksX8_answerFor_1 16 rfl rfl)
theorem dX8_answerFor_41 : decode cX8_answerFor 41 = .ok (.ireturn, 1) := dk_172 (dk_at dksX8_answerFor_1 17 rfl rfl)
abbrev cX8_answer : ByteArray := prog_29_method_7_code
def yX8_answer : MethodName := ⟨RX8, "answer", "(III)I"⟩
def dkwX8_answer_0 : List UInt8 := [17, 1, 0, 26, 104, 16, 74, 96, 6, 27, 104, 96, 28, 96, 172]
abbrev dktX8_answer_0 : List UInt8 := dkwX8_answer_0 ++ []
theorem dksX8_answer_0 : cX8_answer.data.toList.drop 0 = dktX8_answer_0 := by decide +kernel
theorem dX8_answer_0 : decode cX8_answer 0 = .ok (.sipush 256, 3) := dk_17 1 0 (dk_at dksX8_answer_0 0 rfl rfl)
theorem dX8_answer_3 : decode cX8_answer 3 = .ok (.iload_n 0, 1) := dk_26 (dk_at dksX8_answer_0 3 rfl rfl)
theorem dX8_answer_4 : decode cX8_answer 4 = .ok (.imul, 1) := dk_104 (dk_at dksX8_answer_0 4 rfl rfl)
theorem dX8_answer_5 : decode cX8_answer 5 = .ok (.bipush 74, 2) := dk_16 74 (dk_at dksX8_answer_0 5 rfl rfl)
theorem dX8_answer_7 : decode cX8_answer 7 = .ok (.iadd, 1) := dk_96 (dk_at dksX8_answer_0 7 rfl rfl)
theorem dX8_answer_8 : decode cX8_answer 8 = .ok (.iconst 3, 1) := dk_6 (dk_at dksX8_answer_0 8 rfl rfl)
theorem dX8_answer_9 : decode cX8_answer 9 = .ok (.iload_n 1, 1) := dk_27 (dk_at dksX8_answer_0 9 rfl rfl)
theorem dX8_answer_10 : decode cX8_answer 10 = .ok (.imul, 1) := dk_104 (dk_at dksX8_answer_0 10 rfl rfl)
theorem dX8_answer_11 : decode cX8_answer 11 = .ok (.iadd, 1) := dk_96 (dk_at dksX8_answer_0 11 rfl rfl)
theorem dX8_answer_12 : decode cX8_answer 12 = .ok (.iload_n 2, 1) := dk_28 (dk_at dksX8_answer_0 12 rfl rfl)
theorem dX8_answer_13 : decode cX8_answer 13 = .ok (.iadd, 1) := dk_96 (dk_at dksX8_answer_0 13 rfl rfl)
theorem dX8_answer_14 : decode cX8_answer 14 = .ok (.ireturn, 1) := dk_172 (dk_at dksX8_answer_0 14 rfl rfl)
abbrev cX8_removeAnswer : ByteArray := prog_29_method_23_code
def yX8_removeAnswer : MethodName := ⟨RX8, "removeAnswer", "(II)I"⟩
def dkwX8_removeAnswer_4 : List UInt8 := [16, 25, 184, 0, 35, 46, 172]
abbrev dktX8_removeAnswer_4 : List UInt8 := dkwX8_removeAnswer_4 ++ []
def dkwX8_removeAnswer_3 : List UInt8 := [21, 4, 42, 180, 0, 7, 21, 4, 6, 96, 46, 79, 132, 4, 1, 167, 255, 216, 42, 180, 0, 7, 27]
abbrev dktX8_removeAnswer_3 : List UInt8 := dkwX8_removeAnswer_3 ++ dktX8_removeAnswer_4
def dkwX8_removeAnswer_2 : List UInt8 := [27, 42, 180, 0, 7, 27, 16, 25, 184, 0, 35, 46, 3, 184, 0, 70, 162, 0, 25, 42, 180, 0, 7]
abbrev dktX8_removeAnswer_2 : List UInt8 := dkwX8_removeAnswer_2 ++ dktX8_removeAnswer_3
def dkwX8_removeAnswer_1 : List UInt8 := [180, 0, 7, 27, 16, 25, 184, 0, 35, 92, 46, 4, 100, 79, 27, 29, 3, 184, 0, 70, 54, 4, 21, 4]
abbrev dktX8_removeAnswer_1 : List UInt8 := dkwX8_removeAnswer_1 ++ dktX8_removeAnswer_2
def dkwX8_removeAnswer_0 : List UInt8 := [27, 184, 0, 66, 154, 0, 5, 2, 172, 42, 27, 28, 182, 0, 74, 62, 29, 156, 0, 6, 16, 251, 172, 42]
abbrev dktX8_removeAnswer_0 : List UInt8 := dkwX8_removeAnswer_0 ++ dktX8_removeAnswer_1
theorem dksX8_removeAnswer_0 : cX8_removeAnswer.data.toList.drop 0 = dktX8_removeAnswer_0 := by decide +kernel
theorem dksX8_removeAnswer_1 : cX8_removeAnswer.data.toList.drop 24 = dktX8_removeAnswer_1 := dk_seg dksX8_removeAnswer_0 24 rfl rfl
theorem dksX8_removeAnswer_2 : cX8_removeAnswer.data.toList.drop 48 = dktX8_removeAnswer_2 := dk_seg dksX8_removeAnswer_1 24 rfl rfl
theorem dksX8_removeAnswer_3 : cX8_removeAnswer.data.toList.drop 71 = dktX8_removeAnswer_3 := dk_seg dksX8_removeAnswer_2 23 rfl rfl
theorem dksX8_removeAnswer_4 : cX8_removeAnswer.data.toList.drop 94 = dktX8_removeAnswer_4 := dk_seg dksX8_removeAnswer_3 23 rfl rfl
theorem dX8_removeAnswer_0 : decode cX8_removeAnswer 0 = .ok (.iload_n 1, 1) := dk_27 (dk_at dksX8_removeAnswer_0 0 rfl rfl)
theorem dX8_removeAnswer_1 : decode cX8_removeAnswer 1 = .ok (.invokestatic 66, 3) := dk_184 0 66 (dk_at dksX8_removeAnswer_0 1 rfl rfl)
theorem dX8_removeAnswer_4 : decode cX8_removeAnswer 4 = .ok (.ifCond .ne 5, 3) := dk_154 0 5 (dk_at dksX8_removeAnswer_0 4 rfl rfl)
theorem dX8_removeAnswer_7 : decode cX8_removeAnswer 7 = .ok (.iconst (-1), 1) := dk_2 (dk_at dksX8_removeAnswer_0 7 rfl rfl)
theorem dX8_removeAnswer_8 : decode cX8_removeAnswer 8 = .ok (.ireturn, 1) := dk_172 (dk_at dksX8_removeAnswer_0 8 rfl rfl)
theorem dX8_removeAnswer_9 : decode cX8_removeAnswer 9 = .ok (.aload_n 0, 1) := dk_42 (dk_at dksX8_removeAnswer_0 9 rfl rfl)
theorem dX8_removeAnswer_10 : decode cX8_removeAnswer 10 = .ok (.iload_n 1, 1) := dk_27 (dk_at dksX8_removeAnswer_0 10 rfl rfl)
theorem dX8_removeAnswer_11 : decode cX8_removeAnswer 11 = .ok (.iload_n 2, 1) := dk_28 (dk_at dksX8_removeAnswer_0 11 rfl rfl)
theorem dX8_removeAnswer_12 : decode cX8_removeAnswer 12 = .ok (.invokevirtual 74, 3) := dk_182 0 74 (dk_at dksX8_removeAnswer_0 12 rfl rfl)
theorem dX8_removeAnswer_15 : decode cX8_removeAnswer 15 = .ok (.istore_n 3, 1) := dk_62 (dk_at dksX8_removeAnswer_0 15 rfl rfl)
theorem dX8_removeAnswer_16 : decode cX8_removeAnswer 16 = .ok (.iload_n 3, 1) := dk_29 (dk_at dksX8_removeAnswer_0 16 rfl rfl)
theorem dX8_removeAnswer_17 : decode cX8_removeAnswer 17 = .ok (.ifCond .ge 6, 3) := dk_156 0 6 (dk_at dksX8_removeAnswer_0 17 rfl rfl)
theorem dX8_removeAnswer_20 : decode cX8_removeAnswer 20 = .ok (.bipush (-5), 2) := dk_16 251 (dk_at dksX8_removeAnswer_0 20 rfl rfl)
theorem dX8_removeAnswer_22 : decode cX8_removeAnswer 22 = .ok (.ireturn, 1) := dk_172 (dk_at dksX8_removeAnswer_0 22 rfl rfl)
theorem dX8_removeAnswer_23 : decode cX8_removeAnswer 23 = .ok (.aload_n 0, 1) := dk_42 (dk_at dksX8_removeAnswer_0 23 rfl rfl)
theorem dX8_removeAnswer_24 : decode cX8_removeAnswer 24 = .ok (.getfield 7, 3) := dk_180 0 7 (dk_at dksX8_removeAnswer_1 0 rfl rfl)
theorem dX8_removeAnswer_27 : decode cX8_removeAnswer 27 = .ok (.iload_n 1, 1) := dk_27 (dk_at dksX8_removeAnswer_1 3 rfl rfl)
theorem dX8_removeAnswer_28 : decode cX8_removeAnswer 28 = .ok (.bipush 25, 2) := dk_16 25 (dk_at dksX8_removeAnswer_1 4 rfl rfl)
theorem dX8_removeAnswer_30 : decode cX8_removeAnswer 30 = .ok (.invokestatic 35, 3) := dk_184 0 35 (dk_at dksX8_removeAnswer_1 6 rfl rfl)
theorem dX8_removeAnswer_33 : decode cX8_removeAnswer 33 = .ok (.dup2, 1) := dk_92 (dk_at dksX8_removeAnswer_1 9 rfl rfl)
theorem dX8_removeAnswer_34 : decode cX8_removeAnswer 34 = .ok (.iaload, 1) := dk_46 (dk_at dksX8_removeAnswer_1 10 rfl rfl)
theorem dX8_removeAnswer_35 : decode cX8_removeAnswer 35 = .ok (.iconst 1, 1) := dk_4 (dk_at dksX8_removeAnswer_1 11 rfl rfl)
theorem dX8_removeAnswer_36 : decode cX8_removeAnswer 36 = .ok (.isub, 1) := dk_100 (dk_at dksX8_removeAnswer_1 12 rfl rfl)
theorem dX8_removeAnswer_37 : decode cX8_removeAnswer 37 = .ok (.iastore, 1) := dk_79 (dk_at dksX8_removeAnswer_1 13 rfl rfl)
theorem dX8_removeAnswer_38 : decode cX8_removeAnswer 38 = .ok (.iload_n 1, 1) := dk_27 (dk_at dksX8_removeAnswer_1 14 rfl rfl)
theorem dX8_removeAnswer_39 : decode cX8_removeAnswer 39 = .ok (.iload_n 3, 1) := dk_29 (dk_at dksX8_removeAnswer_1 15 rfl rfl)
theorem dX8_removeAnswer_40 : decode cX8_removeAnswer 40 = .ok (.iconst 0, 1) := dk_3 (dk_at dksX8_removeAnswer_1 16 rfl rfl)
theorem dX8_removeAnswer_41 : decode cX8_removeAnswer 41 = .ok (.invokestatic 70, 3) := dk_184 0 70 (dk_at dksX8_removeAnswer_1 17 rfl rfl)
theorem dX8_removeAnswer_44 : decode cX8_removeAnswer 44 = .ok (.istore 4, 2) := dk_54 4 (dk_at dksX8_removeAnswer_1 20 rfl rfl)
theorem dX8_removeAnswer_46 : decode cX8_removeAnswer 46 = .ok (.iload 4, 2) := dk_21 4 (dk_at dksX8_removeAnswer_1 22 rfl rfl)
theorem dX8_removeAnswer_48 : decode cX8_removeAnswer 48 = .ok (.iload_n 1, 1) := dk_27 (dk_at dksX8_removeAnswer_2 0 rfl rfl)
theorem dX8_removeAnswer_49 : decode cX8_removeAnswer 49 = .ok (.aload_n 0, 1) := dk_42 (dk_at dksX8_removeAnswer_2 1 rfl rfl)
theorem dX8_removeAnswer_50 : decode cX8_removeAnswer 50 = .ok (.getfield 7, 3) := dk_180 0 7 (dk_at dksX8_removeAnswer_2 2 rfl rfl)
theorem dX8_removeAnswer_53 : decode cX8_removeAnswer 53 = .ok (.iload_n 1, 1) := dk_27 (dk_at dksX8_removeAnswer_2 5 rfl rfl)
theorem dX8_removeAnswer_54 : decode cX8_removeAnswer 54 = .ok (.bipush 25, 2) := dk_16 25 (dk_at dksX8_removeAnswer_2 6 rfl rfl)
theorem dX8_removeAnswer_56 : decode cX8_removeAnswer 56 = .ok (.invokestatic 35, 3) := dk_184 0 35 (dk_at dksX8_removeAnswer_2 8 rfl rfl)
theorem dX8_removeAnswer_59 : decode cX8_removeAnswer 59 = .ok (.iaload, 1) := dk_46 (dk_at dksX8_removeAnswer_2 11 rfl rfl)
theorem dX8_removeAnswer_60 : decode cX8_removeAnswer 60 = .ok (.iconst 0, 1) := dk_3 (dk_at dksX8_removeAnswer_2 12 rfl rfl)
theorem dX8_removeAnswer_61 : decode cX8_removeAnswer 61 = .ok (.invokestatic 70, 3) := dk_184 0 70 (dk_at dksX8_removeAnswer_2 13 rfl rfl)
theorem dX8_removeAnswer_64 : decode cX8_removeAnswer 64 = .ok (.if_icmp .ge 25, 3) := dk_162 0 25 (dk_at dksX8_removeAnswer_2 16 rfl rfl)
theorem dX8_removeAnswer_67 : decode cX8_removeAnswer 67 = .ok (.aload_n 0, 1) := dk_42 (dk_at dksX8_removeAnswer_2 19 rfl rfl)
theorem dX8_removeAnswer_68 : decode cX8_removeAnswer 68 = .ok (.getfield 7, 3) := dk_180 0 7 (dk_at dksX8_removeAnswer_2 20 rfl rfl)
theorem dX8_removeAnswer_71 : decode cX8_removeAnswer 71 = .ok (.iload 4, 2) := dk_21 4 (dk_at dksX8_removeAnswer_3 0 rfl rfl)
theorem dX8_removeAnswer_73 : decode cX8_removeAnswer 73 = .ok (.aload_n 0, 1) := dk_42 (dk_at dksX8_removeAnswer_3 2 rfl rfl)
theorem dX8_removeAnswer_74 : decode cX8_removeAnswer 74 = .ok (.getfield 7, 3) := dk_180 0 7 (dk_at dksX8_removeAnswer_3 3 rfl rfl)
theorem dX8_removeAnswer_77 : decode cX8_removeAnswer 77 = .ok (.iload 4, 2) := dk_21 4 (dk_at dksX8_removeAnswer_3 6 rfl rfl)
theorem dX8_removeAnswer_79 : decode cX8_removeAnswer 79 = .ok (.iconst 3, 1) := dk_6 (dk_at dksX8_removeAnswer_3 8 rfl rfl)
theorem dX8_removeAnswer_80 : decode cX8_removeAnswer 80 = .ok (.iadd, 1) := dk_96 (dk_at dksX8_removeAnswer_3 9 rfl rfl)
theorem dX8_removeAnswer_81 : decode cX8_removeAnswer 81 = .ok (.iaload, 1) := dk_46 (dk_at dksX8_removeAnswer_3 10 rfl rfl)
theorem dX8_removeAnswer_82 : decode cX8_removeAnswer 82 = .ok (.iastore, 1) := dk_79 (dk_at dksX8_removeAnswer_3 11 rfl rfl)
theorem dX8_removeAnswer_83 : decode cX8_removeAnswer 83 = .ok (.iinc 4 1, 3) := dk_132 4 1 (dk_at dksX8_removeAnswer_3 12 rfl rfl)
theorem dX8_removeAnswer_86 : decode cX8_removeAnswer 86 = .ok (.goto (-40), 3) := dk_167 255 216 (dk_at dksX8_removeAnswer_3 15 rfl rfl)
theorem dX8_removeAnswer_89 : decode cX8_removeAnswer 89 = .ok (.aload_n 0, 1) := dk_42 (dk_at dksX8_removeAnswer_3 18 rfl rfl)
theorem dX8_removeAnswer_90 : decode cX8_removeAnswer 90 = .ok (.getfield 7, 3) := dk_180 0 7 (dk_at dksX8_removeAnswer_3 19 rfl rfl)
theorem dX8_removeAnswer_93 : decode cX8_removeAnswer 93 = .ok (.iload_n 1, 1) := dk_27 (dk_at dksX8_removeAnswer_3 22 rfl rfl)
theorem dX8_removeAnswer_94 : decode cX8_removeAnswer 94 = .ok (.bipush 25, 2) := dk_16 25 (dk_at dksX8_removeAnswer_4 0 rfl rfl)
theorem dX8_removeAnswer_96 : decode cX8_removeAnswer 96 = .ok (.invokestatic 35, 3) := dk_184 0 35 (dk_at dksX8_removeAnswer_4 2 rfl rfl)
theorem dX8_removeAnswer_99 : decode cX8_removeAnswer 99 = .ok (.iaload, 1) := dk_46 (dk_at dksX8_removeAnswer_4 5 rfl rfl)
theorem dX8_removeAnswer_100 : decode cX8_removeAnswer 100 = .ok (.ireturn, 1) := dk_172 (dk_at dksX8_removeAnswer_4 6 rfl rfl)
abbrev cX8_detach : ByteArray := prog_29_method_26_code
def yX8_detach : MethodName := ⟨RX8, "detach", "(I)I"⟩
def dkwX8_detach_1 : List UInt8 := [16, 252, 172, 42, 27, 3, 182, 0, 84, 28, 172]
abbrev dktX8_detach_1 : List UInt8 := dkwX8_detach_1 ++ []
def dkwX8_detach_0 : List UInt8 := [27, 184, 0, 66, 154, 0, 5, 2, 172, 42, 180, 0, 7, 27, 3, 184, 0, 35, 46, 61, 28, 154, 0, 6]
abbrev dktX8_detach_0 : List UInt8 := dkwX8_detach_0 ++ dktX8_detach_1
theorem dksX8_detach_0 : cX8_detach.data.toList.drop 0 = dktX8_detach_0 := by decide +kernel
theorem dksX8_detach_1 : cX8_detach.data.toList.drop 24 = dktX8_detach_1 := dk_seg dksX8_detach_0 24 rfl rfl
theorem dX8_detach_0 : decode cX8_detach 0 = .ok (.iload_n 1, 1) := dk_27 (dk_at dksX8_detach_0 0 rfl rfl)
theorem dX8_detach_1 : decode cX8_detach 1 = .ok (.invokestatic 66, 3) := dk_184 0 66 (dk_at dksX8_detach_0 1 rfl rfl)
theorem dX8_detach_4 : decode cX8_detach 4 = .ok (.ifCond .ne 5, 3) := dk_154 0 5 (dk_at dksX8_detach_0 4 rfl rfl)
theorem dX8_detach_7 : decode cX8_detach 7 = .ok (.iconst (-1), 1) := dk_2 (dk_at dksX8_detach_0 7 rfl rfl)
theorem dX8_detach_8 : decode cX8_detach 8 = .ok (.ireturn, 1) := dk_172 (dk_at dksX8_detach_0 8 rfl rfl)
theorem dX8_detach_9 : decode cX8_detach 9 = .ok (.aload_n 0, 1) := dk_42 (dk_at dksX8_detach_0 9 rfl rfl)
theorem dX8_detach_10 : decode cX8_detach 10 = .ok (.getfield 7, 3) := dk_180 0 7 (dk_at dksX8_detach_0 10 rfl rfl)
theorem dX8_detach_13 : decode cX8_detach 13 = .ok (.iload_n 1, 1) := dk_27 (dk_at dksX8_detach_0 13 rfl rfl)
theorem dX8_detach_14 : decode cX8_detach 14 = .ok (.iconst 0, 1) := dk_3 (dk_at dksX8_detach_0 14 rfl rfl)
theorem dX8_detach_15 : decode cX8_detach 15 = .ok (.invokestatic 35, 3) := dk_184 0 35 (dk_at dksX8_detach_0 15 rfl rfl)
theorem dX8_detach_18 : decode cX8_detach 18 = .ok (.iaload, 1) := dk_46 (dk_at dksX8_detach_0 18 rfl rfl)
theorem dX8_detach_19 : decode cX8_detach 19 = .ok (.istore_n 2, 1) := dk_61 (dk_at dksX8_detach_0 19 rfl rfl)
theorem dX8_detach_20 : decode cX8_detach 20 = .ok (.iload_n 2, 1) := dk_28 (dk_at dksX8_detach_0 20 rfl rfl)
theorem dX8_detach_21 : decode cX8_detach 21 = .ok (.ifCond .ne 6, 3) := dk_154 0 6 (dk_at dksX8_detach_0 21 rfl rfl)
theorem dX8_detach_24 : decode cX8_detach 24 = .ok (.bipush (-4), 2) := dk_16 252 (dk_at dksX8_detach_1 0 rfl rfl)
theorem dX8_detach_26 : decode cX8_detach 26 = .ok (.ireturn, 1) := dk_172 (dk_at dksX8_detach_1 2 rfl rfl)
theorem dX8_detach_27 : decode cX8_detach 27 = .ok (.aload_n 0, 1) := dk_42 (dk_at dksX8_detach_1 3 rfl rfl)
theorem dX8_detach_28 : decode cX8_detach 28 = .ok (.iload_n 1, 1) := dk_27 (dk_at dksX8_detach_1 4 rfl rfl)
theorem dX8_detach_29 : decode cX8_detach 29 = .ok (.iconst 0, 1) := dk_3 (dk_at dksX8_detach_1 5 rfl rfl)
theorem dX8_detach_30 : decode cX8_detach 30 = .ok (.invokevirtual 84, 3) := dk_182 0 84 (dk_at dksX8_detach_1 6 rfl rfl)
theorem dX8_detach_33 : decode cX8_detach 33 = .ok (.iload_n 2, 1) := dk_28 (dk_at dksX8_detach_1 9 rfl rfl)
theorem dX8_detach_34 : decode cX8_detach 34 = .ok (.ireturn, 1) := dk_172 (dk_at dksX8_detach_1 10 rfl rfl)
abbrev cX8_goes : ByteArray := prog_29_method_24_code
def yX8_goes : MethodName := ⟨RX8, "goes", "(II)V"⟩
def dkwX8_goes_3 : List UInt8 := [184, 0, 35, 92, 46, 28, 16, 6, 160, 0, 7, 4, 167, 0, 4, 3, 96, 79, 177]
abbrev dktX8_goes_3 : List UInt8 := dkwX8_goes_3 ++ []
def dkwX8_goes_2 : List UInt8 := [27, 4, 184, 0, 35, 3, 79, 28, 7, 159, 0, 8, 42, 27, 182, 0, 77, 42, 180, 0, 7, 27, 16, 13]
abbrev dktX8_goes_2 : List UInt8 := dkwX8_goes_2 ++ dktX8_goes_3
def dkwX8_goes_1 : List UInt8 := [180, 0, 7, 27, 6, 184, 0, 35, 3, 79, 28, 7, 16, 8, 184, 0, 39, 154, 0, 14, 42, 180, 0, 7]
abbrev dktX8_goes_1 : List UInt8 := dkwX8_goes_1 ++ dktX8_goes_2
def dkwX8_goes_0 : List UInt8 := [42, 180, 0, 7, 27, 3, 184, 0, 35, 28, 79, 42, 180, 0, 7, 27, 5, 184, 0, 35, 3, 79, 42]
abbrev dktX8_goes_0 : List UInt8 := dkwX8_goes_0 ++ dktX8_goes_1
theorem dksX8_goes_0 : cX8_goes.data.toList.drop 0 = dktX8_goes_0 := by decide +kernel
theorem dksX8_goes_1 : cX8_goes.data.toList.drop 23 = dktX8_goes_1 := dk_seg dksX8_goes_0 23 rfl rfl
theorem dksX8_goes_2 : cX8_goes.data.toList.drop 47 = dktX8_goes_2 := dk_seg dksX8_goes_1 24 rfl rfl
theorem dksX8_goes_3 : cX8_goes.data.toList.drop 71 = dktX8_goes_3 := dk_seg dksX8_goes_2 24 rfl rfl
theorem dX8_goes_0 : decode cX8_goes 0 = .ok (.aload_n 0, 1) := dk_42 (dk_at dksX8_goes_0 0 rfl rfl)
theorem dX8_goes_1 : decode cX8_goes 1 = .ok (.getfield 7, 3) := dk_180 0 7 (dk_at dksX8_goes_0 1 rfl rfl)
theorem dX8_goes_4 : decode cX8_goes 4 = .ok (.iload_n 1, 1) := dk_27 (dk_at dksX8_goes_0 4 rfl rfl)
theorem dX8_goes_5 : decode cX8_goes 5 = .ok (.iconst 0, 1) := dk_3 (dk_at dksX8_goes_0 5 rfl rfl)
theorem dX8_goes_6 : decode cX8_goes 6 = .ok (.invokestatic 35, 3) := dk_184 0 35 (dk_at dksX8_goes_0 6 rfl rfl)
theorem dX8_goes_9 : decode cX8_goes 9 = .ok (.iload_n 2, 1) := dk_28 (dk_at dksX8_goes_0 9 rfl rfl)
theorem dX8_goes_10 : decode cX8_goes 10 = .ok (.iastore, 1) := dk_79 (dk_at dksX8_goes_0 10 rfl rfl)
theorem dX8_goes_11 : decode cX8_goes 11 = .ok (.aload_n 0, 1) := dk_42 (dk_at dksX8_goes_0 11 rfl rfl)
theorem dX8_goes_12 : decode cX8_goes 12 = .ok (.getfield 7, 3) := dk_180 0 7 (dk_at dksX8_goes_0 12 rfl rfl)
theorem dX8_goes_15 : decode cX8_goes 15 = .ok (.iload_n 1, 1) := dk_27 (dk_at dksX8_goes_0 15 rfl rfl)
theorem dX8_goes_16 : decode cX8_goes 16 = .ok (.iconst 2, 1) := dk_5 (dk_at dksX8_goes_0 16 rfl rfl)
theorem dX8_goes_17 : decode cX8_goes 17 = .ok (.invokestatic 35, 3) := dk_184 0 35 (dk_at dksX8_goes_0 17 rfl rfl)
theorem dX8_goes_20 : decode cX8_goes 20 = .ok (.iconst 0, 1) := dk_3 (dk_at dksX8_goes_0 20 rfl rfl)
theorem dX8_goes_21 : decode cX8_goes 21 = .ok (.iastore, 1) := dk_79 (dk_at dksX8_goes_0 21 rfl rfl)
theorem dX8_goes_22 : decode cX8_goes 22 = .ok (.aload_n 0, 1) := dk_42 (dk_at dksX8_goes_0 22 rfl rfl)
theorem dX8_goes_23 : decode cX8_goes 23 = .ok (.getfield 7, 3) := dk_180 0 7 (dk_at dksX8_goes_1 0 rfl rfl)
theorem dX8_goes_26 : decode cX8_goes 26 = .ok (.iload_n 1, 1) := dk_27 (dk_at dksX8_goes_1 3 rfl rfl)
theorem dX8_goes_27 : decode cX8_goes 27 = .ok (.iconst 3, 1) := dk_6 (dk_at dksX8_goes_1 4 rfl rfl)
theorem dX8_goes_28 : decode cX8_goes 28 = .ok (.invokestatic 35, 3) := dk_184 0 35 (dk_at dksX8_goes_1 5 rfl rfl)
theorem dX8_goes_31 : decode cX8_goes 31 = .ok (.iconst 0, 1) := dk_3 (dk_at dksX8_goes_1 8 rfl rfl)
theorem dX8_goes_32 : decode cX8_goes 32 = .ok (.iastore, 1) := dk_79 (dk_at dksX8_goes_1 9 rfl rfl)
theorem dX8_goes_33 : decode cX8_goes 33 = .ok (.iload_n 2, 1) := dk_28 (dk_at dksX8_goes_1 10 rfl rfl)
theorem dX8_goes_34 : decode cX8_goes 34 = .ok (.iconst 4, 1) := dk_7 (dk_at dksX8_goes_1 11 rfl rfl)
theorem dX8_goes_35 : decode cX8_goes 35 = .ok (.bipush 8, 2) := dk_16 8 (dk_at dksX8_goes_1 12 rfl rfl)
theorem dX8_goes_37 : decode cX8_goes 37 = .ok (.invokestatic 39, 3) := dk_184 0 39 (dk_at dksX8_goes_1 14 rfl rfl)
theorem dX8_goes_40 : decode cX8_goes 40 = .ok (.ifCond .ne 14, 3) := dk_154 0 14 (dk_at dksX8_goes_1 17 rfl rfl)
theorem dX8_goes_43 : decode cX8_goes 43 = .ok (.aload_n 0, 1) := dk_42 (dk_at dksX8_goes_1 20 rfl rfl)
theorem dX8_goes_44 : decode cX8_goes 44 = .ok (.getfield 7, 3) := dk_180 0 7 (dk_at dksX8_goes_1 21 rfl rfl)
theorem dX8_goes_47 : decode cX8_goes 47 = .ok (.iload_n 1, 1) := dk_27 (dk_at dksX8_goes_2 0 rfl rfl)
theorem dX8_goes_48 : decode cX8_goes 48 = .ok (.iconst 1, 1) := dk_4 (dk_at dksX8_goes_2 1 rfl rfl)
theorem dX8_goes_49 : decode cX8_goes 49 = .ok (.invokestatic 35, 3) := dk_184 0 35 (dk_at dksX8_goes_2 2 rfl rfl)
theorem dX8_goes_52 : decode cX8_goes 52 = .ok (.iconst 0, 1) := dk_3 (dk_at dksX8_goes_2 5 rfl rfl)
theorem dX8_goes_53 : decode cX8_goes 53 = .ok (.iastore, 1) := dk_79 (dk_at dksX8_goes_2 6 rfl rfl)
theorem dX8_goes_54 : decode cX8_goes 54 = .ok (.iload_n 2, 1) := dk_28 (dk_at dksX8_goes_2 7 rfl rfl)
theorem dX8_goes_55 : decode cX8_goes 55 = .ok (.iconst 4, 1) := dk_7 (dk_at dksX8_goes_2 8 rfl rfl)
theorem dX8_goes_56 : decode cX8_goes 56 = .ok (.if_icmp .eq 8, 3) := dk_159 0 8 (dk_at dksX8_goes_2 9 rfl rfl)
theorem dX8_goes_59 : decode cX8_goes 59 = .ok (.aload_n 0, 1) := dk_42 (dk_at dksX8_goes_2 12 rfl rfl)
theorem dX8_goes_60 : decode cX8_goes 60 = .ok (.iload_n 1, 1) := dk_27 (dk_at dksX8_goes_2 13 rfl rfl)
theorem dX8_goes_61 : decode cX8_goes 61 = .ok (.invokevirtual 77, 3) := dk_182 0 77 (dk_at dksX8_goes_2 14 rfl rfl)
theorem dX8_goes_64 : decode cX8_goes 64 = .ok (.aload_n 0, 1) := dk_42 (dk_at dksX8_goes_2 17 rfl rfl)
theorem dX8_goes_65 : decode cX8_goes 65 = .ok (.getfield 7, 3) := dk_180 0 7 (dk_at dksX8_goes_2 18 rfl rfl)
theorem dX8_goes_68 : decode cX8_goes 68 = .ok (.iload_n 1, 1) := dk_27 (dk_at dksX8_goes_2 21 rfl rfl)
theorem dX8_goes_69 : decode cX8_goes 69 = .ok (.bipush 13, 2) := dk_16 13 (dk_at dksX8_goes_2 22 rfl rfl)
theorem dX8_goes_71 : decode cX8_goes 71 = .ok (.invokestatic 35, 3) := dk_184 0 35 (dk_at dksX8_goes_3 0 rfl rfl)
theorem dX8_goes_74 : decode cX8_goes 74 = .ok (.dup2, 1) := dk_92 (dk_at dksX8_goes_3 3 rfl rfl)
theorem dX8_goes_75 : decode cX8_goes 75 = .ok (.iaload, 1) := dk_46 (dk_at dksX8_goes_3 4 rfl rfl)
theorem dX8_goes_76 : decode cX8_goes 76 = .ok (.iload_n 2, 1) := dk_28 (dk_at dksX8_goes_3 5 rfl rfl)
theorem dX8_goes_77 : decode cX8_goes 77 = .ok (.bipush 6, 2) := dk_16 6 (dk_at dksX8_goes_3 6 rfl rfl)
theorem dX8_goes_79 : decode cX8_goes 79 = .ok (.if_icmp .ne 7, 3) := dk_160 0 7 (dk_at dksX8_goes_3 8 rfl rfl)
theorem dX8_goes_82 : decode cX8_goes 82 = .ok (.iconst 1, 1) := dk_4 (dk_at dksX8_goes_3 11 rfl rfl)
theorem dX8_goes_83 : decode cX8_goes 83 = .ok (.goto 4, 3) := dk_167 0 4 (dk_at dksX8_goes_3 12 rfl rfl)
theorem dX8_goes_86 : decode cX8_goes 86 = .ok (.iconst 0, 1) := dk_3 (dk_at dksX8_goes_3 15 rfl rfl)
theorem dX8_goes_87 : decode cX8_goes 87 = .ok (.iadd, 1) := dk_96 (dk_at dksX8_goes_3 16 rfl rfl)
theorem dX8_goes_88 : decode cX8_goes 88 = .ok (.iastore, 1) := dk_79 (dk_at dksX8_goes_3 17 rfl rfl)
theorem dX8_goes_89 : decode cX8_goes 89 = .ok (.return_, 1) := dk_177 (dk_at dksX8_goes_3 18 rfl rfl)
abbrev cX8_releases : ByteArray := prog_29_method_25_code
def yX8_releases : MethodName := ⟨RX8, "releases", "(I)V"⟩
def dkwX8_releases_1 : List UInt8 := [167, 255, 236, 177]
abbrev dktX8_releases_1 : List UInt8 := dkwX8_releases_1 ++ []
def dkwX8_releases_0 : List UInt8 := [3, 61, 28, 7, 162, 0, 21, 42, 180, 0, 7, 27, 28, 7, 184, 0, 81, 3, 79, 132, 2, 1]
abbrev dktX8_releases_0 : List UInt8 := dkwX8_releases_0 ++ dktX8_releases_1
theorem dksX8_releases_0 : cX8_releases.data.toList.drop 0 = dktX8_releases_0 := by decide +kernel
theorem dksX8_releases_1 : cX8_releases.data.toList.drop 22 = dktX8_releases_1 := dk_seg dksX8_releases_0 22 rfl rfl
theorem dX8_releases_0 : decode cX8_releases 0 = .ok (.iconst 0, 1) := dk_3 (dk_at dksX8_releases_0 0 rfl rfl)
theorem dX8_releases_1 : decode cX8_releases 1 = .ok (.istore_n 2, 1) := dk_61 (dk_at dksX8_releases_0 1 rfl rfl)
theorem dX8_releases_2 : decode cX8_releases 2 = .ok (.iload_n 2, 1) := dk_28 (dk_at dksX8_releases_0 2 rfl rfl)
theorem dX8_releases_3 : decode cX8_releases 3 = .ok (.iconst 4, 1) := dk_7 (dk_at dksX8_releases_0 3 rfl rfl)
theorem dX8_releases_4 : decode cX8_releases 4 = .ok (.if_icmp .ge 21, 3) := dk_162 0 21 (dk_at dksX8_releases_0 4 rfl rfl)
theorem dX8_releases_7 : decode cX8_releases 7 = .ok (.aload_n 0, 1) := dk_42 (dk_at dksX8_releases_0 7 rfl rfl)
theorem dX8_releases_8 : decode cX8_releases 8 = .ok (.getfield 7, 3) := dk_180 0 7 (dk_at dksX8_releases_0 8 rfl rfl)
theorem dX8_releases_11 : decode cX8_releases 11 = .ok (.iload_n 1, 1) := dk_27 (dk_at dksX8_releases_0 11 rfl rfl)
theorem dX8_releases_12 : decode cX8_releases 12 = .ok (.iload_n 2, 1) := dk_28 (dk_at dksX8_releases_0 12 rfl rfl)
theorem dX8_releases_13 : decode cX8_releases 13 = .ok (.iconst 4, 1) := dk_7 (dk_at dksX8_releases_0 13 rfl rfl)
theorem dX8_releases_14 : decode cX8_releases 14 = .ok (.invokestatic 81, 3) := dk_184 0 81 (dk_at dksX8_releases_0 14 rfl rfl)
theorem dX8_releases_17 : decode cX8_releases 17 = .ok (.iconst 0, 1) := dk_3 (dk_at dksX8_releases_0 17 rfl rfl)
theorem dX8_releases_18 : decode cX8_releases 18 = .ok (.iastore, 1) := dk_79 (dk_at dksX8_releases_0 18 rfl rfl)
theorem dX8_releases_19 : decode cX8_releases 19 = .ok (.iinc 2 1, 3) := dk_132 2 1 (dk_at dksX8_releases_0 19 rfl rfl)
theorem dX8_releases_22 : decode cX8_releases 22 = .ok (.goto (-20), 3) := dk_167 255 236 (dk_at dksX8_releases_1 0 rfl rfl)
theorem dX8_releases_25 : decode cX8_releases 25 = .ok (.return_, 1) := dk_177 (dk_at dksX8_releases_1 3 rfl rfl)
abbrev cX8_wait : ByteArray := prog_29_method_5_code
def yX8_wait : MethodName := ⟨RX8, "wait", "(III)I"⟩
def dkwX8_wait_0 : List UInt8 := [17, 1, 0, 26, 104, 16, 30, 96, 8, 27, 104, 96, 28, 96, 172]
abbrev dktX8_wait_0 : List UInt8 := dkwX8_wait_0 ++ []
theorem dksX8_wait_0 : cX8_wait.data.toList.drop 0 = dktX8_wait_0 := by decide +kernel
theorem dX8_wait_0 : decode cX8_wait 0 = .ok (.sipush 256, 3) := dk_17 1 0 (dk_at dksX8_wait_0 0 rfl rfl)
theorem dX8_wait_3 : decode cX8_wait 3 = .ok (.iload_n 0, 1) := dk_26 (dk_at dksX8_wait_0 3 rfl rfl)
theorem dX8_wait_4 : decode cX8_wait 4 = .ok (.imul, 1) := dk_104 (dk_at dksX8_wait_0 4 rfl rfl)
theorem dX8_wait_5 : decode cX8_wait 5 = .ok (.bipush 30, 2) := dk_16 30 (dk_at dksX8_wait_0 5 rfl rfl)
theorem dX8_wait_7 : decode cX8_wait 7 = .ok (.iadd, 1) := dk_96 (dk_at dksX8_wait_0 7 rfl rfl)
theorem dX8_wait_8 : decode cX8_wait 8 = .ok (.iconst 5, 1) := dk_8 (dk_at dksX8_wait_0 8 rfl rfl)
theorem dX8_wait_9 : decode cX8_wait 9 = .ok (.iload_n 1, 1) := dk_27 (dk_at dksX8_wait_0 9 rfl rfl)
theorem dX8_wait_10 : decode cX8_wait 10 = .ok (.imul, 1) := dk_104 (dk_at dksX8_wait_0 10 rfl rfl)
theorem dX8_wait_11 : decode cX8_wait 11 = .ok (.iadd, 1) := dk_96 (dk_at dksX8_wait_0 11 rfl rfl)
theorem dX8_wait_12 : decode cX8_wait 12 = .ok (.iload_n 2, 1) := dk_28 (dk_at dksX8_wait_0 12 rfl rfl)
theorem dX8_wait_13 : decode cX8_wait 13 = .ok (.iadd, 1) := dk_96 (dk_at dksX8_wait_0 13 rfl rfl)
theorem dX8_wait_14 : decode cX8_wait 14 = .ok (.ireturn, 1) := dk_172 (dk_at dksX8_wait_0 14 rfl rfl)
abbrev cX8_attach : ByteArray := prog_29_method_27_code
def yX8_attach : MethodName := ⟨RX8, "attach", "(I)I"⟩
def dkwX8_attach_2 : List UInt8 := [184, 0, 35, 46, 154, 0, 7, 3, 167, 0, 4, 4, 96, 61, 132, 3, 1, 167, 255, 227, 28, 172]
abbrev dktX8_attach_2 : List UInt8 := dkwX8_attach_2 ++ []
def dkwX8_attach_1 : List UInt8 := [172, 42, 27, 5, 182, 0, 84, 3, 61, 3, 62, 29, 7, 162, 0, 30, 28, 42, 180, 0, 7, 29, 3]
abbrev dktX8_attach_1 : List UInt8 := dkwX8_attach_1 ++ dktX8_attach_2
def dkwX8_attach_0 : List UInt8 := [27, 184, 0, 66, 154, 0, 5, 2, 172, 42, 180, 0, 7, 27, 3, 184, 0, 35, 46, 153, 0, 6, 16, 252]
abbrev dktX8_attach_0 : List UInt8 := dkwX8_attach_0 ++ dktX8_attach_1
theorem dksX8_attach_0 : cX8_attach.data.toList.drop 0 = dktX8_attach_0 := by decide +kernel
theorem dksX8_attach_1 : cX8_attach.data.toList.drop 24 = dktX8_attach_1 := dk_seg dksX8_attach_0 24 rfl rfl
theorem dksX8_attach_2 : cX8_attach.data.toList.drop 47 = dktX8_attach_2 := dk_seg dksX8_attach_1 23 rfl rfl
theorem dX8_attach_0 : decode cX8_attach 0 = .ok (.iload_n 1, 1) := dk_27 (dk_at dksX8_attach_0 0 rfl rfl)
theorem dX8_attach_1 : decode cX8_attach 1 = .ok (.invokestatic 66, 3) := dk_184 0 66 (dk_at dksX8_attach_0 1 rfl rfl)
theorem dX8_attach_4 : decode cX8_attach 4 = .ok (.ifCond .ne 5, 3) := dk_154 0 5 (dk_at dksX8_attach_0 4 rfl rfl)
theorem dX8_attach_7 : decode cX8_attach 7 = .ok (.iconst (-1), 1) := dk_2 (dk_at dksX8_attach_0 7 rfl rfl)
theorem dX8_attach_8 : decode cX8_attach 8 = .ok (.ireturn, 1) := dk_172 (dk_at dksX8_attach_0 8 rfl rfl)
theorem dX8_attach_9 : decode cX8_attach 9 = .ok (.aload_n 0, 1) := dk_42 (dk_at dksX8_attach_0 9 rfl rfl)
theorem dX8_attach_10 : decode cX8_attach 10 = .ok (.getfield 7, 3) := dk_180 0 7 (dk_at dksX8_attach_0 10 rfl rfl)
theorem dX8_attach_13 : decode cX8_attach 13 = .ok (.iload_n 1, 1) := dk_27 (dk_at dksX8_attach_0 13 rfl rfl)
theorem dX8_attach_14 : decode cX8_attach 14 = .ok (.iconst 0, 1) := dk_3 (dk_at dksX8_attach_0 14 rfl rfl)
theorem dX8_attach_15 : decode cX8_attach 15 = .ok (.invokestatic 35, 3) := dk_184 0 35 (dk_at dksX8_attach_0 15 rfl rfl)
theorem dX8_attach_18 : decode cX8_attach 18 = .ok (.iaload, 1) := dk_46 (dk_at dksX8_attach_0 18 rfl rfl)
theorem dX8_attach_19 : decode cX8_attach 19 = .ok (.ifCond .eq 6, 3) := dk_153 0 6 (dk_at dksX8_attach_0 19 rfl rfl)
theorem dX8_attach_22 : decode cX8_attach 22 = .ok (.bipush (-4), 2) := dk_16 252 (dk_at dksX8_attach_0 22 rfl rfl)
theorem dX8_attach_24 : decode cX8_attach 24 = .ok (.ireturn, 1) := dk_172 (dk_at dksX8_attach_1 0 rfl rfl)
theorem dX8_attach_25 : decode cX8_attach 25 = .ok (.aload_n 0, 1) := dk_42 (dk_at dksX8_attach_1 1 rfl rfl)
theorem dX8_attach_26 : decode cX8_attach 26 = .ok (.iload_n 1, 1) := dk_27 (dk_at dksX8_attach_1 2 rfl rfl)
theorem dX8_attach_27 : decode cX8_attach 27 = .ok (.iconst 2, 1) := dk_5 (dk_at dksX8_attach_1 3 rfl rfl)
theorem dX8_attach_28 : decode cX8_attach 28 = .ok (.invokevirtual 84, 3) := dk_182 0 84 (dk_at dksX8_attach_1 4 rfl rfl)
theorem dX8_attach_31 : decode cX8_attach 31 = .ok (.iconst 0, 1) := dk_3 (dk_at dksX8_attach_1 7 rfl rfl)
theorem dX8_attach_32 : decode cX8_attach 32 = .ok (.istore_n 2, 1) := dk_61 (dk_at dksX8_attach_1 8 rfl rfl)
theorem dX8_attach_33 : decode cX8_attach 33 = .ok (.iconst 0, 1) := dk_3 (dk_at dksX8_attach_1 9 rfl rfl)
theorem dX8_attach_34 : decode cX8_attach 34 = .ok (.istore_n 3, 1) := dk_62 (dk_at dksX8_attach_1 10 rfl rfl)
theorem dX8_attach_35 : decode cX8_attach 35 = .ok (.iload_n 3, 1) := dk_29 (dk_at dksX8_attach_1 11 rfl rfl)
theorem dX8_attach_36 : decode cX8_attach 36 = .ok (.iconst 4, 1) := dk_7 (dk_at dksX8_attach_1 12 rfl rfl)
theorem dX8_attach_37 : decode cX8_attach 37 = .ok (.if_icmp .ge 30, 3) := dk_162 0 30 (dk_at dksX8_attach_1 13 rfl rfl)
theorem dX8_attach_40 : decode cX8_attach 40 = .ok (.iload_n 2, 1) := dk_28 (dk_at dksX8_attach_1 16 rfl rfl)
theorem dX8_attach_41 : decode cX8_attach 41 = .ok (.aload_n 0, 1) := dk_42 (dk_at dksX8_attach_1 17 rfl rfl)
theorem dX8_attach_42 : decode cX8_attach 42 = .ok (.getfield 7, 3) := dk_180 0 7 (dk_at dksX8_attach_1 18 rfl rfl)
theorem dX8_attach_45 : decode cX8_attach 45 = .ok (.iload_n 3, 1) := dk_29 (dk_at dksX8_attach_1 21 rfl rfl)
theorem dX8_attach_46 : decode cX8_attach 46 = .ok (.iconst 0, 1) := dk_3 (dk_at dksX8_attach_1 22 rfl rfl)
theorem dX8_attach_47 : decode cX8_attach 47 = .ok (.invokestatic 35, 3) := dk_184 0 35 (dk_at dksX8_attach_2 0 rfl rfl)
theorem dX8_attach_50 : decode cX8_attach 50 = .ok (.iaload, 1) := dk_46 (dk_at dksX8_attach_2 3 rfl rfl)
theorem dX8_attach_51 : decode cX8_attach 51 = .ok (.ifCond .ne 7, 3) := dk_154 0 7 (dk_at dksX8_attach_2 4 rfl rfl)
theorem dX8_attach_54 : decode cX8_attach 54 = .ok (.iconst 0, 1) := dk_3 (dk_at dksX8_attach_2 7 rfl rfl)
theorem dX8_attach_55 : decode cX8_attach 55 = .ok (.goto 4, 3) := dk_167 0 4 (dk_at dksX8_attach_2 8 rfl rfl)
theorem dX8_attach_58 : decode cX8_attach 58 = .ok (.iconst 1, 1) := dk_4 (dk_at dksX8_attach_2 11 rfl rfl)
theorem dX8_attach_59 : decode cX8_attach 59 = .ok (.iadd, 1) := dk_96 (dk_at dksX8_attach_2 12 rfl rfl)
theorem dX8_attach_60 : decode cX8_attach 60 = .ok (.istore_n 2, 1) := dk_61 (dk_at dksX8_attach_2 13 rfl rfl)
theorem dX8_attach_61 : decode cX8_attach 61 = .ok (.iinc 3 1, 3) := dk_132 3 1 (dk_at dksX8_attach_2 14 rfl rfl)
theorem dX8_attach_64 : decode cX8_attach 64 = .ok (.goto (-29), 3) := dk_167 255 227 (dk_at dksX8_attach_2 17 rfl rfl)
theorem dX8_attach_67 : decode cX8_attach 67 = .ok (.iload_n 2, 1) := dk_28 (dk_at dksX8_attach_2 20 rfl rfl)
theorem dX8_attach_68 : decode cX8_attach 68 = .ok (.ireturn, 1) := dk_172 (dk_at dksX8_attach_2 21 rfl rfl)
abbrev cX8_request : ByteArray := prog_29_method_31_code
def yX8_request : MethodName := ⟨RX8, "request", "(IIZII)I"⟩
def dkwX8_request_2 : List UInt8 := [21, 4, 21, 5, 182, 0, 91, 42, 180, 0, 7, 27, 16, 23, 184, 0, 35, 46, 172]
abbrev dktX8_request_2 : List UInt8 := dkwX8_request_2 ++ []
def dkwX8_request_1 : List UInt8 := [42, 27, 182, 0, 88, 154, 0, 6, 16, 253, 172, 42, 27, 28, 29, 153, 0, 7, 4, 167, 0, 4, 3]
abbrev dktX8_request_1 : List UInt8 := dkwX8_request_1 ++ dktX8_request_2
def dkwX8_request_0 : List UInt8 := [27, 184, 0, 66, 154, 0, 5, 2, 172, 28, 29, 21, 4, 21, 5, 184, 0, 51, 154, 0, 6, 16, 254, 172]
abbrev dktX8_request_0 : List UInt8 := dkwX8_request_0 ++ dktX8_request_1
theorem dksX8_request_0 : cX8_request.data.toList.drop 0 = dktX8_request_0 := by decide +kernel
theorem dksX8_request_1 : cX8_request.data.toList.drop 24 = dktX8_request_1 := dk_seg dksX8_request_0 24 rfl rfl
theorem dksX8_request_2 : cX8_request.data.toList.drop 47 = dktX8_request_2 := dk_seg dksX8_request_1 23 rfl rfl
theorem dX8_request_0 : decode cX8_request 0 = .ok (.iload_n 1, 1) := dk_27 (dk_at dksX8_request_0 0 rfl rfl)
theorem dX8_request_1 : decode cX8_request 1 = .ok (.invokestatic 66, 3) := dk_184 0 66 (dk_at dksX8_request_0 1 rfl rfl)
theorem dX8_request_4 : decode cX8_request 4 = .ok (.ifCond .ne 5, 3) := dk_154 0 5 (dk_at dksX8_request_0 4 rfl rfl)
theorem dX8_request_7 : decode cX8_request 7 = .ok (.iconst (-1), 1) := dk_2 (dk_at dksX8_request_0 7 rfl rfl)
theorem dX8_request_8 : decode cX8_request 8 = .ok (.ireturn, 1) := dk_172 (dk_at dksX8_request_0 8 rfl rfl)
theorem dX8_request_9 : decode cX8_request 9 = .ok (.iload_n 2, 1) := dk_28 (dk_at dksX8_request_0 9 rfl rfl)
theorem dX8_request_10 : decode cX8_request 10 = .ok (.iload_n 3, 1) := dk_29 (dk_at dksX8_request_0 10 rfl rfl)
theorem dX8_request_11 : decode cX8_request 11 = .ok (.iload 4, 2) := dk_21 4 (dk_at dksX8_request_0 11 rfl rfl)
theorem dX8_request_13 : decode cX8_request 13 = .ok (.iload 5, 2) := dk_21 5 (dk_at dksX8_request_0 13 rfl rfl)
theorem dX8_request_15 : decode cX8_request 15 = .ok (.invokestatic 51, 3) := dk_184 0 51 (dk_at dksX8_request_0 15 rfl rfl)
theorem dX8_request_18 : decode cX8_request 18 = .ok (.ifCond .ne 6, 3) := dk_154 0 6 (dk_at dksX8_request_0 18 rfl rfl)
theorem dX8_request_21 : decode cX8_request 21 = .ok (.bipush (-2), 2) := dk_16 254 (dk_at dksX8_request_0 21 rfl rfl)
theorem dX8_request_23 : decode cX8_request 23 = .ok (.ireturn, 1) := dk_172 (dk_at dksX8_request_0 23 rfl rfl)
theorem dX8_request_24 : decode cX8_request 24 = .ok (.aload_n 0, 1) := dk_42 (dk_at dksX8_request_1 0 rfl rfl)
theorem dX8_request_25 : decode cX8_request 25 = .ok (.iload_n 1, 1) := dk_27 (dk_at dksX8_request_1 1 rfl rfl)
theorem dX8_request_26 : decode cX8_request 26 = .ok (.invokevirtual 88, 3) := dk_182 0 88 (dk_at dksX8_request_1 2 rfl rfl)
theorem dX8_request_29 : decode cX8_request 29 = .ok (.ifCond .ne 6, 3) := dk_154 0 6 (dk_at dksX8_request_1 5 rfl rfl)
theorem dX8_request_32 : decode cX8_request 32 = .ok (.bipush (-3), 2) := dk_16 253 (dk_at dksX8_request_1 8 rfl rfl)
theorem dX8_request_34 : decode cX8_request 34 = .ok (.ireturn, 1) := dk_172 (dk_at dksX8_request_1 10 rfl rfl)
theorem dX8_request_35 : decode cX8_request 35 = .ok (.aload_n 0, 1) := dk_42 (dk_at dksX8_request_1 11 rfl rfl)
theorem dX8_request_36 : decode cX8_request 36 = .ok (.iload_n 1, 1) := dk_27 (dk_at dksX8_request_1 12 rfl rfl)
theorem dX8_request_37 : decode cX8_request 37 = .ok (.iload_n 2, 1) := dk_28 (dk_at dksX8_request_1 13 rfl rfl)
theorem dX8_request_38 : decode cX8_request 38 = .ok (.iload_n 3, 1) := dk_29 (dk_at dksX8_request_1 14 rfl rfl)
theorem dX8_request_39 : decode cX8_request 39 = .ok (.ifCond .eq 7, 3) := dk_153 0 7 (dk_at dksX8_request_1 15 rfl rfl)
theorem dX8_request_42 : decode cX8_request 42 = .ok (.iconst 1, 1) := dk_4 (dk_at dksX8_request_1 18 rfl rfl)
theorem dX8_request_43 : decode cX8_request 43 = .ok (.goto 4, 3) := dk_167 0 4 (dk_at dksX8_request_1 19 rfl rfl)
theorem dX8_request_46 : decode cX8_request 46 = .ok (.iconst 0, 1) := dk_3 (dk_at dksX8_request_1 22 rfl rfl)
theorem dX8_request_47 : decode cX8_request 47 = .ok (.iload 4, 2) := dk_21 4 (dk_at dksX8_request_2 0 rfl rfl)
theorem dX8_request_49 : decode cX8_request 49 = .ok (.iload 5, 2) := dk_21 5 (dk_at dksX8_request_2 2 rfl rfl)
theorem dX8_request_51 : decode cX8_request 51 = .ok (.invokevirtual 91, 3) := dk_182 0 91 (dk_at dksX8_request_2 4 rfl rfl)
theorem dX8_request_54 : decode cX8_request 54 = .ok (.aload_n 0, 1) := dk_42 (dk_at dksX8_request_2 7 rfl rfl)
theorem dX8_request_55 : decode cX8_request 55 = .ok (.getfield 7, 3) := dk_180 0 7 (dk_at dksX8_request_2 8 rfl rfl)
theorem dX8_request_58 : decode cX8_request 58 = .ok (.iload_n 1, 1) := dk_27 (dk_at dksX8_request_2 11 rfl rfl)
theorem dX8_request_59 : decode cX8_request 59 = .ok (.bipush 23, 2) := dk_16 23 (dk_at dksX8_request_2 12 rfl rfl)
theorem dX8_request_61 : decode cX8_request 61 = .ok (.invokestatic 35, 3) := dk_184 0 35 (dk_at dksX8_request_2 14 rfl rfl)
theorem dX8_request_64 : decode cX8_request 64 = .ok (.iaload, 1) := dk_46 (dk_at dksX8_request_2 17 rfl rfl)
theorem dX8_request_65 : decode cX8_request 65 = .ok (.ireturn, 1) := dk_172 (dk_at dksX8_request_2 18 rfl rfl)
abbrev cX8_isRoom : ByteArray := prog_29_method_28_code
def yX8_isRoom : MethodName := ⟨RX8, "isRoom", "(I)Z"⟩
def dkwX8_isRoom_0 : List UInt8 := [42, 180, 0, 7, 27, 16, 23, 184, 0, 35, 46, 7, 162, 0, 7, 4, 167, 0, 4, 3, 172]
abbrev dktX8_isRoom_0 : List UInt8 := dkwX8_isRoom_0 ++ []
theorem dksX8_isRoom_0 : cX8_isRoom.data.toList.drop 0 = dktX8_isRoom_0 := by decide +kernel
theorem dX8_isRoom_0 : decode cX8_isRoom 0 = .ok (.aload_n 0, 1) := dk_42 (dk_at dksX8_isRoom_0 0 rfl rfl)
theorem dX8_isRoom_1 : decode cX8_isRoom 1 = .ok (.getfield 7, 3) := dk_180 0 7 (dk_at dksX8_isRoom_0 1 rfl rfl)
theorem dX8_isRoom_4 : decode cX8_isRoom 4 = .ok (.iload_n 1, 1) := dk_27 (dk_at dksX8_isRoom_0 4 rfl rfl)
theorem dX8_isRoom_5 : decode cX8_isRoom 5 = .ok (.bipush 23, 2) := dk_16 23 (dk_at dksX8_isRoom_0 5 rfl rfl)
theorem dX8_isRoom_7 : decode cX8_isRoom 7 = .ok (.invokestatic 35, 3) := dk_184 0 35 (dk_at dksX8_isRoom_0 7 rfl rfl)
theorem dX8_isRoom_10 : decode cX8_isRoom 10 = .ok (.iaload, 1) := dk_46 (dk_at dksX8_isRoom_0 10 rfl rfl)
theorem dX8_isRoom_11 : decode cX8_isRoom 11 = .ok (.iconst 4, 1) := dk_7 (dk_at dksX8_isRoom_0 11 rfl rfl)
theorem dX8_isRoom_12 : decode cX8_isRoom 12 = .ok (.if_icmp .ge 7, 3) := dk_162 0 7 (dk_at dksX8_isRoom_0 12 rfl rfl)
theorem dX8_isRoom_15 : decode cX8_isRoom 15 = .ok (.iconst 1, 1) := dk_4 (dk_at dksX8_isRoom_0 15 rfl rfl)
theorem dX8_isRoom_16 : decode cX8_isRoom 16 = .ok (.goto 4, 3) := dk_167 0 4 (dk_at dksX8_isRoom_0 16 rfl rfl)
theorem dX8_isRoom_19 : decode cX8_isRoom 19 = .ok (.iconst 0, 1) := dk_3 (dk_at dksX8_isRoom_0 19 rfl rfl)
theorem dX8_isRoom_20 : decode cX8_isRoom 20 = .ok (.ireturn, 1) := dk_172 (dk_at dksX8_isRoom_0 20 rfl rfl)
abbrev cX8_waits : ByteArray := prog_29_method_29_code
def yX8_waits : MethodName := ⟨RX8, "waits", "(IIIII)V"⟩
def dkwX8_waits_8 : List UInt8 := [4, 96, 79, 177]
abbrev dktX8_waits_8 : List UInt8 := dkwX8_waits_8 ++ []
def dkwX8_waits_7 : List UInt8 := [180, 0, 7, 27, 21, 6, 7, 184, 0, 81, 3, 79, 42, 180, 0, 7, 27, 16, 23, 184, 0, 35, 92, 46]
abbrev dktX8_waits_7 : List UInt8 := dkwX8_waits_7 ++ dktX8_waits_8
def dkwX8_waits_6 : List UInt8 := [21, 6, 5, 184, 0, 81, 21, 4, 79, 42, 180, 0, 7, 27, 21, 6, 6, 184, 0, 81, 21, 5, 79, 42]
abbrev dktX8_waits_6 : List UInt8 := dkwX8_waits_6 ++ dktX8_waits_7
def dkwX8_waits_5 : List UInt8 := [3, 184, 0, 81, 28, 79, 42, 180, 0, 7, 27, 21, 6, 4, 184, 0, 81, 29, 79, 42, 180, 0, 7, 27]
abbrev dktX8_waits_5 : List UInt8 := dkwX8_waits_5 ++ dktX8_waits_6
def dkwX8_waits_4 : List UInt8 := [184, 0, 81, 46, 79, 132, 8, 1, 167, 255, 219, 132, 6, 255, 167, 255, 169, 42, 180, 0, 7, 27, 21, 6]
abbrev dktX8_waits_4 : List UInt8 := dkwX8_waits_4 ++ dktX8_waits_5
def dkwX8_waits_3 : List UInt8 := [42, 180, 0, 7, 27, 21, 6, 21, 8, 184, 0, 81, 42, 180, 0, 7, 27, 21, 6, 4, 100, 21, 8]
abbrev dktX8_waits_3 : List UInt8 := dkwX8_waits_3 ++ dktX8_waits_4
def dkwX8_waits_2 : List UInt8 := [21, 6, 4, 100, 4, 184, 0, 81, 46, 96, 21, 7, 164, 0, 52, 3, 54, 8, 21, 8, 8, 162, 0, 37]
abbrev dktX8_waits_2 : List UInt8 := dkwX8_waits_2 ++ dktX8_waits_3
def dkwX8_waits_1 : List UInt8 := [158, 0, 88, 5, 42, 180, 0, 7, 27, 21, 6, 4, 100, 3, 184, 0, 81, 46, 104, 42, 180, 0, 7, 27]
abbrev dktX8_waits_1 : List UInt8 := dkwX8_waits_1 ++ dktX8_waits_2
def dkwX8_waits_0 : List UInt8 := [42, 180, 0, 7, 27, 16, 23, 184, 0, 35, 46, 54, 6, 5, 28, 104, 29, 96, 54, 7, 21, 6]
abbrev dktX8_waits_0 : List UInt8 := dkwX8_waits_0 ++ dktX8_waits_1
theorem dksX8_waits_0 : cX8_waits.data.toList.drop 0 = dktX8_waits_0 := by decide +kernel
theorem dksX8_waits_1 : cX8_waits.data.toList.drop 22 = dktX8_waits_1 := dk_seg dksX8_waits_0 22 rfl rfl
theorem dksX8_waits_2 : cX8_waits.data.toList.drop 46 = dktX8_waits_2 := dk_seg dksX8_waits_1 24 rfl rfl
theorem dksX8_waits_3 : cX8_waits.data.toList.drop 70 = dktX8_waits_3 := dk_seg dksX8_waits_2 24 rfl rfl
theorem dksX8_waits_4 : cX8_waits.data.toList.drop 93 = dktX8_waits_4 := dk_seg dksX8_waits_3 23 rfl rfl
theorem dksX8_waits_5 : cX8_waits.data.toList.drop 117 = dktX8_waits_5 := dk_seg dksX8_waits_4 24 rfl rfl
theorem dksX8_waits_6 : cX8_waits.data.toList.drop 141 = dktX8_waits_6 := dk_seg dksX8_waits_5 24 rfl rfl
theorem dksX8_waits_7 : cX8_waits.data.toList.drop 165 = dktX8_waits_7 := dk_seg dksX8_waits_6 24 rfl rfl
theorem dksX8_waits_8 : cX8_waits.data.toList.drop 189 = dktX8_waits_8 := dk_seg dksX8_waits_7 24 rfl rfl
theorem dX8_waits_0 : decode cX8_waits 0 = .ok (.aload_n 0, 1) := dk_42 (dk_at dksX8_waits_0 0 rfl rfl)
theorem dX8_waits_1 : decode cX8_waits 1 = .ok (.getfield 7, 3) := dk_180 0 7 (dk_at dksX8_waits_0 1 rfl rfl)
theorem dX8_waits_4 : decode cX8_waits 4 = .ok (.iload_n 1, 1) := dk_27 (dk_at dksX8_waits_0 4 rfl rfl)
theorem dX8_waits_5 : decode cX8_waits 5 = .ok (.bipush 23, 2) := dk_16 23 (dk_at dksX8_waits_0 5 rfl rfl)
theorem dX8_waits_7 : decode cX8_waits 7 = .ok (.invokestatic 35, 3) := dk_184 0 35 (dk_at dksX8_waits_0 7 rfl rfl)
theorem dX8_waits_10 : decode cX8_waits 10 = .ok (.iaload, 1) := dk_46 (dk_at dksX8_waits_0 10 rfl rfl)
theorem dX8_waits_11 : decode cX8_waits 11 = .ok (.istore 6, 2) := dk_54 6 (dk_at dksX8_waits_0 11 rfl rfl)
theorem dX8_waits_13 : decode cX8_waits 13 = .ok (.iconst 2, 1) := dk_5 (dk_at dksX8_waits_0 13 rfl rfl)
theorem dX8_waits_14 : decode cX8_waits 14 = .ok (.iload_n 2, 1) := dk_28 (dk_at dksX8_waits_0 14 rfl rfl)
theorem dX8_waits_15 : decode cX8_waits 15 = .ok (.imul, 1) := dk_104 (dk_at dksX8_waits_0 15 rfl rfl)
theorem dX8_waits_16 : decode cX8_waits 16 = .ok (.iload_n 3, 1) := dk_29 (dk_at dksX8_waits_0 16 rfl rfl)
theorem dX8_waits_17 : decode cX8_waits 17 = .ok (.iadd, 1) := dk_96 (dk_at dksX8_waits_0 17 rfl rfl)
theorem dX8_waits_18 : decode cX8_waits 18 = .ok (.istore 7, 2) := dk_54 7 (dk_at dksX8_waits_0 18 rfl rfl)
theorem dX8_waits_20 : decode cX8_waits 20 = .ok (.iload 6, 2) := dk_21 6 (dk_at dksX8_waits_0 20 rfl rfl)
theorem dX8_waits_22 : decode cX8_waits 22 = .ok (.ifCond .le 88, 3) := dk_158 0 88 (dk_at dksX8_waits_1 0 rfl rfl)
theorem dX8_waits_25 : decode cX8_waits 25 = .ok (.iconst 2, 1) := dk_5 (dk_at dksX8_waits_1 3 rfl rfl)
theorem dX8_waits_26 : decode cX8_waits 26 = .ok (.aload_n 0, 1) := dk_42 (dk_at dksX8_waits_1 4 rfl rfl)
theorem dX8_waits_27 : decode cX8_waits 27 = .ok (.getfield 7, 3) := dk_180 0 7 (dk_at dksX8_waits_1 5 rfl rfl)
theorem dX8_waits_30 : decode cX8_waits 30 = .ok (.iload_n 1, 1) := dk_27 (dk_at dksX8_waits_1 8 rfl rfl)
theorem dX8_waits_31 : decode cX8_waits 31 = .ok (.iload 6, 2) := dk_21 6 (dk_at dksX8_waits_1 9 rfl rfl)
theorem dX8_waits_33 : decode cX8_waits 33 = .ok (.iconst 1, 1) := dk_4 (dk_at dksX8_waits_1 11 rfl rfl)
theorem dX8_waits_34 : decode cX8_waits 34 = .ok (.isub, 1) := dk_100 (dk_at dksX8_waits_1 12 rfl rfl)
theorem dX8_waits_35 : decode cX8_waits 35 = .ok (.iconst 0, 1) := dk_3 (dk_at dksX8_waits_1 13 rfl rfl)
theorem dX8_waits_36 : decode cX8_waits 36 = .ok (.invokestatic 81, 3) := dk_184 0 81 (dk_at dksX8_waits_1 14 rfl rfl)
theorem dX8_waits_39 : decode cX8_waits 39 = .ok (.iaload, 1) := dk_46 (dk_at dksX8_waits_1 17 rfl rfl)
theorem dX8_waits_40 : decode cX8_waits 40 = .ok (.imul, 1) := dk_104 (dk_at dksX8_waits_1 18 rfl rfl)
theorem dX8_waits_41 : decode cX8_waits 41 = .ok (.aload_n 0, 1) := dk_42 (dk_at dksX8_waits_1 19 rfl rfl)
theorem dX8_waits_42 : decode cX8_waits 42 = .ok (.getfield 7, 3) := dk_180 0 7 (dk_at dksX8_waits_1 20 rfl rfl)
theorem dX8_waits_45 : decode cX8_waits 45 = .ok (.iload_n 1, 1) := dk_27 (dk_at dksX8_waits_1 23 rfl rfl)
theorem dX8_waits_46 : decode cX8_waits 46 = .ok (.iload 6, 2) := dk_21 6 (dk_at dksX8_waits_2 0 rfl rfl)
theorem dX8_waits_48 : decode cX8_waits 48 = .ok (.iconst 1, 1) := dk_4 (dk_at dksX8_waits_2 2 rfl rfl)
theorem dX8_waits_49 : decode cX8_waits 49 = .ok (.isub, 1) := dk_100 (dk_at dksX8_waits_2 3 rfl rfl)
theorem dX8_waits_50 : decode cX8_waits 50 = .ok (.iconst 1, 1) := dk_4 (dk_at dksX8_waits_2 4 rfl rfl)
theorem dX8_waits_51 : decode cX8_waits 51 = .ok (.invokestatic 81, 3) := dk_184 0 81 (dk_at dksX8_waits_2 5 rfl rfl)
theorem dX8_waits_54 : decode cX8_waits 54 = .ok (.iaload, 1) := dk_46 (dk_at dksX8_waits_2 8 rfl rfl)
theorem dX8_waits_55 : decode cX8_waits 55 = .ok (.iadd, 1) := dk_96 (dk_at dksX8_waits_2 9 rfl rfl)
theorem dX8_waits_56 : decode cX8_waits 56 = .ok (.iload 7, 2) := dk_21 7 (dk_at dksX8_waits_2 10 rfl rfl)
theorem dX8_waits_58 : decode cX8_waits 58 = .ok (.if_icmp .le 52, 3) := dk_164 0 52 (dk_at dksX8_waits_2 12 rfl rfl)
theorem dX8_waits_61 : decode cX8_waits 61 = .ok (.iconst 0, 1) := dk_3 (dk_at dksX8_waits_2 15 rfl rfl)
theorem dX8_waits_62 : decode cX8_waits 62 = .ok (.istore 8, 2) := dk_54 8 (dk_at dksX8_waits_2 16 rfl rfl)
theorem dX8_waits_64 : decode cX8_waits 64 = .ok (.iload 8, 2) := dk_21 8 (dk_at dksX8_waits_2 18 rfl rfl)
theorem dX8_waits_66 : decode cX8_waits 66 = .ok (.iconst 5, 1) := dk_8 (dk_at dksX8_waits_2 20 rfl rfl)
theorem dX8_waits_67 : decode cX8_waits 67 = .ok (.if_icmp .ge 37, 3) := dk_162 0 37 (dk_at dksX8_waits_2 21 rfl rfl)
theorem dX8_waits_70 : decode cX8_waits 70 = .ok (.aload_n 0, 1) := dk_42 (dk_at dksX8_waits_3 0 rfl rfl)
theorem dX8_waits_71 : decode cX8_waits 71 = .ok (.getfield 7, 3) := dk_180 0 7 (dk_at dksX8_waits_3 1 rfl rfl)
theorem dX8_waits_74 : decode cX8_waits 74 = .ok (.iload_n 1, 1) := dk_27 (dk_at dksX8_waits_3 4 rfl rfl)
theorem dX8_waits_75 : decode cX8_waits 75 = .ok (.iload 6, 2) := dk_21 6 (dk_at dksX8_waits_3 5 rfl rfl)
theorem dX8_waits_77 : decode cX8_waits 77 = .ok (.iload 8, 2) := dk_21 8 (dk_at dksX8_waits_3 7 rfl rfl)
theorem dX8_waits_79 : decode cX8_waits 79 = .ok (.invokestatic 81, 3) := dk_184 0 81 (dk_at dksX8_waits_3 9 rfl rfl)
theorem dX8_waits_82 : decode cX8_waits 82 = .ok (.aload_n 0, 1) := dk_42 (dk_at dksX8_waits_3 12 rfl rfl)
theorem dX8_waits_83 : decode cX8_waits 83 = .ok (.getfield 7, 3) := dk_180 0 7 (dk_at dksX8_waits_3 13 rfl rfl)
theorem dX8_waits_86 : decode cX8_waits 86 = .ok (.iload_n 1, 1) := dk_27 (dk_at dksX8_waits_3 16 rfl rfl)
theorem dX8_waits_87 : decode cX8_waits 87 = .ok (.iload 6, 2) := dk_21 6 (dk_at dksX8_waits_3 17 rfl rfl)
theorem dX8_waits_89 : decode cX8_waits 89 = .ok (.iconst 1, 1) := dk_4 (dk_at dksX8_waits_3 19 rfl rfl)
theorem dX8_waits_90 : decode cX8_waits 90 = .ok (.isub, 1) := dk_100 (dk_at dksX8_waits_3 20 rfl rfl)
theorem dX8_waits_91 : decode cX8_waits 91 = .ok (.iload 8, 2) := dk_21 8 (dk_at dksX8_waits_3 21 rfl rfl)
theorem dX8_waits_93 : decode cX8_waits 93 = .ok (.invokestatic 81, 3) := dk_184 0 81 (dk_at dksX8_waits_4 0 rfl rfl)
theorem dX8_waits_96 : decode cX8_waits 96 = .ok (.iaload, 1) := dk_46 (dk_at dksX8_waits_4 3 rfl rfl)
theorem dX8_waits_97 : decode cX8_waits 97 = .ok (.iastore, 1) := dk_79 (dk_at dksX8_waits_4 4 rfl rfl)
theorem dX8_waits_98 : decode cX8_waits 98 = .ok (.iinc 8 1, 3) := dk_132 8 1 (dk_at dksX8_waits_4 5 rfl rfl)
theorem dX8_waits_101 : decode cX8_waits 101 = .ok (.goto (-37), 3) := dk_167 255 219 (dk_at dksX8_waits_4 8 rfl rfl)
theorem dX8_waits_104 : decode cX8_waits 104 = .ok (.iinc 6 (-1), 3) := dk_132 6 255 (dk_at dksX8_waits_4 11 rfl rfl)
theorem dX8_waits_107 : decode cX8_waits 107 = .ok (.goto (-87), 3) := dk_167 255 169 (dk_at dksX8_waits_4 14 rfl rfl)
theorem dX8_waits_110 : decode cX8_waits 110 = .ok (.aload_n 0, 1) := dk_42 (dk_at dksX8_waits_4 17 rfl rfl)
theorem dX8_waits_111 : decode cX8_waits 111 = .ok (.getfield 7, 3) := dk_180 0 7 (dk_at dksX8_waits_4 18 rfl rfl)
theorem dX8_waits_114 : decode cX8_waits 114 = .ok (.iload_n 1, 1) := dk_27 (dk_at dksX8_waits_4 21 rfl rfl)
theorem dX8_waits_115 : decode cX8_waits 115 = .ok (.iload 6, 2) := dk_21 6 (dk_at dksX8_waits_4 22 rfl rfl)
theorem dX8_waits_117 : decode cX8_waits 117 = .ok (.iconst 0, 1) := dk_3 (dk_at dksX8_waits_5 0 rfl rfl)
theorem dX8_waits_118 : decode cX8_waits 118 = .ok (.invokestatic 81, 3) := dk_184 0 81 (dk_at dksX8_waits_5 1 rfl rfl)
theorem dX8_waits_121 : decode cX8_waits 121 = .ok (.iload_n 2, 1) := dk_28 (dk_at dksX8_waits_5 4 rfl rfl)
theorem dX8_waits_122 : decode cX8_waits 122 = .ok (.iastore, 1) := dk_79 (dk_at dksX8_waits_5 5 rfl rfl)
theorem dX8_waits_123 : decode cX8_waits 123 = .ok (.aload_n 0, 1) := dk_42 (dk_at dksX8_waits_5 6 rfl rfl)
theorem dX8_waits_124 : decode cX8_waits 124 = .ok (.getfield 7, 3) := dk_180 0 7 (dk_at dksX8_waits_5 7 rfl rfl)
theorem dX8_waits_127 : decode cX8_waits 127 = .ok (.iload_n 1, 1) := dk_27 (dk_at dksX8_waits_5 10 rfl rfl)
theorem dX8_waits_128 : decode cX8_waits 128 = .ok (.iload 6, 2) := dk_21 6 (dk_at dksX8_waits_5 11 rfl rfl)
theorem dX8_waits_130 : decode cX8_waits 130 = .ok (.iconst 1, 1) := dk_4 (dk_at dksX8_waits_5 13 rfl rfl)
theorem dX8_waits_131 : decode cX8_waits 131 = .ok (.invokestatic 81, 3) := dk_184 0 81 (dk_at dksX8_waits_5 14 rfl rfl)
theorem dX8_waits_134 : decode cX8_waits 134 = .ok (.iload_n 3, 1) := dk_29 (dk_at dksX8_waits_5 17 rfl rfl)
theorem dX8_waits_135 : decode cX8_waits 135 = .ok (.iastore, 1) := dk_79 (dk_at dksX8_waits_5 18 rfl rfl)
theorem dX8_waits_136 : decode cX8_waits 136 = .ok (.aload_n 0, 1) := dk_42 (dk_at dksX8_waits_5 19 rfl rfl)
theorem dX8_waits_137 : decode cX8_waits 137 = .ok (.getfield 7, 3) := dk_180 0 7 (dk_at dksX8_waits_5 20 rfl rfl)
theorem dX8_waits_140 : decode cX8_waits 140 = .ok (.iload_n 1, 1) := dk_27 (dk_at dksX8_waits_5 23 rfl rfl)
theorem dX8_waits_141 : decode cX8_waits 141 = .ok (.iload 6, 2) := dk_21 6 (dk_at dksX8_waits_6 0 rfl rfl)
theorem dX8_waits_143 : decode cX8_waits 143 = .ok (.iconst 2, 1) := dk_5 (dk_at dksX8_waits_6 2 rfl rfl)
theorem dX8_waits_144 : decode cX8_waits 144 = .ok (.invokestatic 81, 3) := dk_184 0 81 (dk_at dksX8_waits_6 3 rfl rfl)
theorem dX8_waits_147 : decode cX8_waits 147 = .ok (.iload 4, 2) := dk_21 4 (dk_at dksX8_waits_6 6 rfl rfl)
theorem dX8_waits_149 : decode cX8_waits 149 = .ok (.iastore, 1) := dk_79 (dk_at dksX8_waits_6 8 rfl rfl)
theorem dX8_waits_150 : decode cX8_waits 150 = .ok (.aload_n 0, 1) := dk_42 (dk_at dksX8_waits_6 9 rfl rfl)
theorem dX8_waits_151 : decode cX8_waits 151 = .ok (.getfield 7, 3) := dk_180 0 7 (dk_at dksX8_waits_6 10 rfl rfl)
theorem dX8_waits_154 : decode cX8_waits 154 = .ok (.iload_n 1, 1) := dk_27 (dk_at dksX8_waits_6 13 rfl rfl)
theorem dX8_waits_155 : decode cX8_waits 155 = .ok (.iload 6, 2) := dk_21 6 (dk_at dksX8_waits_6 14 rfl rfl)
theorem dX8_waits_157 : decode cX8_waits 157 = .ok (.iconst 3, 1) := dk_6 (dk_at dksX8_waits_6 16 rfl rfl)
theorem dX8_waits_158 : decode cX8_waits 158 = .ok (.invokestatic 81, 3) := dk_184 0 81 (dk_at dksX8_waits_6 17 rfl rfl)
theorem dX8_waits_161 : decode cX8_waits 161 = .ok (.iload 5, 2) := dk_21 5 (dk_at dksX8_waits_6 20 rfl rfl)
theorem dX8_waits_163 : decode cX8_waits 163 = .ok (.iastore, 1) := dk_79 (dk_at dksX8_waits_6 22 rfl rfl)
theorem dX8_waits_164 : decode cX8_waits 164 = .ok (.aload_n 0, 1) := dk_42 (dk_at dksX8_waits_6 23 rfl rfl)
theorem dX8_waits_165 : decode cX8_waits 165 = .ok (.getfield 7, 3) := dk_180 0 7 (dk_at dksX8_waits_7 0 rfl rfl)
theorem dX8_waits_168 : decode cX8_waits 168 = .ok (.iload_n 1, 1) := dk_27 (dk_at dksX8_waits_7 3 rfl rfl)
theorem dX8_waits_169 : decode cX8_waits 169 = .ok (.iload 6, 2) := dk_21 6 (dk_at dksX8_waits_7 4 rfl rfl)
theorem dX8_waits_171 : decode cX8_waits 171 = .ok (.iconst 4, 1) := dk_7 (dk_at dksX8_waits_7 6 rfl rfl)
theorem dX8_waits_172 : decode cX8_waits 172 = .ok (.invokestatic 81, 3) := dk_184 0 81 (dk_at dksX8_waits_7 7 rfl rfl)
theorem dX8_waits_175 : decode cX8_waits 175 = .ok (.iconst 0, 1) := dk_3 (dk_at dksX8_waits_7 10 rfl rfl)
theorem dX8_waits_176 : decode cX8_waits 176 = .ok (.iastore, 1) := dk_79 (dk_at dksX8_waits_7 11 rfl rfl)
theorem dX8_waits_177 : decode cX8_waits 177 = .ok (.aload_n 0, 1) := dk_42 (dk_at dksX8_waits_7 12 rfl rfl)
theorem dX8_waits_178 : decode cX8_waits 178 = .ok (.getfield 7, 3) := dk_180 0 7 (dk_at dksX8_waits_7 13 rfl rfl)
theorem dX8_waits_181 : decode cX8_waits 181 = .ok (.iload_n 1, 1) := dk_27 (dk_at dksX8_waits_7 16 rfl rfl)
theorem dX8_waits_182 : decode cX8_waits 182 = .ok (.bipush 23, 2) := dk_16 23 (dk_at dksX8_waits_7 17 rfl rfl)
theorem dX8_waits_184 : decode cX8_waits 184 = .ok (.invokestatic 35, 3) := dk_184 0 35 (dk_at dksX8_waits_7 19 rfl rfl)
theorem dX8_waits_187 : decode cX8_waits 187 = .ok (.dup2, 1) := dk_92 (dk_at dksX8_waits_7 22 rfl rfl)
theorem dX8_waits_188 : decode cX8_waits 188 = .ok (.iaload, 1) := dk_46 (dk_at dksX8_waits_7 23 rfl rfl)
theorem dX8_waits_189 : decode cX8_waits 189 = .ok (.iconst 1, 1) := dk_4 (dk_at dksX8_waits_8 0 rfl rfl)
theorem dX8_waits_190 : decode cX8_waits 190 = .ok (.iadd, 1) := dk_96 (dk_at dksX8_waits_8 1 rfl rfl)
theorem dX8_waits_191 : decode cX8_waits 191 = .ok (.iastore, 1) := dk_79 (dk_at dksX8_waits_8 2 rfl rfl)
theorem dX8_waits_192 : decode cX8_waits 192 = .ok (.return_, 1) := dk_177 (dk_at dksX8_waits_8 3 rfl rfl)
abbrev cX8_cancel : ByteArray := prog_29_method_32_code
def yX8_cancel : MethodName := ⟨RX8, "cancel", "(II)I"⟩
def dkwX8_cancel_3 : List UInt8 := [132, 4, 255, 167, 255, 207, 29, 172]
abbrev dktX8_cancel_3 : List UInt8 := dkwX8_cancel_3 ++ []
def dkwX8_cancel_2 : List UInt8 := [180, 0, 7, 27, 21, 4, 7, 184, 0, 81, 46, 154, 0, 13, 42, 27, 21, 4, 182, 0, 95, 132, 3, 1]
abbrev dktX8_cancel_2 : List UInt8 := dkwX8_cancel_2 ++ dktX8_cancel_3
def dkwX8_cancel_1 : List UInt8 := [54, 4, 21, 4, 155, 0, 50, 42, 180, 0, 7, 27, 21, 4, 3, 184, 0, 81, 46, 28, 160, 0, 28, 42]
abbrev dktX8_cancel_1 : List UInt8 := dkwX8_cancel_1 ++ dktX8_cancel_2
def dkwX8_cancel_0 : List UInt8 := [27, 184, 0, 66, 154, 0, 5, 2, 172, 3, 62, 42, 180, 0, 7, 27, 16, 23, 184, 0, 35, 46, 4, 100]
abbrev dktX8_cancel_0 : List UInt8 := dkwX8_cancel_0 ++ dktX8_cancel_1
theorem dksX8_cancel_0 : cX8_cancel.data.toList.drop 0 = dktX8_cancel_0 := by decide +kernel
theorem dksX8_cancel_1 : cX8_cancel.data.toList.drop 24 = dktX8_cancel_1 := dk_seg dksX8_cancel_0 24 rfl rfl
theorem dksX8_cancel_2 : cX8_cancel.data.toList.drop 48 = dktX8_cancel_2 := dk_seg dksX8_cancel_1 24 rfl rfl
theorem dksX8_cancel_3 : cX8_cancel.data.toList.drop 72 = dktX8_cancel_3 := dk_seg dksX8_cancel_2 24 rfl rfl
theorem dX8_cancel_0 : decode cX8_cancel 0 = .ok (.iload_n 1, 1) := dk_27 (dk_at dksX8_cancel_0 0 rfl rfl)
theorem dX8_cancel_1 : decode cX8_cancel 1 = .ok (.invokestatic 66, 3) := dk_184 0 66 (dk_at dksX8_cancel_0 1 rfl rfl)
theorem dX8_cancel_4 : decode cX8_cancel 4 = .ok (.ifCond .ne 5, 3) := dk_154 0 5 (dk_at dksX8_cancel_0 4 rfl rfl)
theorem dX8_cancel_7 : decode cX8_cancel 7 = .ok (.iconst (-1), 1) := dk_2 (dk_at dksX8_cancel_0 7 rfl rfl)
theorem dX8_cancel_8 : decode cX8_cancel 8 = .ok (.ireturn, 1) := dk_172 (dk_at dksX8_cancel_0 8 rfl rfl)
theorem dX8_cancel_9 : decode cX8_cancel 9 = .ok (.iconst 0, 1) := dk_3 (dk_at dksX8_cancel_0 9 rfl rfl)
theorem dX8_cancel_10 : decode cX8_cancel 10 = .ok (.istore_n 3, 1) := dk_62 (dk_at dksX8_cancel_0 10 rfl rfl)
theorem dX8_cancel_11 : decode cX8_cancel 11 = .ok (.aload_n 0, 1) := dk_42 (dk_at dksX8_cancel_0 11 rfl rfl)
theorem dX8_cancel_12 : decode cX8_cancel 12 = .ok (.getfield 7, 3) := dk_180 0 7 (dk_at dksX8_cancel_0 12 rfl rfl)
theorem dX8_cancel_15 : decode cX8_cancel 15 = .ok (.iload_n 1, 1) := dk_27 (dk_at dksX8_cancel_0 15 rfl rfl)
theorem dX8_cancel_16 : decode cX8_cancel 16 = .ok (.bipush 23, 2) := dk_16 23 (dk_at dksX8_cancel_0 16 rfl rfl)
theorem dX8_cancel_18 : decode cX8_cancel 18 = .ok (.invokestatic 35, 3) := dk_184 0 35 (dk_at dksX8_cancel_0 18 rfl rfl)
theorem dX8_cancel_21 : decode cX8_cancel 21 = .ok (.iaload, 1) := dk_46 (dk_at dksX8_cancel_0 21 rfl rfl)
theorem dX8_cancel_22 : decode cX8_cancel 22 = .ok (.iconst 1, 1) := dk_4 (dk_at dksX8_cancel_0 22 rfl rfl)
theorem dX8_cancel_23 : decode cX8_cancel 23 = .ok (.isub, 1) := dk_100 (dk_at dksX8_cancel_0 23 rfl rfl)
theorem dX8_cancel_24 : decode cX8_cancel 24 = .ok (.istore 4, 2) := dk_54 4 (dk_at dksX8_cancel_1 0 rfl rfl)
theorem dX8_cancel_26 : decode cX8_cancel 26 = .ok (.iload 4, 2) := dk_21 4 (dk_at dksX8_cancel_1 2 rfl rfl)
theorem dX8_cancel_28 : decode cX8_cancel 28 = .ok (.ifCond .lt 50, 3) := dk_155 0 50 (dk_at dksX8_cancel_1 4 rfl rfl)
theorem dX8_cancel_31 : decode cX8_cancel 31 = .ok (.aload_n 0, 1) := dk_42 (dk_at dksX8_cancel_1 7 rfl rfl)
theorem dX8_cancel_32 : decode cX8_cancel 32 = .ok (.getfield 7, 3) := dk_180 0 7 (dk_at dksX8_cancel_1 8 rfl rfl)
theorem dX8_cancel_35 : decode cX8_cancel 35 = .ok (.iload_n 1, 1) := dk_27 (dk_at dksX8_cancel_1 11 rfl rfl)
theorem dX8_cancel_36 : decode cX8_cancel 36 = .ok (.iload 4, 2) := dk_21 4 (dk_at dksX8_cancel_1 12 rfl rfl)
theorem dX8_cancel_38 : decode cX8_cancel 38 = .ok (.iconst 0, 1) := dk_3 (dk_at dksX8_cancel_1 14 rfl rfl)
theorem dX8_cancel_39 : decode cX8_cancel 39 = .ok (.invokestatic 81, 3) := dk_184 0 81 (dk_at dksX8_cancel_1 15 rfl rfl)
theorem dX8_cancel_42 : decode cX8_cancel 42 = .ok (.iaload, 1) := dk_46 (dk_at dksX8_cancel_1 18 rfl rfl)
theorem dX8_cancel_43 : decode cX8_cancel 43 = .ok (.iload_n 2, 1) := dk_28 (dk_at dksX8_cancel_1 19 rfl rfl)
theorem dX8_cancel_44 : decode cX8_cancel 44 = .ok (.if_icmp .ne 28, 3) := dk_160 0 28 (dk_at dksX8_cancel_1 20 rfl rfl)
theorem dX8_cancel_47 : decode cX8_cancel 47 = .ok (.aload_n 0, 1) := dk_42 (dk_at dksX8_cancel_1 23 rfl rfl)
theorem dX8_cancel_48 : decode cX8_cancel 48 = .ok (.getfield 7, 3) := dk_180 0 7 (dk_at dksX8_cancel_2 0 rfl rfl)
theorem dX8_cancel_51 : decode cX8_cancel 51 = .ok (.iload_n 1, 1) := dk_27 (dk_at dksX8_cancel_2 3 rfl rfl)
theorem dX8_cancel_52 : decode cX8_cancel 52 = .ok (.iload 4, 2) := dk_21 4 (dk_at dksX8_cancel_2 4 rfl rfl)
theorem dX8_cancel_54 : decode cX8_cancel 54 = .ok (.iconst 4, 1) := dk_7 (dk_at dksX8_cancel_2 6 rfl rfl)
theorem dX8_cancel_55 : decode cX8_cancel 55 = .ok (.invokestatic 81, 3) := dk_184 0 81 (dk_at dksX8_cancel_2 7 rfl rfl)
theorem dX8_cancel_58 : decode cX8_cancel 58 = .ok (.iaload, 1) := dk_46 (dk_at dksX8_cancel_2 10 rfl rfl)
theorem dX8_cancel_59 : decode cX8_cancel 59 = .ok (.ifCond .ne 13, 3) := dk_154 0 13 (dk_at dksX8_cancel_2 11 rfl rfl)
theorem dX8_cancel_62 : decode cX8_cancel 62 = .ok (.aload_n 0, 1) := dk_42 (dk_at dksX8_cancel_2 14 rfl rfl)
theorem dX8_cancel_63 : decode cX8_cancel 63 = .ok (.iload_n 1, 1) := dk_27 (dk_at dksX8_cancel_2 15 rfl rfl)
theorem dX8_cancel_64 : decode cX8_cancel 64 = .ok (.iload 4, 2) := dk_21 4 (dk_at dksX8_cancel_2 16 rfl rfl)
theorem dX8_cancel_66 : decode cX8_cancel 66 = .ok (.invokevirtual 95, 3) := dk_182 0 95 (dk_at dksX8_cancel_2 18 rfl rfl)
theorem dX8_cancel_69 : decode cX8_cancel 69 = .ok (.iinc 3 1, 3) := dk_132 3 1 (dk_at dksX8_cancel_2 21 rfl rfl)
theorem dX8_cancel_72 : decode cX8_cancel 72 = .ok (.iinc 4 (-1), 3) := dk_132 4 255 (dk_at dksX8_cancel_3 0 rfl rfl)
theorem dX8_cancel_75 : decode cX8_cancel 75 = .ok (.goto (-49), 3) := dk_167 255 207 (dk_at dksX8_cancel_3 3 rfl rfl)
theorem dX8_cancel_78 : decode cX8_cancel 78 = .ok (.iload_n 3, 1) := dk_29 (dk_at dksX8_cancel_3 6 rfl rfl)
theorem dX8_cancel_79 : decode cX8_cancel 79 = .ok (.ireturn, 1) := dk_172 (dk_at dksX8_cancel_3 7 rfl rfl)
abbrev cX8_unwaits : ByteArray := prog_29_method_30_code
def yX8_unwaits : MethodName := ⟨RX8, "unwaits", "(II)V"⟩
def dkwX8_unwaits_3 : List UInt8 := [184, 0, 81, 3, 79, 177]
abbrev dktX8_unwaits_3 : List UInt8 := dkwX8_unwaits_3 ++ []
def dkwX8_unwaits_2 : List UInt8 := [92, 46, 4, 100, 79, 42, 180, 0, 7, 27, 42, 180, 0, 7, 27, 16, 23, 184, 0, 35, 46, 7]
abbrev dktX8_unwaits_2 : List UInt8 := dkwX8_unwaits_2 ++ dktX8_unwaits_3
def dkwX8_unwaits_1 : List UInt8 := [180, 0, 7, 29, 8, 96, 46, 79, 132, 3, 1, 167, 255, 229, 42, 180, 0, 7, 27, 16, 23, 184, 0, 35]
abbrev dktX8_unwaits_1 : List UInt8 := dkwX8_unwaits_1 ++ dktX8_unwaits_2
def dkwX8_unwaits_0 : List UInt8 := [27, 28, 3, 184, 0, 81, 62, 29, 27, 6, 3, 184, 0, 81, 162, 0, 23, 42, 180, 0, 7, 29, 42]
abbrev dktX8_unwaits_0 : List UInt8 := dkwX8_unwaits_0 ++ dktX8_unwaits_1
theorem dksX8_unwaits_0 : cX8_unwaits.data.toList.drop 0 = dktX8_unwaits_0 := by decide +kernel
theorem dksX8_unwaits_1 : cX8_unwaits.data.toList.drop 23 = dktX8_unwaits_1 := dk_seg dksX8_unwaits_0 23 rfl rfl
theorem dksX8_unwaits_2 : cX8_unwaits.data.toList.drop 47 = dktX8_unwaits_2 := dk_seg dksX8_unwaits_1 24 rfl rfl
theorem dksX8_unwaits_3 : cX8_unwaits.data.toList.drop 69 = dktX8_unwaits_3 := dk_seg dksX8_unwaits_2 22 rfl rfl
theorem dX8_unwaits_0 : decode cX8_unwaits 0 = .ok (.iload_n 1, 1) := dk_27 (dk_at dksX8_unwaits_0 0 rfl rfl)
theorem dX8_unwaits_1 : decode cX8_unwaits 1 = .ok (.iload_n 2, 1) := dk_28 (dk_at dksX8_unwaits_0 1 rfl rfl)
theorem dX8_unwaits_2 : decode cX8_unwaits 2 = .ok (.iconst 0, 1) := dk_3 (dk_at dksX8_unwaits_0 2 rfl rfl)
theorem dX8_unwaits_3 : decode cX8_unwaits 3 = .ok (.invokestatic 81, 3) := dk_184 0 81 (dk_at dksX8_unwaits_0 3 rfl rfl)
theorem dX8_unwaits_6 : decode cX8_unwaits 6 = .ok (.istore_n 3, 1) := dk_62 (dk_at dksX8_unwaits_0 6 rfl rfl)
theorem dX8_unwaits_7 : decode cX8_unwaits 7 = .ok (.iload_n 3, 1) := dk_29 (dk_at dksX8_unwaits_0 7 rfl rfl)
theorem dX8_unwaits_8 : decode cX8_unwaits 8 = .ok (.iload_n 1, 1) := dk_27 (dk_at dksX8_unwaits_0 8 rfl rfl)
theorem dX8_unwaits_9 : decode cX8_unwaits 9 = .ok (.iconst 3, 1) := dk_6 (dk_at dksX8_unwaits_0 9 rfl rfl)
theorem dX8_unwaits_10 : decode cX8_unwaits 10 = .ok (.iconst 0, 1) := dk_3 (dk_at dksX8_unwaits_0 10 rfl rfl)
theorem dX8_unwaits_11 : decode cX8_unwaits 11 = .ok (.invokestatic 81, 3) := dk_184 0 81 (dk_at dksX8_unwaits_0 11 rfl rfl)
theorem dX8_unwaits_14 : decode cX8_unwaits 14 = .ok (.if_icmp .ge 23, 3) := dk_162 0 23 (dk_at dksX8_unwaits_0 14 rfl rfl)
theorem dX8_unwaits_17 : decode cX8_unwaits 17 = .ok (.aload_n 0, 1) := dk_42 (dk_at dksX8_unwaits_0 17 rfl rfl)
theorem dX8_unwaits_18 : decode cX8_unwaits 18 = .ok (.getfield 7, 3) := dk_180 0 7 (dk_at dksX8_unwaits_0 18 rfl rfl)
theorem dX8_unwaits_21 : decode cX8_unwaits 21 = .ok (.iload_n 3, 1) := dk_29 (dk_at dksX8_unwaits_0 21 rfl rfl)
theorem dX8_unwaits_22 : decode cX8_unwaits 22 = .ok (.aload_n 0, 1) := dk_42 (dk_at dksX8_unwaits_0 22 rfl rfl)
theorem dX8_unwaits_23 : decode cX8_unwaits 23 = .ok (.getfield 7, 3) := dk_180 0 7 (dk_at dksX8_unwaits_1 0 rfl rfl)
theorem dX8_unwaits_26 : decode cX8_unwaits 26 = .ok (.iload_n 3, 1) := dk_29 (dk_at dksX8_unwaits_1 3 rfl rfl)
theorem dX8_unwaits_27 : decode cX8_unwaits 27 = .ok (.iconst 5, 1) := dk_8 (dk_at dksX8_unwaits_1 4 rfl rfl)
theorem dX8_unwaits_28 : decode cX8_unwaits 28 = .ok (.iadd, 1) := dk_96 (dk_at dksX8_unwaits_1 5 rfl rfl)
theorem dX8_unwaits_29 : decode cX8_unwaits 29 = .ok (.iaload, 1) := dk_46 (dk_at dksX8_unwaits_1 6 rfl rfl)
theorem dX8_unwaits_30 : decode cX8_unwaits 30 = .ok (.iastore, 1) := dk_79 (dk_at dksX8_unwaits_1 7 rfl rfl)
theorem dX8_unwaits_31 : decode cX8_unwaits 31 = .ok (.iinc 3 1, 3) := dk_132 3 1 (dk_at dksX8_unwaits_1 8 rfl rfl)
theorem dX8_unwaits_34 : decode cX8_unwaits 34 = .ok (.goto (-27), 3) := dk_167 255 229 (dk_at dksX8_unwaits_1 11 rfl rfl)
theorem dX8_unwaits_37 : decode cX8_unwaits 37 = .ok (.aload_n 0, 1) := dk_42 (dk_at dksX8_unwaits_1 14 rfl rfl)
theorem dX8_unwaits_38 : decode cX8_unwaits 38 = .ok (.getfield 7, 3) := dk_180 0 7 (dk_at dksX8_unwaits_1 15 rfl rfl)
theorem dX8_unwaits_41 : decode cX8_unwaits 41 = .ok (.iload_n 1, 1) := dk_27 (dk_at dksX8_unwaits_1 18 rfl rfl)
theorem dX8_unwaits_42 : decode cX8_unwaits 42 = .ok (.bipush 23, 2) := dk_16 23 (dk_at dksX8_unwaits_1 19 rfl rfl)
theorem dX8_unwaits_44 : decode cX8_unwaits 44 = .ok (.invokestatic 35, 3) := dk_184 0 35 (dk_at dksX8_unwaits_1 21 rfl rfl)
theorem dX8_unwaits_47 : decode cX8_unwaits 47 = .ok (.dup2, 1) := dk_92 (dk_at dksX8_unwaits_2 0 rfl rfl)
theorem dX8_unwaits_48 : decode cX8_unwaits 48 = .ok (.iaload, 1) := dk_46 (dk_at dksX8_unwaits_2 1 rfl rfl)
theorem dX8_unwaits_49 : decode cX8_unwaits 49 = .ok (.iconst 1, 1) := dk_4 (dk_at dksX8_unwaits_2 2 rfl rfl)
theorem dX8_unwaits_50 : decode cX8_unwaits 50 = .ok (.isub, 1) := dk_100 (dk_at dksX8_unwaits_2 3 rfl rfl)
theorem dX8_unwaits_51 : decode cX8_unwaits 51 = .ok (.iastore, 1) := dk_79 (dk_at dksX8_unwaits_2 4 rfl rfl)
theorem dX8_unwaits_52 : decode cX8_unwaits 52 = .ok (.aload_n 0, 1) := dk_42 (dk_at dksX8_unwaits_2 5 rfl rfl)
theorem dX8_unwaits_53 : decode cX8_unwaits 53 = .ok (.getfield 7, 3) := dk_180 0 7 (dk_at dksX8_unwaits_2 6 rfl rfl)
theorem dX8_unwaits_56 : decode cX8_unwaits 56 = .ok (.iload_n 1, 1) := dk_27 (dk_at dksX8_unwaits_2 9 rfl rfl)
theorem dX8_unwaits_57 : decode cX8_unwaits 57 = .ok (.aload_n 0, 1) := dk_42 (dk_at dksX8_unwaits_2 10 rfl rfl)
theorem dX8_unwaits_58 : decode cX8_unwaits 58 = .ok (.getfield 7, 3) := dk_180 0 7 (dk_at dksX8_unwaits_2 11 rfl rfl)
theorem dX8_unwaits_61 : decode cX8_unwaits 61 = .ok (.iload_n 1, 1) := dk_27 (dk_at dksX8_unwaits_2 14 rfl rfl)
theorem dX8_unwaits_62 : decode cX8_unwaits 62 = .ok (.bipush 23, 2) := dk_16 23 (dk_at dksX8_unwaits_2 15 rfl rfl)
theorem dX8_unwaits_64 : decode cX8_unwaits 64 = .ok (.invokestatic 35, 3) := dk_184 0 35 (dk_at dksX8_unwaits_2 17 rfl rfl)
theorem dX8_unwaits_67 : decode cX8_unwaits 67 = .ok (.iaload, 1) := dk_46 (dk_at dksX8_unwaits_2 20 rfl rfl)
theorem dX8_unwaits_68 : decode cX8_unwaits 68 = .ok (.iconst 4, 1) := dk_7 (dk_at dksX8_unwaits_2 21 rfl rfl)
theorem dX8_unwaits_69 : decode cX8_unwaits 69 = .ok (.invokestatic 81, 3) := dk_184 0 81 (dk_at dksX8_unwaits_3 0 rfl rfl)
theorem dX8_unwaits_72 : decode cX8_unwaits 72 = .ok (.iconst 0, 1) := dk_3 (dk_at dksX8_unwaits_3 3 rfl rfl)
theorem dX8_unwaits_73 : decode cX8_unwaits 73 = .ok (.iastore, 1) := dk_79 (dk_at dksX8_unwaits_3 4 rfl rfl)
theorem dX8_unwaits_74 : decode cX8_unwaits 74 = .ok (.return_, 1) := dk_177 (dk_at dksX8_unwaits_3 5 rfl rfl)
abbrev cX8_disturb : ByteArray := prog_29_method_34_code
def yX8_disturb : MethodName := ⟨RX8, "disturb", "(II)I"⟩
def dkwX8_disturb_4 : List UInt8 := [180, 0, 7, 17, 4, 4, 92, 46, 4, 96, 79, 42, 180, 0, 7, 17, 4, 4, 46, 172]
abbrev dktX8_disturb_4 : List UInt8 := dkwX8_disturb_4 ++ []
def dkwX8_disturb_3 : List UInt8 := [180, 0, 7, 17, 4, 5, 5, 42, 180, 0, 7, 17, 4, 4, 46, 104, 96, 4, 96, 27, 79, 42]
abbrev dktX8_disturb_3 : List UInt8 := dkwX8_disturb_3 ++ dktX8_disturb_4
def dkwX8_disturb_2 : List UInt8 := [42, 180, 0, 7, 17, 4, 4, 46, 104, 96, 42, 180, 0, 7, 17, 4, 0, 46, 28, 96, 79, 42]
abbrev dktX8_disturb_2 : List UInt8 := dkwX8_disturb_2 ++ dktX8_disturb_3
def dkwX8_disturb_1 : List UInt8 := [42, 180, 0, 7, 17, 4, 4, 46, 16, 8, 160, 0, 6, 16, 253, 172, 42, 180, 0, 7, 17, 4, 5, 5]
abbrev dktX8_disturb_1 : List UInt8 := dkwX8_disturb_1 ++ dktX8_disturb_2
def dkwX8_disturb_0 : List UInt8 := [27, 4, 16, 15, 184, 0, 39, 153, 0, 14, 28, 3, 17, 0, 200, 184, 0, 39, 154, 0, 6, 16, 254, 172]
abbrev dktX8_disturb_0 : List UInt8 := dkwX8_disturb_0 ++ dktX8_disturb_1
theorem dksX8_disturb_0 : cX8_disturb.data.toList.drop 0 = dktX8_disturb_0 := by decide +kernel
theorem dksX8_disturb_1 : cX8_disturb.data.toList.drop 24 = dktX8_disturb_1 := dk_seg dksX8_disturb_0 24 rfl rfl
theorem dksX8_disturb_2 : cX8_disturb.data.toList.drop 48 = dktX8_disturb_2 := dk_seg dksX8_disturb_1 24 rfl rfl
theorem dksX8_disturb_3 : cX8_disturb.data.toList.drop 70 = dktX8_disturb_3 := dk_seg dksX8_disturb_2 22 rfl rfl
theorem dksX8_disturb_4 : cX8_disturb.data.toList.drop 92 = dktX8_disturb_4 := dk_seg dksX8_disturb_3 22 rfl rfl
theorem dX8_disturb_0 : decode cX8_disturb 0 = .ok (.iload_n 1, 1) := dk_27 (dk_at dksX8_disturb_0 0 rfl rfl)
theorem dX8_disturb_1 : decode cX8_disturb 1 = .ok (.iconst 1, 1) := dk_4 (dk_at dksX8_disturb_0 1 rfl rfl)
theorem dX8_disturb_2 : decode cX8_disturb 2 = .ok (.bipush 15, 2) := dk_16 15 (dk_at dksX8_disturb_0 2 rfl rfl)
theorem dX8_disturb_4 : decode cX8_disturb 4 = .ok (.invokestatic 39, 3) := dk_184 0 39 (dk_at dksX8_disturb_0 4 rfl rfl)
theorem dX8_disturb_7 : decode cX8_disturb 7 = .ok (.ifCond .eq 14, 3) := dk_153 0 14 (dk_at dksX8_disturb_0 7 rfl rfl)
theorem dX8_disturb_10 : decode cX8_disturb 10 = .ok (.iload_n 2, 1) := dk_28 (dk_at dksX8_disturb_0 10 rfl rfl)
theorem dX8_disturb_11 : decode cX8_disturb 11 = .ok (.iconst 0, 1) := dk_3 (dk_at dksX8_disturb_0 11 rfl rfl)
theorem dX8_disturb_12 : decode cX8_disturb 12 = .ok (.sipush 200, 3) := dk_17 0 200 (dk_at dksX8_disturb_0 12 rfl rfl)
theorem dX8_disturb_15 : decode cX8_disturb 15 = .ok (.invokestatic 39, 3) := dk_184 0 39 (dk_at dksX8_disturb_0 15 rfl rfl)
theorem dX8_disturb_18 : decode cX8_disturb 18 = .ok (.ifCond .ne 6, 3) := dk_154 0 6 (dk_at dksX8_disturb_0 18 rfl rfl)
theorem dX8_disturb_21 : decode cX8_disturb 21 = .ok (.bipush (-2), 2) := dk_16 254 (dk_at dksX8_disturb_0 21 rfl rfl)
theorem dX8_disturb_23 : decode cX8_disturb 23 = .ok (.ireturn, 1) := dk_172 (dk_at dksX8_disturb_0 23 rfl rfl)
theorem dX8_disturb_24 : decode cX8_disturb 24 = .ok (.aload_n 0, 1) := dk_42 (dk_at dksX8_disturb_1 0 rfl rfl)
theorem dX8_disturb_25 : decode cX8_disturb 25 = .ok (.getfield 7, 3) := dk_180 0 7 (dk_at dksX8_disturb_1 1 rfl rfl)
theorem dX8_disturb_28 : decode cX8_disturb 28 = .ok (.sipush 1028, 3) := dk_17 4 4 (dk_at dksX8_disturb_1 4 rfl rfl)
theorem dX8_disturb_31 : decode cX8_disturb 31 = .ok (.iaload, 1) := dk_46 (dk_at dksX8_disturb_1 7 rfl rfl)
theorem dX8_disturb_32 : decode cX8_disturb 32 = .ok (.bipush 8, 2) := dk_16 8 (dk_at dksX8_disturb_1 8 rfl rfl)
theorem dX8_disturb_34 : decode cX8_disturb 34 = .ok (.if_icmp .ne 6, 3) := dk_160 0 6 (dk_at dksX8_disturb_1 10 rfl rfl)
theorem dX8_disturb_37 : decode cX8_disturb 37 = .ok (.bipush (-3), 2) := dk_16 253 (dk_at dksX8_disturb_1 13 rfl rfl)
theorem dX8_disturb_39 : decode cX8_disturb 39 = .ok (.ireturn, 1) := dk_172 (dk_at dksX8_disturb_1 15 rfl rfl)
theorem dX8_disturb_40 : decode cX8_disturb 40 = .ok (.aload_n 0, 1) := dk_42 (dk_at dksX8_disturb_1 16 rfl rfl)
theorem dX8_disturb_41 : decode cX8_disturb 41 = .ok (.getfield 7, 3) := dk_180 0 7 (dk_at dksX8_disturb_1 17 rfl rfl)
theorem dX8_disturb_44 : decode cX8_disturb 44 = .ok (.sipush 1029, 3) := dk_17 4 5 (dk_at dksX8_disturb_1 20 rfl rfl)
theorem dX8_disturb_47 : decode cX8_disturb 47 = .ok (.iconst 2, 1) := dk_5 (dk_at dksX8_disturb_1 23 rfl rfl)
theorem dX8_disturb_48 : decode cX8_disturb 48 = .ok (.aload_n 0, 1) := dk_42 (dk_at dksX8_disturb_2 0 rfl rfl)
theorem dX8_disturb_49 : decode cX8_disturb 49 = .ok (.getfield 7, 3) := dk_180 0 7 (dk_at dksX8_disturb_2 1 rfl rfl)
theorem dX8_disturb_52 : decode cX8_disturb 52 = .ok (.sipush 1028, 3) := dk_17 4 4 (dk_at dksX8_disturb_2 4 rfl rfl)
theorem dX8_disturb_55 : decode cX8_disturb 55 = .ok (.iaload, 1) := dk_46 (dk_at dksX8_disturb_2 7 rfl rfl)
theorem dX8_disturb_56 : decode cX8_disturb 56 = .ok (.imul, 1) := dk_104 (dk_at dksX8_disturb_2 8 rfl rfl)
theorem dX8_disturb_57 : decode cX8_disturb 57 = .ok (.iadd, 1) := dk_96 (dk_at dksX8_disturb_2 9 rfl rfl)
theorem dX8_disturb_58 : decode cX8_disturb 58 = .ok (.aload_n 0, 1) := dk_42 (dk_at dksX8_disturb_2 10 rfl rfl)
theorem dX8_disturb_59 : decode cX8_disturb 59 = .ok (.getfield 7, 3) := dk_180 0 7 (dk_at dksX8_disturb_2 11 rfl rfl)
theorem dX8_disturb_62 : decode cX8_disturb 62 = .ok (.sipush 1024, 3) := dk_17 4 0 (dk_at dksX8_disturb_2 14 rfl rfl)
theorem dX8_disturb_65 : decode cX8_disturb 65 = .ok (.iaload, 1) := dk_46 (dk_at dksX8_disturb_2 17 rfl rfl)
theorem dX8_disturb_66 : decode cX8_disturb 66 = .ok (.iload_n 2, 1) := dk_28 (dk_at dksX8_disturb_2 18 rfl rfl)
theorem dX8_disturb_67 : decode cX8_disturb 67 = .ok (.iadd, 1) := dk_96 (dk_at dksX8_disturb_2 19 rfl rfl)
theorem dX8_disturb_68 : decode cX8_disturb 68 = .ok (.iastore, 1) := dk_79 (dk_at dksX8_disturb_2 20 rfl rfl)
theorem dX8_disturb_69 : decode cX8_disturb 69 = .ok (.aload_n 0, 1) := dk_42 (dk_at dksX8_disturb_2 21 rfl rfl)
theorem dX8_disturb_70 : decode cX8_disturb 70 = .ok (.getfield 7, 3) := dk_180 0 7 (dk_at dksX8_disturb_3 0 rfl rfl)
theorem dX8_disturb_73 : decode cX8_disturb 73 = .ok (.sipush 1029, 3) := dk_17 4 5 (dk_at dksX8_disturb_3 3 rfl rfl)
theorem dX8_disturb_76 : decode cX8_disturb 76 = .ok (.iconst 2, 1) := dk_5 (dk_at dksX8_disturb_3 6 rfl rfl)
theorem dX8_disturb_77 : decode cX8_disturb 77 = .ok (.aload_n 0, 1) := dk_42 (dk_at dksX8_disturb_3 7 rfl rfl)
theorem dX8_disturb_78 : decode cX8_disturb 78 = .ok (.getfield 7, 3) := dk_180 0 7 (dk_at dksX8_disturb_3 8 rfl rfl)
theorem dX8_disturb_81 : decode cX8_disturb 81 = .ok (.sipush 1028, 3) := dk_17 4 4 (dk_at dksX8_disturb_3 11 rfl rfl)
theorem dX8_disturb_84 : decode cX8_disturb 84 = .ok (.iaload, 1) := dk_46 (dk_at dksX8_disturb_3 14 rfl rfl)
theorem dX8_disturb_85 : decode cX8_disturb 85 = .ok (.imul, 1) := dk_104 (dk_at dksX8_disturb_3 15 rfl rfl)
theorem dX8_disturb_86 : decode cX8_disturb 86 = .ok (.iadd, 1) := dk_96 (dk_at dksX8_disturb_3 16 rfl rfl)
theorem dX8_disturb_87 : decode cX8_disturb 87 = .ok (.iconst 1, 1) := dk_4 (dk_at dksX8_disturb_3 17 rfl rfl)
theorem dX8_disturb_88 : decode cX8_disturb 88 = .ok (.iadd, 1) := dk_96 (dk_at dksX8_disturb_3 18 rfl rfl)
theorem dX8_disturb_89 : decode cX8_disturb 89 = .ok (.iload_n 1, 1) := dk_27 (dk_at dksX8_disturb_3 19 rfl rfl)
theorem dX8_disturb_90 : decode cX8_disturb 90 = .ok (.iastore, 1) := dk_79 (dk_at dksX8_disturb_3 20 rfl rfl)
theorem dX8_disturb_91 : decode cX8_disturb 91 = .ok (.aload_n 0, 1) := dk_42 (dk_at dksX8_disturb_3 21 rfl rfl)
theorem dX8_disturb_92 : decode cX8_disturb 92 = .ok (.getfield 7, 3) := dk_180 0 7 (dk_at dksX8_disturb_4 0 rfl rfl)
theorem dX8_disturb_95 : decode cX8_disturb 95 = .ok (.sipush 1028, 3) := dk_17 4 4 (dk_at dksX8_disturb_4 3 rfl rfl)
theorem dX8_disturb_98 : decode cX8_disturb 98 = .ok (.dup2, 1) := dk_92 (dk_at dksX8_disturb_4 6 rfl rfl)
theorem dX8_disturb_99 : decode cX8_disturb 99 = .ok (.iaload, 1) := dk_46 (dk_at dksX8_disturb_4 7 rfl rfl)
theorem dX8_disturb_100 : decode cX8_disturb 100 = .ok (.iconst 1, 1) := dk_4 (dk_at dksX8_disturb_4 8 rfl rfl)
theorem dX8_disturb_101 : decode cX8_disturb 101 = .ok (.iadd, 1) := dk_96 (dk_at dksX8_disturb_4 9 rfl rfl)
theorem dX8_disturb_102 : decode cX8_disturb 102 = .ok (.iastore, 1) := dk_79 (dk_at dksX8_disturb_4 10 rfl rfl)
theorem dX8_disturb_103 : decode cX8_disturb 103 = .ok (.aload_n 0, 1) := dk_42 (dk_at dksX8_disturb_4 11 rfl rfl)
theorem dX8_disturb_104 : decode cX8_disturb 104 = .ok (.getfield 7, 3) := dk_180 0 7 (dk_at dksX8_disturb_4 12 rfl rfl)
theorem dX8_disturb_107 : decode cX8_disturb 107 = .ok (.sipush 1028, 3) := dk_17 4 4 (dk_at dksX8_disturb_4 15 rfl rfl)
theorem dX8_disturb_110 : decode cX8_disturb 110 = .ok (.iaload, 1) := dk_46 (dk_at dksX8_disturb_4 18 rfl rfl)
theorem dX8_disturb_111 : decode cX8_disturb 111 = .ok (.ireturn, 1) := dk_172 (dk_at dksX8_disturb_4 19 rfl rfl)
abbrev cX8_run : ByteArray := prog_29_method_60_code
def yX8_run : MethodName := ⟨RX8, "run", "(I)I"⟩
def dkwX8_run_1 : List UInt8 := [162, 0, 13, 42, 182, 0, 178, 132, 3, 1, 167, 255, 244, 42, 182, 0, 175, 28, 100, 172]
abbrev dktX8_run_1 : List UInt8 := dkwX8_run_1 ++ []
def dkwX8_run_0 : List UInt8 := [27, 4, 17, 0, 200, 184, 0, 39, 154, 0, 6, 16, 254, 172, 42, 182, 0, 175, 61, 3, 62, 29, 27]
abbrev dktX8_run_0 : List UInt8 := dkwX8_run_0 ++ dktX8_run_1
theorem dksX8_run_0 : cX8_run.data.toList.drop 0 = dktX8_run_0 := by decide +kernel
theorem dksX8_run_1 : cX8_run.data.toList.drop 23 = dktX8_run_1 := dk_seg dksX8_run_0 23 rfl rfl
theorem dX8_run_0 : decode cX8_run 0 = .ok (.iload_n 1, 1) := dk_27 (dk_at dksX8_run_0 0 rfl rfl)
theorem dX8_run_1 : decode cX8_run 1 = .ok (.iconst 1, 1) := dk_4 (dk_at dksX8_run_0 1 rfl rfl)
theorem dX8_run_2 : decode cX8_run 2 = .ok (.sipush 200, 3) := dk_17 0 200 (dk_at dksX8_run_0 2 rfl rfl)
theorem dX8_run_5 : decode cX8_run 5 = .ok (.invokestatic 39, 3) := dk_184 0 39 (dk_at dksX8_run_0 5 rfl rfl)
theorem dX8_run_8 : decode cX8_run 8 = .ok (.ifCond .ne 6, 3) := dk_154 0 6 (dk_at dksX8_run_0 8 rfl rfl)
theorem dX8_run_11 : decode cX8_run 11 = .ok (.bipush (-2), 2) := dk_16 254 (dk_at dksX8_run_0 11 rfl rfl)
theorem dX8_run_13 : decode cX8_run 13 = .ok (.ireturn, 1) := dk_172 (dk_at dksX8_run_0 13 rfl rfl)
theorem dX8_run_14 : decode cX8_run 14 = .ok (.aload_n 0, 1) := dk_42 (dk_at dksX8_run_0 14 rfl rfl)
theorem dX8_run_15 : decode cX8_run 15 = .ok (.invokevirtual 175, 3) := dk_182 0 175 (dk_at dksX8_run_0 15 rfl rfl)
theorem dX8_run_18 : decode cX8_run 18 = .ok (.istore_n 2, 1) := dk_61 (dk_at dksX8_run_0 18 rfl rfl)
theorem dX8_run_19 : decode cX8_run 19 = .ok (.iconst 0, 1) := dk_3 (dk_at dksX8_run_0 19 rfl rfl)
theorem dX8_run_20 : decode cX8_run 20 = .ok (.istore_n 3, 1) := dk_62 (dk_at dksX8_run_0 20 rfl rfl)
theorem dX8_run_21 : decode cX8_run 21 = .ok (.iload_n 3, 1) := dk_29 (dk_at dksX8_run_0 21 rfl rfl)
theorem dX8_run_22 : decode cX8_run 22 = .ok (.iload_n 1, 1) := dk_27 (dk_at dksX8_run_0 22 rfl rfl)
theorem dX8_run_23 : decode cX8_run 23 = .ok (.if_icmp .ge 13, 3) := dk_162 0 13 (dk_at dksX8_run_1 0 rfl rfl)
theorem dX8_run_26 : decode cX8_run 26 = .ok (.aload_n 0, 1) := dk_42 (dk_at dksX8_run_1 3 rfl rfl)
theorem dX8_run_27 : decode cX8_run 27 = .ok (.invokevirtual 178, 3) := dk_182 0 178 (dk_at dksX8_run_1 4 rfl rfl)
theorem dX8_run_30 : decode cX8_run 30 = .ok (.iinc 3 1, 3) := dk_132 3 1 (dk_at dksX8_run_1 7 rfl rfl)
theorem dX8_run_33 : decode cX8_run 33 = .ok (.goto (-12), 3) := dk_167 255 244 (dk_at dksX8_run_1 10 rfl rfl)
theorem dX8_run_36 : decode cX8_run 36 = .ok (.aload_n 0, 1) := dk_42 (dk_at dksX8_run_1 13 rfl rfl)
theorem dX8_run_37 : decode cX8_run 37 = .ok (.invokevirtual 175, 3) := dk_182 0 175 (dk_at dksX8_run_1 14 rfl rfl)
theorem dX8_run_40 : decode cX8_run 40 = .ok (.iload_n 2, 1) := dk_28 (dk_at dksX8_run_1 17 rfl rfl)
theorem dX8_run_41 : decode cX8_run 41 = .ok (.isub, 1) := dk_100 (dk_at dksX8_run_1 18 rfl rfl)
theorem dX8_run_42 : decode cX8_run 42 = .ok (.ireturn, 1) := dk_172 (dk_at dksX8_run_1 19 rfl rfl)
abbrev cX8_sentByAll : ByteArray := prog_29_method_58_code
def yX8_sentByAll : MethodName := ⟨RX8, "sentByAll", "()I"⟩
def dkwX8_sentByAll_1 : List UInt8 := [180, 0, 7, 5, 16, 14, 184, 0, 35, 46, 96, 42, 180, 0, 7, 6, 16, 14, 184, 0, 35, 46, 96, 172]
abbrev dktX8_sentByAll_1 : List UInt8 := dkwX8_sentByAll_1 ++ []
def dkwX8_sentByAll_0 : List UInt8 := [42, 180, 0, 7, 3, 16, 14, 184, 0, 35, 46, 42, 180, 0, 7, 4, 16, 14, 184, 0, 35, 46, 96, 42]
abbrev dktX8_sentByAll_0 : List UInt8 := dkwX8_sentByAll_0 ++ dktX8_sentByAll_1
theorem dksX8_sentByAll_0 : cX8_sentByAll.data.toList.drop 0 = dktX8_sentByAll_0 := by decide +kernel
theorem dksX8_sentByAll_1 : cX8_sentByAll.data.toList.drop 24 = dktX8_sentByAll_1 := dk_seg dksX8_sentByAll_0 24 rfl rfl
theorem dX8_sentByAll_0 : decode cX8_sentByAll 0 = .ok (.aload_n 0, 1) := dk_42 (dk_at dksX8_sentByAll_0 0 rfl rfl)
theorem dX8_sentByAll_1 : decode cX8_sentByAll 1 = .ok (.getfield 7, 3) := dk_180 0 7 (dk_at dksX8_sentByAll_0 1 rfl rfl)
theorem dX8_sentByAll_4 : decode cX8_sentByAll 4 = .ok (.iconst 0, 1) := dk_3 (dk_at dksX8_sentByAll_0 4 rfl rfl)
theorem dX8_sentByAll_5 : decode cX8_sentByAll 5 = .ok (.bipush 14, 2) := dk_16 14 (dk_at dksX8_sentByAll_0 5 rfl rfl)
theorem dX8_sentByAll_7 : decode cX8_sentByAll 7 = .ok (.invokestatic 35, 3) := dk_184 0 35 (dk_at dksX8_sentByAll_0 7 rfl rfl)
theorem dX8_sentByAll_10 : decode cX8_sentByAll 10 = .ok (.iaload, 1) := dk_46 (dk_at dksX8_sentByAll_0 10 rfl rfl)
theorem dX8_sentByAll_11 : decode cX8_sentByAll 11 = .ok (.aload_n 0, 1) := dk_42 (dk_at dksX8_sentByAll_0 11 rfl rfl)
theorem dX8_sentByAll_12 : decode cX8_sentByAll 12 = .ok (.getfield 7, 3) := dk_180 0 7 (dk_at dksX8_sentByAll_0 12 rfl rfl)
theorem dX8_sentByAll_15 : decode cX8_sentByAll 15 = .ok (.iconst 1, 1) := dk_4 (dk_at dksX8_sentByAll_0 15 rfl rfl)
theorem dX8_sentByAll_16 : decode cX8_sentByAll 16 = .ok (.bipush 14, 2) := dk_16 14 (dk_at dksX8_sentByAll_0 16 rfl rfl)
theorem dX8_sentByAll_18 : decode cX8_sentByAll 18 = .ok (.invokestatic 35, 3) := dk_184 0 35 (dk_at dksX8_sentByAll_0 18 rfl rfl)
theorem dX8_sentByAll_21 : decode cX8_sentByAll 21 = .ok (.iaload, 1) := dk_46 (dk_at dksX8_sentByAll_0 21 rfl rfl)
theorem dX8_sentByAll_22 : decode cX8_sentByAll 22 = .ok (.iadd, 1) := dk_96 (dk_at dksX8_sentByAll_0 22 rfl rfl)
theorem dX8_sentByAll_23 : decode cX8_sentByAll 23 = .ok (.aload_n 0, 1) := dk_42 (dk_at dksX8_sentByAll_0 23 rfl rfl)
theorem dX8_sentByAll_24 : decode cX8_sentByAll 24 = .ok (.getfield 7, 3) := dk_180 0 7 (dk_at dksX8_sentByAll_1 0 rfl rfl)
theorem dX8_sentByAll_27 : decode cX8_sentByAll 27 = .ok (.iconst 2, 1) := dk_5 (dk_at dksX8_sentByAll_1 3 rfl rfl)
theorem dX8_sentByAll_28 : decode cX8_sentByAll 28 = .ok (.bipush 14, 2) := dk_16 14 (dk_at dksX8_sentByAll_1 4 rfl rfl)
theorem dX8_sentByAll_30 : decode cX8_sentByAll 30 = .ok (.invokestatic 35, 3) := dk_184 0 35 (dk_at dksX8_sentByAll_1 6 rfl rfl)
theorem dX8_sentByAll_33 : decode cX8_sentByAll 33 = .ok (.iaload, 1) := dk_46 (dk_at dksX8_sentByAll_1 9 rfl rfl)
theorem dX8_sentByAll_34 : decode cX8_sentByAll 34 = .ok (.iadd, 1) := dk_96 (dk_at dksX8_sentByAll_1 10 rfl rfl)
theorem dX8_sentByAll_35 : decode cX8_sentByAll 35 = .ok (.aload_n 0, 1) := dk_42 (dk_at dksX8_sentByAll_1 11 rfl rfl)
theorem dX8_sentByAll_36 : decode cX8_sentByAll 36 = .ok (.getfield 7, 3) := dk_180 0 7 (dk_at dksX8_sentByAll_1 12 rfl rfl)
theorem dX8_sentByAll_39 : decode cX8_sentByAll 39 = .ok (.iconst 3, 1) := dk_6 (dk_at dksX8_sentByAll_1 15 rfl rfl)
theorem dX8_sentByAll_40 : decode cX8_sentByAll 40 = .ok (.bipush 14, 2) := dk_16 14 (dk_at dksX8_sentByAll_1 16 rfl rfl)
theorem dX8_sentByAll_42 : decode cX8_sentByAll 42 = .ok (.invokestatic 35, 3) := dk_184 0 35 (dk_at dksX8_sentByAll_1 18 rfl rfl)
theorem dX8_sentByAll_45 : decode cX8_sentByAll 45 = .ok (.iaload, 1) := dk_46 (dk_at dksX8_sentByAll_1 21 rfl rfl)
theorem dX8_sentByAll_46 : decode cX8_sentByAll 46 = .ok (.iadd, 1) := dk_96 (dk_at dksX8_sentByAll_1 22 rfl rfl)
theorem dX8_sentByAll_47 : decode cX8_sentByAll 47 = .ok (.ireturn, 1) := dk_172 (dk_at dksX8_sentByAll_1 23 rfl rfl)
abbrev cX8_bit : ByteArray := prog_29_method_59_code
def yX8_bit : MethodName := ⟨RX8, "bit", "()V"⟩
def dkwX8_bit_4 : List UInt8 := [112, 96, 27, 79, 42, 180, 0, 7, 17, 4, 0, 92, 46, 4, 96, 79, 42, 182, 0, 172, 177]
abbrev dktX8_bit_4 : List UInt8 := dkwX8_bit_4 ++ []
def dkwX8_bit_3 : List UInt8 := [132, 3, 1, 167, 255, 236, 42, 180, 0, 7, 17, 4, 26, 42, 180, 0, 7, 17, 4, 0, 46, 17, 1, 0]
abbrev dktX8_bit_3 : List UInt8 := dkwX8_bit_3 ++ dktX8_bit_4
def dkwX8_bit_2 : List UInt8 := [182, 0, 165, 61, 3, 62, 29, 7, 162, 0, 21, 42, 29, 27, 28, 29, 122, 4, 126, 130, 182, 0, 169]
abbrev dktX8_bit_2 : List UInt8 := dkwX8_bit_2 ++ dktX8_bit_3
def dkwX8_bit_1 : List UInt8 := [79, 27, 42, 180, 0, 7, 28, 16, 26, 184, 0, 35, 46, 126, 60, 132, 2, 1, 167, 255, 218, 42]
abbrev dktX8_bit_1 : List UInt8 := dkwX8_bit_1 ++ dktX8_bit_2
def dkwX8_bit_0 : List UInt8 := [4, 60, 3, 61, 28, 7, 162, 0, 39, 42, 180, 0, 7, 28, 16, 26, 184, 0, 35, 42, 28, 182, 0, 162]
abbrev dktX8_bit_0 : List UInt8 := dkwX8_bit_0 ++ dktX8_bit_1
theorem dksX8_bit_0 : cX8_bit.data.toList.drop 0 = dktX8_bit_0 := by decide +kernel
theorem dksX8_bit_1 : cX8_bit.data.toList.drop 24 = dktX8_bit_1 := dk_seg dksX8_bit_0 24 rfl rfl
theorem dksX8_bit_2 : cX8_bit.data.toList.drop 46 = dktX8_bit_2 := dk_seg dksX8_bit_1 22 rfl rfl
theorem dksX8_bit_3 : cX8_bit.data.toList.drop 69 = dktX8_bit_3 := dk_seg dksX8_bit_2 23 rfl rfl
theorem dksX8_bit_4 : cX8_bit.data.toList.drop 93 = dktX8_bit_4 := dk_seg dksX8_bit_3 24 rfl rfl
theorem dX8_bit_0 : decode cX8_bit 0 = .ok (.iconst 1, 1) := dk_4 (dk_at dksX8_bit_0 0 rfl rfl)
theorem dX8_bit_1 : decode cX8_bit 1 = .ok (.istore_n 1, 1) := dk_60 (dk_at dksX8_bit_0 1 rfl rfl)
theorem dX8_bit_2 : decode cX8_bit 2 = .ok (.iconst 0, 1) := dk_3 (dk_at dksX8_bit_0 2 rfl rfl)
theorem dX8_bit_3 : decode cX8_bit 3 = .ok (.istore_n 2, 1) := dk_61 (dk_at dksX8_bit_0 3 rfl rfl)
theorem dX8_bit_4 : decode cX8_bit 4 = .ok (.iload_n 2, 1) := dk_28 (dk_at dksX8_bit_0 4 rfl rfl)
theorem dX8_bit_5 : decode cX8_bit 5 = .ok (.iconst 4, 1) := dk_7 (dk_at dksX8_bit_0 5 rfl rfl)
theorem dX8_bit_6 : decode cX8_bit 6 = .ok (.if_icmp .ge 39, 3) := dk_162 0 39 (dk_at dksX8_bit_0 6 rfl rfl)
theorem dX8_bit_9 : decode cX8_bit 9 = .ok (.aload_n 0, 1) := dk_42 (dk_at dksX8_bit_0 9 rfl rfl)
theorem dX8_bit_10 : decode cX8_bit 10 = .ok (.getfield 7, 3) := dk_180 0 7 (dk_at dksX8_bit_0 10 rfl rfl)
theorem dX8_bit_13 : decode cX8_bit 13 = .ok (.iload_n 2, 1) := dk_28 (dk_at dksX8_bit_0 13 rfl rfl)
theorem dX8_bit_14 : decode cX8_bit 14 = .ok (.bipush 26, 2) := dk_16 26 (dk_at dksX8_bit_0 14 rfl rfl)
theorem dX8_bit_16 : decode cX8_bit 16 = .ok (.invokestatic 35, 3) := dk_184 0 35 (dk_at dksX8_bit_0 16 rfl rfl)
theorem dX8_bit_19 : decode cX8_bit 19 = .ok (.aload_n 0, 1) := dk_42 (dk_at dksX8_bit_0 19 rfl rfl)
theorem dX8_bit_20 : decode cX8_bit 20 = .ok (.iload_n 2, 1) := dk_28 (dk_at dksX8_bit_0 20 rfl rfl)
theorem dX8_bit_21 : decode cX8_bit 21 = .ok (.invokevirtual 162, 3) := dk_182 0 162 (dk_at dksX8_bit_0 21 rfl rfl)
theorem dX8_bit_24 : decode cX8_bit 24 = .ok (.iastore, 1) := dk_79 (dk_at dksX8_bit_1 0 rfl rfl)
theorem dX8_bit_25 : decode cX8_bit 25 = .ok (.iload_n 1, 1) := dk_27 (dk_at dksX8_bit_1 1 rfl rfl)
theorem dX8_bit_26 : decode cX8_bit 26 = .ok (.aload_n 0, 1) := dk_42 (dk_at dksX8_bit_1 2 rfl rfl)
theorem dX8_bit_27 : decode cX8_bit 27 = .ok (.getfield 7, 3) := dk_180 0 7 (dk_at dksX8_bit_1 3 rfl rfl)
theorem dX8_bit_30 : decode cX8_bit 30 = .ok (.iload_n 2, 1) := dk_28 (dk_at dksX8_bit_1 6 rfl rfl)
theorem dX8_bit_31 : decode cX8_bit 31 = .ok (.bipush 26, 2) := dk_16 26 (dk_at dksX8_bit_1 7 rfl rfl)
theorem dX8_bit_33 : decode cX8_bit 33 = .ok (.invokestatic 35, 3) := dk_184 0 35 (dk_at dksX8_bit_1 9 rfl rfl)
theorem dX8_bit_36 : decode cX8_bit 36 = .ok (.iaload, 1) := dk_46 (dk_at dksX8_bit_1 12 rfl rfl)
theorem dX8_bit_37 : decode cX8_bit 37 = .ok (.iand, 1) := dk_126 (dk_at dksX8_bit_1 13 rfl rfl)
theorem dX8_bit_38 : decode cX8_bit 38 = .ok (.istore_n 1, 1) := dk_60 (dk_at dksX8_bit_1 14 rfl rfl)
theorem dX8_bit_39 : decode cX8_bit 39 = .ok (.iinc 2 1, 3) := dk_132 2 1 (dk_at dksX8_bit_1 15 rfl rfl)
theorem dX8_bit_42 : decode cX8_bit 42 = .ok (.goto (-38), 3) := dk_167 255 218 (dk_at dksX8_bit_1 18 rfl rfl)
theorem dX8_bit_45 : decode cX8_bit 45 = .ok (.aload_n 0, 1) := dk_42 (dk_at dksX8_bit_1 21 rfl rfl)
theorem dX8_bit_46 : decode cX8_bit 46 = .ok (.invokevirtual 165, 3) := dk_182 0 165 (dk_at dksX8_bit_2 0 rfl rfl)
theorem dX8_bit_49 : decode cX8_bit 49 = .ok (.istore_n 2, 1) := dk_61 (dk_at dksX8_bit_2 3 rfl rfl)
theorem dX8_bit_50 : decode cX8_bit 50 = .ok (.iconst 0, 1) := dk_3 (dk_at dksX8_bit_2 4 rfl rfl)
theorem dX8_bit_51 : decode cX8_bit 51 = .ok (.istore_n 3, 1) := dk_62 (dk_at dksX8_bit_2 5 rfl rfl)
theorem dX8_bit_52 : decode cX8_bit 52 = .ok (.iload_n 3, 1) := dk_29 (dk_at dksX8_bit_2 6 rfl rfl)
theorem dX8_bit_53 : decode cX8_bit 53 = .ok (.iconst 4, 1) := dk_7 (dk_at dksX8_bit_2 7 rfl rfl)
theorem dX8_bit_54 : decode cX8_bit 54 = .ok (.if_icmp .ge 21, 3) := dk_162 0 21 (dk_at dksX8_bit_2 8 rfl rfl)
theorem dX8_bit_57 : decode cX8_bit 57 = .ok (.aload_n 0, 1) := dk_42 (dk_at dksX8_bit_2 11 rfl rfl)
theorem dX8_bit_58 : decode cX8_bit 58 = .ok (.iload_n 3, 1) := dk_29 (dk_at dksX8_bit_2 12 rfl rfl)
theorem dX8_bit_59 : decode cX8_bit 59 = .ok (.iload_n 1, 1) := dk_27 (dk_at dksX8_bit_2 13 rfl rfl)
theorem dX8_bit_60 : decode cX8_bit 60 = .ok (.iload_n 2, 1) := dk_28 (dk_at dksX8_bit_2 14 rfl rfl)
theorem dX8_bit_61 : decode cX8_bit 61 = .ok (.iload_n 3, 1) := dk_29 (dk_at dksX8_bit_2 15 rfl rfl)
theorem dX8_bit_62 : decode cX8_bit 62 = .ok (.ishr, 1) := dk_122 (dk_at dksX8_bit_2 16 rfl rfl)
theorem dX8_bit_63 : decode cX8_bit 63 = .ok (.iconst 1, 1) := dk_4 (dk_at dksX8_bit_2 17 rfl rfl)
theorem dX8_bit_64 : decode cX8_bit 64 = .ok (.iand, 1) := dk_126 (dk_at dksX8_bit_2 18 rfl rfl)
theorem dX8_bit_65 : decode cX8_bit 65 = .ok (.ixor, 1) := dk_130 (dk_at dksX8_bit_2 19 rfl rfl)
theorem dX8_bit_66 : decode cX8_bit 66 = .ok (.invokevirtual 169, 3) := dk_182 0 169 (dk_at dksX8_bit_2 20 rfl rfl)
theorem dX8_bit_69 : decode cX8_bit 69 = .ok (.iinc 3 1, 3) := dk_132 3 1 (dk_at dksX8_bit_3 0 rfl rfl)
theorem dX8_bit_72 : decode cX8_bit 72 = .ok (.goto (-20), 3) := dk_167 255 236 (dk_at dksX8_bit_3 3 rfl rfl)
theorem dX8_bit_75 : decode cX8_bit 75 = .ok (.aload_n 0, 1) := dk_42 (dk_at dksX8_bit_3 6 rfl rfl)
theorem dX8_bit_76 : decode cX8_bit 76 = .ok (.getfield 7, 3) := dk_180 0 7 (dk_at dksX8_bit_3 7 rfl rfl)
theorem dX8_bit_79 : decode cX8_bit 79 = .ok (.sipush 1050, 3) := dk_17 4 26 (dk_at dksX8_bit_3 10 rfl rfl)
theorem dX8_bit_82 : decode cX8_bit 82 = .ok (.aload_n 0, 1) := dk_42 (dk_at dksX8_bit_3 13 rfl rfl)
theorem dX8_bit_83 : decode cX8_bit 83 = .ok (.getfield 7, 3) := dk_180 0 7 (dk_at dksX8_bit_3 14 rfl rfl)
theorem dX8_bit_86 : decode cX8_bit 86 = .ok (.sipush 1024, 3) := dk_17 4 0 (dk_at dksX8_bit_3 17 rfl rfl)
theorem dX8_bit_89 : decode cX8_bit 89 = .ok (.iaload, 1) := dk_46 (dk_at dksX8_bit_3 20 rfl rfl)
theorem dX8_bit_90 : decode cX8_bit 90 = .ok (.sipush 256, 3) := dk_17 1 0 (dk_at dksX8_bit_3 21 rfl rfl)
theorem dX8_bit_93 : decode cX8_bit 93 = .ok (.irem, 1) := dk_112 (dk_at dksX8_bit_4 0 rfl rfl)
theorem dX8_bit_94 : decode cX8_bit 94 = .ok (.iadd, 1) := dk_96 (dk_at dksX8_bit_4 1 rfl rfl)
theorem dX8_bit_95 : decode cX8_bit 95 = .ok (.iload_n 1, 1) := dk_27 (dk_at dksX8_bit_4 2 rfl rfl)
theorem dX8_bit_96 : decode cX8_bit 96 = .ok (.iastore, 1) := dk_79 (dk_at dksX8_bit_4 3 rfl rfl)
theorem dX8_bit_97 : decode cX8_bit 97 = .ok (.aload_n 0, 1) := dk_42 (dk_at dksX8_bit_4 4 rfl rfl)
theorem dX8_bit_98 : decode cX8_bit 98 = .ok (.getfield 7, 3) := dk_180 0 7 (dk_at dksX8_bit_4 5 rfl rfl)
theorem dX8_bit_101 : decode cX8_bit 101 = .ok (.sipush 1024, 3) := dk_17 4 0 (dk_at dksX8_bit_4 8 rfl rfl)
theorem dX8_bit_104 : decode cX8_bit 104 = .ok (.dup2, 1) := dk_92 (dk_at dksX8_bit_4 11 rfl rfl)
theorem dX8_bit_105 : decode cX8_bit 105 = .ok (.iaload, 1) := dk_46 (dk_at dksX8_bit_4 12 rfl rfl)
theorem dX8_bit_106 : decode cX8_bit 106 = .ok (.iconst 1, 1) := dk_4 (dk_at dksX8_bit_4 13 rfl rfl)
theorem dX8_bit_107 : decode cX8_bit 107 = .ok (.iadd, 1) := dk_96 (dk_at dksX8_bit_4 14 rfl rfl)
theorem dX8_bit_108 : decode cX8_bit 108 = .ok (.iastore, 1) := dk_79 (dk_at dksX8_bit_4 15 rfl rfl)
theorem dX8_bit_109 : decode cX8_bit 109 = .ok (.aload_n 0, 1) := dk_42 (dk_at dksX8_bit_4 16 rfl rfl)
theorem dX8_bit_110 : decode cX8_bit 110 = .ok (.invokevirtual 172, 3) := dk_182 0 172 (dk_at dksX8_bit_4 17 rfl rfl)
theorem dX8_bit_113 : decode cX8_bit 113 = .ok (.return_, 1) := dk_177 (dk_at dksX8_bit_4 20 rfl rfl)
abbrev cX8_drives : ByteArray := prog_29_method_41_code
def yX8_drives : MethodName := ⟨RX8, "drives", "(I)I"⟩
def dkwX8_drives_3 : List UInt8 := [182, 0, 107, 172, 4, 42, 180, 0, 7, 27, 16, 18, 184, 0, 35, 46, 100, 172, 3, 172, 4, 172]
abbrev dktX8_drives_3 : List UInt8 := dkwX8_drives_3 ++ []
def dkwX8_drives_2 : List UInt8 := [42, 180, 0, 7, 27, 16, 23, 184, 0, 35, 46, 158, 0, 7, 3, 167, 0, 4, 4, 172, 42, 27]
abbrev dktX8_drives_2 : List UInt8 := dkwX8_drives_2 ++ dktX8_drives_3
def dkwX8_drives_1 : List UInt8 := [170, 0, 0, 0, 0, 72, 0, 0, 0, 3, 0, 0, 0, 6, 0, 0, 0, 30, 0, 0, 0, 50, 0, 0, 0, 56, 0, 0, 0, 70]
abbrev dktX8_drives_1 : List UInt8 := dkwX8_drives_1 ++ dktX8_drives_2
def dkwX8_drives_0 : List UInt8 := [42, 180, 0, 7, 27, 3, 184, 0, 35, 46]
abbrev dktX8_drives_0 : List UInt8 := dkwX8_drives_0 ++ dktX8_drives_1
theorem dksX8_drives_0 : cX8_drives.data.toList.drop 0 = dktX8_drives_0 := by decide +kernel
theorem dksX8_drives_1 : cX8_drives.data.toList.drop 10 = dktX8_drives_1 := dk_seg dksX8_drives_0 10 rfl rfl
theorem dksX8_drives_2 : cX8_drives.data.toList.drop 40 = dktX8_drives_2 := dk_seg dksX8_drives_1 30 rfl rfl
theorem dksX8_drives_3 : cX8_drives.data.toList.drop 62 = dktX8_drives_3 := dk_seg dksX8_drives_2 22 rfl rfl
theorem dX8_drives_0 : decode cX8_drives 0 = .ok (.aload_n 0, 1) := dk_42 (dk_at dksX8_drives_0 0 rfl rfl)
theorem dX8_drives_1 : decode cX8_drives 1 = .ok (.getfield 7, 3) := dk_180 0 7 (dk_at dksX8_drives_0 1 rfl rfl)
theorem dX8_drives_4 : decode cX8_drives 4 = .ok (.iload_n 1, 1) := dk_27 (dk_at dksX8_drives_0 4 rfl rfl)
theorem dX8_drives_5 : decode cX8_drives 5 = .ok (.iconst 0, 1) := dk_3 (dk_at dksX8_drives_0 5 rfl rfl)
theorem dX8_drives_6 : decode cX8_drives 6 = .ok (.invokestatic 35, 3) := dk_184 0 35 (dk_at dksX8_drives_0 6 rfl rfl)
theorem dX8_drives_9 : decode cX8_drives 9 = .ok (.iaload, 1) := dk_46 (dk_at dksX8_drives_0 9 rfl rfl)
theorem dX8_drives_10 : decode cX8_drives 10 = .ok (.tableswitch 72 3 6 #[30, 50, 56, 70], 30) := by decide +kernel
theorem dX8_drives_40 : decode cX8_drives 40 = .ok (.aload_n 0, 1) := dk_42 (dk_at dksX8_drives_2 0 rfl rfl)
theorem dX8_drives_41 : decode cX8_drives 41 = .ok (.getfield 7, 3) := dk_180 0 7 (dk_at dksX8_drives_2 1 rfl rfl)
theorem dX8_drives_44 : decode cX8_drives 44 = .ok (.iload_n 1, 1) := dk_27 (dk_at dksX8_drives_2 4 rfl rfl)
theorem dX8_drives_45 : decode cX8_drives 45 = .ok (.bipush 23, 2) := dk_16 23 (dk_at dksX8_drives_2 5 rfl rfl)
theorem dX8_drives_47 : decode cX8_drives 47 = .ok (.invokestatic 35, 3) := dk_184 0 35 (dk_at dksX8_drives_2 7 rfl rfl)
theorem dX8_drives_50 : decode cX8_drives 50 = .ok (.iaload, 1) := dk_46 (dk_at dksX8_drives_2 10 rfl rfl)
theorem dX8_drives_51 : decode cX8_drives 51 = .ok (.ifCond .le 7, 3) := dk_158 0 7 (dk_at dksX8_drives_2 11 rfl rfl)
theorem dX8_drives_54 : decode cX8_drives 54 = .ok (.iconst 0, 1) := dk_3 (dk_at dksX8_drives_2 14 rfl rfl)
theorem dX8_drives_55 : decode cX8_drives 55 = .ok (.goto 4, 3) := dk_167 0 4 (dk_at dksX8_drives_2 15 rfl rfl)
theorem dX8_drives_58 : decode cX8_drives 58 = .ok (.iconst 1, 1) := dk_4 (dk_at dksX8_drives_2 18 rfl rfl)
theorem dX8_drives_59 : decode cX8_drives 59 = .ok (.ireturn, 1) := dk_172 (dk_at dksX8_drives_2 19 rfl rfl)
theorem dX8_drives_60 : decode cX8_drives 60 = .ok (.aload_n 0, 1) := dk_42 (dk_at dksX8_drives_2 20 rfl rfl)
theorem dX8_drives_61 : decode cX8_drives 61 = .ok (.iload_n 1, 1) := dk_27 (dk_at dksX8_drives_2 21 rfl rfl)
theorem dX8_drives_62 : decode cX8_drives 62 = .ok (.invokevirtual 107, 3) := dk_182 0 107 (dk_at dksX8_drives_3 0 rfl rfl)
theorem dX8_drives_65 : decode cX8_drives 65 = .ok (.ireturn, 1) := dk_172 (dk_at dksX8_drives_3 3 rfl rfl)
theorem dX8_drives_66 : decode cX8_drives 66 = .ok (.iconst 1, 1) := dk_4 (dk_at dksX8_drives_3 4 rfl rfl)
theorem dX8_drives_67 : decode cX8_drives 67 = .ok (.aload_n 0, 1) := dk_42 (dk_at dksX8_drives_3 5 rfl rfl)
theorem dX8_drives_68 : decode cX8_drives 68 = .ok (.getfield 7, 3) := dk_180 0 7 (dk_at dksX8_drives_3 6 rfl rfl)
theorem dX8_drives_71 : decode cX8_drives 71 = .ok (.iload_n 1, 1) := dk_27 (dk_at dksX8_drives_3 9 rfl rfl)
theorem dX8_drives_72 : decode cX8_drives 72 = .ok (.bipush 18, 2) := dk_16 18 (dk_at dksX8_drives_3 10 rfl rfl)
theorem dX8_drives_74 : decode cX8_drives 74 = .ok (.invokestatic 35, 3) := dk_184 0 35 (dk_at dksX8_drives_3 12 rfl rfl)
theorem dX8_drives_77 : decode cX8_drives 77 = .ok (.iaload, 1) := dk_46 (dk_at dksX8_drives_3 15 rfl rfl)
theorem dX8_drives_78 : decode cX8_drives 78 = .ok (.isub, 1) := dk_100 (dk_at dksX8_drives_3 16 rfl rfl)
theorem dX8_drives_79 : decode cX8_drives 79 = .ok (.ireturn, 1) := dk_172 (dk_at dksX8_drives_3 17 rfl rfl)
theorem dX8_drives_80 : decode cX8_drives 80 = .ok (.iconst 0, 1) := dk_3 (dk_at dksX8_drives_3 18 rfl rfl)
theorem dX8_drives_81 : decode cX8_drives 81 = .ok (.ireturn, 1) := dk_172 (dk_at dksX8_drives_3 19 rfl rfl)
theorem dX8_drives_82 : decode cX8_drives 82 = .ok (.iconst 1, 1) := dk_4 (dk_at dksX8_drives_3 20 rfl rfl)
theorem dX8_drives_83 : decode cX8_drives 83 = .ok (.ireturn, 1) := dk_172 (dk_at dksX8_drives_3 21 rfl rfl)
abbrev cX8_drivesFrame : ByteArray := prog_29_method_42_code
def yX8_drivesFrame : MethodName := ⟨RX8, "drivesFrame", "(I)I"⟩
def dkwX8_drivesFrame_4 : List UInt8 := [184, 0, 35, 46, 96, 184, 0, 35, 46, 172]
abbrev dktX8_drivesFrame_4 : List UInt8 := dkwX8_drivesFrame_4 ++ []
def dkwX8_drivesFrame_3 : List UInt8 := [184, 0, 35, 46, 100, 167, 0, 27, 42, 180, 0, 7, 27, 17, 0, 160, 42, 180, 0, 7, 27, 16, 19]
abbrev dktX8_drivesFrame_3 : List UInt8 := dkwX8_drivesFrame_3 ++ dktX8_drivesFrame_4
def dkwX8_drivesFrame_2 : List UInt8 := [180, 0, 7, 27, 16, 20, 184, 0, 35, 46, 8, 160, 0, 19, 4, 42, 180, 0, 7, 27, 16, 21]
abbrev dktX8_drivesFrame_2 : List UInt8 := dkwX8_drivesFrame_2 ++ dktX8_drivesFrame_3
def dkwX8_drivesFrame_1 : List UInt8 := [160, 0, 15, 42, 27, 182, 0, 113, 153, 0, 7, 3, 167, 0, 4, 4, 172, 28, 155, 0, 5, 4, 172, 42]
abbrev dktX8_drivesFrame_1 : List UInt8 := dkwX8_drivesFrame_1 ++ dktX8_drivesFrame_2
def dkwX8_drivesFrame_0 : List UInt8 := [42, 180, 0, 7, 27, 16, 22, 184, 0, 35, 46, 61, 42, 27, 182, 0, 110, 154, 0, 22, 28, 4]
abbrev dktX8_drivesFrame_0 : List UInt8 := dkwX8_drivesFrame_0 ++ dktX8_drivesFrame_1
theorem dksX8_drivesFrame_0 : cX8_drivesFrame.data.toList.drop 0 = dktX8_drivesFrame_0 := by decide +kernel
theorem dksX8_drivesFrame_1 : cX8_drivesFrame.data.toList.drop 22 = dktX8_drivesFrame_1 := dk_seg dksX8_drivesFrame_0 22 rfl rfl
theorem dksX8_drivesFrame_2 : cX8_drivesFrame.data.toList.drop 46 = dktX8_drivesFrame_2 := dk_seg dksX8_drivesFrame_1 24 rfl rfl
theorem dksX8_drivesFrame_3 : cX8_drivesFrame.data.toList.drop 68 = dktX8_drivesFrame_3 := dk_seg dksX8_drivesFrame_2 22 rfl rfl
theorem dksX8_drivesFrame_4 : cX8_drivesFrame.data.toList.drop 91 = dktX8_drivesFrame_4 := dk_seg dksX8_drivesFrame_3 23 rfl rfl
theorem dX8_drivesFrame_0 : decode cX8_drivesFrame 0 = .ok (.aload_n 0, 1) := dk_42 (dk_at dksX8_drivesFrame_0 0 rfl rfl)
theorem dX8_drivesFrame_1 : decode cX8_drivesFrame 1 = .ok (.getfield 7, 3) := dk_180 0 7 (dk_at dksX8_drivesFrame_0 1 rfl rfl)
theorem dX8_drivesFrame_4 : decode cX8_drivesFrame 4 = .ok (.iload_n 1, 1) := dk_27 (dk_at dksX8_drivesFrame_0 4 rfl rfl)
theorem dX8_drivesFrame_5 : decode cX8_drivesFrame 5 = .ok (.bipush 22, 2) := dk_16 22 (dk_at dksX8_drivesFrame_0 5 rfl rfl)
theorem dX8_drivesFrame_7 : decode cX8_drivesFrame 7 = .ok (.invokestatic 35, 3) := dk_184 0 35 (dk_at dksX8_drivesFrame_0 7 rfl rfl)
theorem dX8_drivesFrame_10 : decode cX8_drivesFrame 10 = .ok (.iaload, 1) := dk_46 (dk_at dksX8_drivesFrame_0 10 rfl rfl)
theorem dX8_drivesFrame_11 : decode cX8_drivesFrame 11 = .ok (.istore_n 2, 1) := dk_61 (dk_at dksX8_drivesFrame_0 11 rfl rfl)
theorem dX8_drivesFrame_12 : decode cX8_drivesFrame 12 = .ok (.aload_n 0, 1) := dk_42 (dk_at dksX8_drivesFrame_0 12 rfl rfl)
theorem dX8_drivesFrame_13 : decode cX8_drivesFrame 13 = .ok (.iload_n 1, 1) := dk_27 (dk_at dksX8_drivesFrame_0 13 rfl rfl)
theorem dX8_drivesFrame_14 : decode cX8_drivesFrame 14 = .ok (.invokevirtual 110, 3) := dk_182 0 110 (dk_at dksX8_drivesFrame_0 14 rfl rfl)
theorem dX8_drivesFrame_17 : decode cX8_drivesFrame 17 = .ok (.ifCond .ne 22, 3) := dk_154 0 22 (dk_at dksX8_drivesFrame_0 17 rfl rfl)
theorem dX8_drivesFrame_20 : decode cX8_drivesFrame 20 = .ok (.iload_n 2, 1) := dk_28 (dk_at dksX8_drivesFrame_0 20 rfl rfl)
theorem dX8_drivesFrame_21 : decode cX8_drivesFrame 21 = .ok (.iconst 1, 1) := dk_4 (dk_at dksX8_drivesFrame_0 21 rfl rfl)
theorem dX8_drivesFrame_22 : decode cX8_drivesFrame 22 = .ok (.if_icmp .ne 15, 3) := dk_160 0 15 (dk_at dksX8_drivesFrame_1 0 rfl rfl)
theorem dX8_drivesFrame_25 : decode cX8_drivesFrame 25 = .ok (.aload_n 0, 1) := dk_42 (dk_at dksX8_drivesFrame_1 3 rfl rfl)
theorem dX8_drivesFrame_26 : decode cX8_drivesFrame 26 = .ok (.iload_n 1, 1) := dk_27 (dk_at dksX8_drivesFrame_1 4 rfl rfl)
theorem dX8_drivesFrame_27 : decode cX8_drivesFrame 27 = .ok (.invokevirtual 113, 3) := dk_182 0 113 (dk_at dksX8_drivesFrame_1 5 rfl rfl)
theorem dX8_drivesFrame_30 : decode cX8_drivesFrame 30 = .ok (.ifCond .eq 7, 3) := dk_153 0 7 (dk_at dksX8_drivesFrame_1 8 rfl rfl)
theorem dX8_drivesFrame_33 : decode cX8_drivesFrame 33 = .ok (.iconst 0, 1) := dk_3 (dk_at dksX8_drivesFrame_1 11 rfl rfl)
theorem dX8_drivesFrame_34 : decode cX8_drivesFrame 34 = .ok (.goto 4, 3) := dk_167 0 4 (dk_at dksX8_drivesFrame_1 12 rfl rfl)
theorem dX8_drivesFrame_37 : decode cX8_drivesFrame 37 = .ok (.iconst 1, 1) := dk_4 (dk_at dksX8_drivesFrame_1 15 rfl rfl)
theorem dX8_drivesFrame_38 : decode cX8_drivesFrame 38 = .ok (.ireturn, 1) := dk_172 (dk_at dksX8_drivesFrame_1 16 rfl rfl)
theorem dX8_drivesFrame_39 : decode cX8_drivesFrame 39 = .ok (.iload_n 2, 1) := dk_28 (dk_at dksX8_drivesFrame_1 17 rfl rfl)
theorem dX8_drivesFrame_40 : decode cX8_drivesFrame 40 = .ok (.ifCond .lt 5, 3) := dk_155 0 5 (dk_at dksX8_drivesFrame_1 18 rfl rfl)
theorem dX8_drivesFrame_43 : decode cX8_drivesFrame 43 = .ok (.iconst 1, 1) := dk_4 (dk_at dksX8_drivesFrame_1 21 rfl rfl)
theorem dX8_drivesFrame_44 : decode cX8_drivesFrame 44 = .ok (.ireturn, 1) := dk_172 (dk_at dksX8_drivesFrame_1 22 rfl rfl)
theorem dX8_drivesFrame_45 : decode cX8_drivesFrame 45 = .ok (.aload_n 0, 1) := dk_42 (dk_at dksX8_drivesFrame_1 23 rfl rfl)
theorem dX8_drivesFrame_46 : decode cX8_drivesFrame 46 = .ok (.getfield 7, 3) := dk_180 0 7 (dk_at dksX8_drivesFrame_2 0 rfl rfl)
theorem dX8_drivesFrame_49 : decode cX8_drivesFrame 49 = .ok (.iload_n 1, 1) := dk_27 (dk_at dksX8_drivesFrame_2 3 rfl rfl)
theorem dX8_drivesFrame_50 : decode cX8_drivesFrame 50 = .ok (.bipush 20, 2) := dk_16 20 (dk_at dksX8_drivesFrame_2 4 rfl rfl)
theorem dX8_drivesFrame_52 : decode cX8_drivesFrame 52 = .ok (.invokestatic 35, 3) := dk_184 0 35 (dk_at dksX8_drivesFrame_2 6 rfl rfl)
theorem dX8_drivesFrame_55 : decode cX8_drivesFrame 55 = .ok (.iaload, 1) := dk_46 (dk_at dksX8_drivesFrame_2 9 rfl rfl)
theorem dX8_drivesFrame_56 : decode cX8_drivesFrame 56 = .ok (.iconst 5, 1) := dk_8 (dk_at dksX8_drivesFrame_2 10 rfl rfl)
theorem dX8_drivesFrame_57 : decode cX8_drivesFrame 57 = .ok (.if_icmp .ne 19, 3) := dk_160 0 19 (dk_at dksX8_drivesFrame_2 11 rfl rfl)
theorem dX8_drivesFrame_60 : decode cX8_drivesFrame 60 = .ok (.iconst 1, 1) := dk_4 (dk_at dksX8_drivesFrame_2 14 rfl rfl)
theorem dX8_drivesFrame_61 : decode cX8_drivesFrame 61 = .ok (.aload_n 0, 1) := dk_42 (dk_at dksX8_drivesFrame_2 15 rfl rfl)
theorem dX8_drivesFrame_62 : decode cX8_drivesFrame 62 = .ok (.getfield 7, 3) := dk_180 0 7 (dk_at dksX8_drivesFrame_2 16 rfl rfl)
theorem dX8_drivesFrame_65 : decode cX8_drivesFrame 65 = .ok (.iload_n 1, 1) := dk_27 (dk_at dksX8_drivesFrame_2 19 rfl rfl)
theorem dX8_drivesFrame_66 : decode cX8_drivesFrame 66 = .ok (.bipush 21, 2) := dk_16 21 (dk_at dksX8_drivesFrame_2 20 rfl rfl)
theorem dX8_drivesFrame_68 : decode cX8_drivesFrame 68 = .ok (.invokestatic 35, 3) := dk_184 0 35 (dk_at dksX8_drivesFrame_3 0 rfl rfl)
theorem dX8_drivesFrame_71 : decode cX8_drivesFrame 71 = .ok (.iaload, 1) := dk_46 (dk_at dksX8_drivesFrame_3 3 rfl rfl)
theorem dX8_drivesFrame_72 : decode cX8_drivesFrame 72 = .ok (.isub, 1) := dk_100 (dk_at dksX8_drivesFrame_3 4 rfl rfl)
theorem dX8_drivesFrame_73 : decode cX8_drivesFrame 73 = .ok (.goto 27, 3) := dk_167 0 27 (dk_at dksX8_drivesFrame_3 5 rfl rfl)
theorem dX8_drivesFrame_76 : decode cX8_drivesFrame 76 = .ok (.aload_n 0, 1) := dk_42 (dk_at dksX8_drivesFrame_3 8 rfl rfl)
theorem dX8_drivesFrame_77 : decode cX8_drivesFrame 77 = .ok (.getfield 7, 3) := dk_180 0 7 (dk_at dksX8_drivesFrame_3 9 rfl rfl)
theorem dX8_drivesFrame_80 : decode cX8_drivesFrame 80 = .ok (.iload_n 1, 1) := dk_27 (dk_at dksX8_drivesFrame_3 12 rfl rfl)
theorem dX8_drivesFrame_81 : decode cX8_drivesFrame 81 = .ok (.sipush 160, 3) := dk_17 0 160 (dk_at dksX8_drivesFrame_3 13 rfl rfl)
theorem dX8_drivesFrame_84 : decode cX8_drivesFrame 84 = .ok (.aload_n 0, 1) := dk_42 (dk_at dksX8_drivesFrame_3 16 rfl rfl)
theorem dX8_drivesFrame_85 : decode cX8_drivesFrame 85 = .ok (.getfield 7, 3) := dk_180 0 7 (dk_at dksX8_drivesFrame_3 17 rfl rfl)
theorem dX8_drivesFrame_88 : decode cX8_drivesFrame 88 = .ok (.iload_n 1, 1) := dk_27 (dk_at dksX8_drivesFrame_3 20 rfl rfl)
theorem dX8_drivesFrame_89 : decode cX8_drivesFrame 89 = .ok (.bipush 19, 2) := dk_16 19 (dk_at dksX8_drivesFrame_3 21 rfl rfl)
theorem dX8_drivesFrame_91 : decode cX8_drivesFrame 91 = .ok (.invokestatic 35, 3) := dk_184 0 35 (dk_at dksX8_drivesFrame_4 0 rfl rfl)
theorem dX8_drivesFrame_94 : decode cX8_drivesFrame 94 = .ok (.iaload, 1) := dk_46 (dk_at dksX8_drivesFrame_4 3 rfl rfl)
theorem dX8_drivesFrame_95 : decode cX8_drivesFrame 95 = .ok (.iadd, 1) := dk_96 (dk_at dksX8_drivesFrame_4 4 rfl rfl)
theorem dX8_drivesFrame_96 : decode cX8_drivesFrame 96 = .ok (.invokestatic 35, 3) := dk_184 0 35 (dk_at dksX8_drivesFrame_4 5 rfl rfl)
theorem dX8_drivesFrame_99 : decode cX8_drivesFrame 99 = .ok (.iaload, 1) := dk_46 (dk_at dksX8_drivesFrame_4 8 rfl rfl)
theorem dX8_drivesFrame_100 : decode cX8_drivesFrame 100 = .ok (.ireturn, 1) := dk_172 (dk_at dksX8_drivesFrame_4 9 rfl rfl)
abbrev cX8_isTransmitting : ByteArray := prog_29_method_40_code
def yX8_isTransmitting : MethodName := ⟨RX8, "isTransmitting", "(I)Z"⟩
def dkwX8_isTransmitting_0 : List UInt8 := [42, 180, 0, 7, 27, 4, 184, 0, 35, 46, 4, 160, 0, 7, 4, 167, 0, 4, 3, 172]
abbrev dktX8_isTransmitting_0 : List UInt8 := dkwX8_isTransmitting_0 ++ []
theorem dksX8_isTransmitting_0 : cX8_isTransmitting.data.toList.drop 0 = dktX8_isTransmitting_0 := by decide +kernel
theorem dX8_isTransmitting_0 : decode cX8_isTransmitting 0 = .ok (.aload_n 0, 1) := dk_42 (dk_at dksX8_isTransmitting_0 0 rfl rfl)
theorem dX8_isTransmitting_1 : decode cX8_isTransmitting 1 = .ok (.getfield 7, 3) := dk_180 0 7 (dk_at dksX8_isTransmitting_0 1 rfl rfl)
theorem dX8_isTransmitting_4 : decode cX8_isTransmitting 4 = .ok (.iload_n 1, 1) := dk_27 (dk_at dksX8_isTransmitting_0 4 rfl rfl)
theorem dX8_isTransmitting_5 : decode cX8_isTransmitting 5 = .ok (.iconst 1, 1) := dk_4 (dk_at dksX8_isTransmitting_0 5 rfl rfl)
theorem dX8_isTransmitting_6 : decode cX8_isTransmitting 6 = .ok (.invokestatic 35, 3) := dk_184 0 35 (dk_at dksX8_isTransmitting_0 6 rfl rfl)
theorem dX8_isTransmitting_9 : decode cX8_isTransmitting 9 = .ok (.iaload, 1) := dk_46 (dk_at dksX8_isTransmitting_0 9 rfl rfl)
theorem dX8_isTransmitting_10 : decode cX8_isTransmitting 10 = .ok (.iconst 1, 1) := dk_4 (dk_at dksX8_isTransmitting_0 10 rfl rfl)
theorem dX8_isTransmitting_11 : decode cX8_isTransmitting 11 = .ok (.if_icmp .ne 7, 3) := dk_160 0 7 (dk_at dksX8_isTransmitting_0 11 rfl rfl)
theorem dX8_isTransmitting_14 : decode cX8_isTransmitting 14 = .ok (.iconst 1, 1) := dk_4 (dk_at dksX8_isTransmitting_0 14 rfl rfl)
theorem dX8_isTransmitting_15 : decode cX8_isTransmitting 15 = .ok (.goto 4, 3) := dk_167 0 4 (dk_at dksX8_isTransmitting_0 15 rfl rfl)
theorem dX8_isTransmitting_18 : decode cX8_isTransmitting 18 = .ok (.iconst 0, 1) := dk_3 (dk_at dksX8_isTransmitting_0 18 rfl rfl)
theorem dX8_isTransmitting_19 : decode cX8_isTransmitting 19 = .ok (.ireturn, 1) := dk_172 (dk_at dksX8_isTransmitting_0 19 rfl rfl)
abbrev cX8_isChecked : ByteArray := prog_29_method_39_code
def yX8_isChecked : MethodName := ⟨RX8, "isChecked", "(I)Z"⟩
def dkwX8_isChecked_1 : List UInt8 := [27, 28, 16, 15, 100, 16, 15, 182, 0, 101, 160, 0, 7, 4, 167, 0, 4, 3, 172]
abbrev dktX8_isChecked_1 : List UInt8 := dkwX8_isChecked_1 ++ []
def dkwX8_isChecked_0 : List UInt8 := [42, 27, 182, 0, 104, 61, 42, 180, 0, 7, 27, 16, 90, 184, 0, 35, 28, 16, 15, 100, 184, 0, 47, 42]
abbrev dktX8_isChecked_0 : List UInt8 := dkwX8_isChecked_0 ++ dktX8_isChecked_1
theorem dksX8_isChecked_0 : cX8_isChecked.data.toList.drop 0 = dktX8_isChecked_0 := by decide +kernel
theorem dksX8_isChecked_1 : cX8_isChecked.data.toList.drop 24 = dktX8_isChecked_1 := dk_seg dksX8_isChecked_0 24 rfl rfl
theorem dX8_isChecked_0 : decode cX8_isChecked 0 = .ok (.aload_n 0, 1) := dk_42 (dk_at dksX8_isChecked_0 0 rfl rfl)
theorem dX8_isChecked_1 : decode cX8_isChecked 1 = .ok (.iload_n 1, 1) := dk_27 (dk_at dksX8_isChecked_0 1 rfl rfl)
theorem dX8_isChecked_2 : decode cX8_isChecked 2 = .ok (.invokevirtual 104, 3) := dk_182 0 104 (dk_at dksX8_isChecked_0 2 rfl rfl)
theorem dX8_isChecked_5 : decode cX8_isChecked 5 = .ok (.istore_n 2, 1) := dk_61 (dk_at dksX8_isChecked_0 5 rfl rfl)
theorem dX8_isChecked_6 : decode cX8_isChecked 6 = .ok (.aload_n 0, 1) := dk_42 (dk_at dksX8_isChecked_0 6 rfl rfl)
theorem dX8_isChecked_7 : decode cX8_isChecked 7 = .ok (.getfield 7, 3) := dk_180 0 7 (dk_at dksX8_isChecked_0 7 rfl rfl)
theorem dX8_isChecked_10 : decode cX8_isChecked 10 = .ok (.iload_n 1, 1) := dk_27 (dk_at dksX8_isChecked_0 10 rfl rfl)
theorem dX8_isChecked_11 : decode cX8_isChecked 11 = .ok (.bipush 90, 2) := dk_16 90 (dk_at dksX8_isChecked_0 11 rfl rfl)
theorem dX8_isChecked_13 : decode cX8_isChecked 13 = .ok (.invokestatic 35, 3) := dk_184 0 35 (dk_at dksX8_isChecked_0 13 rfl rfl)
theorem dX8_isChecked_16 : decode cX8_isChecked 16 = .ok (.iload_n 2, 1) := dk_28 (dk_at dksX8_isChecked_0 16 rfl rfl)
theorem dX8_isChecked_17 : decode cX8_isChecked 17 = .ok (.bipush 15, 2) := dk_16 15 (dk_at dksX8_isChecked_0 17 rfl rfl)
theorem dX8_isChecked_19 : decode cX8_isChecked 19 = .ok (.isub, 1) := dk_100 (dk_at dksX8_isChecked_0 19 rfl rfl)
theorem dX8_isChecked_20 : decode cX8_isChecked 20 = .ok (.invokestatic 47, 3) := dk_184 0 47 (dk_at dksX8_isChecked_0 20 rfl rfl)
theorem dX8_isChecked_23 : decode cX8_isChecked 23 = .ok (.aload_n 0, 1) := dk_42 (dk_at dksX8_isChecked_0 23 rfl rfl)
theorem dX8_isChecked_24 : decode cX8_isChecked 24 = .ok (.iload_n 1, 1) := dk_27 (dk_at dksX8_isChecked_1 0 rfl rfl)
theorem dX8_isChecked_25 : decode cX8_isChecked 25 = .ok (.iload_n 2, 1) := dk_28 (dk_at dksX8_isChecked_1 1 rfl rfl)
theorem dX8_isChecked_26 : decode cX8_isChecked 26 = .ok (.bipush 15, 2) := dk_16 15 (dk_at dksX8_isChecked_1 2 rfl rfl)
theorem dX8_isChecked_28 : decode cX8_isChecked 28 = .ok (.isub, 1) := dk_100 (dk_at dksX8_isChecked_1 4 rfl rfl)
theorem dX8_isChecked_29 : decode cX8_isChecked 29 = .ok (.bipush 15, 2) := dk_16 15 (dk_at dksX8_isChecked_1 5 rfl rfl)
theorem dX8_isChecked_31 : decode cX8_isChecked 31 = .ok (.invokevirtual 101, 3) := dk_182 0 101 (dk_at dksX8_isChecked_1 7 rfl rfl)
theorem dX8_isChecked_34 : decode cX8_isChecked 34 = .ok (.if_icmp .ne 7, 3) := dk_160 0 7 (dk_at dksX8_isChecked_1 10 rfl rfl)
theorem dX8_isChecked_37 : decode cX8_isChecked 37 = .ok (.iconst 1, 1) := dk_4 (dk_at dksX8_isChecked_1 13 rfl rfl)
theorem dX8_isChecked_38 : decode cX8_isChecked 38 = .ok (.goto 4, 3) := dk_167 0 4 (dk_at dksX8_isChecked_1 14 rfl rfl)
theorem dX8_isChecked_41 : decode cX8_isChecked 41 = .ok (.iconst 0, 1) := dk_3 (dk_at dksX8_isChecked_1 17 rfl rfl)
theorem dX8_isChecked_42 : decode cX8_isChecked 42 = .ok (.ireturn, 1) := dk_172 (dk_at dksX8_isChecked_1 18 rfl rfl)
abbrev cX8_total : ByteArray := prog_29_method_36_code
def yX8_total : MethodName := ⟨RX8, "total", "(I)I"⟩
def dkwX8_total_2 : List UInt8 := [182, 0, 98, 104, 96, 172]
abbrev dktX8_total_2 : List UInt8 := dkwX8_total_2 ++ []
def dkwX8_total_1 : List UInt8 := [180, 0, 7, 27, 16, 102, 184, 0, 35, 46, 4, 160, 0, 7, 3, 167, 0, 11, 16, 8, 42, 27]
abbrev dktX8_total_1 : List UInt8 := dkwX8_total_1 ++ dktX8_total_2
def dkwX8_total_0 : List UInt8 := [42, 180, 0, 7, 27, 16, 19, 184, 0, 35, 46, 16, 19, 162, 0, 7, 17, 3, 232, 172, 16, 34, 42]
abbrev dktX8_total_0 : List UInt8 := dkwX8_total_0 ++ dktX8_total_1
theorem dksX8_total_0 : cX8_total.data.toList.drop 0 = dktX8_total_0 := by decide +kernel
theorem dksX8_total_1 : cX8_total.data.toList.drop 23 = dktX8_total_1 := dk_seg dksX8_total_0 23 rfl rfl
theorem dksX8_total_2 : cX8_total.data.toList.drop 45 = dktX8_total_2 := dk_seg dksX8_total_1 22 rfl rfl
theorem dX8_total_0 : decode cX8_total 0 = .ok (.aload_n 0, 1) := dk_42 (dk_at dksX8_total_0 0 rfl rfl)
theorem dX8_total_1 : decode cX8_total 1 = .ok (.getfield 7, 3) := dk_180 0 7 (dk_at dksX8_total_0 1 rfl rfl)
theorem dX8_total_4 : decode cX8_total 4 = .ok (.iload_n 1, 1) := dk_27 (dk_at dksX8_total_0 4 rfl rfl)
theorem dX8_total_5 : decode cX8_total 5 = .ok (.bipush 19, 2) := dk_16 19 (dk_at dksX8_total_0 5 rfl rfl)
theorem dX8_total_7 : decode cX8_total 7 = .ok (.invokestatic 35, 3) := dk_184 0 35 (dk_at dksX8_total_0 7 rfl rfl)
theorem dX8_total_10 : decode cX8_total 10 = .ok (.iaload, 1) := dk_46 (dk_at dksX8_total_0 10 rfl rfl)
theorem dX8_total_11 : decode cX8_total 11 = .ok (.bipush 19, 2) := dk_16 19 (dk_at dksX8_total_0 11 rfl rfl)
theorem dX8_total_13 : decode cX8_total 13 = .ok (.if_icmp .ge 7, 3) := dk_162 0 7 (dk_at dksX8_total_0 13 rfl rfl)
theorem dX8_total_16 : decode cX8_total 16 = .ok (.sipush 1000, 3) := dk_17 3 232 (dk_at dksX8_total_0 16 rfl rfl)
theorem dX8_total_19 : decode cX8_total 19 = .ok (.ireturn, 1) := dk_172 (dk_at dksX8_total_0 19 rfl rfl)
theorem dX8_total_20 : decode cX8_total 20 = .ok (.bipush 34, 2) := dk_16 34 (dk_at dksX8_total_0 20 rfl rfl)
theorem dX8_total_22 : decode cX8_total 22 = .ok (.aload_n 0, 1) := dk_42 (dk_at dksX8_total_0 22 rfl rfl)
theorem dX8_total_23 : decode cX8_total 23 = .ok (.getfield 7, 3) := dk_180 0 7 (dk_at dksX8_total_1 0 rfl rfl)
theorem dX8_total_26 : decode cX8_total 26 = .ok (.iload_n 1, 1) := dk_27 (dk_at dksX8_total_1 3 rfl rfl)
theorem dX8_total_27 : decode cX8_total 27 = .ok (.bipush 102, 2) := dk_16 102 (dk_at dksX8_total_1 4 rfl rfl)
theorem dX8_total_29 : decode cX8_total 29 = .ok (.invokestatic 35, 3) := dk_184 0 35 (dk_at dksX8_total_1 6 rfl rfl)
theorem dX8_total_32 : decode cX8_total 32 = .ok (.iaload, 1) := dk_46 (dk_at dksX8_total_1 9 rfl rfl)
theorem dX8_total_33 : decode cX8_total 33 = .ok (.iconst 1, 1) := dk_4 (dk_at dksX8_total_1 10 rfl rfl)
theorem dX8_total_34 : decode cX8_total 34 = .ok (.if_icmp .ne 7, 3) := dk_160 0 7 (dk_at dksX8_total_1 11 rfl rfl)
theorem dX8_total_37 : decode cX8_total 37 = .ok (.iconst 0, 1) := dk_3 (dk_at dksX8_total_1 14 rfl rfl)
theorem dX8_total_38 : decode cX8_total 38 = .ok (.goto 11, 3) := dk_167 0 11 (dk_at dksX8_total_1 15 rfl rfl)
theorem dX8_total_41 : decode cX8_total 41 = .ok (.bipush 8, 2) := dk_16 8 (dk_at dksX8_total_1 18 rfl rfl)
theorem dX8_total_43 : decode cX8_total 43 = .ok (.aload_n 0, 1) := dk_42 (dk_at dksX8_total_1 20 rfl rfl)
theorem dX8_total_44 : decode cX8_total 44 = .ok (.iload_n 1, 1) := dk_27 (dk_at dksX8_total_1 21 rfl rfl)
theorem dX8_total_45 : decode cX8_total 45 = .ok (.invokevirtual 98, 3) := dk_182 0 98 (dk_at dksX8_total_2 0 rfl rfl)
theorem dX8_total_48 : decode cX8_total 48 = .ok (.imul, 1) := dk_104 (dk_at dksX8_total_2 3 rfl rfl)
theorem dX8_total_49 : decode cX8_total 49 = .ok (.iadd, 1) := dk_96 (dk_at dksX8_total_2 4 rfl rfl)
theorem dX8_total_50 : decode cX8_total 50 = .ok (.ireturn, 1) := dk_172 (dk_at dksX8_total_2 5 rfl rfl)
abbrev cX8_sampledLength : ByteArray := prog_29_method_38_code
def yX8_sampledLength : MethodName := ⟨RX8, "sampledLength", "(I)I"⟩
def dkwX8_sampledLength_0 : List UInt8 := [42, 27, 16, 15, 7, 182, 0, 101, 172]
abbrev dktX8_sampledLength_0 : List UInt8 := dkwX8_sampledLength_0 ++ []
theorem dksX8_sampledLength_0 : cX8_sampledLength.data.toList.drop 0 = dktX8_sampledLength_0 := by decide +kernel
theorem dX8_sampledLength_0 : decode cX8_sampledLength 0 = .ok (.aload_n 0, 1) := dk_42 (dk_at dksX8_sampledLength_0 0 rfl rfl)
theorem dX8_sampledLength_1 : decode cX8_sampledLength 1 = .ok (.iload_n 1, 1) := dk_27 (dk_at dksX8_sampledLength_0 1 rfl rfl)
theorem dX8_sampledLength_2 : decode cX8_sampledLength 2 = .ok (.bipush 15, 2) := dk_16 15 (dk_at dksX8_sampledLength_0 2 rfl rfl)
theorem dX8_sampledLength_4 : decode cX8_sampledLength 4 = .ok (.iconst 4, 1) := dk_7 (dk_at dksX8_sampledLength_0 4 rfl rfl)
theorem dX8_sampledLength_5 : decode cX8_sampledLength 5 = .ok (.invokevirtual 101, 3) := dk_182 0 101 (dk_at dksX8_sampledLength_0 5 rfl rfl)
theorem dX8_sampledLength_8 : decode cX8_sampledLength 8 = .ok (.ireturn, 1) := dk_172 (dk_at dksX8_sampledLength_0 8 rfl rfl)
abbrev cX8_sampled : ByteArray := prog_29_method_37_code
def yX8_sampled : MethodName := ⟨RX8, "sampled", "(III)I"⟩
def dkwX8_sampled_1 : List UInt8 := [16, 90, 21, 5, 96, 184, 0, 35, 46, 128, 54, 4, 132, 5, 1, 167, 255, 224, 21, 4, 172]
abbrev dktX8_sampled_1 : List UInt8 := dkwX8_sampled_1 ++ []
def dkwX8_sampled_0 : List UInt8 := [3, 54, 4, 28, 54, 5, 21, 5, 28, 29, 96, 162, 0, 30, 21, 4, 4, 120, 42, 180, 0, 7, 27]
abbrev dktX8_sampled_0 : List UInt8 := dkwX8_sampled_0 ++ dktX8_sampled_1
theorem dksX8_sampled_0 : cX8_sampled.data.toList.drop 0 = dktX8_sampled_0 := by decide +kernel
theorem dksX8_sampled_1 : cX8_sampled.data.toList.drop 23 = dktX8_sampled_1 := dk_seg dksX8_sampled_0 23 rfl rfl
theorem dX8_sampled_0 : decode cX8_sampled 0 = .ok (.iconst 0, 1) := dk_3 (dk_at dksX8_sampled_0 0 rfl rfl)
theorem dX8_sampled_1 : decode cX8_sampled 1 = .ok (.istore 4, 2) := dk_54 4 (dk_at dksX8_sampled_0 1 rfl rfl)
theorem dX8_sampled_3 : decode cX8_sampled 3 = .ok (.iload_n 2, 1) := dk_28 (dk_at dksX8_sampled_0 3 rfl rfl)
theorem dX8_sampled_4 : decode cX8_sampled 4 = .ok (.istore 5, 2) := dk_54 5 (dk_at dksX8_sampled_0 4 rfl rfl)
theorem dX8_sampled_6 : decode cX8_sampled 6 = .ok (.iload 5, 2) := dk_21 5 (dk_at dksX8_sampled_0 6 rfl rfl)
theorem dX8_sampled_8 : decode cX8_sampled 8 = .ok (.iload_n 2, 1) := dk_28 (dk_at dksX8_sampled_0 8 rfl rfl)
theorem dX8_sampled_9 : decode cX8_sampled 9 = .ok (.iload_n 3, 1) := dk_29 (dk_at dksX8_sampled_0 9 rfl rfl)
theorem dX8_sampled_10 : decode cX8_sampled 10 = .ok (.iadd, 1) := dk_96 (dk_at dksX8_sampled_0 10 rfl rfl)
theorem dX8_sampled_11 : decode cX8_sampled 11 = .ok (.if_icmp .ge 30, 3) := dk_162 0 30 (dk_at dksX8_sampled_0 11 rfl rfl)
theorem dX8_sampled_14 : decode cX8_sampled 14 = .ok (.iload 4, 2) := dk_21 4 (dk_at dksX8_sampled_0 14 rfl rfl)
theorem dX8_sampled_16 : decode cX8_sampled 16 = .ok (.iconst 1, 1) := dk_4 (dk_at dksX8_sampled_0 16 rfl rfl)
theorem dX8_sampled_17 : decode cX8_sampled 17 = .ok (.ishl, 1) := dk_120 (dk_at dksX8_sampled_0 17 rfl rfl)
theorem dX8_sampled_18 : decode cX8_sampled 18 = .ok (.aload_n 0, 1) := dk_42 (dk_at dksX8_sampled_0 18 rfl rfl)
theorem dX8_sampled_19 : decode cX8_sampled 19 = .ok (.getfield 7, 3) := dk_180 0 7 (dk_at dksX8_sampled_0 19 rfl rfl)
theorem dX8_sampled_22 : decode cX8_sampled 22 = .ok (.iload_n 1, 1) := dk_27 (dk_at dksX8_sampled_0 22 rfl rfl)
theorem dX8_sampled_23 : decode cX8_sampled 23 = .ok (.bipush 90, 2) := dk_16 90 (dk_at dksX8_sampled_1 0 rfl rfl)
theorem dX8_sampled_25 : decode cX8_sampled 25 = .ok (.iload 5, 2) := dk_21 5 (dk_at dksX8_sampled_1 2 rfl rfl)
theorem dX8_sampled_27 : decode cX8_sampled 27 = .ok (.iadd, 1) := dk_96 (dk_at dksX8_sampled_1 4 rfl rfl)
theorem dX8_sampled_28 : decode cX8_sampled 28 = .ok (.invokestatic 35, 3) := dk_184 0 35 (dk_at dksX8_sampled_1 5 rfl rfl)
theorem dX8_sampled_31 : decode cX8_sampled 31 = .ok (.iaload, 1) := dk_46 (dk_at dksX8_sampled_1 8 rfl rfl)
theorem dX8_sampled_32 : decode cX8_sampled 32 = .ok (.ior, 1) := dk_128 (dk_at dksX8_sampled_1 9 rfl rfl)
theorem dX8_sampled_33 : decode cX8_sampled 33 = .ok (.istore 4, 2) := dk_54 4 (dk_at dksX8_sampled_1 10 rfl rfl)
theorem dX8_sampled_35 : decode cX8_sampled 35 = .ok (.iinc 5 1, 3) := dk_132 5 1 (dk_at dksX8_sampled_1 12 rfl rfl)
theorem dX8_sampled_38 : decode cX8_sampled 38 = .ok (.goto (-32), 3) := dk_167 255 224 (dk_at dksX8_sampled_1 15 rfl rfl)
theorem dX8_sampled_41 : decode cX8_sampled 41 = .ok (.iload 4, 2) := dk_21 4 (dk_at dksX8_sampled_1 18 rfl rfl)
theorem dX8_sampled_43 : decode cX8_sampled 43 = .ok (.ireturn, 1) := dk_172 (dk_at dksX8_sampled_1 20 rfl rfl)
abbrev cX8_inverted : ByteArray := prog_29_method_35_code
def yX8_inverted : MethodName := ⟨RX8, "inverted", "()I"⟩
def dkwX8_inverted_2 : List UInt8 := [28, 104, 96, 4, 96, 46, 167, 0, 4, 3, 128, 60, 132, 2, 1, 167, 255, 197, 27, 172]
abbrev dktX8_inverted_2 : List UInt8 := dkwX8_inverted_2 ++ []
def dkwX8_inverted_1 : List UInt8 := [5, 28, 104, 96, 46, 42, 180, 0, 7, 17, 4, 0, 46, 160, 0, 20, 42, 180, 0, 7, 17, 4, 5, 5]
abbrev dktX8_inverted_1 : List UInt8 := dkwX8_inverted_1 ++ dktX8_inverted_2
def dkwX8_inverted_0 : List UInt8 := [3, 60, 3, 61, 28, 42, 180, 0, 7, 17, 4, 4, 46, 162, 0, 53, 27, 42, 180, 0, 7, 17, 4, 5]
abbrev dktX8_inverted_0 : List UInt8 := dkwX8_inverted_0 ++ dktX8_inverted_1
theorem dksX8_inverted_0 : cX8_inverted.data.toList.drop 0 = dktX8_inverted_0 := by decide +kernel
theorem dksX8_inverted_1 : cX8_inverted.data.toList.drop 24 = dktX8_inverted_1 := dk_seg dksX8_inverted_0 24 rfl rfl
theorem dksX8_inverted_2 : cX8_inverted.data.toList.drop 48 = dktX8_inverted_2 := dk_seg dksX8_inverted_1 24 rfl rfl
theorem dX8_inverted_0 : decode cX8_inverted 0 = .ok (.iconst 0, 1) := dk_3 (dk_at dksX8_inverted_0 0 rfl rfl)
theorem dX8_inverted_1 : decode cX8_inverted 1 = .ok (.istore_n 1, 1) := dk_60 (dk_at dksX8_inverted_0 1 rfl rfl)
theorem dX8_inverted_2 : decode cX8_inverted 2 = .ok (.iconst 0, 1) := dk_3 (dk_at dksX8_inverted_0 2 rfl rfl)
theorem dX8_inverted_3 : decode cX8_inverted 3 = .ok (.istore_n 2, 1) := dk_61 (dk_at dksX8_inverted_0 3 rfl rfl)
theorem dX8_inverted_4 : decode cX8_inverted 4 = .ok (.iload_n 2, 1) := dk_28 (dk_at dksX8_inverted_0 4 rfl rfl)
theorem dX8_inverted_5 : decode cX8_inverted 5 = .ok (.aload_n 0, 1) := dk_42 (dk_at dksX8_inverted_0 5 rfl rfl)
theorem dX8_inverted_6 : decode cX8_inverted 6 = .ok (.getfield 7, 3) := dk_180 0 7 (dk_at dksX8_inverted_0 6 rfl rfl)
theorem dX8_inverted_9 : decode cX8_inverted 9 = .ok (.sipush 1028, 3) := dk_17 4 4 (dk_at dksX8_inverted_0 9 rfl rfl)
theorem dX8_inverted_12 : decode cX8_inverted 12 = .ok (.iaload, 1) := dk_46 (dk_at dksX8_inverted_0 12 rfl rfl)
theorem dX8_inverted_13 : decode cX8_inverted 13 = .ok (.if_icmp .ge 53, 3) := dk_162 0 53 (dk_at dksX8_inverted_0 13 rfl rfl)
theorem dX8_inverted_16 : decode cX8_inverted 16 = .ok (.iload_n 1, 1) := dk_27 (dk_at dksX8_inverted_0 16 rfl rfl)
theorem dX8_inverted_17 : decode cX8_inverted 17 = .ok (.aload_n 0, 1) := dk_42 (dk_at dksX8_inverted_0 17 rfl rfl)
theorem dX8_inverted_18 : decode cX8_inverted 18 = .ok (.getfield 7, 3) := dk_180 0 7 (dk_at dksX8_inverted_0 18 rfl rfl)
theorem dX8_inverted_21 : decode cX8_inverted 21 = .ok (.sipush 1029, 3) := dk_17 4 5 (dk_at dksX8_inverted_0 21 rfl rfl)
theorem dX8_inverted_24 : decode cX8_inverted 24 = .ok (.iconst 2, 1) := dk_5 (dk_at dksX8_inverted_1 0 rfl rfl)
theorem dX8_inverted_25 : decode cX8_inverted 25 = .ok (.iload_n 2, 1) := dk_28 (dk_at dksX8_inverted_1 1 rfl rfl)
theorem dX8_inverted_26 : decode cX8_inverted 26 = .ok (.imul, 1) := dk_104 (dk_at dksX8_inverted_1 2 rfl rfl)
theorem dX8_inverted_27 : decode cX8_inverted 27 = .ok (.iadd, 1) := dk_96 (dk_at dksX8_inverted_1 3 rfl rfl)
theorem dX8_inverted_28 : decode cX8_inverted 28 = .ok (.iaload, 1) := dk_46 (dk_at dksX8_inverted_1 4 rfl rfl)
theorem dX8_inverted_29 : decode cX8_inverted 29 = .ok (.aload_n 0, 1) := dk_42 (dk_at dksX8_inverted_1 5 rfl rfl)
theorem dX8_inverted_30 : decode cX8_inverted 30 = .ok (.getfield 7, 3) := dk_180 0 7 (dk_at dksX8_inverted_1 6 rfl rfl)
theorem dX8_inverted_33 : decode cX8_inverted 33 = .ok (.sipush 1024, 3) := dk_17 4 0 (dk_at dksX8_inverted_1 9 rfl rfl)
theorem dX8_inverted_36 : decode cX8_inverted 36 = .ok (.iaload, 1) := dk_46 (dk_at dksX8_inverted_1 12 rfl rfl)
theorem dX8_inverted_37 : decode cX8_inverted 37 = .ok (.if_icmp .ne 20, 3) := dk_160 0 20 (dk_at dksX8_inverted_1 13 rfl rfl)
theorem dX8_inverted_40 : decode cX8_inverted 40 = .ok (.aload_n 0, 1) := dk_42 (dk_at dksX8_inverted_1 16 rfl rfl)
theorem dX8_inverted_41 : decode cX8_inverted 41 = .ok (.getfield 7, 3) := dk_180 0 7 (dk_at dksX8_inverted_1 17 rfl rfl)
theorem dX8_inverted_44 : decode cX8_inverted 44 = .ok (.sipush 1029, 3) := dk_17 4 5 (dk_at dksX8_inverted_1 20 rfl rfl)
theorem dX8_inverted_47 : decode cX8_inverted 47 = .ok (.iconst 2, 1) := dk_5 (dk_at dksX8_inverted_1 23 rfl rfl)
theorem dX8_inverted_48 : decode cX8_inverted 48 = .ok (.iload_n 2, 1) := dk_28 (dk_at dksX8_inverted_2 0 rfl rfl)
theorem dX8_inverted_49 : decode cX8_inverted 49 = .ok (.imul, 1) := dk_104 (dk_at dksX8_inverted_2 1 rfl rfl)
theorem dX8_inverted_50 : decode cX8_inverted 50 = .ok (.iadd, 1) := dk_96 (dk_at dksX8_inverted_2 2 rfl rfl)
theorem dX8_inverted_51 : decode cX8_inverted 51 = .ok (.iconst 1, 1) := dk_4 (dk_at dksX8_inverted_2 3 rfl rfl)
theorem dX8_inverted_52 : decode cX8_inverted 52 = .ok (.iadd, 1) := dk_96 (dk_at dksX8_inverted_2 4 rfl rfl)
theorem dX8_inverted_53 : decode cX8_inverted 53 = .ok (.iaload, 1) := dk_46 (dk_at dksX8_inverted_2 5 rfl rfl)
theorem dX8_inverted_54 : decode cX8_inverted 54 = .ok (.goto 4, 3) := dk_167 0 4 (dk_at dksX8_inverted_2 6 rfl rfl)
theorem dX8_inverted_57 : decode cX8_inverted 57 = .ok (.iconst 0, 1) := dk_3 (dk_at dksX8_inverted_2 9 rfl rfl)
theorem dX8_inverted_58 : decode cX8_inverted 58 = .ok (.ior, 1) := dk_128 (dk_at dksX8_inverted_2 10 rfl rfl)
theorem dX8_inverted_59 : decode cX8_inverted 59 = .ok (.istore_n 1, 1) := dk_60 (dk_at dksX8_inverted_2 11 rfl rfl)
theorem dX8_inverted_60 : decode cX8_inverted 60 = .ok (.iinc 2 1, 3) := dk_132 2 1 (dk_at dksX8_inverted_2 12 rfl rfl)
theorem dX8_inverted_63 : decode cX8_inverted 63 = .ok (.goto (-59), 3) := dk_167 255 197 (dk_at dksX8_inverted_2 15 rfl rfl)
theorem dX8_inverted_66 : decode cX8_inverted 66 = .ok (.iload_n 1, 1) := dk_27 (dk_at dksX8_inverted_2 18 rfl rfl)
theorem dX8_inverted_67 : decode cX8_inverted 67 = .ok (.ireturn, 1) := dk_172 (dk_at dksX8_inverted_2 19 rfl rfl)
abbrev cX8_acts : ByteArray := prog_29_method_47_code
def yX8_acts : MethodName := ⟨RX8, "acts", "(II)V"⟩
def dkwX8_acts_7 : List UInt8 := [16, 11, 160, 0, 21, 42, 27, 6, 182, 0, 84, 167, 0, 12, 42, 27, 28, 182, 0, 143, 167, 0, 3, 177]
abbrev dktX8_acts_7 : List UInt8 := dkwX8_acts_7 ++ []
def dkwX8_acts_6 : List UInt8 := [27, 5, 184, 0, 35, 46, 4, 96, 167, 0, 4, 3, 79, 42, 180, 0, 7, 27, 5, 184, 0, 35, 46]
abbrev dktX8_acts_6 : List UInt8 := dkwX8_acts_6 ++ dktX8_acts_7
def dkwX8_acts_5 : List UInt8 := [182, 0, 140, 167, 0, 67, 42, 180, 0, 7, 27, 5, 184, 0, 35, 28, 4, 160, 0, 18, 42, 180, 0, 7]
abbrev dktX8_acts_5 : List UInt8 := dkwX8_acts_5 ++ dktX8_acts_6
def dkwX8_acts_4 : List UInt8 := [167, 0, 94, 42, 27, 28, 182, 0, 134, 167, 0, 85, 42, 27, 28, 182, 0, 137, 167, 0, 76, 42, 27, 28]
abbrev dktX8_acts_4 : List UInt8 := dkwX8_acts_4 ++ dktX8_acts_5
def dkwX8_acts_3 : List UInt8 := [27, 28, 182, 0, 125, 167, 0, 111, 42, 27, 28, 182, 0, 128, 167, 0, 102, 42, 27, 182, 0, 131]
abbrev dktX8_acts_3 : List UInt8 := dkwX8_acts_3 ++ dktX8_acts_4
def dkwX8_acts_2 : List UInt8 := [42, 27, 28, 182, 0, 122, 167, 0, 134, 42, 180, 0, 7, 27, 16, 22, 184, 0, 35, 46, 156, 0, 12, 42]
abbrev dktX8_acts_2 : List UInt8 := dkwX8_acts_2 ++ dktX8_acts_3
def dkwX8_acts_1 : List UInt8 := [170, 0, 0, 0, 0, 190, 0, 0, 0, 1, 0, 0, 0, 9, 0, 0, 0, 181, 0, 0, 0, 126, 0, 0, 0, 50, 0, 0, 0, 59, 0, 0, 0, 91, 0, 0, 0, 91, 0, 0, 0, 99, 0, 0, 0, 108, 0, 0, 0, 117]
abbrev dktX8_acts_1 : List UInt8 := dkwX8_acts_1 ++ dktX8_acts_2
def dkwX8_acts_0 : List UInt8 := [42, 180, 0, 7, 27, 3, 184, 0, 35, 46]
abbrev dktX8_acts_0 : List UInt8 := dkwX8_acts_0 ++ dktX8_acts_1
theorem dksX8_acts_0 : cX8_acts.data.toList.drop 0 = dktX8_acts_0 := by decide +kernel
theorem dksX8_acts_1 : cX8_acts.data.toList.drop 10 = dktX8_acts_1 := dk_seg dksX8_acts_0 10 rfl rfl
theorem dksX8_acts_2 : cX8_acts.data.toList.drop 60 = dktX8_acts_2 := dk_seg dksX8_acts_1 50 rfl rfl
theorem dksX8_acts_3 : cX8_acts.data.toList.drop 84 = dktX8_acts_3 := dk_seg dksX8_acts_2 24 rfl rfl
theorem dksX8_acts_4 : cX8_acts.data.toList.drop 106 = dktX8_acts_4 := dk_seg dksX8_acts_3 22 rfl rfl
theorem dksX8_acts_5 : cX8_acts.data.toList.drop 130 = dktX8_acts_5 := dk_seg dksX8_acts_4 24 rfl rfl
theorem dksX8_acts_6 : cX8_acts.data.toList.drop 154 = dktX8_acts_6 := dk_seg dksX8_acts_5 24 rfl rfl
theorem dksX8_acts_7 : cX8_acts.data.toList.drop 177 = dktX8_acts_7 := dk_seg dksX8_acts_6 23 rfl rfl
theorem dX8_acts_0 : decode cX8_acts 0 = .ok (.aload_n 0, 1) := dk_42 (dk_at dksX8_acts_0 0 rfl rfl)
theorem dX8_acts_1 : decode cX8_acts 1 = .ok (.getfield 7, 3) := dk_180 0 7 (dk_at dksX8_acts_0 1 rfl rfl)
theorem dX8_acts_4 : decode cX8_acts 4 = .ok (.iload_n 1, 1) := dk_27 (dk_at dksX8_acts_0 4 rfl rfl)
theorem dX8_acts_5 : decode cX8_acts 5 = .ok (.iconst 0, 1) := dk_3 (dk_at dksX8_acts_0 5 rfl rfl)
theorem dX8_acts_6 : decode cX8_acts 6 = .ok (.invokestatic 35, 3) := dk_184 0 35 (dk_at dksX8_acts_0 6 rfl rfl)
theorem dX8_acts_9 : decode cX8_acts 9 = .ok (.iaload, 1) := dk_46 (dk_at dksX8_acts_0 9 rfl rfl)
theorem dX8_acts_10 : decode cX8_acts 10 = .ok (.tableswitch 190 1 9 #[181, 126, 50, 59, 91, 91, 99, 108, 117], 50) := by decide +kernel
theorem dX8_acts_60 : decode cX8_acts 60 = .ok (.aload_n 0, 1) := dk_42 (dk_at dksX8_acts_2 0 rfl rfl)
theorem dX8_acts_61 : decode cX8_acts 61 = .ok (.iload_n 1, 1) := dk_27 (dk_at dksX8_acts_2 1 rfl rfl)
theorem dX8_acts_62 : decode cX8_acts 62 = .ok (.iload_n 2, 1) := dk_28 (dk_at dksX8_acts_2 2 rfl rfl)
theorem dX8_acts_63 : decode cX8_acts 63 = .ok (.invokevirtual 122, 3) := dk_182 0 122 (dk_at dksX8_acts_2 3 rfl rfl)
theorem dX8_acts_66 : decode cX8_acts 66 = .ok (.goto 134, 3) := dk_167 0 134 (dk_at dksX8_acts_2 6 rfl rfl)
theorem dX8_acts_69 : decode cX8_acts 69 = .ok (.aload_n 0, 1) := dk_42 (dk_at dksX8_acts_2 9 rfl rfl)
theorem dX8_acts_70 : decode cX8_acts 70 = .ok (.getfield 7, 3) := dk_180 0 7 (dk_at dksX8_acts_2 10 rfl rfl)
theorem dX8_acts_73 : decode cX8_acts 73 = .ok (.iload_n 1, 1) := dk_27 (dk_at dksX8_acts_2 13 rfl rfl)
theorem dX8_acts_74 : decode cX8_acts 74 = .ok (.bipush 22, 2) := dk_16 22 (dk_at dksX8_acts_2 14 rfl rfl)
theorem dX8_acts_76 : decode cX8_acts 76 = .ok (.invokestatic 35, 3) := dk_184 0 35 (dk_at dksX8_acts_2 16 rfl rfl)
theorem dX8_acts_79 : decode cX8_acts 79 = .ok (.iaload, 1) := dk_46 (dk_at dksX8_acts_2 19 rfl rfl)
theorem dX8_acts_80 : decode cX8_acts 80 = .ok (.ifCond .ge 12, 3) := dk_156 0 12 (dk_at dksX8_acts_2 20 rfl rfl)
theorem dX8_acts_83 : decode cX8_acts 83 = .ok (.aload_n 0, 1) := dk_42 (dk_at dksX8_acts_2 23 rfl rfl)
theorem dX8_acts_84 : decode cX8_acts 84 = .ok (.iload_n 1, 1) := dk_27 (dk_at dksX8_acts_3 0 rfl rfl)
theorem dX8_acts_85 : decode cX8_acts 85 = .ok (.iload_n 2, 1) := dk_28 (dk_at dksX8_acts_3 1 rfl rfl)
theorem dX8_acts_86 : decode cX8_acts 86 = .ok (.invokevirtual 125, 3) := dk_182 0 125 (dk_at dksX8_acts_3 2 rfl rfl)
theorem dX8_acts_89 : decode cX8_acts 89 = .ok (.goto 111, 3) := dk_167 0 111 (dk_at dksX8_acts_3 5 rfl rfl)
theorem dX8_acts_92 : decode cX8_acts 92 = .ok (.aload_n 0, 1) := dk_42 (dk_at dksX8_acts_3 8 rfl rfl)
theorem dX8_acts_93 : decode cX8_acts 93 = .ok (.iload_n 1, 1) := dk_27 (dk_at dksX8_acts_3 9 rfl rfl)
theorem dX8_acts_94 : decode cX8_acts 94 = .ok (.iload_n 2, 1) := dk_28 (dk_at dksX8_acts_3 10 rfl rfl)
theorem dX8_acts_95 : decode cX8_acts 95 = .ok (.invokevirtual 128, 3) := dk_182 0 128 (dk_at dksX8_acts_3 11 rfl rfl)
theorem dX8_acts_98 : decode cX8_acts 98 = .ok (.goto 102, 3) := dk_167 0 102 (dk_at dksX8_acts_3 14 rfl rfl)
theorem dX8_acts_101 : decode cX8_acts 101 = .ok (.aload_n 0, 1) := dk_42 (dk_at dksX8_acts_3 17 rfl rfl)
theorem dX8_acts_102 : decode cX8_acts 102 = .ok (.iload_n 1, 1) := dk_27 (dk_at dksX8_acts_3 18 rfl rfl)
theorem dX8_acts_103 : decode cX8_acts 103 = .ok (.invokevirtual 131, 3) := dk_182 0 131 (dk_at dksX8_acts_3 19 rfl rfl)
theorem dX8_acts_106 : decode cX8_acts 106 = .ok (.goto 94, 3) := dk_167 0 94 (dk_at dksX8_acts_4 0 rfl rfl)
theorem dX8_acts_109 : decode cX8_acts 109 = .ok (.aload_n 0, 1) := dk_42 (dk_at dksX8_acts_4 3 rfl rfl)
theorem dX8_acts_110 : decode cX8_acts 110 = .ok (.iload_n 1, 1) := dk_27 (dk_at dksX8_acts_4 4 rfl rfl)
theorem dX8_acts_111 : decode cX8_acts 111 = .ok (.iload_n 2, 1) := dk_28 (dk_at dksX8_acts_4 5 rfl rfl)
theorem dX8_acts_112 : decode cX8_acts 112 = .ok (.invokevirtual 134, 3) := dk_182 0 134 (dk_at dksX8_acts_4 6 rfl rfl)
theorem dX8_acts_115 : decode cX8_acts 115 = .ok (.goto 85, 3) := dk_167 0 85 (dk_at dksX8_acts_4 9 rfl rfl)
theorem dX8_acts_118 : decode cX8_acts 118 = .ok (.aload_n 0, 1) := dk_42 (dk_at dksX8_acts_4 12 rfl rfl)
theorem dX8_acts_119 : decode cX8_acts 119 = .ok (.iload_n 1, 1) := dk_27 (dk_at dksX8_acts_4 13 rfl rfl)
theorem dX8_acts_120 : decode cX8_acts 120 = .ok (.iload_n 2, 1) := dk_28 (dk_at dksX8_acts_4 14 rfl rfl)
theorem dX8_acts_121 : decode cX8_acts 121 = .ok (.invokevirtual 137, 3) := dk_182 0 137 (dk_at dksX8_acts_4 15 rfl rfl)
theorem dX8_acts_124 : decode cX8_acts 124 = .ok (.goto 76, 3) := dk_167 0 76 (dk_at dksX8_acts_4 18 rfl rfl)
theorem dX8_acts_127 : decode cX8_acts 127 = .ok (.aload_n 0, 1) := dk_42 (dk_at dksX8_acts_4 21 rfl rfl)
theorem dX8_acts_128 : decode cX8_acts 128 = .ok (.iload_n 1, 1) := dk_27 (dk_at dksX8_acts_4 22 rfl rfl)
theorem dX8_acts_129 : decode cX8_acts 129 = .ok (.iload_n 2, 1) := dk_28 (dk_at dksX8_acts_4 23 rfl rfl)
theorem dX8_acts_130 : decode cX8_acts 130 = .ok (.invokevirtual 140, 3) := dk_182 0 140 (dk_at dksX8_acts_5 0 rfl rfl)
theorem dX8_acts_133 : decode cX8_acts 133 = .ok (.goto 67, 3) := dk_167 0 67 (dk_at dksX8_acts_5 3 rfl rfl)
theorem dX8_acts_136 : decode cX8_acts 136 = .ok (.aload_n 0, 1) := dk_42 (dk_at dksX8_acts_5 6 rfl rfl)
theorem dX8_acts_137 : decode cX8_acts 137 = .ok (.getfield 7, 3) := dk_180 0 7 (dk_at dksX8_acts_5 7 rfl rfl)
theorem dX8_acts_140 : decode cX8_acts 140 = .ok (.iload_n 1, 1) := dk_27 (dk_at dksX8_acts_5 10 rfl rfl)
theorem dX8_acts_141 : decode cX8_acts 141 = .ok (.iconst 2, 1) := dk_5 (dk_at dksX8_acts_5 11 rfl rfl)
theorem dX8_acts_142 : decode cX8_acts 142 = .ok (.invokestatic 35, 3) := dk_184 0 35 (dk_at dksX8_acts_5 12 rfl rfl)
theorem dX8_acts_145 : decode cX8_acts 145 = .ok (.iload_n 2, 1) := dk_28 (dk_at dksX8_acts_5 15 rfl rfl)
theorem dX8_acts_146 : decode cX8_acts 146 = .ok (.iconst 1, 1) := dk_4 (dk_at dksX8_acts_5 16 rfl rfl)
theorem dX8_acts_147 : decode cX8_acts 147 = .ok (.if_icmp .ne 18, 3) := dk_160 0 18 (dk_at dksX8_acts_5 17 rfl rfl)
theorem dX8_acts_150 : decode cX8_acts 150 = .ok (.aload_n 0, 1) := dk_42 (dk_at dksX8_acts_5 20 rfl rfl)
theorem dX8_acts_151 : decode cX8_acts 151 = .ok (.getfield 7, 3) := dk_180 0 7 (dk_at dksX8_acts_5 21 rfl rfl)
theorem dX8_acts_154 : decode cX8_acts 154 = .ok (.iload_n 1, 1) := dk_27 (dk_at dksX8_acts_6 0 rfl rfl)
theorem dX8_acts_155 : decode cX8_acts 155 = .ok (.iconst 2, 1) := dk_5 (dk_at dksX8_acts_6 1 rfl rfl)
theorem dX8_acts_156 : decode cX8_acts 156 = .ok (.invokestatic 35, 3) := dk_184 0 35 (dk_at dksX8_acts_6 2 rfl rfl)
theorem dX8_acts_159 : decode cX8_acts 159 = .ok (.iaload, 1) := dk_46 (dk_at dksX8_acts_6 5 rfl rfl)
theorem dX8_acts_160 : decode cX8_acts 160 = .ok (.iconst 1, 1) := dk_4 (dk_at dksX8_acts_6 6 rfl rfl)
theorem dX8_acts_161 : decode cX8_acts 161 = .ok (.iadd, 1) := dk_96 (dk_at dksX8_acts_6 7 rfl rfl)
theorem dX8_acts_162 : decode cX8_acts 162 = .ok (.goto 4, 3) := dk_167 0 4 (dk_at dksX8_acts_6 8 rfl rfl)
theorem dX8_acts_165 : decode cX8_acts 165 = .ok (.iconst 0, 1) := dk_3 (dk_at dksX8_acts_6 11 rfl rfl)
theorem dX8_acts_166 : decode cX8_acts 166 = .ok (.iastore, 1) := dk_79 (dk_at dksX8_acts_6 12 rfl rfl)
theorem dX8_acts_167 : decode cX8_acts 167 = .ok (.aload_n 0, 1) := dk_42 (dk_at dksX8_acts_6 13 rfl rfl)
theorem dX8_acts_168 : decode cX8_acts 168 = .ok (.getfield 7, 3) := dk_180 0 7 (dk_at dksX8_acts_6 14 rfl rfl)
theorem dX8_acts_171 : decode cX8_acts 171 = .ok (.iload_n 1, 1) := dk_27 (dk_at dksX8_acts_6 17 rfl rfl)
theorem dX8_acts_172 : decode cX8_acts 172 = .ok (.iconst 2, 1) := dk_5 (dk_at dksX8_acts_6 18 rfl rfl)
theorem dX8_acts_173 : decode cX8_acts 173 = .ok (.invokestatic 35, 3) := dk_184 0 35 (dk_at dksX8_acts_6 19 rfl rfl)
theorem dX8_acts_176 : decode cX8_acts 176 = .ok (.iaload, 1) := dk_46 (dk_at dksX8_acts_6 22 rfl rfl)
theorem dX8_acts_177 : decode cX8_acts 177 = .ok (.bipush 11, 2) := dk_16 11 (dk_at dksX8_acts_7 0 rfl rfl)
theorem dX8_acts_179 : decode cX8_acts 179 = .ok (.if_icmp .ne 21, 3) := dk_160 0 21 (dk_at dksX8_acts_7 2 rfl rfl)
theorem dX8_acts_182 : decode cX8_acts 182 = .ok (.aload_n 0, 1) := dk_42 (dk_at dksX8_acts_7 5 rfl rfl)
theorem dX8_acts_183 : decode cX8_acts 183 = .ok (.iload_n 1, 1) := dk_27 (dk_at dksX8_acts_7 6 rfl rfl)
theorem dX8_acts_184 : decode cX8_acts 184 = .ok (.iconst 3, 1) := dk_6 (dk_at dksX8_acts_7 7 rfl rfl)
theorem dX8_acts_185 : decode cX8_acts 185 = .ok (.invokevirtual 84, 3) := dk_182 0 84 (dk_at dksX8_acts_7 8 rfl rfl)
theorem dX8_acts_188 : decode cX8_acts 188 = .ok (.goto 12, 3) := dk_167 0 12 (dk_at dksX8_acts_7 11 rfl rfl)
theorem dX8_acts_191 : decode cX8_acts 191 = .ok (.aload_n 0, 1) := dk_42 (dk_at dksX8_acts_7 14 rfl rfl)
theorem dX8_acts_192 : decode cX8_acts 192 = .ok (.iload_n 1, 1) := dk_27 (dk_at dksX8_acts_7 15 rfl rfl)
theorem dX8_acts_193 : decode cX8_acts 193 = .ok (.iload_n 2, 1) := dk_28 (dk_at dksX8_acts_7 16 rfl rfl)
theorem dX8_acts_194 : decode cX8_acts 194 = .ok (.invokevirtual 143, 3) := dk_182 0 143 (dk_at dksX8_acts_7 17 rfl rfl)
theorem dX8_acts_197 : decode cX8_acts 197 = .ok (.goto 3, 3) := dk_167 0 3 (dk_at dksX8_acts_7 20 rfl rfl)
theorem dX8_acts_200 : decode cX8_acts 200 = .ok (.return_, 1) := dk_177 (dk_at dksX8_acts_7 23 rfl rfl)
abbrev cX8_idles : ByteArray := prog_29_method_48_code
def yX8_idles : MethodName := ⟨RX8, "idles", "(II)V"⟩
def dkwX8_idles_2 : List UInt8 := [42, 27, 4, 182, 0, 150, 177]
abbrev dktX8_idles_2 : List UInt8 := dkwX8_idles_2 ++ []
def dkwX8_idles_1 : List UInt8 := [42, 27, 29, 182, 0, 146, 167, 0, 24, 29, 153, 0, 20, 42, 180, 0, 7, 27, 4, 184, 0, 35, 4, 79]
abbrev dktX8_idles_1 : List UInt8 := dkwX8_idles_1 ++ dktX8_idles_2
def dkwX8_idles_0 : List UInt8 := [42, 180, 0, 7, 27, 16, 26, 184, 0, 35, 46, 154, 0, 7, 4, 167, 0, 4, 3, 62, 28, 154, 0, 12]
abbrev dktX8_idles_0 : List UInt8 := dkwX8_idles_0 ++ dktX8_idles_1
theorem dksX8_idles_0 : cX8_idles.data.toList.drop 0 = dktX8_idles_0 := by decide +kernel
theorem dksX8_idles_1 : cX8_idles.data.toList.drop 24 = dktX8_idles_1 := dk_seg dksX8_idles_0 24 rfl rfl
theorem dksX8_idles_2 : cX8_idles.data.toList.drop 48 = dktX8_idles_2 := dk_seg dksX8_idles_1 24 rfl rfl
theorem dX8_idles_0 : decode cX8_idles 0 = .ok (.aload_n 0, 1) := dk_42 (dk_at dksX8_idles_0 0 rfl rfl)
theorem dX8_idles_1 : decode cX8_idles 1 = .ok (.getfield 7, 3) := dk_180 0 7 (dk_at dksX8_idles_0 1 rfl rfl)
theorem dX8_idles_4 : decode cX8_idles 4 = .ok (.iload_n 1, 1) := dk_27 (dk_at dksX8_idles_0 4 rfl rfl)
theorem dX8_idles_5 : decode cX8_idles 5 = .ok (.bipush 26, 2) := dk_16 26 (dk_at dksX8_idles_0 5 rfl rfl)
theorem dX8_idles_7 : decode cX8_idles 7 = .ok (.invokestatic 35, 3) := dk_184 0 35 (dk_at dksX8_idles_0 7 rfl rfl)
theorem dX8_idles_10 : decode cX8_idles 10 = .ok (.iaload, 1) := dk_46 (dk_at dksX8_idles_0 10 rfl rfl)
theorem dX8_idles_11 : decode cX8_idles 11 = .ok (.ifCond .ne 7, 3) := dk_154 0 7 (dk_at dksX8_idles_0 11 rfl rfl)
theorem dX8_idles_14 : decode cX8_idles 14 = .ok (.iconst 1, 1) := dk_4 (dk_at dksX8_idles_0 14 rfl rfl)
theorem dX8_idles_15 : decode cX8_idles 15 = .ok (.goto 4, 3) := dk_167 0 4 (dk_at dksX8_idles_0 15 rfl rfl)
theorem dX8_idles_18 : decode cX8_idles 18 = .ok (.iconst 0, 1) := dk_3 (dk_at dksX8_idles_0 18 rfl rfl)
theorem dX8_idles_19 : decode cX8_idles 19 = .ok (.istore_n 3, 1) := dk_62 (dk_at dksX8_idles_0 19 rfl rfl)
theorem dX8_idles_20 : decode cX8_idles 20 = .ok (.iload_n 2, 1) := dk_28 (dk_at dksX8_idles_0 20 rfl rfl)
theorem dX8_idles_21 : decode cX8_idles 21 = .ok (.ifCond .ne 12, 3) := dk_154 0 12 (dk_at dksX8_idles_0 21 rfl rfl)
theorem dX8_idles_24 : decode cX8_idles 24 = .ok (.aload_n 0, 1) := dk_42 (dk_at dksX8_idles_1 0 rfl rfl)
theorem dX8_idles_25 : decode cX8_idles 25 = .ok (.iload_n 1, 1) := dk_27 (dk_at dksX8_idles_1 1 rfl rfl)
theorem dX8_idles_26 : decode cX8_idles 26 = .ok (.iload_n 3, 1) := dk_29 (dk_at dksX8_idles_1 2 rfl rfl)
theorem dX8_idles_27 : decode cX8_idles 27 = .ok (.invokevirtual 146, 3) := dk_182 0 146 (dk_at dksX8_idles_1 3 rfl rfl)
theorem dX8_idles_30 : decode cX8_idles 30 = .ok (.goto 24, 3) := dk_167 0 24 (dk_at dksX8_idles_1 6 rfl rfl)
theorem dX8_idles_33 : decode cX8_idles 33 = .ok (.iload_n 3, 1) := dk_29 (dk_at dksX8_idles_1 9 rfl rfl)
theorem dX8_idles_34 : decode cX8_idles 34 = .ok (.ifCond .eq 20, 3) := dk_153 0 20 (dk_at dksX8_idles_1 10 rfl rfl)
theorem dX8_idles_37 : decode cX8_idles 37 = .ok (.aload_n 0, 1) := dk_42 (dk_at dksX8_idles_1 13 rfl rfl)
theorem dX8_idles_38 : decode cX8_idles 38 = .ok (.getfield 7, 3) := dk_180 0 7 (dk_at dksX8_idles_1 14 rfl rfl)
theorem dX8_idles_41 : decode cX8_idles 41 = .ok (.iload_n 1, 1) := dk_27 (dk_at dksX8_idles_1 17 rfl rfl)
theorem dX8_idles_42 : decode cX8_idles 42 = .ok (.iconst 1, 1) := dk_4 (dk_at dksX8_idles_1 18 rfl rfl)
theorem dX8_idles_43 : decode cX8_idles 43 = .ok (.invokestatic 35, 3) := dk_184 0 35 (dk_at dksX8_idles_1 19 rfl rfl)
theorem dX8_idles_46 : decode cX8_idles 46 = .ok (.iconst 1, 1) := dk_4 (dk_at dksX8_idles_1 22 rfl rfl)
theorem dX8_idles_47 : decode cX8_idles 47 = .ok (.iastore, 1) := dk_79 (dk_at dksX8_idles_1 23 rfl rfl)
theorem dX8_idles_48 : decode cX8_idles 48 = .ok (.aload_n 0, 1) := dk_42 (dk_at dksX8_idles_2 0 rfl rfl)
theorem dX8_idles_49 : decode cX8_idles 49 = .ok (.iload_n 1, 1) := dk_27 (dk_at dksX8_idles_2 1 rfl rfl)
theorem dX8_idles_50 : decode cX8_idles 50 = .ok (.iconst 1, 1) := dk_4 (dk_at dksX8_idles_2 2 rfl rfl)
theorem dX8_idles_51 : decode cX8_idles 51 = .ok (.invokevirtual 150, 3) := dk_182 0 150 (dk_at dksX8_idles_2 3 rfl rfl)
theorem dX8_idles_54 : decode cX8_idles 54 = .ok (.return_, 1) := dk_177 (dk_at dksX8_idles_2 6 rfl rfl)
abbrev cX8_begins : ByteArray := prog_29_method_43_code
def yX8_begins : MethodName := ⟨RX8, "begins", "(IZ)V"⟩
def dkwX8_begins_7 : List UInt8 := [62, 177]
abbrev dktX8_begins_7 : List UInt8 := dkwX8_begins_7 ++ []
def dkwX8_begins_6 : List UInt8 := [180, 0, 7, 27, 3, 5, 184, 0, 81, 46, 42, 180, 0, 7, 27, 3, 6, 184, 0, 81, 46, 184, 0, 55]
abbrev dktX8_begins_6 : List UInt8 := dkwX8_begins_6 ++ dktX8_begins_7
def dkwX8_begins_5 : List UInt8 := [180, 0, 7, 27, 3, 3, 184, 0, 81, 46, 42, 180, 0, 7, 27, 3, 4, 184, 0, 81, 46, 42]
abbrev dktX8_begins_5 : List UInt8 := dkwX8_begins_5 ++ dktX8_begins_6
def dkwX8_begins_4 : List UInt8 := [180, 0, 7, 27, 3, 7, 184, 0, 81, 4, 79, 42, 180, 0, 7, 27, 17, 0, 160, 184, 0, 35, 42]
abbrev dktX8_begins_4 : List UInt8 := dkwX8_begins_4 ++ dktX8_begins_5
def dkwX8_begins_3 : List UInt8 := [79, 42, 180, 0, 7, 27, 16, 22, 184, 0, 35, 2, 79, 42, 27, 182, 0, 77, 28, 153, 0, 74, 42]
abbrev dktX8_begins_3 : List UInt8 := dkwX8_begins_3 ++ dktX8_begins_4
def dkwX8_begins_2 : List UInt8 := [79, 42, 180, 0, 7, 27, 16, 20, 184, 0, 35, 4, 79, 42, 180, 0, 7, 27, 16, 21, 184, 0, 35, 3]
abbrev dktX8_begins_2 : List UInt8 := dkwX8_begins_2 ++ dktX8_begins_3
def dkwX8_begins_1 : List UInt8 := [79, 42, 180, 0, 7, 27, 16, 19, 184, 0, 35, 4, 79, 42, 180, 0, 7, 27, 16, 90, 184, 0, 35, 3]
abbrev dktX8_begins_1 : List UInt8 := dkwX8_begins_1 ++ dktX8_begins_2
def dkwX8_begins_0 : List UInt8 := [42, 27, 7, 182, 0, 84, 42, 180, 0, 7, 27, 4, 184, 0, 35, 28, 153, 0, 7, 4, 167, 0, 4, 3]
abbrev dktX8_begins_0 : List UInt8 := dkwX8_begins_0 ++ dktX8_begins_1
theorem dksX8_begins_0 : cX8_begins.data.toList.drop 0 = dktX8_begins_0 := by decide +kernel
theorem dksX8_begins_1 : cX8_begins.data.toList.drop 24 = dktX8_begins_1 := dk_seg dksX8_begins_0 24 rfl rfl
theorem dksX8_begins_2 : cX8_begins.data.toList.drop 48 = dktX8_begins_2 := dk_seg dksX8_begins_1 24 rfl rfl
theorem dksX8_begins_3 : cX8_begins.data.toList.drop 72 = dktX8_begins_3 := dk_seg dksX8_begins_2 24 rfl rfl
theorem dksX8_begins_4 : cX8_begins.data.toList.drop 95 = dktX8_begins_4 := dk_seg dksX8_begins_3 23 rfl rfl
theorem dksX8_begins_5 : cX8_begins.data.toList.drop 118 = dktX8_begins_5 := dk_seg dksX8_begins_4 23 rfl rfl
theorem dksX8_begins_6 : cX8_begins.data.toList.drop 140 = dktX8_begins_6 := dk_seg dksX8_begins_5 22 rfl rfl
theorem dksX8_begins_7 : cX8_begins.data.toList.drop 164 = dktX8_begins_7 := dk_seg dksX8_begins_6 24 rfl rfl
theorem dX8_begins_0 : decode cX8_begins 0 = .ok (.aload_n 0, 1) := dk_42 (dk_at dksX8_begins_0 0 rfl rfl)
theorem dX8_begins_1 : decode cX8_begins 1 = .ok (.iload_n 1, 1) := dk_27 (dk_at dksX8_begins_0 1 rfl rfl)
theorem dX8_begins_2 : decode cX8_begins 2 = .ok (.iconst 4, 1) := dk_7 (dk_at dksX8_begins_0 2 rfl rfl)
theorem dX8_begins_3 : decode cX8_begins 3 = .ok (.invokevirtual 84, 3) := dk_182 0 84 (dk_at dksX8_begins_0 3 rfl rfl)
theorem dX8_begins_6 : decode cX8_begins 6 = .ok (.aload_n 0, 1) := dk_42 (dk_at dksX8_begins_0 6 rfl rfl)
theorem dX8_begins_7 : decode cX8_begins 7 = .ok (.getfield 7, 3) := dk_180 0 7 (dk_at dksX8_begins_0 7 rfl rfl)
theorem dX8_begins_10 : decode cX8_begins 10 = .ok (.iload_n 1, 1) := dk_27 (dk_at dksX8_begins_0 10 rfl rfl)
theorem dX8_begins_11 : decode cX8_begins 11 = .ok (.iconst 1, 1) := dk_4 (dk_at dksX8_begins_0 11 rfl rfl)
theorem dX8_begins_12 : decode cX8_begins 12 = .ok (.invokestatic 35, 3) := dk_184 0 35 (dk_at dksX8_begins_0 12 rfl rfl)
theorem dX8_begins_15 : decode cX8_begins 15 = .ok (.iload_n 2, 1) := dk_28 (dk_at dksX8_begins_0 15 rfl rfl)
theorem dX8_begins_16 : decode cX8_begins 16 = .ok (.ifCond .eq 7, 3) := dk_153 0 7 (dk_at dksX8_begins_0 16 rfl rfl)
theorem dX8_begins_19 : decode cX8_begins 19 = .ok (.iconst 1, 1) := dk_4 (dk_at dksX8_begins_0 19 rfl rfl)
theorem dX8_begins_20 : decode cX8_begins 20 = .ok (.goto 4, 3) := dk_167 0 4 (dk_at dksX8_begins_0 20 rfl rfl)
theorem dX8_begins_23 : decode cX8_begins 23 = .ok (.iconst 0, 1) := dk_3 (dk_at dksX8_begins_0 23 rfl rfl)
theorem dX8_begins_24 : decode cX8_begins 24 = .ok (.iastore, 1) := dk_79 (dk_at dksX8_begins_1 0 rfl rfl)
theorem dX8_begins_25 : decode cX8_begins 25 = .ok (.aload_n 0, 1) := dk_42 (dk_at dksX8_begins_1 1 rfl rfl)
theorem dX8_begins_26 : decode cX8_begins 26 = .ok (.getfield 7, 3) := dk_180 0 7 (dk_at dksX8_begins_1 2 rfl rfl)
theorem dX8_begins_29 : decode cX8_begins 29 = .ok (.iload_n 1, 1) := dk_27 (dk_at dksX8_begins_1 5 rfl rfl)
theorem dX8_begins_30 : decode cX8_begins 30 = .ok (.bipush 19, 2) := dk_16 19 (dk_at dksX8_begins_1 6 rfl rfl)
theorem dX8_begins_32 : decode cX8_begins 32 = .ok (.invokestatic 35, 3) := dk_184 0 35 (dk_at dksX8_begins_1 8 rfl rfl)
theorem dX8_begins_35 : decode cX8_begins 35 = .ok (.iconst 1, 1) := dk_4 (dk_at dksX8_begins_1 11 rfl rfl)
theorem dX8_begins_36 : decode cX8_begins 36 = .ok (.iastore, 1) := dk_79 (dk_at dksX8_begins_1 12 rfl rfl)
theorem dX8_begins_37 : decode cX8_begins 37 = .ok (.aload_n 0, 1) := dk_42 (dk_at dksX8_begins_1 13 rfl rfl)
theorem dX8_begins_38 : decode cX8_begins 38 = .ok (.getfield 7, 3) := dk_180 0 7 (dk_at dksX8_begins_1 14 rfl rfl)
theorem dX8_begins_41 : decode cX8_begins 41 = .ok (.iload_n 1, 1) := dk_27 (dk_at dksX8_begins_1 17 rfl rfl)
theorem dX8_begins_42 : decode cX8_begins 42 = .ok (.bipush 90, 2) := dk_16 90 (dk_at dksX8_begins_1 18 rfl rfl)
theorem dX8_begins_44 : decode cX8_begins 44 = .ok (.invokestatic 35, 3) := dk_184 0 35 (dk_at dksX8_begins_1 20 rfl rfl)
theorem dX8_begins_47 : decode cX8_begins 47 = .ok (.iconst 0, 1) := dk_3 (dk_at dksX8_begins_1 23 rfl rfl)
theorem dX8_begins_48 : decode cX8_begins 48 = .ok (.iastore, 1) := dk_79 (dk_at dksX8_begins_2 0 rfl rfl)
theorem dX8_begins_49 : decode cX8_begins 49 = .ok (.aload_n 0, 1) := dk_42 (dk_at dksX8_begins_2 1 rfl rfl)
theorem dX8_begins_50 : decode cX8_begins 50 = .ok (.getfield 7, 3) := dk_180 0 7 (dk_at dksX8_begins_2 2 rfl rfl)
theorem dX8_begins_53 : decode cX8_begins 53 = .ok (.iload_n 1, 1) := dk_27 (dk_at dksX8_begins_2 5 rfl rfl)
theorem dX8_begins_54 : decode cX8_begins 54 = .ok (.bipush 20, 2) := dk_16 20 (dk_at dksX8_begins_2 6 rfl rfl)
theorem dX8_begins_56 : decode cX8_begins 56 = .ok (.invokestatic 35, 3) := dk_184 0 35 (dk_at dksX8_begins_2 8 rfl rfl)
theorem dX8_begins_59 : decode cX8_begins 59 = .ok (.iconst 1, 1) := dk_4 (dk_at dksX8_begins_2 11 rfl rfl)
theorem dX8_begins_60 : decode cX8_begins 60 = .ok (.iastore, 1) := dk_79 (dk_at dksX8_begins_2 12 rfl rfl)
theorem dX8_begins_61 : decode cX8_begins 61 = .ok (.aload_n 0, 1) := dk_42 (dk_at dksX8_begins_2 13 rfl rfl)
theorem dX8_begins_62 : decode cX8_begins 62 = .ok (.getfield 7, 3) := dk_180 0 7 (dk_at dksX8_begins_2 14 rfl rfl)
theorem dX8_begins_65 : decode cX8_begins 65 = .ok (.iload_n 1, 1) := dk_27 (dk_at dksX8_begins_2 17 rfl rfl)
theorem dX8_begins_66 : decode cX8_begins 66 = .ok (.bipush 21, 2) := dk_16 21 (dk_at dksX8_begins_2 18 rfl rfl)
theorem dX8_begins_68 : decode cX8_begins 68 = .ok (.invokestatic 35, 3) := dk_184 0 35 (dk_at dksX8_begins_2 20 rfl rfl)
theorem dX8_begins_71 : decode cX8_begins 71 = .ok (.iconst 0, 1) := dk_3 (dk_at dksX8_begins_2 23 rfl rfl)
theorem dX8_begins_72 : decode cX8_begins 72 = .ok (.iastore, 1) := dk_79 (dk_at dksX8_begins_3 0 rfl rfl)
theorem dX8_begins_73 : decode cX8_begins 73 = .ok (.aload_n 0, 1) := dk_42 (dk_at dksX8_begins_3 1 rfl rfl)
theorem dX8_begins_74 : decode cX8_begins 74 = .ok (.getfield 7, 3) := dk_180 0 7 (dk_at dksX8_begins_3 2 rfl rfl)
theorem dX8_begins_77 : decode cX8_begins 77 = .ok (.iload_n 1, 1) := dk_27 (dk_at dksX8_begins_3 5 rfl rfl)
theorem dX8_begins_78 : decode cX8_begins 78 = .ok (.bipush 22, 2) := dk_16 22 (dk_at dksX8_begins_3 6 rfl rfl)
theorem dX8_begins_80 : decode cX8_begins 80 = .ok (.invokestatic 35, 3) := dk_184 0 35 (dk_at dksX8_begins_3 8 rfl rfl)
theorem dX8_begins_83 : decode cX8_begins 83 = .ok (.iconst (-1), 1) := dk_2 (dk_at dksX8_begins_3 11 rfl rfl)
theorem dX8_begins_84 : decode cX8_begins 84 = .ok (.iastore, 1) := dk_79 (dk_at dksX8_begins_3 12 rfl rfl)
theorem dX8_begins_85 : decode cX8_begins 85 = .ok (.aload_n 0, 1) := dk_42 (dk_at dksX8_begins_3 13 rfl rfl)
theorem dX8_begins_86 : decode cX8_begins 86 = .ok (.iload_n 1, 1) := dk_27 (dk_at dksX8_begins_3 14 rfl rfl)
theorem dX8_begins_87 : decode cX8_begins 87 = .ok (.invokevirtual 77, 3) := dk_182 0 77 (dk_at dksX8_begins_3 15 rfl rfl)
theorem dX8_begins_90 : decode cX8_begins 90 = .ok (.iload_n 2, 1) := dk_28 (dk_at dksX8_begins_3 18 rfl rfl)
theorem dX8_begins_91 : decode cX8_begins 91 = .ok (.ifCond .eq 74, 3) := dk_153 0 74 (dk_at dksX8_begins_3 19 rfl rfl)
theorem dX8_begins_94 : decode cX8_begins 94 = .ok (.aload_n 0, 1) := dk_42 (dk_at dksX8_begins_3 22 rfl rfl)
theorem dX8_begins_95 : decode cX8_begins 95 = .ok (.getfield 7, 3) := dk_180 0 7 (dk_at dksX8_begins_4 0 rfl rfl)
theorem dX8_begins_98 : decode cX8_begins 98 = .ok (.iload_n 1, 1) := dk_27 (dk_at dksX8_begins_4 3 rfl rfl)
theorem dX8_begins_99 : decode cX8_begins 99 = .ok (.iconst 0, 1) := dk_3 (dk_at dksX8_begins_4 4 rfl rfl)
theorem dX8_begins_100 : decode cX8_begins 100 = .ok (.iconst 4, 1) := dk_7 (dk_at dksX8_begins_4 5 rfl rfl)
theorem dX8_begins_101 : decode cX8_begins 101 = .ok (.invokestatic 81, 3) := dk_184 0 81 (dk_at dksX8_begins_4 6 rfl rfl)
theorem dX8_begins_104 : decode cX8_begins 104 = .ok (.iconst 1, 1) := dk_4 (dk_at dksX8_begins_4 9 rfl rfl)
theorem dX8_begins_105 : decode cX8_begins 105 = .ok (.iastore, 1) := dk_79 (dk_at dksX8_begins_4 10 rfl rfl)
theorem dX8_begins_106 : decode cX8_begins 106 = .ok (.aload_n 0, 1) := dk_42 (dk_at dksX8_begins_4 11 rfl rfl)
theorem dX8_begins_107 : decode cX8_begins 107 = .ok (.getfield 7, 3) := dk_180 0 7 (dk_at dksX8_begins_4 12 rfl rfl)
theorem dX8_begins_110 : decode cX8_begins 110 = .ok (.iload_n 1, 1) := dk_27 (dk_at dksX8_begins_4 15 rfl rfl)
theorem dX8_begins_111 : decode cX8_begins 111 = .ok (.sipush 160, 3) := dk_17 0 160 (dk_at dksX8_begins_4 16 rfl rfl)
theorem dX8_begins_114 : decode cX8_begins 114 = .ok (.invokestatic 35, 3) := dk_184 0 35 (dk_at dksX8_begins_4 19 rfl rfl)
theorem dX8_begins_117 : decode cX8_begins 117 = .ok (.aload_n 0, 1) := dk_42 (dk_at dksX8_begins_4 22 rfl rfl)
theorem dX8_begins_118 : decode cX8_begins 118 = .ok (.getfield 7, 3) := dk_180 0 7 (dk_at dksX8_begins_5 0 rfl rfl)
theorem dX8_begins_121 : decode cX8_begins 121 = .ok (.iload_n 1, 1) := dk_27 (dk_at dksX8_begins_5 3 rfl rfl)
theorem dX8_begins_122 : decode cX8_begins 122 = .ok (.iconst 0, 1) := dk_3 (dk_at dksX8_begins_5 4 rfl rfl)
theorem dX8_begins_123 : decode cX8_begins 123 = .ok (.iconst 0, 1) := dk_3 (dk_at dksX8_begins_5 5 rfl rfl)
theorem dX8_begins_124 : decode cX8_begins 124 = .ok (.invokestatic 81, 3) := dk_184 0 81 (dk_at dksX8_begins_5 6 rfl rfl)
theorem dX8_begins_127 : decode cX8_begins 127 = .ok (.iaload, 1) := dk_46 (dk_at dksX8_begins_5 9 rfl rfl)
theorem dX8_begins_128 : decode cX8_begins 128 = .ok (.aload_n 0, 1) := dk_42 (dk_at dksX8_begins_5 10 rfl rfl)
theorem dX8_begins_129 : decode cX8_begins 129 = .ok (.getfield 7, 3) := dk_180 0 7 (dk_at dksX8_begins_5 11 rfl rfl)
theorem dX8_begins_132 : decode cX8_begins 132 = .ok (.iload_n 1, 1) := dk_27 (dk_at dksX8_begins_5 14 rfl rfl)
theorem dX8_begins_133 : decode cX8_begins 133 = .ok (.iconst 0, 1) := dk_3 (dk_at dksX8_begins_5 15 rfl rfl)
theorem dX8_begins_134 : decode cX8_begins 134 = .ok (.iconst 1, 1) := dk_4 (dk_at dksX8_begins_5 16 rfl rfl)
theorem dX8_begins_135 : decode cX8_begins 135 = .ok (.invokestatic 81, 3) := dk_184 0 81 (dk_at dksX8_begins_5 17 rfl rfl)
theorem dX8_begins_138 : decode cX8_begins 138 = .ok (.iaload, 1) := dk_46 (dk_at dksX8_begins_5 20 rfl rfl)
theorem dX8_begins_139 : decode cX8_begins 139 = .ok (.aload_n 0, 1) := dk_42 (dk_at dksX8_begins_5 21 rfl rfl)
theorem dX8_begins_140 : decode cX8_begins 140 = .ok (.getfield 7, 3) := dk_180 0 7 (dk_at dksX8_begins_6 0 rfl rfl)
theorem dX8_begins_143 : decode cX8_begins 143 = .ok (.iload_n 1, 1) := dk_27 (dk_at dksX8_begins_6 3 rfl rfl)
theorem dX8_begins_144 : decode cX8_begins 144 = .ok (.iconst 0, 1) := dk_3 (dk_at dksX8_begins_6 4 rfl rfl)
theorem dX8_begins_145 : decode cX8_begins 145 = .ok (.iconst 2, 1) := dk_5 (dk_at dksX8_begins_6 5 rfl rfl)
theorem dX8_begins_146 : decode cX8_begins 146 = .ok (.invokestatic 81, 3) := dk_184 0 81 (dk_at dksX8_begins_6 6 rfl rfl)
theorem dX8_begins_149 : decode cX8_begins 149 = .ok (.iaload, 1) := dk_46 (dk_at dksX8_begins_6 9 rfl rfl)
theorem dX8_begins_150 : decode cX8_begins 150 = .ok (.aload_n 0, 1) := dk_42 (dk_at dksX8_begins_6 10 rfl rfl)
theorem dX8_begins_151 : decode cX8_begins 151 = .ok (.getfield 7, 3) := dk_180 0 7 (dk_at dksX8_begins_6 11 rfl rfl)
theorem dX8_begins_154 : decode cX8_begins 154 = .ok (.iload_n 1, 1) := dk_27 (dk_at dksX8_begins_6 14 rfl rfl)
theorem dX8_begins_155 : decode cX8_begins 155 = .ok (.iconst 0, 1) := dk_3 (dk_at dksX8_begins_6 15 rfl rfl)
theorem dX8_begins_156 : decode cX8_begins 156 = .ok (.iconst 3, 1) := dk_6 (dk_at dksX8_begins_6 16 rfl rfl)
theorem dX8_begins_157 : decode cX8_begins 157 = .ok (.invokestatic 81, 3) := dk_184 0 81 (dk_at dksX8_begins_6 17 rfl rfl)
theorem dX8_begins_160 : decode cX8_begins 160 = .ok (.iaload, 1) := dk_46 (dk_at dksX8_begins_6 20 rfl rfl)
theorem dX8_begins_161 : decode cX8_begins 161 = .ok (.invokestatic 55, 3) := dk_184 0 55 (dk_at dksX8_begins_6 21 rfl rfl)
theorem dX8_begins_164 : decode cX8_begins 164 = .ok (.istore_n 3, 1) := dk_62 (dk_at dksX8_begins_7 0 rfl rfl)
theorem dX8_begins_165 : decode cX8_begins 165 = .ok (.return_, 1) := dk_177 (dk_at dksX8_begins_7 1 rfl rfl)
abbrev cX8_errs : ByteArray := prog_29_method_46_code
def yX8_errs : MethodName := ⟨RX8, "errs", "(II)V"⟩
def dkwX8_errs_5 : List UInt8 := [42, 27, 182, 0, 119, 153, 0, 7, 3, 167, 0, 4, 4, 79, 177]
abbrev dktX8_errs_5 : List UInt8 := dkwX8_errs_5 ++ []
def dkwX8_errs_4 : List UInt8 := [27, 4, 182, 0, 84, 167, 0, 33, 42, 27, 8, 182, 0, 84, 42, 180, 0, 7, 27, 16, 18, 184, 0, 35]
abbrev dktX8_errs_4 : List UInt8 := dkwX8_errs_4 ++ dktX8_errs_5
def dkwX8_errs_3 : List UInt8 := [96, 79, 42, 180, 0, 7, 27, 7, 184, 0, 35, 46, 42, 180, 0, 7, 17, 4, 2, 46, 161, 0, 12, 42]
abbrev dktX8_errs_3 : List UInt8 := dkwX8_errs_3 ++ dktX8_errs_4
def dkwX8_errs_2 : List UInt8 := [160, 0, 11, 42, 27, 182, 0, 119, 154, 0, 18, 42, 180, 0, 7, 27, 7, 184, 0, 35, 92, 46, 16, 8]
abbrev dktX8_errs_2 : List UInt8 := dkwX8_errs_2 ++ dktX8_errs_3
def dkwX8_errs_1 : List UInt8 := [184, 0, 35, 28, 79, 42, 27, 182, 0, 110, 154, 0, 12, 42, 27, 4, 182, 0, 116, 167, 0, 31, 28, 8]
abbrev dktX8_errs_1 : List UInt8 := dkwX8_errs_1 ++ dktX8_errs_2
def dkwX8_errs_0 : List UInt8 := [42, 180, 0, 7, 27, 8, 28, 96, 184, 0, 35, 92, 46, 4, 96, 79, 42, 180, 0, 7, 27, 16, 11]
abbrev dktX8_errs_0 : List UInt8 := dkwX8_errs_0 ++ dktX8_errs_1
theorem dksX8_errs_0 : cX8_errs.data.toList.drop 0 = dktX8_errs_0 := by decide +kernel
theorem dksX8_errs_1 : cX8_errs.data.toList.drop 23 = dktX8_errs_1 := dk_seg dksX8_errs_0 23 rfl rfl
theorem dksX8_errs_2 : cX8_errs.data.toList.drop 47 = dktX8_errs_2 := dk_seg dksX8_errs_1 24 rfl rfl
theorem dksX8_errs_3 : cX8_errs.data.toList.drop 71 = dktX8_errs_3 := dk_seg dksX8_errs_2 24 rfl rfl
theorem dksX8_errs_4 : cX8_errs.data.toList.drop 95 = dktX8_errs_4 := dk_seg dksX8_errs_3 24 rfl rfl
theorem dksX8_errs_5 : cX8_errs.data.toList.drop 119 = dktX8_errs_5 := dk_seg dksX8_errs_4 24 rfl rfl
theorem dX8_errs_0 : decode cX8_errs 0 = .ok (.aload_n 0, 1) := dk_42 (dk_at dksX8_errs_0 0 rfl rfl)
theorem dX8_errs_1 : decode cX8_errs 1 = .ok (.getfield 7, 3) := dk_180 0 7 (dk_at dksX8_errs_0 1 rfl rfl)
theorem dX8_errs_4 : decode cX8_errs 4 = .ok (.iload_n 1, 1) := dk_27 (dk_at dksX8_errs_0 4 rfl rfl)
theorem dX8_errs_5 : decode cX8_errs 5 = .ok (.iconst 5, 1) := dk_8 (dk_at dksX8_errs_0 5 rfl rfl)
theorem dX8_errs_6 : decode cX8_errs 6 = .ok (.iload_n 2, 1) := dk_28 (dk_at dksX8_errs_0 6 rfl rfl)
theorem dX8_errs_7 : decode cX8_errs 7 = .ok (.iadd, 1) := dk_96 (dk_at dksX8_errs_0 7 rfl rfl)
theorem dX8_errs_8 : decode cX8_errs 8 = .ok (.invokestatic 35, 3) := dk_184 0 35 (dk_at dksX8_errs_0 8 rfl rfl)
theorem dX8_errs_11 : decode cX8_errs 11 = .ok (.dup2, 1) := dk_92 (dk_at dksX8_errs_0 11 rfl rfl)
theorem dX8_errs_12 : decode cX8_errs 12 = .ok (.iaload, 1) := dk_46 (dk_at dksX8_errs_0 12 rfl rfl)
theorem dX8_errs_13 : decode cX8_errs 13 = .ok (.iconst 1, 1) := dk_4 (dk_at dksX8_errs_0 13 rfl rfl)
theorem dX8_errs_14 : decode cX8_errs 14 = .ok (.iadd, 1) := dk_96 (dk_at dksX8_errs_0 14 rfl rfl)
theorem dX8_errs_15 : decode cX8_errs 15 = .ok (.iastore, 1) := dk_79 (dk_at dksX8_errs_0 15 rfl rfl)
theorem dX8_errs_16 : decode cX8_errs 16 = .ok (.aload_n 0, 1) := dk_42 (dk_at dksX8_errs_0 16 rfl rfl)
theorem dX8_errs_17 : decode cX8_errs 17 = .ok (.getfield 7, 3) := dk_180 0 7 (dk_at dksX8_errs_0 17 rfl rfl)
theorem dX8_errs_20 : decode cX8_errs 20 = .ok (.iload_n 1, 1) := dk_27 (dk_at dksX8_errs_0 20 rfl rfl)
theorem dX8_errs_21 : decode cX8_errs 21 = .ok (.bipush 11, 2) := dk_16 11 (dk_at dksX8_errs_0 21 rfl rfl)
theorem dX8_errs_23 : decode cX8_errs 23 = .ok (.invokestatic 35, 3) := dk_184 0 35 (dk_at dksX8_errs_1 0 rfl rfl)
theorem dX8_errs_26 : decode cX8_errs 26 = .ok (.iload_n 2, 1) := dk_28 (dk_at dksX8_errs_1 3 rfl rfl)
theorem dX8_errs_27 : decode cX8_errs 27 = .ok (.iastore, 1) := dk_79 (dk_at dksX8_errs_1 4 rfl rfl)
theorem dX8_errs_28 : decode cX8_errs 28 = .ok (.aload_n 0, 1) := dk_42 (dk_at dksX8_errs_1 5 rfl rfl)
theorem dX8_errs_29 : decode cX8_errs 29 = .ok (.iload_n 1, 1) := dk_27 (dk_at dksX8_errs_1 6 rfl rfl)
theorem dX8_errs_30 : decode cX8_errs 30 = .ok (.invokevirtual 110, 3) := dk_182 0 110 (dk_at dksX8_errs_1 7 rfl rfl)
theorem dX8_errs_33 : decode cX8_errs 33 = .ok (.ifCond .ne 12, 3) := dk_154 0 12 (dk_at dksX8_errs_1 10 rfl rfl)
theorem dX8_errs_36 : decode cX8_errs 36 = .ok (.aload_n 0, 1) := dk_42 (dk_at dksX8_errs_1 13 rfl rfl)
theorem dX8_errs_37 : decode cX8_errs 37 = .ok (.iload_n 1, 1) := dk_27 (dk_at dksX8_errs_1 14 rfl rfl)
theorem dX8_errs_38 : decode cX8_errs 38 = .ok (.iconst 1, 1) := dk_4 (dk_at dksX8_errs_1 15 rfl rfl)
theorem dX8_errs_39 : decode cX8_errs 39 = .ok (.invokevirtual 116, 3) := dk_182 0 116 (dk_at dksX8_errs_1 16 rfl rfl)
theorem dX8_errs_42 : decode cX8_errs 42 = .ok (.goto 31, 3) := dk_167 0 31 (dk_at dksX8_errs_1 19 rfl rfl)
theorem dX8_errs_45 : decode cX8_errs 45 = .ok (.iload_n 2, 1) := dk_28 (dk_at dksX8_errs_1 22 rfl rfl)
theorem dX8_errs_46 : decode cX8_errs 46 = .ok (.iconst 5, 1) := dk_8 (dk_at dksX8_errs_1 23 rfl rfl)
theorem dX8_errs_47 : decode cX8_errs 47 = .ok (.if_icmp .ne 11, 3) := dk_160 0 11 (dk_at dksX8_errs_2 0 rfl rfl)
theorem dX8_errs_50 : decode cX8_errs 50 = .ok (.aload_n 0, 1) := dk_42 (dk_at dksX8_errs_2 3 rfl rfl)
theorem dX8_errs_51 : decode cX8_errs 51 = .ok (.iload_n 1, 1) := dk_27 (dk_at dksX8_errs_2 4 rfl rfl)
theorem dX8_errs_52 : decode cX8_errs 52 = .ok (.invokevirtual 119, 3) := dk_182 0 119 (dk_at dksX8_errs_2 5 rfl rfl)
theorem dX8_errs_55 : decode cX8_errs 55 = .ok (.ifCond .ne 18, 3) := dk_154 0 18 (dk_at dksX8_errs_2 8 rfl rfl)
theorem dX8_errs_58 : decode cX8_errs 58 = .ok (.aload_n 0, 1) := dk_42 (dk_at dksX8_errs_2 11 rfl rfl)
theorem dX8_errs_59 : decode cX8_errs 59 = .ok (.getfield 7, 3) := dk_180 0 7 (dk_at dksX8_errs_2 12 rfl rfl)
theorem dX8_errs_62 : decode cX8_errs 62 = .ok (.iload_n 1, 1) := dk_27 (dk_at dksX8_errs_2 15 rfl rfl)
theorem dX8_errs_63 : decode cX8_errs 63 = .ok (.iconst 4, 1) := dk_7 (dk_at dksX8_errs_2 16 rfl rfl)
theorem dX8_errs_64 : decode cX8_errs 64 = .ok (.invokestatic 35, 3) := dk_184 0 35 (dk_at dksX8_errs_2 17 rfl rfl)
theorem dX8_errs_67 : decode cX8_errs 67 = .ok (.dup2, 1) := dk_92 (dk_at dksX8_errs_2 20 rfl rfl)
theorem dX8_errs_68 : decode cX8_errs 68 = .ok (.iaload, 1) := dk_46 (dk_at dksX8_errs_2 21 rfl rfl)
theorem dX8_errs_69 : decode cX8_errs 69 = .ok (.bipush 8, 2) := dk_16 8 (dk_at dksX8_errs_2 22 rfl rfl)
theorem dX8_errs_71 : decode cX8_errs 71 = .ok (.iadd, 1) := dk_96 (dk_at dksX8_errs_3 0 rfl rfl)
theorem dX8_errs_72 : decode cX8_errs 72 = .ok (.iastore, 1) := dk_79 (dk_at dksX8_errs_3 1 rfl rfl)
theorem dX8_errs_73 : decode cX8_errs 73 = .ok (.aload_n 0, 1) := dk_42 (dk_at dksX8_errs_3 2 rfl rfl)
theorem dX8_errs_74 : decode cX8_errs 74 = .ok (.getfield 7, 3) := dk_180 0 7 (dk_at dksX8_errs_3 3 rfl rfl)
theorem dX8_errs_77 : decode cX8_errs 77 = .ok (.iload_n 1, 1) := dk_27 (dk_at dksX8_errs_3 6 rfl rfl)
theorem dX8_errs_78 : decode cX8_errs 78 = .ok (.iconst 4, 1) := dk_7 (dk_at dksX8_errs_3 7 rfl rfl)
theorem dX8_errs_79 : decode cX8_errs 79 = .ok (.invokestatic 35, 3) := dk_184 0 35 (dk_at dksX8_errs_3 8 rfl rfl)
theorem dX8_errs_82 : decode cX8_errs 82 = .ok (.iaload, 1) := dk_46 (dk_at dksX8_errs_3 11 rfl rfl)
theorem dX8_errs_83 : decode cX8_errs 83 = .ok (.aload_n 0, 1) := dk_42 (dk_at dksX8_errs_3 12 rfl rfl)
theorem dX8_errs_84 : decode cX8_errs 84 = .ok (.getfield 7, 3) := dk_180 0 7 (dk_at dksX8_errs_3 13 rfl rfl)
theorem dX8_errs_87 : decode cX8_errs 87 = .ok (.sipush 1026, 3) := dk_17 4 2 (dk_at dksX8_errs_3 16 rfl rfl)
theorem dX8_errs_90 : decode cX8_errs 90 = .ok (.iaload, 1) := dk_46 (dk_at dksX8_errs_3 19 rfl rfl)
theorem dX8_errs_91 : decode cX8_errs 91 = .ok (.if_icmp .lt 12, 3) := dk_161 0 12 (dk_at dksX8_errs_3 20 rfl rfl)
theorem dX8_errs_94 : decode cX8_errs 94 = .ok (.aload_n 0, 1) := dk_42 (dk_at dksX8_errs_3 23 rfl rfl)
theorem dX8_errs_95 : decode cX8_errs 95 = .ok (.iload_n 1, 1) := dk_27 (dk_at dksX8_errs_4 0 rfl rfl)
theorem dX8_errs_96 : decode cX8_errs 96 = .ok (.iconst 1, 1) := dk_4 (dk_at dksX8_errs_4 1 rfl rfl)
theorem dX8_errs_97 : decode cX8_errs 97 = .ok (.invokevirtual 84, 3) := dk_182 0 84 (dk_at dksX8_errs_4 2 rfl rfl)
theorem dX8_errs_100 : decode cX8_errs 100 = .ok (.goto 33, 3) := dk_167 0 33 (dk_at dksX8_errs_4 5 rfl rfl)
theorem dX8_errs_103 : decode cX8_errs 103 = .ok (.aload_n 0, 1) := dk_42 (dk_at dksX8_errs_4 8 rfl rfl)
theorem dX8_errs_104 : decode cX8_errs 104 = .ok (.iload_n 1, 1) := dk_27 (dk_at dksX8_errs_4 9 rfl rfl)
theorem dX8_errs_105 : decode cX8_errs 105 = .ok (.iconst 5, 1) := dk_8 (dk_at dksX8_errs_4 10 rfl rfl)
theorem dX8_errs_106 : decode cX8_errs 106 = .ok (.invokevirtual 84, 3) := dk_182 0 84 (dk_at dksX8_errs_4 11 rfl rfl)
theorem dX8_errs_109 : decode cX8_errs 109 = .ok (.aload_n 0, 1) := dk_42 (dk_at dksX8_errs_4 14 rfl rfl)
theorem dX8_errs_110 : decode cX8_errs 110 = .ok (.getfield 7, 3) := dk_180 0 7 (dk_at dksX8_errs_4 15 rfl rfl)
theorem dX8_errs_113 : decode cX8_errs 113 = .ok (.iload_n 1, 1) := dk_27 (dk_at dksX8_errs_4 18 rfl rfl)
theorem dX8_errs_114 : decode cX8_errs 114 = .ok (.bipush 18, 2) := dk_16 18 (dk_at dksX8_errs_4 19 rfl rfl)
theorem dX8_errs_116 : decode cX8_errs 116 = .ok (.invokestatic 35, 3) := dk_184 0 35 (dk_at dksX8_errs_4 21 rfl rfl)
theorem dX8_errs_119 : decode cX8_errs 119 = .ok (.aload_n 0, 1) := dk_42 (dk_at dksX8_errs_5 0 rfl rfl)
theorem dX8_errs_120 : decode cX8_errs 120 = .ok (.iload_n 1, 1) := dk_27 (dk_at dksX8_errs_5 1 rfl rfl)
theorem dX8_errs_121 : decode cX8_errs 121 = .ok (.invokevirtual 119, 3) := dk_182 0 119 (dk_at dksX8_errs_5 2 rfl rfl)
theorem dX8_errs_124 : decode cX8_errs 124 = .ok (.ifCond .eq 7, 3) := dk_153 0 7 (dk_at dksX8_errs_5 5 rfl rfl)
theorem dX8_errs_127 : decode cX8_errs 127 = .ok (.iconst 0, 1) := dk_3 (dk_at dksX8_errs_5 8 rfl rfl)
theorem dX8_errs_128 : decode cX8_errs 128 = .ok (.goto 4, 3) := dk_167 0 4 (dk_at dksX8_errs_5 9 rfl rfl)
theorem dX8_errs_131 : decode cX8_errs 131 = .ok (.iconst 1, 1) := dk_4 (dk_at dksX8_errs_5 12 rfl rfl)
theorem dX8_errs_132 : decode cX8_errs 132 = .ok (.iastore, 1) := dk_79 (dk_at dksX8_errs_5 13 rfl rfl)
theorem dX8_errs_133 : decode cX8_errs 133 = .ok (.return_, 1) := dk_177 (dk_at dksX8_errs_5 14 rfl rfl)
abbrev cX8_receives : ByteArray := prog_29_method_45_code
def yX8_receives : MethodName := ⟨RX8, "receives", "(II)V"⟩
def dkwX8_receives_1 : List UInt8 := [17, 0, 255, 164, 0, 9, 17, 0, 255, 167, 0, 4, 29, 79, 177]
abbrev dktX8_receives_1 : List UInt8 := dkwX8_receives_1 ++ []
def dkwX8_receives_0 : List UInt8 := [42, 180, 0, 7, 27, 8, 184, 0, 35, 46, 28, 96, 62, 42, 180, 0, 7, 27, 8, 184, 0, 35, 29]
abbrev dktX8_receives_0 : List UInt8 := dkwX8_receives_0 ++ dktX8_receives_1
theorem dksX8_receives_0 : cX8_receives.data.toList.drop 0 = dktX8_receives_0 := by decide +kernel
theorem dksX8_receives_1 : cX8_receives.data.toList.drop 23 = dktX8_receives_1 := dk_seg dksX8_receives_0 23 rfl rfl
theorem dX8_receives_0 : decode cX8_receives 0 = .ok (.aload_n 0, 1) := dk_42 (dk_at dksX8_receives_0 0 rfl rfl)
theorem dX8_receives_1 : decode cX8_receives 1 = .ok (.getfield 7, 3) := dk_180 0 7 (dk_at dksX8_receives_0 1 rfl rfl)
theorem dX8_receives_4 : decode cX8_receives 4 = .ok (.iload_n 1, 1) := dk_27 (dk_at dksX8_receives_0 4 rfl rfl)
theorem dX8_receives_5 : decode cX8_receives 5 = .ok (.iconst 5, 1) := dk_8 (dk_at dksX8_receives_0 5 rfl rfl)
theorem dX8_receives_6 : decode cX8_receives 6 = .ok (.invokestatic 35, 3) := dk_184 0 35 (dk_at dksX8_receives_0 6 rfl rfl)
theorem dX8_receives_9 : decode cX8_receives 9 = .ok (.iaload, 1) := dk_46 (dk_at dksX8_receives_0 9 rfl rfl)
theorem dX8_receives_10 : decode cX8_receives 10 = .ok (.iload_n 2, 1) := dk_28 (dk_at dksX8_receives_0 10 rfl rfl)
theorem dX8_receives_11 : decode cX8_receives 11 = .ok (.iadd, 1) := dk_96 (dk_at dksX8_receives_0 11 rfl rfl)
theorem dX8_receives_12 : decode cX8_receives 12 = .ok (.istore_n 3, 1) := dk_62 (dk_at dksX8_receives_0 12 rfl rfl)
theorem dX8_receives_13 : decode cX8_receives 13 = .ok (.aload_n 0, 1) := dk_42 (dk_at dksX8_receives_0 13 rfl rfl)
theorem dX8_receives_14 : decode cX8_receives 14 = .ok (.getfield 7, 3) := dk_180 0 7 (dk_at dksX8_receives_0 14 rfl rfl)
theorem dX8_receives_17 : decode cX8_receives 17 = .ok (.iload_n 1, 1) := dk_27 (dk_at dksX8_receives_0 17 rfl rfl)
theorem dX8_receives_18 : decode cX8_receives 18 = .ok (.iconst 5, 1) := dk_8 (dk_at dksX8_receives_0 18 rfl rfl)
theorem dX8_receives_19 : decode cX8_receives 19 = .ok (.invokestatic 35, 3) := dk_184 0 35 (dk_at dksX8_receives_0 19 rfl rfl)
theorem dX8_receives_22 : decode cX8_receives 22 = .ok (.iload_n 3, 1) := dk_29 (dk_at dksX8_receives_0 22 rfl rfl)
theorem dX8_receives_23 : decode cX8_receives 23 = .ok (.sipush 255, 3) := dk_17 0 255 (dk_at dksX8_receives_1 0 rfl rfl)
theorem dX8_receives_26 : decode cX8_receives 26 = .ok (.if_icmp .le 9, 3) := dk_164 0 9 (dk_at dksX8_receives_1 3 rfl rfl)
theorem dX8_receives_29 : decode cX8_receives 29 = .ok (.sipush 255, 3) := dk_17 0 255 (dk_at dksX8_receives_1 6 rfl rfl)
theorem dX8_receives_32 : decode cX8_receives 32 = .ok (.goto 4, 3) := dk_167 0 4 (dk_at dksX8_receives_1 9 rfl rfl)
theorem dX8_receives_35 : decode cX8_receives 35 = .ok (.iload_n 3, 1) := dk_29 (dk_at dksX8_receives_1 12 rfl rfl)
theorem dX8_receives_36 : decode cX8_receives 36 = .ok (.iastore, 1) := dk_79 (dk_at dksX8_receives_1 13 rfl rfl)
theorem dX8_receives_37 : decode cX8_receives 37 = .ok (.return_, 1) := dk_177 (dk_at dksX8_receives_1 14 rfl rfl)
abbrev cX8_isPassiveNow : ByteArray := prog_29_method_44_code
def yX8_isPassiveNow : MethodName := ⟨RX8, "isPassiveNow", "(I)Z"⟩
def dkwX8_isPassiveNow_2 : List UInt8 := [3, 172]
abbrev dktX8_isPassiveNow_2 : List UInt8 := dkwX8_isPassiveNow_2 ++ []
def dkwX8_isPassiveNow_1 : List UInt8 := [180, 0, 7, 27, 8, 184, 0, 35, 46, 42, 180, 0, 7, 17, 4, 1, 46, 161, 0, 7, 4, 167, 0, 4]
abbrev dktX8_isPassiveNow_1 : List UInt8 := dkwX8_isPassiveNow_1 ++ dktX8_isPassiveNow_2
def dkwX8_isPassiveNow_0 : List UInt8 := [42, 180, 0, 7, 27, 7, 184, 0, 35, 46, 42, 180, 0, 7, 17, 4, 1, 46, 162, 0, 24, 42]
abbrev dktX8_isPassiveNow_0 : List UInt8 := dkwX8_isPassiveNow_0 ++ dktX8_isPassiveNow_1
theorem dksX8_isPassiveNow_0 : cX8_isPassiveNow.data.toList.drop 0 = dktX8_isPassiveNow_0 := by decide +kernel
theorem dksX8_isPassiveNow_1 : cX8_isPassiveNow.data.toList.drop 22 = dktX8_isPassiveNow_1 := dk_seg dksX8_isPassiveNow_0 22 rfl rfl
theorem dksX8_isPassiveNow_2 : cX8_isPassiveNow.data.toList.drop 46 = dktX8_isPassiveNow_2 := dk_seg dksX8_isPassiveNow_1 24 rfl rfl
theorem dX8_isPassiveNow_0 : decode cX8_isPassiveNow 0 = .ok (.aload_n 0, 1) := dk_42 (dk_at dksX8_isPassiveNow_0 0 rfl rfl)
theorem dX8_isPassiveNow_1 : decode cX8_isPassiveNow 1 = .ok (.getfield 7, 3) := dk_180 0 7 (dk_at dksX8_isPassiveNow_0 1 rfl rfl)
theorem dX8_isPassiveNow_4 : decode cX8_isPassiveNow 4 = .ok (.iload_n 1, 1) := dk_27 (dk_at dksX8_isPassiveNow_0 4 rfl rfl)
theorem dX8_isPassiveNow_5 : decode cX8_isPassiveNow 5 = .ok (.iconst 4, 1) := dk_7 (dk_at dksX8_isPassiveNow_0 5 rfl rfl)
theorem dX8_isPassiveNow_6 : decode cX8_isPassiveNow 6 = .ok (.invokestatic 35, 3) := dk_184 0 35 (dk_at dksX8_isPassiveNow_0 6 rfl rfl)
theorem dX8_isPassiveNow_9 : decode cX8_isPassiveNow 9 = .ok (.iaload, 1) := dk_46 (dk_at dksX8_isPassiveNow_0 9 rfl rfl)
theorem dX8_isPassiveNow_10 : decode cX8_isPassiveNow 10 = .ok (.aload_n 0, 1) := dk_42 (dk_at dksX8_isPassiveNow_0 10 rfl rfl)
theorem dX8_isPassiveNow_11 : decode cX8_isPassiveNow 11 = .ok (.getfield 7, 3) := dk_180 0 7 (dk_at dksX8_isPassiveNow_0 11 rfl rfl)
theorem dX8_isPassiveNow_14 : decode cX8_isPassiveNow 14 = .ok (.sipush 1025, 3) := dk_17 4 1 (dk_at dksX8_isPassiveNow_0 14 rfl rfl)
theorem dX8_isPassiveNow_17 : decode cX8_isPassiveNow 17 = .ok (.iaload, 1) := dk_46 (dk_at dksX8_isPassiveNow_0 17 rfl rfl)
theorem dX8_isPassiveNow_18 : decode cX8_isPassiveNow 18 = .ok (.if_icmp .ge 24, 3) := dk_162 0 24 (dk_at dksX8_isPassiveNow_0 18 rfl rfl)
theorem dX8_isPassiveNow_21 : decode cX8_isPassiveNow 21 = .ok (.aload_n 0, 1) := dk_42 (dk_at dksX8_isPassiveNow_0 21 rfl rfl)
theorem dX8_isPassiveNow_22 : decode cX8_isPassiveNow 22 = .ok (.getfield 7, 3) := dk_180 0 7 (dk_at dksX8_isPassiveNow_1 0 rfl rfl)
theorem dX8_isPassiveNow_25 : decode cX8_isPassiveNow 25 = .ok (.iload_n 1, 1) := dk_27 (dk_at dksX8_isPassiveNow_1 3 rfl rfl)
theorem dX8_isPassiveNow_26 : decode cX8_isPassiveNow 26 = .ok (.iconst 5, 1) := dk_8 (dk_at dksX8_isPassiveNow_1 4 rfl rfl)
theorem dX8_isPassiveNow_27 : decode cX8_isPassiveNow 27 = .ok (.invokestatic 35, 3) := dk_184 0 35 (dk_at dksX8_isPassiveNow_1 5 rfl rfl)
theorem dX8_isPassiveNow_30 : decode cX8_isPassiveNow 30 = .ok (.iaload, 1) := dk_46 (dk_at dksX8_isPassiveNow_1 8 rfl rfl)
theorem dX8_isPassiveNow_31 : decode cX8_isPassiveNow 31 = .ok (.aload_n 0, 1) := dk_42 (dk_at dksX8_isPassiveNow_1 9 rfl rfl)
theorem dX8_isPassiveNow_32 : decode cX8_isPassiveNow 32 = .ok (.getfield 7, 3) := dk_180 0 7 (dk_at dksX8_isPassiveNow_1 10 rfl rfl)
theorem dX8_isPassiveNow_35 : decode cX8_isPassiveNow 35 = .ok (.sipush 1025, 3) := dk_17 4 1 (dk_at dksX8_isPassiveNow_1 13 rfl rfl)
theorem dX8_isPassiveNow_38 : decode cX8_isPassiveNow 38 = .ok (.iaload, 1) := dk_46 (dk_at dksX8_isPassiveNow_1 16 rfl rfl)
theorem dX8_isPassiveNow_39 : decode cX8_isPassiveNow 39 = .ok (.if_icmp .lt 7, 3) := dk_161 0 7 (dk_at dksX8_isPassiveNow_1 17 rfl rfl)
theorem dX8_isPassiveNow_42 : decode cX8_isPassiveNow 42 = .ok (.iconst 1, 1) := dk_4 (dk_at dksX8_isPassiveNow_1 20 rfl rfl)
theorem dX8_isPassiveNow_43 : decode cX8_isPassiveNow 43 = .ok (.goto 4, 3) := dk_167 0 4 (dk_at dksX8_isPassiveNow_1 21 rfl rfl)
theorem dX8_isPassiveNow_46 : decode cX8_isPassiveNow 46 = .ok (.iconst 0, 1) := dk_3 (dk_at dksX8_isPassiveNow_2 0 rfl rfl)
theorem dX8_isPassiveNow_47 : decode cX8_isPassiveNow 47 = .ok (.ireturn, 1) := dk_172 (dk_at dksX8_isPassiveNow_2 1 rfl rfl)
abbrev cX8_stuffed : ByteArray := prog_29_method_49_code
def yX8_stuffed : MethodName := ⟨RX8, "stuffed", "(II)V"⟩
def dkwX8_stuffed_15 : List UInt8 := [180, 0, 7, 27, 16, 22, 184, 0, 35, 3, 79, 177]
abbrev dktX8_stuffed_15 : List UInt8 := dkwX8_stuffed_15 ++ []
def dkwX8_stuffed_14 : List UInt8 := [27, 182, 0, 104, 160, 0, 30, 42, 180, 0, 7, 27, 16, 20, 184, 0, 35, 46, 8, 162, 0, 15, 42]
abbrev dktX8_stuffed_14 : List UInt8 := dkwX8_stuffed_14 ++ dktX8_stuffed_15
def dkwX8_stuffed_13 : List UInt8 := [42, 180, 0, 7, 27, 16, 21, 184, 0, 35, 28, 79, 42, 180, 0, 7, 27, 16, 19, 184, 0, 35, 46, 42]
abbrev dktX8_stuffed_13 : List UInt8 := dkwX8_stuffed_13 ++ dktX8_stuffed_14
def dkwX8_stuffed_12 : List UInt8 := [28, 21, 5, 160, 0, 19, 42, 180, 0, 7, 27, 16, 20, 184, 0, 35, 46, 4, 96, 167, 0, 4, 4, 79]
abbrev dktX8_stuffed_12 : List UInt8 := dkwX8_stuffed_12 ++ dktX8_stuffed_13
def dkwX8_stuffed_11 : List UInt8 := [153, 0, 10, 42, 27, 7, 182, 0, 150, 177, 42, 180, 0, 7, 27, 16, 20, 184, 0, 35, 29, 154, 0, 25]
abbrev dktX8_stuffed_11 : List UInt8 := dkwX8_stuffed_11 ++ dktX8_stuffed_12
def dkwX8_stuffed_10 : List UInt8 := [182, 0, 98, 7, 164, 0, 7, 4, 167, 0, 4, 3, 54, 7, 42, 27, 182, 0, 110, 154, 0, 15, 21, 7]
abbrev dktX8_stuffed_10 : List UInt8 := dkwX8_stuffed_10 ++ dktX8_stuffed_11
def dkwX8_stuffed_9 : List UInt8 := [79, 21, 6, 16, 13, 160, 0, 8, 28, 4, 159, 0, 19, 21, 6, 16, 18, 160, 0, 16, 42, 27]
abbrev dktX8_stuffed_9 : List UInt8 := dkwX8_stuffed_9 ++ dktX8_stuffed_10
def dkwX8_stuffed_8 : List UInt8 := [16, 90, 21, 6, 96, 184, 0, 35, 28, 79, 42, 180, 0, 7, 27, 16, 19, 184, 0, 35, 92, 46, 4, 96]
abbrev dktX8_stuffed_8 : List UInt8 := dkwX8_stuffed_8 ++ dktX8_stuffed_9
def dkwX8_stuffed_7 : List UInt8 := [180, 0, 7, 27, 16, 12, 184, 0, 35, 92, 46, 4, 96, 79, 42, 27, 182, 0, 77, 42, 180, 0, 7, 27]
abbrev dktX8_stuffed_7 : List UInt8 := dkwX8_stuffed_7 ++ dktX8_stuffed_8
def dkwX8_stuffed_6 : List UInt8 := [154, 0, 10, 42, 27, 4, 182, 0, 150, 177, 42, 180, 0, 7, 27, 4, 184, 0, 35, 3, 79, 42]
abbrev dktX8_stuffed_6 : List UInt8 := dkwX8_stuffed_6 ++ dktX8_stuffed_7
def dkwX8_stuffed_5 : List UInt8 := [182, 0, 110, 153, 0, 62, 21, 4, 153, 0, 57, 28, 4, 159, 0, 14, 21, 6, 4, 16, 12, 184, 0, 39]
abbrev dktX8_stuffed_5 : List UInt8 := dkwX8_stuffed_5 ++ dktX8_stuffed_6
def dkwX8_stuffed_4 : List UInt8 := [42, 27, 5, 182, 0, 150, 177, 42, 180, 0, 7, 27, 16, 19, 184, 0, 35, 46, 54, 6, 42, 27]
abbrev dktX8_stuffed_4 : List UInt8 := dkwX8_stuffed_4 ++ dktX8_stuffed_5
def dkwX8_stuffed_3 : List UInt8 := [153, 0, 10, 42, 27, 4, 182, 0, 150, 177, 42, 27, 182, 0, 110, 154, 0, 181, 28, 21, 5, 160, 0, 175]
abbrev dktX8_stuffed_3 : List UInt8 := dkwX8_stuffed_3 ++ dktX8_stuffed_4
def dkwX8_stuffed_2 : List UInt8 := [27, 16, 21, 184, 0, 35, 46, 54, 5, 29, 153, 0, 44, 42, 27, 182, 0, 110, 153, 0, 15, 21, 4]
abbrev dktX8_stuffed_2 : List UInt8 := dkwX8_stuffed_2 ++ dktX8_stuffed_3
def dkwX8_stuffed_1 : List UInt8 := [180, 0, 7, 27, 16, 26, 184, 0, 35, 46, 159, 0, 7, 4, 167, 0, 4, 3, 54, 4, 42, 180, 0, 7]
abbrev dktX8_stuffed_1 : List UInt8 := dkwX8_stuffed_1 ++ dktX8_stuffed_2
def dkwX8_stuffed_0 : List UInt8 := [42, 180, 0, 7, 27, 16, 20, 184, 0, 35, 46, 8, 160, 0, 7, 4, 167, 0, 4, 3, 62, 28, 42]
abbrev dktX8_stuffed_0 : List UInt8 := dkwX8_stuffed_0 ++ dktX8_stuffed_1
theorem dksX8_stuffed_0 : cX8_stuffed.data.toList.drop 0 = dktX8_stuffed_0 := by decide +kernel
theorem dksX8_stuffed_1 : cX8_stuffed.data.toList.drop 23 = dktX8_stuffed_1 := dk_seg dksX8_stuffed_0 23 rfl rfl
theorem dksX8_stuffed_2 : cX8_stuffed.data.toList.drop 47 = dktX8_stuffed_2 := dk_seg dksX8_stuffed_1 24 rfl rfl
theorem dksX8_stuffed_3 : cX8_stuffed.data.toList.drop 70 = dktX8_stuffed_3 := dk_seg dksX8_stuffed_2 23 rfl rfl
theorem dksX8_stuffed_4 : cX8_stuffed.data.toList.drop 94 = dktX8_stuffed_4 := dk_seg dksX8_stuffed_3 24 rfl rfl
theorem dksX8_stuffed_5 : cX8_stuffed.data.toList.drop 116 = dktX8_stuffed_5 := dk_seg dksX8_stuffed_4 22 rfl rfl
theorem dksX8_stuffed_6 : cX8_stuffed.data.toList.drop 140 = dktX8_stuffed_6 := dk_seg dksX8_stuffed_5 24 rfl rfl
theorem dksX8_stuffed_7 : cX8_stuffed.data.toList.drop 162 = dktX8_stuffed_7 := dk_seg dksX8_stuffed_6 22 rfl rfl
theorem dksX8_stuffed_8 : cX8_stuffed.data.toList.drop 186 = dktX8_stuffed_8 := dk_seg dksX8_stuffed_7 24 rfl rfl
theorem dksX8_stuffed_9 : cX8_stuffed.data.toList.drop 210 = dktX8_stuffed_9 := dk_seg dksX8_stuffed_8 24 rfl rfl
theorem dksX8_stuffed_10 : cX8_stuffed.data.toList.drop 232 = dktX8_stuffed_10 := dk_seg dksX8_stuffed_9 22 rfl rfl
theorem dksX8_stuffed_11 : cX8_stuffed.data.toList.drop 256 = dktX8_stuffed_11 := dk_seg dksX8_stuffed_10 24 rfl rfl
theorem dksX8_stuffed_12 : cX8_stuffed.data.toList.drop 280 = dktX8_stuffed_12 := dk_seg dksX8_stuffed_11 24 rfl rfl
theorem dksX8_stuffed_13 : cX8_stuffed.data.toList.drop 304 = dktX8_stuffed_13 := dk_seg dksX8_stuffed_12 24 rfl rfl
theorem dksX8_stuffed_14 : cX8_stuffed.data.toList.drop 328 = dktX8_stuffed_14 := dk_seg dksX8_stuffed_13 24 rfl rfl
theorem dksX8_stuffed_15 : cX8_stuffed.data.toList.drop 351 = dktX8_stuffed_15 := dk_seg dksX8_stuffed_14 23 rfl rfl
theorem dX8_stuffed_0 : decode cX8_stuffed 0 = .ok (.aload_n 0, 1) := dk_42 (dk_at dksX8_stuffed_0 0 rfl rfl)
theorem dX8_stuffed_1 : decode cX8_stuffed 1 = .ok (.getfield 7, 3) := dk_180 0 7 (dk_at dksX8_stuffed_0 1 rfl rfl)
theorem dX8_stuffed_4 : decode cX8_stuffed 4 = .ok (.iload_n 1, 1) := dk_27 (dk_at dksX8_stuffed_0 4 rfl rfl)
theorem dX8_stuffed_5 : decode cX8_stuffed 5 = .ok (.bipush 20, 2) := dk_16 20 (dk_at dksX8_stuffed_0 5 rfl rfl)
theorem dX8_stuffed_7 : decode cX8_stuffed 7 = .ok (.invokestatic 35, 3) := dk_184 0 35 (dk_at dksX8_stuffed_0 7 rfl rfl)
theorem dX8_stuffed_10 : decode cX8_stuffed 10 = .ok (.iaload, 1) := dk_46 (dk_at dksX8_stuffed_0 10 rfl rfl)
theorem dX8_stuffed_11 : decode cX8_stuffed 11 = .ok (.iconst 5, 1) := dk_8 (dk_at dksX8_stuffed_0 11 rfl rfl)
theorem dX8_stuffed_12 : decode cX8_stuffed 12 = .ok (.if_icmp .ne 7, 3) := dk_160 0 7 (dk_at dksX8_stuffed_0 12 rfl rfl)
theorem dX8_stuffed_15 : decode cX8_stuffed 15 = .ok (.iconst 1, 1) := dk_4 (dk_at dksX8_stuffed_0 15 rfl rfl)
theorem dX8_stuffed_16 : decode cX8_stuffed 16 = .ok (.goto 4, 3) := dk_167 0 4 (dk_at dksX8_stuffed_0 16 rfl rfl)
theorem dX8_stuffed_19 : decode cX8_stuffed 19 = .ok (.iconst 0, 1) := dk_3 (dk_at dksX8_stuffed_0 19 rfl rfl)
theorem dX8_stuffed_20 : decode cX8_stuffed 20 = .ok (.istore_n 3, 1) := dk_62 (dk_at dksX8_stuffed_0 20 rfl rfl)
theorem dX8_stuffed_21 : decode cX8_stuffed 21 = .ok (.iload_n 2, 1) := dk_28 (dk_at dksX8_stuffed_0 21 rfl rfl)
theorem dX8_stuffed_22 : decode cX8_stuffed 22 = .ok (.aload_n 0, 1) := dk_42 (dk_at dksX8_stuffed_0 22 rfl rfl)
theorem dX8_stuffed_23 : decode cX8_stuffed 23 = .ok (.getfield 7, 3) := dk_180 0 7 (dk_at dksX8_stuffed_1 0 rfl rfl)
theorem dX8_stuffed_26 : decode cX8_stuffed 26 = .ok (.iload_n 1, 1) := dk_27 (dk_at dksX8_stuffed_1 3 rfl rfl)
theorem dX8_stuffed_27 : decode cX8_stuffed 27 = .ok (.bipush 26, 2) := dk_16 26 (dk_at dksX8_stuffed_1 4 rfl rfl)
theorem dX8_stuffed_29 : decode cX8_stuffed 29 = .ok (.invokestatic 35, 3) := dk_184 0 35 (dk_at dksX8_stuffed_1 6 rfl rfl)
theorem dX8_stuffed_32 : decode cX8_stuffed 32 = .ok (.iaload, 1) := dk_46 (dk_at dksX8_stuffed_1 9 rfl rfl)
theorem dX8_stuffed_33 : decode cX8_stuffed 33 = .ok (.if_icmp .eq 7, 3) := dk_159 0 7 (dk_at dksX8_stuffed_1 10 rfl rfl)
theorem dX8_stuffed_36 : decode cX8_stuffed 36 = .ok (.iconst 1, 1) := dk_4 (dk_at dksX8_stuffed_1 13 rfl rfl)
theorem dX8_stuffed_37 : decode cX8_stuffed 37 = .ok (.goto 4, 3) := dk_167 0 4 (dk_at dksX8_stuffed_1 14 rfl rfl)
theorem dX8_stuffed_40 : decode cX8_stuffed 40 = .ok (.iconst 0, 1) := dk_3 (dk_at dksX8_stuffed_1 17 rfl rfl)
theorem dX8_stuffed_41 : decode cX8_stuffed 41 = .ok (.istore 4, 2) := dk_54 4 (dk_at dksX8_stuffed_1 18 rfl rfl)
theorem dX8_stuffed_43 : decode cX8_stuffed 43 = .ok (.aload_n 0, 1) := dk_42 (dk_at dksX8_stuffed_1 20 rfl rfl)
theorem dX8_stuffed_44 : decode cX8_stuffed 44 = .ok (.getfield 7, 3) := dk_180 0 7 (dk_at dksX8_stuffed_1 21 rfl rfl)
theorem dX8_stuffed_47 : decode cX8_stuffed 47 = .ok (.iload_n 1, 1) := dk_27 (dk_at dksX8_stuffed_2 0 rfl rfl)
theorem dX8_stuffed_48 : decode cX8_stuffed 48 = .ok (.bipush 21, 2) := dk_16 21 (dk_at dksX8_stuffed_2 1 rfl rfl)
theorem dX8_stuffed_50 : decode cX8_stuffed 50 = .ok (.invokestatic 35, 3) := dk_184 0 35 (dk_at dksX8_stuffed_2 3 rfl rfl)
theorem dX8_stuffed_53 : decode cX8_stuffed 53 = .ok (.iaload, 1) := dk_46 (dk_at dksX8_stuffed_2 6 rfl rfl)
theorem dX8_stuffed_54 : decode cX8_stuffed 54 = .ok (.istore 5, 2) := dk_54 5 (dk_at dksX8_stuffed_2 7 rfl rfl)
theorem dX8_stuffed_56 : decode cX8_stuffed 56 = .ok (.iload_n 3, 1) := dk_29 (dk_at dksX8_stuffed_2 9 rfl rfl)
theorem dX8_stuffed_57 : decode cX8_stuffed 57 = .ok (.ifCond .eq 44, 3) := dk_153 0 44 (dk_at dksX8_stuffed_2 10 rfl rfl)
theorem dX8_stuffed_60 : decode cX8_stuffed 60 = .ok (.aload_n 0, 1) := dk_42 (dk_at dksX8_stuffed_2 13 rfl rfl)
theorem dX8_stuffed_61 : decode cX8_stuffed 61 = .ok (.iload_n 1, 1) := dk_27 (dk_at dksX8_stuffed_2 14 rfl rfl)
theorem dX8_stuffed_62 : decode cX8_stuffed 62 = .ok (.invokevirtual 110, 3) := dk_182 0 110 (dk_at dksX8_stuffed_2 15 rfl rfl)
theorem dX8_stuffed_65 : decode cX8_stuffed 65 = .ok (.ifCond .eq 15, 3) := dk_153 0 15 (dk_at dksX8_stuffed_2 18 rfl rfl)
theorem dX8_stuffed_68 : decode cX8_stuffed 68 = .ok (.iload 4, 2) := dk_21 4 (dk_at dksX8_stuffed_2 21 rfl rfl)
theorem dX8_stuffed_70 : decode cX8_stuffed 70 = .ok (.ifCond .eq 10, 3) := dk_153 0 10 (dk_at dksX8_stuffed_3 0 rfl rfl)
theorem dX8_stuffed_73 : decode cX8_stuffed 73 = .ok (.aload_n 0, 1) := dk_42 (dk_at dksX8_stuffed_3 3 rfl rfl)
theorem dX8_stuffed_74 : decode cX8_stuffed 74 = .ok (.iload_n 1, 1) := dk_27 (dk_at dksX8_stuffed_3 4 rfl rfl)
theorem dX8_stuffed_75 : decode cX8_stuffed 75 = .ok (.iconst 1, 1) := dk_4 (dk_at dksX8_stuffed_3 5 rfl rfl)
theorem dX8_stuffed_76 : decode cX8_stuffed 76 = .ok (.invokevirtual 150, 3) := dk_182 0 150 (dk_at dksX8_stuffed_3 6 rfl rfl)
theorem dX8_stuffed_79 : decode cX8_stuffed 79 = .ok (.return_, 1) := dk_177 (dk_at dksX8_stuffed_3 9 rfl rfl)
theorem dX8_stuffed_80 : decode cX8_stuffed 80 = .ok (.aload_n 0, 1) := dk_42 (dk_at dksX8_stuffed_3 10 rfl rfl)
theorem dX8_stuffed_81 : decode cX8_stuffed 81 = .ok (.iload_n 1, 1) := dk_27 (dk_at dksX8_stuffed_3 11 rfl rfl)
theorem dX8_stuffed_82 : decode cX8_stuffed 82 = .ok (.invokevirtual 110, 3) := dk_182 0 110 (dk_at dksX8_stuffed_3 12 rfl rfl)
theorem dX8_stuffed_85 : decode cX8_stuffed 85 = .ok (.ifCond .ne 181, 3) := dk_154 0 181 (dk_at dksX8_stuffed_3 15 rfl rfl)
theorem dX8_stuffed_88 : decode cX8_stuffed 88 = .ok (.iload_n 2, 1) := dk_28 (dk_at dksX8_stuffed_3 18 rfl rfl)
theorem dX8_stuffed_89 : decode cX8_stuffed 89 = .ok (.iload 5, 2) := dk_21 5 (dk_at dksX8_stuffed_3 19 rfl rfl)
theorem dX8_stuffed_91 : decode cX8_stuffed 91 = .ok (.if_icmp .ne 175, 3) := dk_160 0 175 (dk_at dksX8_stuffed_3 21 rfl rfl)
theorem dX8_stuffed_94 : decode cX8_stuffed 94 = .ok (.aload_n 0, 1) := dk_42 (dk_at dksX8_stuffed_4 0 rfl rfl)
theorem dX8_stuffed_95 : decode cX8_stuffed 95 = .ok (.iload_n 1, 1) := dk_27 (dk_at dksX8_stuffed_4 1 rfl rfl)
theorem dX8_stuffed_96 : decode cX8_stuffed 96 = .ok (.iconst 2, 1) := dk_5 (dk_at dksX8_stuffed_4 2 rfl rfl)
theorem dX8_stuffed_97 : decode cX8_stuffed 97 = .ok (.invokevirtual 150, 3) := dk_182 0 150 (dk_at dksX8_stuffed_4 3 rfl rfl)
theorem dX8_stuffed_100 : decode cX8_stuffed 100 = .ok (.return_, 1) := dk_177 (dk_at dksX8_stuffed_4 6 rfl rfl)
theorem dX8_stuffed_101 : decode cX8_stuffed 101 = .ok (.aload_n 0, 1) := dk_42 (dk_at dksX8_stuffed_4 7 rfl rfl)
theorem dX8_stuffed_102 : decode cX8_stuffed 102 = .ok (.getfield 7, 3) := dk_180 0 7 (dk_at dksX8_stuffed_4 8 rfl rfl)
theorem dX8_stuffed_105 : decode cX8_stuffed 105 = .ok (.iload_n 1, 1) := dk_27 (dk_at dksX8_stuffed_4 11 rfl rfl)
theorem dX8_stuffed_106 : decode cX8_stuffed 106 = .ok (.bipush 19, 2) := dk_16 19 (dk_at dksX8_stuffed_4 12 rfl rfl)
theorem dX8_stuffed_108 : decode cX8_stuffed 108 = .ok (.invokestatic 35, 3) := dk_184 0 35 (dk_at dksX8_stuffed_4 14 rfl rfl)
theorem dX8_stuffed_111 : decode cX8_stuffed 111 = .ok (.iaload, 1) := dk_46 (dk_at dksX8_stuffed_4 17 rfl rfl)
theorem dX8_stuffed_112 : decode cX8_stuffed 112 = .ok (.istore 6, 2) := dk_54 6 (dk_at dksX8_stuffed_4 18 rfl rfl)
theorem dX8_stuffed_114 : decode cX8_stuffed 114 = .ok (.aload_n 0, 1) := dk_42 (dk_at dksX8_stuffed_4 20 rfl rfl)
theorem dX8_stuffed_115 : decode cX8_stuffed 115 = .ok (.iload_n 1, 1) := dk_27 (dk_at dksX8_stuffed_4 21 rfl rfl)
theorem dX8_stuffed_116 : decode cX8_stuffed 116 = .ok (.invokevirtual 110, 3) := dk_182 0 110 (dk_at dksX8_stuffed_5 0 rfl rfl)
theorem dX8_stuffed_119 : decode cX8_stuffed 119 = .ok (.ifCond .eq 62, 3) := dk_153 0 62 (dk_at dksX8_stuffed_5 3 rfl rfl)
theorem dX8_stuffed_122 : decode cX8_stuffed 122 = .ok (.iload 4, 2) := dk_21 4 (dk_at dksX8_stuffed_5 6 rfl rfl)
theorem dX8_stuffed_124 : decode cX8_stuffed 124 = .ok (.ifCond .eq 57, 3) := dk_153 0 57 (dk_at dksX8_stuffed_5 8 rfl rfl)
theorem dX8_stuffed_127 : decode cX8_stuffed 127 = .ok (.iload_n 2, 1) := dk_28 (dk_at dksX8_stuffed_5 11 rfl rfl)
theorem dX8_stuffed_128 : decode cX8_stuffed 128 = .ok (.iconst 1, 1) := dk_4 (dk_at dksX8_stuffed_5 12 rfl rfl)
theorem dX8_stuffed_129 : decode cX8_stuffed 129 = .ok (.if_icmp .eq 14, 3) := dk_159 0 14 (dk_at dksX8_stuffed_5 13 rfl rfl)
theorem dX8_stuffed_132 : decode cX8_stuffed 132 = .ok (.iload 6, 2) := dk_21 6 (dk_at dksX8_stuffed_5 16 rfl rfl)
theorem dX8_stuffed_134 : decode cX8_stuffed 134 = .ok (.iconst 1, 1) := dk_4 (dk_at dksX8_stuffed_5 18 rfl rfl)
theorem dX8_stuffed_135 : decode cX8_stuffed 135 = .ok (.bipush 12, 2) := dk_16 12 (dk_at dksX8_stuffed_5 19 rfl rfl)
theorem dX8_stuffed_137 : decode cX8_stuffed 137 = .ok (.invokestatic 39, 3) := dk_184 0 39 (dk_at dksX8_stuffed_5 21 rfl rfl)
theorem dX8_stuffed_140 : decode cX8_stuffed 140 = .ok (.ifCond .ne 10, 3) := dk_154 0 10 (dk_at dksX8_stuffed_6 0 rfl rfl)
theorem dX8_stuffed_143 : decode cX8_stuffed 143 = .ok (.aload_n 0, 1) := dk_42 (dk_at dksX8_stuffed_6 3 rfl rfl)
theorem dX8_stuffed_144 : decode cX8_stuffed 144 = .ok (.iload_n 1, 1) := dk_27 (dk_at dksX8_stuffed_6 4 rfl rfl)
theorem dX8_stuffed_145 : decode cX8_stuffed 145 = .ok (.iconst 1, 1) := dk_4 (dk_at dksX8_stuffed_6 5 rfl rfl)
theorem dX8_stuffed_146 : decode cX8_stuffed 146 = .ok (.invokevirtual 150, 3) := dk_182 0 150 (dk_at dksX8_stuffed_6 6 rfl rfl)
theorem dX8_stuffed_149 : decode cX8_stuffed 149 = .ok (.return_, 1) := dk_177 (dk_at dksX8_stuffed_6 9 rfl rfl)
theorem dX8_stuffed_150 : decode cX8_stuffed 150 = .ok (.aload_n 0, 1) := dk_42 (dk_at dksX8_stuffed_6 10 rfl rfl)
theorem dX8_stuffed_151 : decode cX8_stuffed 151 = .ok (.getfield 7, 3) := dk_180 0 7 (dk_at dksX8_stuffed_6 11 rfl rfl)
theorem dX8_stuffed_154 : decode cX8_stuffed 154 = .ok (.iload_n 1, 1) := dk_27 (dk_at dksX8_stuffed_6 14 rfl rfl)
theorem dX8_stuffed_155 : decode cX8_stuffed 155 = .ok (.iconst 1, 1) := dk_4 (dk_at dksX8_stuffed_6 15 rfl rfl)
theorem dX8_stuffed_156 : decode cX8_stuffed 156 = .ok (.invokestatic 35, 3) := dk_184 0 35 (dk_at dksX8_stuffed_6 16 rfl rfl)
theorem dX8_stuffed_159 : decode cX8_stuffed 159 = .ok (.iconst 0, 1) := dk_3 (dk_at dksX8_stuffed_6 19 rfl rfl)
theorem dX8_stuffed_160 : decode cX8_stuffed 160 = .ok (.iastore, 1) := dk_79 (dk_at dksX8_stuffed_6 20 rfl rfl)
theorem dX8_stuffed_161 : decode cX8_stuffed 161 = .ok (.aload_n 0, 1) := dk_42 (dk_at dksX8_stuffed_6 21 rfl rfl)
theorem dX8_stuffed_162 : decode cX8_stuffed 162 = .ok (.getfield 7, 3) := dk_180 0 7 (dk_at dksX8_stuffed_7 0 rfl rfl)
theorem dX8_stuffed_165 : decode cX8_stuffed 165 = .ok (.iload_n 1, 1) := dk_27 (dk_at dksX8_stuffed_7 3 rfl rfl)
theorem dX8_stuffed_166 : decode cX8_stuffed 166 = .ok (.bipush 12, 2) := dk_16 12 (dk_at dksX8_stuffed_7 4 rfl rfl)
theorem dX8_stuffed_168 : decode cX8_stuffed 168 = .ok (.invokestatic 35, 3) := dk_184 0 35 (dk_at dksX8_stuffed_7 6 rfl rfl)
theorem dX8_stuffed_171 : decode cX8_stuffed 171 = .ok (.dup2, 1) := dk_92 (dk_at dksX8_stuffed_7 9 rfl rfl)
theorem dX8_stuffed_172 : decode cX8_stuffed 172 = .ok (.iaload, 1) := dk_46 (dk_at dksX8_stuffed_7 10 rfl rfl)
theorem dX8_stuffed_173 : decode cX8_stuffed 173 = .ok (.iconst 1, 1) := dk_4 (dk_at dksX8_stuffed_7 11 rfl rfl)
theorem dX8_stuffed_174 : decode cX8_stuffed 174 = .ok (.iadd, 1) := dk_96 (dk_at dksX8_stuffed_7 12 rfl rfl)
theorem dX8_stuffed_175 : decode cX8_stuffed 175 = .ok (.iastore, 1) := dk_79 (dk_at dksX8_stuffed_7 13 rfl rfl)
theorem dX8_stuffed_176 : decode cX8_stuffed 176 = .ok (.aload_n 0, 1) := dk_42 (dk_at dksX8_stuffed_7 14 rfl rfl)
theorem dX8_stuffed_177 : decode cX8_stuffed 177 = .ok (.iload_n 1, 1) := dk_27 (dk_at dksX8_stuffed_7 15 rfl rfl)
theorem dX8_stuffed_178 : decode cX8_stuffed 178 = .ok (.invokevirtual 77, 3) := dk_182 0 77 (dk_at dksX8_stuffed_7 16 rfl rfl)
theorem dX8_stuffed_181 : decode cX8_stuffed 181 = .ok (.aload_n 0, 1) := dk_42 (dk_at dksX8_stuffed_7 19 rfl rfl)
theorem dX8_stuffed_182 : decode cX8_stuffed 182 = .ok (.getfield 7, 3) := dk_180 0 7 (dk_at dksX8_stuffed_7 20 rfl rfl)
theorem dX8_stuffed_185 : decode cX8_stuffed 185 = .ok (.iload_n 1, 1) := dk_27 (dk_at dksX8_stuffed_7 23 rfl rfl)
theorem dX8_stuffed_186 : decode cX8_stuffed 186 = .ok (.bipush 90, 2) := dk_16 90 (dk_at dksX8_stuffed_8 0 rfl rfl)
theorem dX8_stuffed_188 : decode cX8_stuffed 188 = .ok (.iload 6, 2) := dk_21 6 (dk_at dksX8_stuffed_8 2 rfl rfl)
theorem dX8_stuffed_190 : decode cX8_stuffed 190 = .ok (.iadd, 1) := dk_96 (dk_at dksX8_stuffed_8 4 rfl rfl)
theorem dX8_stuffed_191 : decode cX8_stuffed 191 = .ok (.invokestatic 35, 3) := dk_184 0 35 (dk_at dksX8_stuffed_8 5 rfl rfl)
theorem dX8_stuffed_194 : decode cX8_stuffed 194 = .ok (.iload_n 2, 1) := dk_28 (dk_at dksX8_stuffed_8 8 rfl rfl)
theorem dX8_stuffed_195 : decode cX8_stuffed 195 = .ok (.iastore, 1) := dk_79 (dk_at dksX8_stuffed_8 9 rfl rfl)
theorem dX8_stuffed_196 : decode cX8_stuffed 196 = .ok (.aload_n 0, 1) := dk_42 (dk_at dksX8_stuffed_8 10 rfl rfl)
theorem dX8_stuffed_197 : decode cX8_stuffed 197 = .ok (.getfield 7, 3) := dk_180 0 7 (dk_at dksX8_stuffed_8 11 rfl rfl)
theorem dX8_stuffed_200 : decode cX8_stuffed 200 = .ok (.iload_n 1, 1) := dk_27 (dk_at dksX8_stuffed_8 14 rfl rfl)
theorem dX8_stuffed_201 : decode cX8_stuffed 201 = .ok (.bipush 19, 2) := dk_16 19 (dk_at dksX8_stuffed_8 15 rfl rfl)
theorem dX8_stuffed_203 : decode cX8_stuffed 203 = .ok (.invokestatic 35, 3) := dk_184 0 35 (dk_at dksX8_stuffed_8 17 rfl rfl)
theorem dX8_stuffed_206 : decode cX8_stuffed 206 = .ok (.dup2, 1) := dk_92 (dk_at dksX8_stuffed_8 20 rfl rfl)
theorem dX8_stuffed_207 : decode cX8_stuffed 207 = .ok (.iaload, 1) := dk_46 (dk_at dksX8_stuffed_8 21 rfl rfl)
theorem dX8_stuffed_208 : decode cX8_stuffed 208 = .ok (.iconst 1, 1) := dk_4 (dk_at dksX8_stuffed_8 22 rfl rfl)
theorem dX8_stuffed_209 : decode cX8_stuffed 209 = .ok (.iadd, 1) := dk_96 (dk_at dksX8_stuffed_8 23 rfl rfl)
theorem dX8_stuffed_210 : decode cX8_stuffed 210 = .ok (.iastore, 1) := dk_79 (dk_at dksX8_stuffed_9 0 rfl rfl)
theorem dX8_stuffed_211 : decode cX8_stuffed 211 = .ok (.iload 6, 2) := dk_21 6 (dk_at dksX8_stuffed_9 1 rfl rfl)
theorem dX8_stuffed_213 : decode cX8_stuffed 213 = .ok (.bipush 13, 2) := dk_16 13 (dk_at dksX8_stuffed_9 3 rfl rfl)
theorem dX8_stuffed_215 : decode cX8_stuffed 215 = .ok (.if_icmp .ne 8, 3) := dk_160 0 8 (dk_at dksX8_stuffed_9 5 rfl rfl)
theorem dX8_stuffed_218 : decode cX8_stuffed 218 = .ok (.iload_n 2, 1) := dk_28 (dk_at dksX8_stuffed_9 8 rfl rfl)
theorem dX8_stuffed_219 : decode cX8_stuffed 219 = .ok (.iconst 1, 1) := dk_4 (dk_at dksX8_stuffed_9 9 rfl rfl)
theorem dX8_stuffed_220 : decode cX8_stuffed 220 = .ok (.if_icmp .eq 19, 3) := dk_159 0 19 (dk_at dksX8_stuffed_9 10 rfl rfl)
theorem dX8_stuffed_223 : decode cX8_stuffed 223 = .ok (.iload 6, 2) := dk_21 6 (dk_at dksX8_stuffed_9 13 rfl rfl)
theorem dX8_stuffed_225 : decode cX8_stuffed 225 = .ok (.bipush 18, 2) := dk_16 18 (dk_at dksX8_stuffed_9 15 rfl rfl)
theorem dX8_stuffed_227 : decode cX8_stuffed 227 = .ok (.if_icmp .ne 16, 3) := dk_160 0 16 (dk_at dksX8_stuffed_9 17 rfl rfl)
theorem dX8_stuffed_230 : decode cX8_stuffed 230 = .ok (.aload_n 0, 1) := dk_42 (dk_at dksX8_stuffed_9 20 rfl rfl)
theorem dX8_stuffed_231 : decode cX8_stuffed 231 = .ok (.iload_n 1, 1) := dk_27 (dk_at dksX8_stuffed_9 21 rfl rfl)
theorem dX8_stuffed_232 : decode cX8_stuffed 232 = .ok (.invokevirtual 98, 3) := dk_182 0 98 (dk_at dksX8_stuffed_10 0 rfl rfl)
theorem dX8_stuffed_235 : decode cX8_stuffed 235 = .ok (.iconst 4, 1) := dk_7 (dk_at dksX8_stuffed_10 3 rfl rfl)
theorem dX8_stuffed_236 : decode cX8_stuffed 236 = .ok (.if_icmp .le 7, 3) := dk_164 0 7 (dk_at dksX8_stuffed_10 4 rfl rfl)
theorem dX8_stuffed_239 : decode cX8_stuffed 239 = .ok (.iconst 1, 1) := dk_4 (dk_at dksX8_stuffed_10 7 rfl rfl)
theorem dX8_stuffed_240 : decode cX8_stuffed 240 = .ok (.goto 4, 3) := dk_167 0 4 (dk_at dksX8_stuffed_10 8 rfl rfl)
theorem dX8_stuffed_243 : decode cX8_stuffed 243 = .ok (.iconst 0, 1) := dk_3 (dk_at dksX8_stuffed_10 11 rfl rfl)
theorem dX8_stuffed_244 : decode cX8_stuffed 244 = .ok (.istore 7, 2) := dk_54 7 (dk_at dksX8_stuffed_10 12 rfl rfl)
theorem dX8_stuffed_246 : decode cX8_stuffed 246 = .ok (.aload_n 0, 1) := dk_42 (dk_at dksX8_stuffed_10 14 rfl rfl)
theorem dX8_stuffed_247 : decode cX8_stuffed 247 = .ok (.iload_n 1, 1) := dk_27 (dk_at dksX8_stuffed_10 15 rfl rfl)
theorem dX8_stuffed_248 : decode cX8_stuffed 248 = .ok (.invokevirtual 110, 3) := dk_182 0 110 (dk_at dksX8_stuffed_10 16 rfl rfl)
theorem dX8_stuffed_251 : decode cX8_stuffed 251 = .ok (.ifCond .ne 15, 3) := dk_154 0 15 (dk_at dksX8_stuffed_10 19 rfl rfl)
theorem dX8_stuffed_254 : decode cX8_stuffed 254 = .ok (.iload 7, 2) := dk_21 7 (dk_at dksX8_stuffed_10 22 rfl rfl)
theorem dX8_stuffed_256 : decode cX8_stuffed 256 = .ok (.ifCond .eq 10, 3) := dk_153 0 10 (dk_at dksX8_stuffed_11 0 rfl rfl)
theorem dX8_stuffed_259 : decode cX8_stuffed 259 = .ok (.aload_n 0, 1) := dk_42 (dk_at dksX8_stuffed_11 3 rfl rfl)
theorem dX8_stuffed_260 : decode cX8_stuffed 260 = .ok (.iload_n 1, 1) := dk_27 (dk_at dksX8_stuffed_11 4 rfl rfl)
theorem dX8_stuffed_261 : decode cX8_stuffed 261 = .ok (.iconst 4, 1) := dk_7 (dk_at dksX8_stuffed_11 5 rfl rfl)
theorem dX8_stuffed_262 : decode cX8_stuffed 262 = .ok (.invokevirtual 150, 3) := dk_182 0 150 (dk_at dksX8_stuffed_11 6 rfl rfl)
theorem dX8_stuffed_265 : decode cX8_stuffed 265 = .ok (.return_, 1) := dk_177 (dk_at dksX8_stuffed_11 9 rfl rfl)
theorem dX8_stuffed_266 : decode cX8_stuffed 266 = .ok (.aload_n 0, 1) := dk_42 (dk_at dksX8_stuffed_11 10 rfl rfl)
theorem dX8_stuffed_267 : decode cX8_stuffed 267 = .ok (.getfield 7, 3) := dk_180 0 7 (dk_at dksX8_stuffed_11 11 rfl rfl)
theorem dX8_stuffed_270 : decode cX8_stuffed 270 = .ok (.iload_n 1, 1) := dk_27 (dk_at dksX8_stuffed_11 14 rfl rfl)
theorem dX8_stuffed_271 : decode cX8_stuffed 271 = .ok (.bipush 20, 2) := dk_16 20 (dk_at dksX8_stuffed_11 15 rfl rfl)
theorem dX8_stuffed_273 : decode cX8_stuffed 273 = .ok (.invokestatic 35, 3) := dk_184 0 35 (dk_at dksX8_stuffed_11 17 rfl rfl)
theorem dX8_stuffed_276 : decode cX8_stuffed 276 = .ok (.iload_n 3, 1) := dk_29 (dk_at dksX8_stuffed_11 20 rfl rfl)
theorem dX8_stuffed_277 : decode cX8_stuffed 277 = .ok (.ifCond .ne 25, 3) := dk_154 0 25 (dk_at dksX8_stuffed_11 21 rfl rfl)
theorem dX8_stuffed_280 : decode cX8_stuffed 280 = .ok (.iload_n 2, 1) := dk_28 (dk_at dksX8_stuffed_12 0 rfl rfl)
theorem dX8_stuffed_281 : decode cX8_stuffed 281 = .ok (.iload 5, 2) := dk_21 5 (dk_at dksX8_stuffed_12 1 rfl rfl)
theorem dX8_stuffed_283 : decode cX8_stuffed 283 = .ok (.if_icmp .ne 19, 3) := dk_160 0 19 (dk_at dksX8_stuffed_12 3 rfl rfl)
theorem dX8_stuffed_286 : decode cX8_stuffed 286 = .ok (.aload_n 0, 1) := dk_42 (dk_at dksX8_stuffed_12 6 rfl rfl)
theorem dX8_stuffed_287 : decode cX8_stuffed 287 = .ok (.getfield 7, 3) := dk_180 0 7 (dk_at dksX8_stuffed_12 7 rfl rfl)
theorem dX8_stuffed_290 : decode cX8_stuffed 290 = .ok (.iload_n 1, 1) := dk_27 (dk_at dksX8_stuffed_12 10 rfl rfl)
theorem dX8_stuffed_291 : decode cX8_stuffed 291 = .ok (.bipush 20, 2) := dk_16 20 (dk_at dksX8_stuffed_12 11 rfl rfl)
theorem dX8_stuffed_293 : decode cX8_stuffed 293 = .ok (.invokestatic 35, 3) := dk_184 0 35 (dk_at dksX8_stuffed_12 13 rfl rfl)
theorem dX8_stuffed_296 : decode cX8_stuffed 296 = .ok (.iaload, 1) := dk_46 (dk_at dksX8_stuffed_12 16 rfl rfl)
theorem dX8_stuffed_297 : decode cX8_stuffed 297 = .ok (.iconst 1, 1) := dk_4 (dk_at dksX8_stuffed_12 17 rfl rfl)
theorem dX8_stuffed_298 : decode cX8_stuffed 298 = .ok (.iadd, 1) := dk_96 (dk_at dksX8_stuffed_12 18 rfl rfl)
theorem dX8_stuffed_299 : decode cX8_stuffed 299 = .ok (.goto 4, 3) := dk_167 0 4 (dk_at dksX8_stuffed_12 19 rfl rfl)
theorem dX8_stuffed_302 : decode cX8_stuffed 302 = .ok (.iconst 1, 1) := dk_4 (dk_at dksX8_stuffed_12 22 rfl rfl)
theorem dX8_stuffed_303 : decode cX8_stuffed 303 = .ok (.iastore, 1) := dk_79 (dk_at dksX8_stuffed_12 23 rfl rfl)
theorem dX8_stuffed_304 : decode cX8_stuffed 304 = .ok (.aload_n 0, 1) := dk_42 (dk_at dksX8_stuffed_13 0 rfl rfl)
theorem dX8_stuffed_305 : decode cX8_stuffed 305 = .ok (.getfield 7, 3) := dk_180 0 7 (dk_at dksX8_stuffed_13 1 rfl rfl)
theorem dX8_stuffed_308 : decode cX8_stuffed 308 = .ok (.iload_n 1, 1) := dk_27 (dk_at dksX8_stuffed_13 4 rfl rfl)
theorem dX8_stuffed_309 : decode cX8_stuffed 309 = .ok (.bipush 21, 2) := dk_16 21 (dk_at dksX8_stuffed_13 5 rfl rfl)
theorem dX8_stuffed_311 : decode cX8_stuffed 311 = .ok (.invokestatic 35, 3) := dk_184 0 35 (dk_at dksX8_stuffed_13 7 rfl rfl)
theorem dX8_stuffed_314 : decode cX8_stuffed 314 = .ok (.iload_n 2, 1) := dk_28 (dk_at dksX8_stuffed_13 10 rfl rfl)
theorem dX8_stuffed_315 : decode cX8_stuffed 315 = .ok (.iastore, 1) := dk_79 (dk_at dksX8_stuffed_13 11 rfl rfl)
theorem dX8_stuffed_316 : decode cX8_stuffed 316 = .ok (.aload_n 0, 1) := dk_42 (dk_at dksX8_stuffed_13 12 rfl rfl)
theorem dX8_stuffed_317 : decode cX8_stuffed 317 = .ok (.getfield 7, 3) := dk_180 0 7 (dk_at dksX8_stuffed_13 13 rfl rfl)
theorem dX8_stuffed_320 : decode cX8_stuffed 320 = .ok (.iload_n 1, 1) := dk_27 (dk_at dksX8_stuffed_13 16 rfl rfl)
theorem dX8_stuffed_321 : decode cX8_stuffed 321 = .ok (.bipush 19, 2) := dk_16 19 (dk_at dksX8_stuffed_13 17 rfl rfl)
theorem dX8_stuffed_323 : decode cX8_stuffed 323 = .ok (.invokestatic 35, 3) := dk_184 0 35 (dk_at dksX8_stuffed_13 19 rfl rfl)
theorem dX8_stuffed_326 : decode cX8_stuffed 326 = .ok (.iaload, 1) := dk_46 (dk_at dksX8_stuffed_13 22 rfl rfl)
theorem dX8_stuffed_327 : decode cX8_stuffed 327 = .ok (.aload_n 0, 1) := dk_42 (dk_at dksX8_stuffed_13 23 rfl rfl)
theorem dX8_stuffed_328 : decode cX8_stuffed 328 = .ok (.iload_n 1, 1) := dk_27 (dk_at dksX8_stuffed_14 0 rfl rfl)
theorem dX8_stuffed_329 : decode cX8_stuffed 329 = .ok (.invokevirtual 104, 3) := dk_182 0 104 (dk_at dksX8_stuffed_14 1 rfl rfl)
theorem dX8_stuffed_332 : decode cX8_stuffed 332 = .ok (.if_icmp .ne 30, 3) := dk_160 0 30 (dk_at dksX8_stuffed_14 4 rfl rfl)
theorem dX8_stuffed_335 : decode cX8_stuffed 335 = .ok (.aload_n 0, 1) := dk_42 (dk_at dksX8_stuffed_14 7 rfl rfl)
theorem dX8_stuffed_336 : decode cX8_stuffed 336 = .ok (.getfield 7, 3) := dk_180 0 7 (dk_at dksX8_stuffed_14 8 rfl rfl)
theorem dX8_stuffed_339 : decode cX8_stuffed 339 = .ok (.iload_n 1, 1) := dk_27 (dk_at dksX8_stuffed_14 11 rfl rfl)
theorem dX8_stuffed_340 : decode cX8_stuffed 340 = .ok (.bipush 20, 2) := dk_16 20 (dk_at dksX8_stuffed_14 12 rfl rfl)
theorem dX8_stuffed_342 : decode cX8_stuffed 342 = .ok (.invokestatic 35, 3) := dk_184 0 35 (dk_at dksX8_stuffed_14 14 rfl rfl)
theorem dX8_stuffed_345 : decode cX8_stuffed 345 = .ok (.iaload, 1) := dk_46 (dk_at dksX8_stuffed_14 17 rfl rfl)
theorem dX8_stuffed_346 : decode cX8_stuffed 346 = .ok (.iconst 5, 1) := dk_8 (dk_at dksX8_stuffed_14 18 rfl rfl)
theorem dX8_stuffed_347 : decode cX8_stuffed 347 = .ok (.if_icmp .ge 15, 3) := dk_162 0 15 (dk_at dksX8_stuffed_14 19 rfl rfl)
theorem dX8_stuffed_350 : decode cX8_stuffed 350 = .ok (.aload_n 0, 1) := dk_42 (dk_at dksX8_stuffed_14 22 rfl rfl)
theorem dX8_stuffed_351 : decode cX8_stuffed 351 = .ok (.getfield 7, 3) := dk_180 0 7 (dk_at dksX8_stuffed_15 0 rfl rfl)
theorem dX8_stuffed_354 : decode cX8_stuffed 354 = .ok (.iload_n 1, 1) := dk_27 (dk_at dksX8_stuffed_15 3 rfl rfl)
theorem dX8_stuffed_355 : decode cX8_stuffed 355 = .ok (.bipush 22, 2) := dk_16 22 (dk_at dksX8_stuffed_15 4 rfl rfl)
theorem dX8_stuffed_357 : decode cX8_stuffed 357 = .ok (.invokestatic 35, 3) := dk_184 0 35 (dk_at dksX8_stuffed_15 6 rfl rfl)
theorem dX8_stuffed_360 : decode cX8_stuffed 360 = .ok (.iconst 0, 1) := dk_3 (dk_at dksX8_stuffed_15 9 rfl rfl)
theorem dX8_stuffed_361 : decode cX8_stuffed 361 = .ok (.iastore, 1) := dk_79 (dk_at dksX8_stuffed_15 10 rfl rfl)
theorem dX8_stuffed_362 : decode cX8_stuffed 362 = .ok (.return_, 1) := dk_177 (dk_at dksX8_stuffed_15 11 rfl rfl)
abbrev cX8_tails : ByteArray := prog_29_method_50_code
def yX8_tails : MethodName := ⟨RX8, "tails", "(II)V"⟩
def dkwX8_tails_5 : List UInt8 := [182, 0, 150, 167, 0, 19, 29, 16, 8, 160, 0, 13, 21, 4, 154, 0, 8, 42, 27, 182, 0, 156, 177]
abbrev dktX8_tails_5 : List UInt8 := dkwX8_tails_5 ++ []
def dkwX8_tails_4 : List UInt8 := [167, 0, 46, 29, 5, 160, 0, 25, 21, 4, 154, 0, 20, 42, 27, 182, 0, 113, 154, 0, 12, 42, 27, 6]
abbrev dktX8_tails_4 : List UInt8 := dkwX8_tails_4 ++ dktX8_tails_5
def dkwX8_tails_3 : List UInt8 := [167, 0, 68, 28, 154, 0, 21, 42, 27, 21, 4, 153, 0, 7, 4, 167, 0, 4, 7, 182, 0, 150]
abbrev dktX8_tails_3 : List UInt8 := dkwX8_tails_3 ++ dktX8_tails_4
def dkwX8_tails_2 : List UInt8 := [153, 0, 92, 42, 27, 8, 182, 0, 150, 167, 0, 83, 29, 16, 9, 160, 0, 12, 42, 27, 28, 182, 0, 153]
abbrev dktX8_tails_2 : List UInt8 := dkwX8_tails_2 ++ dktX8_tails_3
def dkwX8_tails_1 : List UInt8 := [16, 22, 184, 0, 35, 92, 46, 4, 96, 79, 29, 4, 160, 0, 22, 28, 4, 160, 0, 97, 21, 4]
abbrev dktX8_tails_1 : List UInt8 := dkwX8_tails_1 ++ dktX8_tails_2
def dkwX8_tails_0 : List UInt8 := [42, 180, 0, 7, 27, 16, 22, 184, 0, 35, 46, 62, 42, 27, 182, 0, 110, 54, 4, 42, 180, 0, 7, 27]
abbrev dktX8_tails_0 : List UInt8 := dkwX8_tails_0 ++ dktX8_tails_1
theorem dksX8_tails_0 : cX8_tails.data.toList.drop 0 = dktX8_tails_0 := by decide +kernel
theorem dksX8_tails_1 : cX8_tails.data.toList.drop 24 = dktX8_tails_1 := dk_seg dksX8_tails_0 24 rfl rfl
theorem dksX8_tails_2 : cX8_tails.data.toList.drop 46 = dktX8_tails_2 := dk_seg dksX8_tails_1 22 rfl rfl
theorem dksX8_tails_3 : cX8_tails.data.toList.drop 70 = dktX8_tails_3 := dk_seg dksX8_tails_2 24 rfl rfl
theorem dksX8_tails_4 : cX8_tails.data.toList.drop 92 = dktX8_tails_4 := dk_seg dksX8_tails_3 22 rfl rfl
theorem dksX8_tails_5 : cX8_tails.data.toList.drop 116 = dktX8_tails_5 := dk_seg dksX8_tails_4 24 rfl rfl
theorem dX8_tails_0 : decode cX8_tails 0 = .ok (.aload_n 0, 1) := dk_42 (dk_at dksX8_tails_0 0 rfl rfl)
theorem dX8_tails_1 : decode cX8_tails 1 = .ok (.getfield 7, 3) := dk_180 0 7 (dk_at dksX8_tails_0 1 rfl rfl)
theorem dX8_tails_4 : decode cX8_tails 4 = .ok (.iload_n 1, 1) := dk_27 (dk_at dksX8_tails_0 4 rfl rfl)
theorem dX8_tails_5 : decode cX8_tails 5 = .ok (.bipush 22, 2) := dk_16 22 (dk_at dksX8_tails_0 5 rfl rfl)
theorem dX8_tails_7 : decode cX8_tails 7 = .ok (.invokestatic 35, 3) := dk_184 0 35 (dk_at dksX8_tails_0 7 rfl rfl)
theorem dX8_tails_10 : decode cX8_tails 10 = .ok (.iaload, 1) := dk_46 (dk_at dksX8_tails_0 10 rfl rfl)
theorem dX8_tails_11 : decode cX8_tails 11 = .ok (.istore_n 3, 1) := dk_62 (dk_at dksX8_tails_0 11 rfl rfl)
theorem dX8_tails_12 : decode cX8_tails 12 = .ok (.aload_n 0, 1) := dk_42 (dk_at dksX8_tails_0 12 rfl rfl)
theorem dX8_tails_13 : decode cX8_tails 13 = .ok (.iload_n 1, 1) := dk_27 (dk_at dksX8_tails_0 13 rfl rfl)
theorem dX8_tails_14 : decode cX8_tails 14 = .ok (.invokevirtual 110, 3) := dk_182 0 110 (dk_at dksX8_tails_0 14 rfl rfl)
theorem dX8_tails_17 : decode cX8_tails 17 = .ok (.istore 4, 2) := dk_54 4 (dk_at dksX8_tails_0 17 rfl rfl)
theorem dX8_tails_19 : decode cX8_tails 19 = .ok (.aload_n 0, 1) := dk_42 (dk_at dksX8_tails_0 19 rfl rfl)
theorem dX8_tails_20 : decode cX8_tails 20 = .ok (.getfield 7, 3) := dk_180 0 7 (dk_at dksX8_tails_0 20 rfl rfl)
theorem dX8_tails_23 : decode cX8_tails 23 = .ok (.iload_n 1, 1) := dk_27 (dk_at dksX8_tails_0 23 rfl rfl)
theorem dX8_tails_24 : decode cX8_tails 24 = .ok (.bipush 22, 2) := dk_16 22 (dk_at dksX8_tails_1 0 rfl rfl)
theorem dX8_tails_26 : decode cX8_tails 26 = .ok (.invokestatic 35, 3) := dk_184 0 35 (dk_at dksX8_tails_1 2 rfl rfl)
theorem dX8_tails_29 : decode cX8_tails 29 = .ok (.dup2, 1) := dk_92 (dk_at dksX8_tails_1 5 rfl rfl)
theorem dX8_tails_30 : decode cX8_tails 30 = .ok (.iaload, 1) := dk_46 (dk_at dksX8_tails_1 6 rfl rfl)
theorem dX8_tails_31 : decode cX8_tails 31 = .ok (.iconst 1, 1) := dk_4 (dk_at dksX8_tails_1 7 rfl rfl)
theorem dX8_tails_32 : decode cX8_tails 32 = .ok (.iadd, 1) := dk_96 (dk_at dksX8_tails_1 8 rfl rfl)
theorem dX8_tails_33 : decode cX8_tails 33 = .ok (.iastore, 1) := dk_79 (dk_at dksX8_tails_1 9 rfl rfl)
theorem dX8_tails_34 : decode cX8_tails 34 = .ok (.iload_n 3, 1) := dk_29 (dk_at dksX8_tails_1 10 rfl rfl)
theorem dX8_tails_35 : decode cX8_tails 35 = .ok (.iconst 1, 1) := dk_4 (dk_at dksX8_tails_1 11 rfl rfl)
theorem dX8_tails_36 : decode cX8_tails 36 = .ok (.if_icmp .ne 22, 3) := dk_160 0 22 (dk_at dksX8_tails_1 12 rfl rfl)
theorem dX8_tails_39 : decode cX8_tails 39 = .ok (.iload_n 2, 1) := dk_28 (dk_at dksX8_tails_1 15 rfl rfl)
theorem dX8_tails_40 : decode cX8_tails 40 = .ok (.iconst 1, 1) := dk_4 (dk_at dksX8_tails_1 16 rfl rfl)
theorem dX8_tails_41 : decode cX8_tails 41 = .ok (.if_icmp .ne 97, 3) := dk_160 0 97 (dk_at dksX8_tails_1 17 rfl rfl)
theorem dX8_tails_44 : decode cX8_tails 44 = .ok (.iload 4, 2) := dk_21 4 (dk_at dksX8_tails_1 20 rfl rfl)
theorem dX8_tails_46 : decode cX8_tails 46 = .ok (.ifCond .eq 92, 3) := dk_153 0 92 (dk_at dksX8_tails_2 0 rfl rfl)
theorem dX8_tails_49 : decode cX8_tails 49 = .ok (.aload_n 0, 1) := dk_42 (dk_at dksX8_tails_2 3 rfl rfl)
theorem dX8_tails_50 : decode cX8_tails 50 = .ok (.iload_n 1, 1) := dk_27 (dk_at dksX8_tails_2 4 rfl rfl)
theorem dX8_tails_51 : decode cX8_tails 51 = .ok (.iconst 5, 1) := dk_8 (dk_at dksX8_tails_2 5 rfl rfl)
theorem dX8_tails_52 : decode cX8_tails 52 = .ok (.invokevirtual 150, 3) := dk_182 0 150 (dk_at dksX8_tails_2 6 rfl rfl)
theorem dX8_tails_55 : decode cX8_tails 55 = .ok (.goto 83, 3) := dk_167 0 83 (dk_at dksX8_tails_2 9 rfl rfl)
theorem dX8_tails_58 : decode cX8_tails 58 = .ok (.iload_n 3, 1) := dk_29 (dk_at dksX8_tails_2 12 rfl rfl)
theorem dX8_tails_59 : decode cX8_tails 59 = .ok (.bipush 9, 2) := dk_16 9 (dk_at dksX8_tails_2 13 rfl rfl)
theorem dX8_tails_61 : decode cX8_tails 61 = .ok (.if_icmp .ne 12, 3) := dk_160 0 12 (dk_at dksX8_tails_2 15 rfl rfl)
theorem dX8_tails_64 : decode cX8_tails 64 = .ok (.aload_n 0, 1) := dk_42 (dk_at dksX8_tails_2 18 rfl rfl)
theorem dX8_tails_65 : decode cX8_tails 65 = .ok (.iload_n 1, 1) := dk_27 (dk_at dksX8_tails_2 19 rfl rfl)
theorem dX8_tails_66 : decode cX8_tails 66 = .ok (.iload_n 2, 1) := dk_28 (dk_at dksX8_tails_2 20 rfl rfl)
theorem dX8_tails_67 : decode cX8_tails 67 = .ok (.invokevirtual 153, 3) := dk_182 0 153 (dk_at dksX8_tails_2 21 rfl rfl)
theorem dX8_tails_70 : decode cX8_tails 70 = .ok (.goto 68, 3) := dk_167 0 68 (dk_at dksX8_tails_3 0 rfl rfl)
theorem dX8_tails_73 : decode cX8_tails 73 = .ok (.iload_n 2, 1) := dk_28 (dk_at dksX8_tails_3 3 rfl rfl)
theorem dX8_tails_74 : decode cX8_tails 74 = .ok (.ifCond .ne 21, 3) := dk_154 0 21 (dk_at dksX8_tails_3 4 rfl rfl)
theorem dX8_tails_77 : decode cX8_tails 77 = .ok (.aload_n 0, 1) := dk_42 (dk_at dksX8_tails_3 7 rfl rfl)
theorem dX8_tails_78 : decode cX8_tails 78 = .ok (.iload_n 1, 1) := dk_27 (dk_at dksX8_tails_3 8 rfl rfl)
theorem dX8_tails_79 : decode cX8_tails 79 = .ok (.iload 4, 2) := dk_21 4 (dk_at dksX8_tails_3 9 rfl rfl)
theorem dX8_tails_81 : decode cX8_tails 81 = .ok (.ifCond .eq 7, 3) := dk_153 0 7 (dk_at dksX8_tails_3 11 rfl rfl)
theorem dX8_tails_84 : decode cX8_tails 84 = .ok (.iconst 1, 1) := dk_4 (dk_at dksX8_tails_3 14 rfl rfl)
theorem dX8_tails_85 : decode cX8_tails 85 = .ok (.goto 4, 3) := dk_167 0 4 (dk_at dksX8_tails_3 15 rfl rfl)
theorem dX8_tails_88 : decode cX8_tails 88 = .ok (.iconst 4, 1) := dk_7 (dk_at dksX8_tails_3 18 rfl rfl)
theorem dX8_tails_89 : decode cX8_tails 89 = .ok (.invokevirtual 150, 3) := dk_182 0 150 (dk_at dksX8_tails_3 19 rfl rfl)
theorem dX8_tails_92 : decode cX8_tails 92 = .ok (.goto 46, 3) := dk_167 0 46 (dk_at dksX8_tails_4 0 rfl rfl)
theorem dX8_tails_95 : decode cX8_tails 95 = .ok (.iload_n 3, 1) := dk_29 (dk_at dksX8_tails_4 3 rfl rfl)
theorem dX8_tails_96 : decode cX8_tails 96 = .ok (.iconst 2, 1) := dk_5 (dk_at dksX8_tails_4 4 rfl rfl)
theorem dX8_tails_97 : decode cX8_tails 97 = .ok (.if_icmp .ne 25, 3) := dk_160 0 25 (dk_at dksX8_tails_4 5 rfl rfl)
theorem dX8_tails_100 : decode cX8_tails 100 = .ok (.iload 4, 2) := dk_21 4 (dk_at dksX8_tails_4 8 rfl rfl)
theorem dX8_tails_102 : decode cX8_tails 102 = .ok (.ifCond .ne 20, 3) := dk_154 0 20 (dk_at dksX8_tails_4 10 rfl rfl)
theorem dX8_tails_105 : decode cX8_tails 105 = .ok (.aload_n 0, 1) := dk_42 (dk_at dksX8_tails_4 13 rfl rfl)
theorem dX8_tails_106 : decode cX8_tails 106 = .ok (.iload_n 1, 1) := dk_27 (dk_at dksX8_tails_4 14 rfl rfl)
theorem dX8_tails_107 : decode cX8_tails 107 = .ok (.invokevirtual 113, 3) := dk_182 0 113 (dk_at dksX8_tails_4 15 rfl rfl)
theorem dX8_tails_110 : decode cX8_tails 110 = .ok (.ifCond .ne 12, 3) := dk_154 0 12 (dk_at dksX8_tails_4 18 rfl rfl)
theorem dX8_tails_113 : decode cX8_tails 113 = .ok (.aload_n 0, 1) := dk_42 (dk_at dksX8_tails_4 21 rfl rfl)
theorem dX8_tails_114 : decode cX8_tails 114 = .ok (.iload_n 1, 1) := dk_27 (dk_at dksX8_tails_4 22 rfl rfl)
theorem dX8_tails_115 : decode cX8_tails 115 = .ok (.iconst 3, 1) := dk_6 (dk_at dksX8_tails_4 23 rfl rfl)
theorem dX8_tails_116 : decode cX8_tails 116 = .ok (.invokevirtual 150, 3) := dk_182 0 150 (dk_at dksX8_tails_5 0 rfl rfl)
theorem dX8_tails_119 : decode cX8_tails 119 = .ok (.goto 19, 3) := dk_167 0 19 (dk_at dksX8_tails_5 3 rfl rfl)
theorem dX8_tails_122 : decode cX8_tails 122 = .ok (.iload_n 3, 1) := dk_29 (dk_at dksX8_tails_5 6 rfl rfl)
theorem dX8_tails_123 : decode cX8_tails 123 = .ok (.bipush 8, 2) := dk_16 8 (dk_at dksX8_tails_5 7 rfl rfl)
theorem dX8_tails_125 : decode cX8_tails 125 = .ok (.if_icmp .ne 13, 3) := dk_160 0 13 (dk_at dksX8_tails_5 9 rfl rfl)
theorem dX8_tails_128 : decode cX8_tails 128 = .ok (.iload 4, 2) := dk_21 4 (dk_at dksX8_tails_5 12 rfl rfl)
theorem dX8_tails_130 : decode cX8_tails 130 = .ok (.ifCond .ne 8, 3) := dk_154 0 8 (dk_at dksX8_tails_5 14 rfl rfl)
theorem dX8_tails_133 : decode cX8_tails 133 = .ok (.aload_n 0, 1) := dk_42 (dk_at dksX8_tails_5 17 rfl rfl)
theorem dX8_tails_134 : decode cX8_tails 134 = .ok (.iload_n 1, 1) := dk_27 (dk_at dksX8_tails_5 18 rfl rfl)
theorem dX8_tails_135 : decode cX8_tails 135 = .ok (.invokevirtual 156, 3) := dk_182 0 156 (dk_at dksX8_tails_5 19 rfl rfl)
theorem dX8_tails_138 : decode cX8_tails 138 = .ok (.return_, 1) := dk_177 (dk_at dksX8_tails_5 22 rfl rfl)
abbrev cX8_ends : ByteArray := prog_29_method_51_code
def yX8_ends : MethodName := ⟨RX8, "ends", "(II)V"⟩
def dkwX8_ends_5 : List UInt8 := [182, 0, 84, 177]
abbrev dktX8_ends_5 : List UInt8 := dkwX8_ends_5 ++ []
def dkwX8_ends_4 : List UInt8 := [180, 0, 7, 27, 7, 184, 0, 35, 46, 158, 0, 7, 4, 167, 0, 4, 3, 100, 79, 42, 27, 16, 8]
abbrev dktX8_ends_4 : List UInt8 := dkwX8_ends_4 ++ dktX8_ends_5
def dkwX8_ends_3 : List UInt8 := [16, 14, 184, 0, 35, 92, 46, 4, 96, 79, 42, 180, 0, 7, 27, 7, 184, 0, 35, 92, 46, 42]
abbrev dktX8_ends_3 : List UInt8 := dkwX8_ends_3 ++ dktX8_ends_4
def dkwX8_ends_2 : List UInt8 := [184, 0, 81, 46, 154, 0, 9, 132, 3, 1, 167, 255, 239, 42, 27, 29, 182, 0, 95, 42, 180, 0, 7, 27]
abbrev dktX8_ends_2 : List UInt8 := dkwX8_ends_2 ++ dktX8_ends_3
def dkwX8_ends_1 : List UInt8 := [16, 6, 182, 0, 84, 177, 42, 27, 182, 0, 110, 153, 0, 77, 3, 62, 42, 180, 0, 7, 27, 29, 7]
abbrev dktX8_ends_1 : List UInt8 := dkwX8_ends_1 ++ dktX8_ends_2
def dkwX8_ends_0 : List UInt8 := [28, 154, 0, 28, 42, 27, 182, 0, 110, 153, 0, 12, 42, 27, 4, 182, 0, 150, 167, 0, 10, 42, 27]
abbrev dktX8_ends_0 : List UInt8 := dkwX8_ends_0 ++ dktX8_ends_1
theorem dksX8_ends_0 : cX8_ends.data.toList.drop 0 = dktX8_ends_0 := by decide +kernel
theorem dksX8_ends_1 : cX8_ends.data.toList.drop 23 = dktX8_ends_1 := dk_seg dksX8_ends_0 23 rfl rfl
theorem dksX8_ends_2 : cX8_ends.data.toList.drop 46 = dktX8_ends_2 := dk_seg dksX8_ends_1 23 rfl rfl
theorem dksX8_ends_3 : cX8_ends.data.toList.drop 70 = dktX8_ends_3 := dk_seg dksX8_ends_2 24 rfl rfl
theorem dksX8_ends_4 : cX8_ends.data.toList.drop 92 = dktX8_ends_4 := dk_seg dksX8_ends_3 22 rfl rfl
theorem dksX8_ends_5 : cX8_ends.data.toList.drop 115 = dktX8_ends_5 := dk_seg dksX8_ends_4 23 rfl rfl
theorem dX8_ends_0 : decode cX8_ends 0 = .ok (.iload_n 2, 1) := dk_28 (dk_at dksX8_ends_0 0 rfl rfl)
theorem dX8_ends_1 : decode cX8_ends 1 = .ok (.ifCond .ne 28, 3) := dk_154 0 28 (dk_at dksX8_ends_0 1 rfl rfl)
theorem dX8_ends_4 : decode cX8_ends 4 = .ok (.aload_n 0, 1) := dk_42 (dk_at dksX8_ends_0 4 rfl rfl)
theorem dX8_ends_5 : decode cX8_ends 5 = .ok (.iload_n 1, 1) := dk_27 (dk_at dksX8_ends_0 5 rfl rfl)
theorem dX8_ends_6 : decode cX8_ends 6 = .ok (.invokevirtual 110, 3) := dk_182 0 110 (dk_at dksX8_ends_0 6 rfl rfl)
theorem dX8_ends_9 : decode cX8_ends 9 = .ok (.ifCond .eq 12, 3) := dk_153 0 12 (dk_at dksX8_ends_0 9 rfl rfl)
theorem dX8_ends_12 : decode cX8_ends 12 = .ok (.aload_n 0, 1) := dk_42 (dk_at dksX8_ends_0 12 rfl rfl)
theorem dX8_ends_13 : decode cX8_ends 13 = .ok (.iload_n 1, 1) := dk_27 (dk_at dksX8_ends_0 13 rfl rfl)
theorem dX8_ends_14 : decode cX8_ends 14 = .ok (.iconst 1, 1) := dk_4 (dk_at dksX8_ends_0 14 rfl rfl)
theorem dX8_ends_15 : decode cX8_ends 15 = .ok (.invokevirtual 150, 3) := dk_182 0 150 (dk_at dksX8_ends_0 15 rfl rfl)
theorem dX8_ends_18 : decode cX8_ends 18 = .ok (.goto 10, 3) := dk_167 0 10 (dk_at dksX8_ends_0 18 rfl rfl)
theorem dX8_ends_21 : decode cX8_ends 21 = .ok (.aload_n 0, 1) := dk_42 (dk_at dksX8_ends_0 21 rfl rfl)
theorem dX8_ends_22 : decode cX8_ends 22 = .ok (.iload_n 1, 1) := dk_27 (dk_at dksX8_ends_0 22 rfl rfl)
theorem dX8_ends_23 : decode cX8_ends 23 = .ok (.bipush 6, 2) := dk_16 6 (dk_at dksX8_ends_1 0 rfl rfl)
theorem dX8_ends_25 : decode cX8_ends 25 = .ok (.invokevirtual 84, 3) := dk_182 0 84 (dk_at dksX8_ends_1 2 rfl rfl)
theorem dX8_ends_28 : decode cX8_ends 28 = .ok (.return_, 1) := dk_177 (dk_at dksX8_ends_1 5 rfl rfl)
theorem dX8_ends_29 : decode cX8_ends 29 = .ok (.aload_n 0, 1) := dk_42 (dk_at dksX8_ends_1 6 rfl rfl)
theorem dX8_ends_30 : decode cX8_ends 30 = .ok (.iload_n 1, 1) := dk_27 (dk_at dksX8_ends_1 7 rfl rfl)
theorem dX8_ends_31 : decode cX8_ends 31 = .ok (.invokevirtual 110, 3) := dk_182 0 110 (dk_at dksX8_ends_1 8 rfl rfl)
theorem dX8_ends_34 : decode cX8_ends 34 = .ok (.ifCond .eq 77, 3) := dk_153 0 77 (dk_at dksX8_ends_1 11 rfl rfl)
theorem dX8_ends_37 : decode cX8_ends 37 = .ok (.iconst 0, 1) := dk_3 (dk_at dksX8_ends_1 14 rfl rfl)
theorem dX8_ends_38 : decode cX8_ends 38 = .ok (.istore_n 3, 1) := dk_62 (dk_at dksX8_ends_1 15 rfl rfl)
theorem dX8_ends_39 : decode cX8_ends 39 = .ok (.aload_n 0, 1) := dk_42 (dk_at dksX8_ends_1 16 rfl rfl)
theorem dX8_ends_40 : decode cX8_ends 40 = .ok (.getfield 7, 3) := dk_180 0 7 (dk_at dksX8_ends_1 17 rfl rfl)
theorem dX8_ends_43 : decode cX8_ends 43 = .ok (.iload_n 1, 1) := dk_27 (dk_at dksX8_ends_1 20 rfl rfl)
theorem dX8_ends_44 : decode cX8_ends 44 = .ok (.iload_n 3, 1) := dk_29 (dk_at dksX8_ends_1 21 rfl rfl)
theorem dX8_ends_45 : decode cX8_ends 45 = .ok (.iconst 4, 1) := dk_7 (dk_at dksX8_ends_1 22 rfl rfl)
theorem dX8_ends_46 : decode cX8_ends 46 = .ok (.invokestatic 81, 3) := dk_184 0 81 (dk_at dksX8_ends_2 0 rfl rfl)
theorem dX8_ends_49 : decode cX8_ends 49 = .ok (.iaload, 1) := dk_46 (dk_at dksX8_ends_2 3 rfl rfl)
theorem dX8_ends_50 : decode cX8_ends 50 = .ok (.ifCond .ne 9, 3) := dk_154 0 9 (dk_at dksX8_ends_2 4 rfl rfl)
theorem dX8_ends_53 : decode cX8_ends 53 = .ok (.iinc 3 1, 3) := dk_132 3 1 (dk_at dksX8_ends_2 7 rfl rfl)
theorem dX8_ends_56 : decode cX8_ends 56 = .ok (.goto (-17), 3) := dk_167 255 239 (dk_at dksX8_ends_2 10 rfl rfl)
theorem dX8_ends_59 : decode cX8_ends 59 = .ok (.aload_n 0, 1) := dk_42 (dk_at dksX8_ends_2 13 rfl rfl)
theorem dX8_ends_60 : decode cX8_ends 60 = .ok (.iload_n 1, 1) := dk_27 (dk_at dksX8_ends_2 14 rfl rfl)
theorem dX8_ends_61 : decode cX8_ends 61 = .ok (.iload_n 3, 1) := dk_29 (dk_at dksX8_ends_2 15 rfl rfl)
theorem dX8_ends_62 : decode cX8_ends 62 = .ok (.invokevirtual 95, 3) := dk_182 0 95 (dk_at dksX8_ends_2 16 rfl rfl)
theorem dX8_ends_65 : decode cX8_ends 65 = .ok (.aload_n 0, 1) := dk_42 (dk_at dksX8_ends_2 19 rfl rfl)
theorem dX8_ends_66 : decode cX8_ends 66 = .ok (.getfield 7, 3) := dk_180 0 7 (dk_at dksX8_ends_2 20 rfl rfl)
theorem dX8_ends_69 : decode cX8_ends 69 = .ok (.iload_n 1, 1) := dk_27 (dk_at dksX8_ends_2 23 rfl rfl)
theorem dX8_ends_70 : decode cX8_ends 70 = .ok (.bipush 14, 2) := dk_16 14 (dk_at dksX8_ends_3 0 rfl rfl)
theorem dX8_ends_72 : decode cX8_ends 72 = .ok (.invokestatic 35, 3) := dk_184 0 35 (dk_at dksX8_ends_3 2 rfl rfl)
theorem dX8_ends_75 : decode cX8_ends 75 = .ok (.dup2, 1) := dk_92 (dk_at dksX8_ends_3 5 rfl rfl)
theorem dX8_ends_76 : decode cX8_ends 76 = .ok (.iaload, 1) := dk_46 (dk_at dksX8_ends_3 6 rfl rfl)
theorem dX8_ends_77 : decode cX8_ends 77 = .ok (.iconst 1, 1) := dk_4 (dk_at dksX8_ends_3 7 rfl rfl)
theorem dX8_ends_78 : decode cX8_ends 78 = .ok (.iadd, 1) := dk_96 (dk_at dksX8_ends_3 8 rfl rfl)
theorem dX8_ends_79 : decode cX8_ends 79 = .ok (.iastore, 1) := dk_79 (dk_at dksX8_ends_3 9 rfl rfl)
theorem dX8_ends_80 : decode cX8_ends 80 = .ok (.aload_n 0, 1) := dk_42 (dk_at dksX8_ends_3 10 rfl rfl)
theorem dX8_ends_81 : decode cX8_ends 81 = .ok (.getfield 7, 3) := dk_180 0 7 (dk_at dksX8_ends_3 11 rfl rfl)
theorem dX8_ends_84 : decode cX8_ends 84 = .ok (.iload_n 1, 1) := dk_27 (dk_at dksX8_ends_3 14 rfl rfl)
theorem dX8_ends_85 : decode cX8_ends 85 = .ok (.iconst 4, 1) := dk_7 (dk_at dksX8_ends_3 15 rfl rfl)
theorem dX8_ends_86 : decode cX8_ends 86 = .ok (.invokestatic 35, 3) := dk_184 0 35 (dk_at dksX8_ends_3 16 rfl rfl)
theorem dX8_ends_89 : decode cX8_ends 89 = .ok (.dup2, 1) := dk_92 (dk_at dksX8_ends_3 19 rfl rfl)
theorem dX8_ends_90 : decode cX8_ends 90 = .ok (.iaload, 1) := dk_46 (dk_at dksX8_ends_3 20 rfl rfl)
theorem dX8_ends_91 : decode cX8_ends 91 = .ok (.aload_n 0, 1) := dk_42 (dk_at dksX8_ends_3 21 rfl rfl)
theorem dX8_ends_92 : decode cX8_ends 92 = .ok (.getfield 7, 3) := dk_180 0 7 (dk_at dksX8_ends_4 0 rfl rfl)
theorem dX8_ends_95 : decode cX8_ends 95 = .ok (.iload_n 1, 1) := dk_27 (dk_at dksX8_ends_4 3 rfl rfl)
theorem dX8_ends_96 : decode cX8_ends 96 = .ok (.iconst 4, 1) := dk_7 (dk_at dksX8_ends_4 4 rfl rfl)
theorem dX8_ends_97 : decode cX8_ends 97 = .ok (.invokestatic 35, 3) := dk_184 0 35 (dk_at dksX8_ends_4 5 rfl rfl)
theorem dX8_ends_100 : decode cX8_ends 100 = .ok (.iaload, 1) := dk_46 (dk_at dksX8_ends_4 8 rfl rfl)
theorem dX8_ends_101 : decode cX8_ends 101 = .ok (.ifCond .le 7, 3) := dk_158 0 7 (dk_at dksX8_ends_4 9 rfl rfl)
theorem dX8_ends_104 : decode cX8_ends 104 = .ok (.iconst 1, 1) := dk_4 (dk_at dksX8_ends_4 12 rfl rfl)
theorem dX8_ends_105 : decode cX8_ends 105 = .ok (.goto 4, 3) := dk_167 0 4 (dk_at dksX8_ends_4 13 rfl rfl)
theorem dX8_ends_108 : decode cX8_ends 108 = .ok (.iconst 0, 1) := dk_3 (dk_at dksX8_ends_4 16 rfl rfl)
theorem dX8_ends_109 : decode cX8_ends 109 = .ok (.isub, 1) := dk_100 (dk_at dksX8_ends_4 17 rfl rfl)
theorem dX8_ends_110 : decode cX8_ends 110 = .ok (.iastore, 1) := dk_79 (dk_at dksX8_ends_4 18 rfl rfl)
theorem dX8_ends_111 : decode cX8_ends 111 = .ok (.aload_n 0, 1) := dk_42 (dk_at dksX8_ends_4 19 rfl rfl)
theorem dX8_ends_112 : decode cX8_ends 112 = .ok (.iload_n 1, 1) := dk_27 (dk_at dksX8_ends_4 20 rfl rfl)
theorem dX8_ends_113 : decode cX8_ends 113 = .ok (.bipush 8, 2) := dk_16 8 (dk_at dksX8_ends_4 21 rfl rfl)
theorem dX8_ends_115 : decode cX8_ends 115 = .ok (.invokevirtual 84, 3) := dk_182 0 84 (dk_at dksX8_ends_5 0 rfl rfl)
theorem dX8_ends_118 : decode cX8_ends 118 = .ok (.return_, 1) := dk_177 (dk_at dksX8_ends_5 3 rfl rfl)
abbrev cX8_accepts : ByteArray := prog_29_method_52_code
def yX8_accepts : MethodName := ⟨RX8, "accepts", "(I)V"⟩
def dkwX8_accepts_13 : List UInt8 := [177]
abbrev dktX8_accepts_13 : List UInt8 := dkwX8_accepts_13 ++ []
def dkwX8_accepts_12 : List UInt8 := [27, 182, 0, 98, 104, 182, 0, 101, 79, 42, 180, 0, 7, 27, 16, 24, 184, 0, 35, 92, 46, 4, 96, 79]
abbrev dktX8_accepts_12 : List UInt8 := dkwX8_accepts_12 ++ dktX8_accepts_13
def dkwX8_accepts_11 : List UInt8 := [27, 21, 6, 6, 184, 0, 159, 21, 4, 4, 160, 0, 7, 3, 167, 0, 18, 42, 27, 16, 19, 16, 8, 42]
abbrev dktX8_accepts_11 : List UInt8 := dkwX8_accepts_11 ++ dktX8_accepts_12
def dkwX8_accepts_10 : List UInt8 := [21, 4, 79, 42, 180, 0, 7, 27, 21, 6, 5, 184, 0, 159, 42, 27, 182, 0, 98, 79, 42, 180, 0, 7]
abbrev dktX8_accepts_10 : List UInt8 := dkwX8_accepts_10 ++ dktX8_accepts_11
def dkwX8_accepts_9 : List UInt8 := [180, 0, 7, 27, 21, 6, 3, 184, 0, 159, 29, 79, 42, 180, 0, 7, 27, 21, 6, 4, 184, 0, 159]
abbrev dktX8_accepts_9 : List UInt8 := dkwX8_accepts_9 ++ dktX8_accepts_10
def dkwX8_accepts_8 : List UInt8 := [16, 6, 160, 0, 19, 42, 180, 0, 7, 27, 16, 15, 184, 0, 35, 92, 46, 4, 96, 79, 177, 42]
abbrev dktX8_accepts_8 : List UInt8 := dkwX8_accepts_8 ++ dktX8_accepts_9
def dkwX8_accepts_7 : List UInt8 := [184, 0, 70, 46, 182, 0, 91, 177, 42, 180, 0, 7, 27, 16, 24, 184, 0, 35, 46, 54, 6, 21, 6]
abbrev dktX8_accepts_7 : List UInt8 := dkwX8_accepts_7 ++ dktX8_accepts_8
def dkwX8_accepts_6 : List UInt8 := [42, 27, 29, 3, 42, 180, 0, 7, 27, 21, 5, 4, 184, 0, 70, 46, 42, 180, 0, 7, 27, 21, 5, 5]
abbrev dktX8_accepts_6 : List UInt8 := dkwX8_accepts_6 ++ dktX8_accepts_7
def dkwX8_accepts_5 : List UInt8 := [27, 29, 182, 0, 74, 167, 0, 4, 2, 54, 5, 21, 5, 155, 0, 43, 42, 27, 182, 0, 88, 153, 0, 34]
abbrev dktX8_accepts_5 : List UInt8 := dkwX8_accepts_5 ++ dktX8_accepts_6
def dkwX8_accepts_4 : List UInt8 := [153, 0, 4, 177, 42, 180, 0, 7, 27, 16, 102, 184, 0, 35, 46, 54, 4, 21, 4, 4, 160, 0, 12, 42]
abbrev dktX8_accepts_4 : List UInt8 := dkwX8_accepts_4 ++ dktX8_accepts_5
def dkwX8_accepts_3 : List UInt8 := [180, 0, 7, 27, 16, 17, 184, 0, 35, 46, 130, 42, 180, 0, 7, 27, 16, 16, 184, 0, 35, 46, 126]
abbrev dktX8_accepts_3 : List UInt8 := dkwX8_accepts_3 ++ dktX8_accepts_4
def dkwX8_accepts_2 : List UInt8 := [28, 158, 0, 9, 28, 4, 100, 167, 0, 4, 3, 79, 42, 27, 4, 16, 11, 182, 0, 101, 62, 29, 42]
abbrev dktX8_accepts_2 : List UInt8 := dkwX8_accepts_2 ++ dktX8_accepts_3
def dkwX8_accepts_1 : List UInt8 := [180, 0, 7, 17, 4, 1, 46, 161, 0, 17, 42, 180, 0, 7, 17, 4, 1, 46, 16, 8, 100, 167, 0, 14]
abbrev dktX8_accepts_1 : List UInt8 := dkwX8_accepts_1 ++ dktX8_accepts_2
def dkwX8_accepts_0 : List UInt8 := [42, 180, 0, 7, 27, 8, 184, 0, 35, 46, 61, 42, 180, 0, 7, 27, 8, 184, 0, 35, 28, 42]
abbrev dktX8_accepts_0 : List UInt8 := dkwX8_accepts_0 ++ dktX8_accepts_1
theorem dksX8_accepts_0 : cX8_accepts.data.toList.drop 0 = dktX8_accepts_0 := by decide +kernel
theorem dksX8_accepts_1 : cX8_accepts.data.toList.drop 22 = dktX8_accepts_1 := dk_seg dksX8_accepts_0 22 rfl rfl
theorem dksX8_accepts_2 : cX8_accepts.data.toList.drop 46 = dktX8_accepts_2 := dk_seg dksX8_accepts_1 24 rfl rfl
theorem dksX8_accepts_3 : cX8_accepts.data.toList.drop 69 = dktX8_accepts_3 := dk_seg dksX8_accepts_2 23 rfl rfl
theorem dksX8_accepts_4 : cX8_accepts.data.toList.drop 92 = dktX8_accepts_4 := dk_seg dksX8_accepts_3 23 rfl rfl
theorem dksX8_accepts_5 : cX8_accepts.data.toList.drop 116 = dktX8_accepts_5 := dk_seg dksX8_accepts_4 24 rfl rfl
theorem dksX8_accepts_6 : cX8_accepts.data.toList.drop 140 = dktX8_accepts_6 := dk_seg dksX8_accepts_5 24 rfl rfl
theorem dksX8_accepts_7 : cX8_accepts.data.toList.drop 164 = dktX8_accepts_7 := dk_seg dksX8_accepts_6 24 rfl rfl
theorem dksX8_accepts_8 : cX8_accepts.data.toList.drop 187 = dktX8_accepts_8 := dk_seg dksX8_accepts_7 23 rfl rfl
theorem dksX8_accepts_9 : cX8_accepts.data.toList.drop 209 = dktX8_accepts_9 := dk_seg dksX8_accepts_8 22 rfl rfl
theorem dksX8_accepts_10 : cX8_accepts.data.toList.drop 232 = dktX8_accepts_10 := dk_seg dksX8_accepts_9 23 rfl rfl
theorem dksX8_accepts_11 : cX8_accepts.data.toList.drop 256 = dktX8_accepts_11 := dk_seg dksX8_accepts_10 24 rfl rfl
theorem dksX8_accepts_12 : cX8_accepts.data.toList.drop 280 = dktX8_accepts_12 := dk_seg dksX8_accepts_11 24 rfl rfl
theorem dksX8_accepts_13 : cX8_accepts.data.toList.drop 304 = dktX8_accepts_13 := dk_seg dksX8_accepts_12 24 rfl rfl
theorem dX8_accepts_0 : decode cX8_accepts 0 = .ok (.aload_n 0, 1) := dk_42 (dk_at dksX8_accepts_0 0 rfl rfl)
theorem dX8_accepts_1 : decode cX8_accepts 1 = .ok (.getfield 7, 3) := dk_180 0 7 (dk_at dksX8_accepts_0 1 rfl rfl)
theorem dX8_accepts_4 : decode cX8_accepts 4 = .ok (.iload_n 1, 1) := dk_27 (dk_at dksX8_accepts_0 4 rfl rfl)
theorem dX8_accepts_5 : decode cX8_accepts 5 = .ok (.iconst 5, 1) := dk_8 (dk_at dksX8_accepts_0 5 rfl rfl)
theorem dX8_accepts_6 : decode cX8_accepts 6 = .ok (.invokestatic 35, 3) := dk_184 0 35 (dk_at dksX8_accepts_0 6 rfl rfl)
theorem dX8_accepts_9 : decode cX8_accepts 9 = .ok (.iaload, 1) := dk_46 (dk_at dksX8_accepts_0 9 rfl rfl)
theorem dX8_accepts_10 : decode cX8_accepts 10 = .ok (.istore_n 2, 1) := dk_61 (dk_at dksX8_accepts_0 10 rfl rfl)
theorem dX8_accepts_11 : decode cX8_accepts 11 = .ok (.aload_n 0, 1) := dk_42 (dk_at dksX8_accepts_0 11 rfl rfl)
theorem dX8_accepts_12 : decode cX8_accepts 12 = .ok (.getfield 7, 3) := dk_180 0 7 (dk_at dksX8_accepts_0 12 rfl rfl)
theorem dX8_accepts_15 : decode cX8_accepts 15 = .ok (.iload_n 1, 1) := dk_27 (dk_at dksX8_accepts_0 15 rfl rfl)
theorem dX8_accepts_16 : decode cX8_accepts 16 = .ok (.iconst 5, 1) := dk_8 (dk_at dksX8_accepts_0 16 rfl rfl)
theorem dX8_accepts_17 : decode cX8_accepts 17 = .ok (.invokestatic 35, 3) := dk_184 0 35 (dk_at dksX8_accepts_0 17 rfl rfl)
theorem dX8_accepts_20 : decode cX8_accepts 20 = .ok (.iload_n 2, 1) := dk_28 (dk_at dksX8_accepts_0 20 rfl rfl)
theorem dX8_accepts_21 : decode cX8_accepts 21 = .ok (.aload_n 0, 1) := dk_42 (dk_at dksX8_accepts_0 21 rfl rfl)
theorem dX8_accepts_22 : decode cX8_accepts 22 = .ok (.getfield 7, 3) := dk_180 0 7 (dk_at dksX8_accepts_1 0 rfl rfl)
theorem dX8_accepts_25 : decode cX8_accepts 25 = .ok (.sipush 1025, 3) := dk_17 4 1 (dk_at dksX8_accepts_1 3 rfl rfl)
theorem dX8_accepts_28 : decode cX8_accepts 28 = .ok (.iaload, 1) := dk_46 (dk_at dksX8_accepts_1 6 rfl rfl)
theorem dX8_accepts_29 : decode cX8_accepts 29 = .ok (.if_icmp .lt 17, 3) := dk_161 0 17 (dk_at dksX8_accepts_1 7 rfl rfl)
theorem dX8_accepts_32 : decode cX8_accepts 32 = .ok (.aload_n 0, 1) := dk_42 (dk_at dksX8_accepts_1 10 rfl rfl)
theorem dX8_accepts_33 : decode cX8_accepts 33 = .ok (.getfield 7, 3) := dk_180 0 7 (dk_at dksX8_accepts_1 11 rfl rfl)
theorem dX8_accepts_36 : decode cX8_accepts 36 = .ok (.sipush 1025, 3) := dk_17 4 1 (dk_at dksX8_accepts_1 14 rfl rfl)
theorem dX8_accepts_39 : decode cX8_accepts 39 = .ok (.iaload, 1) := dk_46 (dk_at dksX8_accepts_1 17 rfl rfl)
theorem dX8_accepts_40 : decode cX8_accepts 40 = .ok (.bipush 8, 2) := dk_16 8 (dk_at dksX8_accepts_1 18 rfl rfl)
theorem dX8_accepts_42 : decode cX8_accepts 42 = .ok (.isub, 1) := dk_100 (dk_at dksX8_accepts_1 20 rfl rfl)
theorem dX8_accepts_43 : decode cX8_accepts 43 = .ok (.goto 14, 3) := dk_167 0 14 (dk_at dksX8_accepts_1 21 rfl rfl)
theorem dX8_accepts_46 : decode cX8_accepts 46 = .ok (.iload_n 2, 1) := dk_28 (dk_at dksX8_accepts_2 0 rfl rfl)
theorem dX8_accepts_47 : decode cX8_accepts 47 = .ok (.ifCond .le 9, 3) := dk_158 0 9 (dk_at dksX8_accepts_2 1 rfl rfl)
theorem dX8_accepts_50 : decode cX8_accepts 50 = .ok (.iload_n 2, 1) := dk_28 (dk_at dksX8_accepts_2 4 rfl rfl)
theorem dX8_accepts_51 : decode cX8_accepts 51 = .ok (.iconst 1, 1) := dk_4 (dk_at dksX8_accepts_2 5 rfl rfl)
theorem dX8_accepts_52 : decode cX8_accepts 52 = .ok (.isub, 1) := dk_100 (dk_at dksX8_accepts_2 6 rfl rfl)
theorem dX8_accepts_53 : decode cX8_accepts 53 = .ok (.goto 4, 3) := dk_167 0 4 (dk_at dksX8_accepts_2 7 rfl rfl)
theorem dX8_accepts_56 : decode cX8_accepts 56 = .ok (.iconst 0, 1) := dk_3 (dk_at dksX8_accepts_2 10 rfl rfl)
theorem dX8_accepts_57 : decode cX8_accepts 57 = .ok (.iastore, 1) := dk_79 (dk_at dksX8_accepts_2 11 rfl rfl)
theorem dX8_accepts_58 : decode cX8_accepts 58 = .ok (.aload_n 0, 1) := dk_42 (dk_at dksX8_accepts_2 12 rfl rfl)
theorem dX8_accepts_59 : decode cX8_accepts 59 = .ok (.iload_n 1, 1) := dk_27 (dk_at dksX8_accepts_2 13 rfl rfl)
theorem dX8_accepts_60 : decode cX8_accepts 60 = .ok (.iconst 1, 1) := dk_4 (dk_at dksX8_accepts_2 14 rfl rfl)
theorem dX8_accepts_61 : decode cX8_accepts 61 = .ok (.bipush 11, 2) := dk_16 11 (dk_at dksX8_accepts_2 15 rfl rfl)
theorem dX8_accepts_63 : decode cX8_accepts 63 = .ok (.invokevirtual 101, 3) := dk_182 0 101 (dk_at dksX8_accepts_2 17 rfl rfl)
theorem dX8_accepts_66 : decode cX8_accepts 66 = .ok (.istore_n 3, 1) := dk_62 (dk_at dksX8_accepts_2 20 rfl rfl)
theorem dX8_accepts_67 : decode cX8_accepts 67 = .ok (.iload_n 3, 1) := dk_29 (dk_at dksX8_accepts_2 21 rfl rfl)
theorem dX8_accepts_68 : decode cX8_accepts 68 = .ok (.aload_n 0, 1) := dk_42 (dk_at dksX8_accepts_2 22 rfl rfl)
theorem dX8_accepts_69 : decode cX8_accepts 69 = .ok (.getfield 7, 3) := dk_180 0 7 (dk_at dksX8_accepts_3 0 rfl rfl)
theorem dX8_accepts_72 : decode cX8_accepts 72 = .ok (.iload_n 1, 1) := dk_27 (dk_at dksX8_accepts_3 3 rfl rfl)
theorem dX8_accepts_73 : decode cX8_accepts 73 = .ok (.bipush 17, 2) := dk_16 17 (dk_at dksX8_accepts_3 4 rfl rfl)
theorem dX8_accepts_75 : decode cX8_accepts 75 = .ok (.invokestatic 35, 3) := dk_184 0 35 (dk_at dksX8_accepts_3 6 rfl rfl)
theorem dX8_accepts_78 : decode cX8_accepts 78 = .ok (.iaload, 1) := dk_46 (dk_at dksX8_accepts_3 9 rfl rfl)
theorem dX8_accepts_79 : decode cX8_accepts 79 = .ok (.ixor, 1) := dk_130 (dk_at dksX8_accepts_3 10 rfl rfl)
theorem dX8_accepts_80 : decode cX8_accepts 80 = .ok (.aload_n 0, 1) := dk_42 (dk_at dksX8_accepts_3 11 rfl rfl)
theorem dX8_accepts_81 : decode cX8_accepts 81 = .ok (.getfield 7, 3) := dk_180 0 7 (dk_at dksX8_accepts_3 12 rfl rfl)
theorem dX8_accepts_84 : decode cX8_accepts 84 = .ok (.iload_n 1, 1) := dk_27 (dk_at dksX8_accepts_3 15 rfl rfl)
theorem dX8_accepts_85 : decode cX8_accepts 85 = .ok (.bipush 16, 2) := dk_16 16 (dk_at dksX8_accepts_3 16 rfl rfl)
theorem dX8_accepts_87 : decode cX8_accepts 87 = .ok (.invokestatic 35, 3) := dk_184 0 35 (dk_at dksX8_accepts_3 18 rfl rfl)
theorem dX8_accepts_90 : decode cX8_accepts 90 = .ok (.iaload, 1) := dk_46 (dk_at dksX8_accepts_3 21 rfl rfl)
theorem dX8_accepts_91 : decode cX8_accepts 91 = .ok (.iand, 1) := dk_126 (dk_at dksX8_accepts_3 22 rfl rfl)
theorem dX8_accepts_92 : decode cX8_accepts 92 = .ok (.ifCond .eq 4, 3) := dk_153 0 4 (dk_at dksX8_accepts_4 0 rfl rfl)
theorem dX8_accepts_95 : decode cX8_accepts 95 = .ok (.return_, 1) := dk_177 (dk_at dksX8_accepts_4 3 rfl rfl)
theorem dX8_accepts_96 : decode cX8_accepts 96 = .ok (.aload_n 0, 1) := dk_42 (dk_at dksX8_accepts_4 4 rfl rfl)
theorem dX8_accepts_97 : decode cX8_accepts 97 = .ok (.getfield 7, 3) := dk_180 0 7 (dk_at dksX8_accepts_4 5 rfl rfl)
theorem dX8_accepts_100 : decode cX8_accepts 100 = .ok (.iload_n 1, 1) := dk_27 (dk_at dksX8_accepts_4 8 rfl rfl)
theorem dX8_accepts_101 : decode cX8_accepts 101 = .ok (.bipush 102, 2) := dk_16 102 (dk_at dksX8_accepts_4 9 rfl rfl)
theorem dX8_accepts_103 : decode cX8_accepts 103 = .ok (.invokestatic 35, 3) := dk_184 0 35 (dk_at dksX8_accepts_4 11 rfl rfl)
theorem dX8_accepts_106 : decode cX8_accepts 106 = .ok (.iaload, 1) := dk_46 (dk_at dksX8_accepts_4 14 rfl rfl)
theorem dX8_accepts_107 : decode cX8_accepts 107 = .ok (.istore 4, 2) := dk_54 4 (dk_at dksX8_accepts_4 15 rfl rfl)
theorem dX8_accepts_109 : decode cX8_accepts 109 = .ok (.iload 4, 2) := dk_21 4 (dk_at dksX8_accepts_4 17 rfl rfl)
theorem dX8_accepts_111 : decode cX8_accepts 111 = .ok (.iconst 1, 1) := dk_4 (dk_at dksX8_accepts_4 19 rfl rfl)
theorem dX8_accepts_112 : decode cX8_accepts 112 = .ok (.if_icmp .ne 12, 3) := dk_160 0 12 (dk_at dksX8_accepts_4 20 rfl rfl)
theorem dX8_accepts_115 : decode cX8_accepts 115 = .ok (.aload_n 0, 1) := dk_42 (dk_at dksX8_accepts_4 23 rfl rfl)
theorem dX8_accepts_116 : decode cX8_accepts 116 = .ok (.iload_n 1, 1) := dk_27 (dk_at dksX8_accepts_5 0 rfl rfl)
theorem dX8_accepts_117 : decode cX8_accepts 117 = .ok (.iload_n 3, 1) := dk_29 (dk_at dksX8_accepts_5 1 rfl rfl)
theorem dX8_accepts_118 : decode cX8_accepts 118 = .ok (.invokevirtual 74, 3) := dk_182 0 74 (dk_at dksX8_accepts_5 2 rfl rfl)
theorem dX8_accepts_121 : decode cX8_accepts 121 = .ok (.goto 4, 3) := dk_167 0 4 (dk_at dksX8_accepts_5 5 rfl rfl)
theorem dX8_accepts_124 : decode cX8_accepts 124 = .ok (.iconst (-1), 1) := dk_2 (dk_at dksX8_accepts_5 8 rfl rfl)
theorem dX8_accepts_125 : decode cX8_accepts 125 = .ok (.istore 5, 2) := dk_54 5 (dk_at dksX8_accepts_5 9 rfl rfl)
theorem dX8_accepts_127 : decode cX8_accepts 127 = .ok (.iload 5, 2) := dk_21 5 (dk_at dksX8_accepts_5 11 rfl rfl)
theorem dX8_accepts_129 : decode cX8_accepts 129 = .ok (.ifCond .lt 43, 3) := dk_155 0 43 (dk_at dksX8_accepts_5 13 rfl rfl)
theorem dX8_accepts_132 : decode cX8_accepts 132 = .ok (.aload_n 0, 1) := dk_42 (dk_at dksX8_accepts_5 16 rfl rfl)
theorem dX8_accepts_133 : decode cX8_accepts 133 = .ok (.iload_n 1, 1) := dk_27 (dk_at dksX8_accepts_5 17 rfl rfl)
theorem dX8_accepts_134 : decode cX8_accepts 134 = .ok (.invokevirtual 88, 3) := dk_182 0 88 (dk_at dksX8_accepts_5 18 rfl rfl)
theorem dX8_accepts_137 : decode cX8_accepts 137 = .ok (.ifCond .eq 34, 3) := dk_153 0 34 (dk_at dksX8_accepts_5 21 rfl rfl)
theorem dX8_accepts_140 : decode cX8_accepts 140 = .ok (.aload_n 0, 1) := dk_42 (dk_at dksX8_accepts_6 0 rfl rfl)
theorem dX8_accepts_141 : decode cX8_accepts 141 = .ok (.iload_n 1, 1) := dk_27 (dk_at dksX8_accepts_6 1 rfl rfl)
theorem dX8_accepts_142 : decode cX8_accepts 142 = .ok (.iload_n 3, 1) := dk_29 (dk_at dksX8_accepts_6 2 rfl rfl)
theorem dX8_accepts_143 : decode cX8_accepts 143 = .ok (.iconst 0, 1) := dk_3 (dk_at dksX8_accepts_6 3 rfl rfl)
theorem dX8_accepts_144 : decode cX8_accepts 144 = .ok (.aload_n 0, 1) := dk_42 (dk_at dksX8_accepts_6 4 rfl rfl)
theorem dX8_accepts_145 : decode cX8_accepts 145 = .ok (.getfield 7, 3) := dk_180 0 7 (dk_at dksX8_accepts_6 5 rfl rfl)
theorem dX8_accepts_148 : decode cX8_accepts 148 = .ok (.iload_n 1, 1) := dk_27 (dk_at dksX8_accepts_6 8 rfl rfl)
theorem dX8_accepts_149 : decode cX8_accepts 149 = .ok (.iload 5, 2) := dk_21 5 (dk_at dksX8_accepts_6 9 rfl rfl)
theorem dX8_accepts_151 : decode cX8_accepts 151 = .ok (.iconst 1, 1) := dk_4 (dk_at dksX8_accepts_6 11 rfl rfl)
theorem dX8_accepts_152 : decode cX8_accepts 152 = .ok (.invokestatic 70, 3) := dk_184 0 70 (dk_at dksX8_accepts_6 12 rfl rfl)
theorem dX8_accepts_155 : decode cX8_accepts 155 = .ok (.iaload, 1) := dk_46 (dk_at dksX8_accepts_6 15 rfl rfl)
theorem dX8_accepts_156 : decode cX8_accepts 156 = .ok (.aload_n 0, 1) := dk_42 (dk_at dksX8_accepts_6 16 rfl rfl)
theorem dX8_accepts_157 : decode cX8_accepts 157 = .ok (.getfield 7, 3) := dk_180 0 7 (dk_at dksX8_accepts_6 17 rfl rfl)
theorem dX8_accepts_160 : decode cX8_accepts 160 = .ok (.iload_n 1, 1) := dk_27 (dk_at dksX8_accepts_6 20 rfl rfl)
theorem dX8_accepts_161 : decode cX8_accepts 161 = .ok (.iload 5, 2) := dk_21 5 (dk_at dksX8_accepts_6 21 rfl rfl)
theorem dX8_accepts_163 : decode cX8_accepts 163 = .ok (.iconst 2, 1) := dk_5 (dk_at dksX8_accepts_6 23 rfl rfl)
theorem dX8_accepts_164 : decode cX8_accepts 164 = .ok (.invokestatic 70, 3) := dk_184 0 70 (dk_at dksX8_accepts_7 0 rfl rfl)
theorem dX8_accepts_167 : decode cX8_accepts 167 = .ok (.iaload, 1) := dk_46 (dk_at dksX8_accepts_7 3 rfl rfl)
theorem dX8_accepts_168 : decode cX8_accepts 168 = .ok (.invokevirtual 91, 3) := dk_182 0 91 (dk_at dksX8_accepts_7 4 rfl rfl)
theorem dX8_accepts_171 : decode cX8_accepts 171 = .ok (.return_, 1) := dk_177 (dk_at dksX8_accepts_7 7 rfl rfl)
theorem dX8_accepts_172 : decode cX8_accepts 172 = .ok (.aload_n 0, 1) := dk_42 (dk_at dksX8_accepts_7 8 rfl rfl)
theorem dX8_accepts_173 : decode cX8_accepts 173 = .ok (.getfield 7, 3) := dk_180 0 7 (dk_at dksX8_accepts_7 9 rfl rfl)
theorem dX8_accepts_176 : decode cX8_accepts 176 = .ok (.iload_n 1, 1) := dk_27 (dk_at dksX8_accepts_7 12 rfl rfl)
theorem dX8_accepts_177 : decode cX8_accepts 177 = .ok (.bipush 24, 2) := dk_16 24 (dk_at dksX8_accepts_7 13 rfl rfl)
theorem dX8_accepts_179 : decode cX8_accepts 179 = .ok (.invokestatic 35, 3) := dk_184 0 35 (dk_at dksX8_accepts_7 15 rfl rfl)
theorem dX8_accepts_182 : decode cX8_accepts 182 = .ok (.iaload, 1) := dk_46 (dk_at dksX8_accepts_7 18 rfl rfl)
theorem dX8_accepts_183 : decode cX8_accepts 183 = .ok (.istore 6, 2) := dk_54 6 (dk_at dksX8_accepts_7 19 rfl rfl)
theorem dX8_accepts_185 : decode cX8_accepts 185 = .ok (.iload 6, 2) := dk_21 6 (dk_at dksX8_accepts_7 21 rfl rfl)
theorem dX8_accepts_187 : decode cX8_accepts 187 = .ok (.bipush 6, 2) := dk_16 6 (dk_at dksX8_accepts_8 0 rfl rfl)
theorem dX8_accepts_189 : decode cX8_accepts 189 = .ok (.if_icmp .ne 19, 3) := dk_160 0 19 (dk_at dksX8_accepts_8 2 rfl rfl)
theorem dX8_accepts_192 : decode cX8_accepts 192 = .ok (.aload_n 0, 1) := dk_42 (dk_at dksX8_accepts_8 5 rfl rfl)
theorem dX8_accepts_193 : decode cX8_accepts 193 = .ok (.getfield 7, 3) := dk_180 0 7 (dk_at dksX8_accepts_8 6 rfl rfl)
theorem dX8_accepts_196 : decode cX8_accepts 196 = .ok (.iload_n 1, 1) := dk_27 (dk_at dksX8_accepts_8 9 rfl rfl)
theorem dX8_accepts_197 : decode cX8_accepts 197 = .ok (.bipush 15, 2) := dk_16 15 (dk_at dksX8_accepts_8 10 rfl rfl)
theorem dX8_accepts_199 : decode cX8_accepts 199 = .ok (.invokestatic 35, 3) := dk_184 0 35 (dk_at dksX8_accepts_8 12 rfl rfl)
theorem dX8_accepts_202 : decode cX8_accepts 202 = .ok (.dup2, 1) := dk_92 (dk_at dksX8_accepts_8 15 rfl rfl)
theorem dX8_accepts_203 : decode cX8_accepts 203 = .ok (.iaload, 1) := dk_46 (dk_at dksX8_accepts_8 16 rfl rfl)
theorem dX8_accepts_204 : decode cX8_accepts 204 = .ok (.iconst 1, 1) := dk_4 (dk_at dksX8_accepts_8 17 rfl rfl)
theorem dX8_accepts_205 : decode cX8_accepts 205 = .ok (.iadd, 1) := dk_96 (dk_at dksX8_accepts_8 18 rfl rfl)
theorem dX8_accepts_206 : decode cX8_accepts 206 = .ok (.iastore, 1) := dk_79 (dk_at dksX8_accepts_8 19 rfl rfl)
theorem dX8_accepts_207 : decode cX8_accepts 207 = .ok (.return_, 1) := dk_177 (dk_at dksX8_accepts_8 20 rfl rfl)
theorem dX8_accepts_208 : decode cX8_accepts 208 = .ok (.aload_n 0, 1) := dk_42 (dk_at dksX8_accepts_8 21 rfl rfl)
theorem dX8_accepts_209 : decode cX8_accepts 209 = .ok (.getfield 7, 3) := dk_180 0 7 (dk_at dksX8_accepts_9 0 rfl rfl)
theorem dX8_accepts_212 : decode cX8_accepts 212 = .ok (.iload_n 1, 1) := dk_27 (dk_at dksX8_accepts_9 3 rfl rfl)
theorem dX8_accepts_213 : decode cX8_accepts 213 = .ok (.iload 6, 2) := dk_21 6 (dk_at dksX8_accepts_9 4 rfl rfl)
theorem dX8_accepts_215 : decode cX8_accepts 215 = .ok (.iconst 0, 1) := dk_3 (dk_at dksX8_accepts_9 6 rfl rfl)
theorem dX8_accepts_216 : decode cX8_accepts 216 = .ok (.invokestatic 159, 3) := dk_184 0 159 (dk_at dksX8_accepts_9 7 rfl rfl)
theorem dX8_accepts_219 : decode cX8_accepts 219 = .ok (.iload_n 3, 1) := dk_29 (dk_at dksX8_accepts_9 10 rfl rfl)
theorem dX8_accepts_220 : decode cX8_accepts 220 = .ok (.iastore, 1) := dk_79 (dk_at dksX8_accepts_9 11 rfl rfl)
theorem dX8_accepts_221 : decode cX8_accepts 221 = .ok (.aload_n 0, 1) := dk_42 (dk_at dksX8_accepts_9 12 rfl rfl)
theorem dX8_accepts_222 : decode cX8_accepts 222 = .ok (.getfield 7, 3) := dk_180 0 7 (dk_at dksX8_accepts_9 13 rfl rfl)
theorem dX8_accepts_225 : decode cX8_accepts 225 = .ok (.iload_n 1, 1) := dk_27 (dk_at dksX8_accepts_9 16 rfl rfl)
theorem dX8_accepts_226 : decode cX8_accepts 226 = .ok (.iload 6, 2) := dk_21 6 (dk_at dksX8_accepts_9 17 rfl rfl)
theorem dX8_accepts_228 : decode cX8_accepts 228 = .ok (.iconst 1, 1) := dk_4 (dk_at dksX8_accepts_9 19 rfl rfl)
theorem dX8_accepts_229 : decode cX8_accepts 229 = .ok (.invokestatic 159, 3) := dk_184 0 159 (dk_at dksX8_accepts_9 20 rfl rfl)
theorem dX8_accepts_232 : decode cX8_accepts 232 = .ok (.iload 4, 2) := dk_21 4 (dk_at dksX8_accepts_10 0 rfl rfl)
theorem dX8_accepts_234 : decode cX8_accepts 234 = .ok (.iastore, 1) := dk_79 (dk_at dksX8_accepts_10 2 rfl rfl)
theorem dX8_accepts_235 : decode cX8_accepts 235 = .ok (.aload_n 0, 1) := dk_42 (dk_at dksX8_accepts_10 3 rfl rfl)
theorem dX8_accepts_236 : decode cX8_accepts 236 = .ok (.getfield 7, 3) := dk_180 0 7 (dk_at dksX8_accepts_10 4 rfl rfl)
theorem dX8_accepts_239 : decode cX8_accepts 239 = .ok (.iload_n 1, 1) := dk_27 (dk_at dksX8_accepts_10 7 rfl rfl)
theorem dX8_accepts_240 : decode cX8_accepts 240 = .ok (.iload 6, 2) := dk_21 6 (dk_at dksX8_accepts_10 8 rfl rfl)
theorem dX8_accepts_242 : decode cX8_accepts 242 = .ok (.iconst 2, 1) := dk_5 (dk_at dksX8_accepts_10 10 rfl rfl)
theorem dX8_accepts_243 : decode cX8_accepts 243 = .ok (.invokestatic 159, 3) := dk_184 0 159 (dk_at dksX8_accepts_10 11 rfl rfl)
theorem dX8_accepts_246 : decode cX8_accepts 246 = .ok (.aload_n 0, 1) := dk_42 (dk_at dksX8_accepts_10 14 rfl rfl)
theorem dX8_accepts_247 : decode cX8_accepts 247 = .ok (.iload_n 1, 1) := dk_27 (dk_at dksX8_accepts_10 15 rfl rfl)
theorem dX8_accepts_248 : decode cX8_accepts 248 = .ok (.invokevirtual 98, 3) := dk_182 0 98 (dk_at dksX8_accepts_10 16 rfl rfl)
theorem dX8_accepts_251 : decode cX8_accepts 251 = .ok (.iastore, 1) := dk_79 (dk_at dksX8_accepts_10 19 rfl rfl)
theorem dX8_accepts_252 : decode cX8_accepts 252 = .ok (.aload_n 0, 1) := dk_42 (dk_at dksX8_accepts_10 20 rfl rfl)
theorem dX8_accepts_253 : decode cX8_accepts 253 = .ok (.getfield 7, 3) := dk_180 0 7 (dk_at dksX8_accepts_10 21 rfl rfl)
theorem dX8_accepts_256 : decode cX8_accepts 256 = .ok (.iload_n 1, 1) := dk_27 (dk_at dksX8_accepts_11 0 rfl rfl)
theorem dX8_accepts_257 : decode cX8_accepts 257 = .ok (.iload 6, 2) := dk_21 6 (dk_at dksX8_accepts_11 1 rfl rfl)
theorem dX8_accepts_259 : decode cX8_accepts 259 = .ok (.iconst 3, 1) := dk_6 (dk_at dksX8_accepts_11 3 rfl rfl)
theorem dX8_accepts_260 : decode cX8_accepts 260 = .ok (.invokestatic 159, 3) := dk_184 0 159 (dk_at dksX8_accepts_11 4 rfl rfl)
theorem dX8_accepts_263 : decode cX8_accepts 263 = .ok (.iload 4, 2) := dk_21 4 (dk_at dksX8_accepts_11 7 rfl rfl)
theorem dX8_accepts_265 : decode cX8_accepts 265 = .ok (.iconst 1, 1) := dk_4 (dk_at dksX8_accepts_11 9 rfl rfl)
theorem dX8_accepts_266 : decode cX8_accepts 266 = .ok (.if_icmp .ne 7, 3) := dk_160 0 7 (dk_at dksX8_accepts_11 10 rfl rfl)
theorem dX8_accepts_269 : decode cX8_accepts 269 = .ok (.iconst 0, 1) := dk_3 (dk_at dksX8_accepts_11 13 rfl rfl)
theorem dX8_accepts_270 : decode cX8_accepts 270 = .ok (.goto 18, 3) := dk_167 0 18 (dk_at dksX8_accepts_11 14 rfl rfl)
theorem dX8_accepts_273 : decode cX8_accepts 273 = .ok (.aload_n 0, 1) := dk_42 (dk_at dksX8_accepts_11 17 rfl rfl)
theorem dX8_accepts_274 : decode cX8_accepts 274 = .ok (.iload_n 1, 1) := dk_27 (dk_at dksX8_accepts_11 18 rfl rfl)
theorem dX8_accepts_275 : decode cX8_accepts 275 = .ok (.bipush 19, 2) := dk_16 19 (dk_at dksX8_accepts_11 19 rfl rfl)
theorem dX8_accepts_277 : decode cX8_accepts 277 = .ok (.bipush 8, 2) := dk_16 8 (dk_at dksX8_accepts_11 21 rfl rfl)
theorem dX8_accepts_279 : decode cX8_accepts 279 = .ok (.aload_n 0, 1) := dk_42 (dk_at dksX8_accepts_11 23 rfl rfl)
theorem dX8_accepts_280 : decode cX8_accepts 280 = .ok (.iload_n 1, 1) := dk_27 (dk_at dksX8_accepts_12 0 rfl rfl)
theorem dX8_accepts_281 : decode cX8_accepts 281 = .ok (.invokevirtual 98, 3) := dk_182 0 98 (dk_at dksX8_accepts_12 1 rfl rfl)
theorem dX8_accepts_284 : decode cX8_accepts 284 = .ok (.imul, 1) := dk_104 (dk_at dksX8_accepts_12 4 rfl rfl)
theorem dX8_accepts_285 : decode cX8_accepts 285 = .ok (.invokevirtual 101, 3) := dk_182 0 101 (dk_at dksX8_accepts_12 5 rfl rfl)
theorem dX8_accepts_288 : decode cX8_accepts 288 = .ok (.iastore, 1) := dk_79 (dk_at dksX8_accepts_12 8 rfl rfl)
theorem dX8_accepts_289 : decode cX8_accepts 289 = .ok (.aload_n 0, 1) := dk_42 (dk_at dksX8_accepts_12 9 rfl rfl)
theorem dX8_accepts_290 : decode cX8_accepts 290 = .ok (.getfield 7, 3) := dk_180 0 7 (dk_at dksX8_accepts_12 10 rfl rfl)
theorem dX8_accepts_293 : decode cX8_accepts 293 = .ok (.iload_n 1, 1) := dk_27 (dk_at dksX8_accepts_12 13 rfl rfl)
theorem dX8_accepts_294 : decode cX8_accepts 294 = .ok (.bipush 24, 2) := dk_16 24 (dk_at dksX8_accepts_12 14 rfl rfl)
theorem dX8_accepts_296 : decode cX8_accepts 296 = .ok (.invokestatic 35, 3) := dk_184 0 35 (dk_at dksX8_accepts_12 16 rfl rfl)
theorem dX8_accepts_299 : decode cX8_accepts 299 = .ok (.dup2, 1) := dk_92 (dk_at dksX8_accepts_12 19 rfl rfl)
theorem dX8_accepts_300 : decode cX8_accepts 300 = .ok (.iaload, 1) := dk_46 (dk_at dksX8_accepts_12 20 rfl rfl)
theorem dX8_accepts_301 : decode cX8_accepts 301 = .ok (.iconst 1, 1) := dk_4 (dk_at dksX8_accepts_12 21 rfl rfl)
theorem dX8_accepts_302 : decode cX8_accepts 302 = .ok (.iadd, 1) := dk_96 (dk_at dksX8_accepts_12 22 rfl rfl)
theorem dX8_accepts_303 : decode cX8_accepts 303 = .ok (.iastore, 1) := dk_79 (dk_at dksX8_accepts_12 23 rfl rfl)
theorem dX8_accepts_304 : decode cX8_accepts 304 = .ok (.return_, 1) := dk_177 (dk_at dksX8_accepts_13 0 rfl rfl)
abbrev cX8_got : ByteArray := prog_29_method_6_code
def yX8_got : MethodName := ⟨RX8, "got", "(III)I"⟩
def dkwX8_got_0 : List UInt8 := [17, 1, 0, 26, 104, 16, 50, 96, 7, 27, 104, 96, 28, 96, 172]
abbrev dktX8_got_0 : List UInt8 := dkwX8_got_0 ++ []
theorem dksX8_got_0 : cX8_got.data.toList.drop 0 = dktX8_got_0 := by decide +kernel
theorem dX8_got_0 : decode cX8_got 0 = .ok (.sipush 256, 3) := dk_17 1 0 (dk_at dksX8_got_0 0 rfl rfl)
theorem dX8_got_3 : decode cX8_got 3 = .ok (.iload_n 0, 1) := dk_26 (dk_at dksX8_got_0 3 rfl rfl)
theorem dX8_got_4 : decode cX8_got 4 = .ok (.imul, 1) := dk_104 (dk_at dksX8_got_0 4 rfl rfl)
theorem dX8_got_5 : decode cX8_got 5 = .ok (.bipush 50, 2) := dk_16 50 (dk_at dksX8_got_0 5 rfl rfl)
theorem dX8_got_7 : decode cX8_got 7 = .ok (.iadd, 1) := dk_96 (dk_at dksX8_got_0 7 rfl rfl)
theorem dX8_got_8 : decode cX8_got 8 = .ok (.iconst 4, 1) := dk_7 (dk_at dksX8_got_0 8 rfl rfl)
theorem dX8_got_9 : decode cX8_got 9 = .ok (.iload_n 1, 1) := dk_27 (dk_at dksX8_got_0 9 rfl rfl)
theorem dX8_got_10 : decode cX8_got 10 = .ok (.imul, 1) := dk_104 (dk_at dksX8_got_0 10 rfl rfl)
theorem dX8_got_11 : decode cX8_got 11 = .ok (.iadd, 1) := dk_96 (dk_at dksX8_got_0 11 rfl rfl)
theorem dX8_got_12 : decode cX8_got 12 = .ok (.iload_n 2, 1) := dk_28 (dk_at dksX8_got_0 12 rfl rfl)
theorem dX8_got_13 : decode cX8_got 13 = .ok (.iadd, 1) := dk_96 (dk_at dksX8_got_0 13 rfl rfl)
theorem dX8_got_14 : decode cX8_got 14 = .ok (.ireturn, 1) := dk_172 (dk_at dksX8_got_0 14 rfl rfl)
abbrev cX8_flags : ByteArray := prog_29_method_53_code
def yX8_flags : MethodName := ⟨RX8, "flags", "(I)V"⟩
def dkwX8_flags_2 : List UInt8 := [61, 42, 27, 16, 7, 182, 0, 84, 42, 180, 0, 7, 27, 6, 184, 0, 35, 28, 79, 177]
abbrev dktX8_flags_2 : List UInt8 := dkwX8_flags_2 ++ []
def dkwX8_flags_1 : List UInt8 := [16, 6, 160, 0, 41, 42, 180, 0, 7, 27, 3, 184, 0, 35, 46, 8, 160, 0, 7, 4, 167, 0, 4, 3]
abbrev dktX8_flags_1 : List UInt8 := dkwX8_flags_1 ++ dktX8_flags_2
def dkwX8_flags_0 : List UInt8 := [42, 180, 0, 7, 27, 5, 184, 0, 35, 92, 46, 4, 96, 79, 42, 180, 0, 7, 27, 5, 184, 0, 35, 46]
abbrev dktX8_flags_0 : List UInt8 := dkwX8_flags_0 ++ dktX8_flags_1
theorem dksX8_flags_0 : cX8_flags.data.toList.drop 0 = dktX8_flags_0 := by decide +kernel
theorem dksX8_flags_1 : cX8_flags.data.toList.drop 24 = dktX8_flags_1 := dk_seg dksX8_flags_0 24 rfl rfl
theorem dksX8_flags_2 : cX8_flags.data.toList.drop 48 = dktX8_flags_2 := dk_seg dksX8_flags_1 24 rfl rfl
theorem dX8_flags_0 : decode cX8_flags 0 = .ok (.aload_n 0, 1) := dk_42 (dk_at dksX8_flags_0 0 rfl rfl)
theorem dX8_flags_1 : decode cX8_flags 1 = .ok (.getfield 7, 3) := dk_180 0 7 (dk_at dksX8_flags_0 1 rfl rfl)
theorem dX8_flags_4 : decode cX8_flags 4 = .ok (.iload_n 1, 1) := dk_27 (dk_at dksX8_flags_0 4 rfl rfl)
theorem dX8_flags_5 : decode cX8_flags 5 = .ok (.iconst 2, 1) := dk_5 (dk_at dksX8_flags_0 5 rfl rfl)
theorem dX8_flags_6 : decode cX8_flags 6 = .ok (.invokestatic 35, 3) := dk_184 0 35 (dk_at dksX8_flags_0 6 rfl rfl)
theorem dX8_flags_9 : decode cX8_flags 9 = .ok (.dup2, 1) := dk_92 (dk_at dksX8_flags_0 9 rfl rfl)
theorem dX8_flags_10 : decode cX8_flags 10 = .ok (.iaload, 1) := dk_46 (dk_at dksX8_flags_0 10 rfl rfl)
theorem dX8_flags_11 : decode cX8_flags 11 = .ok (.iconst 1, 1) := dk_4 (dk_at dksX8_flags_0 11 rfl rfl)
theorem dX8_flags_12 : decode cX8_flags 12 = .ok (.iadd, 1) := dk_96 (dk_at dksX8_flags_0 12 rfl rfl)
theorem dX8_flags_13 : decode cX8_flags 13 = .ok (.iastore, 1) := dk_79 (dk_at dksX8_flags_0 13 rfl rfl)
theorem dX8_flags_14 : decode cX8_flags 14 = .ok (.aload_n 0, 1) := dk_42 (dk_at dksX8_flags_0 14 rfl rfl)
theorem dX8_flags_15 : decode cX8_flags 15 = .ok (.getfield 7, 3) := dk_180 0 7 (dk_at dksX8_flags_0 15 rfl rfl)
theorem dX8_flags_18 : decode cX8_flags 18 = .ok (.iload_n 1, 1) := dk_27 (dk_at dksX8_flags_0 18 rfl rfl)
theorem dX8_flags_19 : decode cX8_flags 19 = .ok (.iconst 2, 1) := dk_5 (dk_at dksX8_flags_0 19 rfl rfl)
theorem dX8_flags_20 : decode cX8_flags 20 = .ok (.invokestatic 35, 3) := dk_184 0 35 (dk_at dksX8_flags_0 20 rfl rfl)
theorem dX8_flags_23 : decode cX8_flags 23 = .ok (.iaload, 1) := dk_46 (dk_at dksX8_flags_0 23 rfl rfl)
theorem dX8_flags_24 : decode cX8_flags 24 = .ok (.bipush 6, 2) := dk_16 6 (dk_at dksX8_flags_1 0 rfl rfl)
theorem dX8_flags_26 : decode cX8_flags 26 = .ok (.if_icmp .ne 41, 3) := dk_160 0 41 (dk_at dksX8_flags_1 2 rfl rfl)
theorem dX8_flags_29 : decode cX8_flags 29 = .ok (.aload_n 0, 1) := dk_42 (dk_at dksX8_flags_1 5 rfl rfl)
theorem dX8_flags_30 : decode cX8_flags 30 = .ok (.getfield 7, 3) := dk_180 0 7 (dk_at dksX8_flags_1 6 rfl rfl)
theorem dX8_flags_33 : decode cX8_flags 33 = .ok (.iload_n 1, 1) := dk_27 (dk_at dksX8_flags_1 9 rfl rfl)
theorem dX8_flags_34 : decode cX8_flags 34 = .ok (.iconst 0, 1) := dk_3 (dk_at dksX8_flags_1 10 rfl rfl)
theorem dX8_flags_35 : decode cX8_flags 35 = .ok (.invokestatic 35, 3) := dk_184 0 35 (dk_at dksX8_flags_1 11 rfl rfl)
theorem dX8_flags_38 : decode cX8_flags 38 = .ok (.iaload, 1) := dk_46 (dk_at dksX8_flags_1 14 rfl rfl)
theorem dX8_flags_39 : decode cX8_flags 39 = .ok (.iconst 5, 1) := dk_8 (dk_at dksX8_flags_1 15 rfl rfl)
theorem dX8_flags_40 : decode cX8_flags 40 = .ok (.if_icmp .ne 7, 3) := dk_160 0 7 (dk_at dksX8_flags_1 16 rfl rfl)
theorem dX8_flags_43 : decode cX8_flags 43 = .ok (.iconst 1, 1) := dk_4 (dk_at dksX8_flags_1 19 rfl rfl)
theorem dX8_flags_44 : decode cX8_flags 44 = .ok (.goto 4, 3) := dk_167 0 4 (dk_at dksX8_flags_1 20 rfl rfl)
theorem dX8_flags_47 : decode cX8_flags 47 = .ok (.iconst 0, 1) := dk_3 (dk_at dksX8_flags_1 23 rfl rfl)
theorem dX8_flags_48 : decode cX8_flags 48 = .ok (.istore_n 2, 1) := dk_61 (dk_at dksX8_flags_2 0 rfl rfl)
theorem dX8_flags_49 : decode cX8_flags 49 = .ok (.aload_n 0, 1) := dk_42 (dk_at dksX8_flags_2 1 rfl rfl)
theorem dX8_flags_50 : decode cX8_flags 50 = .ok (.iload_n 1, 1) := dk_27 (dk_at dksX8_flags_2 2 rfl rfl)
theorem dX8_flags_51 : decode cX8_flags 51 = .ok (.bipush 7, 2) := dk_16 7 (dk_at dksX8_flags_2 3 rfl rfl)
theorem dX8_flags_53 : decode cX8_flags 53 = .ok (.invokevirtual 84, 3) := dk_182 0 84 (dk_at dksX8_flags_2 5 rfl rfl)
theorem dX8_flags_56 : decode cX8_flags 56 = .ok (.aload_n 0, 1) := dk_42 (dk_at dksX8_flags_2 8 rfl rfl)
theorem dX8_flags_57 : decode cX8_flags 57 = .ok (.getfield 7, 3) := dk_180 0 7 (dk_at dksX8_flags_2 9 rfl rfl)
theorem dX8_flags_60 : decode cX8_flags 60 = .ok (.iload_n 1, 1) := dk_27 (dk_at dksX8_flags_2 12 rfl rfl)
theorem dX8_flags_61 : decode cX8_flags 61 = .ok (.iconst 3, 1) := dk_6 (dk_at dksX8_flags_2 13 rfl rfl)
theorem dX8_flags_62 : decode cX8_flags 62 = .ok (.invokestatic 35, 3) := dk_184 0 35 (dk_at dksX8_flags_2 14 rfl rfl)
theorem dX8_flags_65 : decode cX8_flags 65 = .ok (.iload_n 2, 1) := dk_28 (dk_at dksX8_flags_2 17 rfl rfl)
theorem dX8_flags_66 : decode cX8_flags 66 = .ok (.iastore, 1) := dk_79 (dk_at dksX8_flags_2 18 rfl rfl)
theorem dX8_flags_67 : decode cX8_flags 67 = .ok (.return_, 1) := dk_177 (dk_at dksX8_flags_2 19 rfl rfl)
abbrev cX8_delimits : ByteArray := prog_29_method_54_code
def yX8_delimits : MethodName := ⟨RX8, "delimits", "(II)V"⟩
def dkwX8_delimits_5 : List UInt8 := [182, 0, 150, 167, 0, 10, 42, 27, 16, 6, 182, 0, 84, 177]
abbrev dktX8_delimits_5 : List UInt8 := dkwX8_delimits_5 ++ []
def dkwX8_delimits_4 : List UInt8 := [154, 0, 35, 42, 27, 16, 8, 182, 0, 116, 167, 0, 25, 29, 16, 7, 162, 0, 12, 42, 27, 7]
abbrev dktX8_delimits_4 : List UInt8 := dkwX8_delimits_4 ++ dktX8_delimits_5
def dkwX8_delimits_3 : List UInt8 := [27, 16, 8, 182, 0, 84, 167, 0, 52, 29, 154, 0, 26, 21, 4, 153, 0, 43, 42, 27, 182, 0, 110]
abbrev dktX8_delimits_3 : List UInt8 := dkwX8_delimits_3 ++ dktX8_delimits_4
def dkwX8_delimits_2 : List UInt8 := [160, 0, 33, 42, 180, 0, 7, 27, 5, 184, 0, 35, 92, 46, 4, 96, 79, 29, 16, 7, 160, 0, 62, 42]
abbrev dktX8_delimits_2 : List UInt8 := dkwX8_delimits_2 ++ dktX8_delimits_3
def dkwX8_delimits_1 : List UInt8 := [160, 0, 7, 4, 167, 0, 4, 3, 54, 4, 42, 180, 0, 7, 27, 6, 184, 0, 35, 3, 79, 28, 4]
abbrev dktX8_delimits_1 : List UInt8 := dkwX8_delimits_1 ++ dktX8_delimits_2
def dkwX8_delimits_0 : List UInt8 := [42, 180, 0, 7, 27, 5, 184, 0, 35, 46, 62, 42, 180, 0, 7, 27, 6, 184, 0, 35, 46, 4]
abbrev dktX8_delimits_0 : List UInt8 := dkwX8_delimits_0 ++ dktX8_delimits_1
theorem dksX8_delimits_0 : cX8_delimits.data.toList.drop 0 = dktX8_delimits_0 := by decide +kernel
theorem dksX8_delimits_1 : cX8_delimits.data.toList.drop 22 = dktX8_delimits_1 := dk_seg dksX8_delimits_0 22 rfl rfl
theorem dksX8_delimits_2 : cX8_delimits.data.toList.drop 45 = dktX8_delimits_2 := dk_seg dksX8_delimits_1 23 rfl rfl
theorem dksX8_delimits_3 : cX8_delimits.data.toList.drop 69 = dktX8_delimits_3 := dk_seg dksX8_delimits_2 24 rfl rfl
theorem dksX8_delimits_4 : cX8_delimits.data.toList.drop 92 = dktX8_delimits_4 := dk_seg dksX8_delimits_3 23 rfl rfl
theorem dksX8_delimits_5 : cX8_delimits.data.toList.drop 114 = dktX8_delimits_5 := dk_seg dksX8_delimits_4 22 rfl rfl
theorem dX8_delimits_0 : decode cX8_delimits 0 = .ok (.aload_n 0, 1) := dk_42 (dk_at dksX8_delimits_0 0 rfl rfl)
theorem dX8_delimits_1 : decode cX8_delimits 1 = .ok (.getfield 7, 3) := dk_180 0 7 (dk_at dksX8_delimits_0 1 rfl rfl)
theorem dX8_delimits_4 : decode cX8_delimits 4 = .ok (.iload_n 1, 1) := dk_27 (dk_at dksX8_delimits_0 4 rfl rfl)
theorem dX8_delimits_5 : decode cX8_delimits 5 = .ok (.iconst 2, 1) := dk_5 (dk_at dksX8_delimits_0 5 rfl rfl)
theorem dX8_delimits_6 : decode cX8_delimits 6 = .ok (.invokestatic 35, 3) := dk_184 0 35 (dk_at dksX8_delimits_0 6 rfl rfl)
theorem dX8_delimits_9 : decode cX8_delimits 9 = .ok (.iaload, 1) := dk_46 (dk_at dksX8_delimits_0 9 rfl rfl)
theorem dX8_delimits_10 : decode cX8_delimits 10 = .ok (.istore_n 3, 1) := dk_62 (dk_at dksX8_delimits_0 10 rfl rfl)
theorem dX8_delimits_11 : decode cX8_delimits 11 = .ok (.aload_n 0, 1) := dk_42 (dk_at dksX8_delimits_0 11 rfl rfl)
theorem dX8_delimits_12 : decode cX8_delimits 12 = .ok (.getfield 7, 3) := dk_180 0 7 (dk_at dksX8_delimits_0 12 rfl rfl)
theorem dX8_delimits_15 : decode cX8_delimits 15 = .ok (.iload_n 1, 1) := dk_27 (dk_at dksX8_delimits_0 15 rfl rfl)
theorem dX8_delimits_16 : decode cX8_delimits 16 = .ok (.iconst 3, 1) := dk_6 (dk_at dksX8_delimits_0 16 rfl rfl)
theorem dX8_delimits_17 : decode cX8_delimits 17 = .ok (.invokestatic 35, 3) := dk_184 0 35 (dk_at dksX8_delimits_0 17 rfl rfl)
theorem dX8_delimits_20 : decode cX8_delimits 20 = .ok (.iaload, 1) := dk_46 (dk_at dksX8_delimits_0 20 rfl rfl)
theorem dX8_delimits_21 : decode cX8_delimits 21 = .ok (.iconst 1, 1) := dk_4 (dk_at dksX8_delimits_0 21 rfl rfl)
theorem dX8_delimits_22 : decode cX8_delimits 22 = .ok (.if_icmp .ne 7, 3) := dk_160 0 7 (dk_at dksX8_delimits_1 0 rfl rfl)
theorem dX8_delimits_25 : decode cX8_delimits 25 = .ok (.iconst 1, 1) := dk_4 (dk_at dksX8_delimits_1 3 rfl rfl)
theorem dX8_delimits_26 : decode cX8_delimits 26 = .ok (.goto 4, 3) := dk_167 0 4 (dk_at dksX8_delimits_1 4 rfl rfl)
theorem dX8_delimits_29 : decode cX8_delimits 29 = .ok (.iconst 0, 1) := dk_3 (dk_at dksX8_delimits_1 7 rfl rfl)
theorem dX8_delimits_30 : decode cX8_delimits 30 = .ok (.istore 4, 2) := dk_54 4 (dk_at dksX8_delimits_1 8 rfl rfl)
theorem dX8_delimits_32 : decode cX8_delimits 32 = .ok (.aload_n 0, 1) := dk_42 (dk_at dksX8_delimits_1 10 rfl rfl)
theorem dX8_delimits_33 : decode cX8_delimits 33 = .ok (.getfield 7, 3) := dk_180 0 7 (dk_at dksX8_delimits_1 11 rfl rfl)
theorem dX8_delimits_36 : decode cX8_delimits 36 = .ok (.iload_n 1, 1) := dk_27 (dk_at dksX8_delimits_1 14 rfl rfl)
theorem dX8_delimits_37 : decode cX8_delimits 37 = .ok (.iconst 3, 1) := dk_6 (dk_at dksX8_delimits_1 15 rfl rfl)
theorem dX8_delimits_38 : decode cX8_delimits 38 = .ok (.invokestatic 35, 3) := dk_184 0 35 (dk_at dksX8_delimits_1 16 rfl rfl)
theorem dX8_delimits_41 : decode cX8_delimits 41 = .ok (.iconst 0, 1) := dk_3 (dk_at dksX8_delimits_1 19 rfl rfl)
theorem dX8_delimits_42 : decode cX8_delimits 42 = .ok (.iastore, 1) := dk_79 (dk_at dksX8_delimits_1 20 rfl rfl)
theorem dX8_delimits_43 : decode cX8_delimits 43 = .ok (.iload_n 2, 1) := dk_28 (dk_at dksX8_delimits_1 21 rfl rfl)
theorem dX8_delimits_44 : decode cX8_delimits 44 = .ok (.iconst 1, 1) := dk_4 (dk_at dksX8_delimits_1 22 rfl rfl)
theorem dX8_delimits_45 : decode cX8_delimits 45 = .ok (.if_icmp .ne 33, 3) := dk_160 0 33 (dk_at dksX8_delimits_2 0 rfl rfl)
theorem dX8_delimits_48 : decode cX8_delimits 48 = .ok (.aload_n 0, 1) := dk_42 (dk_at dksX8_delimits_2 3 rfl rfl)
theorem dX8_delimits_49 : decode cX8_delimits 49 = .ok (.getfield 7, 3) := dk_180 0 7 (dk_at dksX8_delimits_2 4 rfl rfl)
theorem dX8_delimits_52 : decode cX8_delimits 52 = .ok (.iload_n 1, 1) := dk_27 (dk_at dksX8_delimits_2 7 rfl rfl)
theorem dX8_delimits_53 : decode cX8_delimits 53 = .ok (.iconst 2, 1) := dk_5 (dk_at dksX8_delimits_2 8 rfl rfl)
theorem dX8_delimits_54 : decode cX8_delimits 54 = .ok (.invokestatic 35, 3) := dk_184 0 35 (dk_at dksX8_delimits_2 9 rfl rfl)
theorem dX8_delimits_57 : decode cX8_delimits 57 = .ok (.dup2, 1) := dk_92 (dk_at dksX8_delimits_2 12 rfl rfl)
theorem dX8_delimits_58 : decode cX8_delimits 58 = .ok (.iaload, 1) := dk_46 (dk_at dksX8_delimits_2 13 rfl rfl)
theorem dX8_delimits_59 : decode cX8_delimits 59 = .ok (.iconst 1, 1) := dk_4 (dk_at dksX8_delimits_2 14 rfl rfl)
theorem dX8_delimits_60 : decode cX8_delimits 60 = .ok (.iadd, 1) := dk_96 (dk_at dksX8_delimits_2 15 rfl rfl)
theorem dX8_delimits_61 : decode cX8_delimits 61 = .ok (.iastore, 1) := dk_79 (dk_at dksX8_delimits_2 16 rfl rfl)
theorem dX8_delimits_62 : decode cX8_delimits 62 = .ok (.iload_n 3, 1) := dk_29 (dk_at dksX8_delimits_2 17 rfl rfl)
theorem dX8_delimits_63 : decode cX8_delimits 63 = .ok (.bipush 7, 2) := dk_16 7 (dk_at dksX8_delimits_2 18 rfl rfl)
theorem dX8_delimits_65 : decode cX8_delimits 65 = .ok (.if_icmp .ne 62, 3) := dk_160 0 62 (dk_at dksX8_delimits_2 20 rfl rfl)
theorem dX8_delimits_68 : decode cX8_delimits 68 = .ok (.aload_n 0, 1) := dk_42 (dk_at dksX8_delimits_2 23 rfl rfl)
theorem dX8_delimits_69 : decode cX8_delimits 69 = .ok (.iload_n 1, 1) := dk_27 (dk_at dksX8_delimits_3 0 rfl rfl)
theorem dX8_delimits_70 : decode cX8_delimits 70 = .ok (.bipush 8, 2) := dk_16 8 (dk_at dksX8_delimits_3 1 rfl rfl)
theorem dX8_delimits_72 : decode cX8_delimits 72 = .ok (.invokevirtual 84, 3) := dk_182 0 84 (dk_at dksX8_delimits_3 3 rfl rfl)
theorem dX8_delimits_75 : decode cX8_delimits 75 = .ok (.goto 52, 3) := dk_167 0 52 (dk_at dksX8_delimits_3 6 rfl rfl)
theorem dX8_delimits_78 : decode cX8_delimits 78 = .ok (.iload_n 3, 1) := dk_29 (dk_at dksX8_delimits_3 9 rfl rfl)
theorem dX8_delimits_79 : decode cX8_delimits 79 = .ok (.ifCond .ne 26, 3) := dk_154 0 26 (dk_at dksX8_delimits_3 10 rfl rfl)
theorem dX8_delimits_82 : decode cX8_delimits 82 = .ok (.iload 4, 2) := dk_21 4 (dk_at dksX8_delimits_3 13 rfl rfl)
theorem dX8_delimits_84 : decode cX8_delimits 84 = .ok (.ifCond .eq 43, 3) := dk_153 0 43 (dk_at dksX8_delimits_3 15 rfl rfl)
theorem dX8_delimits_87 : decode cX8_delimits 87 = .ok (.aload_n 0, 1) := dk_42 (dk_at dksX8_delimits_3 18 rfl rfl)
theorem dX8_delimits_88 : decode cX8_delimits 88 = .ok (.iload_n 1, 1) := dk_27 (dk_at dksX8_delimits_3 19 rfl rfl)
theorem dX8_delimits_89 : decode cX8_delimits 89 = .ok (.invokevirtual 110, 3) := dk_182 0 110 (dk_at dksX8_delimits_3 20 rfl rfl)
theorem dX8_delimits_92 : decode cX8_delimits 92 = .ok (.ifCond .ne 35, 3) := dk_154 0 35 (dk_at dksX8_delimits_4 0 rfl rfl)
theorem dX8_delimits_95 : decode cX8_delimits 95 = .ok (.aload_n 0, 1) := dk_42 (dk_at dksX8_delimits_4 3 rfl rfl)
theorem dX8_delimits_96 : decode cX8_delimits 96 = .ok (.iload_n 1, 1) := dk_27 (dk_at dksX8_delimits_4 4 rfl rfl)
theorem dX8_delimits_97 : decode cX8_delimits 97 = .ok (.bipush 8, 2) := dk_16 8 (dk_at dksX8_delimits_4 5 rfl rfl)
theorem dX8_delimits_99 : decode cX8_delimits 99 = .ok (.invokevirtual 116, 3) := dk_182 0 116 (dk_at dksX8_delimits_4 7 rfl rfl)
theorem dX8_delimits_102 : decode cX8_delimits 102 = .ok (.goto 25, 3) := dk_167 0 25 (dk_at dksX8_delimits_4 10 rfl rfl)
theorem dX8_delimits_105 : decode cX8_delimits 105 = .ok (.iload_n 3, 1) := dk_29 (dk_at dksX8_delimits_4 13 rfl rfl)
theorem dX8_delimits_106 : decode cX8_delimits 106 = .ok (.bipush 7, 2) := dk_16 7 (dk_at dksX8_delimits_4 14 rfl rfl)
theorem dX8_delimits_108 : decode cX8_delimits 108 = .ok (.if_icmp .ge 12, 3) := dk_162 0 12 (dk_at dksX8_delimits_4 16 rfl rfl)
theorem dX8_delimits_111 : decode cX8_delimits 111 = .ok (.aload_n 0, 1) := dk_42 (dk_at dksX8_delimits_4 19 rfl rfl)
theorem dX8_delimits_112 : decode cX8_delimits 112 = .ok (.iload_n 1, 1) := dk_27 (dk_at dksX8_delimits_4 20 rfl rfl)
theorem dX8_delimits_113 : decode cX8_delimits 113 = .ok (.iconst 4, 1) := dk_7 (dk_at dksX8_delimits_4 21 rfl rfl)
theorem dX8_delimits_114 : decode cX8_delimits 114 = .ok (.invokevirtual 150, 3) := dk_182 0 150 (dk_at dksX8_delimits_5 0 rfl rfl)
theorem dX8_delimits_117 : decode cX8_delimits 117 = .ok (.goto 10, 3) := dk_167 0 10 (dk_at dksX8_delimits_5 3 rfl rfl)
theorem dX8_delimits_120 : decode cX8_delimits 120 = .ok (.aload_n 0, 1) := dk_42 (dk_at dksX8_delimits_5 6 rfl rfl)
theorem dX8_delimits_121 : decode cX8_delimits 121 = .ok (.iload_n 1, 1) := dk_27 (dk_at dksX8_delimits_5 7 rfl rfl)
theorem dX8_delimits_122 : decode cX8_delimits 122 = .ok (.bipush 6, 2) := dk_16 6 (dk_at dksX8_delimits_5 8 rfl rfl)
theorem dX8_delimits_124 : decode cX8_delimits 124 = .ok (.invokevirtual 84, 3) := dk_182 0 84 (dk_at dksX8_delimits_5 10 rfl rfl)
theorem dX8_delimits_127 : decode cX8_delimits 127 = .ok (.return_, 1) := dk_177 (dk_at dksX8_delimits_5 13 rfl rfl)
abbrev cX8_intermits : ByteArray := prog_29_method_55_code
def yX8_intermits : MethodName := ⟨RX8, "intermits", "(II)V"⟩
def dkwX8_intermits_3 : List UInt8 := [153, 0, 8, 16, 9, 167, 0, 4, 6, 182, 0, 84, 177]
abbrev dktX8_intermits_3 : List UInt8 := dkwX8_intermits_3 ++ []
def dkwX8_intermits_2 : List UInt8 := [42, 27, 3, 182, 0, 146, 167, 0, 30, 42, 27, 42, 27, 182, 0, 110, 153, 0, 16, 42, 27, 182, 0, 119]
abbrev dktX8_intermits_2 : List UInt8 := dkwX8_intermits_2 ++ dktX8_intermits_3
def dkwX8_intermits_1 : List UInt8 := [79, 29, 5, 162, 0, 17, 28, 154, 0, 53, 42, 27, 16, 6, 182, 0, 84, 167, 0, 43, 28, 154, 0, 12]
abbrev dktX8_intermits_1 : List UInt8 := dkwX8_intermits_1 ++ dktX8_intermits_2
def dkwX8_intermits_0 : List UInt8 := [42, 180, 0, 7, 27, 5, 184, 0, 35, 46, 62, 42, 180, 0, 7, 27, 5, 184, 0, 35, 92, 46, 4, 96]
abbrev dktX8_intermits_0 : List UInt8 := dkwX8_intermits_0 ++ dktX8_intermits_1
theorem dksX8_intermits_0 : cX8_intermits.data.toList.drop 0 = dktX8_intermits_0 := by decide +kernel
theorem dksX8_intermits_1 : cX8_intermits.data.toList.drop 24 = dktX8_intermits_1 := dk_seg dksX8_intermits_0 24 rfl rfl
theorem dksX8_intermits_2 : cX8_intermits.data.toList.drop 48 = dktX8_intermits_2 := dk_seg dksX8_intermits_1 24 rfl rfl
theorem dksX8_intermits_3 : cX8_intermits.data.toList.drop 72 = dktX8_intermits_3 := dk_seg dksX8_intermits_2 24 rfl rfl
theorem dX8_intermits_0 : decode cX8_intermits 0 = .ok (.aload_n 0, 1) := dk_42 (dk_at dksX8_intermits_0 0 rfl rfl)
theorem dX8_intermits_1 : decode cX8_intermits 1 = .ok (.getfield 7, 3) := dk_180 0 7 (dk_at dksX8_intermits_0 1 rfl rfl)
theorem dX8_intermits_4 : decode cX8_intermits 4 = .ok (.iload_n 1, 1) := dk_27 (dk_at dksX8_intermits_0 4 rfl rfl)
theorem dX8_intermits_5 : decode cX8_intermits 5 = .ok (.iconst 2, 1) := dk_5 (dk_at dksX8_intermits_0 5 rfl rfl)
theorem dX8_intermits_6 : decode cX8_intermits 6 = .ok (.invokestatic 35, 3) := dk_184 0 35 (dk_at dksX8_intermits_0 6 rfl rfl)
theorem dX8_intermits_9 : decode cX8_intermits 9 = .ok (.iaload, 1) := dk_46 (dk_at dksX8_intermits_0 9 rfl rfl)
theorem dX8_intermits_10 : decode cX8_intermits 10 = .ok (.istore_n 3, 1) := dk_62 (dk_at dksX8_intermits_0 10 rfl rfl)
theorem dX8_intermits_11 : decode cX8_intermits 11 = .ok (.aload_n 0, 1) := dk_42 (dk_at dksX8_intermits_0 11 rfl rfl)
theorem dX8_intermits_12 : decode cX8_intermits 12 = .ok (.getfield 7, 3) := dk_180 0 7 (dk_at dksX8_intermits_0 12 rfl rfl)
theorem dX8_intermits_15 : decode cX8_intermits 15 = .ok (.iload_n 1, 1) := dk_27 (dk_at dksX8_intermits_0 15 rfl rfl)
theorem dX8_intermits_16 : decode cX8_intermits 16 = .ok (.iconst 2, 1) := dk_5 (dk_at dksX8_intermits_0 16 rfl rfl)
theorem dX8_intermits_17 : decode cX8_intermits 17 = .ok (.invokestatic 35, 3) := dk_184 0 35 (dk_at dksX8_intermits_0 17 rfl rfl)
theorem dX8_intermits_20 : decode cX8_intermits 20 = .ok (.dup2, 1) := dk_92 (dk_at dksX8_intermits_0 20 rfl rfl)
theorem dX8_intermits_21 : decode cX8_intermits 21 = .ok (.iaload, 1) := dk_46 (dk_at dksX8_intermits_0 21 rfl rfl)
theorem dX8_intermits_22 : decode cX8_intermits 22 = .ok (.iconst 1, 1) := dk_4 (dk_at dksX8_intermits_0 22 rfl rfl)
theorem dX8_intermits_23 : decode cX8_intermits 23 = .ok (.iadd, 1) := dk_96 (dk_at dksX8_intermits_0 23 rfl rfl)
theorem dX8_intermits_24 : decode cX8_intermits 24 = .ok (.iastore, 1) := dk_79 (dk_at dksX8_intermits_1 0 rfl rfl)
theorem dX8_intermits_25 : decode cX8_intermits 25 = .ok (.iload_n 3, 1) := dk_29 (dk_at dksX8_intermits_1 1 rfl rfl)
theorem dX8_intermits_26 : decode cX8_intermits 26 = .ok (.iconst 2, 1) := dk_5 (dk_at dksX8_intermits_1 2 rfl rfl)
theorem dX8_intermits_27 : decode cX8_intermits 27 = .ok (.if_icmp .ge 17, 3) := dk_162 0 17 (dk_at dksX8_intermits_1 3 rfl rfl)
theorem dX8_intermits_30 : decode cX8_intermits 30 = .ok (.iload_n 2, 1) := dk_28 (dk_at dksX8_intermits_1 6 rfl rfl)
theorem dX8_intermits_31 : decode cX8_intermits 31 = .ok (.ifCond .ne 53, 3) := dk_154 0 53 (dk_at dksX8_intermits_1 7 rfl rfl)
theorem dX8_intermits_34 : decode cX8_intermits 34 = .ok (.aload_n 0, 1) := dk_42 (dk_at dksX8_intermits_1 10 rfl rfl)
theorem dX8_intermits_35 : decode cX8_intermits 35 = .ok (.iload_n 1, 1) := dk_27 (dk_at dksX8_intermits_1 11 rfl rfl)
theorem dX8_intermits_36 : decode cX8_intermits 36 = .ok (.bipush 6, 2) := dk_16 6 (dk_at dksX8_intermits_1 12 rfl rfl)
theorem dX8_intermits_38 : decode cX8_intermits 38 = .ok (.invokevirtual 84, 3) := dk_182 0 84 (dk_at dksX8_intermits_1 14 rfl rfl)
theorem dX8_intermits_41 : decode cX8_intermits 41 = .ok (.goto 43, 3) := dk_167 0 43 (dk_at dksX8_intermits_1 17 rfl rfl)
theorem dX8_intermits_44 : decode cX8_intermits 44 = .ok (.iload_n 2, 1) := dk_28 (dk_at dksX8_intermits_1 20 rfl rfl)
theorem dX8_intermits_45 : decode cX8_intermits 45 = .ok (.ifCond .ne 12, 3) := dk_154 0 12 (dk_at dksX8_intermits_1 21 rfl rfl)
theorem dX8_intermits_48 : decode cX8_intermits 48 = .ok (.aload_n 0, 1) := dk_42 (dk_at dksX8_intermits_2 0 rfl rfl)
theorem dX8_intermits_49 : decode cX8_intermits 49 = .ok (.iload_n 1, 1) := dk_27 (dk_at dksX8_intermits_2 1 rfl rfl)
theorem dX8_intermits_50 : decode cX8_intermits 50 = .ok (.iconst 0, 1) := dk_3 (dk_at dksX8_intermits_2 2 rfl rfl)
theorem dX8_intermits_51 : decode cX8_intermits 51 = .ok (.invokevirtual 146, 3) := dk_182 0 146 (dk_at dksX8_intermits_2 3 rfl rfl)
theorem dX8_intermits_54 : decode cX8_intermits 54 = .ok (.goto 30, 3) := dk_167 0 30 (dk_at dksX8_intermits_2 6 rfl rfl)
theorem dX8_intermits_57 : decode cX8_intermits 57 = .ok (.aload_n 0, 1) := dk_42 (dk_at dksX8_intermits_2 9 rfl rfl)
theorem dX8_intermits_58 : decode cX8_intermits 58 = .ok (.iload_n 1, 1) := dk_27 (dk_at dksX8_intermits_2 10 rfl rfl)
theorem dX8_intermits_59 : decode cX8_intermits 59 = .ok (.aload_n 0, 1) := dk_42 (dk_at dksX8_intermits_2 11 rfl rfl)
theorem dX8_intermits_60 : decode cX8_intermits 60 = .ok (.iload_n 1, 1) := dk_27 (dk_at dksX8_intermits_2 12 rfl rfl)
theorem dX8_intermits_61 : decode cX8_intermits 61 = .ok (.invokevirtual 110, 3) := dk_182 0 110 (dk_at dksX8_intermits_2 13 rfl rfl)
theorem dX8_intermits_64 : decode cX8_intermits 64 = .ok (.ifCond .eq 16, 3) := dk_153 0 16 (dk_at dksX8_intermits_2 16 rfl rfl)
theorem dX8_intermits_67 : decode cX8_intermits 67 = .ok (.aload_n 0, 1) := dk_42 (dk_at dksX8_intermits_2 19 rfl rfl)
theorem dX8_intermits_68 : decode cX8_intermits 68 = .ok (.iload_n 1, 1) := dk_27 (dk_at dksX8_intermits_2 20 rfl rfl)
theorem dX8_intermits_69 : decode cX8_intermits 69 = .ok (.invokevirtual 119, 3) := dk_182 0 119 (dk_at dksX8_intermits_2 21 rfl rfl)
theorem dX8_intermits_72 : decode cX8_intermits 72 = .ok (.ifCond .eq 8, 3) := dk_153 0 8 (dk_at dksX8_intermits_3 0 rfl rfl)
theorem dX8_intermits_75 : decode cX8_intermits 75 = .ok (.bipush 9, 2) := dk_16 9 (dk_at dksX8_intermits_3 3 rfl rfl)
theorem dX8_intermits_77 : decode cX8_intermits 77 = .ok (.goto 4, 3) := dk_167 0 4 (dk_at dksX8_intermits_3 5 rfl rfl)
theorem dX8_intermits_80 : decode cX8_intermits 80 = .ok (.iconst 3, 1) := dk_6 (dk_at dksX8_intermits_3 8 rfl rfl)
theorem dX8_intermits_81 : decode cX8_intermits 81 = .ok (.invokevirtual 84, 3) := dk_182 0 84 (dk_at dksX8_intermits_3 9 rfl rfl)
theorem dX8_intermits_84 : decode cX8_intermits 84 = .ok (.return_, 1) := dk_177 (dk_at dksX8_intermits_3 12 rfl rfl)
abbrev cX8_suspends : ByteArray := prog_29_method_56_code
def yX8_suspends : MethodName := ⟨RX8, "suspends", "(II)V"⟩
def dkwX8_suspends_2 : List UInt8 := [177]
abbrev dktX8_suspends_2 : List UInt8 := dkwX8_suspends_2 ++ []
def dkwX8_suspends_1 : List UInt8 := [167, 0, 24, 42, 180, 0, 7, 27, 5, 184, 0, 35, 46, 16, 8, 160, 0, 9, 42, 27, 6, 182, 0, 84]
abbrev dktX8_suspends_1 : List UInt8 := dkwX8_suspends_1 ++ dktX8_suspends_2
def dkwX8_suspends_0 : List UInt8 := [42, 180, 0, 7, 27, 5, 184, 0, 35, 92, 46, 4, 96, 79, 28, 154, 0, 12, 42, 27, 3, 182, 0, 146]
abbrev dktX8_suspends_0 : List UInt8 := dkwX8_suspends_0 ++ dktX8_suspends_1
theorem dksX8_suspends_0 : cX8_suspends.data.toList.drop 0 = dktX8_suspends_0 := by decide +kernel
theorem dksX8_suspends_1 : cX8_suspends.data.toList.drop 24 = dktX8_suspends_1 := dk_seg dksX8_suspends_0 24 rfl rfl
theorem dksX8_suspends_2 : cX8_suspends.data.toList.drop 48 = dktX8_suspends_2 := dk_seg dksX8_suspends_1 24 rfl rfl
theorem dX8_suspends_0 : decode cX8_suspends 0 = .ok (.aload_n 0, 1) := dk_42 (dk_at dksX8_suspends_0 0 rfl rfl)
theorem dX8_suspends_1 : decode cX8_suspends 1 = .ok (.getfield 7, 3) := dk_180 0 7 (dk_at dksX8_suspends_0 1 rfl rfl)
theorem dX8_suspends_4 : decode cX8_suspends 4 = .ok (.iload_n 1, 1) := dk_27 (dk_at dksX8_suspends_0 4 rfl rfl)
theorem dX8_suspends_5 : decode cX8_suspends 5 = .ok (.iconst 2, 1) := dk_5 (dk_at dksX8_suspends_0 5 rfl rfl)
theorem dX8_suspends_6 : decode cX8_suspends 6 = .ok (.invokestatic 35, 3) := dk_184 0 35 (dk_at dksX8_suspends_0 6 rfl rfl)
theorem dX8_suspends_9 : decode cX8_suspends 9 = .ok (.dup2, 1) := dk_92 (dk_at dksX8_suspends_0 9 rfl rfl)
theorem dX8_suspends_10 : decode cX8_suspends 10 = .ok (.iaload, 1) := dk_46 (dk_at dksX8_suspends_0 10 rfl rfl)
theorem dX8_suspends_11 : decode cX8_suspends 11 = .ok (.iconst 1, 1) := dk_4 (dk_at dksX8_suspends_0 11 rfl rfl)
theorem dX8_suspends_12 : decode cX8_suspends 12 = .ok (.iadd, 1) := dk_96 (dk_at dksX8_suspends_0 12 rfl rfl)
theorem dX8_suspends_13 : decode cX8_suspends 13 = .ok (.iastore, 1) := dk_79 (dk_at dksX8_suspends_0 13 rfl rfl)
theorem dX8_suspends_14 : decode cX8_suspends 14 = .ok (.iload_n 2, 1) := dk_28 (dk_at dksX8_suspends_0 14 rfl rfl)
theorem dX8_suspends_15 : decode cX8_suspends 15 = .ok (.ifCond .ne 12, 3) := dk_154 0 12 (dk_at dksX8_suspends_0 15 rfl rfl)
theorem dX8_suspends_18 : decode cX8_suspends 18 = .ok (.aload_n 0, 1) := dk_42 (dk_at dksX8_suspends_0 18 rfl rfl)
theorem dX8_suspends_19 : decode cX8_suspends 19 = .ok (.iload_n 1, 1) := dk_27 (dk_at dksX8_suspends_0 19 rfl rfl)
theorem dX8_suspends_20 : decode cX8_suspends 20 = .ok (.iconst 0, 1) := dk_3 (dk_at dksX8_suspends_0 20 rfl rfl)
theorem dX8_suspends_21 : decode cX8_suspends 21 = .ok (.invokevirtual 146, 3) := dk_182 0 146 (dk_at dksX8_suspends_0 21 rfl rfl)
theorem dX8_suspends_24 : decode cX8_suspends 24 = .ok (.goto 24, 3) := dk_167 0 24 (dk_at dksX8_suspends_1 0 rfl rfl)
theorem dX8_suspends_27 : decode cX8_suspends 27 = .ok (.aload_n 0, 1) := dk_42 (dk_at dksX8_suspends_1 3 rfl rfl)
theorem dX8_suspends_28 : decode cX8_suspends 28 = .ok (.getfield 7, 3) := dk_180 0 7 (dk_at dksX8_suspends_1 4 rfl rfl)
theorem dX8_suspends_31 : decode cX8_suspends 31 = .ok (.iload_n 1, 1) := dk_27 (dk_at dksX8_suspends_1 7 rfl rfl)
theorem dX8_suspends_32 : decode cX8_suspends 32 = .ok (.iconst 2, 1) := dk_5 (dk_at dksX8_suspends_1 8 rfl rfl)
theorem dX8_suspends_33 : decode cX8_suspends 33 = .ok (.invokestatic 35, 3) := dk_184 0 35 (dk_at dksX8_suspends_1 9 rfl rfl)
theorem dX8_suspends_36 : decode cX8_suspends 36 = .ok (.iaload, 1) := dk_46 (dk_at dksX8_suspends_1 12 rfl rfl)
theorem dX8_suspends_37 : decode cX8_suspends 37 = .ok (.bipush 8, 2) := dk_16 8 (dk_at dksX8_suspends_1 13 rfl rfl)
theorem dX8_suspends_39 : decode cX8_suspends 39 = .ok (.if_icmp .ne 9, 3) := dk_160 0 9 (dk_at dksX8_suspends_1 15 rfl rfl)
theorem dX8_suspends_42 : decode cX8_suspends 42 = .ok (.aload_n 0, 1) := dk_42 (dk_at dksX8_suspends_1 18 rfl rfl)
theorem dX8_suspends_43 : decode cX8_suspends 43 = .ok (.iload_n 1, 1) := dk_27 (dk_at dksX8_suspends_1 19 rfl rfl)
theorem dX8_suspends_44 : decode cX8_suspends 44 = .ok (.iconst 3, 1) := dk_6 (dk_at dksX8_suspends_1 20 rfl rfl)
theorem dX8_suspends_45 : decode cX8_suspends 45 = .ok (.invokevirtual 84, 3) := dk_182 0 84 (dk_at dksX8_suspends_1 21 rfl rfl)
theorem dX8_suspends_48 : decode cX8_suspends 48 = .ok (.return_, 1) := dk_177 (dk_at dksX8_suspends_2 0 rfl rfl)
abbrev cX8_recovers : ByteArray := prog_29_method_57_code
def yX8_recovers : MethodName := ⟨RX8, "recovers", "(II)V"⟩
def dkwX8_recovers_5 : List UInt8 := [182, 0, 84, 177]
abbrev dktX8_recovers_5 : List UInt8 := dkwX8_recovers_5 ++ []
def dkwX8_recovers_4 : List UInt8 := [180, 0, 7, 27, 7, 184, 0, 35, 3, 79, 42, 180, 0, 7, 27, 8, 184, 0, 35, 3, 79, 42, 27, 6]
abbrev dktX8_recovers_4 : List UInt8 := dkwX8_recovers_4 ++ dktX8_recovers_5
def dkwX8_recovers_3 : List UInt8 := [42, 180, 0, 7, 27, 6, 184, 0, 35, 46, 42, 180, 0, 7, 17, 4, 3, 46, 161, 0, 31, 42]
abbrev dktX8_recovers_3 : List UInt8 := dkwX8_recovers_3 ++ dktX8_recovers_4
def dkwX8_recovers_2 : List UInt8 := [180, 0, 7, 27, 5, 184, 0, 35, 3, 79, 42, 180, 0, 7, 27, 6, 184, 0, 35, 92, 46, 4, 96, 79]
abbrev dktX8_recovers_2 : List UInt8 := dkwX8_recovers_2 ++ dktX8_recovers_3
def dkwX8_recovers_1 : List UInt8 := [4, 96, 167, 0, 4, 3, 79, 42, 180, 0, 7, 27, 5, 184, 0, 35, 46, 16, 11, 160, 0, 77, 42]
abbrev dktX8_recovers_1 : List UInt8 := dkwX8_recovers_1 ++ dktX8_recovers_2
def dkwX8_recovers_0 : List UInt8 := [42, 180, 0, 7, 27, 5, 184, 0, 35, 28, 4, 160, 0, 18, 42, 180, 0, 7, 27, 5, 184, 0, 35, 46]
abbrev dktX8_recovers_0 : List UInt8 := dkwX8_recovers_0 ++ dktX8_recovers_1
theorem dksX8_recovers_0 : cX8_recovers.data.toList.drop 0 = dktX8_recovers_0 := by decide +kernel
theorem dksX8_recovers_1 : cX8_recovers.data.toList.drop 24 = dktX8_recovers_1 := dk_seg dksX8_recovers_0 24 rfl rfl
theorem dksX8_recovers_2 : cX8_recovers.data.toList.drop 47 = dktX8_recovers_2 := dk_seg dksX8_recovers_1 23 rfl rfl
theorem dksX8_recovers_3 : cX8_recovers.data.toList.drop 71 = dktX8_recovers_3 := dk_seg dksX8_recovers_2 24 rfl rfl
theorem dksX8_recovers_4 : cX8_recovers.data.toList.drop 93 = dktX8_recovers_4 := dk_seg dksX8_recovers_3 22 rfl rfl
theorem dksX8_recovers_5 : cX8_recovers.data.toList.drop 117 = dktX8_recovers_5 := dk_seg dksX8_recovers_4 24 rfl rfl
theorem dX8_recovers_0 : decode cX8_recovers 0 = .ok (.aload_n 0, 1) := dk_42 (dk_at dksX8_recovers_0 0 rfl rfl)
theorem dX8_recovers_1 : decode cX8_recovers 1 = .ok (.getfield 7, 3) := dk_180 0 7 (dk_at dksX8_recovers_0 1 rfl rfl)
theorem dX8_recovers_4 : decode cX8_recovers 4 = .ok (.iload_n 1, 1) := dk_27 (dk_at dksX8_recovers_0 4 rfl rfl)
theorem dX8_recovers_5 : decode cX8_recovers 5 = .ok (.iconst 2, 1) := dk_5 (dk_at dksX8_recovers_0 5 rfl rfl)
theorem dX8_recovers_6 : decode cX8_recovers 6 = .ok (.invokestatic 35, 3) := dk_184 0 35 (dk_at dksX8_recovers_0 6 rfl rfl)
theorem dX8_recovers_9 : decode cX8_recovers 9 = .ok (.iload_n 2, 1) := dk_28 (dk_at dksX8_recovers_0 9 rfl rfl)
theorem dX8_recovers_10 : decode cX8_recovers 10 = .ok (.iconst 1, 1) := dk_4 (dk_at dksX8_recovers_0 10 rfl rfl)
theorem dX8_recovers_11 : decode cX8_recovers 11 = .ok (.if_icmp .ne 18, 3) := dk_160 0 18 (dk_at dksX8_recovers_0 11 rfl rfl)
theorem dX8_recovers_14 : decode cX8_recovers 14 = .ok (.aload_n 0, 1) := dk_42 (dk_at dksX8_recovers_0 14 rfl rfl)
theorem dX8_recovers_15 : decode cX8_recovers 15 = .ok (.getfield 7, 3) := dk_180 0 7 (dk_at dksX8_recovers_0 15 rfl rfl)
theorem dX8_recovers_18 : decode cX8_recovers 18 = .ok (.iload_n 1, 1) := dk_27 (dk_at dksX8_recovers_0 18 rfl rfl)
theorem dX8_recovers_19 : decode cX8_recovers 19 = .ok (.iconst 2, 1) := dk_5 (dk_at dksX8_recovers_0 19 rfl rfl)
theorem dX8_recovers_20 : decode cX8_recovers 20 = .ok (.invokestatic 35, 3) := dk_184 0 35 (dk_at dksX8_recovers_0 20 rfl rfl)
theorem dX8_recovers_23 : decode cX8_recovers 23 = .ok (.iaload, 1) := dk_46 (dk_at dksX8_recovers_0 23 rfl rfl)
theorem dX8_recovers_24 : decode cX8_recovers 24 = .ok (.iconst 1, 1) := dk_4 (dk_at dksX8_recovers_1 0 rfl rfl)
theorem dX8_recovers_25 : decode cX8_recovers 25 = .ok (.iadd, 1) := dk_96 (dk_at dksX8_recovers_1 1 rfl rfl)
theorem dX8_recovers_26 : decode cX8_recovers 26 = .ok (.goto 4, 3) := dk_167 0 4 (dk_at dksX8_recovers_1 2 rfl rfl)
theorem dX8_recovers_29 : decode cX8_recovers 29 = .ok (.iconst 0, 1) := dk_3 (dk_at dksX8_recovers_1 5 rfl rfl)
theorem dX8_recovers_30 : decode cX8_recovers 30 = .ok (.iastore, 1) := dk_79 (dk_at dksX8_recovers_1 6 rfl rfl)
theorem dX8_recovers_31 : decode cX8_recovers 31 = .ok (.aload_n 0, 1) := dk_42 (dk_at dksX8_recovers_1 7 rfl rfl)
theorem dX8_recovers_32 : decode cX8_recovers 32 = .ok (.getfield 7, 3) := dk_180 0 7 (dk_at dksX8_recovers_1 8 rfl rfl)
theorem dX8_recovers_35 : decode cX8_recovers 35 = .ok (.iload_n 1, 1) := dk_27 (dk_at dksX8_recovers_1 11 rfl rfl)
theorem dX8_recovers_36 : decode cX8_recovers 36 = .ok (.iconst 2, 1) := dk_5 (dk_at dksX8_recovers_1 12 rfl rfl)
theorem dX8_recovers_37 : decode cX8_recovers 37 = .ok (.invokestatic 35, 3) := dk_184 0 35 (dk_at dksX8_recovers_1 13 rfl rfl)
theorem dX8_recovers_40 : decode cX8_recovers 40 = .ok (.iaload, 1) := dk_46 (dk_at dksX8_recovers_1 16 rfl rfl)
theorem dX8_recovers_41 : decode cX8_recovers 41 = .ok (.bipush 11, 2) := dk_16 11 (dk_at dksX8_recovers_1 17 rfl rfl)
theorem dX8_recovers_43 : decode cX8_recovers 43 = .ok (.if_icmp .ne 77, 3) := dk_160 0 77 (dk_at dksX8_recovers_1 19 rfl rfl)
theorem dX8_recovers_46 : decode cX8_recovers 46 = .ok (.aload_n 0, 1) := dk_42 (dk_at dksX8_recovers_1 22 rfl rfl)
theorem dX8_recovers_47 : decode cX8_recovers 47 = .ok (.getfield 7, 3) := dk_180 0 7 (dk_at dksX8_recovers_2 0 rfl rfl)
theorem dX8_recovers_50 : decode cX8_recovers 50 = .ok (.iload_n 1, 1) := dk_27 (dk_at dksX8_recovers_2 3 rfl rfl)
theorem dX8_recovers_51 : decode cX8_recovers 51 = .ok (.iconst 2, 1) := dk_5 (dk_at dksX8_recovers_2 4 rfl rfl)
theorem dX8_recovers_52 : decode cX8_recovers 52 = .ok (.invokestatic 35, 3) := dk_184 0 35 (dk_at dksX8_recovers_2 5 rfl rfl)
theorem dX8_recovers_55 : decode cX8_recovers 55 = .ok (.iconst 0, 1) := dk_3 (dk_at dksX8_recovers_2 8 rfl rfl)
theorem dX8_recovers_56 : decode cX8_recovers 56 = .ok (.iastore, 1) := dk_79 (dk_at dksX8_recovers_2 9 rfl rfl)
theorem dX8_recovers_57 : decode cX8_recovers 57 = .ok (.aload_n 0, 1) := dk_42 (dk_at dksX8_recovers_2 10 rfl rfl)
theorem dX8_recovers_58 : decode cX8_recovers 58 = .ok (.getfield 7, 3) := dk_180 0 7 (dk_at dksX8_recovers_2 11 rfl rfl)
theorem dX8_recovers_61 : decode cX8_recovers 61 = .ok (.iload_n 1, 1) := dk_27 (dk_at dksX8_recovers_2 14 rfl rfl)
theorem dX8_recovers_62 : decode cX8_recovers 62 = .ok (.iconst 3, 1) := dk_6 (dk_at dksX8_recovers_2 15 rfl rfl)
theorem dX8_recovers_63 : decode cX8_recovers 63 = .ok (.invokestatic 35, 3) := dk_184 0 35 (dk_at dksX8_recovers_2 16 rfl rfl)
theorem dX8_recovers_66 : decode cX8_recovers 66 = .ok (.dup2, 1) := dk_92 (dk_at dksX8_recovers_2 19 rfl rfl)
theorem dX8_recovers_67 : decode cX8_recovers 67 = .ok (.iaload, 1) := dk_46 (dk_at dksX8_recovers_2 20 rfl rfl)
theorem dX8_recovers_68 : decode cX8_recovers 68 = .ok (.iconst 1, 1) := dk_4 (dk_at dksX8_recovers_2 21 rfl rfl)
theorem dX8_recovers_69 : decode cX8_recovers 69 = .ok (.iadd, 1) := dk_96 (dk_at dksX8_recovers_2 22 rfl rfl)
theorem dX8_recovers_70 : decode cX8_recovers 70 = .ok (.iastore, 1) := dk_79 (dk_at dksX8_recovers_2 23 rfl rfl)
theorem dX8_recovers_71 : decode cX8_recovers 71 = .ok (.aload_n 0, 1) := dk_42 (dk_at dksX8_recovers_3 0 rfl rfl)
theorem dX8_recovers_72 : decode cX8_recovers 72 = .ok (.getfield 7, 3) := dk_180 0 7 (dk_at dksX8_recovers_3 1 rfl rfl)
theorem dX8_recovers_75 : decode cX8_recovers 75 = .ok (.iload_n 1, 1) := dk_27 (dk_at dksX8_recovers_3 4 rfl rfl)
theorem dX8_recovers_76 : decode cX8_recovers 76 = .ok (.iconst 3, 1) := dk_6 (dk_at dksX8_recovers_3 5 rfl rfl)
theorem dX8_recovers_77 : decode cX8_recovers 77 = .ok (.invokestatic 35, 3) := dk_184 0 35 (dk_at dksX8_recovers_3 6 rfl rfl)
theorem dX8_recovers_80 : decode cX8_recovers 80 = .ok (.iaload, 1) := dk_46 (dk_at dksX8_recovers_3 9 rfl rfl)
theorem dX8_recovers_81 : decode cX8_recovers 81 = .ok (.aload_n 0, 1) := dk_42 (dk_at dksX8_recovers_3 10 rfl rfl)
theorem dX8_recovers_82 : decode cX8_recovers 82 = .ok (.getfield 7, 3) := dk_180 0 7 (dk_at dksX8_recovers_3 11 rfl rfl)
theorem dX8_recovers_85 : decode cX8_recovers 85 = .ok (.sipush 1027, 3) := dk_17 4 3 (dk_at dksX8_recovers_3 14 rfl rfl)
theorem dX8_recovers_88 : decode cX8_recovers 88 = .ok (.iaload, 1) := dk_46 (dk_at dksX8_recovers_3 17 rfl rfl)
theorem dX8_recovers_89 : decode cX8_recovers 89 = .ok (.if_icmp .lt 31, 3) := dk_161 0 31 (dk_at dksX8_recovers_3 18 rfl rfl)
theorem dX8_recovers_92 : decode cX8_recovers 92 = .ok (.aload_n 0, 1) := dk_42 (dk_at dksX8_recovers_3 21 rfl rfl)
theorem dX8_recovers_93 : decode cX8_recovers 93 = .ok (.getfield 7, 3) := dk_180 0 7 (dk_at dksX8_recovers_4 0 rfl rfl)
theorem dX8_recovers_96 : decode cX8_recovers 96 = .ok (.iload_n 1, 1) := dk_27 (dk_at dksX8_recovers_4 3 rfl rfl)
theorem dX8_recovers_97 : decode cX8_recovers 97 = .ok (.iconst 4, 1) := dk_7 (dk_at dksX8_recovers_4 4 rfl rfl)
theorem dX8_recovers_98 : decode cX8_recovers 98 = .ok (.invokestatic 35, 3) := dk_184 0 35 (dk_at dksX8_recovers_4 5 rfl rfl)
theorem dX8_recovers_101 : decode cX8_recovers 101 = .ok (.iconst 0, 1) := dk_3 (dk_at dksX8_recovers_4 8 rfl rfl)
theorem dX8_recovers_102 : decode cX8_recovers 102 = .ok (.iastore, 1) := dk_79 (dk_at dksX8_recovers_4 9 rfl rfl)
theorem dX8_recovers_103 : decode cX8_recovers 103 = .ok (.aload_n 0, 1) := dk_42 (dk_at dksX8_recovers_4 10 rfl rfl)
theorem dX8_recovers_104 : decode cX8_recovers 104 = .ok (.getfield 7, 3) := dk_180 0 7 (dk_at dksX8_recovers_4 11 rfl rfl)
theorem dX8_recovers_107 : decode cX8_recovers 107 = .ok (.iload_n 1, 1) := dk_27 (dk_at dksX8_recovers_4 14 rfl rfl)
theorem dX8_recovers_108 : decode cX8_recovers 108 = .ok (.iconst 5, 1) := dk_8 (dk_at dksX8_recovers_4 15 rfl rfl)
theorem dX8_recovers_109 : decode cX8_recovers 109 = .ok (.invokestatic 35, 3) := dk_184 0 35 (dk_at dksX8_recovers_4 16 rfl rfl)
theorem dX8_recovers_112 : decode cX8_recovers 112 = .ok (.iconst 0, 1) := dk_3 (dk_at dksX8_recovers_4 19 rfl rfl)
theorem dX8_recovers_113 : decode cX8_recovers 113 = .ok (.iastore, 1) := dk_79 (dk_at dksX8_recovers_4 20 rfl rfl)
theorem dX8_recovers_114 : decode cX8_recovers 114 = .ok (.aload_n 0, 1) := dk_42 (dk_at dksX8_recovers_4 21 rfl rfl)
theorem dX8_recovers_115 : decode cX8_recovers 115 = .ok (.iload_n 1, 1) := dk_27 (dk_at dksX8_recovers_4 22 rfl rfl)
theorem dX8_recovers_116 : decode cX8_recovers 116 = .ok (.iconst 3, 1) := dk_6 (dk_at dksX8_recovers_4 23 rfl rfl)
theorem dX8_recovers_117 : decode cX8_recovers 117 = .ok (.invokevirtual 84, 3) := dk_182 0 84 (dk_at dksX8_recovers_5 0 rfl rfl)
theorem dX8_recovers_120 : decode cX8_recovers 120 = .ok (.return_, 1) := dk_177 (dk_at dksX8_recovers_5 3 rfl rfl)
abbrev cX8_passes : ByteArray := prog_29_method_33_code
def yX8_passes : MethodName := ⟨RX8, "passes", "()V"⟩
def dkwX8_passes_4 : List UInt8 := [132, 2, 1, 167, 255, 163, 42, 180, 0, 7, 17, 4, 4, 27, 79, 177]
abbrev dktX8_passes_4 : List UInt8 := dkwX8_passes_4 ++ []
def dkwX8_passes_3 : List UInt8 := [104, 96, 4, 96, 42, 180, 0, 7, 17, 4, 5, 5, 28, 104, 96, 4, 96, 46, 79, 132, 1, 1]
abbrev dktX8_passes_3 : List UInt8 := dkwX8_passes_3 ++ dktX8_passes_4
def dkwX8_passes_2 : List UInt8 := [104, 96, 42, 180, 0, 7, 17, 4, 5, 5, 28, 104, 96, 46, 79, 42, 180, 0, 7, 17, 4, 5, 5, 27]
abbrev dktX8_passes_2 : List UInt8 := dkwX8_passes_2 ++ dktX8_passes_3
def dkwX8_passes_1 : List UInt8 := [28, 104, 96, 46, 42, 180, 0, 7, 17, 4, 0, 46, 161, 0, 58, 42, 180, 0, 7, 17, 4, 5, 5, 27]
abbrev dktX8_passes_1 : List UInt8 := dkwX8_passes_1 ++ dktX8_passes_2
def dkwX8_passes_0 : List UInt8 := [3, 60, 3, 61, 28, 42, 180, 0, 7, 17, 4, 4, 46, 162, 0, 87, 42, 180, 0, 7, 17, 4, 5, 5]
abbrev dktX8_passes_0 : List UInt8 := dkwX8_passes_0 ++ dktX8_passes_1
theorem dksX8_passes_0 : cX8_passes.data.toList.drop 0 = dktX8_passes_0 := by decide +kernel
theorem dksX8_passes_1 : cX8_passes.data.toList.drop 24 = dktX8_passes_1 := dk_seg dksX8_passes_0 24 rfl rfl
theorem dksX8_passes_2 : cX8_passes.data.toList.drop 48 = dktX8_passes_2 := dk_seg dksX8_passes_1 24 rfl rfl
theorem dksX8_passes_3 : cX8_passes.data.toList.drop 72 = dktX8_passes_3 := dk_seg dksX8_passes_2 24 rfl rfl
theorem dksX8_passes_4 : cX8_passes.data.toList.drop 94 = dktX8_passes_4 := dk_seg dksX8_passes_3 22 rfl rfl
theorem dX8_passes_0 : decode cX8_passes 0 = .ok (.iconst 0, 1) := dk_3 (dk_at dksX8_passes_0 0 rfl rfl)
theorem dX8_passes_1 : decode cX8_passes 1 = .ok (.istore_n 1, 1) := dk_60 (dk_at dksX8_passes_0 1 rfl rfl)
theorem dX8_passes_2 : decode cX8_passes 2 = .ok (.iconst 0, 1) := dk_3 (dk_at dksX8_passes_0 2 rfl rfl)
theorem dX8_passes_3 : decode cX8_passes 3 = .ok (.istore_n 2, 1) := dk_61 (dk_at dksX8_passes_0 3 rfl rfl)
theorem dX8_passes_4 : decode cX8_passes 4 = .ok (.iload_n 2, 1) := dk_28 (dk_at dksX8_passes_0 4 rfl rfl)
theorem dX8_passes_5 : decode cX8_passes 5 = .ok (.aload_n 0, 1) := dk_42 (dk_at dksX8_passes_0 5 rfl rfl)
theorem dX8_passes_6 : decode cX8_passes 6 = .ok (.getfield 7, 3) := dk_180 0 7 (dk_at dksX8_passes_0 6 rfl rfl)
theorem dX8_passes_9 : decode cX8_passes 9 = .ok (.sipush 1028, 3) := dk_17 4 4 (dk_at dksX8_passes_0 9 rfl rfl)
theorem dX8_passes_12 : decode cX8_passes 12 = .ok (.iaload, 1) := dk_46 (dk_at dksX8_passes_0 12 rfl rfl)
theorem dX8_passes_13 : decode cX8_passes 13 = .ok (.if_icmp .ge 87, 3) := dk_162 0 87 (dk_at dksX8_passes_0 13 rfl rfl)
theorem dX8_passes_16 : decode cX8_passes 16 = .ok (.aload_n 0, 1) := dk_42 (dk_at dksX8_passes_0 16 rfl rfl)
theorem dX8_passes_17 : decode cX8_passes 17 = .ok (.getfield 7, 3) := dk_180 0 7 (dk_at dksX8_passes_0 17 rfl rfl)
theorem dX8_passes_20 : decode cX8_passes 20 = .ok (.sipush 1029, 3) := dk_17 4 5 (dk_at dksX8_passes_0 20 rfl rfl)
theorem dX8_passes_23 : decode cX8_passes 23 = .ok (.iconst 2, 1) := dk_5 (dk_at dksX8_passes_0 23 rfl rfl)
theorem dX8_passes_24 : decode cX8_passes 24 = .ok (.iload_n 2, 1) := dk_28 (dk_at dksX8_passes_1 0 rfl rfl)
theorem dX8_passes_25 : decode cX8_passes 25 = .ok (.imul, 1) := dk_104 (dk_at dksX8_passes_1 1 rfl rfl)
theorem dX8_passes_26 : decode cX8_passes 26 = .ok (.iadd, 1) := dk_96 (dk_at dksX8_passes_1 2 rfl rfl)
theorem dX8_passes_27 : decode cX8_passes 27 = .ok (.iaload, 1) := dk_46 (dk_at dksX8_passes_1 3 rfl rfl)
theorem dX8_passes_28 : decode cX8_passes 28 = .ok (.aload_n 0, 1) := dk_42 (dk_at dksX8_passes_1 4 rfl rfl)
theorem dX8_passes_29 : decode cX8_passes 29 = .ok (.getfield 7, 3) := dk_180 0 7 (dk_at dksX8_passes_1 5 rfl rfl)
theorem dX8_passes_32 : decode cX8_passes 32 = .ok (.sipush 1024, 3) := dk_17 4 0 (dk_at dksX8_passes_1 8 rfl rfl)
theorem dX8_passes_35 : decode cX8_passes 35 = .ok (.iaload, 1) := dk_46 (dk_at dksX8_passes_1 11 rfl rfl)
theorem dX8_passes_36 : decode cX8_passes 36 = .ok (.if_icmp .lt 58, 3) := dk_161 0 58 (dk_at dksX8_passes_1 12 rfl rfl)
theorem dX8_passes_39 : decode cX8_passes 39 = .ok (.aload_n 0, 1) := dk_42 (dk_at dksX8_passes_1 15 rfl rfl)
theorem dX8_passes_40 : decode cX8_passes 40 = .ok (.getfield 7, 3) := dk_180 0 7 (dk_at dksX8_passes_1 16 rfl rfl)
theorem dX8_passes_43 : decode cX8_passes 43 = .ok (.sipush 1029, 3) := dk_17 4 5 (dk_at dksX8_passes_1 19 rfl rfl)
theorem dX8_passes_46 : decode cX8_passes 46 = .ok (.iconst 2, 1) := dk_5 (dk_at dksX8_passes_1 22 rfl rfl)
theorem dX8_passes_47 : decode cX8_passes 47 = .ok (.iload_n 1, 1) := dk_27 (dk_at dksX8_passes_1 23 rfl rfl)
theorem dX8_passes_48 : decode cX8_passes 48 = .ok (.imul, 1) := dk_104 (dk_at dksX8_passes_2 0 rfl rfl)
theorem dX8_passes_49 : decode cX8_passes 49 = .ok (.iadd, 1) := dk_96 (dk_at dksX8_passes_2 1 rfl rfl)
theorem dX8_passes_50 : decode cX8_passes 50 = .ok (.aload_n 0, 1) := dk_42 (dk_at dksX8_passes_2 2 rfl rfl)
theorem dX8_passes_51 : decode cX8_passes 51 = .ok (.getfield 7, 3) := dk_180 0 7 (dk_at dksX8_passes_2 3 rfl rfl)
theorem dX8_passes_54 : decode cX8_passes 54 = .ok (.sipush 1029, 3) := dk_17 4 5 (dk_at dksX8_passes_2 6 rfl rfl)
theorem dX8_passes_57 : decode cX8_passes 57 = .ok (.iconst 2, 1) := dk_5 (dk_at dksX8_passes_2 9 rfl rfl)
theorem dX8_passes_58 : decode cX8_passes 58 = .ok (.iload_n 2, 1) := dk_28 (dk_at dksX8_passes_2 10 rfl rfl)
theorem dX8_passes_59 : decode cX8_passes 59 = .ok (.imul, 1) := dk_104 (dk_at dksX8_passes_2 11 rfl rfl)
theorem dX8_passes_60 : decode cX8_passes 60 = .ok (.iadd, 1) := dk_96 (dk_at dksX8_passes_2 12 rfl rfl)
theorem dX8_passes_61 : decode cX8_passes 61 = .ok (.iaload, 1) := dk_46 (dk_at dksX8_passes_2 13 rfl rfl)
theorem dX8_passes_62 : decode cX8_passes 62 = .ok (.iastore, 1) := dk_79 (dk_at dksX8_passes_2 14 rfl rfl)
theorem dX8_passes_63 : decode cX8_passes 63 = .ok (.aload_n 0, 1) := dk_42 (dk_at dksX8_passes_2 15 rfl rfl)
theorem dX8_passes_64 : decode cX8_passes 64 = .ok (.getfield 7, 3) := dk_180 0 7 (dk_at dksX8_passes_2 16 rfl rfl)
theorem dX8_passes_67 : decode cX8_passes 67 = .ok (.sipush 1029, 3) := dk_17 4 5 (dk_at dksX8_passes_2 19 rfl rfl)
theorem dX8_passes_70 : decode cX8_passes 70 = .ok (.iconst 2, 1) := dk_5 (dk_at dksX8_passes_2 22 rfl rfl)
theorem dX8_passes_71 : decode cX8_passes 71 = .ok (.iload_n 1, 1) := dk_27 (dk_at dksX8_passes_2 23 rfl rfl)
theorem dX8_passes_72 : decode cX8_passes 72 = .ok (.imul, 1) := dk_104 (dk_at dksX8_passes_3 0 rfl rfl)
theorem dX8_passes_73 : decode cX8_passes 73 = .ok (.iadd, 1) := dk_96 (dk_at dksX8_passes_3 1 rfl rfl)
theorem dX8_passes_74 : decode cX8_passes 74 = .ok (.iconst 1, 1) := dk_4 (dk_at dksX8_passes_3 2 rfl rfl)
theorem dX8_passes_75 : decode cX8_passes 75 = .ok (.iadd, 1) := dk_96 (dk_at dksX8_passes_3 3 rfl rfl)
theorem dX8_passes_76 : decode cX8_passes 76 = .ok (.aload_n 0, 1) := dk_42 (dk_at dksX8_passes_3 4 rfl rfl)
theorem dX8_passes_77 : decode cX8_passes 77 = .ok (.getfield 7, 3) := dk_180 0 7 (dk_at dksX8_passes_3 5 rfl rfl)
theorem dX8_passes_80 : decode cX8_passes 80 = .ok (.sipush 1029, 3) := dk_17 4 5 (dk_at dksX8_passes_3 8 rfl rfl)
theorem dX8_passes_83 : decode cX8_passes 83 = .ok (.iconst 2, 1) := dk_5 (dk_at dksX8_passes_3 11 rfl rfl)
theorem dX8_passes_84 : decode cX8_passes 84 = .ok (.iload_n 2, 1) := dk_28 (dk_at dksX8_passes_3 12 rfl rfl)
theorem dX8_passes_85 : decode cX8_passes 85 = .ok (.imul, 1) := dk_104 (dk_at dksX8_passes_3 13 rfl rfl)
theorem dX8_passes_86 : decode cX8_passes 86 = .ok (.iadd, 1) := dk_96 (dk_at dksX8_passes_3 14 rfl rfl)
theorem dX8_passes_87 : decode cX8_passes 87 = .ok (.iconst 1, 1) := dk_4 (dk_at dksX8_passes_3 15 rfl rfl)
theorem dX8_passes_88 : decode cX8_passes 88 = .ok (.iadd, 1) := dk_96 (dk_at dksX8_passes_3 16 rfl rfl)
theorem dX8_passes_89 : decode cX8_passes 89 = .ok (.iaload, 1) := dk_46 (dk_at dksX8_passes_3 17 rfl rfl)
theorem dX8_passes_90 : decode cX8_passes 90 = .ok (.iastore, 1) := dk_79 (dk_at dksX8_passes_3 18 rfl rfl)
theorem dX8_passes_91 : decode cX8_passes 91 = .ok (.iinc 1 1, 3) := dk_132 1 1 (dk_at dksX8_passes_3 19 rfl rfl)
theorem dX8_passes_94 : decode cX8_passes 94 = .ok (.iinc 2 1, 3) := dk_132 2 1 (dk_at dksX8_passes_4 0 rfl rfl)
theorem dX8_passes_97 : decode cX8_passes 97 = .ok (.goto (-93), 3) := dk_167 255 163 (dk_at dksX8_passes_4 3 rfl rfl)
theorem dX8_passes_100 : decode cX8_passes 100 = .ok (.aload_n 0, 1) := dk_42 (dk_at dksX8_passes_4 6 rfl rfl)
theorem dX8_passes_101 : decode cX8_passes 101 = .ok (.getfield 7, 3) := dk_180 0 7 (dk_at dksX8_passes_4 7 rfl rfl)
theorem dX8_passes_104 : decode cX8_passes 104 = .ok (.sipush 1028, 3) := dk_17 4 4 (dk_at dksX8_passes_4 10 rfl rfl)
theorem dX8_passes_107 : decode cX8_passes 107 = .ok (.iload_n 1, 1) := dk_27 (dk_at dksX8_passes_4 13 rfl rfl)
theorem dX8_passes_108 : decode cX8_passes 108 = .ok (.iastore, 1) := dk_79 (dk_at dksX8_passes_4 14 rfl rfl)
theorem dX8_passes_109 : decode cX8_passes 109 = .ok (.return_, 1) := dk_177 (dk_at dksX8_passes_4 15 rfl rfl)
abbrev cX8_settle : ByteArray := prog_29_method_62_code
def yX8_settle : MethodName := ⟨RX8, "settle", "()I"⟩
def dkwX8_settle_1 : List UInt8 := [167, 255, 235, 42, 182, 0, 181, 153, 0, 7, 27, 167, 0, 5, 16, 251, 172]
abbrev dktX8_settle_1 : List UInt8 := dkwX8_settle_1 ++ []
def dkwX8_settle_0 : List UInt8 := [3, 60, 27, 17, 3, 232, 162, 0, 20, 42, 182, 0, 181, 154, 0, 13, 42, 182, 0, 178, 132, 1, 1]
abbrev dktX8_settle_0 : List UInt8 := dkwX8_settle_0 ++ dktX8_settle_1
theorem dksX8_settle_0 : cX8_settle.data.toList.drop 0 = dktX8_settle_0 := by decide +kernel
theorem dksX8_settle_1 : cX8_settle.data.toList.drop 23 = dktX8_settle_1 := dk_seg dksX8_settle_0 23 rfl rfl
theorem dX8_settle_0 : decode cX8_settle 0 = .ok (.iconst 0, 1) := dk_3 (dk_at dksX8_settle_0 0 rfl rfl)
theorem dX8_settle_1 : decode cX8_settle 1 = .ok (.istore_n 1, 1) := dk_60 (dk_at dksX8_settle_0 1 rfl rfl)
theorem dX8_settle_2 : decode cX8_settle 2 = .ok (.iload_n 1, 1) := dk_27 (dk_at dksX8_settle_0 2 rfl rfl)
theorem dX8_settle_3 : decode cX8_settle 3 = .ok (.sipush 1000, 3) := dk_17 3 232 (dk_at dksX8_settle_0 3 rfl rfl)
theorem dX8_settle_6 : decode cX8_settle 6 = .ok (.if_icmp .ge 20, 3) := dk_162 0 20 (dk_at dksX8_settle_0 6 rfl rfl)
theorem dX8_settle_9 : decode cX8_settle 9 = .ok (.aload_n 0, 1) := dk_42 (dk_at dksX8_settle_0 9 rfl rfl)
theorem dX8_settle_10 : decode cX8_settle 10 = .ok (.invokevirtual 181, 3) := dk_182 0 181 (dk_at dksX8_settle_0 10 rfl rfl)
theorem dX8_settle_13 : decode cX8_settle 13 = .ok (.ifCond .ne 13, 3) := dk_154 0 13 (dk_at dksX8_settle_0 13 rfl rfl)
theorem dX8_settle_16 : decode cX8_settle 16 = .ok (.aload_n 0, 1) := dk_42 (dk_at dksX8_settle_0 16 rfl rfl)
theorem dX8_settle_17 : decode cX8_settle 17 = .ok (.invokevirtual 178, 3) := dk_182 0 178 (dk_at dksX8_settle_0 17 rfl rfl)
theorem dX8_settle_20 : decode cX8_settle 20 = .ok (.iinc 1 1, 3) := dk_132 1 1 (dk_at dksX8_settle_0 20 rfl rfl)
theorem dX8_settle_23 : decode cX8_settle 23 = .ok (.goto (-21), 3) := dk_167 255 235 (dk_at dksX8_settle_1 0 rfl rfl)
theorem dX8_settle_26 : decode cX8_settle 26 = .ok (.aload_n 0, 1) := dk_42 (dk_at dksX8_settle_1 3 rfl rfl)
theorem dX8_settle_27 : decode cX8_settle 27 = .ok (.invokevirtual 181, 3) := dk_182 0 181 (dk_at dksX8_settle_1 4 rfl rfl)
theorem dX8_settle_30 : decode cX8_settle 30 = .ok (.ifCond .eq 7, 3) := dk_153 0 7 (dk_at dksX8_settle_1 7 rfl rfl)
theorem dX8_settle_33 : decode cX8_settle 33 = .ok (.iload_n 1, 1) := dk_27 (dk_at dksX8_settle_1 10 rfl rfl)
theorem dX8_settle_34 : decode cX8_settle 34 = .ok (.goto 5, 3) := dk_167 0 5 (dk_at dksX8_settle_1 11 rfl rfl)
theorem dX8_settle_37 : decode cX8_settle 37 = .ok (.bipush (-5), 2) := dk_16 251 (dk_at dksX8_settle_1 14 rfl rfl)
theorem dX8_settle_39 : decode cX8_settle 39 = .ok (.ireturn, 1) := dk_172 (dk_at dksX8_settle_1 16 rfl rfl)
abbrev cX8_isSettled : ByteArray := prog_29_method_61_code
def yX8_isSettled : MethodName := ⟨RX8, "isSettled", "()Z"⟩
def dkwX8_isSettled_2 : List UInt8 := [46, 154, 0, 7, 4, 167, 0, 4, 3, 60, 132, 2, 1, 167, 255, 199, 27, 172]
abbrev dktX8_isSettled_2 : List UInt8 := dkwX8_isSettled_2 ++ []
def dkwX8_isSettled_1 : List UInt8 := [29, 153, 0, 27, 29, 4, 159, 0, 22, 29, 6, 160, 0, 21, 42, 180, 0, 7, 28, 16, 23, 184, 0, 35]
abbrev dktX8_isSettled_1 : List UInt8 := dkwX8_isSettled_1 ++ dktX8_isSettled_2
def dkwX8_isSettled_0 : List UInt8 := [4, 60, 3, 61, 28, 7, 162, 0, 58, 42, 180, 0, 7, 28, 3, 184, 0, 35, 46, 62, 27, 153, 0, 35]
abbrev dktX8_isSettled_0 : List UInt8 := dkwX8_isSettled_0 ++ dktX8_isSettled_1
theorem dksX8_isSettled_0 : cX8_isSettled.data.toList.drop 0 = dktX8_isSettled_0 := by decide +kernel
theorem dksX8_isSettled_1 : cX8_isSettled.data.toList.drop 24 = dktX8_isSettled_1 := dk_seg dksX8_isSettled_0 24 rfl rfl
theorem dksX8_isSettled_2 : cX8_isSettled.data.toList.drop 48 = dktX8_isSettled_2 := dk_seg dksX8_isSettled_1 24 rfl rfl
theorem dX8_isSettled_0 : decode cX8_isSettled 0 = .ok (.iconst 1, 1) := dk_4 (dk_at dksX8_isSettled_0 0 rfl rfl)
theorem dX8_isSettled_1 : decode cX8_isSettled 1 = .ok (.istore_n 1, 1) := dk_60 (dk_at dksX8_isSettled_0 1 rfl rfl)
theorem dX8_isSettled_2 : decode cX8_isSettled 2 = .ok (.iconst 0, 1) := dk_3 (dk_at dksX8_isSettled_0 2 rfl rfl)
theorem dX8_isSettled_3 : decode cX8_isSettled 3 = .ok (.istore_n 2, 1) := dk_61 (dk_at dksX8_isSettled_0 3 rfl rfl)
theorem dX8_isSettled_4 : decode cX8_isSettled 4 = .ok (.iload_n 2, 1) := dk_28 (dk_at dksX8_isSettled_0 4 rfl rfl)
theorem dX8_isSettled_5 : decode cX8_isSettled 5 = .ok (.iconst 4, 1) := dk_7 (dk_at dksX8_isSettled_0 5 rfl rfl)
theorem dX8_isSettled_6 : decode cX8_isSettled 6 = .ok (.if_icmp .ge 58, 3) := dk_162 0 58 (dk_at dksX8_isSettled_0 6 rfl rfl)
theorem dX8_isSettled_9 : decode cX8_isSettled 9 = .ok (.aload_n 0, 1) := dk_42 (dk_at dksX8_isSettled_0 9 rfl rfl)
theorem dX8_isSettled_10 : decode cX8_isSettled 10 = .ok (.getfield 7, 3) := dk_180 0 7 (dk_at dksX8_isSettled_0 10 rfl rfl)
theorem dX8_isSettled_13 : decode cX8_isSettled 13 = .ok (.iload_n 2, 1) := dk_28 (dk_at dksX8_isSettled_0 13 rfl rfl)
theorem dX8_isSettled_14 : decode cX8_isSettled 14 = .ok (.iconst 0, 1) := dk_3 (dk_at dksX8_isSettled_0 14 rfl rfl)
theorem dX8_isSettled_15 : decode cX8_isSettled 15 = .ok (.invokestatic 35, 3) := dk_184 0 35 (dk_at dksX8_isSettled_0 15 rfl rfl)
theorem dX8_isSettled_18 : decode cX8_isSettled 18 = .ok (.iaload, 1) := dk_46 (dk_at dksX8_isSettled_0 18 rfl rfl)
theorem dX8_isSettled_19 : decode cX8_isSettled 19 = .ok (.istore_n 3, 1) := dk_62 (dk_at dksX8_isSettled_0 19 rfl rfl)
theorem dX8_isSettled_20 : decode cX8_isSettled 20 = .ok (.iload_n 1, 1) := dk_27 (dk_at dksX8_isSettled_0 20 rfl rfl)
theorem dX8_isSettled_21 : decode cX8_isSettled 21 = .ok (.ifCond .eq 35, 3) := dk_153 0 35 (dk_at dksX8_isSettled_0 21 rfl rfl)
theorem dX8_isSettled_24 : decode cX8_isSettled 24 = .ok (.iload_n 3, 1) := dk_29 (dk_at dksX8_isSettled_1 0 rfl rfl)
theorem dX8_isSettled_25 : decode cX8_isSettled 25 = .ok (.ifCond .eq 27, 3) := dk_153 0 27 (dk_at dksX8_isSettled_1 1 rfl rfl)
theorem dX8_isSettled_28 : decode cX8_isSettled 28 = .ok (.iload_n 3, 1) := dk_29 (dk_at dksX8_isSettled_1 4 rfl rfl)
theorem dX8_isSettled_29 : decode cX8_isSettled 29 = .ok (.iconst 1, 1) := dk_4 (dk_at dksX8_isSettled_1 5 rfl rfl)
theorem dX8_isSettled_30 : decode cX8_isSettled 30 = .ok (.if_icmp .eq 22, 3) := dk_159 0 22 (dk_at dksX8_isSettled_1 6 rfl rfl)
theorem dX8_isSettled_33 : decode cX8_isSettled 33 = .ok (.iload_n 3, 1) := dk_29 (dk_at dksX8_isSettled_1 9 rfl rfl)
theorem dX8_isSettled_34 : decode cX8_isSettled 34 = .ok (.iconst 3, 1) := dk_6 (dk_at dksX8_isSettled_1 10 rfl rfl)
theorem dX8_isSettled_35 : decode cX8_isSettled 35 = .ok (.if_icmp .ne 21, 3) := dk_160 0 21 (dk_at dksX8_isSettled_1 11 rfl rfl)
theorem dX8_isSettled_38 : decode cX8_isSettled 38 = .ok (.aload_n 0, 1) := dk_42 (dk_at dksX8_isSettled_1 14 rfl rfl)
theorem dX8_isSettled_39 : decode cX8_isSettled 39 = .ok (.getfield 7, 3) := dk_180 0 7 (dk_at dksX8_isSettled_1 15 rfl rfl)
theorem dX8_isSettled_42 : decode cX8_isSettled 42 = .ok (.iload_n 2, 1) := dk_28 (dk_at dksX8_isSettled_1 18 rfl rfl)
theorem dX8_isSettled_43 : decode cX8_isSettled 43 = .ok (.bipush 23, 2) := dk_16 23 (dk_at dksX8_isSettled_1 19 rfl rfl)
theorem dX8_isSettled_45 : decode cX8_isSettled 45 = .ok (.invokestatic 35, 3) := dk_184 0 35 (dk_at dksX8_isSettled_1 21 rfl rfl)
theorem dX8_isSettled_48 : decode cX8_isSettled 48 = .ok (.iaload, 1) := dk_46 (dk_at dksX8_isSettled_2 0 rfl rfl)
theorem dX8_isSettled_49 : decode cX8_isSettled 49 = .ok (.ifCond .ne 7, 3) := dk_154 0 7 (dk_at dksX8_isSettled_2 1 rfl rfl)
theorem dX8_isSettled_52 : decode cX8_isSettled 52 = .ok (.iconst 1, 1) := dk_4 (dk_at dksX8_isSettled_2 4 rfl rfl)
theorem dX8_isSettled_53 : decode cX8_isSettled 53 = .ok (.goto 4, 3) := dk_167 0 4 (dk_at dksX8_isSettled_2 5 rfl rfl)
theorem dX8_isSettled_56 : decode cX8_isSettled 56 = .ok (.iconst 0, 1) := dk_3 (dk_at dksX8_isSettled_2 8 rfl rfl)
theorem dX8_isSettled_57 : decode cX8_isSettled 57 = .ok (.istore_n 1, 1) := dk_60 (dk_at dksX8_isSettled_2 9 rfl rfl)
theorem dX8_isSettled_58 : decode cX8_isSettled 58 = .ok (.iinc 2 1, 3) := dk_132 2 1 (dk_at dksX8_isSettled_2 10 rfl rfl)
theorem dX8_isSettled_61 : decode cX8_isSettled 61 = .ok (.goto (-57), 3) := dk_167 255 199 (dk_at dksX8_isSettled_2 13 rfl rfl)
theorem dX8_isSettled_64 : decode cX8_isSettled 64 = .ok (.iload_n 1, 1) := dk_27 (dk_at dksX8_isSettled_2 16 rfl rfl)
theorem dX8_isSettled_65 : decode cX8_isSettled 65 = .ok (.ireturn, 1) := dk_172 (dk_at dksX8_isSettled_2 17 rfl rfl)
abbrev cX8_phase : ByteArray := prog_29_method_64_code
def yX8_phase : MethodName := ⟨RX8, "phase", "(I)I"⟩
def dkwX8_phase_0 : List UInt8 := [42, 27, 3, 182, 0, 185, 172]
abbrev dktX8_phase_0 : List UInt8 := dkwX8_phase_0 ++ []
theorem dksX8_phase_0 : cX8_phase.data.toList.drop 0 = dktX8_phase_0 := by decide +kernel
theorem dX8_phase_0 : decode cX8_phase 0 = .ok (.aload_n 0, 1) := dk_42 (dk_at dksX8_phase_0 0 rfl rfl)
theorem dX8_phase_1 : decode cX8_phase 1 = .ok (.iload_n 1, 1) := dk_27 (dk_at dksX8_phase_0 1 rfl rfl)
theorem dX8_phase_2 : decode cX8_phase 2 = .ok (.iconst 0, 1) := dk_3 (dk_at dksX8_phase_0 2 rfl rfl)
theorem dX8_phase_3 : decode cX8_phase 3 = .ok (.invokevirtual 185, 3) := dk_182 0 185 (dk_at dksX8_phase_0 3 rfl rfl)
theorem dX8_phase_6 : decode cX8_phase 6 = .ok (.ireturn, 1) := dk_172 (dk_at dksX8_phase_0 6 rfl rfl)
abbrev cX8_of : ByteArray := prog_29_method_63_code
def yX8_of : MethodName := ⟨RX8, "of", "(II)I"⟩
def dkwX8_of_0 : List UInt8 := [27, 184, 0, 66, 153, 0, 16, 42, 180, 0, 7, 27, 28, 184, 0, 35, 46, 167, 0, 4, 2, 172]
abbrev dktX8_of_0 : List UInt8 := dkwX8_of_0 ++ []
theorem dksX8_of_0 : cX8_of.data.toList.drop 0 = dktX8_of_0 := by decide +kernel
theorem dX8_of_0 : decode cX8_of 0 = .ok (.iload_n 1, 1) := dk_27 (dk_at dksX8_of_0 0 rfl rfl)
theorem dX8_of_1 : decode cX8_of 1 = .ok (.invokestatic 66, 3) := dk_184 0 66 (dk_at dksX8_of_0 1 rfl rfl)
theorem dX8_of_4 : decode cX8_of 4 = .ok (.ifCond .eq 16, 3) := dk_153 0 16 (dk_at dksX8_of_0 4 rfl rfl)
theorem dX8_of_7 : decode cX8_of 7 = .ok (.aload_n 0, 1) := dk_42 (dk_at dksX8_of_0 7 rfl rfl)
theorem dX8_of_8 : decode cX8_of 8 = .ok (.getfield 7, 3) := dk_180 0 7 (dk_at dksX8_of_0 8 rfl rfl)
theorem dX8_of_11 : decode cX8_of 11 = .ok (.iload_n 1, 1) := dk_27 (dk_at dksX8_of_0 11 rfl rfl)
theorem dX8_of_12 : decode cX8_of 12 = .ok (.iload_n 2, 1) := dk_28 (dk_at dksX8_of_0 12 rfl rfl)
theorem dX8_of_13 : decode cX8_of 13 = .ok (.invokestatic 35, 3) := dk_184 0 35 (dk_at dksX8_of_0 13 rfl rfl)
theorem dX8_of_16 : decode cX8_of 16 = .ok (.iaload, 1) := dk_46 (dk_at dksX8_of_0 16 rfl rfl)
theorem dX8_of_17 : decode cX8_of 17 = .ok (.goto 4, 3) := dk_167 0 4 (dk_at dksX8_of_0 17 rfl rfl)
theorem dX8_of_20 : decode cX8_of 20 = .ok (.iconst (-1), 1) := dk_2 (dk_at dksX8_of_0 20 rfl rfl)
theorem dX8_of_21 : decode cX8_of 21 = .ok (.ireturn, 1) := dk_172 (dk_at dksX8_of_0 21 rfl rfl)
abbrev cX8_isTransmitter : ByteArray := prog_29_method_65_code
def yX8_isTransmitter : MethodName := ⟨RX8, "isTransmitter", "(I)I"⟩
def dkwX8_isTransmitter_0 : List UInt8 := [42, 27, 4, 182, 0, 185, 172]
abbrev dktX8_isTransmitter_0 : List UInt8 := dkwX8_isTransmitter_0 ++ []
theorem dksX8_isTransmitter_0 : cX8_isTransmitter.data.toList.drop 0 = dktX8_isTransmitter_0 := by decide +kernel
theorem dX8_isTransmitter_0 : decode cX8_isTransmitter 0 = .ok (.aload_n 0, 1) := dk_42 (dk_at dksX8_isTransmitter_0 0 rfl rfl)
theorem dX8_isTransmitter_1 : decode cX8_isTransmitter 1 = .ok (.iload_n 1, 1) := dk_27 (dk_at dksX8_isTransmitter_0 1 rfl rfl)
theorem dX8_isTransmitter_2 : decode cX8_isTransmitter 2 = .ok (.iconst 1, 1) := dk_4 (dk_at dksX8_isTransmitter_0 2 rfl rfl)
theorem dX8_isTransmitter_3 : decode cX8_isTransmitter 3 = .ok (.invokevirtual 185, 3) := dk_182 0 185 (dk_at dksX8_isTransmitter_0 3 rfl rfl)
theorem dX8_isTransmitter_6 : decode cX8_isTransmitter 6 = .ok (.ireturn, 1) := dk_172 (dk_at dksX8_isTransmitter_0 6 rfl rfl)
abbrev cX8_transmitErrors : ByteArray := prog_29_method_66_code
def yX8_transmitErrors : MethodName := ⟨RX8, "transmitErrors", "(I)I"⟩
def dkwX8_transmitErrors_0 : List UInt8 := [42, 27, 7, 182, 0, 185, 172]
abbrev dktX8_transmitErrors_0 : List UInt8 := dkwX8_transmitErrors_0 ++ []
theorem dksX8_transmitErrors_0 : cX8_transmitErrors.data.toList.drop 0 = dktX8_transmitErrors_0 := by decide +kernel
theorem dX8_transmitErrors_0 : decode cX8_transmitErrors 0 = .ok (.aload_n 0, 1) := dk_42 (dk_at dksX8_transmitErrors_0 0 rfl rfl)
theorem dX8_transmitErrors_1 : decode cX8_transmitErrors 1 = .ok (.iload_n 1, 1) := dk_27 (dk_at dksX8_transmitErrors_0 1 rfl rfl)
theorem dX8_transmitErrors_2 : decode cX8_transmitErrors 2 = .ok (.iconst 4, 1) := dk_7 (dk_at dksX8_transmitErrors_0 2 rfl rfl)
theorem dX8_transmitErrors_3 : decode cX8_transmitErrors 3 = .ok (.invokevirtual 185, 3) := dk_182 0 185 (dk_at dksX8_transmitErrors_0 3 rfl rfl)
theorem dX8_transmitErrors_6 : decode cX8_transmitErrors 6 = .ok (.ireturn, 1) := dk_172 (dk_at dksX8_transmitErrors_0 6 rfl rfl)
abbrev cX8_receiveErrors : ByteArray := prog_29_method_67_code
def yX8_receiveErrors : MethodName := ⟨RX8, "receiveErrors", "(I)I"⟩
def dkwX8_receiveErrors_0 : List UInt8 := [42, 27, 8, 182, 0, 185, 172]
abbrev dktX8_receiveErrors_0 : List UInt8 := dkwX8_receiveErrors_0 ++ []
theorem dksX8_receiveErrors_0 : cX8_receiveErrors.data.toList.drop 0 = dktX8_receiveErrors_0 := by decide +kernel
theorem dX8_receiveErrors_0 : decode cX8_receiveErrors 0 = .ok (.aload_n 0, 1) := dk_42 (dk_at dksX8_receiveErrors_0 0 rfl rfl)
theorem dX8_receiveErrors_1 : decode cX8_receiveErrors 1 = .ok (.iload_n 1, 1) := dk_27 (dk_at dksX8_receiveErrors_0 1 rfl rfl)
theorem dX8_receiveErrors_2 : decode cX8_receiveErrors 2 = .ok (.iconst 5, 1) := dk_8 (dk_at dksX8_receiveErrors_0 2 rfl rfl)
theorem dX8_receiveErrors_3 : decode cX8_receiveErrors 3 = .ok (.invokevirtual 185, 3) := dk_182 0 185 (dk_at dksX8_receiveErrors_0 3 rfl rfl)
theorem dX8_receiveErrors_6 : decode cX8_receiveErrors 6 = .ok (.ireturn, 1) := dk_172 (dk_at dksX8_receiveErrors_0 6 rfl rfl)
abbrev cX8_isPassive : ByteArray := prog_29_method_68_code
def yX8_isPassive : MethodName := ⟨RX8, "isPassive", "(I)I"⟩
def dkwX8_isPassive_1 : List UInt8 := [172]
abbrev dktX8_isPassive_1 : List UInt8 := dkwX8_isPassive_1 ++ []
def dkwX8_isPassive_0 : List UInt8 := [27, 184, 0, 66, 154, 0, 7, 2, 167, 0, 16, 42, 27, 182, 0, 119, 153, 0, 7, 4, 167, 0, 4, 3]
abbrev dktX8_isPassive_0 : List UInt8 := dkwX8_isPassive_0 ++ dktX8_isPassive_1
theorem dksX8_isPassive_0 : cX8_isPassive.data.toList.drop 0 = dktX8_isPassive_0 := by decide +kernel
theorem dksX8_isPassive_1 : cX8_isPassive.data.toList.drop 24 = dktX8_isPassive_1 := dk_seg dksX8_isPassive_0 24 rfl rfl
theorem dX8_isPassive_0 : decode cX8_isPassive 0 = .ok (.iload_n 1, 1) := dk_27 (dk_at dksX8_isPassive_0 0 rfl rfl)
theorem dX8_isPassive_1 : decode cX8_isPassive 1 = .ok (.invokestatic 66, 3) := dk_184 0 66 (dk_at dksX8_isPassive_0 1 rfl rfl)
theorem dX8_isPassive_4 : decode cX8_isPassive 4 = .ok (.ifCond .ne 7, 3) := dk_154 0 7 (dk_at dksX8_isPassive_0 4 rfl rfl)
theorem dX8_isPassive_7 : decode cX8_isPassive 7 = .ok (.iconst (-1), 1) := dk_2 (dk_at dksX8_isPassive_0 7 rfl rfl)
theorem dX8_isPassive_8 : decode cX8_isPassive 8 = .ok (.goto 16, 3) := dk_167 0 16 (dk_at dksX8_isPassive_0 8 rfl rfl)
theorem dX8_isPassive_11 : decode cX8_isPassive 11 = .ok (.aload_n 0, 1) := dk_42 (dk_at dksX8_isPassive_0 11 rfl rfl)
theorem dX8_isPassive_12 : decode cX8_isPassive 12 = .ok (.iload_n 1, 1) := dk_27 (dk_at dksX8_isPassive_0 12 rfl rfl)
theorem dX8_isPassive_13 : decode cX8_isPassive 13 = .ok (.invokevirtual 119, 3) := dk_182 0 119 (dk_at dksX8_isPassive_0 13 rfl rfl)
theorem dX8_isPassive_16 : decode cX8_isPassive 16 = .ok (.ifCond .eq 7, 3) := dk_153 0 7 (dk_at dksX8_isPassive_0 16 rfl rfl)
theorem dX8_isPassive_19 : decode cX8_isPassive 19 = .ok (.iconst 1, 1) := dk_4 (dk_at dksX8_isPassive_0 19 rfl rfl)
theorem dX8_isPassive_20 : decode cX8_isPassive 20 = .ok (.goto 4, 3) := dk_167 0 4 (dk_at dksX8_isPassive_0 20 rfl rfl)
theorem dX8_isPassive_23 : decode cX8_isPassive 23 = .ok (.iconst 0, 1) := dk_3 (dk_at dksX8_isPassive_0 23 rfl rfl)
theorem dX8_isPassive_24 : decode cX8_isPassive 24 = .ok (.ireturn, 1) := dk_172 (dk_at dksX8_isPassive_1 0 rfl rfl)
abbrev cX8_errors : ByteArray := prog_29_method_69_code
def yX8_errors : MethodName := ⟨RX8, "errors", "(II)I"⟩
def dkwX8_errors_1 : List UInt8 := [28, 96, 184, 0, 35, 46, 167, 0, 5, 16, 254, 172]
abbrev dktX8_errors_1 : List UInt8 := dkwX8_errors_1 ++ []
def dkwX8_errors_0 : List UInt8 := [27, 184, 0, 66, 154, 0, 5, 2, 172, 28, 4, 8, 184, 0, 39, 153, 0, 18, 42, 180, 0, 7, 27, 8]
abbrev dktX8_errors_0 : List UInt8 := dkwX8_errors_0 ++ dktX8_errors_1
theorem dksX8_errors_0 : cX8_errors.data.toList.drop 0 = dktX8_errors_0 := by decide +kernel
theorem dksX8_errors_1 : cX8_errors.data.toList.drop 24 = dktX8_errors_1 := dk_seg dksX8_errors_0 24 rfl rfl
theorem dX8_errors_0 : decode cX8_errors 0 = .ok (.iload_n 1, 1) := dk_27 (dk_at dksX8_errors_0 0 rfl rfl)
theorem dX8_errors_1 : decode cX8_errors 1 = .ok (.invokestatic 66, 3) := dk_184 0 66 (dk_at dksX8_errors_0 1 rfl rfl)
theorem dX8_errors_4 : decode cX8_errors 4 = .ok (.ifCond .ne 5, 3) := dk_154 0 5 (dk_at dksX8_errors_0 4 rfl rfl)
theorem dX8_errors_7 : decode cX8_errors 7 = .ok (.iconst (-1), 1) := dk_2 (dk_at dksX8_errors_0 7 rfl rfl)
theorem dX8_errors_8 : decode cX8_errors 8 = .ok (.ireturn, 1) := dk_172 (dk_at dksX8_errors_0 8 rfl rfl)
theorem dX8_errors_9 : decode cX8_errors 9 = .ok (.iload_n 2, 1) := dk_28 (dk_at dksX8_errors_0 9 rfl rfl)
theorem dX8_errors_10 : decode cX8_errors 10 = .ok (.iconst 1, 1) := dk_4 (dk_at dksX8_errors_0 10 rfl rfl)
theorem dX8_errors_11 : decode cX8_errors 11 = .ok (.iconst 5, 1) := dk_8 (dk_at dksX8_errors_0 11 rfl rfl)
theorem dX8_errors_12 : decode cX8_errors 12 = .ok (.invokestatic 39, 3) := dk_184 0 39 (dk_at dksX8_errors_0 12 rfl rfl)
theorem dX8_errors_15 : decode cX8_errors 15 = .ok (.ifCond .eq 18, 3) := dk_153 0 18 (dk_at dksX8_errors_0 15 rfl rfl)
theorem dX8_errors_18 : decode cX8_errors 18 = .ok (.aload_n 0, 1) := dk_42 (dk_at dksX8_errors_0 18 rfl rfl)
theorem dX8_errors_19 : decode cX8_errors 19 = .ok (.getfield 7, 3) := dk_180 0 7 (dk_at dksX8_errors_0 19 rfl rfl)
theorem dX8_errors_22 : decode cX8_errors 22 = .ok (.iload_n 1, 1) := dk_27 (dk_at dksX8_errors_0 22 rfl rfl)
theorem dX8_errors_23 : decode cX8_errors 23 = .ok (.iconst 5, 1) := dk_8 (dk_at dksX8_errors_0 23 rfl rfl)
theorem dX8_errors_24 : decode cX8_errors 24 = .ok (.iload_n 2, 1) := dk_28 (dk_at dksX8_errors_1 0 rfl rfl)
theorem dX8_errors_25 : decode cX8_errors 25 = .ok (.iadd, 1) := dk_96 (dk_at dksX8_errors_1 1 rfl rfl)
theorem dX8_errors_26 : decode cX8_errors 26 = .ok (.invokestatic 35, 3) := dk_184 0 35 (dk_at dksX8_errors_1 2 rfl rfl)
theorem dX8_errors_29 : decode cX8_errors 29 = .ok (.iaload, 1) := dk_46 (dk_at dksX8_errors_1 5 rfl rfl)
theorem dX8_errors_30 : decode cX8_errors 30 = .ok (.goto 5, 3) := dk_167 0 5 (dk_at dksX8_errors_1 6 rfl rfl)
theorem dX8_errors_33 : decode cX8_errors 33 = .ok (.bipush (-2), 2) := dk_16 254 (dk_at dksX8_errors_1 9 rfl rfl)
theorem dX8_errors_35 : decode cX8_errors 35 = .ok (.ireturn, 1) := dk_172 (dk_at dksX8_errors_1 11 rfl rfl)
abbrev cX8_lastError : ByteArray := prog_29_method_71_code
def yX8_lastError : MethodName := ⟨RX8, "lastError", "(I)I"⟩
def dkwX8_lastError_0 : List UInt8 := [27, 184, 0, 66, 153, 0, 11, 42, 27, 182, 0, 188, 167, 0, 4, 2, 172]
abbrev dktX8_lastError_0 : List UInt8 := dkwX8_lastError_0 ++ []
theorem dksX8_lastError_0 : cX8_lastError.data.toList.drop 0 = dktX8_lastError_0 := by decide +kernel
theorem dX8_lastError_0 : decode cX8_lastError 0 = .ok (.iload_n 1, 1) := dk_27 (dk_at dksX8_lastError_0 0 rfl rfl)
theorem dX8_lastError_1 : decode cX8_lastError 1 = .ok (.invokestatic 66, 3) := dk_184 0 66 (dk_at dksX8_lastError_0 1 rfl rfl)
theorem dX8_lastError_4 : decode cX8_lastError 4 = .ok (.ifCond .eq 11, 3) := dk_153 0 11 (dk_at dksX8_lastError_0 4 rfl rfl)
theorem dX8_lastError_7 : decode cX8_lastError 7 = .ok (.aload_n 0, 1) := dk_42 (dk_at dksX8_lastError_0 7 rfl rfl)
theorem dX8_lastError_8 : decode cX8_lastError 8 = .ok (.iload_n 1, 1) := dk_27 (dk_at dksX8_lastError_0 8 rfl rfl)
theorem dX8_lastError_9 : decode cX8_lastError 9 = .ok (.invokevirtual 188, 3) := dk_182 0 188 (dk_at dksX8_lastError_0 9 rfl rfl)
theorem dX8_lastError_12 : decode cX8_lastError 12 = .ok (.goto 4, 3) := dk_167 0 4 (dk_at dksX8_lastError_0 12 rfl rfl)
theorem dX8_lastError_15 : decode cX8_lastError 15 = .ok (.iconst (-1), 1) := dk_2 (dk_at dksX8_lastError_0 15 rfl rfl)
theorem dX8_lastError_16 : decode cX8_lastError 16 = .ok (.ireturn, 1) := dk_172 (dk_at dksX8_lastError_0 16 rfl rfl)
abbrev cX8_lastOf : ByteArray := prog_29_method_70_code
def yX8_lastOf : MethodName := ⟨RX8, "lastOf", "(I)I"⟩
def dkwX8_lastOf_1 : List UInt8 := [16, 11, 184, 0, 35, 46, 172]
abbrev dktX8_lastOf_1 : List UInt8 := dkwX8_lastOf_1 ++ []
def dkwX8_lastOf_0 : List UInt8 := [42, 180, 0, 7, 27, 16, 11, 184, 0, 35, 46, 154, 0, 8, 16, 251, 167, 0, 14, 42, 180, 0, 7, 27]
abbrev dktX8_lastOf_0 : List UInt8 := dkwX8_lastOf_0 ++ dktX8_lastOf_1
theorem dksX8_lastOf_0 : cX8_lastOf.data.toList.drop 0 = dktX8_lastOf_0 := by decide +kernel
theorem dksX8_lastOf_1 : cX8_lastOf.data.toList.drop 24 = dktX8_lastOf_1 := dk_seg dksX8_lastOf_0 24 rfl rfl
theorem dX8_lastOf_0 : decode cX8_lastOf 0 = .ok (.aload_n 0, 1) := dk_42 (dk_at dksX8_lastOf_0 0 rfl rfl)
theorem dX8_lastOf_1 : decode cX8_lastOf 1 = .ok (.getfield 7, 3) := dk_180 0 7 (dk_at dksX8_lastOf_0 1 rfl rfl)
theorem dX8_lastOf_4 : decode cX8_lastOf 4 = .ok (.iload_n 1, 1) := dk_27 (dk_at dksX8_lastOf_0 4 rfl rfl)
theorem dX8_lastOf_5 : decode cX8_lastOf 5 = .ok (.bipush 11, 2) := dk_16 11 (dk_at dksX8_lastOf_0 5 rfl rfl)
theorem dX8_lastOf_7 : decode cX8_lastOf 7 = .ok (.invokestatic 35, 3) := dk_184 0 35 (dk_at dksX8_lastOf_0 7 rfl rfl)
theorem dX8_lastOf_10 : decode cX8_lastOf 10 = .ok (.iaload, 1) := dk_46 (dk_at dksX8_lastOf_0 10 rfl rfl)
theorem dX8_lastOf_11 : decode cX8_lastOf 11 = .ok (.ifCond .ne 8, 3) := dk_154 0 8 (dk_at dksX8_lastOf_0 11 rfl rfl)
theorem dX8_lastOf_14 : decode cX8_lastOf 14 = .ok (.bipush (-5), 2) := dk_16 251 (dk_at dksX8_lastOf_0 14 rfl rfl)
theorem dX8_lastOf_16 : decode cX8_lastOf 16 = .ok (.goto 14, 3) := dk_167 0 14 (dk_at dksX8_lastOf_0 16 rfl rfl)
theorem dX8_lastOf_19 : decode cX8_lastOf 19 = .ok (.aload_n 0, 1) := dk_42 (dk_at dksX8_lastOf_0 19 rfl rfl)
theorem dX8_lastOf_20 : decode cX8_lastOf 20 = .ok (.getfield 7, 3) := dk_180 0 7 (dk_at dksX8_lastOf_0 20 rfl rfl)
theorem dX8_lastOf_23 : decode cX8_lastOf 23 = .ok (.iload_n 1, 1) := dk_27 (dk_at dksX8_lastOf_0 23 rfl rfl)
theorem dX8_lastOf_24 : decode cX8_lastOf 24 = .ok (.bipush 11, 2) := dk_16 11 (dk_at dksX8_lastOf_1 0 rfl rfl)
theorem dX8_lastOf_26 : decode cX8_lastOf 26 = .ok (.invokestatic 35, 3) := dk_184 0 35 (dk_at dksX8_lastOf_1 2 rfl rfl)
theorem dX8_lastOf_29 : decode cX8_lastOf 29 = .ok (.iaload, 1) := dk_46 (dk_at dksX8_lastOf_1 5 rfl rfl)
theorem dX8_lastOf_30 : decode cX8_lastOf 30 = .ok (.ireturn, 1) := dk_172 (dk_at dksX8_lastOf_1 6 rfl rfl)
abbrev cX8_lostArbitrations : ByteArray := prog_29_method_72_code
def yX8_lostArbitrations : MethodName := ⟨RX8, "lostArbitrations", "(I)I"⟩
def dkwX8_lostArbitrations_0 : List UInt8 := [42, 27, 16, 12, 182, 0, 185, 172]
abbrev dktX8_lostArbitrations_0 : List UInt8 := dkwX8_lostArbitrations_0 ++ []
theorem dksX8_lostArbitrations_0 : cX8_lostArbitrations.data.toList.drop 0 = dktX8_lostArbitrations_0 := by decide +kernel
theorem dX8_lostArbitrations_0 : decode cX8_lostArbitrations 0 = .ok (.aload_n 0, 1) := dk_42 (dk_at dksX8_lostArbitrations_0 0 rfl rfl)
theorem dX8_lostArbitrations_1 : decode cX8_lostArbitrations 1 = .ok (.iload_n 1, 1) := dk_27 (dk_at dksX8_lostArbitrations_0 1 rfl rfl)
theorem dX8_lostArbitrations_2 : decode cX8_lostArbitrations 2 = .ok (.bipush 12, 2) := dk_16 12 (dk_at dksX8_lostArbitrations_0 2 rfl rfl)
theorem dX8_lostArbitrations_4 : decode cX8_lostArbitrations 4 = .ok (.invokevirtual 185, 3) := dk_182 0 185 (dk_at dksX8_lostArbitrations_0 4 rfl rfl)
theorem dX8_lostArbitrations_7 : decode cX8_lostArbitrations 7 = .ok (.ireturn, 1) := dk_172 (dk_at dksX8_lostArbitrations_0 7 rfl rfl)
abbrev cX8_overloads : ByteArray := prog_29_method_73_code
def yX8_overloads : MethodName := ⟨RX8, "overloads", "(I)I"⟩
def dkwX8_overloads_0 : List UInt8 := [42, 27, 16, 13, 182, 0, 185, 172]
abbrev dktX8_overloads_0 : List UInt8 := dkwX8_overloads_0 ++ []
theorem dksX8_overloads_0 : cX8_overloads.data.toList.drop 0 = dktX8_overloads_0 := by decide +kernel
theorem dX8_overloads_0 : decode cX8_overloads 0 = .ok (.aload_n 0, 1) := dk_42 (dk_at dksX8_overloads_0 0 rfl rfl)
theorem dX8_overloads_1 : decode cX8_overloads 1 = .ok (.iload_n 1, 1) := dk_27 (dk_at dksX8_overloads_0 1 rfl rfl)
theorem dX8_overloads_2 : decode cX8_overloads 2 = .ok (.bipush 13, 2) := dk_16 13 (dk_at dksX8_overloads_0 2 rfl rfl)
theorem dX8_overloads_4 : decode cX8_overloads 4 = .ok (.invokevirtual 185, 3) := dk_182 0 185 (dk_at dksX8_overloads_0 4 rfl rfl)
theorem dX8_overloads_7 : decode cX8_overloads 7 = .ok (.ireturn, 1) := dk_172 (dk_at dksX8_overloads_0 7 rfl rfl)
abbrev cX8_sent : ByteArray := prog_29_method_74_code
def yX8_sent : MethodName := ⟨RX8, "sent", "(I)I"⟩
def dkwX8_sent_0 : List UInt8 := [42, 27, 16, 14, 182, 0, 185, 172]
abbrev dktX8_sent_0 : List UInt8 := dkwX8_sent_0 ++ []
theorem dksX8_sent_0 : cX8_sent.data.toList.drop 0 = dktX8_sent_0 := by decide +kernel
theorem dX8_sent_0 : decode cX8_sent 0 = .ok (.aload_n 0, 1) := dk_42 (dk_at dksX8_sent_0 0 rfl rfl)
theorem dX8_sent_1 : decode cX8_sent 1 = .ok (.iload_n 1, 1) := dk_27 (dk_at dksX8_sent_0 1 rfl rfl)
theorem dX8_sent_2 : decode cX8_sent 2 = .ok (.bipush 14, 2) := dk_16 14 (dk_at dksX8_sent_0 2 rfl rfl)
theorem dX8_sent_4 : decode cX8_sent 4 = .ok (.invokevirtual 185, 3) := dk_182 0 185 (dk_at dksX8_sent_0 4 rfl rfl)
theorem dX8_sent_7 : decode cX8_sent 7 = .ok (.ireturn, 1) := dk_172 (dk_at dksX8_sent_0 7 rfl rfl)
abbrev cX8_overruns : ByteArray := prog_29_method_75_code
def yX8_overruns : MethodName := ⟨RX8, "overruns", "(I)I"⟩
def dkwX8_overruns_0 : List UInt8 := [42, 27, 16, 15, 182, 0, 185, 172]
abbrev dktX8_overruns_0 : List UInt8 := dkwX8_overruns_0 ++ []
theorem dksX8_overruns_0 : cX8_overruns.data.toList.drop 0 = dktX8_overruns_0 := by decide +kernel
theorem dX8_overruns_0 : decode cX8_overruns 0 = .ok (.aload_n 0, 1) := dk_42 (dk_at dksX8_overruns_0 0 rfl rfl)
theorem dX8_overruns_1 : decode cX8_overruns 1 = .ok (.iload_n 1, 1) := dk_27 (dk_at dksX8_overruns_0 1 rfl rfl)
theorem dX8_overruns_2 : decode cX8_overruns 2 = .ok (.bipush 15, 2) := dk_16 15 (dk_at dksX8_overruns_0 2 rfl rfl)
theorem dX8_overruns_4 : decode cX8_overruns 4 = .ok (.invokevirtual 185, 3) := dk_182 0 185 (dk_at dksX8_overruns_0 4 rfl rfl)
theorem dX8_overruns_7 : decode cX8_overruns 7 = .ok (.ireturn, 1) := dk_172 (dk_at dksX8_overruns_0 7 rfl rfl)
abbrev cX8_waiting : ByteArray := prog_29_method_76_code
def yX8_waiting : MethodName := ⟨RX8, "waiting", "(I)I"⟩
def dkwX8_waiting_0 : List UInt8 := [42, 27, 16, 23, 182, 0, 185, 172]
abbrev dktX8_waiting_0 : List UInt8 := dkwX8_waiting_0 ++ []
theorem dksX8_waiting_0 : cX8_waiting.data.toList.drop 0 = dktX8_waiting_0 := by decide +kernel
theorem dX8_waiting_0 : decode cX8_waiting 0 = .ok (.aload_n 0, 1) := dk_42 (dk_at dksX8_waiting_0 0 rfl rfl)
theorem dX8_waiting_1 : decode cX8_waiting 1 = .ok (.iload_n 1, 1) := dk_27 (dk_at dksX8_waiting_0 1 rfl rfl)
theorem dX8_waiting_2 : decode cX8_waiting 2 = .ok (.bipush 23, 2) := dk_16 23 (dk_at dksX8_waiting_0 2 rfl rfl)
theorem dX8_waiting_4 : decode cX8_waiting 4 = .ok (.invokevirtual 185, 3) := dk_182 0 185 (dk_at dksX8_waiting_0 4 rfl rfl)
theorem dX8_waiting_7 : decode cX8_waiting 7 = .ok (.ireturn, 1) := dk_172 (dk_at dksX8_waiting_0 7 rfl rfl)
abbrev cX8_waitingFrame : ByteArray := prog_29_method_78_code
def yX8_waitingFrame : MethodName := ⟨RX8, "waitingFrame", "(II)I"⟩
def dkwX8_waitingFrame_1 : List UInt8 := [184, 0, 39, 153, 0, 12, 42, 27, 28, 182, 0, 191, 167, 0, 5, 16, 251, 172]
abbrev dktX8_waitingFrame_1 : List UInt8 := dkwX8_waitingFrame_1 ++ []
def dkwX8_waitingFrame_0 : List UInt8 := [27, 184, 0, 66, 154, 0, 5, 2, 172, 28, 3, 42, 180, 0, 7, 27, 16, 23, 184, 0, 35, 46, 4, 100]
abbrev dktX8_waitingFrame_0 : List UInt8 := dkwX8_waitingFrame_0 ++ dktX8_waitingFrame_1
theorem dksX8_waitingFrame_0 : cX8_waitingFrame.data.toList.drop 0 = dktX8_waitingFrame_0 := by decide +kernel
theorem dksX8_waitingFrame_1 : cX8_waitingFrame.data.toList.drop 24 = dktX8_waitingFrame_1 := dk_seg dksX8_waitingFrame_0 24 rfl rfl
theorem dX8_waitingFrame_0 : decode cX8_waitingFrame 0 = .ok (.iload_n 1, 1) := dk_27 (dk_at dksX8_waitingFrame_0 0 rfl rfl)
theorem dX8_waitingFrame_1 : decode cX8_waitingFrame 1 = .ok (.invokestatic 66, 3) := dk_184 0 66 (dk_at dksX8_waitingFrame_0 1 rfl rfl)
theorem dX8_waitingFrame_4 : decode cX8_waitingFrame 4 = .ok (.ifCond .ne 5, 3) := dk_154 0 5 (dk_at dksX8_waitingFrame_0 4 rfl rfl)
theorem dX8_waitingFrame_7 : decode cX8_waitingFrame 7 = .ok (.iconst (-1), 1) := dk_2 (dk_at dksX8_waitingFrame_0 7 rfl rfl)
theorem dX8_waitingFrame_8 : decode cX8_waitingFrame 8 = .ok (.ireturn, 1) := dk_172 (dk_at dksX8_waitingFrame_0 8 rfl rfl)
theorem dX8_waitingFrame_9 : decode cX8_waitingFrame 9 = .ok (.iload_n 2, 1) := dk_28 (dk_at dksX8_waitingFrame_0 9 rfl rfl)
theorem dX8_waitingFrame_10 : decode cX8_waitingFrame 10 = .ok (.iconst 0, 1) := dk_3 (dk_at dksX8_waitingFrame_0 10 rfl rfl)
theorem dX8_waitingFrame_11 : decode cX8_waitingFrame 11 = .ok (.aload_n 0, 1) := dk_42 (dk_at dksX8_waitingFrame_0 11 rfl rfl)
theorem dX8_waitingFrame_12 : decode cX8_waitingFrame 12 = .ok (.getfield 7, 3) := dk_180 0 7 (dk_at dksX8_waitingFrame_0 12 rfl rfl)
theorem dX8_waitingFrame_15 : decode cX8_waitingFrame 15 = .ok (.iload_n 1, 1) := dk_27 (dk_at dksX8_waitingFrame_0 15 rfl rfl)
theorem dX8_waitingFrame_16 : decode cX8_waitingFrame 16 = .ok (.bipush 23, 2) := dk_16 23 (dk_at dksX8_waitingFrame_0 16 rfl rfl)
theorem dX8_waitingFrame_18 : decode cX8_waitingFrame 18 = .ok (.invokestatic 35, 3) := dk_184 0 35 (dk_at dksX8_waitingFrame_0 18 rfl rfl)
theorem dX8_waitingFrame_21 : decode cX8_waitingFrame 21 = .ok (.iaload, 1) := dk_46 (dk_at dksX8_waitingFrame_0 21 rfl rfl)
theorem dX8_waitingFrame_22 : decode cX8_waitingFrame 22 = .ok (.iconst 1, 1) := dk_4 (dk_at dksX8_waitingFrame_0 22 rfl rfl)
theorem dX8_waitingFrame_23 : decode cX8_waitingFrame 23 = .ok (.isub, 1) := dk_100 (dk_at dksX8_waitingFrame_0 23 rfl rfl)
theorem dX8_waitingFrame_24 : decode cX8_waitingFrame 24 = .ok (.invokestatic 39, 3) := dk_184 0 39 (dk_at dksX8_waitingFrame_1 0 rfl rfl)
theorem dX8_waitingFrame_27 : decode cX8_waitingFrame 27 = .ok (.ifCond .eq 12, 3) := dk_153 0 12 (dk_at dksX8_waitingFrame_1 3 rfl rfl)
theorem dX8_waitingFrame_30 : decode cX8_waitingFrame 30 = .ok (.aload_n 0, 1) := dk_42 (dk_at dksX8_waitingFrame_1 6 rfl rfl)
theorem dX8_waitingFrame_31 : decode cX8_waitingFrame 31 = .ok (.iload_n 1, 1) := dk_27 (dk_at dksX8_waitingFrame_1 7 rfl rfl)
theorem dX8_waitingFrame_32 : decode cX8_waitingFrame 32 = .ok (.iload_n 2, 1) := dk_28 (dk_at dksX8_waitingFrame_1 8 rfl rfl)
theorem dX8_waitingFrame_33 : decode cX8_waitingFrame 33 = .ok (.invokevirtual 191, 3) := dk_182 0 191 (dk_at dksX8_waitingFrame_1 9 rfl rfl)
theorem dX8_waitingFrame_36 : decode cX8_waitingFrame 36 = .ok (.goto 5, 3) := dk_167 0 5 (dk_at dksX8_waitingFrame_1 12 rfl rfl)
theorem dX8_waitingFrame_39 : decode cX8_waitingFrame 39 = .ok (.bipush (-5), 2) := dk_16 251 (dk_at dksX8_waitingFrame_1 15 rfl rfl)
theorem dX8_waitingFrame_41 : decode cX8_waitingFrame 41 = .ok (.ireturn, 1) := dk_172 (dk_at dksX8_waitingFrame_1 17 rfl rfl)
abbrev cX8_keyOf : ByteArray := prog_29_method_77_code
def yX8_keyOf : MethodName := ⟨RX8, "keyOf", "(II)I"⟩
def dkwX8_keyOf_1 : List UInt8 := [96, 172]
abbrev dktX8_keyOf_1 : List UInt8 := dkwX8_keyOf_1 ++ []
def dkwX8_keyOf_0 : List UInt8 := [5, 42, 180, 0, 7, 27, 28, 3, 184, 0, 81, 46, 104, 42, 180, 0, 7, 27, 28, 4, 184, 0, 81, 46]
abbrev dktX8_keyOf_0 : List UInt8 := dkwX8_keyOf_0 ++ dktX8_keyOf_1
theorem dksX8_keyOf_0 : cX8_keyOf.data.toList.drop 0 = dktX8_keyOf_0 := by decide +kernel
theorem dksX8_keyOf_1 : cX8_keyOf.data.toList.drop 24 = dktX8_keyOf_1 := dk_seg dksX8_keyOf_0 24 rfl rfl
theorem dX8_keyOf_0 : decode cX8_keyOf 0 = .ok (.iconst 2, 1) := dk_5 (dk_at dksX8_keyOf_0 0 rfl rfl)
theorem dX8_keyOf_1 : decode cX8_keyOf 1 = .ok (.aload_n 0, 1) := dk_42 (dk_at dksX8_keyOf_0 1 rfl rfl)
theorem dX8_keyOf_2 : decode cX8_keyOf 2 = .ok (.getfield 7, 3) := dk_180 0 7 (dk_at dksX8_keyOf_0 2 rfl rfl)
theorem dX8_keyOf_5 : decode cX8_keyOf 5 = .ok (.iload_n 1, 1) := dk_27 (dk_at dksX8_keyOf_0 5 rfl rfl)
theorem dX8_keyOf_6 : decode cX8_keyOf 6 = .ok (.iload_n 2, 1) := dk_28 (dk_at dksX8_keyOf_0 6 rfl rfl)
theorem dX8_keyOf_7 : decode cX8_keyOf 7 = .ok (.iconst 0, 1) := dk_3 (dk_at dksX8_keyOf_0 7 rfl rfl)
theorem dX8_keyOf_8 : decode cX8_keyOf 8 = .ok (.invokestatic 81, 3) := dk_184 0 81 (dk_at dksX8_keyOf_0 8 rfl rfl)
theorem dX8_keyOf_11 : decode cX8_keyOf 11 = .ok (.iaload, 1) := dk_46 (dk_at dksX8_keyOf_0 11 rfl rfl)
theorem dX8_keyOf_12 : decode cX8_keyOf 12 = .ok (.imul, 1) := dk_104 (dk_at dksX8_keyOf_0 12 rfl rfl)
theorem dX8_keyOf_13 : decode cX8_keyOf 13 = .ok (.aload_n 0, 1) := dk_42 (dk_at dksX8_keyOf_0 13 rfl rfl)
theorem dX8_keyOf_14 : decode cX8_keyOf 14 = .ok (.getfield 7, 3) := dk_180 0 7 (dk_at dksX8_keyOf_0 14 rfl rfl)
theorem dX8_keyOf_17 : decode cX8_keyOf 17 = .ok (.iload_n 1, 1) := dk_27 (dk_at dksX8_keyOf_0 17 rfl rfl)
theorem dX8_keyOf_18 : decode cX8_keyOf 18 = .ok (.iload_n 2, 1) := dk_28 (dk_at dksX8_keyOf_0 18 rfl rfl)
theorem dX8_keyOf_19 : decode cX8_keyOf 19 = .ok (.iconst 1, 1) := dk_4 (dk_at dksX8_keyOf_0 19 rfl rfl)
theorem dX8_keyOf_20 : decode cX8_keyOf 20 = .ok (.invokestatic 81, 3) := dk_184 0 81 (dk_at dksX8_keyOf_0 20 rfl rfl)
theorem dX8_keyOf_23 : decode cX8_keyOf 23 = .ok (.iaload, 1) := dk_46 (dk_at dksX8_keyOf_0 23 rfl rfl)
theorem dX8_keyOf_24 : decode cX8_keyOf 24 = .ok (.iadd, 1) := dk_96 (dk_at dksX8_keyOf_1 0 rfl rfl)
theorem dX8_keyOf_25 : decode cX8_keyOf 25 = .ok (.ireturn, 1) := dk_172 (dk_at dksX8_keyOf_1 1 rfl rfl)
abbrev cX8_received : ByteArray := prog_29_method_79_code
def yX8_received : MethodName := ⟨RX8, "received", "(I)I"⟩
def dkwX8_received_0 : List UInt8 := [42, 27, 16, 24, 182, 0, 185, 172]
abbrev dktX8_received_0 : List UInt8 := dkwX8_received_0 ++ []
theorem dksX8_received_0 : cX8_received.data.toList.drop 0 = dktX8_received_0 := by decide +kernel
theorem dX8_received_0 : decode cX8_received 0 = .ok (.aload_n 0, 1) := dk_42 (dk_at dksX8_received_0 0 rfl rfl)
theorem dX8_received_1 : decode cX8_received 1 = .ok (.iload_n 1, 1) := dk_27 (dk_at dksX8_received_0 1 rfl rfl)
theorem dX8_received_2 : decode cX8_received 2 = .ok (.bipush 24, 2) := dk_16 24 (dk_at dksX8_received_0 2 rfl rfl)
theorem dX8_received_4 : decode cX8_received 4 = .ok (.invokevirtual 185, 3) := dk_182 0 185 (dk_at dksX8_received_0 4 rfl rfl)
theorem dX8_received_7 : decode cX8_received 7 = .ok (.ireturn, 1) := dk_172 (dk_at dksX8_received_0 7 rfl rfl)
abbrev cX8_receivedFrame : ByteArray := prog_29_method_82_code
def yX8_receivedFrame : MethodName := ⟨RX8, "receivedFrame", "(II)I"⟩
def dkwX8_receivedFrame_1 : List UInt8 := [167, 0, 5, 16, 251, 172]
abbrev dktX8_receivedFrame_1 : List UInt8 := dkwX8_receivedFrame_1 ++ []
def dkwX8_receivedFrame_0 : List UInt8 := [27, 184, 0, 66, 154, 0, 5, 2, 172, 42, 27, 28, 182, 0, 194, 153, 0, 12, 42, 27, 28, 182, 0, 198]
abbrev dktX8_receivedFrame_0 : List UInt8 := dkwX8_receivedFrame_0 ++ dktX8_receivedFrame_1
theorem dksX8_receivedFrame_0 : cX8_receivedFrame.data.toList.drop 0 = dktX8_receivedFrame_0 := by decide +kernel
theorem dksX8_receivedFrame_1 : cX8_receivedFrame.data.toList.drop 24 = dktX8_receivedFrame_1 := dk_seg dksX8_receivedFrame_0 24 rfl rfl
theorem dX8_receivedFrame_0 : decode cX8_receivedFrame 0 = .ok (.iload_n 1, 1) := dk_27 (dk_at dksX8_receivedFrame_0 0 rfl rfl)
theorem dX8_receivedFrame_1 : decode cX8_receivedFrame 1 = .ok (.invokestatic 66, 3) := dk_184 0 66 (dk_at dksX8_receivedFrame_0 1 rfl rfl)
theorem dX8_receivedFrame_4 : decode cX8_receivedFrame 4 = .ok (.ifCond .ne 5, 3) := dk_154 0 5 (dk_at dksX8_receivedFrame_0 4 rfl rfl)
theorem dX8_receivedFrame_7 : decode cX8_receivedFrame 7 = .ok (.iconst (-1), 1) := dk_2 (dk_at dksX8_receivedFrame_0 7 rfl rfl)
theorem dX8_receivedFrame_8 : decode cX8_receivedFrame 8 = .ok (.ireturn, 1) := dk_172 (dk_at dksX8_receivedFrame_0 8 rfl rfl)
theorem dX8_receivedFrame_9 : decode cX8_receivedFrame 9 = .ok (.aload_n 0, 1) := dk_42 (dk_at dksX8_receivedFrame_0 9 rfl rfl)
theorem dX8_receivedFrame_10 : decode cX8_receivedFrame 10 = .ok (.iload_n 1, 1) := dk_27 (dk_at dksX8_receivedFrame_0 10 rfl rfl)
theorem dX8_receivedFrame_11 : decode cX8_receivedFrame 11 = .ok (.iload_n 2, 1) := dk_28 (dk_at dksX8_receivedFrame_0 11 rfl rfl)
theorem dX8_receivedFrame_12 : decode cX8_receivedFrame 12 = .ok (.invokevirtual 194, 3) := dk_182 0 194 (dk_at dksX8_receivedFrame_0 12 rfl rfl)
theorem dX8_receivedFrame_15 : decode cX8_receivedFrame 15 = .ok (.ifCond .eq 12, 3) := dk_153 0 12 (dk_at dksX8_receivedFrame_0 15 rfl rfl)
theorem dX8_receivedFrame_18 : decode cX8_receivedFrame 18 = .ok (.aload_n 0, 1) := dk_42 (dk_at dksX8_receivedFrame_0 18 rfl rfl)
theorem dX8_receivedFrame_19 : decode cX8_receivedFrame 19 = .ok (.iload_n 1, 1) := dk_27 (dk_at dksX8_receivedFrame_0 19 rfl rfl)
theorem dX8_receivedFrame_20 : decode cX8_receivedFrame 20 = .ok (.iload_n 2, 1) := dk_28 (dk_at dksX8_receivedFrame_0 20 rfl rfl)
theorem dX8_receivedFrame_21 : decode cX8_receivedFrame 21 = .ok (.invokevirtual 198, 3) := dk_182 0 198 (dk_at dksX8_receivedFrame_0 21 rfl rfl)
theorem dX8_receivedFrame_24 : decode cX8_receivedFrame 24 = .ok (.goto 5, 3) := dk_167 0 5 (dk_at dksX8_receivedFrame_1 0 rfl rfl)
theorem dX8_receivedFrame_27 : decode cX8_receivedFrame 27 = .ok (.bipush (-5), 2) := dk_16 251 (dk_at dksX8_receivedFrame_1 3 rfl rfl)
theorem dX8_receivedFrame_29 : decode cX8_receivedFrame 29 = .ok (.ireturn, 1) := dk_172 (dk_at dksX8_receivedFrame_1 5 rfl rfl)
abbrev cX8_isGot : ByteArray := prog_29_method_80_code
def yX8_isGot : MethodName := ⟨RX8, "isGot", "(II)Z"⟩
def dkwX8_isGot_0 : List UInt8 := [28, 3, 42, 180, 0, 7, 27, 16, 24, 184, 0, 35, 46, 4, 100, 184, 0, 39, 172]
abbrev dktX8_isGot_0 : List UInt8 := dkwX8_isGot_0 ++ []
theorem dksX8_isGot_0 : cX8_isGot.data.toList.drop 0 = dktX8_isGot_0 := by decide +kernel
theorem dX8_isGot_0 : decode cX8_isGot 0 = .ok (.iload_n 2, 1) := dk_28 (dk_at dksX8_isGot_0 0 rfl rfl)
theorem dX8_isGot_1 : decode cX8_isGot 1 = .ok (.iconst 0, 1) := dk_3 (dk_at dksX8_isGot_0 1 rfl rfl)
theorem dX8_isGot_2 : decode cX8_isGot 2 = .ok (.aload_n 0, 1) := dk_42 (dk_at dksX8_isGot_0 2 rfl rfl)
theorem dX8_isGot_3 : decode cX8_isGot 3 = .ok (.getfield 7, 3) := dk_180 0 7 (dk_at dksX8_isGot_0 3 rfl rfl)
theorem dX8_isGot_6 : decode cX8_isGot 6 = .ok (.iload_n 1, 1) := dk_27 (dk_at dksX8_isGot_0 6 rfl rfl)
theorem dX8_isGot_7 : decode cX8_isGot 7 = .ok (.bipush 24, 2) := dk_16 24 (dk_at dksX8_isGot_0 7 rfl rfl)
theorem dX8_isGot_9 : decode cX8_isGot 9 = .ok (.invokestatic 35, 3) := dk_184 0 35 (dk_at dksX8_isGot_0 9 rfl rfl)
theorem dX8_isGot_12 : decode cX8_isGot 12 = .ok (.iaload, 1) := dk_46 (dk_at dksX8_isGot_0 12 rfl rfl)
theorem dX8_isGot_13 : decode cX8_isGot 13 = .ok (.iconst 1, 1) := dk_4 (dk_at dksX8_isGot_0 13 rfl rfl)
theorem dX8_isGot_14 : decode cX8_isGot 14 = .ok (.isub, 1) := dk_100 (dk_at dksX8_isGot_0 14 rfl rfl)
theorem dX8_isGot_15 : decode cX8_isGot 15 = .ok (.invokestatic 39, 3) := dk_184 0 39 (dk_at dksX8_isGot_0 15 rfl rfl)
theorem dX8_isGot_18 : decode cX8_isGot 18 = .ok (.ireturn, 1) := dk_172 (dk_at dksX8_isGot_0 18 rfl rfl)
abbrev cX8_gotKey : ByteArray := prog_29_method_81_code
def yX8_gotKey : MethodName := ⟨RX8, "gotKey", "(II)I"⟩
def dkwX8_gotKey_1 : List UInt8 := [96, 172]
abbrev dktX8_gotKey_1 : List UInt8 := dkwX8_gotKey_1 ++ []
def dkwX8_gotKey_0 : List UInt8 := [5, 42, 180, 0, 7, 27, 28, 3, 184, 0, 159, 46, 104, 42, 180, 0, 7, 27, 28, 4, 184, 0, 159, 46]
abbrev dktX8_gotKey_0 : List UInt8 := dkwX8_gotKey_0 ++ dktX8_gotKey_1
theorem dksX8_gotKey_0 : cX8_gotKey.data.toList.drop 0 = dktX8_gotKey_0 := by decide +kernel
theorem dksX8_gotKey_1 : cX8_gotKey.data.toList.drop 24 = dktX8_gotKey_1 := dk_seg dksX8_gotKey_0 24 rfl rfl
theorem dX8_gotKey_0 : decode cX8_gotKey 0 = .ok (.iconst 2, 1) := dk_5 (dk_at dksX8_gotKey_0 0 rfl rfl)
theorem dX8_gotKey_1 : decode cX8_gotKey 1 = .ok (.aload_n 0, 1) := dk_42 (dk_at dksX8_gotKey_0 1 rfl rfl)
theorem dX8_gotKey_2 : decode cX8_gotKey 2 = .ok (.getfield 7, 3) := dk_180 0 7 (dk_at dksX8_gotKey_0 2 rfl rfl)
theorem dX8_gotKey_5 : decode cX8_gotKey 5 = .ok (.iload_n 1, 1) := dk_27 (dk_at dksX8_gotKey_0 5 rfl rfl)
theorem dX8_gotKey_6 : decode cX8_gotKey 6 = .ok (.iload_n 2, 1) := dk_28 (dk_at dksX8_gotKey_0 6 rfl rfl)
theorem dX8_gotKey_7 : decode cX8_gotKey 7 = .ok (.iconst 0, 1) := dk_3 (dk_at dksX8_gotKey_0 7 rfl rfl)
theorem dX8_gotKey_8 : decode cX8_gotKey 8 = .ok (.invokestatic 159, 3) := dk_184 0 159 (dk_at dksX8_gotKey_0 8 rfl rfl)
theorem dX8_gotKey_11 : decode cX8_gotKey 11 = .ok (.iaload, 1) := dk_46 (dk_at dksX8_gotKey_0 11 rfl rfl)
theorem dX8_gotKey_12 : decode cX8_gotKey 12 = .ok (.imul, 1) := dk_104 (dk_at dksX8_gotKey_0 12 rfl rfl)
theorem dX8_gotKey_13 : decode cX8_gotKey 13 = .ok (.aload_n 0, 1) := dk_42 (dk_at dksX8_gotKey_0 13 rfl rfl)
theorem dX8_gotKey_14 : decode cX8_gotKey 14 = .ok (.getfield 7, 3) := dk_180 0 7 (dk_at dksX8_gotKey_0 14 rfl rfl)
theorem dX8_gotKey_17 : decode cX8_gotKey 17 = .ok (.iload_n 1, 1) := dk_27 (dk_at dksX8_gotKey_0 17 rfl rfl)
theorem dX8_gotKey_18 : decode cX8_gotKey 18 = .ok (.iload_n 2, 1) := dk_28 (dk_at dksX8_gotKey_0 18 rfl rfl)
theorem dX8_gotKey_19 : decode cX8_gotKey 19 = .ok (.iconst 1, 1) := dk_4 (dk_at dksX8_gotKey_0 19 rfl rfl)
theorem dX8_gotKey_20 : decode cX8_gotKey 20 = .ok (.invokestatic 159, 3) := dk_184 0 159 (dk_at dksX8_gotKey_0 20 rfl rfl)
theorem dX8_gotKey_23 : decode cX8_gotKey 23 = .ok (.iaload, 1) := dk_46 (dk_at dksX8_gotKey_0 23 rfl rfl)
theorem dX8_gotKey_24 : decode cX8_gotKey 24 = .ok (.iadd, 1) := dk_96 (dk_at dksX8_gotKey_1 0 rfl rfl)
theorem dX8_gotKey_25 : decode cX8_gotKey 25 = .ok (.ireturn, 1) := dk_172 (dk_at dksX8_gotKey_1 1 rfl rfl)
abbrev cX8_receivedLength : ByteArray := prog_29_method_83_code
def yX8_receivedLength : MethodName := ⟨RX8, "receivedLength", "(II)I"⟩
def dkwX8_receivedLength_1 : List UInt8 := [5, 184, 0, 159, 46, 167, 0, 5, 16, 251, 172]
abbrev dktX8_receivedLength_1 : List UInt8 := dkwX8_receivedLength_1 ++ []
def dkwX8_receivedLength_0 : List UInt8 := [27, 184, 0, 66, 154, 0, 5, 2, 172, 42, 27, 28, 182, 0, 194, 153, 0, 17, 42, 180, 0, 7, 27, 28]
abbrev dktX8_receivedLength_0 : List UInt8 := dkwX8_receivedLength_0 ++ dktX8_receivedLength_1
theorem dksX8_receivedLength_0 : cX8_receivedLength.data.toList.drop 0 = dktX8_receivedLength_0 := by decide +kernel
theorem dksX8_receivedLength_1 : cX8_receivedLength.data.toList.drop 24 = dktX8_receivedLength_1 := dk_seg dksX8_receivedLength_0 24 rfl rfl
theorem dX8_receivedLength_0 : decode cX8_receivedLength 0 = .ok (.iload_n 1, 1) := dk_27 (dk_at dksX8_receivedLength_0 0 rfl rfl)
theorem dX8_receivedLength_1 : decode cX8_receivedLength 1 = .ok (.invokestatic 66, 3) := dk_184 0 66 (dk_at dksX8_receivedLength_0 1 rfl rfl)
theorem dX8_receivedLength_4 : decode cX8_receivedLength 4 = .ok (.ifCond .ne 5, 3) := dk_154 0 5 (dk_at dksX8_receivedLength_0 4 rfl rfl)
theorem dX8_receivedLength_7 : decode cX8_receivedLength 7 = .ok (.iconst (-1), 1) := dk_2 (dk_at dksX8_receivedLength_0 7 rfl rfl)
theorem dX8_receivedLength_8 : decode cX8_receivedLength 8 = .ok (.ireturn, 1) := dk_172 (dk_at dksX8_receivedLength_0 8 rfl rfl)
theorem dX8_receivedLength_9 : decode cX8_receivedLength 9 = .ok (.aload_n 0, 1) := dk_42 (dk_at dksX8_receivedLength_0 9 rfl rfl)
theorem dX8_receivedLength_10 : decode cX8_receivedLength 10 = .ok (.iload_n 1, 1) := dk_27 (dk_at dksX8_receivedLength_0 10 rfl rfl)
theorem dX8_receivedLength_11 : decode cX8_receivedLength 11 = .ok (.iload_n 2, 1) := dk_28 (dk_at dksX8_receivedLength_0 11 rfl rfl)
theorem dX8_receivedLength_12 : decode cX8_receivedLength 12 = .ok (.invokevirtual 194, 3) := dk_182 0 194 (dk_at dksX8_receivedLength_0 12 rfl rfl)
theorem dX8_receivedLength_15 : decode cX8_receivedLength 15 = .ok (.ifCond .eq 17, 3) := dk_153 0 17 (dk_at dksX8_receivedLength_0 15 rfl rfl)
theorem dX8_receivedLength_18 : decode cX8_receivedLength 18 = .ok (.aload_n 0, 1) := dk_42 (dk_at dksX8_receivedLength_0 18 rfl rfl)
theorem dX8_receivedLength_19 : decode cX8_receivedLength 19 = .ok (.getfield 7, 3) := dk_180 0 7 (dk_at dksX8_receivedLength_0 19 rfl rfl)
theorem dX8_receivedLength_22 : decode cX8_receivedLength 22 = .ok (.iload_n 1, 1) := dk_27 (dk_at dksX8_receivedLength_0 22 rfl rfl)
theorem dX8_receivedLength_23 : decode cX8_receivedLength 23 = .ok (.iload_n 2, 1) := dk_28 (dk_at dksX8_receivedLength_0 23 rfl rfl)
theorem dX8_receivedLength_24 : decode cX8_receivedLength 24 = .ok (.iconst 2, 1) := dk_5 (dk_at dksX8_receivedLength_1 0 rfl rfl)
theorem dX8_receivedLength_25 : decode cX8_receivedLength 25 = .ok (.invokestatic 159, 3) := dk_184 0 159 (dk_at dksX8_receivedLength_1 1 rfl rfl)
theorem dX8_receivedLength_28 : decode cX8_receivedLength 28 = .ok (.iaload, 1) := dk_46 (dk_at dksX8_receivedLength_1 4 rfl rfl)
theorem dX8_receivedLength_29 : decode cX8_receivedLength 29 = .ok (.goto 5, 3) := dk_167 0 5 (dk_at dksX8_receivedLength_1 5 rfl rfl)
theorem dX8_receivedLength_32 : decode cX8_receivedLength 32 = .ok (.bipush (-5), 2) := dk_16 251 (dk_at dksX8_receivedLength_1 8 rfl rfl)
theorem dX8_receivedLength_34 : decode cX8_receivedLength 34 = .ok (.ireturn, 1) := dk_172 (dk_at dksX8_receivedLength_1 10 rfl rfl)
abbrev cX8_receivedData : ByteArray := prog_29_method_84_code
def yX8_receivedData : MethodName := ⟨RX8, "receivedData", "(II)I"⟩
def dkwX8_receivedData_1 : List UInt8 := [184, 0, 159, 46, 167, 0, 4, 3, 172]
abbrev dktX8_receivedData_1 : List UInt8 := dkwX8_receivedData_1 ++ []
def dkwX8_receivedData_0 : List UInt8 := [27, 184, 0, 66, 153, 0, 26, 42, 27, 28, 182, 0, 194, 153, 0, 17, 42, 180, 0, 7, 27, 28, 6]
abbrev dktX8_receivedData_0 : List UInt8 := dkwX8_receivedData_0 ++ dktX8_receivedData_1
theorem dksX8_receivedData_0 : cX8_receivedData.data.toList.drop 0 = dktX8_receivedData_0 := by decide +kernel
theorem dksX8_receivedData_1 : cX8_receivedData.data.toList.drop 23 = dktX8_receivedData_1 := dk_seg dksX8_receivedData_0 23 rfl rfl
theorem dX8_receivedData_0 : decode cX8_receivedData 0 = .ok (.iload_n 1, 1) := dk_27 (dk_at dksX8_receivedData_0 0 rfl rfl)
theorem dX8_receivedData_1 : decode cX8_receivedData 1 = .ok (.invokestatic 66, 3) := dk_184 0 66 (dk_at dksX8_receivedData_0 1 rfl rfl)
theorem dX8_receivedData_4 : decode cX8_receivedData 4 = .ok (.ifCond .eq 26, 3) := dk_153 0 26 (dk_at dksX8_receivedData_0 4 rfl rfl)
theorem dX8_receivedData_7 : decode cX8_receivedData 7 = .ok (.aload_n 0, 1) := dk_42 (dk_at dksX8_receivedData_0 7 rfl rfl)
theorem dX8_receivedData_8 : decode cX8_receivedData 8 = .ok (.iload_n 1, 1) := dk_27 (dk_at dksX8_receivedData_0 8 rfl rfl)
theorem dX8_receivedData_9 : decode cX8_receivedData 9 = .ok (.iload_n 2, 1) := dk_28 (dk_at dksX8_receivedData_0 9 rfl rfl)
theorem dX8_receivedData_10 : decode cX8_receivedData 10 = .ok (.invokevirtual 194, 3) := dk_182 0 194 (dk_at dksX8_receivedData_0 10 rfl rfl)
theorem dX8_receivedData_13 : decode cX8_receivedData 13 = .ok (.ifCond .eq 17, 3) := dk_153 0 17 (dk_at dksX8_receivedData_0 13 rfl rfl)
theorem dX8_receivedData_16 : decode cX8_receivedData 16 = .ok (.aload_n 0, 1) := dk_42 (dk_at dksX8_receivedData_0 16 rfl rfl)
theorem dX8_receivedData_17 : decode cX8_receivedData 17 = .ok (.getfield 7, 3) := dk_180 0 7 (dk_at dksX8_receivedData_0 17 rfl rfl)
theorem dX8_receivedData_20 : decode cX8_receivedData 20 = .ok (.iload_n 1, 1) := dk_27 (dk_at dksX8_receivedData_0 20 rfl rfl)
theorem dX8_receivedData_21 : decode cX8_receivedData 21 = .ok (.iload_n 2, 1) := dk_28 (dk_at dksX8_receivedData_0 21 rfl rfl)
theorem dX8_receivedData_22 : decode cX8_receivedData 22 = .ok (.iconst 3, 1) := dk_6 (dk_at dksX8_receivedData_0 22 rfl rfl)
theorem dX8_receivedData_23 : decode cX8_receivedData 23 = .ok (.invokestatic 159, 3) := dk_184 0 159 (dk_at dksX8_receivedData_1 0 rfl rfl)
theorem dX8_receivedData_26 : decode cX8_receivedData 26 = .ok (.iaload, 1) := dk_46 (dk_at dksX8_receivedData_1 3 rfl rfl)
theorem dX8_receivedData_27 : decode cX8_receivedData 27 = .ok (.goto 4, 3) := dk_167 0 4 (dk_at dksX8_receivedData_1 4 rfl rfl)
theorem dX8_receivedData_30 : decode cX8_receivedData 30 = .ok (.iconst 0, 1) := dk_3 (dk_at dksX8_receivedData_1 7 rfl rfl)
theorem dX8_receivedData_31 : decode cX8_receivedData 31 = .ok (.ireturn, 1) := dk_172 (dk_at dksX8_receivedData_1 8 rfl rfl)
abbrev cX8_discard : ByteArray := prog_29_method_85_code
def yX8_discard : MethodName := ⟨RX8, "discard", "(I)I"⟩
def dkwX8_discard_4 : List UInt8 := [16, 24, 184, 0, 35, 46, 172]
abbrev dktX8_discard_4 : List UInt8 := dkwX8_discard_4 ++ []
def dkwX8_discard_3 : List UInt8 := [180, 0, 7, 28, 42, 180, 0, 7, 28, 7, 96, 46, 79, 132, 2, 1, 167, 255, 219, 42, 180, 0, 7, 27]
abbrev dktX8_discard_3 : List UInt8 := dkwX8_discard_3 ++ dktX8_discard_4
def dkwX8_discard_2 : List UInt8 := [61, 28, 27, 42, 180, 0, 7, 27, 16, 24, 184, 0, 35, 46, 3, 184, 0, 159, 162, 0, 23, 42]
abbrev dktX8_discard_2 : List UInt8 := dkwX8_discard_2 ++ dktX8_discard_3
def dkwX8_discard_1 : List UInt8 := [16, 251, 172, 42, 180, 0, 7, 27, 16, 24, 184, 0, 35, 92, 46, 4, 100, 79, 27, 3, 3, 184, 0, 159]
abbrev dktX8_discard_1 : List UInt8 := dkwX8_discard_1 ++ dktX8_discard_2
def dkwX8_discard_0 : List UInt8 := [27, 184, 0, 66, 154, 0, 5, 2, 172, 42, 180, 0, 7, 27, 16, 24, 184, 0, 35, 46, 154, 0, 6]
abbrev dktX8_discard_0 : List UInt8 := dkwX8_discard_0 ++ dktX8_discard_1
theorem dksX8_discard_0 : cX8_discard.data.toList.drop 0 = dktX8_discard_0 := by decide +kernel
theorem dksX8_discard_1 : cX8_discard.data.toList.drop 23 = dktX8_discard_1 := dk_seg dksX8_discard_0 23 rfl rfl
theorem dksX8_discard_2 : cX8_discard.data.toList.drop 47 = dktX8_discard_2 := dk_seg dksX8_discard_1 24 rfl rfl
theorem dksX8_discard_3 : cX8_discard.data.toList.drop 69 = dktX8_discard_3 := dk_seg dksX8_discard_2 22 rfl rfl
theorem dksX8_discard_4 : cX8_discard.data.toList.drop 93 = dktX8_discard_4 := dk_seg dksX8_discard_3 24 rfl rfl
theorem dX8_discard_0 : decode cX8_discard 0 = .ok (.iload_n 1, 1) := dk_27 (dk_at dksX8_discard_0 0 rfl rfl)
theorem dX8_discard_1 : decode cX8_discard 1 = .ok (.invokestatic 66, 3) := dk_184 0 66 (dk_at dksX8_discard_0 1 rfl rfl)
theorem dX8_discard_4 : decode cX8_discard 4 = .ok (.ifCond .ne 5, 3) := dk_154 0 5 (dk_at dksX8_discard_0 4 rfl rfl)
theorem dX8_discard_7 : decode cX8_discard 7 = .ok (.iconst (-1), 1) := dk_2 (dk_at dksX8_discard_0 7 rfl rfl)
theorem dX8_discard_8 : decode cX8_discard 8 = .ok (.ireturn, 1) := dk_172 (dk_at dksX8_discard_0 8 rfl rfl)
theorem dX8_discard_9 : decode cX8_discard 9 = .ok (.aload_n 0, 1) := dk_42 (dk_at dksX8_discard_0 9 rfl rfl)
theorem dX8_discard_10 : decode cX8_discard 10 = .ok (.getfield 7, 3) := dk_180 0 7 (dk_at dksX8_discard_0 10 rfl rfl)
theorem dX8_discard_13 : decode cX8_discard 13 = .ok (.iload_n 1, 1) := dk_27 (dk_at dksX8_discard_0 13 rfl rfl)
theorem dX8_discard_14 : decode cX8_discard 14 = .ok (.bipush 24, 2) := dk_16 24 (dk_at dksX8_discard_0 14 rfl rfl)
theorem dX8_discard_16 : decode cX8_discard 16 = .ok (.invokestatic 35, 3) := dk_184 0 35 (dk_at dksX8_discard_0 16 rfl rfl)
theorem dX8_discard_19 : decode cX8_discard 19 = .ok (.iaload, 1) := dk_46 (dk_at dksX8_discard_0 19 rfl rfl)
theorem dX8_discard_20 : decode cX8_discard 20 = .ok (.ifCond .ne 6, 3) := dk_154 0 6 (dk_at dksX8_discard_0 20 rfl rfl)
theorem dX8_discard_23 : decode cX8_discard 23 = .ok (.bipush (-5), 2) := dk_16 251 (dk_at dksX8_discard_1 0 rfl rfl)
theorem dX8_discard_25 : decode cX8_discard 25 = .ok (.ireturn, 1) := dk_172 (dk_at dksX8_discard_1 2 rfl rfl)
theorem dX8_discard_26 : decode cX8_discard 26 = .ok (.aload_n 0, 1) := dk_42 (dk_at dksX8_discard_1 3 rfl rfl)
theorem dX8_discard_27 : decode cX8_discard 27 = .ok (.getfield 7, 3) := dk_180 0 7 (dk_at dksX8_discard_1 4 rfl rfl)
theorem dX8_discard_30 : decode cX8_discard 30 = .ok (.iload_n 1, 1) := dk_27 (dk_at dksX8_discard_1 7 rfl rfl)
theorem dX8_discard_31 : decode cX8_discard 31 = .ok (.bipush 24, 2) := dk_16 24 (dk_at dksX8_discard_1 8 rfl rfl)
theorem dX8_discard_33 : decode cX8_discard 33 = .ok (.invokestatic 35, 3) := dk_184 0 35 (dk_at dksX8_discard_1 10 rfl rfl)
theorem dX8_discard_36 : decode cX8_discard 36 = .ok (.dup2, 1) := dk_92 (dk_at dksX8_discard_1 13 rfl rfl)
theorem dX8_discard_37 : decode cX8_discard 37 = .ok (.iaload, 1) := dk_46 (dk_at dksX8_discard_1 14 rfl rfl)
theorem dX8_discard_38 : decode cX8_discard 38 = .ok (.iconst 1, 1) := dk_4 (dk_at dksX8_discard_1 15 rfl rfl)
theorem dX8_discard_39 : decode cX8_discard 39 = .ok (.isub, 1) := dk_100 (dk_at dksX8_discard_1 16 rfl rfl)
theorem dX8_discard_40 : decode cX8_discard 40 = .ok (.iastore, 1) := dk_79 (dk_at dksX8_discard_1 17 rfl rfl)
theorem dX8_discard_41 : decode cX8_discard 41 = .ok (.iload_n 1, 1) := dk_27 (dk_at dksX8_discard_1 18 rfl rfl)
theorem dX8_discard_42 : decode cX8_discard 42 = .ok (.iconst 0, 1) := dk_3 (dk_at dksX8_discard_1 19 rfl rfl)
theorem dX8_discard_43 : decode cX8_discard 43 = .ok (.iconst 0, 1) := dk_3 (dk_at dksX8_discard_1 20 rfl rfl)
theorem dX8_discard_44 : decode cX8_discard 44 = .ok (.invokestatic 159, 3) := dk_184 0 159 (dk_at dksX8_discard_1 21 rfl rfl)
theorem dX8_discard_47 : decode cX8_discard 47 = .ok (.istore_n 2, 1) := dk_61 (dk_at dksX8_discard_2 0 rfl rfl)
theorem dX8_discard_48 : decode cX8_discard 48 = .ok (.iload_n 2, 1) := dk_28 (dk_at dksX8_discard_2 1 rfl rfl)
theorem dX8_discard_49 : decode cX8_discard 49 = .ok (.iload_n 1, 1) := dk_27 (dk_at dksX8_discard_2 2 rfl rfl)
theorem dX8_discard_50 : decode cX8_discard 50 = .ok (.aload_n 0, 1) := dk_42 (dk_at dksX8_discard_2 3 rfl rfl)
theorem dX8_discard_51 : decode cX8_discard 51 = .ok (.getfield 7, 3) := dk_180 0 7 (dk_at dksX8_discard_2 4 rfl rfl)
theorem dX8_discard_54 : decode cX8_discard 54 = .ok (.iload_n 1, 1) := dk_27 (dk_at dksX8_discard_2 7 rfl rfl)
theorem dX8_discard_55 : decode cX8_discard 55 = .ok (.bipush 24, 2) := dk_16 24 (dk_at dksX8_discard_2 8 rfl rfl)
theorem dX8_discard_57 : decode cX8_discard 57 = .ok (.invokestatic 35, 3) := dk_184 0 35 (dk_at dksX8_discard_2 10 rfl rfl)
theorem dX8_discard_60 : decode cX8_discard 60 = .ok (.iaload, 1) := dk_46 (dk_at dksX8_discard_2 13 rfl rfl)
theorem dX8_discard_61 : decode cX8_discard 61 = .ok (.iconst 0, 1) := dk_3 (dk_at dksX8_discard_2 14 rfl rfl)
theorem dX8_discard_62 : decode cX8_discard 62 = .ok (.invokestatic 159, 3) := dk_184 0 159 (dk_at dksX8_discard_2 15 rfl rfl)
theorem dX8_discard_65 : decode cX8_discard 65 = .ok (.if_icmp .ge 23, 3) := dk_162 0 23 (dk_at dksX8_discard_2 18 rfl rfl)
theorem dX8_discard_68 : decode cX8_discard 68 = .ok (.aload_n 0, 1) := dk_42 (dk_at dksX8_discard_2 21 rfl rfl)
theorem dX8_discard_69 : decode cX8_discard 69 = .ok (.getfield 7, 3) := dk_180 0 7 (dk_at dksX8_discard_3 0 rfl rfl)
theorem dX8_discard_72 : decode cX8_discard 72 = .ok (.iload_n 2, 1) := dk_28 (dk_at dksX8_discard_3 3 rfl rfl)
theorem dX8_discard_73 : decode cX8_discard 73 = .ok (.aload_n 0, 1) := dk_42 (dk_at dksX8_discard_3 4 rfl rfl)
theorem dX8_discard_74 : decode cX8_discard 74 = .ok (.getfield 7, 3) := dk_180 0 7 (dk_at dksX8_discard_3 5 rfl rfl)
theorem dX8_discard_77 : decode cX8_discard 77 = .ok (.iload_n 2, 1) := dk_28 (dk_at dksX8_discard_3 8 rfl rfl)
theorem dX8_discard_78 : decode cX8_discard 78 = .ok (.iconst 4, 1) := dk_7 (dk_at dksX8_discard_3 9 rfl rfl)
theorem dX8_discard_79 : decode cX8_discard 79 = .ok (.iadd, 1) := dk_96 (dk_at dksX8_discard_3 10 rfl rfl)
theorem dX8_discard_80 : decode cX8_discard 80 = .ok (.iaload, 1) := dk_46 (dk_at dksX8_discard_3 11 rfl rfl)
theorem dX8_discard_81 : decode cX8_discard 81 = .ok (.iastore, 1) := dk_79 (dk_at dksX8_discard_3 12 rfl rfl)
theorem dX8_discard_82 : decode cX8_discard 82 = .ok (.iinc 2 1, 3) := dk_132 2 1 (dk_at dksX8_discard_3 13 rfl rfl)
theorem dX8_discard_85 : decode cX8_discard 85 = .ok (.goto (-37), 3) := dk_167 255 219 (dk_at dksX8_discard_3 16 rfl rfl)
theorem dX8_discard_88 : decode cX8_discard 88 = .ok (.aload_n 0, 1) := dk_42 (dk_at dksX8_discard_3 19 rfl rfl)
theorem dX8_discard_89 : decode cX8_discard 89 = .ok (.getfield 7, 3) := dk_180 0 7 (dk_at dksX8_discard_3 20 rfl rfl)
theorem dX8_discard_92 : decode cX8_discard 92 = .ok (.iload_n 1, 1) := dk_27 (dk_at dksX8_discard_3 23 rfl rfl)
theorem dX8_discard_93 : decode cX8_discard 93 = .ok (.bipush 24, 2) := dk_16 24 (dk_at dksX8_discard_4 0 rfl rfl)
theorem dX8_discard_95 : decode cX8_discard 95 = .ok (.invokestatic 35, 3) := dk_184 0 35 (dk_at dksX8_discard_4 2 rfl rfl)
theorem dX8_discard_98 : decode cX8_discard 98 = .ok (.iaload, 1) := dk_46 (dk_at dksX8_discard_4 5 rfl rfl)
theorem dX8_discard_99 : decode cX8_discard 99 = .ok (.ireturn, 1) := dk_172 (dk_at dksX8_discard_4 6 rfl rfl)
abbrev cX8_time : ByteArray := prog_29_method_86_code
def yX8_time : MethodName := ⟨RX8, "time", "()I"⟩
def dkwX8_time_0 : List UInt8 := [42, 180, 0, 7, 17, 4, 0, 46, 172]
abbrev dktX8_time_0 : List UInt8 := dkwX8_time_0 ++ []
theorem dksX8_time_0 : cX8_time.data.toList.drop 0 = dktX8_time_0 := by decide +kernel
theorem dX8_time_0 : decode cX8_time 0 = .ok (.aload_n 0, 1) := dk_42 (dk_at dksX8_time_0 0 rfl rfl)
theorem dX8_time_1 : decode cX8_time 1 = .ok (.getfield 7, 3) := dk_180 0 7 (dk_at dksX8_time_0 1 rfl rfl)
theorem dX8_time_4 : decode cX8_time 4 = .ok (.sipush 1024, 3) := dk_17 4 0 (dk_at dksX8_time_0 4 rfl rfl)
theorem dX8_time_7 : decode cX8_time 7 = .ok (.iaload, 1) := dk_46 (dk_at dksX8_time_0 7 rfl rfl)
theorem dX8_time_8 : decode cX8_time 8 = .ok (.ireturn, 1) := dk_172 (dk_at dksX8_time_0 8 rfl rfl)
abbrev cX8_level : ByteArray := prog_29_method_87_code
def yX8_level : MethodName := ⟨RX8, "level", "(I)I"⟩
def dkwX8_level_2 : List UInt8 := [100, 17, 1, 0, 112, 96, 46, 172]
abbrev dktX8_level_2 : List UInt8 := dkwX8_level_2 ++ []
def dkwX8_level_1 : List UInt8 := [164, 0, 8, 16, 251, 167, 0, 26, 42, 180, 0, 7, 17, 4, 26, 42, 180, 0, 7, 17, 4, 0, 46, 27]
abbrev dktX8_level_1 : List UInt8 := dkwX8_level_1 ++ dktX8_level_2
def dkwX8_level_0 : List UInt8 := [27, 4, 17, 1, 0, 184, 0, 39, 154, 0, 6, 16, 254, 172, 27, 42, 180, 0, 7, 17, 4, 0, 46]
abbrev dktX8_level_0 : List UInt8 := dkwX8_level_0 ++ dktX8_level_1
theorem dksX8_level_0 : cX8_level.data.toList.drop 0 = dktX8_level_0 := by decide +kernel
theorem dksX8_level_1 : cX8_level.data.toList.drop 23 = dktX8_level_1 := dk_seg dksX8_level_0 23 rfl rfl
theorem dksX8_level_2 : cX8_level.data.toList.drop 47 = dktX8_level_2 := dk_seg dksX8_level_1 24 rfl rfl
theorem dX8_level_0 : decode cX8_level 0 = .ok (.iload_n 1, 1) := dk_27 (dk_at dksX8_level_0 0 rfl rfl)
theorem dX8_level_1 : decode cX8_level 1 = .ok (.iconst 1, 1) := dk_4 (dk_at dksX8_level_0 1 rfl rfl)
theorem dX8_level_2 : decode cX8_level 2 = .ok (.sipush 256, 3) := dk_17 1 0 (dk_at dksX8_level_0 2 rfl rfl)
theorem dX8_level_5 : decode cX8_level 5 = .ok (.invokestatic 39, 3) := dk_184 0 39 (dk_at dksX8_level_0 5 rfl rfl)
theorem dX8_level_8 : decode cX8_level 8 = .ok (.ifCond .ne 6, 3) := dk_154 0 6 (dk_at dksX8_level_0 8 rfl rfl)
theorem dX8_level_11 : decode cX8_level 11 = .ok (.bipush (-2), 2) := dk_16 254 (dk_at dksX8_level_0 11 rfl rfl)
theorem dX8_level_13 : decode cX8_level 13 = .ok (.ireturn, 1) := dk_172 (dk_at dksX8_level_0 13 rfl rfl)
theorem dX8_level_14 : decode cX8_level 14 = .ok (.iload_n 1, 1) := dk_27 (dk_at dksX8_level_0 14 rfl rfl)
theorem dX8_level_15 : decode cX8_level 15 = .ok (.aload_n 0, 1) := dk_42 (dk_at dksX8_level_0 15 rfl rfl)
theorem dX8_level_16 : decode cX8_level 16 = .ok (.getfield 7, 3) := dk_180 0 7 (dk_at dksX8_level_0 16 rfl rfl)
theorem dX8_level_19 : decode cX8_level 19 = .ok (.sipush 1024, 3) := dk_17 4 0 (dk_at dksX8_level_0 19 rfl rfl)
theorem dX8_level_22 : decode cX8_level 22 = .ok (.iaload, 1) := dk_46 (dk_at dksX8_level_0 22 rfl rfl)
theorem dX8_level_23 : decode cX8_level 23 = .ok (.if_icmp .le 8, 3) := dk_164 0 8 (dk_at dksX8_level_1 0 rfl rfl)
theorem dX8_level_26 : decode cX8_level 26 = .ok (.bipush (-5), 2) := dk_16 251 (dk_at dksX8_level_1 3 rfl rfl)
theorem dX8_level_28 : decode cX8_level 28 = .ok (.goto 26, 3) := dk_167 0 26 (dk_at dksX8_level_1 5 rfl rfl)
theorem dX8_level_31 : decode cX8_level 31 = .ok (.aload_n 0, 1) := dk_42 (dk_at dksX8_level_1 8 rfl rfl)
theorem dX8_level_32 : decode cX8_level 32 = .ok (.getfield 7, 3) := dk_180 0 7 (dk_at dksX8_level_1 9 rfl rfl)
theorem dX8_level_35 : decode cX8_level 35 = .ok (.sipush 1050, 3) := dk_17 4 26 (dk_at dksX8_level_1 12 rfl rfl)
theorem dX8_level_38 : decode cX8_level 38 = .ok (.aload_n 0, 1) := dk_42 (dk_at dksX8_level_1 15 rfl rfl)
theorem dX8_level_39 : decode cX8_level 39 = .ok (.getfield 7, 3) := dk_180 0 7 (dk_at dksX8_level_1 16 rfl rfl)
theorem dX8_level_42 : decode cX8_level 42 = .ok (.sipush 1024, 3) := dk_17 4 0 (dk_at dksX8_level_1 19 rfl rfl)
theorem dX8_level_45 : decode cX8_level 45 = .ok (.iaload, 1) := dk_46 (dk_at dksX8_level_1 22 rfl rfl)
theorem dX8_level_46 : decode cX8_level 46 = .ok (.iload_n 1, 1) := dk_27 (dk_at dksX8_level_1 23 rfl rfl)
theorem dX8_level_47 : decode cX8_level 47 = .ok (.isub, 1) := dk_100 (dk_at dksX8_level_2 0 rfl rfl)
theorem dX8_level_48 : decode cX8_level 48 = .ok (.sipush 256, 3) := dk_17 1 0 (dk_at dksX8_level_2 1 rfl rfl)
theorem dX8_level_51 : decode cX8_level 51 = .ok (.irem, 1) := dk_112 (dk_at dksX8_level_2 4 rfl rfl)
theorem dX8_level_52 : decode cX8_level 52 = .ok (.iadd, 1) := dk_96 (dk_at dksX8_level_2 5 rfl rfl)
theorem dX8_level_53 : decode cX8_level 53 = .ok (.iaload, 1) := dk_46 (dk_at dksX8_level_2 6 rfl rfl)
theorem dX8_level_54 : decode cX8_level 54 = .ok (.ireturn, 1) := dk_172 (dk_at dksX8_level_2 7 rfl rfl)
abbrev cX8_winner : ByteArray := prog_29_method_88_code
def yX8_winner : MethodName := ⟨RX8, "winner", "()I"⟩
def dkwX8_winner_4 : List UInt8 := [27, 172]
abbrev dktX8_winner_4 : List UInt8 := dkwX8_winner_4 ++ []
def dkwX8_winner_3 : List UInt8 := [182, 0, 191, 42, 27, 3, 182, 0, 191, 162, 0, 7, 28, 167, 0, 4, 27, 60, 132, 2, 1, 167, 255, 170]
abbrev dktX8_winner_3 : List UInt8 := dkwX8_winner_3 ++ dktX8_winner_4
def dkwX8_winner_2 : List UInt8 := [158, 0, 7, 4, 167, 0, 4, 3, 62, 29, 153, 0, 28, 27, 16, 251, 159, 0, 18, 42, 28, 3]
abbrev dktX8_winner_2 : List UInt8 := dkwX8_winner_2 ++ dktX8_winner_3
def dkwX8_winner_1 : List UInt8 := [180, 0, 7, 28, 3, 184, 0, 35, 46, 4, 159, 0, 21, 42, 180, 0, 7, 28, 16, 23, 184, 0, 35, 46]
abbrev dktX8_winner_1 : List UInt8 := dkwX8_winner_1 ++ dktX8_winner_2
def dkwX8_winner_0 : List UInt8 := [16, 251, 60, 3, 61, 28, 7, 162, 0, 87, 42, 180, 0, 7, 28, 3, 184, 0, 35, 46, 153, 0, 35, 42]
abbrev dktX8_winner_0 : List UInt8 := dkwX8_winner_0 ++ dktX8_winner_1
theorem dksX8_winner_0 : cX8_winner.data.toList.drop 0 = dktX8_winner_0 := by decide +kernel
theorem dksX8_winner_1 : cX8_winner.data.toList.drop 24 = dktX8_winner_1 := dk_seg dksX8_winner_0 24 rfl rfl
theorem dksX8_winner_2 : cX8_winner.data.toList.drop 48 = dktX8_winner_2 := dk_seg dksX8_winner_1 24 rfl rfl
theorem dksX8_winner_3 : cX8_winner.data.toList.drop 70 = dktX8_winner_3 := dk_seg dksX8_winner_2 22 rfl rfl
theorem dksX8_winner_4 : cX8_winner.data.toList.drop 94 = dktX8_winner_4 := dk_seg dksX8_winner_3 24 rfl rfl
theorem dX8_winner_0 : decode cX8_winner 0 = .ok (.bipush (-5), 2) := dk_16 251 (dk_at dksX8_winner_0 0 rfl rfl)
theorem dX8_winner_2 : decode cX8_winner 2 = .ok (.istore_n 1, 1) := dk_60 (dk_at dksX8_winner_0 2 rfl rfl)
theorem dX8_winner_3 : decode cX8_winner 3 = .ok (.iconst 0, 1) := dk_3 (dk_at dksX8_winner_0 3 rfl rfl)
theorem dX8_winner_4 : decode cX8_winner 4 = .ok (.istore_n 2, 1) := dk_61 (dk_at dksX8_winner_0 4 rfl rfl)
theorem dX8_winner_5 : decode cX8_winner 5 = .ok (.iload_n 2, 1) := dk_28 (dk_at dksX8_winner_0 5 rfl rfl)
theorem dX8_winner_6 : decode cX8_winner 6 = .ok (.iconst 4, 1) := dk_7 (dk_at dksX8_winner_0 6 rfl rfl)
theorem dX8_winner_7 : decode cX8_winner 7 = .ok (.if_icmp .ge 87, 3) := dk_162 0 87 (dk_at dksX8_winner_0 7 rfl rfl)
theorem dX8_winner_10 : decode cX8_winner 10 = .ok (.aload_n 0, 1) := dk_42 (dk_at dksX8_winner_0 10 rfl rfl)
theorem dX8_winner_11 : decode cX8_winner 11 = .ok (.getfield 7, 3) := dk_180 0 7 (dk_at dksX8_winner_0 11 rfl rfl)
theorem dX8_winner_14 : decode cX8_winner 14 = .ok (.iload_n 2, 1) := dk_28 (dk_at dksX8_winner_0 14 rfl rfl)
theorem dX8_winner_15 : decode cX8_winner 15 = .ok (.iconst 0, 1) := dk_3 (dk_at dksX8_winner_0 15 rfl rfl)
theorem dX8_winner_16 : decode cX8_winner 16 = .ok (.invokestatic 35, 3) := dk_184 0 35 (dk_at dksX8_winner_0 16 rfl rfl)
theorem dX8_winner_19 : decode cX8_winner 19 = .ok (.iaload, 1) := dk_46 (dk_at dksX8_winner_0 19 rfl rfl)
theorem dX8_winner_20 : decode cX8_winner 20 = .ok (.ifCond .eq 35, 3) := dk_153 0 35 (dk_at dksX8_winner_0 20 rfl rfl)
theorem dX8_winner_23 : decode cX8_winner 23 = .ok (.aload_n 0, 1) := dk_42 (dk_at dksX8_winner_0 23 rfl rfl)
theorem dX8_winner_24 : decode cX8_winner 24 = .ok (.getfield 7, 3) := dk_180 0 7 (dk_at dksX8_winner_1 0 rfl rfl)
theorem dX8_winner_27 : decode cX8_winner 27 = .ok (.iload_n 2, 1) := dk_28 (dk_at dksX8_winner_1 3 rfl rfl)
theorem dX8_winner_28 : decode cX8_winner 28 = .ok (.iconst 0, 1) := dk_3 (dk_at dksX8_winner_1 4 rfl rfl)
theorem dX8_winner_29 : decode cX8_winner 29 = .ok (.invokestatic 35, 3) := dk_184 0 35 (dk_at dksX8_winner_1 5 rfl rfl)
theorem dX8_winner_32 : decode cX8_winner 32 = .ok (.iaload, 1) := dk_46 (dk_at dksX8_winner_1 8 rfl rfl)
theorem dX8_winner_33 : decode cX8_winner 33 = .ok (.iconst 1, 1) := dk_4 (dk_at dksX8_winner_1 9 rfl rfl)
theorem dX8_winner_34 : decode cX8_winner 34 = .ok (.if_icmp .eq 21, 3) := dk_159 0 21 (dk_at dksX8_winner_1 10 rfl rfl)
theorem dX8_winner_37 : decode cX8_winner 37 = .ok (.aload_n 0, 1) := dk_42 (dk_at dksX8_winner_1 13 rfl rfl)
theorem dX8_winner_38 : decode cX8_winner 38 = .ok (.getfield 7, 3) := dk_180 0 7 (dk_at dksX8_winner_1 14 rfl rfl)
theorem dX8_winner_41 : decode cX8_winner 41 = .ok (.iload_n 2, 1) := dk_28 (dk_at dksX8_winner_1 17 rfl rfl)
theorem dX8_winner_42 : decode cX8_winner 42 = .ok (.bipush 23, 2) := dk_16 23 (dk_at dksX8_winner_1 18 rfl rfl)
theorem dX8_winner_44 : decode cX8_winner 44 = .ok (.invokestatic 35, 3) := dk_184 0 35 (dk_at dksX8_winner_1 20 rfl rfl)
theorem dX8_winner_47 : decode cX8_winner 47 = .ok (.iaload, 1) := dk_46 (dk_at dksX8_winner_1 23 rfl rfl)
theorem dX8_winner_48 : decode cX8_winner 48 = .ok (.ifCond .le 7, 3) := dk_158 0 7 (dk_at dksX8_winner_2 0 rfl rfl)
theorem dX8_winner_51 : decode cX8_winner 51 = .ok (.iconst 1, 1) := dk_4 (dk_at dksX8_winner_2 3 rfl rfl)
theorem dX8_winner_52 : decode cX8_winner 52 = .ok (.goto 4, 3) := dk_167 0 4 (dk_at dksX8_winner_2 4 rfl rfl)
theorem dX8_winner_55 : decode cX8_winner 55 = .ok (.iconst 0, 1) := dk_3 (dk_at dksX8_winner_2 7 rfl rfl)
theorem dX8_winner_56 : decode cX8_winner 56 = .ok (.istore_n 3, 1) := dk_62 (dk_at dksX8_winner_2 8 rfl rfl)
theorem dX8_winner_57 : decode cX8_winner 57 = .ok (.iload_n 3, 1) := dk_29 (dk_at dksX8_winner_2 9 rfl rfl)
theorem dX8_winner_58 : decode cX8_winner 58 = .ok (.ifCond .eq 28, 3) := dk_153 0 28 (dk_at dksX8_winner_2 10 rfl rfl)
theorem dX8_winner_61 : decode cX8_winner 61 = .ok (.iload_n 1, 1) := dk_27 (dk_at dksX8_winner_2 13 rfl rfl)
theorem dX8_winner_62 : decode cX8_winner 62 = .ok (.bipush (-5), 2) := dk_16 251 (dk_at dksX8_winner_2 14 rfl rfl)
theorem dX8_winner_64 : decode cX8_winner 64 = .ok (.if_icmp .eq 18, 3) := dk_159 0 18 (dk_at dksX8_winner_2 16 rfl rfl)
theorem dX8_winner_67 : decode cX8_winner 67 = .ok (.aload_n 0, 1) := dk_42 (dk_at dksX8_winner_2 19 rfl rfl)
theorem dX8_winner_68 : decode cX8_winner 68 = .ok (.iload_n 2, 1) := dk_28 (dk_at dksX8_winner_2 20 rfl rfl)
theorem dX8_winner_69 : decode cX8_winner 69 = .ok (.iconst 0, 1) := dk_3 (dk_at dksX8_winner_2 21 rfl rfl)
theorem dX8_winner_70 : decode cX8_winner 70 = .ok (.invokevirtual 191, 3) := dk_182 0 191 (dk_at dksX8_winner_3 0 rfl rfl)
theorem dX8_winner_73 : decode cX8_winner 73 = .ok (.aload_n 0, 1) := dk_42 (dk_at dksX8_winner_3 3 rfl rfl)
theorem dX8_winner_74 : decode cX8_winner 74 = .ok (.iload_n 1, 1) := dk_27 (dk_at dksX8_winner_3 4 rfl rfl)
theorem dX8_winner_75 : decode cX8_winner 75 = .ok (.iconst 0, 1) := dk_3 (dk_at dksX8_winner_3 5 rfl rfl)
theorem dX8_winner_76 : decode cX8_winner 76 = .ok (.invokevirtual 191, 3) := dk_182 0 191 (dk_at dksX8_winner_3 6 rfl rfl)
theorem dX8_winner_79 : decode cX8_winner 79 = .ok (.if_icmp .ge 7, 3) := dk_162 0 7 (dk_at dksX8_winner_3 9 rfl rfl)
theorem dX8_winner_82 : decode cX8_winner 82 = .ok (.iload_n 2, 1) := dk_28 (dk_at dksX8_winner_3 12 rfl rfl)
theorem dX8_winner_83 : decode cX8_winner 83 = .ok (.goto 4, 3) := dk_167 0 4 (dk_at dksX8_winner_3 13 rfl rfl)
theorem dX8_winner_86 : decode cX8_winner 86 = .ok (.iload_n 1, 1) := dk_27 (dk_at dksX8_winner_3 16 rfl rfl)
theorem dX8_winner_87 : decode cX8_winner 87 = .ok (.istore_n 1, 1) := dk_60 (dk_at dksX8_winner_3 17 rfl rfl)
theorem dX8_winner_88 : decode cX8_winner 88 = .ok (.iinc 2 1, 3) := dk_132 2 1 (dk_at dksX8_winner_3 18 rfl rfl)
theorem dX8_winner_91 : decode cX8_winner 91 = .ok (.goto (-86), 3) := dk_167 255 170 (dk_at dksX8_winner_3 21 rfl rfl)
theorem dX8_winner_94 : decode cX8_winner 94 = .ok (.iload_n 1, 1) := dk_27 (dk_at dksX8_winner_4 0 rfl rfl)
theorem dX8_winner_95 : decode cX8_winner 95 = .ok (.ireturn, 1) := dk_172 (dk_at dksX8_winner_4 1 rfl rfl)
abbrev cX8_bitsUntilSent : ByteArray := prog_29_method_89_code
def yX8_bitsUntilSent : MethodName := ⟨RX8, "bitsUntilSent", "(I)I"⟩
def dkwX8_bitsUntilSent_6 : List UInt8 := [29, 167, 0, 5, 16, 251, 172]
abbrev dktX8_bitsUntilSent_6 : List UInt8 := dkwX8_bitsUntilSent_6 ++ []
def dkwX8_bitsUntilSent_5 : List UInt8 := [180, 0, 7, 21, 5, 42, 180, 0, 13, 21, 5, 46, 79, 132, 5, 1, 167, 255, 231, 21, 4, 153, 0, 7]
abbrev dktX8_bitsUntilSent_5 : List UInt8 := dkwX8_bitsUntilSent_5 ++ dktX8_bitsUntilSent_6
def dkwX8_bitsUntilSent_4 : List UInt8 := [164, 0, 7, 4, 167, 0, 4, 3, 54, 4, 3, 54, 5, 21, 5, 17, 5, 30, 162, 0, 23, 42]
abbrev dktX8_bitsUntilSent_4 : List UInt8 := dkwX8_bitsUntilSent_4 ++ dktX8_bitsUntilSent_5
def dkwX8_bitsUntilSent_3 : List UInt8 := [42, 182, 0, 178, 132, 3, 1, 167, 255, 227, 42, 180, 0, 7, 27, 16, 14, 184, 0, 35, 46, 28]
abbrev dktX8_bitsUntilSent_3 : List UInt8 := dkwX8_bitsUntilSent_3 ++ dktX8_bitsUntilSent_4
def dkwX8_bitsUntilSent_2 : List UInt8 := [3, 62, 29, 17, 3, 232, 162, 0, 28, 42, 180, 0, 7, 27, 16, 14, 184, 0, 35, 46, 28, 160, 0, 13]
abbrev dktX8_bitsUntilSent_2 : List UInt8 := dkwX8_bitsUntilSent_2 ++ dktX8_bitsUntilSent_3
def dkwX8_bitsUntilSent_1 : List UInt8 := [180, 0, 7, 28, 46, 79, 132, 2, 1, 167, 255, 234, 42, 180, 0, 7, 27, 16, 14, 184, 0, 35, 46, 61]
abbrev dktX8_bitsUntilSent_1 : List UInt8 := dkwX8_bitsUntilSent_1 ++ dktX8_bitsUntilSent_2
def dkwX8_bitsUntilSent_0 : List UInt8 := [27, 184, 0, 66, 154, 0, 5, 2, 172, 3, 61, 28, 17, 5, 30, 162, 0, 21, 42, 180, 0, 13, 28, 42]
abbrev dktX8_bitsUntilSent_0 : List UInt8 := dkwX8_bitsUntilSent_0 ++ dktX8_bitsUntilSent_1
theorem dksX8_bitsUntilSent_0 : cX8_bitsUntilSent.data.toList.drop 0 = dktX8_bitsUntilSent_0 := by decide +kernel
theorem dksX8_bitsUntilSent_1 : cX8_bitsUntilSent.data.toList.drop 24 = dktX8_bitsUntilSent_1 := dk_seg dksX8_bitsUntilSent_0 24 rfl rfl
theorem dksX8_bitsUntilSent_2 : cX8_bitsUntilSent.data.toList.drop 48 = dktX8_bitsUntilSent_2 := dk_seg dksX8_bitsUntilSent_1 24 rfl rfl
theorem dksX8_bitsUntilSent_3 : cX8_bitsUntilSent.data.toList.drop 72 = dktX8_bitsUntilSent_3 := dk_seg dksX8_bitsUntilSent_2 24 rfl rfl
theorem dksX8_bitsUntilSent_4 : cX8_bitsUntilSent.data.toList.drop 94 = dktX8_bitsUntilSent_4 := dk_seg dksX8_bitsUntilSent_3 22 rfl rfl
theorem dksX8_bitsUntilSent_5 : cX8_bitsUntilSent.data.toList.drop 116 = dktX8_bitsUntilSent_5 := dk_seg dksX8_bitsUntilSent_4 22 rfl rfl
theorem dksX8_bitsUntilSent_6 : cX8_bitsUntilSent.data.toList.drop 140 = dktX8_bitsUntilSent_6 := dk_seg dksX8_bitsUntilSent_5 24 rfl rfl
theorem dX8_bitsUntilSent_0 : decode cX8_bitsUntilSent 0 = .ok (.iload_n 1, 1) := dk_27 (dk_at dksX8_bitsUntilSent_0 0 rfl rfl)
theorem dX8_bitsUntilSent_1 : decode cX8_bitsUntilSent 1 = .ok (.invokestatic 66, 3) := dk_184 0 66 (dk_at dksX8_bitsUntilSent_0 1 rfl rfl)
theorem dX8_bitsUntilSent_4 : decode cX8_bitsUntilSent 4 = .ok (.ifCond .ne 5, 3) := dk_154 0 5 (dk_at dksX8_bitsUntilSent_0 4 rfl rfl)
theorem dX8_bitsUntilSent_7 : decode cX8_bitsUntilSent 7 = .ok (.iconst (-1), 1) := dk_2 (dk_at dksX8_bitsUntilSent_0 7 rfl rfl)
theorem dX8_bitsUntilSent_8 : decode cX8_bitsUntilSent 8 = .ok (.ireturn, 1) := dk_172 (dk_at dksX8_bitsUntilSent_0 8 rfl rfl)
theorem dX8_bitsUntilSent_9 : decode cX8_bitsUntilSent 9 = .ok (.iconst 0, 1) := dk_3 (dk_at dksX8_bitsUntilSent_0 9 rfl rfl)
theorem dX8_bitsUntilSent_10 : decode cX8_bitsUntilSent 10 = .ok (.istore_n 2, 1) := dk_61 (dk_at dksX8_bitsUntilSent_0 10 rfl rfl)
theorem dX8_bitsUntilSent_11 : decode cX8_bitsUntilSent 11 = .ok (.iload_n 2, 1) := dk_28 (dk_at dksX8_bitsUntilSent_0 11 rfl rfl)
theorem dX8_bitsUntilSent_12 : decode cX8_bitsUntilSent 12 = .ok (.sipush 1310, 3) := dk_17 5 30 (dk_at dksX8_bitsUntilSent_0 12 rfl rfl)
theorem dX8_bitsUntilSent_15 : decode cX8_bitsUntilSent 15 = .ok (.if_icmp .ge 21, 3) := dk_162 0 21 (dk_at dksX8_bitsUntilSent_0 15 rfl rfl)
theorem dX8_bitsUntilSent_18 : decode cX8_bitsUntilSent 18 = .ok (.aload_n 0, 1) := dk_42 (dk_at dksX8_bitsUntilSent_0 18 rfl rfl)
theorem dX8_bitsUntilSent_19 : decode cX8_bitsUntilSent 19 = .ok (.getfield 13, 3) := dk_180 0 13 (dk_at dksX8_bitsUntilSent_0 19 rfl rfl)
theorem dX8_bitsUntilSent_22 : decode cX8_bitsUntilSent 22 = .ok (.iload_n 2, 1) := dk_28 (dk_at dksX8_bitsUntilSent_0 22 rfl rfl)
theorem dX8_bitsUntilSent_23 : decode cX8_bitsUntilSent 23 = .ok (.aload_n 0, 1) := dk_42 (dk_at dksX8_bitsUntilSent_0 23 rfl rfl)
theorem dX8_bitsUntilSent_24 : decode cX8_bitsUntilSent 24 = .ok (.getfield 7, 3) := dk_180 0 7 (dk_at dksX8_bitsUntilSent_1 0 rfl rfl)
theorem dX8_bitsUntilSent_27 : decode cX8_bitsUntilSent 27 = .ok (.iload_n 2, 1) := dk_28 (dk_at dksX8_bitsUntilSent_1 3 rfl rfl)
theorem dX8_bitsUntilSent_28 : decode cX8_bitsUntilSent 28 = .ok (.iaload, 1) := dk_46 (dk_at dksX8_bitsUntilSent_1 4 rfl rfl)
theorem dX8_bitsUntilSent_29 : decode cX8_bitsUntilSent 29 = .ok (.iastore, 1) := dk_79 (dk_at dksX8_bitsUntilSent_1 5 rfl rfl)
theorem dX8_bitsUntilSent_30 : decode cX8_bitsUntilSent 30 = .ok (.iinc 2 1, 3) := dk_132 2 1 (dk_at dksX8_bitsUntilSent_1 6 rfl rfl)
theorem dX8_bitsUntilSent_33 : decode cX8_bitsUntilSent 33 = .ok (.goto (-22), 3) := dk_167 255 234 (dk_at dksX8_bitsUntilSent_1 9 rfl rfl)
theorem dX8_bitsUntilSent_36 : decode cX8_bitsUntilSent 36 = .ok (.aload_n 0, 1) := dk_42 (dk_at dksX8_bitsUntilSent_1 12 rfl rfl)
theorem dX8_bitsUntilSent_37 : decode cX8_bitsUntilSent 37 = .ok (.getfield 7, 3) := dk_180 0 7 (dk_at dksX8_bitsUntilSent_1 13 rfl rfl)
theorem dX8_bitsUntilSent_40 : decode cX8_bitsUntilSent 40 = .ok (.iload_n 1, 1) := dk_27 (dk_at dksX8_bitsUntilSent_1 16 rfl rfl)
theorem dX8_bitsUntilSent_41 : decode cX8_bitsUntilSent 41 = .ok (.bipush 14, 2) := dk_16 14 (dk_at dksX8_bitsUntilSent_1 17 rfl rfl)
theorem dX8_bitsUntilSent_43 : decode cX8_bitsUntilSent 43 = .ok (.invokestatic 35, 3) := dk_184 0 35 (dk_at dksX8_bitsUntilSent_1 19 rfl rfl)
theorem dX8_bitsUntilSent_46 : decode cX8_bitsUntilSent 46 = .ok (.iaload, 1) := dk_46 (dk_at dksX8_bitsUntilSent_1 22 rfl rfl)
theorem dX8_bitsUntilSent_47 : decode cX8_bitsUntilSent 47 = .ok (.istore_n 2, 1) := dk_61 (dk_at dksX8_bitsUntilSent_1 23 rfl rfl)
theorem dX8_bitsUntilSent_48 : decode cX8_bitsUntilSent 48 = .ok (.iconst 0, 1) := dk_3 (dk_at dksX8_bitsUntilSent_2 0 rfl rfl)
theorem dX8_bitsUntilSent_49 : decode cX8_bitsUntilSent 49 = .ok (.istore_n 3, 1) := dk_62 (dk_at dksX8_bitsUntilSent_2 1 rfl rfl)
theorem dX8_bitsUntilSent_50 : decode cX8_bitsUntilSent 50 = .ok (.iload_n 3, 1) := dk_29 (dk_at dksX8_bitsUntilSent_2 2 rfl rfl)
theorem dX8_bitsUntilSent_51 : decode cX8_bitsUntilSent 51 = .ok (.sipush 1000, 3) := dk_17 3 232 (dk_at dksX8_bitsUntilSent_2 3 rfl rfl)
theorem dX8_bitsUntilSent_54 : decode cX8_bitsUntilSent 54 = .ok (.if_icmp .ge 28, 3) := dk_162 0 28 (dk_at dksX8_bitsUntilSent_2 6 rfl rfl)
theorem dX8_bitsUntilSent_57 : decode cX8_bitsUntilSent 57 = .ok (.aload_n 0, 1) := dk_42 (dk_at dksX8_bitsUntilSent_2 9 rfl rfl)
theorem dX8_bitsUntilSent_58 : decode cX8_bitsUntilSent 58 = .ok (.getfield 7, 3) := dk_180 0 7 (dk_at dksX8_bitsUntilSent_2 10 rfl rfl)
theorem dX8_bitsUntilSent_61 : decode cX8_bitsUntilSent 61 = .ok (.iload_n 1, 1) := dk_27 (dk_at dksX8_bitsUntilSent_2 13 rfl rfl)
theorem dX8_bitsUntilSent_62 : decode cX8_bitsUntilSent 62 = .ok (.bipush 14, 2) := dk_16 14 (dk_at dksX8_bitsUntilSent_2 14 rfl rfl)
theorem dX8_bitsUntilSent_64 : decode cX8_bitsUntilSent 64 = .ok (.invokestatic 35, 3) := dk_184 0 35 (dk_at dksX8_bitsUntilSent_2 16 rfl rfl)
theorem dX8_bitsUntilSent_67 : decode cX8_bitsUntilSent 67 = .ok (.iaload, 1) := dk_46 (dk_at dksX8_bitsUntilSent_2 19 rfl rfl)
theorem dX8_bitsUntilSent_68 : decode cX8_bitsUntilSent 68 = .ok (.iload_n 2, 1) := dk_28 (dk_at dksX8_bitsUntilSent_2 20 rfl rfl)
theorem dX8_bitsUntilSent_69 : decode cX8_bitsUntilSent 69 = .ok (.if_icmp .ne 13, 3) := dk_160 0 13 (dk_at dksX8_bitsUntilSent_2 21 rfl rfl)
theorem dX8_bitsUntilSent_72 : decode cX8_bitsUntilSent 72 = .ok (.aload_n 0, 1) := dk_42 (dk_at dksX8_bitsUntilSent_3 0 rfl rfl)
theorem dX8_bitsUntilSent_73 : decode cX8_bitsUntilSent 73 = .ok (.invokevirtual 178, 3) := dk_182 0 178 (dk_at dksX8_bitsUntilSent_3 1 rfl rfl)
theorem dX8_bitsUntilSent_76 : decode cX8_bitsUntilSent 76 = .ok (.iinc 3 1, 3) := dk_132 3 1 (dk_at dksX8_bitsUntilSent_3 4 rfl rfl)
theorem dX8_bitsUntilSent_79 : decode cX8_bitsUntilSent 79 = .ok (.goto (-29), 3) := dk_167 255 227 (dk_at dksX8_bitsUntilSent_3 7 rfl rfl)
theorem dX8_bitsUntilSent_82 : decode cX8_bitsUntilSent 82 = .ok (.aload_n 0, 1) := dk_42 (dk_at dksX8_bitsUntilSent_3 10 rfl rfl)
theorem dX8_bitsUntilSent_83 : decode cX8_bitsUntilSent 83 = .ok (.getfield 7, 3) := dk_180 0 7 (dk_at dksX8_bitsUntilSent_3 11 rfl rfl)
theorem dX8_bitsUntilSent_86 : decode cX8_bitsUntilSent 86 = .ok (.iload_n 1, 1) := dk_27 (dk_at dksX8_bitsUntilSent_3 14 rfl rfl)
theorem dX8_bitsUntilSent_87 : decode cX8_bitsUntilSent 87 = .ok (.bipush 14, 2) := dk_16 14 (dk_at dksX8_bitsUntilSent_3 15 rfl rfl)
theorem dX8_bitsUntilSent_89 : decode cX8_bitsUntilSent 89 = .ok (.invokestatic 35, 3) := dk_184 0 35 (dk_at dksX8_bitsUntilSent_3 17 rfl rfl)
theorem dX8_bitsUntilSent_92 : decode cX8_bitsUntilSent 92 = .ok (.iaload, 1) := dk_46 (dk_at dksX8_bitsUntilSent_3 20 rfl rfl)
theorem dX8_bitsUntilSent_93 : decode cX8_bitsUntilSent 93 = .ok (.iload_n 2, 1) := dk_28 (dk_at dksX8_bitsUntilSent_3 21 rfl rfl)
theorem dX8_bitsUntilSent_94 : decode cX8_bitsUntilSent 94 = .ok (.if_icmp .le 7, 3) := dk_164 0 7 (dk_at dksX8_bitsUntilSent_4 0 rfl rfl)
theorem dX8_bitsUntilSent_97 : decode cX8_bitsUntilSent 97 = .ok (.iconst 1, 1) := dk_4 (dk_at dksX8_bitsUntilSent_4 3 rfl rfl)
theorem dX8_bitsUntilSent_98 : decode cX8_bitsUntilSent 98 = .ok (.goto 4, 3) := dk_167 0 4 (dk_at dksX8_bitsUntilSent_4 4 rfl rfl)
theorem dX8_bitsUntilSent_101 : decode cX8_bitsUntilSent 101 = .ok (.iconst 0, 1) := dk_3 (dk_at dksX8_bitsUntilSent_4 7 rfl rfl)
theorem dX8_bitsUntilSent_102 : decode cX8_bitsUntilSent 102 = .ok (.istore 4, 2) := dk_54 4 (dk_at dksX8_bitsUntilSent_4 8 rfl rfl)
theorem dX8_bitsUntilSent_104 : decode cX8_bitsUntilSent 104 = .ok (.iconst 0, 1) := dk_3 (dk_at dksX8_bitsUntilSent_4 10 rfl rfl)
theorem dX8_bitsUntilSent_105 : decode cX8_bitsUntilSent 105 = .ok (.istore 5, 2) := dk_54 5 (dk_at dksX8_bitsUntilSent_4 11 rfl rfl)
theorem dX8_bitsUntilSent_107 : decode cX8_bitsUntilSent 107 = .ok (.iload 5, 2) := dk_21 5 (dk_at dksX8_bitsUntilSent_4 13 rfl rfl)
theorem dX8_bitsUntilSent_109 : decode cX8_bitsUntilSent 109 = .ok (.sipush 1310, 3) := dk_17 5 30 (dk_at dksX8_bitsUntilSent_4 15 rfl rfl)
theorem dX8_bitsUntilSent_112 : decode cX8_bitsUntilSent 112 = .ok (.if_icmp .ge 23, 3) := dk_162 0 23 (dk_at dksX8_bitsUntilSent_4 18 rfl rfl)
theorem dX8_bitsUntilSent_115 : decode cX8_bitsUntilSent 115 = .ok (.aload_n 0, 1) := dk_42 (dk_at dksX8_bitsUntilSent_4 21 rfl rfl)
theorem dX8_bitsUntilSent_116 : decode cX8_bitsUntilSent 116 = .ok (.getfield 7, 3) := dk_180 0 7 (dk_at dksX8_bitsUntilSent_5 0 rfl rfl)
theorem dX8_bitsUntilSent_119 : decode cX8_bitsUntilSent 119 = .ok (.iload 5, 2) := dk_21 5 (dk_at dksX8_bitsUntilSent_5 3 rfl rfl)
theorem dX8_bitsUntilSent_121 : decode cX8_bitsUntilSent 121 = .ok (.aload_n 0, 1) := dk_42 (dk_at dksX8_bitsUntilSent_5 5 rfl rfl)
theorem dX8_bitsUntilSent_122 : decode cX8_bitsUntilSent 122 = .ok (.getfield 13, 3) := dk_180 0 13 (dk_at dksX8_bitsUntilSent_5 6 rfl rfl)
theorem dX8_bitsUntilSent_125 : decode cX8_bitsUntilSent 125 = .ok (.iload 5, 2) := dk_21 5 (dk_at dksX8_bitsUntilSent_5 9 rfl rfl)
theorem dX8_bitsUntilSent_127 : decode cX8_bitsUntilSent 127 = .ok (.iaload, 1) := dk_46 (dk_at dksX8_bitsUntilSent_5 11 rfl rfl)
theorem dX8_bitsUntilSent_128 : decode cX8_bitsUntilSent 128 = .ok (.iastore, 1) := dk_79 (dk_at dksX8_bitsUntilSent_5 12 rfl rfl)
theorem dX8_bitsUntilSent_129 : decode cX8_bitsUntilSent 129 = .ok (.iinc 5 1, 3) := dk_132 5 1 (dk_at dksX8_bitsUntilSent_5 13 rfl rfl)
theorem dX8_bitsUntilSent_132 : decode cX8_bitsUntilSent 132 = .ok (.goto (-25), 3) := dk_167 255 231 (dk_at dksX8_bitsUntilSent_5 16 rfl rfl)
theorem dX8_bitsUntilSent_135 : decode cX8_bitsUntilSent 135 = .ok (.iload 4, 2) := dk_21 4 (dk_at dksX8_bitsUntilSent_5 19 rfl rfl)
theorem dX8_bitsUntilSent_137 : decode cX8_bitsUntilSent 137 = .ok (.ifCond .eq 7, 3) := dk_153 0 7 (dk_at dksX8_bitsUntilSent_5 21 rfl rfl)
theorem dX8_bitsUntilSent_140 : decode cX8_bitsUntilSent 140 = .ok (.iload_n 3, 1) := dk_29 (dk_at dksX8_bitsUntilSent_6 0 rfl rfl)
theorem dX8_bitsUntilSent_141 : decode cX8_bitsUntilSent 141 = .ok (.goto 5, 3) := dk_167 0 5 (dk_at dksX8_bitsUntilSent_6 1 rfl rfl)
theorem dX8_bitsUntilSent_144 : decode cX8_bitsUntilSent 144 = .ok (.bipush (-5), 2) := dk_16 251 (dk_at dksX8_bitsUntilSent_6 4 rfl rfl)
theorem dX8_bitsUntilSent_146 : decode cX8_bitsUntilSent 146 = .ok (.ireturn, 1) := dk_172 (dk_at dksX8_bitsUntilSent_6 6 rfl rfl)
abbrev cX8_addMessage : ByteArray := prog_29_method_91_code
def yX8_addMessage : MethodName := ⟨RX8, "addMessage", "(IIII)I"⟩
def dkwX8_addMessage_5 : List UInt8 := [29, 79, 42, 180, 0, 26, 7, 21, 5, 104, 6, 96, 21, 4, 79, 42, 180, 0, 201, 172]
abbrev dktX8_addMessage_5 : List UInt8 := dkwX8_addMessage_5 ++ []
def dkwX8_addMessage_4 : List UInt8 := [27, 79, 42, 180, 0, 26, 7, 21, 5, 104, 4, 96, 28, 79, 42, 180, 0, 26, 7, 21, 5, 104, 5, 96]
abbrev dktX8_addMessage_4 : List UInt8 := dkwX8_addMessage_4 ++ dktX8_addMessage_5
def dkwX8_addMessage_3 : List UInt8 := [42, 180, 0, 201, 54, 5, 42, 89, 180, 0, 201, 4, 96, 181, 0, 201, 42, 180, 0, 26, 7, 21, 5, 104]
abbrev dktX8_addMessage_3 : List UInt8 := dkwX8_addMessage_3 ++ dktX8_addMessage_4
def dkwX8_addMessage_2 : List UInt8 := [42, 27, 182, 0, 205, 54, 5, 21, 5, 156, 0, 31, 42, 180, 0, 201, 16, 8, 160, 0, 6, 16, 253, 172]
abbrev dktX8_addMessage_2 : List UInt8 := dkwX8_addMessage_2 ++ dktX8_addMessage_3
def dkwX8_addMessage_1 : List UInt8 := [17, 19, 136, 184, 0, 39, 153, 0, 15, 21, 4, 3, 17, 1, 244, 184, 0, 39, 154, 0, 6, 16, 254, 172]
abbrev dktX8_addMessage_1 : List UInt8 := dkwX8_addMessage_1 ++ dktX8_addMessage_2
def dkwX8_addMessage_0 : List UInt8 := [27, 3, 17, 7, 255, 184, 0, 39, 153, 0, 35, 28, 3, 7, 184, 0, 39, 153, 0, 26, 29, 4]
abbrev dktX8_addMessage_0 : List UInt8 := dkwX8_addMessage_0 ++ dktX8_addMessage_1
theorem dksX8_addMessage_0 : cX8_addMessage.data.toList.drop 0 = dktX8_addMessage_0 := by decide +kernel
theorem dksX8_addMessage_1 : cX8_addMessage.data.toList.drop 22 = dktX8_addMessage_1 := dk_seg dksX8_addMessage_0 22 rfl rfl
theorem dksX8_addMessage_2 : cX8_addMessage.data.toList.drop 46 = dktX8_addMessage_2 := dk_seg dksX8_addMessage_1 24 rfl rfl
theorem dksX8_addMessage_3 : cX8_addMessage.data.toList.drop 70 = dktX8_addMessage_3 := dk_seg dksX8_addMessage_2 24 rfl rfl
theorem dksX8_addMessage_4 : cX8_addMessage.data.toList.drop 94 = dktX8_addMessage_4 := dk_seg dksX8_addMessage_3 24 rfl rfl
theorem dksX8_addMessage_5 : cX8_addMessage.data.toList.drop 118 = dktX8_addMessage_5 := dk_seg dksX8_addMessage_4 24 rfl rfl
theorem dX8_addMessage_0 : decode cX8_addMessage 0 = .ok (.iload_n 1, 1) := dk_27 (dk_at dksX8_addMessage_0 0 rfl rfl)
theorem dX8_addMessage_1 : decode cX8_addMessage 1 = .ok (.iconst 0, 1) := dk_3 (dk_at dksX8_addMessage_0 1 rfl rfl)
theorem dX8_addMessage_2 : decode cX8_addMessage 2 = .ok (.sipush 2047, 3) := dk_17 7 255 (dk_at dksX8_addMessage_0 2 rfl rfl)
theorem dX8_addMessage_5 : decode cX8_addMessage 5 = .ok (.invokestatic 39, 3) := dk_184 0 39 (dk_at dksX8_addMessage_0 5 rfl rfl)
theorem dX8_addMessage_8 : decode cX8_addMessage 8 = .ok (.ifCond .eq 35, 3) := dk_153 0 35 (dk_at dksX8_addMessage_0 8 rfl rfl)
theorem dX8_addMessage_11 : decode cX8_addMessage 11 = .ok (.iload_n 2, 1) := dk_28 (dk_at dksX8_addMessage_0 11 rfl rfl)
theorem dX8_addMessage_12 : decode cX8_addMessage 12 = .ok (.iconst 0, 1) := dk_3 (dk_at dksX8_addMessage_0 12 rfl rfl)
theorem dX8_addMessage_13 : decode cX8_addMessage 13 = .ok (.iconst 4, 1) := dk_7 (dk_at dksX8_addMessage_0 13 rfl rfl)
theorem dX8_addMessage_14 : decode cX8_addMessage 14 = .ok (.invokestatic 39, 3) := dk_184 0 39 (dk_at dksX8_addMessage_0 14 rfl rfl)
theorem dX8_addMessage_17 : decode cX8_addMessage 17 = .ok (.ifCond .eq 26, 3) := dk_153 0 26 (dk_at dksX8_addMessage_0 17 rfl rfl)
theorem dX8_addMessage_20 : decode cX8_addMessage 20 = .ok (.iload_n 3, 1) := dk_29 (dk_at dksX8_addMessage_0 20 rfl rfl)
theorem dX8_addMessage_21 : decode cX8_addMessage 21 = .ok (.iconst 1, 1) := dk_4 (dk_at dksX8_addMessage_0 21 rfl rfl)
theorem dX8_addMessage_22 : decode cX8_addMessage 22 = .ok (.sipush 5000, 3) := dk_17 19 136 (dk_at dksX8_addMessage_1 0 rfl rfl)
theorem dX8_addMessage_25 : decode cX8_addMessage 25 = .ok (.invokestatic 39, 3) := dk_184 0 39 (dk_at dksX8_addMessage_1 3 rfl rfl)
theorem dX8_addMessage_28 : decode cX8_addMessage 28 = .ok (.ifCond .eq 15, 3) := dk_153 0 15 (dk_at dksX8_addMessage_1 6 rfl rfl)
theorem dX8_addMessage_31 : decode cX8_addMessage 31 = .ok (.iload 4, 2) := dk_21 4 (dk_at dksX8_addMessage_1 9 rfl rfl)
theorem dX8_addMessage_33 : decode cX8_addMessage 33 = .ok (.iconst 0, 1) := dk_3 (dk_at dksX8_addMessage_1 11 rfl rfl)
theorem dX8_addMessage_34 : decode cX8_addMessage 34 = .ok (.sipush 500, 3) := dk_17 1 244 (dk_at dksX8_addMessage_1 12 rfl rfl)
theorem dX8_addMessage_37 : decode cX8_addMessage 37 = .ok (.invokestatic 39, 3) := dk_184 0 39 (dk_at dksX8_addMessage_1 15 rfl rfl)
theorem dX8_addMessage_40 : decode cX8_addMessage 40 = .ok (.ifCond .ne 6, 3) := dk_154 0 6 (dk_at dksX8_addMessage_1 18 rfl rfl)
theorem dX8_addMessage_43 : decode cX8_addMessage 43 = .ok (.bipush (-2), 2) := dk_16 254 (dk_at dksX8_addMessage_1 21 rfl rfl)
theorem dX8_addMessage_45 : decode cX8_addMessage 45 = .ok (.ireturn, 1) := dk_172 (dk_at dksX8_addMessage_1 23 rfl rfl)
theorem dX8_addMessage_46 : decode cX8_addMessage 46 = .ok (.aload_n 0, 1) := dk_42 (dk_at dksX8_addMessage_2 0 rfl rfl)
theorem dX8_addMessage_47 : decode cX8_addMessage 47 = .ok (.iload_n 1, 1) := dk_27 (dk_at dksX8_addMessage_2 1 rfl rfl)
theorem dX8_addMessage_48 : decode cX8_addMessage 48 = .ok (.invokevirtual 205, 3) := dk_182 0 205 (dk_at dksX8_addMessage_2 2 rfl rfl)
theorem dX8_addMessage_51 : decode cX8_addMessage 51 = .ok (.istore 5, 2) := dk_54 5 (dk_at dksX8_addMessage_2 5 rfl rfl)
theorem dX8_addMessage_53 : decode cX8_addMessage 53 = .ok (.iload 5, 2) := dk_21 5 (dk_at dksX8_addMessage_2 7 rfl rfl)
theorem dX8_addMessage_55 : decode cX8_addMessage 55 = .ok (.ifCond .ge 31, 3) := dk_156 0 31 (dk_at dksX8_addMessage_2 9 rfl rfl)
theorem dX8_addMessage_58 : decode cX8_addMessage 58 = .ok (.aload_n 0, 1) := dk_42 (dk_at dksX8_addMessage_2 12 rfl rfl)
theorem dX8_addMessage_59 : decode cX8_addMessage 59 = .ok (.getfield 201, 3) := dk_180 0 201 (dk_at dksX8_addMessage_2 13 rfl rfl)
theorem dX8_addMessage_62 : decode cX8_addMessage 62 = .ok (.bipush 8, 2) := dk_16 8 (dk_at dksX8_addMessage_2 16 rfl rfl)
theorem dX8_addMessage_64 : decode cX8_addMessage 64 = .ok (.if_icmp .ne 6, 3) := dk_160 0 6 (dk_at dksX8_addMessage_2 18 rfl rfl)
theorem dX8_addMessage_67 : decode cX8_addMessage 67 = .ok (.bipush (-3), 2) := dk_16 253 (dk_at dksX8_addMessage_2 21 rfl rfl)
theorem dX8_addMessage_69 : decode cX8_addMessage 69 = .ok (.ireturn, 1) := dk_172 (dk_at dksX8_addMessage_2 23 rfl rfl)
theorem dX8_addMessage_70 : decode cX8_addMessage 70 = .ok (.aload_n 0, 1) := dk_42 (dk_at dksX8_addMessage_3 0 rfl rfl)
theorem dX8_addMessage_71 : decode cX8_addMessage 71 = .ok (.getfield 201, 3) := dk_180 0 201 (dk_at dksX8_addMessage_3 1 rfl rfl)
theorem dX8_addMessage_74 : decode cX8_addMessage 74 = .ok (.istore 5, 2) := dk_54 5 (dk_at dksX8_addMessage_3 4 rfl rfl)
theorem dX8_addMessage_76 : decode cX8_addMessage 76 = .ok (.aload_n 0, 1) := dk_42 (dk_at dksX8_addMessage_3 6 rfl rfl)
theorem dX8_addMessage_77 : decode cX8_addMessage 77 = .ok (.dup, 1) := dk_89 (dk_at dksX8_addMessage_3 7 rfl rfl)
theorem dX8_addMessage_78 : decode cX8_addMessage 78 = .ok (.getfield 201, 3) := dk_180 0 201 (dk_at dksX8_addMessage_3 8 rfl rfl)
theorem dX8_addMessage_81 : decode cX8_addMessage 81 = .ok (.iconst 1, 1) := dk_4 (dk_at dksX8_addMessage_3 11 rfl rfl)
theorem dX8_addMessage_82 : decode cX8_addMessage 82 = .ok (.iadd, 1) := dk_96 (dk_at dksX8_addMessage_3 12 rfl rfl)
theorem dX8_addMessage_83 : decode cX8_addMessage 83 = .ok (.putfield 201, 3) := dk_181 0 201 (dk_at dksX8_addMessage_3 13 rfl rfl)
theorem dX8_addMessage_86 : decode cX8_addMessage 86 = .ok (.aload_n 0, 1) := dk_42 (dk_at dksX8_addMessage_3 16 rfl rfl)
theorem dX8_addMessage_87 : decode cX8_addMessage 87 = .ok (.getfield 26, 3) := dk_180 0 26 (dk_at dksX8_addMessage_3 17 rfl rfl)
theorem dX8_addMessage_90 : decode cX8_addMessage 90 = .ok (.iconst 4, 1) := dk_7 (dk_at dksX8_addMessage_3 20 rfl rfl)
theorem dX8_addMessage_91 : decode cX8_addMessage 91 = .ok (.iload 5, 2) := dk_21 5 (dk_at dksX8_addMessage_3 21 rfl rfl)
theorem dX8_addMessage_93 : decode cX8_addMessage 93 = .ok (.imul, 1) := dk_104 (dk_at dksX8_addMessage_3 23 rfl rfl)
theorem dX8_addMessage_94 : decode cX8_addMessage 94 = .ok (.iload_n 1, 1) := dk_27 (dk_at dksX8_addMessage_4 0 rfl rfl)
theorem dX8_addMessage_95 : decode cX8_addMessage 95 = .ok (.iastore, 1) := dk_79 (dk_at dksX8_addMessage_4 1 rfl rfl)
theorem dX8_addMessage_96 : decode cX8_addMessage 96 = .ok (.aload_n 0, 1) := dk_42 (dk_at dksX8_addMessage_4 2 rfl rfl)
theorem dX8_addMessage_97 : decode cX8_addMessage 97 = .ok (.getfield 26, 3) := dk_180 0 26 (dk_at dksX8_addMessage_4 3 rfl rfl)
theorem dX8_addMessage_100 : decode cX8_addMessage 100 = .ok (.iconst 4, 1) := dk_7 (dk_at dksX8_addMessage_4 6 rfl rfl)
theorem dX8_addMessage_101 : decode cX8_addMessage 101 = .ok (.iload 5, 2) := dk_21 5 (dk_at dksX8_addMessage_4 7 rfl rfl)
theorem dX8_addMessage_103 : decode cX8_addMessage 103 = .ok (.imul, 1) := dk_104 (dk_at dksX8_addMessage_4 9 rfl rfl)
theorem dX8_addMessage_104 : decode cX8_addMessage 104 = .ok (.iconst 1, 1) := dk_4 (dk_at dksX8_addMessage_4 10 rfl rfl)
theorem dX8_addMessage_105 : decode cX8_addMessage 105 = .ok (.iadd, 1) := dk_96 (dk_at dksX8_addMessage_4 11 rfl rfl)
theorem dX8_addMessage_106 : decode cX8_addMessage 106 = .ok (.iload_n 2, 1) := dk_28 (dk_at dksX8_addMessage_4 12 rfl rfl)
theorem dX8_addMessage_107 : decode cX8_addMessage 107 = .ok (.iastore, 1) := dk_79 (dk_at dksX8_addMessage_4 13 rfl rfl)
theorem dX8_addMessage_108 : decode cX8_addMessage 108 = .ok (.aload_n 0, 1) := dk_42 (dk_at dksX8_addMessage_4 14 rfl rfl)
theorem dX8_addMessage_109 : decode cX8_addMessage 109 = .ok (.getfield 26, 3) := dk_180 0 26 (dk_at dksX8_addMessage_4 15 rfl rfl)
theorem dX8_addMessage_112 : decode cX8_addMessage 112 = .ok (.iconst 4, 1) := dk_7 (dk_at dksX8_addMessage_4 18 rfl rfl)
theorem dX8_addMessage_113 : decode cX8_addMessage 113 = .ok (.iload 5, 2) := dk_21 5 (dk_at dksX8_addMessage_4 19 rfl rfl)
theorem dX8_addMessage_115 : decode cX8_addMessage 115 = .ok (.imul, 1) := dk_104 (dk_at dksX8_addMessage_4 21 rfl rfl)
theorem dX8_addMessage_116 : decode cX8_addMessage 116 = .ok (.iconst 2, 1) := dk_5 (dk_at dksX8_addMessage_4 22 rfl rfl)
theorem dX8_addMessage_117 : decode cX8_addMessage 117 = .ok (.iadd, 1) := dk_96 (dk_at dksX8_addMessage_4 23 rfl rfl)
theorem dX8_addMessage_118 : decode cX8_addMessage 118 = .ok (.iload_n 3, 1) := dk_29 (dk_at dksX8_addMessage_5 0 rfl rfl)
theorem dX8_addMessage_119 : decode cX8_addMessage 119 = .ok (.iastore, 1) := dk_79 (dk_at dksX8_addMessage_5 1 rfl rfl)
theorem dX8_addMessage_120 : decode cX8_addMessage 120 = .ok (.aload_n 0, 1) := dk_42 (dk_at dksX8_addMessage_5 2 rfl rfl)
theorem dX8_addMessage_121 : decode cX8_addMessage 121 = .ok (.getfield 26, 3) := dk_180 0 26 (dk_at dksX8_addMessage_5 3 rfl rfl)
theorem dX8_addMessage_124 : decode cX8_addMessage 124 = .ok (.iconst 4, 1) := dk_7 (dk_at dksX8_addMessage_5 6 rfl rfl)
theorem dX8_addMessage_125 : decode cX8_addMessage 125 = .ok (.iload 5, 2) := dk_21 5 (dk_at dksX8_addMessage_5 7 rfl rfl)
theorem dX8_addMessage_127 : decode cX8_addMessage 127 = .ok (.imul, 1) := dk_104 (dk_at dksX8_addMessage_5 9 rfl rfl)
theorem dX8_addMessage_128 : decode cX8_addMessage 128 = .ok (.iconst 3, 1) := dk_6 (dk_at dksX8_addMessage_5 10 rfl rfl)
theorem dX8_addMessage_129 : decode cX8_addMessage 129 = .ok (.iadd, 1) := dk_96 (dk_at dksX8_addMessage_5 11 rfl rfl)
theorem dX8_addMessage_130 : decode cX8_addMessage 130 = .ok (.iload 4, 2) := dk_21 4 (dk_at dksX8_addMessage_5 12 rfl rfl)
theorem dX8_addMessage_132 : decode cX8_addMessage 132 = .ok (.iastore, 1) := dk_79 (dk_at dksX8_addMessage_5 14 rfl rfl)
theorem dX8_addMessage_133 : decode cX8_addMessage 133 = .ok (.aload_n 0, 1) := dk_42 (dk_at dksX8_addMessage_5 15 rfl rfl)
theorem dX8_addMessage_134 : decode cX8_addMessage 134 = .ok (.getfield 201, 3) := dk_180 0 201 (dk_at dksX8_addMessage_5 16 rfl rfl)
theorem dX8_addMessage_137 : decode cX8_addMessage 137 = .ok (.ireturn, 1) := dk_172 (dk_at dksX8_addMessage_5 19 rfl rfl)
abbrev cX8_messageOf : ByteArray := prog_29_method_90_code
def yX8_messageOf : MethodName := ⟨RX8, "messageOf", "(I)I"⟩
def dkwX8_messageOf_1 : List UInt8 := [132, 2, 1, 167, 255, 231, 2, 172]
abbrev dktX8_messageOf_1 : List UInt8 := dkwX8_messageOf_1 ++ []
def dkwX8_messageOf_0 : List UInt8 := [3, 61, 28, 42, 180, 0, 201, 162, 0, 23, 42, 180, 0, 26, 7, 28, 104, 46, 27, 160, 0, 5, 28, 172]
abbrev dktX8_messageOf_0 : List UInt8 := dkwX8_messageOf_0 ++ dktX8_messageOf_1
theorem dksX8_messageOf_0 : cX8_messageOf.data.toList.drop 0 = dktX8_messageOf_0 := by decide +kernel
theorem dksX8_messageOf_1 : cX8_messageOf.data.toList.drop 24 = dktX8_messageOf_1 := dk_seg dksX8_messageOf_0 24 rfl rfl
theorem dX8_messageOf_0 : decode cX8_messageOf 0 = .ok (.iconst 0, 1) := dk_3 (dk_at dksX8_messageOf_0 0 rfl rfl)
theorem dX8_messageOf_1 : decode cX8_messageOf 1 = .ok (.istore_n 2, 1) := dk_61 (dk_at dksX8_messageOf_0 1 rfl rfl)
theorem dX8_messageOf_2 : decode cX8_messageOf 2 = .ok (.iload_n 2, 1) := dk_28 (dk_at dksX8_messageOf_0 2 rfl rfl)
theorem dX8_messageOf_3 : decode cX8_messageOf 3 = .ok (.aload_n 0, 1) := dk_42 (dk_at dksX8_messageOf_0 3 rfl rfl)
theorem dX8_messageOf_4 : decode cX8_messageOf 4 = .ok (.getfield 201, 3) := dk_180 0 201 (dk_at dksX8_messageOf_0 4 rfl rfl)
theorem dX8_messageOf_7 : decode cX8_messageOf 7 = .ok (.if_icmp .ge 23, 3) := dk_162 0 23 (dk_at dksX8_messageOf_0 7 rfl rfl)
theorem dX8_messageOf_10 : decode cX8_messageOf 10 = .ok (.aload_n 0, 1) := dk_42 (dk_at dksX8_messageOf_0 10 rfl rfl)
theorem dX8_messageOf_11 : decode cX8_messageOf 11 = .ok (.getfield 26, 3) := dk_180 0 26 (dk_at dksX8_messageOf_0 11 rfl rfl)
theorem dX8_messageOf_14 : decode cX8_messageOf 14 = .ok (.iconst 4, 1) := dk_7 (dk_at dksX8_messageOf_0 14 rfl rfl)
theorem dX8_messageOf_15 : decode cX8_messageOf 15 = .ok (.iload_n 2, 1) := dk_28 (dk_at dksX8_messageOf_0 15 rfl rfl)
theorem dX8_messageOf_16 : decode cX8_messageOf 16 = .ok (.imul, 1) := dk_104 (dk_at dksX8_messageOf_0 16 rfl rfl)
theorem dX8_messageOf_17 : decode cX8_messageOf 17 = .ok (.iaload, 1) := dk_46 (dk_at dksX8_messageOf_0 17 rfl rfl)
theorem dX8_messageOf_18 : decode cX8_messageOf 18 = .ok (.iload_n 1, 1) := dk_27 (dk_at dksX8_messageOf_0 18 rfl rfl)
theorem dX8_messageOf_19 : decode cX8_messageOf 19 = .ok (.if_icmp .ne 5, 3) := dk_160 0 5 (dk_at dksX8_messageOf_0 19 rfl rfl)
theorem dX8_messageOf_22 : decode cX8_messageOf 22 = .ok (.iload_n 2, 1) := dk_28 (dk_at dksX8_messageOf_0 22 rfl rfl)
theorem dX8_messageOf_23 : decode cX8_messageOf 23 = .ok (.ireturn, 1) := dk_172 (dk_at dksX8_messageOf_0 23 rfl rfl)
theorem dX8_messageOf_24 : decode cX8_messageOf 24 = .ok (.iinc 2 1, 3) := dk_132 2 1 (dk_at dksX8_messageOf_1 0 rfl rfl)
theorem dX8_messageOf_27 : decode cX8_messageOf 27 = .ok (.goto (-25), 3) := dk_167 255 231 (dk_at dksX8_messageOf_1 3 rfl rfl)
theorem dX8_messageOf_30 : decode cX8_messageOf 30 = .ok (.iconst (-1), 1) := dk_2 (dk_at dksX8_messageOf_1 6 rfl rfl)
theorem dX8_messageOf_31 : decode cX8_messageOf 31 = .ok (.ireturn, 1) := dk_172 (dk_at dksX8_messageOf_1 7 rfl rfl)
abbrev cX8_removeMessage : ByteArray := prog_29_method_92_code
def yX8_removeMessage : MethodName := ⟨RX8, "removeMessage", "(I)I"⟩
def dkwX8_removeMessage_2 : List UInt8 := [96, 46, 79, 132, 3, 1, 167, 255, 229, 42, 180, 0, 201, 172]
abbrev dktX8_removeMessage_2 : List UInt8 := dkwX8_removeMessage_2 ++ []
def dkwX8_removeMessage_1 : List UInt8 := [28, 104, 62, 29, 7, 42, 180, 0, 201, 104, 162, 0, 23, 42, 180, 0, 26, 29, 42, 180, 0, 26, 29, 7]
abbrev dktX8_removeMessage_1 : List UInt8 := dkwX8_removeMessage_1 ++ dktX8_removeMessage_2
def dkwX8_removeMessage_0 : List UInt8 := [42, 27, 182, 0, 205, 61, 28, 156, 0, 6, 16, 251, 172, 42, 89, 180, 0, 201, 4, 100, 181, 0, 201, 7]
abbrev dktX8_removeMessage_0 : List UInt8 := dkwX8_removeMessage_0 ++ dktX8_removeMessage_1
theorem dksX8_removeMessage_0 : cX8_removeMessage.data.toList.drop 0 = dktX8_removeMessage_0 := by decide +kernel
theorem dksX8_removeMessage_1 : cX8_removeMessage.data.toList.drop 24 = dktX8_removeMessage_1 := dk_seg dksX8_removeMessage_0 24 rfl rfl
theorem dksX8_removeMessage_2 : cX8_removeMessage.data.toList.drop 48 = dktX8_removeMessage_2 := dk_seg dksX8_removeMessage_1 24 rfl rfl
theorem dX8_removeMessage_0 : decode cX8_removeMessage 0 = .ok (.aload_n 0, 1) := dk_42 (dk_at dksX8_removeMessage_0 0 rfl rfl)
theorem dX8_removeMessage_1 : decode cX8_removeMessage 1 = .ok (.iload_n 1, 1) := dk_27 (dk_at dksX8_removeMessage_0 1 rfl rfl)
theorem dX8_removeMessage_2 : decode cX8_removeMessage 2 = .ok (.invokevirtual 205, 3) := dk_182 0 205 (dk_at dksX8_removeMessage_0 2 rfl rfl)
theorem dX8_removeMessage_5 : decode cX8_removeMessage 5 = .ok (.istore_n 2, 1) := dk_61 (dk_at dksX8_removeMessage_0 5 rfl rfl)
theorem dX8_removeMessage_6 : decode cX8_removeMessage 6 = .ok (.iload_n 2, 1) := dk_28 (dk_at dksX8_removeMessage_0 6 rfl rfl)
theorem dX8_removeMessage_7 : decode cX8_removeMessage 7 = .ok (.ifCond .ge 6, 3) := dk_156 0 6 (dk_at dksX8_removeMessage_0 7 rfl rfl)
theorem dX8_removeMessage_10 : decode cX8_removeMessage 10 = .ok (.bipush (-5), 2) := dk_16 251 (dk_at dksX8_removeMessage_0 10 rfl rfl)
theorem dX8_removeMessage_12 : decode cX8_removeMessage 12 = .ok (.ireturn, 1) := dk_172 (dk_at dksX8_removeMessage_0 12 rfl rfl)
theorem dX8_removeMessage_13 : decode cX8_removeMessage 13 = .ok (.aload_n 0, 1) := dk_42 (dk_at dksX8_removeMessage_0 13 rfl rfl)
theorem dX8_removeMessage_14 : decode cX8_removeMessage 14 = .ok (.dup, 1) := dk_89 (dk_at dksX8_removeMessage_0 14 rfl rfl)
theorem dX8_removeMessage_15 : decode cX8_removeMessage 15 = .ok (.getfield 201, 3) := dk_180 0 201 (dk_at dksX8_removeMessage_0 15 rfl rfl)
theorem dX8_removeMessage_18 : decode cX8_removeMessage 18 = .ok (.iconst 1, 1) := dk_4 (dk_at dksX8_removeMessage_0 18 rfl rfl)
theorem dX8_removeMessage_19 : decode cX8_removeMessage 19 = .ok (.isub, 1) := dk_100 (dk_at dksX8_removeMessage_0 19 rfl rfl)
theorem dX8_removeMessage_20 : decode cX8_removeMessage 20 = .ok (.putfield 201, 3) := dk_181 0 201 (dk_at dksX8_removeMessage_0 20 rfl rfl)
theorem dX8_removeMessage_23 : decode cX8_removeMessage 23 = .ok (.iconst 4, 1) := dk_7 (dk_at dksX8_removeMessage_0 23 rfl rfl)
theorem dX8_removeMessage_24 : decode cX8_removeMessage 24 = .ok (.iload_n 2, 1) := dk_28 (dk_at dksX8_removeMessage_1 0 rfl rfl)
theorem dX8_removeMessage_25 : decode cX8_removeMessage 25 = .ok (.imul, 1) := dk_104 (dk_at dksX8_removeMessage_1 1 rfl rfl)
theorem dX8_removeMessage_26 : decode cX8_removeMessage 26 = .ok (.istore_n 3, 1) := dk_62 (dk_at dksX8_removeMessage_1 2 rfl rfl)
theorem dX8_removeMessage_27 : decode cX8_removeMessage 27 = .ok (.iload_n 3, 1) := dk_29 (dk_at dksX8_removeMessage_1 3 rfl rfl)
theorem dX8_removeMessage_28 : decode cX8_removeMessage 28 = .ok (.iconst 4, 1) := dk_7 (dk_at dksX8_removeMessage_1 4 rfl rfl)
theorem dX8_removeMessage_29 : decode cX8_removeMessage 29 = .ok (.aload_n 0, 1) := dk_42 (dk_at dksX8_removeMessage_1 5 rfl rfl)
theorem dX8_removeMessage_30 : decode cX8_removeMessage 30 = .ok (.getfield 201, 3) := dk_180 0 201 (dk_at dksX8_removeMessage_1 6 rfl rfl)
theorem dX8_removeMessage_33 : decode cX8_removeMessage 33 = .ok (.imul, 1) := dk_104 (dk_at dksX8_removeMessage_1 9 rfl rfl)
theorem dX8_removeMessage_34 : decode cX8_removeMessage 34 = .ok (.if_icmp .ge 23, 3) := dk_162 0 23 (dk_at dksX8_removeMessage_1 10 rfl rfl)
theorem dX8_removeMessage_37 : decode cX8_removeMessage 37 = .ok (.aload_n 0, 1) := dk_42 (dk_at dksX8_removeMessage_1 13 rfl rfl)
theorem dX8_removeMessage_38 : decode cX8_removeMessage 38 = .ok (.getfield 26, 3) := dk_180 0 26 (dk_at dksX8_removeMessage_1 14 rfl rfl)
theorem dX8_removeMessage_41 : decode cX8_removeMessage 41 = .ok (.iload_n 3, 1) := dk_29 (dk_at dksX8_removeMessage_1 17 rfl rfl)
theorem dX8_removeMessage_42 : decode cX8_removeMessage 42 = .ok (.aload_n 0, 1) := dk_42 (dk_at dksX8_removeMessage_1 18 rfl rfl)
theorem dX8_removeMessage_43 : decode cX8_removeMessage 43 = .ok (.getfield 26, 3) := dk_180 0 26 (dk_at dksX8_removeMessage_1 19 rfl rfl)
theorem dX8_removeMessage_46 : decode cX8_removeMessage 46 = .ok (.iload_n 3, 1) := dk_29 (dk_at dksX8_removeMessage_1 22 rfl rfl)
theorem dX8_removeMessage_47 : decode cX8_removeMessage 47 = .ok (.iconst 4, 1) := dk_7 (dk_at dksX8_removeMessage_1 23 rfl rfl)
theorem dX8_removeMessage_48 : decode cX8_removeMessage 48 = .ok (.iadd, 1) := dk_96 (dk_at dksX8_removeMessage_2 0 rfl rfl)
theorem dX8_removeMessage_49 : decode cX8_removeMessage 49 = .ok (.iaload, 1) := dk_46 (dk_at dksX8_removeMessage_2 1 rfl rfl)
theorem dX8_removeMessage_50 : decode cX8_removeMessage 50 = .ok (.iastore, 1) := dk_79 (dk_at dksX8_removeMessage_2 2 rfl rfl)
theorem dX8_removeMessage_51 : decode cX8_removeMessage 51 = .ok (.iinc 3 1, 3) := dk_132 3 1 (dk_at dksX8_removeMessage_2 3 rfl rfl)
theorem dX8_removeMessage_54 : decode cX8_removeMessage 54 = .ok (.goto (-27), 3) := dk_167 255 229 (dk_at dksX8_removeMessage_2 6 rfl rfl)
theorem dX8_removeMessage_57 : decode cX8_removeMessage 57 = .ok (.aload_n 0, 1) := dk_42 (dk_at dksX8_removeMessage_2 9 rfl rfl)
theorem dX8_removeMessage_58 : decode cX8_removeMessage 58 = .ok (.getfield 201, 3) := dk_180 0 201 (dk_at dksX8_removeMessage_2 10 rfl rfl)
theorem dX8_removeMessage_61 : decode cX8_removeMessage 61 = .ok (.ireturn, 1) := dk_172 (dk_at dksX8_removeMessage_2 13 rfl rfl)
abbrev cX8_responseTime : ByteArray := prog_29_method_94_code
def yX8_responseTime : MethodName := ⟨RX8, "responseTime", "(I)I"⟩
def dkwX8_responseTime_0 : List UInt8 := [42, 27, 182, 0, 205, 61, 28, 156, 0, 8, 16, 254, 167, 0, 8, 42, 28, 182, 0, 208, 172]
abbrev dktX8_responseTime_0 : List UInt8 := dkwX8_responseTime_0 ++ []
theorem dksX8_responseTime_0 : cX8_responseTime.data.toList.drop 0 = dktX8_responseTime_0 := by decide +kernel
theorem dX8_responseTime_0 : decode cX8_responseTime 0 = .ok (.aload_n 0, 1) := dk_42 (dk_at dksX8_responseTime_0 0 rfl rfl)
theorem dX8_responseTime_1 : decode cX8_responseTime 1 = .ok (.iload_n 1, 1) := dk_27 (dk_at dksX8_responseTime_0 1 rfl rfl)
theorem dX8_responseTime_2 : decode cX8_responseTime 2 = .ok (.invokevirtual 205, 3) := dk_182 0 205 (dk_at dksX8_responseTime_0 2 rfl rfl)
theorem dX8_responseTime_5 : decode cX8_responseTime 5 = .ok (.istore_n 2, 1) := dk_61 (dk_at dksX8_responseTime_0 5 rfl rfl)
theorem dX8_responseTime_6 : decode cX8_responseTime 6 = .ok (.iload_n 2, 1) := dk_28 (dk_at dksX8_responseTime_0 6 rfl rfl)
theorem dX8_responseTime_7 : decode cX8_responseTime 7 = .ok (.ifCond .ge 8, 3) := dk_156 0 8 (dk_at dksX8_responseTime_0 7 rfl rfl)
theorem dX8_responseTime_10 : decode cX8_responseTime 10 = .ok (.bipush (-2), 2) := dk_16 254 (dk_at dksX8_responseTime_0 10 rfl rfl)
theorem dX8_responseTime_12 : decode cX8_responseTime 12 = .ok (.goto 8, 3) := dk_167 0 8 (dk_at dksX8_responseTime_0 12 rfl rfl)
theorem dX8_responseTime_15 : decode cX8_responseTime 15 = .ok (.aload_n 0, 1) := dk_42 (dk_at dksX8_responseTime_0 15 rfl rfl)
theorem dX8_responseTime_16 : decode cX8_responseTime 16 = .ok (.iload_n 2, 1) := dk_28 (dk_at dksX8_responseTime_0 16 rfl rfl)
theorem dX8_responseTime_17 : decode cX8_responseTime 17 = .ok (.invokevirtual 208, 3) := dk_182 0 208 (dk_at dksX8_responseTime_0 17 rfl rfl)
theorem dX8_responseTime_20 : decode cX8_responseTime 20 = .ok (.ireturn, 1) := dk_172 (dk_at dksX8_responseTime_0 20 rfl rfl)
abbrev cX8_response : ByteArray := prog_29_method_93_code
def yX8_response : MethodName := ⟨RX8, "response", "(I)I"⟩
def dkwX8_response_9 : List UInt8 := [21, 5, 21, 4, 160, 0, 8, 28, 21, 4, 96, 172, 21, 5, 54, 4, 167, 255, 125, 16, 251, 172]
abbrev dktX8_response_9 : List UInt8 := dkwX8_response_9 ++ []
def dkwX8_response_8 : List UInt8 := [96, 46, 96, 21, 7, 96, 21, 7, 108, 104, 167, 0, 4, 3, 96, 54, 5, 132, 6, 1, 167, 255, 167]
abbrev dktX8_response_8 : List UInt8 := dkwX8_response_8 ++ dktX8_response_9
def dkwX8_response_7 : List UInt8 := [180, 0, 26, 7, 21, 6, 104, 4, 96, 46, 184, 0, 62, 21, 4, 42, 180, 0, 26, 7, 21, 6, 104, 6]
abbrev dktX8_response_7 : List UInt8 := dkwX8_response_7 ++ dktX8_response_8
def dkwX8_response_6 : List UInt8 := [21, 5, 42, 180, 0, 26, 7, 21, 6, 104, 46, 42, 180, 0, 26, 7, 27, 104, 46, 162, 0, 41, 42]
abbrev dktX8_response_6 : List UInt8 := dkwX8_response_6 ++ dktX8_response_7
def dkwX8_response_5 : List UInt8 := [54, 6, 21, 6, 42, 180, 0, 201, 162, 0, 86, 42, 180, 0, 26, 7, 21, 6, 104, 5, 96, 46, 54, 7]
abbrev dktX8_response_5 : List UInt8 := dkwX8_response_5 ++ dktX8_response_6
def dkwX8_response_4 : List UInt8 := [54, 4, 28, 21, 4, 96, 42, 180, 0, 26, 7, 27, 104, 5, 96, 46, 163, 0, 120, 29, 54, 5, 3]
abbrev dktX8_response_4 : List UInt8 := dkwX8_response_4 ++ dktX8_response_5
def dkwX8_response_3 : List UInt8 := [164, 0, 14, 21, 5, 29, 164, 0, 8, 21, 5, 167, 0, 4, 29, 62, 132, 4, 1, 167, 255, 195, 29]
abbrev dktX8_response_3 : List UInt8 := dkwX8_response_3 ++ dktX8_response_4
def dkwX8_response_2 : List UInt8 := [96, 46, 184, 0, 62, 54, 5, 42, 180, 0, 26, 7, 21, 4, 104, 46, 42, 180, 0, 26, 7, 27, 104, 46]
abbrev dktX8_response_2 : List UInt8 := dkwX8_response_2 ++ dktX8_response_3
def dkwX8_response_1 : List UInt8 := [61, 3, 62, 3, 54, 4, 21, 4, 42, 180, 0, 201, 162, 0, 58, 42, 180, 0, 26, 7, 21, 4, 104, 4]
abbrev dktX8_response_1 : List UInt8 := dkwX8_response_1 ++ dktX8_response_2
def dkwX8_response_0 : List UInt8 := [42, 180, 0, 26, 7, 27, 104, 6, 96, 46, 42, 180, 0, 26, 7, 27, 104, 4, 96, 46, 184, 0, 62, 96]
abbrev dktX8_response_0 : List UInt8 := dkwX8_response_0 ++ dktX8_response_1
theorem dksX8_response_0 : cX8_response.data.toList.drop 0 = dktX8_response_0 := by decide +kernel
theorem dksX8_response_1 : cX8_response.data.toList.drop 24 = dktX8_response_1 := dk_seg dksX8_response_0 24 rfl rfl
theorem dksX8_response_2 : cX8_response.data.toList.drop 48 = dktX8_response_2 := dk_seg dksX8_response_1 24 rfl rfl
theorem dksX8_response_3 : cX8_response.data.toList.drop 72 = dktX8_response_3 := dk_seg dksX8_response_2 24 rfl rfl
theorem dksX8_response_4 : cX8_response.data.toList.drop 95 = dktX8_response_4 := dk_seg dksX8_response_3 23 rfl rfl
theorem dksX8_response_5 : cX8_response.data.toList.drop 118 = dktX8_response_5 := dk_seg dksX8_response_4 23 rfl rfl
theorem dksX8_response_6 : cX8_response.data.toList.drop 142 = dktX8_response_6 := dk_seg dksX8_response_5 24 rfl rfl
theorem dksX8_response_7 : cX8_response.data.toList.drop 165 = dktX8_response_7 := dk_seg dksX8_response_6 23 rfl rfl
theorem dksX8_response_8 : cX8_response.data.toList.drop 189 = dktX8_response_8 := dk_seg dksX8_response_7 24 rfl rfl
theorem dksX8_response_9 : cX8_response.data.toList.drop 212 = dktX8_response_9 := dk_seg dksX8_response_8 23 rfl rfl
theorem dX8_response_0 : decode cX8_response 0 = .ok (.aload_n 0, 1) := dk_42 (dk_at dksX8_response_0 0 rfl rfl)
theorem dX8_response_1 : decode cX8_response 1 = .ok (.getfield 26, 3) := dk_180 0 26 (dk_at dksX8_response_0 1 rfl rfl)
theorem dX8_response_4 : decode cX8_response 4 = .ok (.iconst 4, 1) := dk_7 (dk_at dksX8_response_0 4 rfl rfl)
theorem dX8_response_5 : decode cX8_response 5 = .ok (.iload_n 1, 1) := dk_27 (dk_at dksX8_response_0 5 rfl rfl)
theorem dX8_response_6 : decode cX8_response 6 = .ok (.imul, 1) := dk_104 (dk_at dksX8_response_0 6 rfl rfl)
theorem dX8_response_7 : decode cX8_response 7 = .ok (.iconst 3, 1) := dk_6 (dk_at dksX8_response_0 7 rfl rfl)
theorem dX8_response_8 : decode cX8_response 8 = .ok (.iadd, 1) := dk_96 (dk_at dksX8_response_0 8 rfl rfl)
theorem dX8_response_9 : decode cX8_response 9 = .ok (.iaload, 1) := dk_46 (dk_at dksX8_response_0 9 rfl rfl)
theorem dX8_response_10 : decode cX8_response 10 = .ok (.aload_n 0, 1) := dk_42 (dk_at dksX8_response_0 10 rfl rfl)
theorem dX8_response_11 : decode cX8_response 11 = .ok (.getfield 26, 3) := dk_180 0 26 (dk_at dksX8_response_0 11 rfl rfl)
theorem dX8_response_14 : decode cX8_response 14 = .ok (.iconst 4, 1) := dk_7 (dk_at dksX8_response_0 14 rfl rfl)
theorem dX8_response_15 : decode cX8_response 15 = .ok (.iload_n 1, 1) := dk_27 (dk_at dksX8_response_0 15 rfl rfl)
theorem dX8_response_16 : decode cX8_response 16 = .ok (.imul, 1) := dk_104 (dk_at dksX8_response_0 16 rfl rfl)
theorem dX8_response_17 : decode cX8_response 17 = .ok (.iconst 1, 1) := dk_4 (dk_at dksX8_response_0 17 rfl rfl)
theorem dX8_response_18 : decode cX8_response 18 = .ok (.iadd, 1) := dk_96 (dk_at dksX8_response_0 18 rfl rfl)
theorem dX8_response_19 : decode cX8_response 19 = .ok (.iaload, 1) := dk_46 (dk_at dksX8_response_0 19 rfl rfl)
theorem dX8_response_20 : decode cX8_response 20 = .ok (.invokestatic 62, 3) := dk_184 0 62 (dk_at dksX8_response_0 20 rfl rfl)
theorem dX8_response_23 : decode cX8_response 23 = .ok (.iadd, 1) := dk_96 (dk_at dksX8_response_0 23 rfl rfl)
theorem dX8_response_24 : decode cX8_response 24 = .ok (.istore_n 2, 1) := dk_61 (dk_at dksX8_response_1 0 rfl rfl)
theorem dX8_response_25 : decode cX8_response 25 = .ok (.iconst 0, 1) := dk_3 (dk_at dksX8_response_1 1 rfl rfl)
theorem dX8_response_26 : decode cX8_response 26 = .ok (.istore_n 3, 1) := dk_62 (dk_at dksX8_response_1 2 rfl rfl)
theorem dX8_response_27 : decode cX8_response 27 = .ok (.iconst 0, 1) := dk_3 (dk_at dksX8_response_1 3 rfl rfl)
theorem dX8_response_28 : decode cX8_response 28 = .ok (.istore 4, 2) := dk_54 4 (dk_at dksX8_response_1 4 rfl rfl)
theorem dX8_response_30 : decode cX8_response 30 = .ok (.iload 4, 2) := dk_21 4 (dk_at dksX8_response_1 6 rfl rfl)
theorem dX8_response_32 : decode cX8_response 32 = .ok (.aload_n 0, 1) := dk_42 (dk_at dksX8_response_1 8 rfl rfl)
theorem dX8_response_33 : decode cX8_response 33 = .ok (.getfield 201, 3) := dk_180 0 201 (dk_at dksX8_response_1 9 rfl rfl)
theorem dX8_response_36 : decode cX8_response 36 = .ok (.if_icmp .ge 58, 3) := dk_162 0 58 (dk_at dksX8_response_1 12 rfl rfl)
theorem dX8_response_39 : decode cX8_response 39 = .ok (.aload_n 0, 1) := dk_42 (dk_at dksX8_response_1 15 rfl rfl)
theorem dX8_response_40 : decode cX8_response 40 = .ok (.getfield 26, 3) := dk_180 0 26 (dk_at dksX8_response_1 16 rfl rfl)
theorem dX8_response_43 : decode cX8_response 43 = .ok (.iconst 4, 1) := dk_7 (dk_at dksX8_response_1 19 rfl rfl)
theorem dX8_response_44 : decode cX8_response 44 = .ok (.iload 4, 2) := dk_21 4 (dk_at dksX8_response_1 20 rfl rfl)
theorem dX8_response_46 : decode cX8_response 46 = .ok (.imul, 1) := dk_104 (dk_at dksX8_response_1 22 rfl rfl)
theorem dX8_response_47 : decode cX8_response 47 = .ok (.iconst 1, 1) := dk_4 (dk_at dksX8_response_1 23 rfl rfl)
theorem dX8_response_48 : decode cX8_response 48 = .ok (.iadd, 1) := dk_96 (dk_at dksX8_response_2 0 rfl rfl)
theorem dX8_response_49 : decode cX8_response 49 = .ok (.iaload, 1) := dk_46 (dk_at dksX8_response_2 1 rfl rfl)
theorem dX8_response_50 : decode cX8_response 50 = .ok (.invokestatic 62, 3) := dk_184 0 62 (dk_at dksX8_response_2 2 rfl rfl)
theorem dX8_response_53 : decode cX8_response 53 = .ok (.istore 5, 2) := dk_54 5 (dk_at dksX8_response_2 5 rfl rfl)
theorem dX8_response_55 : decode cX8_response 55 = .ok (.aload_n 0, 1) := dk_42 (dk_at dksX8_response_2 7 rfl rfl)
theorem dX8_response_56 : decode cX8_response 56 = .ok (.getfield 26, 3) := dk_180 0 26 (dk_at dksX8_response_2 8 rfl rfl)
theorem dX8_response_59 : decode cX8_response 59 = .ok (.iconst 4, 1) := dk_7 (dk_at dksX8_response_2 11 rfl rfl)
theorem dX8_response_60 : decode cX8_response 60 = .ok (.iload 4, 2) := dk_21 4 (dk_at dksX8_response_2 12 rfl rfl)
theorem dX8_response_62 : decode cX8_response 62 = .ok (.imul, 1) := dk_104 (dk_at dksX8_response_2 14 rfl rfl)
theorem dX8_response_63 : decode cX8_response 63 = .ok (.iaload, 1) := dk_46 (dk_at dksX8_response_2 15 rfl rfl)
theorem dX8_response_64 : decode cX8_response 64 = .ok (.aload_n 0, 1) := dk_42 (dk_at dksX8_response_2 16 rfl rfl)
theorem dX8_response_65 : decode cX8_response 65 = .ok (.getfield 26, 3) := dk_180 0 26 (dk_at dksX8_response_2 17 rfl rfl)
theorem dX8_response_68 : decode cX8_response 68 = .ok (.iconst 4, 1) := dk_7 (dk_at dksX8_response_2 20 rfl rfl)
theorem dX8_response_69 : decode cX8_response 69 = .ok (.iload_n 1, 1) := dk_27 (dk_at dksX8_response_2 21 rfl rfl)
theorem dX8_response_70 : decode cX8_response 70 = .ok (.imul, 1) := dk_104 (dk_at dksX8_response_2 22 rfl rfl)
theorem dX8_response_71 : decode cX8_response 71 = .ok (.iaload, 1) := dk_46 (dk_at dksX8_response_2 23 rfl rfl)
theorem dX8_response_72 : decode cX8_response 72 = .ok (.if_icmp .le 14, 3) := dk_164 0 14 (dk_at dksX8_response_3 0 rfl rfl)
theorem dX8_response_75 : decode cX8_response 75 = .ok (.iload 5, 2) := dk_21 5 (dk_at dksX8_response_3 3 rfl rfl)
theorem dX8_response_77 : decode cX8_response 77 = .ok (.iload_n 3, 1) := dk_29 (dk_at dksX8_response_3 5 rfl rfl)
theorem dX8_response_78 : decode cX8_response 78 = .ok (.if_icmp .le 8, 3) := dk_164 0 8 (dk_at dksX8_response_3 6 rfl rfl)
theorem dX8_response_81 : decode cX8_response 81 = .ok (.iload 5, 2) := dk_21 5 (dk_at dksX8_response_3 9 rfl rfl)
theorem dX8_response_83 : decode cX8_response 83 = .ok (.goto 4, 3) := dk_167 0 4 (dk_at dksX8_response_3 11 rfl rfl)
theorem dX8_response_86 : decode cX8_response 86 = .ok (.iload_n 3, 1) := dk_29 (dk_at dksX8_response_3 14 rfl rfl)
theorem dX8_response_87 : decode cX8_response 87 = .ok (.istore_n 3, 1) := dk_62 (dk_at dksX8_response_3 15 rfl rfl)
theorem dX8_response_88 : decode cX8_response 88 = .ok (.iinc 4 1, 3) := dk_132 4 1 (dk_at dksX8_response_3 16 rfl rfl)
theorem dX8_response_91 : decode cX8_response 91 = .ok (.goto (-61), 3) := dk_167 255 195 (dk_at dksX8_response_3 19 rfl rfl)
theorem dX8_response_94 : decode cX8_response 94 = .ok (.iload_n 3, 1) := dk_29 (dk_at dksX8_response_3 22 rfl rfl)
theorem dX8_response_95 : decode cX8_response 95 = .ok (.istore 4, 2) := dk_54 4 (dk_at dksX8_response_4 0 rfl rfl)
theorem dX8_response_97 : decode cX8_response 97 = .ok (.iload_n 2, 1) := dk_28 (dk_at dksX8_response_4 2 rfl rfl)
theorem dX8_response_98 : decode cX8_response 98 = .ok (.iload 4, 2) := dk_21 4 (dk_at dksX8_response_4 3 rfl rfl)
theorem dX8_response_100 : decode cX8_response 100 = .ok (.iadd, 1) := dk_96 (dk_at dksX8_response_4 5 rfl rfl)
theorem dX8_response_101 : decode cX8_response 101 = .ok (.aload_n 0, 1) := dk_42 (dk_at dksX8_response_4 6 rfl rfl)
theorem dX8_response_102 : decode cX8_response 102 = .ok (.getfield 26, 3) := dk_180 0 26 (dk_at dksX8_response_4 7 rfl rfl)
theorem dX8_response_105 : decode cX8_response 105 = .ok (.iconst 4, 1) := dk_7 (dk_at dksX8_response_4 10 rfl rfl)
theorem dX8_response_106 : decode cX8_response 106 = .ok (.iload_n 1, 1) := dk_27 (dk_at dksX8_response_4 11 rfl rfl)
theorem dX8_response_107 : decode cX8_response 107 = .ok (.imul, 1) := dk_104 (dk_at dksX8_response_4 12 rfl rfl)
theorem dX8_response_108 : decode cX8_response 108 = .ok (.iconst 2, 1) := dk_5 (dk_at dksX8_response_4 13 rfl rfl)
theorem dX8_response_109 : decode cX8_response 109 = .ok (.iadd, 1) := dk_96 (dk_at dksX8_response_4 14 rfl rfl)
theorem dX8_response_110 : decode cX8_response 110 = .ok (.iaload, 1) := dk_46 (dk_at dksX8_response_4 15 rfl rfl)
theorem dX8_response_111 : decode cX8_response 111 = .ok (.if_icmp .gt 120, 3) := dk_163 0 120 (dk_at dksX8_response_4 16 rfl rfl)
theorem dX8_response_114 : decode cX8_response 114 = .ok (.iload_n 3, 1) := dk_29 (dk_at dksX8_response_4 19 rfl rfl)
theorem dX8_response_115 : decode cX8_response 115 = .ok (.istore 5, 2) := dk_54 5 (dk_at dksX8_response_4 20 rfl rfl)
theorem dX8_response_117 : decode cX8_response 117 = .ok (.iconst 0, 1) := dk_3 (dk_at dksX8_response_4 22 rfl rfl)
theorem dX8_response_118 : decode cX8_response 118 = .ok (.istore 6, 2) := dk_54 6 (dk_at dksX8_response_5 0 rfl rfl)
theorem dX8_response_120 : decode cX8_response 120 = .ok (.iload 6, 2) := dk_21 6 (dk_at dksX8_response_5 2 rfl rfl)
theorem dX8_response_122 : decode cX8_response 122 = .ok (.aload_n 0, 1) := dk_42 (dk_at dksX8_response_5 4 rfl rfl)
theorem dX8_response_123 : decode cX8_response 123 = .ok (.getfield 201, 3) := dk_180 0 201 (dk_at dksX8_response_5 5 rfl rfl)
theorem dX8_response_126 : decode cX8_response 126 = .ok (.if_icmp .ge 86, 3) := dk_162 0 86 (dk_at dksX8_response_5 8 rfl rfl)
theorem dX8_response_129 : decode cX8_response 129 = .ok (.aload_n 0, 1) := dk_42 (dk_at dksX8_response_5 11 rfl rfl)
theorem dX8_response_130 : decode cX8_response 130 = .ok (.getfield 26, 3) := dk_180 0 26 (dk_at dksX8_response_5 12 rfl rfl)
theorem dX8_response_133 : decode cX8_response 133 = .ok (.iconst 4, 1) := dk_7 (dk_at dksX8_response_5 15 rfl rfl)
theorem dX8_response_134 : decode cX8_response 134 = .ok (.iload 6, 2) := dk_21 6 (dk_at dksX8_response_5 16 rfl rfl)
theorem dX8_response_136 : decode cX8_response 136 = .ok (.imul, 1) := dk_104 (dk_at dksX8_response_5 18 rfl rfl)
theorem dX8_response_137 : decode cX8_response 137 = .ok (.iconst 2, 1) := dk_5 (dk_at dksX8_response_5 19 rfl rfl)
theorem dX8_response_138 : decode cX8_response 138 = .ok (.iadd, 1) := dk_96 (dk_at dksX8_response_5 20 rfl rfl)
theorem dX8_response_139 : decode cX8_response 139 = .ok (.iaload, 1) := dk_46 (dk_at dksX8_response_5 21 rfl rfl)
theorem dX8_response_140 : decode cX8_response 140 = .ok (.istore 7, 2) := dk_54 7 (dk_at dksX8_response_5 22 rfl rfl)
theorem dX8_response_142 : decode cX8_response 142 = .ok (.iload 5, 2) := dk_21 5 (dk_at dksX8_response_6 0 rfl rfl)
theorem dX8_response_144 : decode cX8_response 144 = .ok (.aload_n 0, 1) := dk_42 (dk_at dksX8_response_6 2 rfl rfl)
theorem dX8_response_145 : decode cX8_response 145 = .ok (.getfield 26, 3) := dk_180 0 26 (dk_at dksX8_response_6 3 rfl rfl)
theorem dX8_response_148 : decode cX8_response 148 = .ok (.iconst 4, 1) := dk_7 (dk_at dksX8_response_6 6 rfl rfl)
theorem dX8_response_149 : decode cX8_response 149 = .ok (.iload 6, 2) := dk_21 6 (dk_at dksX8_response_6 7 rfl rfl)
theorem dX8_response_151 : decode cX8_response 151 = .ok (.imul, 1) := dk_104 (dk_at dksX8_response_6 9 rfl rfl)
theorem dX8_response_152 : decode cX8_response 152 = .ok (.iaload, 1) := dk_46 (dk_at dksX8_response_6 10 rfl rfl)
theorem dX8_response_153 : decode cX8_response 153 = .ok (.aload_n 0, 1) := dk_42 (dk_at dksX8_response_6 11 rfl rfl)
theorem dX8_response_154 : decode cX8_response 154 = .ok (.getfield 26, 3) := dk_180 0 26 (dk_at dksX8_response_6 12 rfl rfl)
theorem dX8_response_157 : decode cX8_response 157 = .ok (.iconst 4, 1) := dk_7 (dk_at dksX8_response_6 15 rfl rfl)
theorem dX8_response_158 : decode cX8_response 158 = .ok (.iload_n 1, 1) := dk_27 (dk_at dksX8_response_6 16 rfl rfl)
theorem dX8_response_159 : decode cX8_response 159 = .ok (.imul, 1) := dk_104 (dk_at dksX8_response_6 17 rfl rfl)
theorem dX8_response_160 : decode cX8_response 160 = .ok (.iaload, 1) := dk_46 (dk_at dksX8_response_6 18 rfl rfl)
theorem dX8_response_161 : decode cX8_response 161 = .ok (.if_icmp .ge 41, 3) := dk_162 0 41 (dk_at dksX8_response_6 19 rfl rfl)
theorem dX8_response_164 : decode cX8_response 164 = .ok (.aload_n 0, 1) := dk_42 (dk_at dksX8_response_6 22 rfl rfl)
theorem dX8_response_165 : decode cX8_response 165 = .ok (.getfield 26, 3) := dk_180 0 26 (dk_at dksX8_response_7 0 rfl rfl)
theorem dX8_response_168 : decode cX8_response 168 = .ok (.iconst 4, 1) := dk_7 (dk_at dksX8_response_7 3 rfl rfl)
theorem dX8_response_169 : decode cX8_response 169 = .ok (.iload 6, 2) := dk_21 6 (dk_at dksX8_response_7 4 rfl rfl)
theorem dX8_response_171 : decode cX8_response 171 = .ok (.imul, 1) := dk_104 (dk_at dksX8_response_7 6 rfl rfl)
theorem dX8_response_172 : decode cX8_response 172 = .ok (.iconst 1, 1) := dk_4 (dk_at dksX8_response_7 7 rfl rfl)
theorem dX8_response_173 : decode cX8_response 173 = .ok (.iadd, 1) := dk_96 (dk_at dksX8_response_7 8 rfl rfl)
theorem dX8_response_174 : decode cX8_response 174 = .ok (.iaload, 1) := dk_46 (dk_at dksX8_response_7 9 rfl rfl)
theorem dX8_response_175 : decode cX8_response 175 = .ok (.invokestatic 62, 3) := dk_184 0 62 (dk_at dksX8_response_7 10 rfl rfl)
theorem dX8_response_178 : decode cX8_response 178 = .ok (.iload 4, 2) := dk_21 4 (dk_at dksX8_response_7 13 rfl rfl)
theorem dX8_response_180 : decode cX8_response 180 = .ok (.aload_n 0, 1) := dk_42 (dk_at dksX8_response_7 15 rfl rfl)
theorem dX8_response_181 : decode cX8_response 181 = .ok (.getfield 26, 3) := dk_180 0 26 (dk_at dksX8_response_7 16 rfl rfl)
theorem dX8_response_184 : decode cX8_response 184 = .ok (.iconst 4, 1) := dk_7 (dk_at dksX8_response_7 19 rfl rfl)
theorem dX8_response_185 : decode cX8_response 185 = .ok (.iload 6, 2) := dk_21 6 (dk_at dksX8_response_7 20 rfl rfl)
theorem dX8_response_187 : decode cX8_response 187 = .ok (.imul, 1) := dk_104 (dk_at dksX8_response_7 22 rfl rfl)
theorem dX8_response_188 : decode cX8_response 188 = .ok (.iconst 3, 1) := dk_6 (dk_at dksX8_response_7 23 rfl rfl)
theorem dX8_response_189 : decode cX8_response 189 = .ok (.iadd, 1) := dk_96 (dk_at dksX8_response_8 0 rfl rfl)
theorem dX8_response_190 : decode cX8_response 190 = .ok (.iaload, 1) := dk_46 (dk_at dksX8_response_8 1 rfl rfl)
theorem dX8_response_191 : decode cX8_response 191 = .ok (.iadd, 1) := dk_96 (dk_at dksX8_response_8 2 rfl rfl)
theorem dX8_response_192 : decode cX8_response 192 = .ok (.iload 7, 2) := dk_21 7 (dk_at dksX8_response_8 3 rfl rfl)
theorem dX8_response_194 : decode cX8_response 194 = .ok (.iadd, 1) := dk_96 (dk_at dksX8_response_8 5 rfl rfl)
theorem dX8_response_195 : decode cX8_response 195 = .ok (.iload 7, 2) := dk_21 7 (dk_at dksX8_response_8 6 rfl rfl)
theorem dX8_response_197 : decode cX8_response 197 = .ok (.idiv, 1) := dk_108 (dk_at dksX8_response_8 8 rfl rfl)
theorem dX8_response_198 : decode cX8_response 198 = .ok (.imul, 1) := dk_104 (dk_at dksX8_response_8 9 rfl rfl)
theorem dX8_response_199 : decode cX8_response 199 = .ok (.goto 4, 3) := dk_167 0 4 (dk_at dksX8_response_8 10 rfl rfl)
theorem dX8_response_202 : decode cX8_response 202 = .ok (.iconst 0, 1) := dk_3 (dk_at dksX8_response_8 13 rfl rfl)
theorem dX8_response_203 : decode cX8_response 203 = .ok (.iadd, 1) := dk_96 (dk_at dksX8_response_8 14 rfl rfl)
theorem dX8_response_204 : decode cX8_response 204 = .ok (.istore 5, 2) := dk_54 5 (dk_at dksX8_response_8 15 rfl rfl)
theorem dX8_response_206 : decode cX8_response 206 = .ok (.iinc 6 1, 3) := dk_132 6 1 (dk_at dksX8_response_8 17 rfl rfl)
theorem dX8_response_209 : decode cX8_response 209 = .ok (.goto (-89), 3) := dk_167 255 167 (dk_at dksX8_response_8 20 rfl rfl)
theorem dX8_response_212 : decode cX8_response 212 = .ok (.iload 5, 2) := dk_21 5 (dk_at dksX8_response_9 0 rfl rfl)
theorem dX8_response_214 : decode cX8_response 214 = .ok (.iload 4, 2) := dk_21 4 (dk_at dksX8_response_9 2 rfl rfl)
theorem dX8_response_216 : decode cX8_response 216 = .ok (.if_icmp .ne 8, 3) := dk_160 0 8 (dk_at dksX8_response_9 4 rfl rfl)
theorem dX8_response_219 : decode cX8_response 219 = .ok (.iload_n 2, 1) := dk_28 (dk_at dksX8_response_9 7 rfl rfl)
theorem dX8_response_220 : decode cX8_response 220 = .ok (.iload 4, 2) := dk_21 4 (dk_at dksX8_response_9 8 rfl rfl)
theorem dX8_response_222 : decode cX8_response 222 = .ok (.iadd, 1) := dk_96 (dk_at dksX8_response_9 10 rfl rfl)
theorem dX8_response_223 : decode cX8_response 223 = .ok (.ireturn, 1) := dk_172 (dk_at dksX8_response_9 11 rfl rfl)
theorem dX8_response_224 : decode cX8_response 224 = .ok (.iload 5, 2) := dk_21 5 (dk_at dksX8_response_9 12 rfl rfl)
theorem dX8_response_226 : decode cX8_response 226 = .ok (.istore 4, 2) := dk_54 4 (dk_at dksX8_response_9 14 rfl rfl)
theorem dX8_response_228 : decode cX8_response 228 = .ok (.goto (-131), 3) := dk_167 255 125 (dk_at dksX8_response_9 16 rfl rfl)
theorem dX8_response_231 : decode cX8_response 231 = .ok (.bipush (-5), 2) := dk_16 251 (dk_at dksX8_response_9 19 rfl rfl)
theorem dX8_response_233 : decode cX8_response 233 = .ok (.ireturn, 1) := dk_172 (dk_at dksX8_response_9 21 rfl rfl)
abbrev cX8_misses : ByteArray := prog_29_method_95_code
def yX8_misses : MethodName := ⟨RX8, "misses", "()I"⟩
def dkwX8_misses_1 : List UInt8 := [167, 0, 4, 3, 96, 60, 132, 2, 1, 167, 255, 227, 27, 172]
abbrev dktX8_misses_1 : List UInt8 := dkwX8_misses_1 ++ []
def dkwX8_misses_0 : List UInt8 := [3, 60, 3, 61, 28, 42, 180, 0, 201, 162, 0, 27, 27, 42, 28, 182, 0, 208, 16, 251, 160, 0, 7, 4]
abbrev dktX8_misses_0 : List UInt8 := dkwX8_misses_0 ++ dktX8_misses_1
theorem dksX8_misses_0 : cX8_misses.data.toList.drop 0 = dktX8_misses_0 := by decide +kernel
theorem dksX8_misses_1 : cX8_misses.data.toList.drop 24 = dktX8_misses_1 := dk_seg dksX8_misses_0 24 rfl rfl
theorem dX8_misses_0 : decode cX8_misses 0 = .ok (.iconst 0, 1) := dk_3 (dk_at dksX8_misses_0 0 rfl rfl)
theorem dX8_misses_1 : decode cX8_misses 1 = .ok (.istore_n 1, 1) := dk_60 (dk_at dksX8_misses_0 1 rfl rfl)
theorem dX8_misses_2 : decode cX8_misses 2 = .ok (.iconst 0, 1) := dk_3 (dk_at dksX8_misses_0 2 rfl rfl)
theorem dX8_misses_3 : decode cX8_misses 3 = .ok (.istore_n 2, 1) := dk_61 (dk_at dksX8_misses_0 3 rfl rfl)
theorem dX8_misses_4 : decode cX8_misses 4 = .ok (.iload_n 2, 1) := dk_28 (dk_at dksX8_misses_0 4 rfl rfl)
theorem dX8_misses_5 : decode cX8_misses 5 = .ok (.aload_n 0, 1) := dk_42 (dk_at dksX8_misses_0 5 rfl rfl)
theorem dX8_misses_6 : decode cX8_misses 6 = .ok (.getfield 201, 3) := dk_180 0 201 (dk_at dksX8_misses_0 6 rfl rfl)
theorem dX8_misses_9 : decode cX8_misses 9 = .ok (.if_icmp .ge 27, 3) := dk_162 0 27 (dk_at dksX8_misses_0 9 rfl rfl)
theorem dX8_misses_12 : decode cX8_misses 12 = .ok (.iload_n 1, 1) := dk_27 (dk_at dksX8_misses_0 12 rfl rfl)
theorem dX8_misses_13 : decode cX8_misses 13 = .ok (.aload_n 0, 1) := dk_42 (dk_at dksX8_misses_0 13 rfl rfl)
theorem dX8_misses_14 : decode cX8_misses 14 = .ok (.iload_n 2, 1) := dk_28 (dk_at dksX8_misses_0 14 rfl rfl)
theorem dX8_misses_15 : decode cX8_misses 15 = .ok (.invokevirtual 208, 3) := dk_182 0 208 (dk_at dksX8_misses_0 15 rfl rfl)
theorem dX8_misses_18 : decode cX8_misses 18 = .ok (.bipush (-5), 2) := dk_16 251 (dk_at dksX8_misses_0 18 rfl rfl)
theorem dX8_misses_20 : decode cX8_misses 20 = .ok (.if_icmp .ne 7, 3) := dk_160 0 7 (dk_at dksX8_misses_0 20 rfl rfl)
theorem dX8_misses_23 : decode cX8_misses 23 = .ok (.iconst 1, 1) := dk_4 (dk_at dksX8_misses_0 23 rfl rfl)
theorem dX8_misses_24 : decode cX8_misses 24 = .ok (.goto 4, 3) := dk_167 0 4 (dk_at dksX8_misses_1 0 rfl rfl)
theorem dX8_misses_27 : decode cX8_misses 27 = .ok (.iconst 0, 1) := dk_3 (dk_at dksX8_misses_1 3 rfl rfl)
theorem dX8_misses_28 : decode cX8_misses 28 = .ok (.iadd, 1) := dk_96 (dk_at dksX8_misses_1 4 rfl rfl)
theorem dX8_misses_29 : decode cX8_misses 29 = .ok (.istore_n 1, 1) := dk_60 (dk_at dksX8_misses_1 5 rfl rfl)
theorem dX8_misses_30 : decode cX8_misses 30 = .ok (.iinc 2 1, 3) := dk_132 2 1 (dk_at dksX8_misses_1 6 rfl rfl)
theorem dX8_misses_33 : decode cX8_misses 33 = .ok (.goto (-29), 3) := dk_167 255 227 (dk_at dksX8_misses_1 9 rfl rfl)
theorem dX8_misses_36 : decode cX8_misses 36 = .ok (.iload_n 1, 1) := dk_27 (dk_at dksX8_misses_1 12 rfl rfl)
theorem dX8_misses_37 : decode cX8_misses 37 = .ok (.ireturn, 1) := dk_172 (dk_at dksX8_misses_1 13 rfl rfl)
abbrev cX8_append : ByteArray := prog_29_method_96_code
def yX8_append : MethodName := ⟨RX8, "append", "(I)I"⟩
def dkwX8_append_2 : List UInt8 := [180, 0, 211, 172]
abbrev dktX8_append_2 : List UInt8 := dkwX8_append_2 ++ []
def dkwX8_append_1 : List UInt8 := [172, 42, 180, 0, 23, 42, 180, 0, 211, 27, 79, 42, 89, 180, 0, 211, 4, 96, 181, 0, 211, 42]
abbrev dktX8_append_1 : List UInt8 := dkwX8_append_1 ++ dktX8_append_2
def dkwX8_append_0 : List UInt8 := [27, 3, 16, 127, 184, 0, 39, 154, 0, 6, 16, 254, 172, 42, 180, 0, 211, 16, 120, 160, 0, 6, 16, 253]
abbrev dktX8_append_0 : List UInt8 := dkwX8_append_0 ++ dktX8_append_1
theorem dksX8_append_0 : cX8_append.data.toList.drop 0 = dktX8_append_0 := by decide +kernel
theorem dksX8_append_1 : cX8_append.data.toList.drop 24 = dktX8_append_1 := dk_seg dksX8_append_0 24 rfl rfl
theorem dksX8_append_2 : cX8_append.data.toList.drop 46 = dktX8_append_2 := dk_seg dksX8_append_1 22 rfl rfl
theorem dX8_append_0 : decode cX8_append 0 = .ok (.iload_n 1, 1) := dk_27 (dk_at dksX8_append_0 0 rfl rfl)
theorem dX8_append_1 : decode cX8_append 1 = .ok (.iconst 0, 1) := dk_3 (dk_at dksX8_append_0 1 rfl rfl)
theorem dX8_append_2 : decode cX8_append 2 = .ok (.bipush 127, 2) := dk_16 127 (dk_at dksX8_append_0 2 rfl rfl)
theorem dX8_append_4 : decode cX8_append 4 = .ok (.invokestatic 39, 3) := dk_184 0 39 (dk_at dksX8_append_0 4 rfl rfl)
theorem dX8_append_7 : decode cX8_append 7 = .ok (.ifCond .ne 6, 3) := dk_154 0 6 (dk_at dksX8_append_0 7 rfl rfl)
theorem dX8_append_10 : decode cX8_append 10 = .ok (.bipush (-2), 2) := dk_16 254 (dk_at dksX8_append_0 10 rfl rfl)
theorem dX8_append_12 : decode cX8_append 12 = .ok (.ireturn, 1) := dk_172 (dk_at dksX8_append_0 12 rfl rfl)
theorem dX8_append_13 : decode cX8_append 13 = .ok (.aload_n 0, 1) := dk_42 (dk_at dksX8_append_0 13 rfl rfl)
theorem dX8_append_14 : decode cX8_append 14 = .ok (.getfield 211, 3) := dk_180 0 211 (dk_at dksX8_append_0 14 rfl rfl)
theorem dX8_append_17 : decode cX8_append 17 = .ok (.bipush 120, 2) := dk_16 120 (dk_at dksX8_append_0 17 rfl rfl)
theorem dX8_append_19 : decode cX8_append 19 = .ok (.if_icmp .ne 6, 3) := dk_160 0 6 (dk_at dksX8_append_0 19 rfl rfl)
theorem dX8_append_22 : decode cX8_append 22 = .ok (.bipush (-3), 2) := dk_16 253 (dk_at dksX8_append_0 22 rfl rfl)
theorem dX8_append_24 : decode cX8_append 24 = .ok (.ireturn, 1) := dk_172 (dk_at dksX8_append_1 0 rfl rfl)
theorem dX8_append_25 : decode cX8_append 25 = .ok (.aload_n 0, 1) := dk_42 (dk_at dksX8_append_1 1 rfl rfl)
theorem dX8_append_26 : decode cX8_append 26 = .ok (.getfield 23, 3) := dk_180 0 23 (dk_at dksX8_append_1 2 rfl rfl)
theorem dX8_append_29 : decode cX8_append 29 = .ok (.aload_n 0, 1) := dk_42 (dk_at dksX8_append_1 5 rfl rfl)
theorem dX8_append_30 : decode cX8_append 30 = .ok (.getfield 211, 3) := dk_180 0 211 (dk_at dksX8_append_1 6 rfl rfl)
theorem dX8_append_33 : decode cX8_append 33 = .ok (.iload_n 1, 1) := dk_27 (dk_at dksX8_append_1 9 rfl rfl)
theorem dX8_append_34 : decode cX8_append 34 = .ok (.iastore, 1) := dk_79 (dk_at dksX8_append_1 10 rfl rfl)
theorem dX8_append_35 : decode cX8_append 35 = .ok (.aload_n 0, 1) := dk_42 (dk_at dksX8_append_1 11 rfl rfl)
theorem dX8_append_36 : decode cX8_append 36 = .ok (.dup, 1) := dk_89 (dk_at dksX8_append_1 12 rfl rfl)
theorem dX8_append_37 : decode cX8_append 37 = .ok (.getfield 211, 3) := dk_180 0 211 (dk_at dksX8_append_1 13 rfl rfl)
theorem dX8_append_40 : decode cX8_append 40 = .ok (.iconst 1, 1) := dk_4 (dk_at dksX8_append_1 16 rfl rfl)
theorem dX8_append_41 : decode cX8_append 41 = .ok (.iadd, 1) := dk_96 (dk_at dksX8_append_1 17 rfl rfl)
theorem dX8_append_42 : decode cX8_append 42 = .ok (.putfield 211, 3) := dk_181 0 211 (dk_at dksX8_append_1 18 rfl rfl)
theorem dX8_append_45 : decode cX8_append 45 = .ok (.aload_n 0, 1) := dk_42 (dk_at dksX8_append_1 21 rfl rfl)
theorem dX8_append_46 : decode cX8_append 46 = .ok (.getfield 211, 3) := dk_180 0 211 (dk_at dksX8_append_2 0 rfl rfl)
theorem dX8_append_49 : decode cX8_append 49 = .ok (.ireturn, 1) := dk_172 (dk_at dksX8_append_2 3 rfl rfl)
abbrev cX8_clearText : ByteArray := prog_29_method_97_code
def yX8_clearText : MethodName := ⟨RX8, "clearText", "()I"⟩
def dkwX8_clearText_0 : List UInt8 := [42, 180, 0, 211, 60, 42, 3, 181, 0, 211, 27, 172]
abbrev dktX8_clearText_0 : List UInt8 := dkwX8_clearText_0 ++ []
theorem dksX8_clearText_0 : cX8_clearText.data.toList.drop 0 = dktX8_clearText_0 := by decide +kernel
theorem dX8_clearText_0 : decode cX8_clearText 0 = .ok (.aload_n 0, 1) := dk_42 (dk_at dksX8_clearText_0 0 rfl rfl)
theorem dX8_clearText_1 : decode cX8_clearText 1 = .ok (.getfield 211, 3) := dk_180 0 211 (dk_at dksX8_clearText_0 1 rfl rfl)
theorem dX8_clearText_4 : decode cX8_clearText 4 = .ok (.istore_n 1, 1) := dk_60 (dk_at dksX8_clearText_0 4 rfl rfl)
theorem dX8_clearText_5 : decode cX8_clearText 5 = .ok (.aload_n 0, 1) := dk_42 (dk_at dksX8_clearText_0 5 rfl rfl)
theorem dX8_clearText_6 : decode cX8_clearText 6 = .ok (.iconst 0, 1) := dk_3 (dk_at dksX8_clearText_0 6 rfl rfl)
theorem dX8_clearText_7 : decode cX8_clearText 7 = .ok (.putfield 211, 3) := dk_181 0 211 (dk_at dksX8_clearText_0 7 rfl rfl)
theorem dX8_clearText_10 : decode cX8_clearText 10 = .ok (.iload_n 1, 1) := dk_27 (dk_at dksX8_clearText_0 10 rfl rfl)
theorem dX8_clearText_11 : decode cX8_clearText 11 = .ok (.ireturn, 1) := dk_172 (dk_at dksX8_clearText_0 11 rfl rfl)
abbrev cX8_faultPosition : ByteArray := prog_29_method_102_code
def yX8_faultPosition : MethodName := ⟨RX8, "faultPosition", "()I"⟩
theorem dX8_faultPosition_0 : decode cX8_faultPosition 0 = .ok (.aload_n 0, 1) := by decide +kernel
theorem dX8_faultPosition_1 : decode cX8_faultPosition 1 = .ok (.invokevirtual 227, 3) := by decide +kernel
theorem dX8_faultPosition_4 : decode cX8_faultPosition 4 = .ok (.ireturn, 1) := by decide +kernel
abbrev cX8_faultOf : ByteArray := prog_29_method_101_code
def yX8_faultOf : MethodName := ⟨RX8, "faultOf", "()I"⟩
def dkwX8_faultOf_1 : List UInt8 := [154, 255, 237, 42, 180, 0, 214, 172, 16, 251, 172]
abbrev dktX8_faultOf_1 : List UInt8 := dkwX8_faultOf_1 ++ []
def dkwX8_faultOf_0 : List UInt8 := [42, 3, 181, 0, 214, 42, 180, 0, 214, 42, 180, 0, 211, 162, 0, 19, 42, 42, 180, 0, 32, 182, 0, 223]
abbrev dktX8_faultOf_0 : List UInt8 := dkwX8_faultOf_0 ++ dktX8_faultOf_1
theorem dksX8_faultOf_0 : cX8_faultOf.data.toList.drop 0 = dktX8_faultOf_0 := by decide +kernel
theorem dksX8_faultOf_1 : cX8_faultOf.data.toList.drop 24 = dktX8_faultOf_1 := dk_seg dksX8_faultOf_0 24 rfl rfl
theorem dX8_faultOf_0 : decode cX8_faultOf 0 = .ok (.aload_n 0, 1) := dk_42 (dk_at dksX8_faultOf_0 0 rfl rfl)
theorem dX8_faultOf_1 : decode cX8_faultOf 1 = .ok (.iconst 0, 1) := dk_3 (dk_at dksX8_faultOf_0 1 rfl rfl)
theorem dX8_faultOf_2 : decode cX8_faultOf 2 = .ok (.putfield 214, 3) := dk_181 0 214 (dk_at dksX8_faultOf_0 2 rfl rfl)
theorem dX8_faultOf_5 : decode cX8_faultOf 5 = .ok (.aload_n 0, 1) := dk_42 (dk_at dksX8_faultOf_0 5 rfl rfl)
theorem dX8_faultOf_6 : decode cX8_faultOf 6 = .ok (.getfield 214, 3) := dk_180 0 214 (dk_at dksX8_faultOf_0 6 rfl rfl)
theorem dX8_faultOf_9 : decode cX8_faultOf 9 = .ok (.aload_n 0, 1) := dk_42 (dk_at dksX8_faultOf_0 9 rfl rfl)
theorem dX8_faultOf_10 : decode cX8_faultOf 10 = .ok (.getfield 211, 3) := dk_180 0 211 (dk_at dksX8_faultOf_0 10 rfl rfl)
theorem dX8_faultOf_13 : decode cX8_faultOf 13 = .ok (.if_icmp .ge 19, 3) := dk_162 0 19 (dk_at dksX8_faultOf_0 13 rfl rfl)
theorem dX8_faultOf_16 : decode cX8_faultOf 16 = .ok (.aload_n 0, 1) := dk_42 (dk_at dksX8_faultOf_0 16 rfl rfl)
theorem dX8_faultOf_17 : decode cX8_faultOf 17 = .ok (.aload_n 0, 1) := dk_42 (dk_at dksX8_faultOf_0 17 rfl rfl)
theorem dX8_faultOf_18 : decode cX8_faultOf 18 = .ok (.getfield 32, 3) := dk_180 0 32 (dk_at dksX8_faultOf_0 18 rfl rfl)
theorem dX8_faultOf_21 : decode cX8_faultOf 21 = .ok (.invokevirtual 223, 3) := dk_182 0 223 (dk_at dksX8_faultOf_0 21 rfl rfl)
theorem dX8_faultOf_24 : decode cX8_faultOf 24 = .ok (.ifCond .ne (-19), 3) := dk_154 255 237 (dk_at dksX8_faultOf_1 0 rfl rfl)
theorem dX8_faultOf_27 : decode cX8_faultOf 27 = .ok (.aload_n 0, 1) := dk_42 (dk_at dksX8_faultOf_1 3 rfl rfl)
theorem dX8_faultOf_28 : decode cX8_faultOf 28 = .ok (.getfield 214, 3) := dk_180 0 214 (dk_at dksX8_faultOf_1 4 rfl rfl)
theorem dX8_faultOf_31 : decode cX8_faultOf 31 = .ok (.ireturn, 1) := dk_172 (dk_at dksX8_faultOf_1 7 rfl rfl)
theorem dX8_faultOf_32 : decode cX8_faultOf 32 = .ok (.bipush (-5), 2) := dk_16 251 (dk_at dksX8_faultOf_1 8 rfl rfl)
theorem dX8_faultOf_34 : decode cX8_faultOf 34 = .ok (.ireturn, 1) := dk_172 (dk_at dksX8_faultOf_1 10 rfl rfl)
abbrev cX8_isRequest : ByteArray := prog_29_method_100_code
def yX8_isRequest : MethodName := ⟨RX8, "isRequest", "([I)Z"⟩
def dkwX8_isRequest_12 : List UInt8 := [182, 0, 217, 16, 59, 159, 0, 5, 3, 172, 42, 89, 180, 0, 214, 4, 96, 181, 0, 214, 4, 172]
abbrev dktX8_isRequest_12 : List UInt8 := dkwX8_isRequest_12 ++ []
def dkwX8_isRequest_11 : List UInt8 := [132, 2, 1, 167, 255, 211, 43, 6, 28, 5, 108, 79, 28, 5, 112, 4, 160, 0, 5, 3, 172, 42]
abbrev dktX8_isRequest_11 : List UInt8 := dkwX8_isRequest_11 ++ dktX8_isRequest_12
def dkwX8_isRequest_10 : List UInt8 := [7, 46, 7, 120, 42, 182, 0, 217, 184, 0, 220, 128, 79, 42, 89, 180, 0, 214, 4, 96, 181, 0, 214]
abbrev dktX8_isRequest_10 : List UInt8 := dkwX8_isRequest_10 ++ dktX8_isRequest_11
def dkwX8_isRequest_9 : List UInt8 := [167, 0, 68, 3, 61, 28, 16, 8, 162, 0, 45, 42, 182, 0, 217, 184, 0, 220, 155, 0, 35, 43, 7, 43]
abbrev dktX8_isRequest_9 : List UInt8 := dkwX8_isRequest_9 ++ dktX8_isRequest_10
def dkwX8_isRequest_8 : List UInt8 := [79, 43, 6, 46, 3, 7, 184, 0, 39, 154, 0, 5, 3, 172, 42, 89, 180, 0, 214, 4, 96, 181, 0, 214]
abbrev dktX8_isRequest_8 : List UInt8 := dkwX8_isRequest_8 ++ dktX8_isRequest_9
def dkwX8_isRequest_7 : List UInt8 := [46, 4, 160, 0, 49, 42, 89, 180, 0, 214, 4, 96, 181, 0, 214, 43, 6, 42, 182, 0, 217, 16, 48, 100]
abbrev dktX8_isRequest_7 : List UInt8 := dkwX8_isRequest_7 ++ dktX8_isRequest_8
def dkwX8_isRequest_6 : List UInt8 := [182, 0, 217, 16, 82, 160, 0, 7, 4, 167, 0, 4, 3, 79, 43, 6, 3, 79, 43, 7, 3, 79, 43, 5]
abbrev dktX8_isRequest_6 : List UInt8 := dkwX8_isRequest_6 ++ dktX8_isRequest_7
def dkwX8_isRequest_5 : List UInt8 := [182, 0, 217, 16, 35, 159, 0, 5, 3, 172, 42, 89, 180, 0, 214, 4, 96, 181, 0, 214, 43, 5, 42]
abbrev dktX8_isRequest_5 : List UInt8 := dkwX8_isRequest_5 ++ dktX8_isRequest_6
def dkwX8_isRequest_4 : List UInt8 := [43, 4, 46, 104, 29, 96, 79, 42, 89, 180, 0, 214, 4, 96, 181, 0, 214, 132, 2, 1, 167, 255, 203, 42]
abbrev dktX8_isRequest_4 : List UInt8 := dkwX8_isRequest_4 ++ dktX8_isRequest_5
def dkwX8_isRequest_3 : List UInt8 := [184, 0, 220, 62, 29, 155, 0, 13, 28, 154, 0, 11, 29, 16, 7, 164, 0, 5, 3, 172, 43, 4, 16, 16]
abbrev dktX8_isRequest_3 : List UInt8 := dkwX8_isRequest_3 ++ dktX8_isRequest_4
def dkwX8_isRequest_2 : List UInt8 := [180, 0, 214, 4, 96, 181, 0, 214, 43, 4, 3, 79, 3, 61, 28, 6, 162, 0, 54, 42, 182, 0, 217]
abbrev dktX8_isRequest_2 : List UInt8 := dkwX8_isRequest_2 ++ dktX8_isRequest_3
def dkwX8_isRequest_1 : List UInt8 := [89, 180, 0, 214, 4, 96, 181, 0, 214, 42, 182, 0, 217, 16, 58, 159, 0, 5, 3, 172, 42, 89]
abbrev dktX8_isRequest_1 : List UInt8 := dkwX8_isRequest_1 ++ dktX8_isRequest_2
def dkwX8_isRequest_0 : List UInt8 := [43, 3, 42, 182, 0, 217, 16, 48, 100, 79, 43, 3, 46, 3, 6, 184, 0, 39, 154, 0, 5, 3, 172, 42]
abbrev dktX8_isRequest_0 : List UInt8 := dkwX8_isRequest_0 ++ dktX8_isRequest_1
theorem dksX8_isRequest_0 : cX8_isRequest.data.toList.drop 0 = dktX8_isRequest_0 := by decide +kernel
theorem dksX8_isRequest_1 : cX8_isRequest.data.toList.drop 24 = dktX8_isRequest_1 := dk_seg dksX8_isRequest_0 24 rfl rfl
theorem dksX8_isRequest_2 : cX8_isRequest.data.toList.drop 46 = dktX8_isRequest_2 := dk_seg dksX8_isRequest_1 22 rfl rfl
theorem dksX8_isRequest_3 : cX8_isRequest.data.toList.drop 69 = dktX8_isRequest_3 := dk_seg dksX8_isRequest_2 23 rfl rfl
theorem dksX8_isRequest_4 : cX8_isRequest.data.toList.drop 93 = dktX8_isRequest_4 := dk_seg dksX8_isRequest_3 24 rfl rfl
theorem dksX8_isRequest_5 : cX8_isRequest.data.toList.drop 117 = dktX8_isRequest_5 := dk_seg dksX8_isRequest_4 24 rfl rfl
theorem dksX8_isRequest_6 : cX8_isRequest.data.toList.drop 140 = dktX8_isRequest_6 := dk_seg dksX8_isRequest_5 23 rfl rfl
theorem dksX8_isRequest_7 : cX8_isRequest.data.toList.drop 164 = dktX8_isRequest_7 := dk_seg dksX8_isRequest_6 24 rfl rfl
theorem dksX8_isRequest_8 : cX8_isRequest.data.toList.drop 188 = dktX8_isRequest_8 := dk_seg dksX8_isRequest_7 24 rfl rfl
theorem dksX8_isRequest_9 : cX8_isRequest.data.toList.drop 212 = dktX8_isRequest_9 := dk_seg dksX8_isRequest_8 24 rfl rfl
theorem dksX8_isRequest_10 : cX8_isRequest.data.toList.drop 236 = dktX8_isRequest_10 := dk_seg dksX8_isRequest_9 24 rfl rfl
theorem dksX8_isRequest_11 : cX8_isRequest.data.toList.drop 259 = dktX8_isRequest_11 := dk_seg dksX8_isRequest_10 23 rfl rfl
theorem dksX8_isRequest_12 : cX8_isRequest.data.toList.drop 281 = dktX8_isRequest_12 := dk_seg dksX8_isRequest_11 22 rfl rfl
theorem dX8_isRequest_0 : decode cX8_isRequest 0 = .ok (.aload_n 1, 1) := dk_43 (dk_at dksX8_isRequest_0 0 rfl rfl)
theorem dX8_isRequest_1 : decode cX8_isRequest 1 = .ok (.iconst 0, 1) := dk_3 (dk_at dksX8_isRequest_0 1 rfl rfl)
theorem dX8_isRequest_2 : decode cX8_isRequest 2 = .ok (.aload_n 0, 1) := dk_42 (dk_at dksX8_isRequest_0 2 rfl rfl)
theorem dX8_isRequest_3 : decode cX8_isRequest 3 = .ok (.invokevirtual 217, 3) := dk_182 0 217 (dk_at dksX8_isRequest_0 3 rfl rfl)
theorem dX8_isRequest_6 : decode cX8_isRequest 6 = .ok (.bipush 48, 2) := dk_16 48 (dk_at dksX8_isRequest_0 6 rfl rfl)
theorem dX8_isRequest_8 : decode cX8_isRequest 8 = .ok (.isub, 1) := dk_100 (dk_at dksX8_isRequest_0 8 rfl rfl)
theorem dX8_isRequest_9 : decode cX8_isRequest 9 = .ok (.iastore, 1) := dk_79 (dk_at dksX8_isRequest_0 9 rfl rfl)
theorem dX8_isRequest_10 : decode cX8_isRequest 10 = .ok (.aload_n 1, 1) := dk_43 (dk_at dksX8_isRequest_0 10 rfl rfl)
theorem dX8_isRequest_11 : decode cX8_isRequest 11 = .ok (.iconst 0, 1) := dk_3 (dk_at dksX8_isRequest_0 11 rfl rfl)
theorem dX8_isRequest_12 : decode cX8_isRequest 12 = .ok (.iaload, 1) := dk_46 (dk_at dksX8_isRequest_0 12 rfl rfl)
theorem dX8_isRequest_13 : decode cX8_isRequest 13 = .ok (.iconst 0, 1) := dk_3 (dk_at dksX8_isRequest_0 13 rfl rfl)
theorem dX8_isRequest_14 : decode cX8_isRequest 14 = .ok (.iconst 3, 1) := dk_6 (dk_at dksX8_isRequest_0 14 rfl rfl)
theorem dX8_isRequest_15 : decode cX8_isRequest 15 = .ok (.invokestatic 39, 3) := dk_184 0 39 (dk_at dksX8_isRequest_0 15 rfl rfl)
theorem dX8_isRequest_18 : decode cX8_isRequest 18 = .ok (.ifCond .ne 5, 3) := dk_154 0 5 (dk_at dksX8_isRequest_0 18 rfl rfl)
theorem dX8_isRequest_21 : decode cX8_isRequest 21 = .ok (.iconst 0, 1) := dk_3 (dk_at dksX8_isRequest_0 21 rfl rfl)
theorem dX8_isRequest_22 : decode cX8_isRequest 22 = .ok (.ireturn, 1) := dk_172 (dk_at dksX8_isRequest_0 22 rfl rfl)
theorem dX8_isRequest_23 : decode cX8_isRequest 23 = .ok (.aload_n 0, 1) := dk_42 (dk_at dksX8_isRequest_0 23 rfl rfl)
theorem dX8_isRequest_24 : decode cX8_isRequest 24 = .ok (.dup, 1) := dk_89 (dk_at dksX8_isRequest_1 0 rfl rfl)
theorem dX8_isRequest_25 : decode cX8_isRequest 25 = .ok (.getfield 214, 3) := dk_180 0 214 (dk_at dksX8_isRequest_1 1 rfl rfl)
theorem dX8_isRequest_28 : decode cX8_isRequest 28 = .ok (.iconst 1, 1) := dk_4 (dk_at dksX8_isRequest_1 4 rfl rfl)
theorem dX8_isRequest_29 : decode cX8_isRequest 29 = .ok (.iadd, 1) := dk_96 (dk_at dksX8_isRequest_1 5 rfl rfl)
theorem dX8_isRequest_30 : decode cX8_isRequest 30 = .ok (.putfield 214, 3) := dk_181 0 214 (dk_at dksX8_isRequest_1 6 rfl rfl)
theorem dX8_isRequest_33 : decode cX8_isRequest 33 = .ok (.aload_n 0, 1) := dk_42 (dk_at dksX8_isRequest_1 9 rfl rfl)
theorem dX8_isRequest_34 : decode cX8_isRequest 34 = .ok (.invokevirtual 217, 3) := dk_182 0 217 (dk_at dksX8_isRequest_1 10 rfl rfl)
theorem dX8_isRequest_37 : decode cX8_isRequest 37 = .ok (.bipush 58, 2) := dk_16 58 (dk_at dksX8_isRequest_1 13 rfl rfl)
theorem dX8_isRequest_39 : decode cX8_isRequest 39 = .ok (.if_icmp .eq 5, 3) := dk_159 0 5 (dk_at dksX8_isRequest_1 15 rfl rfl)
theorem dX8_isRequest_42 : decode cX8_isRequest 42 = .ok (.iconst 0, 1) := dk_3 (dk_at dksX8_isRequest_1 18 rfl rfl)
theorem dX8_isRequest_43 : decode cX8_isRequest 43 = .ok (.ireturn, 1) := dk_172 (dk_at dksX8_isRequest_1 19 rfl rfl)
theorem dX8_isRequest_44 : decode cX8_isRequest 44 = .ok (.aload_n 0, 1) := dk_42 (dk_at dksX8_isRequest_1 20 rfl rfl)
theorem dX8_isRequest_45 : decode cX8_isRequest 45 = .ok (.dup, 1) := dk_89 (dk_at dksX8_isRequest_1 21 rfl rfl)
theorem dX8_isRequest_46 : decode cX8_isRequest 46 = .ok (.getfield 214, 3) := dk_180 0 214 (dk_at dksX8_isRequest_2 0 rfl rfl)
theorem dX8_isRequest_49 : decode cX8_isRequest 49 = .ok (.iconst 1, 1) := dk_4 (dk_at dksX8_isRequest_2 3 rfl rfl)
theorem dX8_isRequest_50 : decode cX8_isRequest 50 = .ok (.iadd, 1) := dk_96 (dk_at dksX8_isRequest_2 4 rfl rfl)
theorem dX8_isRequest_51 : decode cX8_isRequest 51 = .ok (.putfield 214, 3) := dk_181 0 214 (dk_at dksX8_isRequest_2 5 rfl rfl)
theorem dX8_isRequest_54 : decode cX8_isRequest 54 = .ok (.aload_n 1, 1) := dk_43 (dk_at dksX8_isRequest_2 8 rfl rfl)
theorem dX8_isRequest_55 : decode cX8_isRequest 55 = .ok (.iconst 1, 1) := dk_4 (dk_at dksX8_isRequest_2 9 rfl rfl)
theorem dX8_isRequest_56 : decode cX8_isRequest 56 = .ok (.iconst 0, 1) := dk_3 (dk_at dksX8_isRequest_2 10 rfl rfl)
theorem dX8_isRequest_57 : decode cX8_isRequest 57 = .ok (.iastore, 1) := dk_79 (dk_at dksX8_isRequest_2 11 rfl rfl)
theorem dX8_isRequest_58 : decode cX8_isRequest 58 = .ok (.iconst 0, 1) := dk_3 (dk_at dksX8_isRequest_2 12 rfl rfl)
theorem dX8_isRequest_59 : decode cX8_isRequest 59 = .ok (.istore_n 2, 1) := dk_61 (dk_at dksX8_isRequest_2 13 rfl rfl)
theorem dX8_isRequest_60 : decode cX8_isRequest 60 = .ok (.iload_n 2, 1) := dk_28 (dk_at dksX8_isRequest_2 14 rfl rfl)
theorem dX8_isRequest_61 : decode cX8_isRequest 61 = .ok (.iconst 3, 1) := dk_6 (dk_at dksX8_isRequest_2 15 rfl rfl)
theorem dX8_isRequest_62 : decode cX8_isRequest 62 = .ok (.if_icmp .ge 54, 3) := dk_162 0 54 (dk_at dksX8_isRequest_2 16 rfl rfl)
theorem dX8_isRequest_65 : decode cX8_isRequest 65 = .ok (.aload_n 0, 1) := dk_42 (dk_at dksX8_isRequest_2 19 rfl rfl)
theorem dX8_isRequest_66 : decode cX8_isRequest 66 = .ok (.invokevirtual 217, 3) := dk_182 0 217 (dk_at dksX8_isRequest_2 20 rfl rfl)
theorem dX8_isRequest_69 : decode cX8_isRequest 69 = .ok (.invokestatic 220, 3) := dk_184 0 220 (dk_at dksX8_isRequest_3 0 rfl rfl)
theorem dX8_isRequest_72 : decode cX8_isRequest 72 = .ok (.istore_n 3, 1) := dk_62 (dk_at dksX8_isRequest_3 3 rfl rfl)
theorem dX8_isRequest_73 : decode cX8_isRequest 73 = .ok (.iload_n 3, 1) := dk_29 (dk_at dksX8_isRequest_3 4 rfl rfl)
theorem dX8_isRequest_74 : decode cX8_isRequest 74 = .ok (.ifCond .lt 13, 3) := dk_155 0 13 (dk_at dksX8_isRequest_3 5 rfl rfl)
theorem dX8_isRequest_77 : decode cX8_isRequest 77 = .ok (.iload_n 2, 1) := dk_28 (dk_at dksX8_isRequest_3 8 rfl rfl)
theorem dX8_isRequest_78 : decode cX8_isRequest 78 = .ok (.ifCond .ne 11, 3) := dk_154 0 11 (dk_at dksX8_isRequest_3 9 rfl rfl)
theorem dX8_isRequest_81 : decode cX8_isRequest 81 = .ok (.iload_n 3, 1) := dk_29 (dk_at dksX8_isRequest_3 12 rfl rfl)
theorem dX8_isRequest_82 : decode cX8_isRequest 82 = .ok (.bipush 7, 2) := dk_16 7 (dk_at dksX8_isRequest_3 13 rfl rfl)
theorem dX8_isRequest_84 : decode cX8_isRequest 84 = .ok (.if_icmp .le 5, 3) := dk_164 0 5 (dk_at dksX8_isRequest_3 15 rfl rfl)
theorem dX8_isRequest_87 : decode cX8_isRequest 87 = .ok (.iconst 0, 1) := dk_3 (dk_at dksX8_isRequest_3 18 rfl rfl)
theorem dX8_isRequest_88 : decode cX8_isRequest 88 = .ok (.ireturn, 1) := dk_172 (dk_at dksX8_isRequest_3 19 rfl rfl)
theorem dX8_isRequest_89 : decode cX8_isRequest 89 = .ok (.aload_n 1, 1) := dk_43 (dk_at dksX8_isRequest_3 20 rfl rfl)
theorem dX8_isRequest_90 : decode cX8_isRequest 90 = .ok (.iconst 1, 1) := dk_4 (dk_at dksX8_isRequest_3 21 rfl rfl)
theorem dX8_isRequest_91 : decode cX8_isRequest 91 = .ok (.bipush 16, 2) := dk_16 16 (dk_at dksX8_isRequest_3 22 rfl rfl)
theorem dX8_isRequest_93 : decode cX8_isRequest 93 = .ok (.aload_n 1, 1) := dk_43 (dk_at dksX8_isRequest_4 0 rfl rfl)
theorem dX8_isRequest_94 : decode cX8_isRequest 94 = .ok (.iconst 1, 1) := dk_4 (dk_at dksX8_isRequest_4 1 rfl rfl)
theorem dX8_isRequest_95 : decode cX8_isRequest 95 = .ok (.iaload, 1) := dk_46 (dk_at dksX8_isRequest_4 2 rfl rfl)
theorem dX8_isRequest_96 : decode cX8_isRequest 96 = .ok (.imul, 1) := dk_104 (dk_at dksX8_isRequest_4 3 rfl rfl)
theorem dX8_isRequest_97 : decode cX8_isRequest 97 = .ok (.iload_n 3, 1) := dk_29 (dk_at dksX8_isRequest_4 4 rfl rfl)
theorem dX8_isRequest_98 : decode cX8_isRequest 98 = .ok (.iadd, 1) := dk_96 (dk_at dksX8_isRequest_4 5 rfl rfl)
theorem dX8_isRequest_99 : decode cX8_isRequest 99 = .ok (.iastore, 1) := dk_79 (dk_at dksX8_isRequest_4 6 rfl rfl)
theorem dX8_isRequest_100 : decode cX8_isRequest 100 = .ok (.aload_n 0, 1) := dk_42 (dk_at dksX8_isRequest_4 7 rfl rfl)
theorem dX8_isRequest_101 : decode cX8_isRequest 101 = .ok (.dup, 1) := dk_89 (dk_at dksX8_isRequest_4 8 rfl rfl)
theorem dX8_isRequest_102 : decode cX8_isRequest 102 = .ok (.getfield 214, 3) := dk_180 0 214 (dk_at dksX8_isRequest_4 9 rfl rfl)
theorem dX8_isRequest_105 : decode cX8_isRequest 105 = .ok (.iconst 1, 1) := dk_4 (dk_at dksX8_isRequest_4 12 rfl rfl)
theorem dX8_isRequest_106 : decode cX8_isRequest 106 = .ok (.iadd, 1) := dk_96 (dk_at dksX8_isRequest_4 13 rfl rfl)
theorem dX8_isRequest_107 : decode cX8_isRequest 107 = .ok (.putfield 214, 3) := dk_181 0 214 (dk_at dksX8_isRequest_4 14 rfl rfl)
theorem dX8_isRequest_110 : decode cX8_isRequest 110 = .ok (.iinc 2 1, 3) := dk_132 2 1 (dk_at dksX8_isRequest_4 17 rfl rfl)
theorem dX8_isRequest_113 : decode cX8_isRequest 113 = .ok (.goto (-53), 3) := dk_167 255 203 (dk_at dksX8_isRequest_4 20 rfl rfl)
theorem dX8_isRequest_116 : decode cX8_isRequest 116 = .ok (.aload_n 0, 1) := dk_42 (dk_at dksX8_isRequest_4 23 rfl rfl)
theorem dX8_isRequest_117 : decode cX8_isRequest 117 = .ok (.invokevirtual 217, 3) := dk_182 0 217 (dk_at dksX8_isRequest_5 0 rfl rfl)
theorem dX8_isRequest_120 : decode cX8_isRequest 120 = .ok (.bipush 35, 2) := dk_16 35 (dk_at dksX8_isRequest_5 3 rfl rfl)
theorem dX8_isRequest_122 : decode cX8_isRequest 122 = .ok (.if_icmp .eq 5, 3) := dk_159 0 5 (dk_at dksX8_isRequest_5 5 rfl rfl)
theorem dX8_isRequest_125 : decode cX8_isRequest 125 = .ok (.iconst 0, 1) := dk_3 (dk_at dksX8_isRequest_5 8 rfl rfl)
theorem dX8_isRequest_126 : decode cX8_isRequest 126 = .ok (.ireturn, 1) := dk_172 (dk_at dksX8_isRequest_5 9 rfl rfl)
theorem dX8_isRequest_127 : decode cX8_isRequest 127 = .ok (.aload_n 0, 1) := dk_42 (dk_at dksX8_isRequest_5 10 rfl rfl)
theorem dX8_isRequest_128 : decode cX8_isRequest 128 = .ok (.dup, 1) := dk_89 (dk_at dksX8_isRequest_5 11 rfl rfl)
theorem dX8_isRequest_129 : decode cX8_isRequest 129 = .ok (.getfield 214, 3) := dk_180 0 214 (dk_at dksX8_isRequest_5 12 rfl rfl)
theorem dX8_isRequest_132 : decode cX8_isRequest 132 = .ok (.iconst 1, 1) := dk_4 (dk_at dksX8_isRequest_5 15 rfl rfl)
theorem dX8_isRequest_133 : decode cX8_isRequest 133 = .ok (.iadd, 1) := dk_96 (dk_at dksX8_isRequest_5 16 rfl rfl)
theorem dX8_isRequest_134 : decode cX8_isRequest 134 = .ok (.putfield 214, 3) := dk_181 0 214 (dk_at dksX8_isRequest_5 17 rfl rfl)
theorem dX8_isRequest_137 : decode cX8_isRequest 137 = .ok (.aload_n 1, 1) := dk_43 (dk_at dksX8_isRequest_5 20 rfl rfl)
theorem dX8_isRequest_138 : decode cX8_isRequest 138 = .ok (.iconst 2, 1) := dk_5 (dk_at dksX8_isRequest_5 21 rfl rfl)
theorem dX8_isRequest_139 : decode cX8_isRequest 139 = .ok (.aload_n 0, 1) := dk_42 (dk_at dksX8_isRequest_5 22 rfl rfl)
theorem dX8_isRequest_140 : decode cX8_isRequest 140 = .ok (.invokevirtual 217, 3) := dk_182 0 217 (dk_at dksX8_isRequest_6 0 rfl rfl)
theorem dX8_isRequest_143 : decode cX8_isRequest 143 = .ok (.bipush 82, 2) := dk_16 82 (dk_at dksX8_isRequest_6 3 rfl rfl)
theorem dX8_isRequest_145 : decode cX8_isRequest 145 = .ok (.if_icmp .ne 7, 3) := dk_160 0 7 (dk_at dksX8_isRequest_6 5 rfl rfl)
theorem dX8_isRequest_148 : decode cX8_isRequest 148 = .ok (.iconst 1, 1) := dk_4 (dk_at dksX8_isRequest_6 8 rfl rfl)
theorem dX8_isRequest_149 : decode cX8_isRequest 149 = .ok (.goto 4, 3) := dk_167 0 4 (dk_at dksX8_isRequest_6 9 rfl rfl)
theorem dX8_isRequest_152 : decode cX8_isRequest 152 = .ok (.iconst 0, 1) := dk_3 (dk_at dksX8_isRequest_6 12 rfl rfl)
theorem dX8_isRequest_153 : decode cX8_isRequest 153 = .ok (.iastore, 1) := dk_79 (dk_at dksX8_isRequest_6 13 rfl rfl)
theorem dX8_isRequest_154 : decode cX8_isRequest 154 = .ok (.aload_n 1, 1) := dk_43 (dk_at dksX8_isRequest_6 14 rfl rfl)
theorem dX8_isRequest_155 : decode cX8_isRequest 155 = .ok (.iconst 3, 1) := dk_6 (dk_at dksX8_isRequest_6 15 rfl rfl)
theorem dX8_isRequest_156 : decode cX8_isRequest 156 = .ok (.iconst 0, 1) := dk_3 (dk_at dksX8_isRequest_6 16 rfl rfl)
theorem dX8_isRequest_157 : decode cX8_isRequest 157 = .ok (.iastore, 1) := dk_79 (dk_at dksX8_isRequest_6 17 rfl rfl)
theorem dX8_isRequest_158 : decode cX8_isRequest 158 = .ok (.aload_n 1, 1) := dk_43 (dk_at dksX8_isRequest_6 18 rfl rfl)
theorem dX8_isRequest_159 : decode cX8_isRequest 159 = .ok (.iconst 4, 1) := dk_7 (dk_at dksX8_isRequest_6 19 rfl rfl)
theorem dX8_isRequest_160 : decode cX8_isRequest 160 = .ok (.iconst 0, 1) := dk_3 (dk_at dksX8_isRequest_6 20 rfl rfl)
theorem dX8_isRequest_161 : decode cX8_isRequest 161 = .ok (.iastore, 1) := dk_79 (dk_at dksX8_isRequest_6 21 rfl rfl)
theorem dX8_isRequest_162 : decode cX8_isRequest 162 = .ok (.aload_n 1, 1) := dk_43 (dk_at dksX8_isRequest_6 22 rfl rfl)
theorem dX8_isRequest_163 : decode cX8_isRequest 163 = .ok (.iconst 2, 1) := dk_5 (dk_at dksX8_isRequest_6 23 rfl rfl)
theorem dX8_isRequest_164 : decode cX8_isRequest 164 = .ok (.iaload, 1) := dk_46 (dk_at dksX8_isRequest_7 0 rfl rfl)
theorem dX8_isRequest_165 : decode cX8_isRequest 165 = .ok (.iconst 1, 1) := dk_4 (dk_at dksX8_isRequest_7 1 rfl rfl)
theorem dX8_isRequest_166 : decode cX8_isRequest 166 = .ok (.if_icmp .ne 49, 3) := dk_160 0 49 (dk_at dksX8_isRequest_7 2 rfl rfl)
theorem dX8_isRequest_169 : decode cX8_isRequest 169 = .ok (.aload_n 0, 1) := dk_42 (dk_at dksX8_isRequest_7 5 rfl rfl)
theorem dX8_isRequest_170 : decode cX8_isRequest 170 = .ok (.dup, 1) := dk_89 (dk_at dksX8_isRequest_7 6 rfl rfl)
theorem dX8_isRequest_171 : decode cX8_isRequest 171 = .ok (.getfield 214, 3) := dk_180 0 214 (dk_at dksX8_isRequest_7 7 rfl rfl)
theorem dX8_isRequest_174 : decode cX8_isRequest 174 = .ok (.iconst 1, 1) := dk_4 (dk_at dksX8_isRequest_7 10 rfl rfl)
theorem dX8_isRequest_175 : decode cX8_isRequest 175 = .ok (.iadd, 1) := dk_96 (dk_at dksX8_isRequest_7 11 rfl rfl)
theorem dX8_isRequest_176 : decode cX8_isRequest 176 = .ok (.putfield 214, 3) := dk_181 0 214 (dk_at dksX8_isRequest_7 12 rfl rfl)
theorem dX8_isRequest_179 : decode cX8_isRequest 179 = .ok (.aload_n 1, 1) := dk_43 (dk_at dksX8_isRequest_7 15 rfl rfl)
theorem dX8_isRequest_180 : decode cX8_isRequest 180 = .ok (.iconst 3, 1) := dk_6 (dk_at dksX8_isRequest_7 16 rfl rfl)
theorem dX8_isRequest_181 : decode cX8_isRequest 181 = .ok (.aload_n 0, 1) := dk_42 (dk_at dksX8_isRequest_7 17 rfl rfl)
theorem dX8_isRequest_182 : decode cX8_isRequest 182 = .ok (.invokevirtual 217, 3) := dk_182 0 217 (dk_at dksX8_isRequest_7 18 rfl rfl)
theorem dX8_isRequest_185 : decode cX8_isRequest 185 = .ok (.bipush 48, 2) := dk_16 48 (dk_at dksX8_isRequest_7 21 rfl rfl)
theorem dX8_isRequest_187 : decode cX8_isRequest 187 = .ok (.isub, 1) := dk_100 (dk_at dksX8_isRequest_7 23 rfl rfl)
theorem dX8_isRequest_188 : decode cX8_isRequest 188 = .ok (.iastore, 1) := dk_79 (dk_at dksX8_isRequest_8 0 rfl rfl)
theorem dX8_isRequest_189 : decode cX8_isRequest 189 = .ok (.aload_n 1, 1) := dk_43 (dk_at dksX8_isRequest_8 1 rfl rfl)
theorem dX8_isRequest_190 : decode cX8_isRequest 190 = .ok (.iconst 3, 1) := dk_6 (dk_at dksX8_isRequest_8 2 rfl rfl)
theorem dX8_isRequest_191 : decode cX8_isRequest 191 = .ok (.iaload, 1) := dk_46 (dk_at dksX8_isRequest_8 3 rfl rfl)
theorem dX8_isRequest_192 : decode cX8_isRequest 192 = .ok (.iconst 0, 1) := dk_3 (dk_at dksX8_isRequest_8 4 rfl rfl)
theorem dX8_isRequest_193 : decode cX8_isRequest 193 = .ok (.iconst 4, 1) := dk_7 (dk_at dksX8_isRequest_8 5 rfl rfl)
theorem dX8_isRequest_194 : decode cX8_isRequest 194 = .ok (.invokestatic 39, 3) := dk_184 0 39 (dk_at dksX8_isRequest_8 6 rfl rfl)
theorem dX8_isRequest_197 : decode cX8_isRequest 197 = .ok (.ifCond .ne 5, 3) := dk_154 0 5 (dk_at dksX8_isRequest_8 9 rfl rfl)
theorem dX8_isRequest_200 : decode cX8_isRequest 200 = .ok (.iconst 0, 1) := dk_3 (dk_at dksX8_isRequest_8 12 rfl rfl)
theorem dX8_isRequest_201 : decode cX8_isRequest 201 = .ok (.ireturn, 1) := dk_172 (dk_at dksX8_isRequest_8 13 rfl rfl)
theorem dX8_isRequest_202 : decode cX8_isRequest 202 = .ok (.aload_n 0, 1) := dk_42 (dk_at dksX8_isRequest_8 14 rfl rfl)
theorem dX8_isRequest_203 : decode cX8_isRequest 203 = .ok (.dup, 1) := dk_89 (dk_at dksX8_isRequest_8 15 rfl rfl)
theorem dX8_isRequest_204 : decode cX8_isRequest 204 = .ok (.getfield 214, 3) := dk_180 0 214 (dk_at dksX8_isRequest_8 16 rfl rfl)
theorem dX8_isRequest_207 : decode cX8_isRequest 207 = .ok (.iconst 1, 1) := dk_4 (dk_at dksX8_isRequest_8 19 rfl rfl)
theorem dX8_isRequest_208 : decode cX8_isRequest 208 = .ok (.iadd, 1) := dk_96 (dk_at dksX8_isRequest_8 20 rfl rfl)
theorem dX8_isRequest_209 : decode cX8_isRequest 209 = .ok (.putfield 214, 3) := dk_181 0 214 (dk_at dksX8_isRequest_8 21 rfl rfl)
theorem dX8_isRequest_212 : decode cX8_isRequest 212 = .ok (.goto 68, 3) := dk_167 0 68 (dk_at dksX8_isRequest_9 0 rfl rfl)
theorem dX8_isRequest_215 : decode cX8_isRequest 215 = .ok (.iconst 0, 1) := dk_3 (dk_at dksX8_isRequest_9 3 rfl rfl)
theorem dX8_isRequest_216 : decode cX8_isRequest 216 = .ok (.istore_n 2, 1) := dk_61 (dk_at dksX8_isRequest_9 4 rfl rfl)
theorem dX8_isRequest_217 : decode cX8_isRequest 217 = .ok (.iload_n 2, 1) := dk_28 (dk_at dksX8_isRequest_9 5 rfl rfl)
theorem dX8_isRequest_218 : decode cX8_isRequest 218 = .ok (.bipush 8, 2) := dk_16 8 (dk_at dksX8_isRequest_9 6 rfl rfl)
theorem dX8_isRequest_220 : decode cX8_isRequest 220 = .ok (.if_icmp .ge 45, 3) := dk_162 0 45 (dk_at dksX8_isRequest_9 8 rfl rfl)
theorem dX8_isRequest_223 : decode cX8_isRequest 223 = .ok (.aload_n 0, 1) := dk_42 (dk_at dksX8_isRequest_9 11 rfl rfl)
theorem dX8_isRequest_224 : decode cX8_isRequest 224 = .ok (.invokevirtual 217, 3) := dk_182 0 217 (dk_at dksX8_isRequest_9 12 rfl rfl)
theorem dX8_isRequest_227 : decode cX8_isRequest 227 = .ok (.invokestatic 220, 3) := dk_184 0 220 (dk_at dksX8_isRequest_9 15 rfl rfl)
theorem dX8_isRequest_230 : decode cX8_isRequest 230 = .ok (.ifCond .lt 35, 3) := dk_155 0 35 (dk_at dksX8_isRequest_9 18 rfl rfl)
theorem dX8_isRequest_233 : decode cX8_isRequest 233 = .ok (.aload_n 1, 1) := dk_43 (dk_at dksX8_isRequest_9 21 rfl rfl)
theorem dX8_isRequest_234 : decode cX8_isRequest 234 = .ok (.iconst 4, 1) := dk_7 (dk_at dksX8_isRequest_9 22 rfl rfl)
theorem dX8_isRequest_235 : decode cX8_isRequest 235 = .ok (.aload_n 1, 1) := dk_43 (dk_at dksX8_isRequest_9 23 rfl rfl)
theorem dX8_isRequest_236 : decode cX8_isRequest 236 = .ok (.iconst 4, 1) := dk_7 (dk_at dksX8_isRequest_10 0 rfl rfl)
theorem dX8_isRequest_237 : decode cX8_isRequest 237 = .ok (.iaload, 1) := dk_46 (dk_at dksX8_isRequest_10 1 rfl rfl)
theorem dX8_isRequest_238 : decode cX8_isRequest 238 = .ok (.iconst 4, 1) := dk_7 (dk_at dksX8_isRequest_10 2 rfl rfl)
theorem dX8_isRequest_239 : decode cX8_isRequest 239 = .ok (.ishl, 1) := dk_120 (dk_at dksX8_isRequest_10 3 rfl rfl)
theorem dX8_isRequest_240 : decode cX8_isRequest 240 = .ok (.aload_n 0, 1) := dk_42 (dk_at dksX8_isRequest_10 4 rfl rfl)
theorem dX8_isRequest_241 : decode cX8_isRequest 241 = .ok (.invokevirtual 217, 3) := dk_182 0 217 (dk_at dksX8_isRequest_10 5 rfl rfl)
theorem dX8_isRequest_244 : decode cX8_isRequest 244 = .ok (.invokestatic 220, 3) := dk_184 0 220 (dk_at dksX8_isRequest_10 8 rfl rfl)
theorem dX8_isRequest_247 : decode cX8_isRequest 247 = .ok (.ior, 1) := dk_128 (dk_at dksX8_isRequest_10 11 rfl rfl)
theorem dX8_isRequest_248 : decode cX8_isRequest 248 = .ok (.iastore, 1) := dk_79 (dk_at dksX8_isRequest_10 12 rfl rfl)
theorem dX8_isRequest_249 : decode cX8_isRequest 249 = .ok (.aload_n 0, 1) := dk_42 (dk_at dksX8_isRequest_10 13 rfl rfl)
theorem dX8_isRequest_250 : decode cX8_isRequest 250 = .ok (.dup, 1) := dk_89 (dk_at dksX8_isRequest_10 14 rfl rfl)
theorem dX8_isRequest_251 : decode cX8_isRequest 251 = .ok (.getfield 214, 3) := dk_180 0 214 (dk_at dksX8_isRequest_10 15 rfl rfl)
theorem dX8_isRequest_254 : decode cX8_isRequest 254 = .ok (.iconst 1, 1) := dk_4 (dk_at dksX8_isRequest_10 18 rfl rfl)
theorem dX8_isRequest_255 : decode cX8_isRequest 255 = .ok (.iadd, 1) := dk_96 (dk_at dksX8_isRequest_10 19 rfl rfl)
theorem dX8_isRequest_256 : decode cX8_isRequest 256 = .ok (.putfield 214, 3) := dk_181 0 214 (dk_at dksX8_isRequest_10 20 rfl rfl)
theorem dX8_isRequest_259 : decode cX8_isRequest 259 = .ok (.iinc 2 1, 3) := dk_132 2 1 (dk_at dksX8_isRequest_11 0 rfl rfl)
theorem dX8_isRequest_262 : decode cX8_isRequest 262 = .ok (.goto (-45), 3) := dk_167 255 211 (dk_at dksX8_isRequest_11 3 rfl rfl)
theorem dX8_isRequest_265 : decode cX8_isRequest 265 = .ok (.aload_n 1, 1) := dk_43 (dk_at dksX8_isRequest_11 6 rfl rfl)
theorem dX8_isRequest_266 : decode cX8_isRequest 266 = .ok (.iconst 3, 1) := dk_6 (dk_at dksX8_isRequest_11 7 rfl rfl)
theorem dX8_isRequest_267 : decode cX8_isRequest 267 = .ok (.iload_n 2, 1) := dk_28 (dk_at dksX8_isRequest_11 8 rfl rfl)
theorem dX8_isRequest_268 : decode cX8_isRequest 268 = .ok (.iconst 2, 1) := dk_5 (dk_at dksX8_isRequest_11 9 rfl rfl)
theorem dX8_isRequest_269 : decode cX8_isRequest 269 = .ok (.idiv, 1) := dk_108 (dk_at dksX8_isRequest_11 10 rfl rfl)
theorem dX8_isRequest_270 : decode cX8_isRequest 270 = .ok (.iastore, 1) := dk_79 (dk_at dksX8_isRequest_11 11 rfl rfl)
theorem dX8_isRequest_271 : decode cX8_isRequest 271 = .ok (.iload_n 2, 1) := dk_28 (dk_at dksX8_isRequest_11 12 rfl rfl)
theorem dX8_isRequest_272 : decode cX8_isRequest 272 = .ok (.iconst 2, 1) := dk_5 (dk_at dksX8_isRequest_11 13 rfl rfl)
theorem dX8_isRequest_273 : decode cX8_isRequest 273 = .ok (.irem, 1) := dk_112 (dk_at dksX8_isRequest_11 14 rfl rfl)
theorem dX8_isRequest_274 : decode cX8_isRequest 274 = .ok (.iconst 1, 1) := dk_4 (dk_at dksX8_isRequest_11 15 rfl rfl)
theorem dX8_isRequest_275 : decode cX8_isRequest 275 = .ok (.if_icmp .ne 5, 3) := dk_160 0 5 (dk_at dksX8_isRequest_11 16 rfl rfl)
theorem dX8_isRequest_278 : decode cX8_isRequest 278 = .ok (.iconst 0, 1) := dk_3 (dk_at dksX8_isRequest_11 19 rfl rfl)
theorem dX8_isRequest_279 : decode cX8_isRequest 279 = .ok (.ireturn, 1) := dk_172 (dk_at dksX8_isRequest_11 20 rfl rfl)
theorem dX8_isRequest_280 : decode cX8_isRequest 280 = .ok (.aload_n 0, 1) := dk_42 (dk_at dksX8_isRequest_11 21 rfl rfl)
theorem dX8_isRequest_281 : decode cX8_isRequest 281 = .ok (.invokevirtual 217, 3) := dk_182 0 217 (dk_at dksX8_isRequest_12 0 rfl rfl)
theorem dX8_isRequest_284 : decode cX8_isRequest 284 = .ok (.bipush 59, 2) := dk_16 59 (dk_at dksX8_isRequest_12 3 rfl rfl)
theorem dX8_isRequest_286 : decode cX8_isRequest 286 = .ok (.if_icmp .eq 5, 3) := dk_159 0 5 (dk_at dksX8_isRequest_12 5 rfl rfl)
theorem dX8_isRequest_289 : decode cX8_isRequest 289 = .ok (.iconst 0, 1) := dk_3 (dk_at dksX8_isRequest_12 8 rfl rfl)
theorem dX8_isRequest_290 : decode cX8_isRequest 290 = .ok (.ireturn, 1) := dk_172 (dk_at dksX8_isRequest_12 9 rfl rfl)
theorem dX8_isRequest_291 : decode cX8_isRequest 291 = .ok (.aload_n 0, 1) := dk_42 (dk_at dksX8_isRequest_12 10 rfl rfl)
theorem dX8_isRequest_292 : decode cX8_isRequest 292 = .ok (.dup, 1) := dk_89 (dk_at dksX8_isRequest_12 11 rfl rfl)
theorem dX8_isRequest_293 : decode cX8_isRequest 293 = .ok (.getfield 214, 3) := dk_180 0 214 (dk_at dksX8_isRequest_12 12 rfl rfl)
theorem dX8_isRequest_296 : decode cX8_isRequest 296 = .ok (.iconst 1, 1) := dk_4 (dk_at dksX8_isRequest_12 15 rfl rfl)
theorem dX8_isRequest_297 : decode cX8_isRequest 297 = .ok (.iadd, 1) := dk_96 (dk_at dksX8_isRequest_12 16 rfl rfl)
theorem dX8_isRequest_298 : decode cX8_isRequest 298 = .ok (.putfield 214, 3) := dk_181 0 214 (dk_at dksX8_isRequest_12 17 rfl rfl)
theorem dX8_isRequest_301 : decode cX8_isRequest 301 = .ok (.iconst 1, 1) := dk_4 (dk_at dksX8_isRequest_12 20 rfl rfl)
theorem dX8_isRequest_302 : decode cX8_isRequest 302 = .ok (.ireturn, 1) := dk_172 (dk_at dksX8_isRequest_12 21 rfl rfl)
abbrev cX8_here : ByteArray := prog_29_method_98_code
def yX8_here : MethodName := ⟨RX8, "here", "()I"⟩
def dkwX8_here_1 : List UInt8 := [172]
abbrev dktX8_here_1 : List UInt8 := dkwX8_here_1 ++ []
def dkwX8_here_0 : List UInt8 := [42, 180, 0, 214, 42, 180, 0, 211, 162, 0, 15, 42, 180, 0, 23, 42, 180, 0, 214, 46, 167, 0, 4, 2]
abbrev dktX8_here_0 : List UInt8 := dkwX8_here_0 ++ dktX8_here_1
theorem dksX8_here_0 : cX8_here.data.toList.drop 0 = dktX8_here_0 := by decide +kernel
theorem dksX8_here_1 : cX8_here.data.toList.drop 24 = dktX8_here_1 := dk_seg dksX8_here_0 24 rfl rfl
theorem dX8_here_0 : decode cX8_here 0 = .ok (.aload_n 0, 1) := dk_42 (dk_at dksX8_here_0 0 rfl rfl)
theorem dX8_here_1 : decode cX8_here 1 = .ok (.getfield 214, 3) := dk_180 0 214 (dk_at dksX8_here_0 1 rfl rfl)
theorem dX8_here_4 : decode cX8_here 4 = .ok (.aload_n 0, 1) := dk_42 (dk_at dksX8_here_0 4 rfl rfl)
theorem dX8_here_5 : decode cX8_here 5 = .ok (.getfield 211, 3) := dk_180 0 211 (dk_at dksX8_here_0 5 rfl rfl)
theorem dX8_here_8 : decode cX8_here 8 = .ok (.if_icmp .ge 15, 3) := dk_162 0 15 (dk_at dksX8_here_0 8 rfl rfl)
theorem dX8_here_11 : decode cX8_here 11 = .ok (.aload_n 0, 1) := dk_42 (dk_at dksX8_here_0 11 rfl rfl)
theorem dX8_here_12 : decode cX8_here 12 = .ok (.getfield 23, 3) := dk_180 0 23 (dk_at dksX8_here_0 12 rfl rfl)
theorem dX8_here_15 : decode cX8_here 15 = .ok (.aload_n 0, 1) := dk_42 (dk_at dksX8_here_0 15 rfl rfl)
theorem dX8_here_16 : decode cX8_here 16 = .ok (.getfield 214, 3) := dk_180 0 214 (dk_at dksX8_here_0 16 rfl rfl)
theorem dX8_here_19 : decode cX8_here 19 = .ok (.iaload, 1) := dk_46 (dk_at dksX8_here_0 19 rfl rfl)
theorem dX8_here_20 : decode cX8_here 20 = .ok (.goto 4, 3) := dk_167 0 4 (dk_at dksX8_here_0 20 rfl rfl)
theorem dX8_here_23 : decode cX8_here 23 = .ok (.iconst (-1), 1) := dk_2 (dk_at dksX8_here_0 23 rfl rfl)
theorem dX8_here_24 : decode cX8_here 24 = .ok (.ireturn, 1) := dk_172 (dk_at dksX8_here_1 0 rfl rfl)
abbrev cX8_hex : ByteArray := prog_29_method_99_code
def yX8_hex : MethodName := ⟨RX8, "hex", "(I)I"⟩
def dkwX8_hex_1 : List UInt8 := [184, 0, 39, 153, 0, 13, 26, 16, 97, 100, 16, 10, 96, 167, 0, 4, 2, 172]
abbrev dktX8_hex_1 : List UInt8 := dkwX8_hex_1 ++ []
def dkwX8_hex_0 : List UInt8 := [26, 16, 48, 16, 57, 184, 0, 39, 153, 0, 10, 26, 16, 48, 100, 167, 0, 25, 26, 16, 97, 16, 102]
abbrev dktX8_hex_0 : List UInt8 := dkwX8_hex_0 ++ dktX8_hex_1
theorem dksX8_hex_0 : cX8_hex.data.toList.drop 0 = dktX8_hex_0 := by decide +kernel
theorem dksX8_hex_1 : cX8_hex.data.toList.drop 23 = dktX8_hex_1 := dk_seg dksX8_hex_0 23 rfl rfl
theorem dX8_hex_0 : decode cX8_hex 0 = .ok (.iload_n 0, 1) := dk_26 (dk_at dksX8_hex_0 0 rfl rfl)
theorem dX8_hex_1 : decode cX8_hex 1 = .ok (.bipush 48, 2) := dk_16 48 (dk_at dksX8_hex_0 1 rfl rfl)
theorem dX8_hex_3 : decode cX8_hex 3 = .ok (.bipush 57, 2) := dk_16 57 (dk_at dksX8_hex_0 3 rfl rfl)
theorem dX8_hex_5 : decode cX8_hex 5 = .ok (.invokestatic 39, 3) := dk_184 0 39 (dk_at dksX8_hex_0 5 rfl rfl)
theorem dX8_hex_8 : decode cX8_hex 8 = .ok (.ifCond .eq 10, 3) := dk_153 0 10 (dk_at dksX8_hex_0 8 rfl rfl)
theorem dX8_hex_11 : decode cX8_hex 11 = .ok (.iload_n 0, 1) := dk_26 (dk_at dksX8_hex_0 11 rfl rfl)
theorem dX8_hex_12 : decode cX8_hex 12 = .ok (.bipush 48, 2) := dk_16 48 (dk_at dksX8_hex_0 12 rfl rfl)
theorem dX8_hex_14 : decode cX8_hex 14 = .ok (.isub, 1) := dk_100 (dk_at dksX8_hex_0 14 rfl rfl)
theorem dX8_hex_15 : decode cX8_hex 15 = .ok (.goto 25, 3) := dk_167 0 25 (dk_at dksX8_hex_0 15 rfl rfl)
theorem dX8_hex_18 : decode cX8_hex 18 = .ok (.iload_n 0, 1) := dk_26 (dk_at dksX8_hex_0 18 rfl rfl)
theorem dX8_hex_19 : decode cX8_hex 19 = .ok (.bipush 97, 2) := dk_16 97 (dk_at dksX8_hex_0 19 rfl rfl)
theorem dX8_hex_21 : decode cX8_hex 21 = .ok (.bipush 102, 2) := dk_16 102 (dk_at dksX8_hex_0 21 rfl rfl)
theorem dX8_hex_23 : decode cX8_hex 23 = .ok (.invokestatic 39, 3) := dk_184 0 39 (dk_at dksX8_hex_1 0 rfl rfl)
theorem dX8_hex_26 : decode cX8_hex 26 = .ok (.ifCond .eq 13, 3) := dk_153 0 13 (dk_at dksX8_hex_1 3 rfl rfl)
theorem dX8_hex_29 : decode cX8_hex 29 = .ok (.iload_n 0, 1) := dk_26 (dk_at dksX8_hex_1 6 rfl rfl)
theorem dX8_hex_30 : decode cX8_hex 30 = .ok (.bipush 97, 2) := dk_16 97 (dk_at dksX8_hex_1 7 rfl rfl)
theorem dX8_hex_32 : decode cX8_hex 32 = .ok (.isub, 1) := dk_100 (dk_at dksX8_hex_1 9 rfl rfl)
theorem dX8_hex_33 : decode cX8_hex 33 = .ok (.bipush 10, 2) := dk_16 10 (dk_at dksX8_hex_1 10 rfl rfl)
theorem dX8_hex_35 : decode cX8_hex 35 = .ok (.iadd, 1) := dk_96 (dk_at dksX8_hex_1 12 rfl rfl)
theorem dX8_hex_36 : decode cX8_hex 36 = .ok (.goto 4, 3) := dk_167 0 4 (dk_at dksX8_hex_1 13 rfl rfl)
theorem dX8_hex_39 : decode cX8_hex 39 = .ok (.iconst (-1), 1) := dk_2 (dk_at dksX8_hex_1 16 rfl rfl)
theorem dX8_hex_40 : decode cX8_hex 40 = .ok (.ireturn, 1) := dk_172 (dk_at dksX8_hex_1 17 rfl rfl)
abbrev cX8_load : ByteArray := prog_29_method_103_code
def yX8_load : MethodName := ⟨RX8, "load", "()I"⟩
def dkwX8_load_4 : List UInt8 := [132, 2, 1, 167, 255, 182, 28, 172]
abbrev dktX8_load_4 : List UInt8 := dkwX8_load_4 ++ []
def dkwX8_load_3 : List UInt8 := [46, 42, 180, 0, 32, 5, 46, 42, 180, 0, 32, 6, 46, 42, 180, 0, 32, 7, 46, 182, 0, 91]
abbrev dktX8_load_3 : List UInt8 := dkwX8_load_3 ++ dktX8_load_4
def dkwX8_load_2 : List UInt8 := [42, 180, 0, 32, 3, 46, 182, 0, 88, 153, 0, 40, 42, 42, 180, 0, 32, 3, 46, 42, 180, 0, 32, 4]
abbrev dktX8_load_2 : List UInt8 := dkwX8_load_2 ++ dktX8_load_3
def dkwX8_load_1 : List UInt8 := [180, 0, 214, 42, 180, 0, 211, 162, 0, 69, 42, 42, 180, 0, 32, 182, 0, 223, 62, 29, 153, 0, 53, 42]
abbrev dktX8_load_1 : List UInt8 := dkwX8_load_1 ++ dktX8_load_2
def dkwX8_load_0 : List UInt8 := [42, 182, 0, 227, 60, 27, 155, 0, 9, 17, 252, 24, 27, 100, 172, 3, 61, 42, 3, 181, 0, 214, 42]
abbrev dktX8_load_0 : List UInt8 := dkwX8_load_0 ++ dktX8_load_1
theorem dksX8_load_0 : cX8_load.data.toList.drop 0 = dktX8_load_0 := by decide +kernel
theorem dksX8_load_1 : cX8_load.data.toList.drop 23 = dktX8_load_1 := dk_seg dksX8_load_0 23 rfl rfl
theorem dksX8_load_2 : cX8_load.data.toList.drop 47 = dktX8_load_2 := dk_seg dksX8_load_1 24 rfl rfl
theorem dksX8_load_3 : cX8_load.data.toList.drop 71 = dktX8_load_3 := dk_seg dksX8_load_2 24 rfl rfl
theorem dksX8_load_4 : cX8_load.data.toList.drop 93 = dktX8_load_4 := dk_seg dksX8_load_3 22 rfl rfl
theorem dX8_load_0 : decode cX8_load 0 = .ok (.aload_n 0, 1) := dk_42 (dk_at dksX8_load_0 0 rfl rfl)
theorem dX8_load_1 : decode cX8_load 1 = .ok (.invokevirtual 227, 3) := dk_182 0 227 (dk_at dksX8_load_0 1 rfl rfl)
theorem dX8_load_4 : decode cX8_load 4 = .ok (.istore_n 1, 1) := dk_60 (dk_at dksX8_load_0 4 rfl rfl)
theorem dX8_load_5 : decode cX8_load 5 = .ok (.iload_n 1, 1) := dk_27 (dk_at dksX8_load_0 5 rfl rfl)
theorem dX8_load_6 : decode cX8_load 6 = .ok (.ifCond .lt 9, 3) := dk_155 0 9 (dk_at dksX8_load_0 6 rfl rfl)
theorem dX8_load_9 : decode cX8_load 9 = .ok (.sipush (-1000), 3) := dk_17 252 24 (dk_at dksX8_load_0 9 rfl rfl)
theorem dX8_load_12 : decode cX8_load 12 = .ok (.iload_n 1, 1) := dk_27 (dk_at dksX8_load_0 12 rfl rfl)
theorem dX8_load_13 : decode cX8_load 13 = .ok (.isub, 1) := dk_100 (dk_at dksX8_load_0 13 rfl rfl)
theorem dX8_load_14 : decode cX8_load 14 = .ok (.ireturn, 1) := dk_172 (dk_at dksX8_load_0 14 rfl rfl)
theorem dX8_load_15 : decode cX8_load 15 = .ok (.iconst 0, 1) := dk_3 (dk_at dksX8_load_0 15 rfl rfl)
theorem dX8_load_16 : decode cX8_load 16 = .ok (.istore_n 2, 1) := dk_61 (dk_at dksX8_load_0 16 rfl rfl)
theorem dX8_load_17 : decode cX8_load 17 = .ok (.aload_n 0, 1) := dk_42 (dk_at dksX8_load_0 17 rfl rfl)
theorem dX8_load_18 : decode cX8_load 18 = .ok (.iconst 0, 1) := dk_3 (dk_at dksX8_load_0 18 rfl rfl)
theorem dX8_load_19 : decode cX8_load 19 = .ok (.putfield 214, 3) := dk_181 0 214 (dk_at dksX8_load_0 19 rfl rfl)
theorem dX8_load_22 : decode cX8_load 22 = .ok (.aload_n 0, 1) := dk_42 (dk_at dksX8_load_0 22 rfl rfl)
theorem dX8_load_23 : decode cX8_load 23 = .ok (.getfield 214, 3) := dk_180 0 214 (dk_at dksX8_load_1 0 rfl rfl)
theorem dX8_load_26 : decode cX8_load 26 = .ok (.aload_n 0, 1) := dk_42 (dk_at dksX8_load_1 3 rfl rfl)
theorem dX8_load_27 : decode cX8_load 27 = .ok (.getfield 211, 3) := dk_180 0 211 (dk_at dksX8_load_1 4 rfl rfl)
theorem dX8_load_30 : decode cX8_load 30 = .ok (.if_icmp .ge 69, 3) := dk_162 0 69 (dk_at dksX8_load_1 7 rfl rfl)
theorem dX8_load_33 : decode cX8_load 33 = .ok (.aload_n 0, 1) := dk_42 (dk_at dksX8_load_1 10 rfl rfl)
theorem dX8_load_34 : decode cX8_load 34 = .ok (.aload_n 0, 1) := dk_42 (dk_at dksX8_load_1 11 rfl rfl)
theorem dX8_load_35 : decode cX8_load 35 = .ok (.getfield 32, 3) := dk_180 0 32 (dk_at dksX8_load_1 12 rfl rfl)
theorem dX8_load_38 : decode cX8_load 38 = .ok (.invokevirtual 223, 3) := dk_182 0 223 (dk_at dksX8_load_1 15 rfl rfl)
theorem dX8_load_41 : decode cX8_load 41 = .ok (.istore_n 3, 1) := dk_62 (dk_at dksX8_load_1 18 rfl rfl)
theorem dX8_load_42 : decode cX8_load 42 = .ok (.iload_n 3, 1) := dk_29 (dk_at dksX8_load_1 19 rfl rfl)
theorem dX8_load_43 : decode cX8_load 43 = .ok (.ifCond .eq 53, 3) := dk_153 0 53 (dk_at dksX8_load_1 20 rfl rfl)
theorem dX8_load_46 : decode cX8_load 46 = .ok (.aload_n 0, 1) := dk_42 (dk_at dksX8_load_1 23 rfl rfl)
theorem dX8_load_47 : decode cX8_load 47 = .ok (.aload_n 0, 1) := dk_42 (dk_at dksX8_load_2 0 rfl rfl)
theorem dX8_load_48 : decode cX8_load 48 = .ok (.getfield 32, 3) := dk_180 0 32 (dk_at dksX8_load_2 1 rfl rfl)
theorem dX8_load_51 : decode cX8_load 51 = .ok (.iconst 0, 1) := dk_3 (dk_at dksX8_load_2 4 rfl rfl)
theorem dX8_load_52 : decode cX8_load 52 = .ok (.iaload, 1) := dk_46 (dk_at dksX8_load_2 5 rfl rfl)
theorem dX8_load_53 : decode cX8_load 53 = .ok (.invokevirtual 88, 3) := dk_182 0 88 (dk_at dksX8_load_2 6 rfl rfl)
theorem dX8_load_56 : decode cX8_load 56 = .ok (.ifCond .eq 40, 3) := dk_153 0 40 (dk_at dksX8_load_2 9 rfl rfl)
theorem dX8_load_59 : decode cX8_load 59 = .ok (.aload_n 0, 1) := dk_42 (dk_at dksX8_load_2 12 rfl rfl)
theorem dX8_load_60 : decode cX8_load 60 = .ok (.aload_n 0, 1) := dk_42 (dk_at dksX8_load_2 13 rfl rfl)
theorem dX8_load_61 : decode cX8_load 61 = .ok (.getfield 32, 3) := dk_180 0 32 (dk_at dksX8_load_2 14 rfl rfl)
theorem dX8_load_64 : decode cX8_load 64 = .ok (.iconst 0, 1) := dk_3 (dk_at dksX8_load_2 17 rfl rfl)
theorem dX8_load_65 : decode cX8_load 65 = .ok (.iaload, 1) := dk_46 (dk_at dksX8_load_2 18 rfl rfl)
theorem dX8_load_66 : decode cX8_load 66 = .ok (.aload_n 0, 1) := dk_42 (dk_at dksX8_load_2 19 rfl rfl)
theorem dX8_load_67 : decode cX8_load 67 = .ok (.getfield 32, 3) := dk_180 0 32 (dk_at dksX8_load_2 20 rfl rfl)
theorem dX8_load_70 : decode cX8_load 70 = .ok (.iconst 1, 1) := dk_4 (dk_at dksX8_load_2 23 rfl rfl)
theorem dX8_load_71 : decode cX8_load 71 = .ok (.iaload, 1) := dk_46 (dk_at dksX8_load_3 0 rfl rfl)
theorem dX8_load_72 : decode cX8_load 72 = .ok (.aload_n 0, 1) := dk_42 (dk_at dksX8_load_3 1 rfl rfl)
theorem dX8_load_73 : decode cX8_load 73 = .ok (.getfield 32, 3) := dk_180 0 32 (dk_at dksX8_load_3 2 rfl rfl)
theorem dX8_load_76 : decode cX8_load 76 = .ok (.iconst 2, 1) := dk_5 (dk_at dksX8_load_3 5 rfl rfl)
theorem dX8_load_77 : decode cX8_load 77 = .ok (.iaload, 1) := dk_46 (dk_at dksX8_load_3 6 rfl rfl)
theorem dX8_load_78 : decode cX8_load 78 = .ok (.aload_n 0, 1) := dk_42 (dk_at dksX8_load_3 7 rfl rfl)
theorem dX8_load_79 : decode cX8_load 79 = .ok (.getfield 32, 3) := dk_180 0 32 (dk_at dksX8_load_3 8 rfl rfl)
theorem dX8_load_82 : decode cX8_load 82 = .ok (.iconst 3, 1) := dk_6 (dk_at dksX8_load_3 11 rfl rfl)
theorem dX8_load_83 : decode cX8_load 83 = .ok (.iaload, 1) := dk_46 (dk_at dksX8_load_3 12 rfl rfl)
theorem dX8_load_84 : decode cX8_load 84 = .ok (.aload_n 0, 1) := dk_42 (dk_at dksX8_load_3 13 rfl rfl)
theorem dX8_load_85 : decode cX8_load 85 = .ok (.getfield 32, 3) := dk_180 0 32 (dk_at dksX8_load_3 14 rfl rfl)
theorem dX8_load_88 : decode cX8_load 88 = .ok (.iconst 4, 1) := dk_7 (dk_at dksX8_load_3 17 rfl rfl)
theorem dX8_load_89 : decode cX8_load 89 = .ok (.iaload, 1) := dk_46 (dk_at dksX8_load_3 18 rfl rfl)
theorem dX8_load_90 : decode cX8_load 90 = .ok (.invokevirtual 91, 3) := dk_182 0 91 (dk_at dksX8_load_3 19 rfl rfl)
theorem dX8_load_93 : decode cX8_load 93 = .ok (.iinc 2 1, 3) := dk_132 2 1 (dk_at dksX8_load_4 0 rfl rfl)
theorem dX8_load_96 : decode cX8_load 96 = .ok (.goto (-74), 3) := dk_167 255 182 (dk_at dksX8_load_4 3 rfl rfl)
theorem dX8_load_99 : decode cX8_load 99 = .ok (.iload_n 2, 1) := dk_28 (dk_at dksX8_load_4 6 rfl rfl)
theorem dX8_load_100 : decode cX8_load 100 = .ok (.ireturn, 1) := dk_172 (dk_at dksX8_load_4 7 rfl rfl)
abbrev cX8_save : ByteArray := prog_29_method_104_code
def yX8_save : MethodName := ⟨RX8, "save", "(I)I"⟩
def dkwX8_save_2 : List UInt8 := [180, 0, 19, 27, 4, 84, 42, 180, 0, 7, 17, 4, 0, 46, 172]
abbrev dktX8_save_2 : List UInt8 := dkwX8_save_2 ++ []
def dkwX8_save_1 : List UInt8 := [180, 0, 16, 17, 5, 30, 27, 104, 28, 96, 42, 180, 0, 7, 28, 46, 79, 132, 2, 1, 167, 255, 228, 42]
abbrev dktX8_save_1 : List UInt8 := dkwX8_save_1 ++ dktX8_save_2
def dkwX8_save_0 : List UInt8 := [27, 3, 4, 184, 0, 39, 154, 0, 6, 16, 254, 172, 3, 61, 28, 17, 5, 30, 162, 0, 27, 42]
abbrev dktX8_save_0 : List UInt8 := dkwX8_save_0 ++ dktX8_save_1
theorem dksX8_save_0 : cX8_save.data.toList.drop 0 = dktX8_save_0 := by decide +kernel
theorem dksX8_save_1 : cX8_save.data.toList.drop 22 = dktX8_save_1 := dk_seg dksX8_save_0 22 rfl rfl
theorem dksX8_save_2 : cX8_save.data.toList.drop 46 = dktX8_save_2 := dk_seg dksX8_save_1 24 rfl rfl
theorem dX8_save_0 : decode cX8_save 0 = .ok (.iload_n 1, 1) := dk_27 (dk_at dksX8_save_0 0 rfl rfl)
theorem dX8_save_1 : decode cX8_save 1 = .ok (.iconst 0, 1) := dk_3 (dk_at dksX8_save_0 1 rfl rfl)
theorem dX8_save_2 : decode cX8_save 2 = .ok (.iconst 1, 1) := dk_4 (dk_at dksX8_save_0 2 rfl rfl)
theorem dX8_save_3 : decode cX8_save 3 = .ok (.invokestatic 39, 3) := dk_184 0 39 (dk_at dksX8_save_0 3 rfl rfl)
theorem dX8_save_6 : decode cX8_save 6 = .ok (.ifCond .ne 6, 3) := dk_154 0 6 (dk_at dksX8_save_0 6 rfl rfl)
theorem dX8_save_9 : decode cX8_save 9 = .ok (.bipush (-2), 2) := dk_16 254 (dk_at dksX8_save_0 9 rfl rfl)
theorem dX8_save_11 : decode cX8_save 11 = .ok (.ireturn, 1) := dk_172 (dk_at dksX8_save_0 11 rfl rfl)
theorem dX8_save_12 : decode cX8_save 12 = .ok (.iconst 0, 1) := dk_3 (dk_at dksX8_save_0 12 rfl rfl)
theorem dX8_save_13 : decode cX8_save 13 = .ok (.istore_n 2, 1) := dk_61 (dk_at dksX8_save_0 13 rfl rfl)
theorem dX8_save_14 : decode cX8_save 14 = .ok (.iload_n 2, 1) := dk_28 (dk_at dksX8_save_0 14 rfl rfl)
theorem dX8_save_15 : decode cX8_save 15 = .ok (.sipush 1310, 3) := dk_17 5 30 (dk_at dksX8_save_0 15 rfl rfl)
theorem dX8_save_18 : decode cX8_save 18 = .ok (.if_icmp .ge 27, 3) := dk_162 0 27 (dk_at dksX8_save_0 18 rfl rfl)
theorem dX8_save_21 : decode cX8_save 21 = .ok (.aload_n 0, 1) := dk_42 (dk_at dksX8_save_0 21 rfl rfl)
theorem dX8_save_22 : decode cX8_save 22 = .ok (.getfield 16, 3) := dk_180 0 16 (dk_at dksX8_save_1 0 rfl rfl)
theorem dX8_save_25 : decode cX8_save 25 = .ok (.sipush 1310, 3) := dk_17 5 30 (dk_at dksX8_save_1 3 rfl rfl)
theorem dX8_save_28 : decode cX8_save 28 = .ok (.iload_n 1, 1) := dk_27 (dk_at dksX8_save_1 6 rfl rfl)
theorem dX8_save_29 : decode cX8_save 29 = .ok (.imul, 1) := dk_104 (dk_at dksX8_save_1 7 rfl rfl)
theorem dX8_save_30 : decode cX8_save 30 = .ok (.iload_n 2, 1) := dk_28 (dk_at dksX8_save_1 8 rfl rfl)
theorem dX8_save_31 : decode cX8_save 31 = .ok (.iadd, 1) := dk_96 (dk_at dksX8_save_1 9 rfl rfl)
theorem dX8_save_32 : decode cX8_save 32 = .ok (.aload_n 0, 1) := dk_42 (dk_at dksX8_save_1 10 rfl rfl)
theorem dX8_save_33 : decode cX8_save 33 = .ok (.getfield 7, 3) := dk_180 0 7 (dk_at dksX8_save_1 11 rfl rfl)
theorem dX8_save_36 : decode cX8_save 36 = .ok (.iload_n 2, 1) := dk_28 (dk_at dksX8_save_1 14 rfl rfl)
theorem dX8_save_37 : decode cX8_save 37 = .ok (.iaload, 1) := dk_46 (dk_at dksX8_save_1 15 rfl rfl)
theorem dX8_save_38 : decode cX8_save 38 = .ok (.iastore, 1) := dk_79 (dk_at dksX8_save_1 16 rfl rfl)
theorem dX8_save_39 : decode cX8_save 39 = .ok (.iinc 2 1, 3) := dk_132 2 1 (dk_at dksX8_save_1 17 rfl rfl)
theorem dX8_save_42 : decode cX8_save 42 = .ok (.goto (-28), 3) := dk_167 255 228 (dk_at dksX8_save_1 20 rfl rfl)
theorem dX8_save_45 : decode cX8_save 45 = .ok (.aload_n 0, 1) := dk_42 (dk_at dksX8_save_1 23 rfl rfl)
theorem dX8_save_46 : decode cX8_save 46 = .ok (.getfield 19, 3) := dk_180 0 19 (dk_at dksX8_save_2 0 rfl rfl)
theorem dX8_save_49 : decode cX8_save 49 = .ok (.iload_n 1, 1) := dk_27 (dk_at dksX8_save_2 3 rfl rfl)
theorem dX8_save_50 : decode cX8_save 50 = .ok (.iconst 1, 1) := dk_4 (dk_at dksX8_save_2 4 rfl rfl)
theorem dX8_save_51 : decode cX8_save 51 = .ok (.bastore, 1) := dk_84 (dk_at dksX8_save_2 5 rfl rfl)
theorem dX8_save_52 : decode cX8_save 52 = .ok (.aload_n 0, 1) := dk_42 (dk_at dksX8_save_2 6 rfl rfl)
theorem dX8_save_53 : decode cX8_save 53 = .ok (.getfield 7, 3) := dk_180 0 7 (dk_at dksX8_save_2 7 rfl rfl)
theorem dX8_save_56 : decode cX8_save 56 = .ok (.sipush 1024, 3) := dk_17 4 0 (dk_at dksX8_save_2 10 rfl rfl)
theorem dX8_save_59 : decode cX8_save 59 = .ok (.iaload, 1) := dk_46 (dk_at dksX8_save_2 13 rfl rfl)
theorem dX8_save_60 : decode cX8_save 60 = .ok (.ireturn, 1) := dk_172 (dk_at dksX8_save_2 14 rfl rfl)
abbrev cX8_restore : ByteArray := prog_29_method_105_code
def yX8_restore : MethodName := ⟨RX8, "restore", "(I)I"⟩
def dkwX8_restore_2 : List UInt8 := [96, 46, 79, 132, 2, 1, 167, 255, 228, 42, 180, 0, 7, 17, 4, 0, 46, 172]
abbrev dktX8_restore_2 : List UInt8 := dkwX8_restore_2 ++ []
def dkwX8_restore_1 : List UInt8 := [3, 61, 28, 17, 5, 30, 162, 0, 27, 42, 180, 0, 7, 28, 42, 180, 0, 16, 17, 5, 30, 27, 104, 28]
abbrev dktX8_restore_1 : List UInt8 := dkwX8_restore_1 ++ dktX8_restore_2
def dkwX8_restore_0 : List UInt8 := [27, 3, 4, 184, 0, 39, 154, 0, 6, 16, 254, 172, 42, 180, 0, 19, 27, 51, 154, 0, 6, 16, 251, 172]
abbrev dktX8_restore_0 : List UInt8 := dkwX8_restore_0 ++ dktX8_restore_1
theorem dksX8_restore_0 : cX8_restore.data.toList.drop 0 = dktX8_restore_0 := by decide +kernel
theorem dksX8_restore_1 : cX8_restore.data.toList.drop 24 = dktX8_restore_1 := dk_seg dksX8_restore_0 24 rfl rfl
theorem dksX8_restore_2 : cX8_restore.data.toList.drop 48 = dktX8_restore_2 := dk_seg dksX8_restore_1 24 rfl rfl
theorem dX8_restore_0 : decode cX8_restore 0 = .ok (.iload_n 1, 1) := dk_27 (dk_at dksX8_restore_0 0 rfl rfl)
theorem dX8_restore_1 : decode cX8_restore 1 = .ok (.iconst 0, 1) := dk_3 (dk_at dksX8_restore_0 1 rfl rfl)
theorem dX8_restore_2 : decode cX8_restore 2 = .ok (.iconst 1, 1) := dk_4 (dk_at dksX8_restore_0 2 rfl rfl)
theorem dX8_restore_3 : decode cX8_restore 3 = .ok (.invokestatic 39, 3) := dk_184 0 39 (dk_at dksX8_restore_0 3 rfl rfl)
theorem dX8_restore_6 : decode cX8_restore 6 = .ok (.ifCond .ne 6, 3) := dk_154 0 6 (dk_at dksX8_restore_0 6 rfl rfl)
theorem dX8_restore_9 : decode cX8_restore 9 = .ok (.bipush (-2), 2) := dk_16 254 (dk_at dksX8_restore_0 9 rfl rfl)
theorem dX8_restore_11 : decode cX8_restore 11 = .ok (.ireturn, 1) := dk_172 (dk_at dksX8_restore_0 11 rfl rfl)
theorem dX8_restore_12 : decode cX8_restore 12 = .ok (.aload_n 0, 1) := dk_42 (dk_at dksX8_restore_0 12 rfl rfl)
theorem dX8_restore_13 : decode cX8_restore 13 = .ok (.getfield 19, 3) := dk_180 0 19 (dk_at dksX8_restore_0 13 rfl rfl)
theorem dX8_restore_16 : decode cX8_restore 16 = .ok (.iload_n 1, 1) := dk_27 (dk_at dksX8_restore_0 16 rfl rfl)
theorem dX8_restore_17 : decode cX8_restore 17 = .ok (.baload, 1) := dk_51 (dk_at dksX8_restore_0 17 rfl rfl)
theorem dX8_restore_18 : decode cX8_restore 18 = .ok (.ifCond .ne 6, 3) := dk_154 0 6 (dk_at dksX8_restore_0 18 rfl rfl)
theorem dX8_restore_21 : decode cX8_restore 21 = .ok (.bipush (-5), 2) := dk_16 251 (dk_at dksX8_restore_0 21 rfl rfl)
theorem dX8_restore_23 : decode cX8_restore 23 = .ok (.ireturn, 1) := dk_172 (dk_at dksX8_restore_0 23 rfl rfl)
theorem dX8_restore_24 : decode cX8_restore 24 = .ok (.iconst 0, 1) := dk_3 (dk_at dksX8_restore_1 0 rfl rfl)
theorem dX8_restore_25 : decode cX8_restore 25 = .ok (.istore_n 2, 1) := dk_61 (dk_at dksX8_restore_1 1 rfl rfl)
theorem dX8_restore_26 : decode cX8_restore 26 = .ok (.iload_n 2, 1) := dk_28 (dk_at dksX8_restore_1 2 rfl rfl)
theorem dX8_restore_27 : decode cX8_restore 27 = .ok (.sipush 1310, 3) := dk_17 5 30 (dk_at dksX8_restore_1 3 rfl rfl)
theorem dX8_restore_30 : decode cX8_restore 30 = .ok (.if_icmp .ge 27, 3) := dk_162 0 27 (dk_at dksX8_restore_1 6 rfl rfl)
theorem dX8_restore_33 : decode cX8_restore 33 = .ok (.aload_n 0, 1) := dk_42 (dk_at dksX8_restore_1 9 rfl rfl)
theorem dX8_restore_34 : decode cX8_restore 34 = .ok (.getfield 7, 3) := dk_180 0 7 (dk_at dksX8_restore_1 10 rfl rfl)
theorem dX8_restore_37 : decode cX8_restore 37 = .ok (.iload_n 2, 1) := dk_28 (dk_at dksX8_restore_1 13 rfl rfl)
theorem dX8_restore_38 : decode cX8_restore 38 = .ok (.aload_n 0, 1) := dk_42 (dk_at dksX8_restore_1 14 rfl rfl)
theorem dX8_restore_39 : decode cX8_restore 39 = .ok (.getfield 16, 3) := dk_180 0 16 (dk_at dksX8_restore_1 15 rfl rfl)
theorem dX8_restore_42 : decode cX8_restore 42 = .ok (.sipush 1310, 3) := dk_17 5 30 (dk_at dksX8_restore_1 18 rfl rfl)
theorem dX8_restore_45 : decode cX8_restore 45 = .ok (.iload_n 1, 1) := dk_27 (dk_at dksX8_restore_1 21 rfl rfl)
theorem dX8_restore_46 : decode cX8_restore 46 = .ok (.imul, 1) := dk_104 (dk_at dksX8_restore_1 22 rfl rfl)
theorem dX8_restore_47 : decode cX8_restore 47 = .ok (.iload_n 2, 1) := dk_28 (dk_at dksX8_restore_1 23 rfl rfl)
theorem dX8_restore_48 : decode cX8_restore 48 = .ok (.iadd, 1) := dk_96 (dk_at dksX8_restore_2 0 rfl rfl)
theorem dX8_restore_49 : decode cX8_restore 49 = .ok (.iaload, 1) := dk_46 (dk_at dksX8_restore_2 1 rfl rfl)
theorem dX8_restore_50 : decode cX8_restore 50 = .ok (.iastore, 1) := dk_79 (dk_at dksX8_restore_2 2 rfl rfl)
theorem dX8_restore_51 : decode cX8_restore 51 = .ok (.iinc 2 1, 3) := dk_132 2 1 (dk_at dksX8_restore_2 3 rfl rfl)
theorem dX8_restore_54 : decode cX8_restore 54 = .ok (.goto (-28), 3) := dk_167 255 228 (dk_at dksX8_restore_2 6 rfl rfl)
theorem dX8_restore_57 : decode cX8_restore 57 = .ok (.aload_n 0, 1) := dk_42 (dk_at dksX8_restore_2 9 rfl rfl)
theorem dX8_restore_58 : decode cX8_restore 58 = .ok (.getfield 7, 3) := dk_180 0 7 (dk_at dksX8_restore_2 10 rfl rfl)
theorem dX8_restore_61 : decode cX8_restore 61 = .ok (.sipush 1024, 3) := dk_17 4 0 (dk_at dksX8_restore_2 13 rfl rfl)
theorem dX8_restore_64 : decode cX8_restore 64 = .ok (.iaload, 1) := dk_46 (dk_at dksX8_restore_2 16 rfl rfl)
theorem dX8_restore_65 : decode cX8_restore 65 = .ok (.ireturn, 1) := dk_172 (dk_at dksX8_restore_2 17 rfl rfl)
abbrev cX8_checksum : ByteArray := prog_29_method_108_code
def yX8_checksum : MethodName := ⟨RX8, "checksum", "()J"⟩
def dkwX8_checksum_2 : List UInt8 := [182, 0, 241, 184, 0, 232, 64, 132, 3, 1, 167, 255, 237, 31, 173]
abbrev dktX8_checksum_2 : List UInt8 := dkwX8_checksum_2 ++ []
def dkwX8_checksum_1 : List UInt8 := [29, 182, 0, 238, 64, 132, 3, 1, 167, 255, 241, 4, 62, 29, 16, 32, 163, 0, 19, 31, 42, 29]
abbrev dktX8_checksum_1 : List UInt8 := dkwX8_checksum_1 ++ dktX8_checksum_2
def dkwX8_checksum_0 : List UInt8 := [20, 0, 236, 42, 180, 0, 7, 17, 4, 0, 46, 184, 0, 232, 64, 3, 62, 29, 7, 162, 0, 16, 42, 31]
abbrev dktX8_checksum_0 : List UInt8 := dkwX8_checksum_0 ++ dktX8_checksum_1
theorem dksX8_checksum_0 : cX8_checksum.data.toList.drop 0 = dktX8_checksum_0 := by decide +kernel
theorem dksX8_checksum_1 : cX8_checksum.data.toList.drop 24 = dktX8_checksum_1 := dk_seg dksX8_checksum_0 24 rfl rfl
theorem dksX8_checksum_2 : cX8_checksum.data.toList.drop 46 = dktX8_checksum_2 := dk_seg dksX8_checksum_1 22 rfl rfl
theorem dX8_checksum_0 : decode cX8_checksum 0 = .ok (.ldc2_w 236, 3) := dk_20 0 236 (dk_at dksX8_checksum_0 0 rfl rfl)
theorem dX8_checksum_3 : decode cX8_checksum 3 = .ok (.aload_n 0, 1) := dk_42 (dk_at dksX8_checksum_0 3 rfl rfl)
theorem dX8_checksum_4 : decode cX8_checksum 4 = .ok (.getfield 7, 3) := dk_180 0 7 (dk_at dksX8_checksum_0 4 rfl rfl)
theorem dX8_checksum_7 : decode cX8_checksum 7 = .ok (.sipush 1024, 3) := dk_17 4 0 (dk_at dksX8_checksum_0 7 rfl rfl)
theorem dX8_checksum_10 : decode cX8_checksum 10 = .ok (.iaload, 1) := dk_46 (dk_at dksX8_checksum_0 10 rfl rfl)
theorem dX8_checksum_11 : decode cX8_checksum 11 = .ok (.invokestatic 232, 3) := dk_184 0 232 (dk_at dksX8_checksum_0 11 rfl rfl)
theorem dX8_checksum_14 : decode cX8_checksum 14 = .ok (.lstore_n 1, 1) := dk_64 (dk_at dksX8_checksum_0 14 rfl rfl)
theorem dX8_checksum_15 : decode cX8_checksum 15 = .ok (.iconst 0, 1) := dk_3 (dk_at dksX8_checksum_0 15 rfl rfl)
theorem dX8_checksum_16 : decode cX8_checksum 16 = .ok (.istore_n 3, 1) := dk_62 (dk_at dksX8_checksum_0 16 rfl rfl)
theorem dX8_checksum_17 : decode cX8_checksum 17 = .ok (.iload_n 3, 1) := dk_29 (dk_at dksX8_checksum_0 17 rfl rfl)
theorem dX8_checksum_18 : decode cX8_checksum 18 = .ok (.iconst 4, 1) := dk_7 (dk_at dksX8_checksum_0 18 rfl rfl)
theorem dX8_checksum_19 : decode cX8_checksum 19 = .ok (.if_icmp .ge 16, 3) := dk_162 0 16 (dk_at dksX8_checksum_0 19 rfl rfl)
theorem dX8_checksum_22 : decode cX8_checksum 22 = .ok (.aload_n 0, 1) := dk_42 (dk_at dksX8_checksum_0 22 rfl rfl)
theorem dX8_checksum_23 : decode cX8_checksum 23 = .ok (.lload_n 1, 1) := dk_31 (dk_at dksX8_checksum_0 23 rfl rfl)
theorem dX8_checksum_24 : decode cX8_checksum 24 = .ok (.iload_n 3, 1) := dk_29 (dk_at dksX8_checksum_1 0 rfl rfl)
theorem dX8_checksum_25 : decode cX8_checksum 25 = .ok (.invokevirtual 238, 3) := dk_182 0 238 (dk_at dksX8_checksum_1 1 rfl rfl)
theorem dX8_checksum_28 : decode cX8_checksum 28 = .ok (.lstore_n 1, 1) := dk_64 (dk_at dksX8_checksum_1 4 rfl rfl)
theorem dX8_checksum_29 : decode cX8_checksum 29 = .ok (.iinc 3 1, 3) := dk_132 3 1 (dk_at dksX8_checksum_1 5 rfl rfl)
theorem dX8_checksum_32 : decode cX8_checksum 32 = .ok (.goto (-15), 3) := dk_167 255 241 (dk_at dksX8_checksum_1 8 rfl rfl)
theorem dX8_checksum_35 : decode cX8_checksum 35 = .ok (.iconst 1, 1) := dk_4 (dk_at dksX8_checksum_1 11 rfl rfl)
theorem dX8_checksum_36 : decode cX8_checksum 36 = .ok (.istore_n 3, 1) := dk_62 (dk_at dksX8_checksum_1 12 rfl rfl)
theorem dX8_checksum_37 : decode cX8_checksum 37 = .ok (.iload_n 3, 1) := dk_29 (dk_at dksX8_checksum_1 13 rfl rfl)
theorem dX8_checksum_38 : decode cX8_checksum 38 = .ok (.bipush 32, 2) := dk_16 32 (dk_at dksX8_checksum_1 14 rfl rfl)
theorem dX8_checksum_40 : decode cX8_checksum 40 = .ok (.if_icmp .gt 19, 3) := dk_163 0 19 (dk_at dksX8_checksum_1 16 rfl rfl)
theorem dX8_checksum_43 : decode cX8_checksum 43 = .ok (.lload_n 1, 1) := dk_31 (dk_at dksX8_checksum_1 19 rfl rfl)
theorem dX8_checksum_44 : decode cX8_checksum 44 = .ok (.aload_n 0, 1) := dk_42 (dk_at dksX8_checksum_1 20 rfl rfl)
theorem dX8_checksum_45 : decode cX8_checksum 45 = .ok (.iload_n 3, 1) := dk_29 (dk_at dksX8_checksum_1 21 rfl rfl)
theorem dX8_checksum_46 : decode cX8_checksum 46 = .ok (.invokevirtual 241, 3) := dk_182 0 241 (dk_at dksX8_checksum_2 0 rfl rfl)
theorem dX8_checksum_49 : decode cX8_checksum 49 = .ok (.invokestatic 232, 3) := dk_184 0 232 (dk_at dksX8_checksum_2 3 rfl rfl)
theorem dX8_checksum_52 : decode cX8_checksum 52 = .ok (.lstore_n 1, 1) := dk_64 (dk_at dksX8_checksum_2 6 rfl rfl)
theorem dX8_checksum_53 : decode cX8_checksum 53 = .ok (.iinc 3 1, 3) := dk_132 3 1 (dk_at dksX8_checksum_2 7 rfl rfl)
theorem dX8_checksum_56 : decode cX8_checksum 56 = .ok (.goto (-19), 3) := dk_167 255 237 (dk_at dksX8_checksum_2 10 rfl rfl)
theorem dX8_checksum_59 : decode cX8_checksum 59 = .ok (.lload_n 1, 1) := dk_31 (dk_at dksX8_checksum_2 13 rfl rfl)
theorem dX8_checksum_60 : decode cX8_checksum 60 = .ok (.lreturn, 1) := dk_173 (dk_at dksX8_checksum_2 14 rfl rfl)
abbrev cX8_more : ByteArray := prog_29_method_106_code
def yX8_more : MethodName := ⟨RX8, "more", "(JI)J"⟩
def dkwX8_more_0 : List UInt8 := [20, 0, 230, 30, 105, 28, 133, 97, 173]
abbrev dktX8_more_0 : List UInt8 := dkwX8_more_0 ++ []
theorem dksX8_more_0 : cX8_more.data.toList.drop 0 = dktX8_more_0 := by decide +kernel
theorem dX8_more_0 : decode cX8_more 0 = .ok (.ldc2_w 230, 3) := dk_20 0 230 (dk_at dksX8_more_0 0 rfl rfl)
theorem dX8_more_3 : decode cX8_more 3 = .ok (.lload_n 0, 1) := dk_30 (dk_at dksX8_more_0 3 rfl rfl)
theorem dX8_more_4 : decode cX8_more 4 = .ok (.lmul, 1) := dk_105 (dk_at dksX8_more_0 4 rfl rfl)
theorem dX8_more_5 : decode cX8_more 5 = .ok (.iload_n 2, 1) := dk_28 (dk_at dksX8_more_0 5 rfl rfl)
theorem dX8_more_6 : decode cX8_more 6 = .ok (.i2l, 1) := dk_133 (dk_at dksX8_more_0 6 rfl rfl)
theorem dX8_more_7 : decode cX8_more 7 = .ok (.ladd, 1) := dk_97 (dk_at dksX8_more_0 7 rfl rfl)
theorem dX8_more_8 : decode cX8_more 8 = .ok (.lreturn, 1) := dk_173 (dk_at dksX8_more_0 8 rfl rfl)
abbrev cX8_moreOf : ByteArray := prog_29_method_107_code
def yX8_moreOf : MethodName := ⟨RX8, "moreOf", "(JI)J"⟩
def dkwX8_moreOf_13 : List UInt8 := [173]
abbrev dktX8_moreOf_13 : List UInt8 := dkwX8_moreOf_13 ++ []
def dkwX8_moreOf_12 : List UInt8 := [180, 0, 7, 29, 21, 6, 6, 184, 0, 159, 46, 184, 0, 232, 55, 4, 132, 6, 1, 167, 255, 193, 22, 4]
abbrev dktX8_moreOf_12 : List UInt8 := dkwX8_moreOf_12 ++ dktX8_moreOf_13
def dkwX8_moreOf_11 : List UInt8 := [182, 0, 198, 184, 0, 232, 42, 180, 0, 7, 29, 21, 6, 5, 184, 0, 159, 46, 184, 0, 232, 42]
abbrev dktX8_moreOf_11 : List UInt8 := dkwX8_moreOf_11 ++ dktX8_moreOf_12
def dkwX8_moreOf_10 : List UInt8 := [21, 6, 42, 180, 0, 7, 29, 16, 24, 184, 0, 35, 46, 162, 0, 53, 22, 4, 42, 29, 21, 6]
abbrev dktX8_moreOf_10 : List UInt8 := dkwX8_moreOf_10 ++ dktX8_moreOf_11
def dkwX8_moreOf_9 : List UInt8 := [167, 255, 223, 22, 4, 42, 180, 0, 7, 29, 16, 24, 184, 0, 35, 46, 184, 0, 232, 55, 4, 3, 54, 6]
abbrev dktX8_moreOf_9 : List UInt8 := dkwX8_moreOf_9 ++ dktX8_moreOf_10
def dkwX8_moreOf_8 : List UInt8 := [184, 0, 35, 46, 162, 0, 23, 22, 4, 42, 29, 21, 6, 182, 0, 191, 184, 0, 232, 55, 4, 132, 6, 1]
abbrev dktX8_moreOf_8 : List UInt8 := dkwX8_moreOf_8 ++ dktX8_moreOf_9
def dkwX8_moreOf_7 : List UInt8 := [16, 23, 184, 0, 35, 46, 184, 0, 232, 55, 4, 3, 54, 6, 21, 6, 42, 180, 0, 7, 29, 16, 23]
abbrev dktX8_moreOf_7 : List UInt8 := dkwX8_moreOf_7 ++ dktX8_moreOf_8
def dkwX8_moreOf_6 : List UInt8 := [55, 4, 22, 4, 42, 180, 0, 7, 29, 16, 15, 184, 0, 35, 46, 184, 0, 232, 42, 180, 0, 7, 29]
abbrev dktX8_moreOf_6 : List UInt8 := dkwX8_moreOf_6 ++ dktX8_moreOf_7
def dkwX8_moreOf_5 : List UInt8 := [29, 16, 13, 184, 0, 35, 46, 184, 0, 232, 42, 180, 0, 7, 29, 16, 14, 184, 0, 35, 46, 184, 0, 232]
abbrev dktX8_moreOf_5 : List UInt8 := dkwX8_moreOf_5 ++ dktX8_moreOf_6
def dkwX8_moreOf_4 : List UInt8 := [182, 0, 188, 184, 0, 232, 42, 180, 0, 7, 29, 16, 12, 184, 0, 35, 46, 184, 0, 232, 42, 180, 0, 7]
abbrev dktX8_moreOf_4 : List UInt8 := dkwX8_moreOf_4 ++ dktX8_moreOf_5
def dkwX8_moreOf_3 : List UInt8 := [29, 8, 21, 6, 96, 184, 0, 35, 46, 184, 0, 232, 55, 4, 132, 6, 1, 167, 255, 227, 22, 4, 42, 29]
abbrev dktX8_moreOf_3 : List UInt8 := dkwX8_moreOf_3 ++ dktX8_moreOf_4
def dkwX8_moreOf_2 : List UInt8 := [184, 0, 35, 46, 184, 0, 232, 55, 4, 4, 54, 6, 21, 6, 8, 163, 0, 29, 22, 4, 42, 180, 0, 7]
abbrev dktX8_moreOf_2 : List UInt8 := dkwX8_moreOf_2 ++ dktX8_moreOf_3
def dkwX8_moreOf_1 : List UInt8 := [184, 0, 232, 42, 180, 0, 7, 29, 7, 184, 0, 35, 46, 184, 0, 232, 42, 180, 0, 7, 29, 8]
abbrev dktX8_moreOf_1 : List UInt8 := dkwX8_moreOf_1 ++ dktX8_moreOf_2
def dkwX8_moreOf_0 : List UInt8 := [31, 42, 180, 0, 7, 29, 3, 184, 0, 35, 46, 184, 0, 232, 42, 180, 0, 7, 29, 4, 184, 0, 35, 46]
abbrev dktX8_moreOf_0 : List UInt8 := dkwX8_moreOf_0 ++ dktX8_moreOf_1
theorem dksX8_moreOf_0 : cX8_moreOf.data.toList.drop 0 = dktX8_moreOf_0 := by decide +kernel
theorem dksX8_moreOf_1 : cX8_moreOf.data.toList.drop 24 = dktX8_moreOf_1 := dk_seg dksX8_moreOf_0 24 rfl rfl
theorem dksX8_moreOf_2 : cX8_moreOf.data.toList.drop 46 = dktX8_moreOf_2 := dk_seg dksX8_moreOf_1 22 rfl rfl
theorem dksX8_moreOf_3 : cX8_moreOf.data.toList.drop 70 = dktX8_moreOf_3 := dk_seg dksX8_moreOf_2 24 rfl rfl
theorem dksX8_moreOf_4 : cX8_moreOf.data.toList.drop 94 = dktX8_moreOf_4 := dk_seg dksX8_moreOf_3 24 rfl rfl
theorem dksX8_moreOf_5 : cX8_moreOf.data.toList.drop 118 = dktX8_moreOf_5 := dk_seg dksX8_moreOf_4 24 rfl rfl
theorem dksX8_moreOf_6 : cX8_moreOf.data.toList.drop 142 = dktX8_moreOf_6 := dk_seg dksX8_moreOf_5 24 rfl rfl
theorem dksX8_moreOf_7 : cX8_moreOf.data.toList.drop 165 = dktX8_moreOf_7 := dk_seg dksX8_moreOf_6 23 rfl rfl
theorem dksX8_moreOf_8 : cX8_moreOf.data.toList.drop 188 = dktX8_moreOf_8 := dk_seg dksX8_moreOf_7 23 rfl rfl
theorem dksX8_moreOf_9 : cX8_moreOf.data.toList.drop 212 = dktX8_moreOf_9 := dk_seg dksX8_moreOf_8 24 rfl rfl
theorem dksX8_moreOf_10 : cX8_moreOf.data.toList.drop 236 = dktX8_moreOf_10 := dk_seg dksX8_moreOf_9 24 rfl rfl
theorem dksX8_moreOf_11 : cX8_moreOf.data.toList.drop 258 = dktX8_moreOf_11 := dk_seg dksX8_moreOf_10 22 rfl rfl
theorem dksX8_moreOf_12 : cX8_moreOf.data.toList.drop 280 = dktX8_moreOf_12 := dk_seg dksX8_moreOf_11 22 rfl rfl
theorem dksX8_moreOf_13 : cX8_moreOf.data.toList.drop 304 = dktX8_moreOf_13 := dk_seg dksX8_moreOf_12 24 rfl rfl
theorem dX8_moreOf_0 : decode cX8_moreOf 0 = .ok (.lload_n 1, 1) := dk_31 (dk_at dksX8_moreOf_0 0 rfl rfl)
theorem dX8_moreOf_1 : decode cX8_moreOf 1 = .ok (.aload_n 0, 1) := dk_42 (dk_at dksX8_moreOf_0 1 rfl rfl)
theorem dX8_moreOf_2 : decode cX8_moreOf 2 = .ok (.getfield 7, 3) := dk_180 0 7 (dk_at dksX8_moreOf_0 2 rfl rfl)
theorem dX8_moreOf_5 : decode cX8_moreOf 5 = .ok (.iload_n 3, 1) := dk_29 (dk_at dksX8_moreOf_0 5 rfl rfl)
theorem dX8_moreOf_6 : decode cX8_moreOf 6 = .ok (.iconst 0, 1) := dk_3 (dk_at dksX8_moreOf_0 6 rfl rfl)
theorem dX8_moreOf_7 : decode cX8_moreOf 7 = .ok (.invokestatic 35, 3) := dk_184 0 35 (dk_at dksX8_moreOf_0 7 rfl rfl)
theorem dX8_moreOf_10 : decode cX8_moreOf 10 = .ok (.iaload, 1) := dk_46 (dk_at dksX8_moreOf_0 10 rfl rfl)
theorem dX8_moreOf_11 : decode cX8_moreOf 11 = .ok (.invokestatic 232, 3) := dk_184 0 232 (dk_at dksX8_moreOf_0 11 rfl rfl)
theorem dX8_moreOf_14 : decode cX8_moreOf 14 = .ok (.aload_n 0, 1) := dk_42 (dk_at dksX8_moreOf_0 14 rfl rfl)
theorem dX8_moreOf_15 : decode cX8_moreOf 15 = .ok (.getfield 7, 3) := dk_180 0 7 (dk_at dksX8_moreOf_0 15 rfl rfl)
theorem dX8_moreOf_18 : decode cX8_moreOf 18 = .ok (.iload_n 3, 1) := dk_29 (dk_at dksX8_moreOf_0 18 rfl rfl)
theorem dX8_moreOf_19 : decode cX8_moreOf 19 = .ok (.iconst 1, 1) := dk_4 (dk_at dksX8_moreOf_0 19 rfl rfl)
theorem dX8_moreOf_20 : decode cX8_moreOf 20 = .ok (.invokestatic 35, 3) := dk_184 0 35 (dk_at dksX8_moreOf_0 20 rfl rfl)
theorem dX8_moreOf_23 : decode cX8_moreOf 23 = .ok (.iaload, 1) := dk_46 (dk_at dksX8_moreOf_0 23 rfl rfl)
theorem dX8_moreOf_24 : decode cX8_moreOf 24 = .ok (.invokestatic 232, 3) := dk_184 0 232 (dk_at dksX8_moreOf_1 0 rfl rfl)
theorem dX8_moreOf_27 : decode cX8_moreOf 27 = .ok (.aload_n 0, 1) := dk_42 (dk_at dksX8_moreOf_1 3 rfl rfl)
theorem dX8_moreOf_28 : decode cX8_moreOf 28 = .ok (.getfield 7, 3) := dk_180 0 7 (dk_at dksX8_moreOf_1 4 rfl rfl)
theorem dX8_moreOf_31 : decode cX8_moreOf 31 = .ok (.iload_n 3, 1) := dk_29 (dk_at dksX8_moreOf_1 7 rfl rfl)
theorem dX8_moreOf_32 : decode cX8_moreOf 32 = .ok (.iconst 4, 1) := dk_7 (dk_at dksX8_moreOf_1 8 rfl rfl)
theorem dX8_moreOf_33 : decode cX8_moreOf 33 = .ok (.invokestatic 35, 3) := dk_184 0 35 (dk_at dksX8_moreOf_1 9 rfl rfl)
theorem dX8_moreOf_36 : decode cX8_moreOf 36 = .ok (.iaload, 1) := dk_46 (dk_at dksX8_moreOf_1 12 rfl rfl)
theorem dX8_moreOf_37 : decode cX8_moreOf 37 = .ok (.invokestatic 232, 3) := dk_184 0 232 (dk_at dksX8_moreOf_1 13 rfl rfl)
theorem dX8_moreOf_40 : decode cX8_moreOf 40 = .ok (.aload_n 0, 1) := dk_42 (dk_at dksX8_moreOf_1 16 rfl rfl)
theorem dX8_moreOf_41 : decode cX8_moreOf 41 = .ok (.getfield 7, 3) := dk_180 0 7 (dk_at dksX8_moreOf_1 17 rfl rfl)
theorem dX8_moreOf_44 : decode cX8_moreOf 44 = .ok (.iload_n 3, 1) := dk_29 (dk_at dksX8_moreOf_1 20 rfl rfl)
theorem dX8_moreOf_45 : decode cX8_moreOf 45 = .ok (.iconst 5, 1) := dk_8 (dk_at dksX8_moreOf_1 21 rfl rfl)
theorem dX8_moreOf_46 : decode cX8_moreOf 46 = .ok (.invokestatic 35, 3) := dk_184 0 35 (dk_at dksX8_moreOf_2 0 rfl rfl)
theorem dX8_moreOf_49 : decode cX8_moreOf 49 = .ok (.iaload, 1) := dk_46 (dk_at dksX8_moreOf_2 3 rfl rfl)
theorem dX8_moreOf_50 : decode cX8_moreOf 50 = .ok (.invokestatic 232, 3) := dk_184 0 232 (dk_at dksX8_moreOf_2 4 rfl rfl)
theorem dX8_moreOf_53 : decode cX8_moreOf 53 = .ok (.lstore 4, 2) := dk_55 4 (dk_at dksX8_moreOf_2 7 rfl rfl)
theorem dX8_moreOf_55 : decode cX8_moreOf 55 = .ok (.iconst 1, 1) := dk_4 (dk_at dksX8_moreOf_2 9 rfl rfl)
theorem dX8_moreOf_56 : decode cX8_moreOf 56 = .ok (.istore 6, 2) := dk_54 6 (dk_at dksX8_moreOf_2 10 rfl rfl)
theorem dX8_moreOf_58 : decode cX8_moreOf 58 = .ok (.iload 6, 2) := dk_21 6 (dk_at dksX8_moreOf_2 12 rfl rfl)
theorem dX8_moreOf_60 : decode cX8_moreOf 60 = .ok (.iconst 5, 1) := dk_8 (dk_at dksX8_moreOf_2 14 rfl rfl)
theorem dX8_moreOf_61 : decode cX8_moreOf 61 = .ok (.if_icmp .gt 29, 3) := dk_163 0 29 (dk_at dksX8_moreOf_2 15 rfl rfl)
theorem dX8_moreOf_64 : decode cX8_moreOf 64 = .ok (.lload 4, 2) := dk_22 4 (dk_at dksX8_moreOf_2 18 rfl rfl)
theorem dX8_moreOf_66 : decode cX8_moreOf 66 = .ok (.aload_n 0, 1) := dk_42 (dk_at dksX8_moreOf_2 20 rfl rfl)
theorem dX8_moreOf_67 : decode cX8_moreOf 67 = .ok (.getfield 7, 3) := dk_180 0 7 (dk_at dksX8_moreOf_2 21 rfl rfl)
theorem dX8_moreOf_70 : decode cX8_moreOf 70 = .ok (.iload_n 3, 1) := dk_29 (dk_at dksX8_moreOf_3 0 rfl rfl)
theorem dX8_moreOf_71 : decode cX8_moreOf 71 = .ok (.iconst 5, 1) := dk_8 (dk_at dksX8_moreOf_3 1 rfl rfl)
theorem dX8_moreOf_72 : decode cX8_moreOf 72 = .ok (.iload 6, 2) := dk_21 6 (dk_at dksX8_moreOf_3 2 rfl rfl)
theorem dX8_moreOf_74 : decode cX8_moreOf 74 = .ok (.iadd, 1) := dk_96 (dk_at dksX8_moreOf_3 4 rfl rfl)
theorem dX8_moreOf_75 : decode cX8_moreOf 75 = .ok (.invokestatic 35, 3) := dk_184 0 35 (dk_at dksX8_moreOf_3 5 rfl rfl)
theorem dX8_moreOf_78 : decode cX8_moreOf 78 = .ok (.iaload, 1) := dk_46 (dk_at dksX8_moreOf_3 8 rfl rfl)
theorem dX8_moreOf_79 : decode cX8_moreOf 79 = .ok (.invokestatic 232, 3) := dk_184 0 232 (dk_at dksX8_moreOf_3 9 rfl rfl)
theorem dX8_moreOf_82 : decode cX8_moreOf 82 = .ok (.lstore 4, 2) := dk_55 4 (dk_at dksX8_moreOf_3 12 rfl rfl)
theorem dX8_moreOf_84 : decode cX8_moreOf 84 = .ok (.iinc 6 1, 3) := dk_132 6 1 (dk_at dksX8_moreOf_3 14 rfl rfl)
theorem dX8_moreOf_87 : decode cX8_moreOf 87 = .ok (.goto (-29), 3) := dk_167 255 227 (dk_at dksX8_moreOf_3 17 rfl rfl)
theorem dX8_moreOf_90 : decode cX8_moreOf 90 = .ok (.lload 4, 2) := dk_22 4 (dk_at dksX8_moreOf_3 20 rfl rfl)
theorem dX8_moreOf_92 : decode cX8_moreOf 92 = .ok (.aload_n 0, 1) := dk_42 (dk_at dksX8_moreOf_3 22 rfl rfl)
theorem dX8_moreOf_93 : decode cX8_moreOf 93 = .ok (.iload_n 3, 1) := dk_29 (dk_at dksX8_moreOf_3 23 rfl rfl)
theorem dX8_moreOf_94 : decode cX8_moreOf 94 = .ok (.invokevirtual 188, 3) := dk_182 0 188 (dk_at dksX8_moreOf_4 0 rfl rfl)
theorem dX8_moreOf_97 : decode cX8_moreOf 97 = .ok (.invokestatic 232, 3) := dk_184 0 232 (dk_at dksX8_moreOf_4 3 rfl rfl)
theorem dX8_moreOf_100 : decode cX8_moreOf 100 = .ok (.aload_n 0, 1) := dk_42 (dk_at dksX8_moreOf_4 6 rfl rfl)
theorem dX8_moreOf_101 : decode cX8_moreOf 101 = .ok (.getfield 7, 3) := dk_180 0 7 (dk_at dksX8_moreOf_4 7 rfl rfl)
theorem dX8_moreOf_104 : decode cX8_moreOf 104 = .ok (.iload_n 3, 1) := dk_29 (dk_at dksX8_moreOf_4 10 rfl rfl)
theorem dX8_moreOf_105 : decode cX8_moreOf 105 = .ok (.bipush 12, 2) := dk_16 12 (dk_at dksX8_moreOf_4 11 rfl rfl)
theorem dX8_moreOf_107 : decode cX8_moreOf 107 = .ok (.invokestatic 35, 3) := dk_184 0 35 (dk_at dksX8_moreOf_4 13 rfl rfl)
theorem dX8_moreOf_110 : decode cX8_moreOf 110 = .ok (.iaload, 1) := dk_46 (dk_at dksX8_moreOf_4 16 rfl rfl)
theorem dX8_moreOf_111 : decode cX8_moreOf 111 = .ok (.invokestatic 232, 3) := dk_184 0 232 (dk_at dksX8_moreOf_4 17 rfl rfl)
theorem dX8_moreOf_114 : decode cX8_moreOf 114 = .ok (.aload_n 0, 1) := dk_42 (dk_at dksX8_moreOf_4 20 rfl rfl)
theorem dX8_moreOf_115 : decode cX8_moreOf 115 = .ok (.getfield 7, 3) := dk_180 0 7 (dk_at dksX8_moreOf_4 21 rfl rfl)
theorem dX8_moreOf_118 : decode cX8_moreOf 118 = .ok (.iload_n 3, 1) := dk_29 (dk_at dksX8_moreOf_5 0 rfl rfl)
theorem dX8_moreOf_119 : decode cX8_moreOf 119 = .ok (.bipush 13, 2) := dk_16 13 (dk_at dksX8_moreOf_5 1 rfl rfl)
theorem dX8_moreOf_121 : decode cX8_moreOf 121 = .ok (.invokestatic 35, 3) := dk_184 0 35 (dk_at dksX8_moreOf_5 3 rfl rfl)
theorem dX8_moreOf_124 : decode cX8_moreOf 124 = .ok (.iaload, 1) := dk_46 (dk_at dksX8_moreOf_5 6 rfl rfl)
theorem dX8_moreOf_125 : decode cX8_moreOf 125 = .ok (.invokestatic 232, 3) := dk_184 0 232 (dk_at dksX8_moreOf_5 7 rfl rfl)
theorem dX8_moreOf_128 : decode cX8_moreOf 128 = .ok (.aload_n 0, 1) := dk_42 (dk_at dksX8_moreOf_5 10 rfl rfl)
theorem dX8_moreOf_129 : decode cX8_moreOf 129 = .ok (.getfield 7, 3) := dk_180 0 7 (dk_at dksX8_moreOf_5 11 rfl rfl)
theorem dX8_moreOf_132 : decode cX8_moreOf 132 = .ok (.iload_n 3, 1) := dk_29 (dk_at dksX8_moreOf_5 14 rfl rfl)
theorem dX8_moreOf_133 : decode cX8_moreOf 133 = .ok (.bipush 14, 2) := dk_16 14 (dk_at dksX8_moreOf_5 15 rfl rfl)
theorem dX8_moreOf_135 : decode cX8_moreOf 135 = .ok (.invokestatic 35, 3) := dk_184 0 35 (dk_at dksX8_moreOf_5 17 rfl rfl)
theorem dX8_moreOf_138 : decode cX8_moreOf 138 = .ok (.iaload, 1) := dk_46 (dk_at dksX8_moreOf_5 20 rfl rfl)
theorem dX8_moreOf_139 : decode cX8_moreOf 139 = .ok (.invokestatic 232, 3) := dk_184 0 232 (dk_at dksX8_moreOf_5 21 rfl rfl)
theorem dX8_moreOf_142 : decode cX8_moreOf 142 = .ok (.lstore 4, 2) := dk_55 4 (dk_at dksX8_moreOf_6 0 rfl rfl)
theorem dX8_moreOf_144 : decode cX8_moreOf 144 = .ok (.lload 4, 2) := dk_22 4 (dk_at dksX8_moreOf_6 2 rfl rfl)
theorem dX8_moreOf_146 : decode cX8_moreOf 146 = .ok (.aload_n 0, 1) := dk_42 (dk_at dksX8_moreOf_6 4 rfl rfl)
theorem dX8_moreOf_147 : decode cX8_moreOf 147 = .ok (.getfield 7, 3) := dk_180 0 7 (dk_at dksX8_moreOf_6 5 rfl rfl)
theorem dX8_moreOf_150 : decode cX8_moreOf 150 = .ok (.iload_n 3, 1) := dk_29 (dk_at dksX8_moreOf_6 8 rfl rfl)
theorem dX8_moreOf_151 : decode cX8_moreOf 151 = .ok (.bipush 15, 2) := dk_16 15 (dk_at dksX8_moreOf_6 9 rfl rfl)
theorem dX8_moreOf_153 : decode cX8_moreOf 153 = .ok (.invokestatic 35, 3) := dk_184 0 35 (dk_at dksX8_moreOf_6 11 rfl rfl)
theorem dX8_moreOf_156 : decode cX8_moreOf 156 = .ok (.iaload, 1) := dk_46 (dk_at dksX8_moreOf_6 14 rfl rfl)
theorem dX8_moreOf_157 : decode cX8_moreOf 157 = .ok (.invokestatic 232, 3) := dk_184 0 232 (dk_at dksX8_moreOf_6 15 rfl rfl)
theorem dX8_moreOf_160 : decode cX8_moreOf 160 = .ok (.aload_n 0, 1) := dk_42 (dk_at dksX8_moreOf_6 18 rfl rfl)
theorem dX8_moreOf_161 : decode cX8_moreOf 161 = .ok (.getfield 7, 3) := dk_180 0 7 (dk_at dksX8_moreOf_6 19 rfl rfl)
theorem dX8_moreOf_164 : decode cX8_moreOf 164 = .ok (.iload_n 3, 1) := dk_29 (dk_at dksX8_moreOf_6 22 rfl rfl)
theorem dX8_moreOf_165 : decode cX8_moreOf 165 = .ok (.bipush 23, 2) := dk_16 23 (dk_at dksX8_moreOf_7 0 rfl rfl)
theorem dX8_moreOf_167 : decode cX8_moreOf 167 = .ok (.invokestatic 35, 3) := dk_184 0 35 (dk_at dksX8_moreOf_7 2 rfl rfl)
theorem dX8_moreOf_170 : decode cX8_moreOf 170 = .ok (.iaload, 1) := dk_46 (dk_at dksX8_moreOf_7 5 rfl rfl)
theorem dX8_moreOf_171 : decode cX8_moreOf 171 = .ok (.invokestatic 232, 3) := dk_184 0 232 (dk_at dksX8_moreOf_7 6 rfl rfl)
theorem dX8_moreOf_174 : decode cX8_moreOf 174 = .ok (.lstore 4, 2) := dk_55 4 (dk_at dksX8_moreOf_7 9 rfl rfl)
theorem dX8_moreOf_176 : decode cX8_moreOf 176 = .ok (.iconst 0, 1) := dk_3 (dk_at dksX8_moreOf_7 11 rfl rfl)
theorem dX8_moreOf_177 : decode cX8_moreOf 177 = .ok (.istore 6, 2) := dk_54 6 (dk_at dksX8_moreOf_7 12 rfl rfl)
theorem dX8_moreOf_179 : decode cX8_moreOf 179 = .ok (.iload 6, 2) := dk_21 6 (dk_at dksX8_moreOf_7 14 rfl rfl)
theorem dX8_moreOf_181 : decode cX8_moreOf 181 = .ok (.aload_n 0, 1) := dk_42 (dk_at dksX8_moreOf_7 16 rfl rfl)
theorem dX8_moreOf_182 : decode cX8_moreOf 182 = .ok (.getfield 7, 3) := dk_180 0 7 (dk_at dksX8_moreOf_7 17 rfl rfl)
theorem dX8_moreOf_185 : decode cX8_moreOf 185 = .ok (.iload_n 3, 1) := dk_29 (dk_at dksX8_moreOf_7 20 rfl rfl)
theorem dX8_moreOf_186 : decode cX8_moreOf 186 = .ok (.bipush 23, 2) := dk_16 23 (dk_at dksX8_moreOf_7 21 rfl rfl)
theorem dX8_moreOf_188 : decode cX8_moreOf 188 = .ok (.invokestatic 35, 3) := dk_184 0 35 (dk_at dksX8_moreOf_8 0 rfl rfl)
theorem dX8_moreOf_191 : decode cX8_moreOf 191 = .ok (.iaload, 1) := dk_46 (dk_at dksX8_moreOf_8 3 rfl rfl)
theorem dX8_moreOf_192 : decode cX8_moreOf 192 = .ok (.if_icmp .ge 23, 3) := dk_162 0 23 (dk_at dksX8_moreOf_8 4 rfl rfl)
theorem dX8_moreOf_195 : decode cX8_moreOf 195 = .ok (.lload 4, 2) := dk_22 4 (dk_at dksX8_moreOf_8 7 rfl rfl)
theorem dX8_moreOf_197 : decode cX8_moreOf 197 = .ok (.aload_n 0, 1) := dk_42 (dk_at dksX8_moreOf_8 9 rfl rfl)
theorem dX8_moreOf_198 : decode cX8_moreOf 198 = .ok (.iload_n 3, 1) := dk_29 (dk_at dksX8_moreOf_8 10 rfl rfl)
theorem dX8_moreOf_199 : decode cX8_moreOf 199 = .ok (.iload 6, 2) := dk_21 6 (dk_at dksX8_moreOf_8 11 rfl rfl)
theorem dX8_moreOf_201 : decode cX8_moreOf 201 = .ok (.invokevirtual 191, 3) := dk_182 0 191 (dk_at dksX8_moreOf_8 13 rfl rfl)
theorem dX8_moreOf_204 : decode cX8_moreOf 204 = .ok (.invokestatic 232, 3) := dk_184 0 232 (dk_at dksX8_moreOf_8 16 rfl rfl)
theorem dX8_moreOf_207 : decode cX8_moreOf 207 = .ok (.lstore 4, 2) := dk_55 4 (dk_at dksX8_moreOf_8 19 rfl rfl)
theorem dX8_moreOf_209 : decode cX8_moreOf 209 = .ok (.iinc 6 1, 3) := dk_132 6 1 (dk_at dksX8_moreOf_8 21 rfl rfl)
theorem dX8_moreOf_212 : decode cX8_moreOf 212 = .ok (.goto (-33), 3) := dk_167 255 223 (dk_at dksX8_moreOf_9 0 rfl rfl)
theorem dX8_moreOf_215 : decode cX8_moreOf 215 = .ok (.lload 4, 2) := dk_22 4 (dk_at dksX8_moreOf_9 3 rfl rfl)
theorem dX8_moreOf_217 : decode cX8_moreOf 217 = .ok (.aload_n 0, 1) := dk_42 (dk_at dksX8_moreOf_9 5 rfl rfl)
theorem dX8_moreOf_218 : decode cX8_moreOf 218 = .ok (.getfield 7, 3) := dk_180 0 7 (dk_at dksX8_moreOf_9 6 rfl rfl)
theorem dX8_moreOf_221 : decode cX8_moreOf 221 = .ok (.iload_n 3, 1) := dk_29 (dk_at dksX8_moreOf_9 9 rfl rfl)
theorem dX8_moreOf_222 : decode cX8_moreOf 222 = .ok (.bipush 24, 2) := dk_16 24 (dk_at dksX8_moreOf_9 10 rfl rfl)
theorem dX8_moreOf_224 : decode cX8_moreOf 224 = .ok (.invokestatic 35, 3) := dk_184 0 35 (dk_at dksX8_moreOf_9 12 rfl rfl)
theorem dX8_moreOf_227 : decode cX8_moreOf 227 = .ok (.iaload, 1) := dk_46 (dk_at dksX8_moreOf_9 15 rfl rfl)
theorem dX8_moreOf_228 : decode cX8_moreOf 228 = .ok (.invokestatic 232, 3) := dk_184 0 232 (dk_at dksX8_moreOf_9 16 rfl rfl)
theorem dX8_moreOf_231 : decode cX8_moreOf 231 = .ok (.lstore 4, 2) := dk_55 4 (dk_at dksX8_moreOf_9 19 rfl rfl)
theorem dX8_moreOf_233 : decode cX8_moreOf 233 = .ok (.iconst 0, 1) := dk_3 (dk_at dksX8_moreOf_9 21 rfl rfl)
theorem dX8_moreOf_234 : decode cX8_moreOf 234 = .ok (.istore 6, 2) := dk_54 6 (dk_at dksX8_moreOf_9 22 rfl rfl)
theorem dX8_moreOf_236 : decode cX8_moreOf 236 = .ok (.iload 6, 2) := dk_21 6 (dk_at dksX8_moreOf_10 0 rfl rfl)
theorem dX8_moreOf_238 : decode cX8_moreOf 238 = .ok (.aload_n 0, 1) := dk_42 (dk_at dksX8_moreOf_10 2 rfl rfl)
theorem dX8_moreOf_239 : decode cX8_moreOf 239 = .ok (.getfield 7, 3) := dk_180 0 7 (dk_at dksX8_moreOf_10 3 rfl rfl)
theorem dX8_moreOf_242 : decode cX8_moreOf 242 = .ok (.iload_n 3, 1) := dk_29 (dk_at dksX8_moreOf_10 6 rfl rfl)
theorem dX8_moreOf_243 : decode cX8_moreOf 243 = .ok (.bipush 24, 2) := dk_16 24 (dk_at dksX8_moreOf_10 7 rfl rfl)
theorem dX8_moreOf_245 : decode cX8_moreOf 245 = .ok (.invokestatic 35, 3) := dk_184 0 35 (dk_at dksX8_moreOf_10 9 rfl rfl)
theorem dX8_moreOf_248 : decode cX8_moreOf 248 = .ok (.iaload, 1) := dk_46 (dk_at dksX8_moreOf_10 12 rfl rfl)
theorem dX8_moreOf_249 : decode cX8_moreOf 249 = .ok (.if_icmp .ge 53, 3) := dk_162 0 53 (dk_at dksX8_moreOf_10 13 rfl rfl)
theorem dX8_moreOf_252 : decode cX8_moreOf 252 = .ok (.lload 4, 2) := dk_22 4 (dk_at dksX8_moreOf_10 16 rfl rfl)
theorem dX8_moreOf_254 : decode cX8_moreOf 254 = .ok (.aload_n 0, 1) := dk_42 (dk_at dksX8_moreOf_10 18 rfl rfl)
theorem dX8_moreOf_255 : decode cX8_moreOf 255 = .ok (.iload_n 3, 1) := dk_29 (dk_at dksX8_moreOf_10 19 rfl rfl)
theorem dX8_moreOf_256 : decode cX8_moreOf 256 = .ok (.iload 6, 2) := dk_21 6 (dk_at dksX8_moreOf_10 20 rfl rfl)
theorem dX8_moreOf_258 : decode cX8_moreOf 258 = .ok (.invokevirtual 198, 3) := dk_182 0 198 (dk_at dksX8_moreOf_11 0 rfl rfl)
theorem dX8_moreOf_261 : decode cX8_moreOf 261 = .ok (.invokestatic 232, 3) := dk_184 0 232 (dk_at dksX8_moreOf_11 3 rfl rfl)
theorem dX8_moreOf_264 : decode cX8_moreOf 264 = .ok (.aload_n 0, 1) := dk_42 (dk_at dksX8_moreOf_11 6 rfl rfl)
theorem dX8_moreOf_265 : decode cX8_moreOf 265 = .ok (.getfield 7, 3) := dk_180 0 7 (dk_at dksX8_moreOf_11 7 rfl rfl)
theorem dX8_moreOf_268 : decode cX8_moreOf 268 = .ok (.iload_n 3, 1) := dk_29 (dk_at dksX8_moreOf_11 10 rfl rfl)
theorem dX8_moreOf_269 : decode cX8_moreOf 269 = .ok (.iload 6, 2) := dk_21 6 (dk_at dksX8_moreOf_11 11 rfl rfl)
theorem dX8_moreOf_271 : decode cX8_moreOf 271 = .ok (.iconst 2, 1) := dk_5 (dk_at dksX8_moreOf_11 13 rfl rfl)
theorem dX8_moreOf_272 : decode cX8_moreOf 272 = .ok (.invokestatic 159, 3) := dk_184 0 159 (dk_at dksX8_moreOf_11 14 rfl rfl)
theorem dX8_moreOf_275 : decode cX8_moreOf 275 = .ok (.iaload, 1) := dk_46 (dk_at dksX8_moreOf_11 17 rfl rfl)
theorem dX8_moreOf_276 : decode cX8_moreOf 276 = .ok (.invokestatic 232, 3) := dk_184 0 232 (dk_at dksX8_moreOf_11 18 rfl rfl)
theorem dX8_moreOf_279 : decode cX8_moreOf 279 = .ok (.aload_n 0, 1) := dk_42 (dk_at dksX8_moreOf_11 21 rfl rfl)
theorem dX8_moreOf_280 : decode cX8_moreOf 280 = .ok (.getfield 7, 3) := dk_180 0 7 (dk_at dksX8_moreOf_12 0 rfl rfl)
theorem dX8_moreOf_283 : decode cX8_moreOf 283 = .ok (.iload_n 3, 1) := dk_29 (dk_at dksX8_moreOf_12 3 rfl rfl)
theorem dX8_moreOf_284 : decode cX8_moreOf 284 = .ok (.iload 6, 2) := dk_21 6 (dk_at dksX8_moreOf_12 4 rfl rfl)
theorem dX8_moreOf_286 : decode cX8_moreOf 286 = .ok (.iconst 3, 1) := dk_6 (dk_at dksX8_moreOf_12 6 rfl rfl)
theorem dX8_moreOf_287 : decode cX8_moreOf 287 = .ok (.invokestatic 159, 3) := dk_184 0 159 (dk_at dksX8_moreOf_12 7 rfl rfl)
theorem dX8_moreOf_290 : decode cX8_moreOf 290 = .ok (.iaload, 1) := dk_46 (dk_at dksX8_moreOf_12 10 rfl rfl)
theorem dX8_moreOf_291 : decode cX8_moreOf 291 = .ok (.invokestatic 232, 3) := dk_184 0 232 (dk_at dksX8_moreOf_12 11 rfl rfl)
theorem dX8_moreOf_294 : decode cX8_moreOf 294 = .ok (.lstore 4, 2) := dk_55 4 (dk_at dksX8_moreOf_12 14 rfl rfl)
theorem dX8_moreOf_296 : decode cX8_moreOf 296 = .ok (.iinc 6 1, 3) := dk_132 6 1 (dk_at dksX8_moreOf_12 16 rfl rfl)
theorem dX8_moreOf_299 : decode cX8_moreOf 299 = .ok (.goto (-63), 3) := dk_167 255 193 (dk_at dksX8_moreOf_12 19 rfl rfl)
theorem dX8_moreOf_302 : decode cX8_moreOf 302 = .ok (.lload 4, 2) := dk_22 4 (dk_at dksX8_moreOf_12 22 rfl rfl)
theorem dX8_moreOf_304 : decode cX8_moreOf 304 = .ok (.lreturn, 1) := dk_173 (dk_at dksX8_moreOf_13 0 rfl rfl)
theorem q120 : (Jvm.Cond.initialized "ArbitratedBusModel") ∈ lw_all := lw_g (lw_at lw_m1 19 rfl) rfl
theorem q698 : (Jvm.Cond.selects "ArbitratedBusModel" ({ cls := "java/lang/Object", name := "getClass", desc := "()Ljava/lang/Class;" } : Jvm.MethodName) ({ cls := "java/lang/Object", name := "getClass", desc := "()Ljava/lang/Class;" } : Jvm.MethodName)) ∈ lw_all := lw_g (lw_at lw_m3 117 rfl) rfl
theorem q2934 : (Jvm.Cond.instantiable "ArbitratedBusModel" (11 : Nat)) ∈ lw_all := lw_g (lw_at lw_m12 193 rfl) rfl
theorem q2936 : (Jvm.Cond.instanceMethod ({ cls := "ArbitratedBusModel", name := "<init>", desc := "()V" } : Jvm.MethodName)) ∈ lw_all := lw_g (lw_at lw_m12 195 rfl) rfl
theorem q2937 : (Jvm.Cond.code ({ cls := "ArbitratedBusModel", name := "<init>", desc := "()V" } : Jvm.MethodName) prog_29_method_1_code (2 : Nat) (Option.none : Option Jvm.ClassFile.FieldType)) ∈ lw_all := lw_g (lw_at lw_m12 196 rfl) rfl
theorem q2938 : (Jvm.Cond.methodLink "ArbitratedBusModel" (1 : Nat) ({ cls := "java/lang/Object", name := "<init>", desc := "()V" } : Jvm.MethodName)) ∈ lw_all := lw_g (lw_at lw_m12 197 rfl) rfl
theorem q2939 : (Jvm.Cond.methodLink "ArbitratedBusModel" (35 : Nat) ({ cls := "ArbitratedBusModel", name := "at", desc := "(II)I" } : Jvm.MethodName)) ∈ lw_all := lw_g (lw_at lw_m12 198 rfl) rfl
theorem q2940 : (Jvm.Cond.static ({ cls := "ArbitratedBusModel", name := "at", desc := "(II)I" } : Jvm.MethodName)) ∈ lw_all := lw_g (lw_at lw_m12 199 rfl) rfl
theorem q2941 : (Jvm.Cond.code ({ cls := "ArbitratedBusModel", name := "at", desc := "(II)I" } : Jvm.MethodName) prog_29_method_4_code (2 : Nat) (Option.some Jvm.ClassFile.FieldType.int)) ∈ lw_all := lw_g (lw_at lw_m12 200 rfl) rfl
theorem q2942 : (Jvm.Cond.fieldLink "ArbitratedBusModel" (7 : Nat) "ArbitratedBusModel" "v" "[I") ∈ lw_all := lw_g (lw_at lw_m12 201 rfl) rfl
theorem q2943 : (Jvm.Cond.fieldLink "ArbitratedBusModel" (13 : Nat) "ArbitratedBusModel" "spare" "[I") ∈ lw_all := lw_g (lw_at lw_m12 202 rfl) rfl
theorem q2944 : (Jvm.Cond.fieldLink "ArbitratedBusModel" (16 : Nat) "ArbitratedBusModel" "kept" "[I") ∈ lw_all := lw_g (lw_at lw_m12 203 rfl) rfl
theorem q2945 : (Jvm.Cond.fieldLink "ArbitratedBusModel" (19 : Nat) "ArbitratedBusModel" "isKept" "[Z") ∈ lw_all := lw_g (lw_at lw_m12 204 rfl) rfl
theorem q2946 : (Jvm.Cond.fieldLink "ArbitratedBusModel" (23 : Nat) "ArbitratedBusModel" "text" "[I") ∈ lw_all := lw_g (lw_at lw_m12 205 rfl) rfl
theorem q2947 : (Jvm.Cond.fieldLink "ArbitratedBusModel" (211 : Nat) "ArbitratedBusModel" "letters" "I") ∈ lw_all := lw_g (lw_at lw_m12 206 rfl) rfl
theorem q2948 : (Jvm.Cond.fieldLink "ArbitratedBusModel" (26 : Nat) "ArbitratedBusModel" "messages" "[I") ∈ lw_all := lw_g (lw_at lw_m12 207 rfl) rfl
theorem q2949 : (Jvm.Cond.fieldLink "ArbitratedBusModel" (201 : Nat) "ArbitratedBusModel" "many" "I") ∈ lw_all := lw_g (lw_at lw_m12 208 rfl) rfl
theorem q2950 : (Jvm.Cond.fieldLink "ArbitratedBusModel" (29 : Nat) "ArbitratedBusModel" "asked" "[I") ∈ lw_all := lw_g (lw_at lw_m12 209 rfl) rfl
theorem q2951 : (Jvm.Cond.fieldLink "ArbitratedBusModel" (214 : Nat) "ArbitratedBusModel" "place" "I") ∈ lw_all := lw_g (lw_at lw_m12 210 rfl) rfl
theorem q2952 : (Jvm.Cond.fieldLink "ArbitratedBusModel" (32 : Nat) "ArbitratedBusModel" "told" "[I") ∈ lw_all := lw_g (lw_at lw_m12 211 rfl) rfl
theorem q2953 : (Jvm.Cond.laysFinal "ArbitratedBusModel" "ArbitratedBusModel" "v" "[I") ∈ lw_all := lw_g (lw_at lw_m12 212 rfl) rfl
theorem q2954 : (Jvm.Cond.soleField "ArbitratedBusModel" "v") ∈ lw_all := lw_g (lw_at lw_m12 213 rfl) rfl
theorem q2955 : (Jvm.Cond.laysFinal "ArbitratedBusModel" "ArbitratedBusModel" "spare" "[I") ∈ lw_all := lw_g (lw_at lw_m12 214 rfl) rfl
theorem q2956 : (Jvm.Cond.soleField "ArbitratedBusModel" "spare") ∈ lw_all := lw_g (lw_at lw_m12 215 rfl) rfl
theorem q2957 : (Jvm.Cond.laysFinal "ArbitratedBusModel" "ArbitratedBusModel" "kept" "[I") ∈ lw_all := lw_g (lw_at lw_m12 216 rfl) rfl
theorem q2958 : (Jvm.Cond.soleField "ArbitratedBusModel" "kept") ∈ lw_all := lw_g (lw_at lw_m12 217 rfl) rfl
theorem q2959 : (Jvm.Cond.laysFinal "ArbitratedBusModel" "ArbitratedBusModel" "isKept" "[Z") ∈ lw_all := lw_g (lw_at lw_m12 218 rfl) rfl
theorem q2960 : (Jvm.Cond.soleField "ArbitratedBusModel" "isKept") ∈ lw_all := lw_g (lw_at lw_m12 219 rfl) rfl
theorem q2961 : (Jvm.Cond.laysFinal "ArbitratedBusModel" "ArbitratedBusModel" "text" "[I") ∈ lw_all := lw_g (lw_at lw_m12 220 rfl) rfl
theorem q2962 : (Jvm.Cond.soleField "ArbitratedBusModel" "text") ∈ lw_all := lw_g (lw_at lw_m12 221 rfl) rfl
theorem q2963 : (Jvm.Cond.lays "ArbitratedBusModel" "ArbitratedBusModel" "letters" "I") ∈ lw_all := lw_g (lw_at lw_m12 222 rfl) rfl
theorem q2964 : (Jvm.Cond.soleField "ArbitratedBusModel" "letters") ∈ lw_all := lw_g (lw_at lw_m12 223 rfl) rfl
theorem q2965 : (Jvm.Cond.laysFinal "ArbitratedBusModel" "ArbitratedBusModel" "messages" "[I") ∈ lw_all := lw_g (lw_at lw_m12 224 rfl) rfl
theorem q2966 : (Jvm.Cond.soleField "ArbitratedBusModel" "messages") ∈ lw_all := lw_g (lw_at lw_m12 225 rfl) rfl
theorem q2967 : (Jvm.Cond.lays "ArbitratedBusModel" "ArbitratedBusModel" "many" "I") ∈ lw_all := lw_g (lw_at lw_m12 226 rfl) rfl
theorem q2968 : (Jvm.Cond.soleField "ArbitratedBusModel" "many") ∈ lw_all := lw_g (lw_at lw_m12 227 rfl) rfl
theorem q2969 : (Jvm.Cond.laysFinal "ArbitratedBusModel" "ArbitratedBusModel" "asked" "[I") ∈ lw_all := lw_g (lw_at lw_m12 228 rfl) rfl
theorem q2970 : (Jvm.Cond.soleField "ArbitratedBusModel" "asked") ∈ lw_all := lw_g (lw_at lw_m12 229 rfl) rfl
theorem q2971 : (Jvm.Cond.lays "ArbitratedBusModel" "ArbitratedBusModel" "place" "I") ∈ lw_all := lw_g (lw_at lw_m12 230 rfl) rfl
theorem q2972 : (Jvm.Cond.soleField "ArbitratedBusModel" "place") ∈ lw_all := lw_g (lw_at lw_m12 231 rfl) rfl
theorem q2973 : (Jvm.Cond.laysFinal "ArbitratedBusModel" "ArbitratedBusModel" "told" "[I") ∈ lw_all := lw_g (lw_at lw_m12 232 rfl) rfl
theorem q2974 : (Jvm.Cond.soleField "ArbitratedBusModel" "told") ∈ lw_all := lw_g (lw_at lw_m12 233 rfl) rfl
theorem q2975 : (Jvm.Cond.superclass "ArbitratedBusModel" "java/lang/Object") ∈ lw_all := lw_g (lw_at lw_m12 234 rfl) rfl
theorem q2978 : (Jvm.Cond.instanceMethod ({ cls := "ArbitratedBusModel", name := "crc", desc := "(IZII)I" } : Jvm.MethodName)) ∈ lw_all := lw_g (lw_at lw_m12 237 rfl) rfl
theorem q2979 : (Jvm.Cond.selects "ArbitratedBusModel" ({ cls := "ArbitratedBusModel", name := "crc", desc := "(IZII)I" } : Jvm.MethodName) ({ cls := "ArbitratedBusModel", name := "crc", desc := "(IZII)I" } : Jvm.MethodName)) ∈ lw_all := lw_g (lw_at lw_m12 238 rfl) rfl
theorem q2980 : (Jvm.Cond.code ({ cls := "ArbitratedBusModel", name := "crc", desc := "(IZII)I" } : Jvm.MethodName) prog_29_method_14_code (6 : Nat) (Option.some Jvm.ClassFile.FieldType.int)) ∈ lw_all := lw_g (lw_at lw_m12 239 rfl) rfl
theorem q2981 : (Jvm.Cond.methodLink "ArbitratedBusModel" (51 : Nat) ({ cls := "ArbitratedBusModel", name := "isFrame", desc := "(IZII)Z" } : Jvm.MethodName)) ∈ lw_all := lw_g (lw_at lw_m13 0 rfl) rfl
theorem q2982 : (Jvm.Cond.static ({ cls := "ArbitratedBusModel", name := "isFrame", desc := "(IZII)Z" } : Jvm.MethodName)) ∈ lw_all := lw_g (lw_at lw_m13 1 rfl) rfl
theorem q2983 : (Jvm.Cond.code ({ cls := "ArbitratedBusModel", name := "isFrame", desc := "(IZII)Z" } : Jvm.MethodName) prog_29_method_9_code (5 : Nat) (Option.some Jvm.ClassFile.FieldType.boolean)) ∈ lw_all := lw_g (lw_at lw_m13 2 rfl) rfl
theorem q2984 : (Jvm.Cond.methodLink "ArbitratedBusModel" (39 : Nat) ({ cls := "ArbitratedBusModel", name := "in", desc := "(III)Z" } : Jvm.MethodName)) ∈ lw_all := lw_g (lw_at lw_m13 3 rfl) rfl
theorem q2985 : (Jvm.Cond.static ({ cls := "ArbitratedBusModel", name := "in", desc := "(III)Z" } : Jvm.MethodName)) ∈ lw_all := lw_g (lw_at lw_m13 4 rfl) rfl
theorem q2986 : (Jvm.Cond.code ({ cls := "ArbitratedBusModel", name := "in", desc := "(III)Z" } : Jvm.MethodName) prog_29_method_3_code (3 : Nat) (Option.some Jvm.ClassFile.FieldType.boolean)) ∈ lw_all := lw_g (lw_at lw_m13 5 rfl) rfl
theorem q2987 : (Jvm.Cond.methodLink "ArbitratedBusModel" (55 : Nat) ({ cls := "ArbitratedBusModel", name := "lays", desc := "([IIIIII)I" } : Jvm.MethodName)) ∈ lw_all := lw_g (lw_at lw_m13 6 rfl) rfl
theorem q2988 : (Jvm.Cond.static ({ cls := "ArbitratedBusModel", name := "lays", desc := "([IIIIII)I" } : Jvm.MethodName)) ∈ lw_all := lw_g (lw_at lw_m13 7 rfl) rfl
theorem q2989 : (Jvm.Cond.code ({ cls := "ArbitratedBusModel", name := "lays", desc := "([IIIIII)I" } : Jvm.MethodName) prog_29_method_12_code (7 : Nat) (Option.some Jvm.ClassFile.FieldType.int)) ∈ lw_all := lw_g (lw_at lw_m13 8 rfl) rfl
theorem q2990 : (Jvm.Cond.methodLink "ArbitratedBusModel" (43 : Nat) ({ cls := "ArbitratedBusModel", name := "bits", desc := "([IIII)V" } : Jvm.MethodName)) ∈ lw_all := lw_g (lw_at lw_m13 9 rfl) rfl
theorem q2991 : (Jvm.Cond.static ({ cls := "ArbitratedBusModel", name := "bits", desc := "([IIII)V" } : Jvm.MethodName)) ∈ lw_all := lw_g (lw_at lw_m13 10 rfl) rfl
theorem q2992 : (Jvm.Cond.code ({ cls := "ArbitratedBusModel", name := "bits", desc := "([IIII)V" } : Jvm.MethodName) prog_29_method_11_code (5 : Nat) (Option.none : Option Jvm.ClassFile.FieldType)) ∈ lw_all := lw_g (lw_at lw_m13 11 rfl) rfl
theorem q2993 : (Jvm.Cond.methodLink "ArbitratedBusModel" (47 : Nat) ({ cls := "ArbitratedBusModel", name := "crcOf", desc := "([III)I" } : Jvm.MethodName)) ∈ lw_all := lw_g (lw_at lw_m13 12 rfl) rfl
theorem q2994 : (Jvm.Cond.static ({ cls := "ArbitratedBusModel", name := "crcOf", desc := "([III)I" } : Jvm.MethodName)) ∈ lw_all := lw_g (lw_at lw_m13 13 rfl) rfl
theorem q2995 : (Jvm.Cond.code ({ cls := "ArbitratedBusModel", name := "crcOf", desc := "([III)I" } : Jvm.MethodName) prog_29_method_10_code (6 : Nat) (Option.some Jvm.ClassFile.FieldType.int)) ∈ lw_all := lw_g (lw_at lw_m13 14 rfl) rfl
theorem q2997 : (Jvm.Cond.instanceMethod ({ cls := "ArbitratedBusModel", name := "frameBits", desc := "(IZII)I" } : Jvm.MethodName)) ∈ lw_all := lw_g (lw_at lw_m13 16 rfl) rfl
theorem q2998 : (Jvm.Cond.selects "ArbitratedBusModel" ({ cls := "ArbitratedBusModel", name := "frameBits", desc := "(IZII)I" } : Jvm.MethodName) ({ cls := "ArbitratedBusModel", name := "frameBits", desc := "(IZII)I" } : Jvm.MethodName)) ∈ lw_all := lw_g (lw_at lw_m13 17 rfl) rfl
theorem q2999 : (Jvm.Cond.code ({ cls := "ArbitratedBusModel", name := "frameBits", desc := "(IZII)I" } : Jvm.MethodName) prog_29_method_15_code (5 : Nat) (Option.some Jvm.ClassFile.FieldType.int)) ∈ lw_all := lw_g (lw_at lw_m13 18 rfl) rfl
theorem q3000 : (Jvm.Cond.methodLink "ArbitratedBusModel" (59 : Nat) ({ cls := "ArbitratedBusModel", name := "onBus", desc := "(II)I" } : Jvm.MethodName)) ∈ lw_all := lw_g (lw_at lw_m13 19 rfl) rfl
theorem q3001 : (Jvm.Cond.privateMethod ({ cls := "ArbitratedBusModel", name := "onBus", desc := "(II)I" } : Jvm.MethodName)) ∈ lw_tbl := lw_at lw_m13 20 rfl
theorem q3002 : (Jvm.Cond.instanceMethod ({ cls := "ArbitratedBusModel", name := "onBus", desc := "(II)I" } : Jvm.MethodName)) ∈ lw_all := lw_g (lw_at lw_m13 21 rfl) rfl
theorem q3003 : (Jvm.Cond.code ({ cls := "ArbitratedBusModel", name := "onBus", desc := "(II)I" } : Jvm.MethodName) prog_29_method_13_code (8 : Nat) (Option.some Jvm.ClassFile.FieldType.int)) ∈ lw_all := lw_g (lw_at lw_m13 22 rfl) rfl
theorem q3005 : (Jvm.Cond.instanceMethod ({ cls := "ArbitratedBusModel", name := "frameBit", desc := "(IZIII)I" } : Jvm.MethodName)) ∈ lw_all := lw_g (lw_at lw_m13 24 rfl) rfl
theorem q3006 : (Jvm.Cond.selects "ArbitratedBusModel" ({ cls := "ArbitratedBusModel", name := "frameBit", desc := "(IZIII)I" } : Jvm.MethodName) ({ cls := "ArbitratedBusModel", name := "frameBit", desc := "(IZIII)I" } : Jvm.MethodName)) ∈ lw_all := lw_g (lw_at lw_m13 25 rfl) rfl
theorem q3007 : (Jvm.Cond.code ({ cls := "ArbitratedBusModel", name := "frameBit", desc := "(IZIII)I" } : Jvm.MethodName) prog_29_method_16_code (6 : Nat) (Option.some Jvm.ClassFile.FieldType.int)) ∈ lw_all := lw_g (lw_at lw_m13 26 rfl) rfl
theorem q3009 : (Jvm.Cond.instanceMethod ({ cls := "ArbitratedBusModel", name := "worstBits", desc := "(I)I" } : Jvm.MethodName)) ∈ lw_all := lw_g (lw_at lw_m13 28 rfl) rfl
theorem q3010 : (Jvm.Cond.selects "ArbitratedBusModel" ({ cls := "ArbitratedBusModel", name := "worstBits", desc := "(I)I" } : Jvm.MethodName) ({ cls := "ArbitratedBusModel", name := "worstBits", desc := "(I)I" } : Jvm.MethodName)) ∈ lw_all := lw_g (lw_at lw_m13 29 rfl) rfl
theorem q3011 : (Jvm.Cond.code ({ cls := "ArbitratedBusModel", name := "worstBits", desc := "(I)I" } : Jvm.MethodName) prog_29_method_18_code (2 : Nat) (Option.some Jvm.ClassFile.FieldType.int)) ∈ lw_all := lw_g (lw_at lw_m13 30 rfl) rfl
theorem q3012 : (Jvm.Cond.methodLink "ArbitratedBusModel" (62 : Nat) ({ cls := "ArbitratedBusModel", name := "worst", desc := "(I)I" } : Jvm.MethodName)) ∈ lw_all := lw_g (lw_at lw_m13 31 rfl) rfl
theorem q3013 : (Jvm.Cond.static ({ cls := "ArbitratedBusModel", name := "worst", desc := "(I)I" } : Jvm.MethodName)) ∈ lw_all := lw_g (lw_at lw_m13 32 rfl) rfl
theorem q3014 : (Jvm.Cond.code ({ cls := "ArbitratedBusModel", name := "worst", desc := "(I)I" } : Jvm.MethodName) prog_29_method_17_code (1 : Nat) (Option.some Jvm.ClassFile.FieldType.int)) ∈ lw_all := lw_g (lw_at lw_m13 33 rfl) rfl
theorem q3016 : (Jvm.Cond.instanceMethod ({ cls := "ArbitratedBusModel", name := "setLimits", desc := "(III)I" } : Jvm.MethodName)) ∈ lw_all := lw_g (lw_at lw_m13 35 rfl) rfl
theorem q3017 : (Jvm.Cond.selects "ArbitratedBusModel" ({ cls := "ArbitratedBusModel", name := "setLimits", desc := "(III)I" } : Jvm.MethodName) ({ cls := "ArbitratedBusModel", name := "setLimits", desc := "(III)I" } : Jvm.MethodName)) ∈ lw_all := lw_g (lw_at lw_m13 36 rfl) rfl
theorem q3018 : (Jvm.Cond.code ({ cls := "ArbitratedBusModel", name := "setLimits", desc := "(III)I" } : Jvm.MethodName) prog_29_method_19_code (5 : Nat) (Option.some Jvm.ClassFile.FieldType.int)) ∈ lw_all := lw_g (lw_at lw_m13 37 rfl) rfl
theorem q3020 : (Jvm.Cond.instanceMethod ({ cls := "ArbitratedBusModel", name := "setFilter", desc := "(III)I" } : Jvm.MethodName)) ∈ lw_all := lw_g (lw_at lw_m13 39 rfl) rfl
theorem q3021 : (Jvm.Cond.selects "ArbitratedBusModel" ({ cls := "ArbitratedBusModel", name := "setFilter", desc := "(III)I" } : Jvm.MethodName) ({ cls := "ArbitratedBusModel", name := "setFilter", desc := "(III)I" } : Jvm.MethodName)) ∈ lw_all := lw_g (lw_at lw_m13 40 rfl) rfl
theorem q3022 : (Jvm.Cond.code ({ cls := "ArbitratedBusModel", name := "setFilter", desc := "(III)I" } : Jvm.MethodName) prog_29_method_20_code (5 : Nat) (Option.some Jvm.ClassFile.FieldType.int)) ∈ lw_all := lw_g (lw_at lw_m13 41 rfl) rfl
theorem q3023 : (Jvm.Cond.methodLink "ArbitratedBusModel" (66 : Nat) ({ cls := "ArbitratedBusModel", name := "isNode", desc := "(I)Z" } : Jvm.MethodName)) ∈ lw_all := lw_g (lw_at lw_m13 42 rfl) rfl
theorem q3024 : (Jvm.Cond.static ({ cls := "ArbitratedBusModel", name := "isNode", desc := "(I)Z" } : Jvm.MethodName)) ∈ lw_all := lw_g (lw_at lw_m13 43 rfl) rfl
theorem q3025 : (Jvm.Cond.code ({ cls := "ArbitratedBusModel", name := "isNode", desc := "(I)Z" } : Jvm.MethodName) prog_29_method_8_code (1 : Nat) (Option.some Jvm.ClassFile.FieldType.boolean)) ∈ lw_all := lw_g (lw_at lw_m13 44 rfl) rfl
theorem q3027 : (Jvm.Cond.instanceMethod ({ cls := "ArbitratedBusModel", name := "setAnswer", desc := "(IIII)I" } : Jvm.MethodName)) ∈ lw_all := lw_g (lw_at lw_m13 46 rfl) rfl
theorem q3028 : (Jvm.Cond.selects "ArbitratedBusModel" ({ cls := "ArbitratedBusModel", name := "setAnswer", desc := "(IIII)I" } : Jvm.MethodName) ({ cls := "ArbitratedBusModel", name := "setAnswer", desc := "(IIII)I" } : Jvm.MethodName)) ∈ lw_all := lw_g (lw_at lw_m13 47 rfl) rfl
theorem q3029 : (Jvm.Cond.code ({ cls := "ArbitratedBusModel", name := "setAnswer", desc := "(IIII)I" } : Jvm.MethodName) prog_29_method_22_code (6 : Nat) (Option.some Jvm.ClassFile.FieldType.int)) ∈ lw_all := lw_g (lw_at lw_m13 48 rfl) rfl
theorem q3030 : (Jvm.Cond.methodLink "ArbitratedBusModel" (74 : Nat) ({ cls := "ArbitratedBusModel", name := "answerFor", desc := "(II)I" } : Jvm.MethodName)) ∈ lw_all := lw_g (lw_at lw_m13 49 rfl) rfl
theorem q3031 : (Jvm.Cond.privateMethod ({ cls := "ArbitratedBusModel", name := "answerFor", desc := "(II)I" } : Jvm.MethodName)) ∈ lw_tbl := lw_at lw_m13 50 rfl
theorem q3032 : (Jvm.Cond.instanceMethod ({ cls := "ArbitratedBusModel", name := "answerFor", desc := "(II)I" } : Jvm.MethodName)) ∈ lw_all := lw_g (lw_at lw_m13 51 rfl) rfl
theorem q3033 : (Jvm.Cond.code ({ cls := "ArbitratedBusModel", name := "answerFor", desc := "(II)I" } : Jvm.MethodName) prog_29_method_21_code (4 : Nat) (Option.some Jvm.ClassFile.FieldType.int)) ∈ lw_all := lw_g (lw_at lw_m13 52 rfl) rfl
theorem q3034 : (Jvm.Cond.methodLink "ArbitratedBusModel" (70 : Nat) ({ cls := "ArbitratedBusModel", name := "answer", desc := "(III)I" } : Jvm.MethodName)) ∈ lw_all := lw_g (lw_at lw_m13 53 rfl) rfl
theorem q3035 : (Jvm.Cond.static ({ cls := "ArbitratedBusModel", name := "answer", desc := "(III)I" } : Jvm.MethodName)) ∈ lw_all := lw_g (lw_at lw_m13 54 rfl) rfl
theorem q3036 : (Jvm.Cond.code ({ cls := "ArbitratedBusModel", name := "answer", desc := "(III)I" } : Jvm.MethodName) prog_29_method_7_code (3 : Nat) (Option.some Jvm.ClassFile.FieldType.int)) ∈ lw_all := lw_g (lw_at lw_m13 55 rfl) rfl
theorem q3038 : (Jvm.Cond.instanceMethod ({ cls := "ArbitratedBusModel", name := "removeAnswer", desc := "(II)I" } : Jvm.MethodName)) ∈ lw_all := lw_g (lw_at lw_m13 57 rfl) rfl
theorem q3039 : (Jvm.Cond.selects "ArbitratedBusModel" ({ cls := "ArbitratedBusModel", name := "removeAnswer", desc := "(II)I" } : Jvm.MethodName) ({ cls := "ArbitratedBusModel", name := "removeAnswer", desc := "(II)I" } : Jvm.MethodName)) ∈ lw_all := lw_g (lw_at lw_m13 58 rfl) rfl
theorem q3040 : (Jvm.Cond.code ({ cls := "ArbitratedBusModel", name := "removeAnswer", desc := "(II)I" } : Jvm.MethodName) prog_29_method_23_code (5 : Nat) (Option.some Jvm.ClassFile.FieldType.int)) ∈ lw_all := lw_g (lw_at lw_m13 59 rfl) rfl
theorem q3042 : (Jvm.Cond.instanceMethod ({ cls := "ArbitratedBusModel", name := "detach", desc := "(I)I" } : Jvm.MethodName)) ∈ lw_all := lw_g (lw_at lw_m13 61 rfl) rfl
theorem q3043 : (Jvm.Cond.selects "ArbitratedBusModel" ({ cls := "ArbitratedBusModel", name := "detach", desc := "(I)I" } : Jvm.MethodName) ({ cls := "ArbitratedBusModel", name := "detach", desc := "(I)I" } : Jvm.MethodName)) ∈ lw_all := lw_g (lw_at lw_m13 62 rfl) rfl
theorem q3044 : (Jvm.Cond.code ({ cls := "ArbitratedBusModel", name := "detach", desc := "(I)I" } : Jvm.MethodName) prog_29_method_26_code (3 : Nat) (Option.some Jvm.ClassFile.FieldType.int)) ∈ lw_all := lw_g (lw_at lw_m13 63 rfl) rfl
theorem q3045 : (Jvm.Cond.methodLink "ArbitratedBusModel" (84 : Nat) ({ cls := "ArbitratedBusModel", name := "goes", desc := "(II)V" } : Jvm.MethodName)) ∈ lw_all := lw_g (lw_at lw_m13 64 rfl) rfl
theorem q3046 : (Jvm.Cond.privateMethod ({ cls := "ArbitratedBusModel", name := "goes", desc := "(II)V" } : Jvm.MethodName)) ∈ lw_tbl := lw_at lw_m13 65 rfl
theorem q3047 : (Jvm.Cond.instanceMethod ({ cls := "ArbitratedBusModel", name := "goes", desc := "(II)V" } : Jvm.MethodName)) ∈ lw_all := lw_g (lw_at lw_m13 66 rfl) rfl
theorem q3048 : (Jvm.Cond.code ({ cls := "ArbitratedBusModel", name := "goes", desc := "(II)V" } : Jvm.MethodName) prog_29_method_24_code (3 : Nat) (Option.none : Option Jvm.ClassFile.FieldType)) ∈ lw_all := lw_g (lw_at lw_m13 67 rfl) rfl
theorem q3049 : (Jvm.Cond.methodLink "ArbitratedBusModel" (77 : Nat) ({ cls := "ArbitratedBusModel", name := "releases", desc := "(I)V" } : Jvm.MethodName)) ∈ lw_all := lw_g (lw_at lw_m13 68 rfl) rfl
theorem q3050 : (Jvm.Cond.privateMethod ({ cls := "ArbitratedBusModel", name := "releases", desc := "(I)V" } : Jvm.MethodName)) ∈ lw_tbl := lw_at lw_m13 69 rfl
theorem q3051 : (Jvm.Cond.instanceMethod ({ cls := "ArbitratedBusModel", name := "releases", desc := "(I)V" } : Jvm.MethodName)) ∈ lw_all := lw_g (lw_at lw_m13 70 rfl) rfl
theorem q3052 : (Jvm.Cond.code ({ cls := "ArbitratedBusModel", name := "releases", desc := "(I)V" } : Jvm.MethodName) prog_29_method_25_code (3 : Nat) (Option.none : Option Jvm.ClassFile.FieldType)) ∈ lw_all := lw_g (lw_at lw_m13 71 rfl) rfl
theorem q3053 : (Jvm.Cond.methodLink "ArbitratedBusModel" (81 : Nat) ({ cls := "ArbitratedBusModel", name := "wait", desc := "(III)I" } : Jvm.MethodName)) ∈ lw_all := lw_g (lw_at lw_m13 72 rfl) rfl
theorem q3054 : (Jvm.Cond.static ({ cls := "ArbitratedBusModel", name := "wait", desc := "(III)I" } : Jvm.MethodName)) ∈ lw_all := lw_g (lw_at lw_m13 73 rfl) rfl
theorem q3055 : (Jvm.Cond.code ({ cls := "ArbitratedBusModel", name := "wait", desc := "(III)I" } : Jvm.MethodName) prog_29_method_5_code (3 : Nat) (Option.some Jvm.ClassFile.FieldType.int)) ∈ lw_all := lw_g (lw_at lw_m13 74 rfl) rfl
theorem q3057 : (Jvm.Cond.instanceMethod ({ cls := "ArbitratedBusModel", name := "attach", desc := "(I)I" } : Jvm.MethodName)) ∈ lw_all := lw_g (lw_at lw_m13 76 rfl) rfl
theorem q3058 : (Jvm.Cond.selects "ArbitratedBusModel" ({ cls := "ArbitratedBusModel", name := "attach", desc := "(I)I" } : Jvm.MethodName) ({ cls := "ArbitratedBusModel", name := "attach", desc := "(I)I" } : Jvm.MethodName)) ∈ lw_all := lw_g (lw_at lw_m13 77 rfl) rfl
theorem q3059 : (Jvm.Cond.code ({ cls := "ArbitratedBusModel", name := "attach", desc := "(I)I" } : Jvm.MethodName) prog_29_method_27_code (4 : Nat) (Option.some Jvm.ClassFile.FieldType.int)) ∈ lw_all := lw_g (lw_at lw_m13 78 rfl) rfl
theorem q3061 : (Jvm.Cond.instanceMethod ({ cls := "ArbitratedBusModel", name := "request", desc := "(IIZII)I" } : Jvm.MethodName)) ∈ lw_all := lw_g (lw_at lw_m13 80 rfl) rfl
theorem q3062 : (Jvm.Cond.selects "ArbitratedBusModel" ({ cls := "ArbitratedBusModel", name := "request", desc := "(IIZII)I" } : Jvm.MethodName) ({ cls := "ArbitratedBusModel", name := "request", desc := "(IIZII)I" } : Jvm.MethodName)) ∈ lw_all := lw_g (lw_at lw_m13 81 rfl) rfl
theorem q3063 : (Jvm.Cond.code ({ cls := "ArbitratedBusModel", name := "request", desc := "(IIZII)I" } : Jvm.MethodName) prog_29_method_31_code (6 : Nat) (Option.some Jvm.ClassFile.FieldType.int)) ∈ lw_all := lw_g (lw_at lw_m13 82 rfl) rfl
theorem q3064 : (Jvm.Cond.methodLink "ArbitratedBusModel" (88 : Nat) ({ cls := "ArbitratedBusModel", name := "isRoom", desc := "(I)Z" } : Jvm.MethodName)) ∈ lw_all := lw_g (lw_at lw_m13 83 rfl) rfl
theorem q3065 : (Jvm.Cond.privateMethod ({ cls := "ArbitratedBusModel", name := "isRoom", desc := "(I)Z" } : Jvm.MethodName)) ∈ lw_tbl := lw_at lw_m13 84 rfl
theorem q3066 : (Jvm.Cond.instanceMethod ({ cls := "ArbitratedBusModel", name := "isRoom", desc := "(I)Z" } : Jvm.MethodName)) ∈ lw_all := lw_g (lw_at lw_m13 85 rfl) rfl
theorem q3067 : (Jvm.Cond.code ({ cls := "ArbitratedBusModel", name := "isRoom", desc := "(I)Z" } : Jvm.MethodName) prog_29_method_28_code (2 : Nat) (Option.some Jvm.ClassFile.FieldType.boolean)) ∈ lw_all := lw_g (lw_at lw_m13 86 rfl) rfl
theorem q3068 : (Jvm.Cond.methodLink "ArbitratedBusModel" (91 : Nat) ({ cls := "ArbitratedBusModel", name := "waits", desc := "(IIIII)V" } : Jvm.MethodName)) ∈ lw_all := lw_g (lw_at lw_m13 87 rfl) rfl
theorem q3069 : (Jvm.Cond.privateMethod ({ cls := "ArbitratedBusModel", name := "waits", desc := "(IIIII)V" } : Jvm.MethodName)) ∈ lw_tbl := lw_at lw_m13 88 rfl
theorem q3070 : (Jvm.Cond.instanceMethod ({ cls := "ArbitratedBusModel", name := "waits", desc := "(IIIII)V" } : Jvm.MethodName)) ∈ lw_all := lw_g (lw_at lw_m13 89 rfl) rfl
theorem q3071 : (Jvm.Cond.code ({ cls := "ArbitratedBusModel", name := "waits", desc := "(IIIII)V" } : Jvm.MethodName) prog_29_method_29_code (9 : Nat) (Option.none : Option Jvm.ClassFile.FieldType)) ∈ lw_all := lw_g (lw_at lw_m13 90 rfl) rfl
theorem q3073 : (Jvm.Cond.instanceMethod ({ cls := "ArbitratedBusModel", name := "cancel", desc := "(II)I" } : Jvm.MethodName)) ∈ lw_all := lw_g (lw_at lw_m13 92 rfl) rfl
theorem q3074 : (Jvm.Cond.selects "ArbitratedBusModel" ({ cls := "ArbitratedBusModel", name := "cancel", desc := "(II)I" } : Jvm.MethodName) ({ cls := "ArbitratedBusModel", name := "cancel", desc := "(II)I" } : Jvm.MethodName)) ∈ lw_all := lw_g (lw_at lw_m13 93 rfl) rfl
theorem q3075 : (Jvm.Cond.code ({ cls := "ArbitratedBusModel", name := "cancel", desc := "(II)I" } : Jvm.MethodName) prog_29_method_32_code (5 : Nat) (Option.some Jvm.ClassFile.FieldType.int)) ∈ lw_all := lw_g (lw_at lw_m13 94 rfl) rfl
theorem q3076 : (Jvm.Cond.methodLink "ArbitratedBusModel" (95 : Nat) ({ cls := "ArbitratedBusModel", name := "unwaits", desc := "(II)V" } : Jvm.MethodName)) ∈ lw_all := lw_g (lw_at lw_m13 95 rfl) rfl
theorem q3077 : (Jvm.Cond.privateMethod ({ cls := "ArbitratedBusModel", name := "unwaits", desc := "(II)V" } : Jvm.MethodName)) ∈ lw_tbl := lw_at lw_m13 96 rfl
theorem q3078 : (Jvm.Cond.instanceMethod ({ cls := "ArbitratedBusModel", name := "unwaits", desc := "(II)V" } : Jvm.MethodName)) ∈ lw_all := lw_g (lw_at lw_m13 97 rfl) rfl
theorem q3079 : (Jvm.Cond.code ({ cls := "ArbitratedBusModel", name := "unwaits", desc := "(II)V" } : Jvm.MethodName) prog_29_method_30_code (4 : Nat) (Option.none : Option Jvm.ClassFile.FieldType)) ∈ lw_all := lw_g (lw_at lw_m13 98 rfl) rfl
theorem q3081 : (Jvm.Cond.instanceMethod ({ cls := "ArbitratedBusModel", name := "disturb", desc := "(II)I" } : Jvm.MethodName)) ∈ lw_all := lw_g (lw_at lw_m13 100 rfl) rfl
theorem q3082 : (Jvm.Cond.selects "ArbitratedBusModel" ({ cls := "ArbitratedBusModel", name := "disturb", desc := "(II)I" } : Jvm.MethodName) ({ cls := "ArbitratedBusModel", name := "disturb", desc := "(II)I" } : Jvm.MethodName)) ∈ lw_all := lw_g (lw_at lw_m13 101 rfl) rfl
theorem q3083 : (Jvm.Cond.code ({ cls := "ArbitratedBusModel", name := "disturb", desc := "(II)I" } : Jvm.MethodName) prog_29_method_34_code (3 : Nat) (Option.some Jvm.ClassFile.FieldType.int)) ∈ lw_all := lw_g (lw_at lw_m13 102 rfl) rfl
theorem q3085 : (Jvm.Cond.instanceMethod ({ cls := "ArbitratedBusModel", name := "run", desc := "(I)I" } : Jvm.MethodName)) ∈ lw_all := lw_g (lw_at lw_m13 104 rfl) rfl
theorem q3086 : (Jvm.Cond.selects "ArbitratedBusModel" ({ cls := "ArbitratedBusModel", name := "run", desc := "(I)I" } : Jvm.MethodName) ({ cls := "ArbitratedBusModel", name := "run", desc := "(I)I" } : Jvm.MethodName)) ∈ lw_all := lw_g (lw_at lw_m13 105 rfl) rfl
theorem q3087 : (Jvm.Cond.code ({ cls := "ArbitratedBusModel", name := "run", desc := "(I)I" } : Jvm.MethodName) prog_29_method_60_code (4 : Nat) (Option.some Jvm.ClassFile.FieldType.int)) ∈ lw_all := lw_g (lw_at lw_m13 106 rfl) rfl
theorem q3088 : (Jvm.Cond.methodLink "ArbitratedBusModel" (175 : Nat) ({ cls := "ArbitratedBusModel", name := "sentByAll", desc := "()I" } : Jvm.MethodName)) ∈ lw_all := lw_g (lw_at lw_m13 107 rfl) rfl
theorem q3089 : (Jvm.Cond.privateMethod ({ cls := "ArbitratedBusModel", name := "sentByAll", desc := "()I" } : Jvm.MethodName)) ∈ lw_tbl := lw_at lw_m13 108 rfl
theorem q3090 : (Jvm.Cond.instanceMethod ({ cls := "ArbitratedBusModel", name := "sentByAll", desc := "()I" } : Jvm.MethodName)) ∈ lw_all := lw_g (lw_at lw_m13 109 rfl) rfl
theorem q3091 : (Jvm.Cond.code ({ cls := "ArbitratedBusModel", name := "sentByAll", desc := "()I" } : Jvm.MethodName) prog_29_method_58_code (1 : Nat) (Option.some Jvm.ClassFile.FieldType.int)) ∈ lw_all := lw_g (lw_at lw_m13 110 rfl) rfl
theorem q3092 : (Jvm.Cond.methodLink "ArbitratedBusModel" (178 : Nat) ({ cls := "ArbitratedBusModel", name := "bit", desc := "()V" } : Jvm.MethodName)) ∈ lw_all := lw_g (lw_at lw_m13 111 rfl) rfl
theorem q3093 : (Jvm.Cond.privateMethod ({ cls := "ArbitratedBusModel", name := "bit", desc := "()V" } : Jvm.MethodName)) ∈ lw_tbl := lw_at lw_m13 112 rfl
theorem q3094 : (Jvm.Cond.instanceMethod ({ cls := "ArbitratedBusModel", name := "bit", desc := "()V" } : Jvm.MethodName)) ∈ lw_all := lw_g (lw_at lw_m13 113 rfl) rfl
theorem q3095 : (Jvm.Cond.code ({ cls := "ArbitratedBusModel", name := "bit", desc := "()V" } : Jvm.MethodName) prog_29_method_59_code (4 : Nat) (Option.none : Option Jvm.ClassFile.FieldType)) ∈ lw_all := lw_g (lw_at lw_m13 114 rfl) rfl
theorem q3096 : (Jvm.Cond.methodLink "ArbitratedBusModel" (162 : Nat) ({ cls := "ArbitratedBusModel", name := "drives", desc := "(I)I" } : Jvm.MethodName)) ∈ lw_all := lw_g (lw_at lw_m13 115 rfl) rfl
theorem q3097 : (Jvm.Cond.privateMethod ({ cls := "ArbitratedBusModel", name := "drives", desc := "(I)I" } : Jvm.MethodName)) ∈ lw_tbl := lw_at lw_m13 116 rfl
theorem q3098 : (Jvm.Cond.instanceMethod ({ cls := "ArbitratedBusModel", name := "drives", desc := "(I)I" } : Jvm.MethodName)) ∈ lw_all := lw_g (lw_at lw_m13 117 rfl) rfl
theorem q3099 : (Jvm.Cond.code ({ cls := "ArbitratedBusModel", name := "drives", desc := "(I)I" } : Jvm.MethodName) prog_29_method_41_code (2 : Nat) (Option.some Jvm.ClassFile.FieldType.int)) ∈ lw_all := lw_g (lw_at lw_m13 118 rfl) rfl
theorem q3100 : (Jvm.Cond.methodLink "ArbitratedBusModel" (107 : Nat) ({ cls := "ArbitratedBusModel", name := "drivesFrame", desc := "(I)I" } : Jvm.MethodName)) ∈ lw_all := lw_g (lw_at lw_m13 119 rfl) rfl
theorem q3101 : (Jvm.Cond.privateMethod ({ cls := "ArbitratedBusModel", name := "drivesFrame", desc := "(I)I" } : Jvm.MethodName)) ∈ lw_tbl := lw_at lw_m13 120 rfl
theorem q3102 : (Jvm.Cond.instanceMethod ({ cls := "ArbitratedBusModel", name := "drivesFrame", desc := "(I)I" } : Jvm.MethodName)) ∈ lw_all := lw_g (lw_at lw_m13 121 rfl) rfl
theorem q3103 : (Jvm.Cond.code ({ cls := "ArbitratedBusModel", name := "drivesFrame", desc := "(I)I" } : Jvm.MethodName) prog_29_method_42_code (3 : Nat) (Option.some Jvm.ClassFile.FieldType.int)) ∈ lw_all := lw_g (lw_at lw_m13 122 rfl) rfl
theorem q3104 : (Jvm.Cond.methodLink "ArbitratedBusModel" (110 : Nat) ({ cls := "ArbitratedBusModel", name := "isTransmitting", desc := "(I)Z" } : Jvm.MethodName)) ∈ lw_all := lw_g (lw_at lw_m13 123 rfl) rfl
theorem q3105 : (Jvm.Cond.privateMethod ({ cls := "ArbitratedBusModel", name := "isTransmitting", desc := "(I)Z" } : Jvm.MethodName)) ∈ lw_tbl := lw_at lw_m13 124 rfl
theorem q3106 : (Jvm.Cond.instanceMethod ({ cls := "ArbitratedBusModel", name := "isTransmitting", desc := "(I)Z" } : Jvm.MethodName)) ∈ lw_all := lw_g (lw_at lw_m13 125 rfl) rfl
theorem q3107 : (Jvm.Cond.code ({ cls := "ArbitratedBusModel", name := "isTransmitting", desc := "(I)Z" } : Jvm.MethodName) prog_29_method_40_code (2 : Nat) (Option.some Jvm.ClassFile.FieldType.boolean)) ∈ lw_all := lw_g (lw_at lw_m13 126 rfl) rfl
theorem q3108 : (Jvm.Cond.methodLink "ArbitratedBusModel" (113 : Nat) ({ cls := "ArbitratedBusModel", name := "isChecked", desc := "(I)Z" } : Jvm.MethodName)) ∈ lw_all := lw_g (lw_at lw_m13 127 rfl) rfl
theorem q3109 : (Jvm.Cond.privateMethod ({ cls := "ArbitratedBusModel", name := "isChecked", desc := "(I)Z" } : Jvm.MethodName)) ∈ lw_tbl := lw_at lw_m13 128 rfl
theorem q3110 : (Jvm.Cond.instanceMethod ({ cls := "ArbitratedBusModel", name := "isChecked", desc := "(I)Z" } : Jvm.MethodName)) ∈ lw_all := lw_g (lw_at lw_m13 129 rfl) rfl
theorem q3111 : (Jvm.Cond.code ({ cls := "ArbitratedBusModel", name := "isChecked", desc := "(I)Z" } : Jvm.MethodName) prog_29_method_39_code (3 : Nat) (Option.some Jvm.ClassFile.FieldType.boolean)) ∈ lw_all := lw_g (lw_at lw_m13 130 rfl) rfl
theorem q3112 : (Jvm.Cond.methodLink "ArbitratedBusModel" (104 : Nat) ({ cls := "ArbitratedBusModel", name := "total", desc := "(I)I" } : Jvm.MethodName)) ∈ lw_all := lw_g (lw_at lw_m13 131 rfl) rfl
theorem q3113 : (Jvm.Cond.privateMethod ({ cls := "ArbitratedBusModel", name := "total", desc := "(I)I" } : Jvm.MethodName)) ∈ lw_tbl := lw_at lw_m13 132 rfl
theorem q3114 : (Jvm.Cond.instanceMethod ({ cls := "ArbitratedBusModel", name := "total", desc := "(I)I" } : Jvm.MethodName)) ∈ lw_all := lw_g (lw_at lw_m13 133 rfl) rfl
theorem q3115 : (Jvm.Cond.code ({ cls := "ArbitratedBusModel", name := "total", desc := "(I)I" } : Jvm.MethodName) prog_29_method_36_code (2 : Nat) (Option.some Jvm.ClassFile.FieldType.int)) ∈ lw_all := lw_g (lw_at lw_m13 134 rfl) rfl
theorem q3116 : (Jvm.Cond.methodLink "ArbitratedBusModel" (98 : Nat) ({ cls := "ArbitratedBusModel", name := "sampledLength", desc := "(I)I" } : Jvm.MethodName)) ∈ lw_all := lw_g (lw_at lw_m13 135 rfl) rfl
theorem q3117 : (Jvm.Cond.privateMethod ({ cls := "ArbitratedBusModel", name := "sampledLength", desc := "(I)I" } : Jvm.MethodName)) ∈ lw_tbl := lw_at lw_m13 136 rfl
theorem q3118 : (Jvm.Cond.instanceMethod ({ cls := "ArbitratedBusModel", name := "sampledLength", desc := "(I)I" } : Jvm.MethodName)) ∈ lw_all := lw_g (lw_at lw_m13 137 rfl) rfl
theorem q3119 : (Jvm.Cond.code ({ cls := "ArbitratedBusModel", name := "sampledLength", desc := "(I)I" } : Jvm.MethodName) prog_29_method_38_code (2 : Nat) (Option.some Jvm.ClassFile.FieldType.int)) ∈ lw_all := lw_g (lw_at lw_m13 138 rfl) rfl
theorem q3120 : (Jvm.Cond.methodLink "ArbitratedBusModel" (101 : Nat) ({ cls := "ArbitratedBusModel", name := "sampled", desc := "(III)I" } : Jvm.MethodName)) ∈ lw_all := lw_g (lw_at lw_m13 139 rfl) rfl
theorem q3121 : (Jvm.Cond.privateMethod ({ cls := "ArbitratedBusModel", name := "sampled", desc := "(III)I" } : Jvm.MethodName)) ∈ lw_tbl := lw_at lw_m13 140 rfl
theorem q3122 : (Jvm.Cond.instanceMethod ({ cls := "ArbitratedBusModel", name := "sampled", desc := "(III)I" } : Jvm.MethodName)) ∈ lw_all := lw_g (lw_at lw_m13 141 rfl) rfl
theorem q3123 : (Jvm.Cond.code ({ cls := "ArbitratedBusModel", name := "sampled", desc := "(III)I" } : Jvm.MethodName) prog_29_method_37_code (6 : Nat) (Option.some Jvm.ClassFile.FieldType.int)) ∈ lw_all := lw_g (lw_at lw_m13 142 rfl) rfl
theorem q3124 : (Jvm.Cond.methodLink "ArbitratedBusModel" (165 : Nat) ({ cls := "ArbitratedBusModel", name := "inverted", desc := "()I" } : Jvm.MethodName)) ∈ lw_all := lw_g (lw_at lw_m13 143 rfl) rfl
theorem q3125 : (Jvm.Cond.privateMethod ({ cls := "ArbitratedBusModel", name := "inverted", desc := "()I" } : Jvm.MethodName)) ∈ lw_tbl := lw_at lw_m13 144 rfl
theorem q3126 : (Jvm.Cond.instanceMethod ({ cls := "ArbitratedBusModel", name := "inverted", desc := "()I" } : Jvm.MethodName)) ∈ lw_all := lw_g (lw_at lw_m13 145 rfl) rfl
theorem q3127 : (Jvm.Cond.code ({ cls := "ArbitratedBusModel", name := "inverted", desc := "()I" } : Jvm.MethodName) prog_29_method_35_code (3 : Nat) (Option.some Jvm.ClassFile.FieldType.int)) ∈ lw_all := lw_g (lw_at lw_m13 146 rfl) rfl
theorem q3128 : (Jvm.Cond.methodLink "ArbitratedBusModel" (169 : Nat) ({ cls := "ArbitratedBusModel", name := "acts", desc := "(II)V" } : Jvm.MethodName)) ∈ lw_all := lw_g (lw_at lw_m13 147 rfl) rfl
theorem q3129 : (Jvm.Cond.privateMethod ({ cls := "ArbitratedBusModel", name := "acts", desc := "(II)V" } : Jvm.MethodName)) ∈ lw_tbl := lw_at lw_m13 148 rfl
theorem q3130 : (Jvm.Cond.instanceMethod ({ cls := "ArbitratedBusModel", name := "acts", desc := "(II)V" } : Jvm.MethodName)) ∈ lw_all := lw_g (lw_at lw_m13 149 rfl) rfl
theorem q3131 : (Jvm.Cond.code ({ cls := "ArbitratedBusModel", name := "acts", desc := "(II)V" } : Jvm.MethodName) prog_29_method_47_code (3 : Nat) (Option.none : Option Jvm.ClassFile.FieldType)) ∈ lw_all := lw_g (lw_at lw_m13 150 rfl) rfl
theorem q3132 : (Jvm.Cond.methodLink "ArbitratedBusModel" (122 : Nat) ({ cls := "ArbitratedBusModel", name := "idles", desc := "(II)V" } : Jvm.MethodName)) ∈ lw_all := lw_g (lw_at lw_m13 151 rfl) rfl
theorem q3133 : (Jvm.Cond.privateMethod ({ cls := "ArbitratedBusModel", name := "idles", desc := "(II)V" } : Jvm.MethodName)) ∈ lw_tbl := lw_at lw_m13 152 rfl
theorem q3134 : (Jvm.Cond.instanceMethod ({ cls := "ArbitratedBusModel", name := "idles", desc := "(II)V" } : Jvm.MethodName)) ∈ lw_all := lw_g (lw_at lw_m13 153 rfl) rfl
theorem q3135 : (Jvm.Cond.code ({ cls := "ArbitratedBusModel", name := "idles", desc := "(II)V" } : Jvm.MethodName) prog_29_method_48_code (4 : Nat) (Option.none : Option Jvm.ClassFile.FieldType)) ∈ lw_all := lw_g (lw_at lw_m13 154 rfl) rfl
theorem q3136 : (Jvm.Cond.methodLink "ArbitratedBusModel" (146 : Nat) ({ cls := "ArbitratedBusModel", name := "begins", desc := "(IZ)V" } : Jvm.MethodName)) ∈ lw_all := lw_g (lw_at lw_m13 155 rfl) rfl
theorem q3137 : (Jvm.Cond.privateMethod ({ cls := "ArbitratedBusModel", name := "begins", desc := "(IZ)V" } : Jvm.MethodName)) ∈ lw_tbl := lw_at lw_m13 156 rfl
theorem q3138 : (Jvm.Cond.instanceMethod ({ cls := "ArbitratedBusModel", name := "begins", desc := "(IZ)V" } : Jvm.MethodName)) ∈ lw_all := lw_g (lw_at lw_m13 157 rfl) rfl
theorem q3139 : (Jvm.Cond.code ({ cls := "ArbitratedBusModel", name := "begins", desc := "(IZ)V" } : Jvm.MethodName) prog_29_method_43_code (4 : Nat) (Option.none : Option Jvm.ClassFile.FieldType)) ∈ lw_all := lw_g (lw_at lw_m13 158 rfl) rfl
theorem q3140 : (Jvm.Cond.methodLink "ArbitratedBusModel" (150 : Nat) ({ cls := "ArbitratedBusModel", name := "errs", desc := "(II)V" } : Jvm.MethodName)) ∈ lw_all := lw_g (lw_at lw_m13 159 rfl) rfl
theorem q3141 : (Jvm.Cond.privateMethod ({ cls := "ArbitratedBusModel", name := "errs", desc := "(II)V" } : Jvm.MethodName)) ∈ lw_tbl := lw_at lw_m13 160 rfl
theorem q3142 : (Jvm.Cond.instanceMethod ({ cls := "ArbitratedBusModel", name := "errs", desc := "(II)V" } : Jvm.MethodName)) ∈ lw_all := lw_g (lw_at lw_m13 161 rfl) rfl
theorem q3143 : (Jvm.Cond.code ({ cls := "ArbitratedBusModel", name := "errs", desc := "(II)V" } : Jvm.MethodName) prog_29_method_46_code (3 : Nat) (Option.none : Option Jvm.ClassFile.FieldType)) ∈ lw_all := lw_g (lw_at lw_m13 162 rfl) rfl
theorem q3144 : (Jvm.Cond.methodLink "ArbitratedBusModel" (116 : Nat) ({ cls := "ArbitratedBusModel", name := "receives", desc := "(II)V" } : Jvm.MethodName)) ∈ lw_all := lw_g (lw_at lw_m13 163 rfl) rfl
theorem q3145 : (Jvm.Cond.privateMethod ({ cls := "ArbitratedBusModel", name := "receives", desc := "(II)V" } : Jvm.MethodName)) ∈ lw_tbl := lw_at lw_m13 164 rfl
theorem q3146 : (Jvm.Cond.instanceMethod ({ cls := "ArbitratedBusModel", name := "receives", desc := "(II)V" } : Jvm.MethodName)) ∈ lw_all := lw_g (lw_at lw_m13 165 rfl) rfl
theorem q3147 : (Jvm.Cond.code ({ cls := "ArbitratedBusModel", name := "receives", desc := "(II)V" } : Jvm.MethodName) prog_29_method_45_code (4 : Nat) (Option.none : Option Jvm.ClassFile.FieldType)) ∈ lw_all := lw_g (lw_at lw_m13 166 rfl) rfl
theorem q3148 : (Jvm.Cond.methodLink "ArbitratedBusModel" (119 : Nat) ({ cls := "ArbitratedBusModel", name := "isPassiveNow", desc := "(I)Z" } : Jvm.MethodName)) ∈ lw_all := lw_g (lw_at lw_m13 167 rfl) rfl
theorem q3149 : (Jvm.Cond.privateMethod ({ cls := "ArbitratedBusModel", name := "isPassiveNow", desc := "(I)Z" } : Jvm.MethodName)) ∈ lw_tbl := lw_at lw_m13 168 rfl
theorem q3150 : (Jvm.Cond.instanceMethod ({ cls := "ArbitratedBusModel", name := "isPassiveNow", desc := "(I)Z" } : Jvm.MethodName)) ∈ lw_all := lw_g (lw_at lw_m13 169 rfl) rfl
theorem q3151 : (Jvm.Cond.code ({ cls := "ArbitratedBusModel", name := "isPassiveNow", desc := "(I)Z" } : Jvm.MethodName) prog_29_method_44_code (2 : Nat) (Option.some Jvm.ClassFile.FieldType.boolean)) ∈ lw_all := lw_g (lw_at lw_m13 170 rfl) rfl
theorem q3152 : (Jvm.Cond.methodLink "ArbitratedBusModel" (125 : Nat) ({ cls := "ArbitratedBusModel", name := "stuffed", desc := "(II)V" } : Jvm.MethodName)) ∈ lw_all := lw_g (lw_at lw_m13 171 rfl) rfl
theorem q3153 : (Jvm.Cond.privateMethod ({ cls := "ArbitratedBusModel", name := "stuffed", desc := "(II)V" } : Jvm.MethodName)) ∈ lw_tbl := lw_at lw_m13 172 rfl
theorem q3154 : (Jvm.Cond.instanceMethod ({ cls := "ArbitratedBusModel", name := "stuffed", desc := "(II)V" } : Jvm.MethodName)) ∈ lw_all := lw_g (lw_at lw_m13 173 rfl) rfl
theorem q3155 : (Jvm.Cond.code ({ cls := "ArbitratedBusModel", name := "stuffed", desc := "(II)V" } : Jvm.MethodName) prog_29_method_49_code (8 : Nat) (Option.none : Option Jvm.ClassFile.FieldType)) ∈ lw_all := lw_g (lw_at lw_m13 174 rfl) rfl
theorem q3156 : (Jvm.Cond.methodLink "ArbitratedBusModel" (128 : Nat) ({ cls := "ArbitratedBusModel", name := "tails", desc := "(II)V" } : Jvm.MethodName)) ∈ lw_all := lw_g (lw_at lw_m13 175 rfl) rfl
theorem q3157 : (Jvm.Cond.privateMethod ({ cls := "ArbitratedBusModel", name := "tails", desc := "(II)V" } : Jvm.MethodName)) ∈ lw_tbl := lw_at lw_m13 176 rfl
theorem q3158 : (Jvm.Cond.instanceMethod ({ cls := "ArbitratedBusModel", name := "tails", desc := "(II)V" } : Jvm.MethodName)) ∈ lw_all := lw_g (lw_at lw_m13 177 rfl) rfl
theorem q3159 : (Jvm.Cond.code ({ cls := "ArbitratedBusModel", name := "tails", desc := "(II)V" } : Jvm.MethodName) prog_29_method_50_code (5 : Nat) (Option.none : Option Jvm.ClassFile.FieldType)) ∈ lw_all := lw_g (lw_at lw_m13 178 rfl) rfl
theorem q3160 : (Jvm.Cond.methodLink "ArbitratedBusModel" (153 : Nat) ({ cls := "ArbitratedBusModel", name := "ends", desc := "(II)V" } : Jvm.MethodName)) ∈ lw_all := lw_g (lw_at lw_m13 179 rfl) rfl
theorem q3161 : (Jvm.Cond.privateMethod ({ cls := "ArbitratedBusModel", name := "ends", desc := "(II)V" } : Jvm.MethodName)) ∈ lw_tbl := lw_at lw_m13 180 rfl
theorem q3162 : (Jvm.Cond.instanceMethod ({ cls := "ArbitratedBusModel", name := "ends", desc := "(II)V" } : Jvm.MethodName)) ∈ lw_all := lw_g (lw_at lw_m13 181 rfl) rfl
theorem q3163 : (Jvm.Cond.code ({ cls := "ArbitratedBusModel", name := "ends", desc := "(II)V" } : Jvm.MethodName) prog_29_method_51_code (4 : Nat) (Option.none : Option Jvm.ClassFile.FieldType)) ∈ lw_all := lw_g (lw_at lw_m13 182 rfl) rfl
theorem q3164 : (Jvm.Cond.methodLink "ArbitratedBusModel" (156 : Nat) ({ cls := "ArbitratedBusModel", name := "accepts", desc := "(I)V" } : Jvm.MethodName)) ∈ lw_all := lw_g (lw_at lw_m13 183 rfl) rfl
theorem q3165 : (Jvm.Cond.privateMethod ({ cls := "ArbitratedBusModel", name := "accepts", desc := "(I)V" } : Jvm.MethodName)) ∈ lw_tbl := lw_at lw_m13 184 rfl
theorem q3166 : (Jvm.Cond.instanceMethod ({ cls := "ArbitratedBusModel", name := "accepts", desc := "(I)V" } : Jvm.MethodName)) ∈ lw_all := lw_g (lw_at lw_m13 185 rfl) rfl
theorem q3167 : (Jvm.Cond.code ({ cls := "ArbitratedBusModel", name := "accepts", desc := "(I)V" } : Jvm.MethodName) prog_29_method_52_code (7 : Nat) (Option.none : Option Jvm.ClassFile.FieldType)) ∈ lw_all := lw_g (lw_at lw_m13 186 rfl) rfl
theorem q3168 : (Jvm.Cond.methodLink "ArbitratedBusModel" (159 : Nat) ({ cls := "ArbitratedBusModel", name := "got", desc := "(III)I" } : Jvm.MethodName)) ∈ lw_all := lw_g (lw_at lw_m13 187 rfl) rfl
theorem q3169 : (Jvm.Cond.static ({ cls := "ArbitratedBusModel", name := "got", desc := "(III)I" } : Jvm.MethodName)) ∈ lw_all := lw_g (lw_at lw_m13 188 rfl) rfl
theorem q3170 : (Jvm.Cond.code ({ cls := "ArbitratedBusModel", name := "got", desc := "(III)I" } : Jvm.MethodName) prog_29_method_6_code (3 : Nat) (Option.some Jvm.ClassFile.FieldType.int)) ∈ lw_all := lw_g (lw_at lw_m13 189 rfl) rfl
theorem q3171 : (Jvm.Cond.methodLink "ArbitratedBusModel" (131 : Nat) ({ cls := "ArbitratedBusModel", name := "flags", desc := "(I)V" } : Jvm.MethodName)) ∈ lw_all := lw_g (lw_at lw_m13 190 rfl) rfl
theorem q3172 : (Jvm.Cond.privateMethod ({ cls := "ArbitratedBusModel", name := "flags", desc := "(I)V" } : Jvm.MethodName)) ∈ lw_tbl := lw_at lw_m13 191 rfl
theorem q3173 : (Jvm.Cond.instanceMethod ({ cls := "ArbitratedBusModel", name := "flags", desc := "(I)V" } : Jvm.MethodName)) ∈ lw_all := lw_g (lw_at lw_m13 192 rfl) rfl
theorem q3174 : (Jvm.Cond.code ({ cls := "ArbitratedBusModel", name := "flags", desc := "(I)V" } : Jvm.MethodName) prog_29_method_53_code (3 : Nat) (Option.none : Option Jvm.ClassFile.FieldType)) ∈ lw_all := lw_g (lw_at lw_m13 193 rfl) rfl
theorem q3175 : (Jvm.Cond.methodLink "ArbitratedBusModel" (134 : Nat) ({ cls := "ArbitratedBusModel", name := "delimits", desc := "(II)V" } : Jvm.MethodName)) ∈ lw_all := lw_g (lw_at lw_m13 194 rfl) rfl
theorem q3176 : (Jvm.Cond.privateMethod ({ cls := "ArbitratedBusModel", name := "delimits", desc := "(II)V" } : Jvm.MethodName)) ∈ lw_tbl := lw_at lw_m13 195 rfl
theorem q3177 : (Jvm.Cond.instanceMethod ({ cls := "ArbitratedBusModel", name := "delimits", desc := "(II)V" } : Jvm.MethodName)) ∈ lw_all := lw_g (lw_at lw_m13 196 rfl) rfl
theorem q3178 : (Jvm.Cond.code ({ cls := "ArbitratedBusModel", name := "delimits", desc := "(II)V" } : Jvm.MethodName) prog_29_method_54_code (5 : Nat) (Option.none : Option Jvm.ClassFile.FieldType)) ∈ lw_all := lw_g (lw_at lw_m13 197 rfl) rfl
theorem q3179 : (Jvm.Cond.methodLink "ArbitratedBusModel" (137 : Nat) ({ cls := "ArbitratedBusModel", name := "intermits", desc := "(II)V" } : Jvm.MethodName)) ∈ lw_all := lw_g (lw_at lw_m13 198 rfl) rfl
theorem q3180 : (Jvm.Cond.privateMethod ({ cls := "ArbitratedBusModel", name := "intermits", desc := "(II)V" } : Jvm.MethodName)) ∈ lw_tbl := lw_at lw_m13 199 rfl
theorem q3181 : (Jvm.Cond.instanceMethod ({ cls := "ArbitratedBusModel", name := "intermits", desc := "(II)V" } : Jvm.MethodName)) ∈ lw_all := lw_g (lw_at lw_m13 200 rfl) rfl
theorem q3182 : (Jvm.Cond.code ({ cls := "ArbitratedBusModel", name := "intermits", desc := "(II)V" } : Jvm.MethodName) prog_29_method_55_code (4 : Nat) (Option.none : Option Jvm.ClassFile.FieldType)) ∈ lw_all := lw_g (lw_at lw_m13 201 rfl) rfl
theorem q3183 : (Jvm.Cond.methodLink "ArbitratedBusModel" (140 : Nat) ({ cls := "ArbitratedBusModel", name := "suspends", desc := "(II)V" } : Jvm.MethodName)) ∈ lw_all := lw_g (lw_at lw_m13 202 rfl) rfl
theorem q3184 : (Jvm.Cond.privateMethod ({ cls := "ArbitratedBusModel", name := "suspends", desc := "(II)V" } : Jvm.MethodName)) ∈ lw_tbl := lw_at lw_m13 203 rfl
theorem q3185 : (Jvm.Cond.instanceMethod ({ cls := "ArbitratedBusModel", name := "suspends", desc := "(II)V" } : Jvm.MethodName)) ∈ lw_all := lw_g (lw_at lw_m13 204 rfl) rfl
theorem q3186 : (Jvm.Cond.code ({ cls := "ArbitratedBusModel", name := "suspends", desc := "(II)V" } : Jvm.MethodName) prog_29_method_56_code (3 : Nat) (Option.none : Option Jvm.ClassFile.FieldType)) ∈ lw_all := lw_g (lw_at lw_m13 205 rfl) rfl
theorem q3187 : (Jvm.Cond.methodLink "ArbitratedBusModel" (143 : Nat) ({ cls := "ArbitratedBusModel", name := "recovers", desc := "(II)V" } : Jvm.MethodName)) ∈ lw_all := lw_g (lw_at lw_m13 206 rfl) rfl
theorem q3188 : (Jvm.Cond.privateMethod ({ cls := "ArbitratedBusModel", name := "recovers", desc := "(II)V" } : Jvm.MethodName)) ∈ lw_tbl := lw_at lw_m13 207 rfl
theorem q3189 : (Jvm.Cond.instanceMethod ({ cls := "ArbitratedBusModel", name := "recovers", desc := "(II)V" } : Jvm.MethodName)) ∈ lw_all := lw_g (lw_at lw_m13 208 rfl) rfl
theorem q3190 : (Jvm.Cond.code ({ cls := "ArbitratedBusModel", name := "recovers", desc := "(II)V" } : Jvm.MethodName) prog_29_method_57_code (3 : Nat) (Option.none : Option Jvm.ClassFile.FieldType)) ∈ lw_all := lw_g (lw_at lw_m13 209 rfl) rfl
theorem q3191 : (Jvm.Cond.methodLink "ArbitratedBusModel" (172 : Nat) ({ cls := "ArbitratedBusModel", name := "passes", desc := "()V" } : Jvm.MethodName)) ∈ lw_all := lw_g (lw_at lw_m13 210 rfl) rfl
theorem q3192 : (Jvm.Cond.privateMethod ({ cls := "ArbitratedBusModel", name := "passes", desc := "()V" } : Jvm.MethodName)) ∈ lw_tbl := lw_at lw_m13 211 rfl
theorem q3193 : (Jvm.Cond.instanceMethod ({ cls := "ArbitratedBusModel", name := "passes", desc := "()V" } : Jvm.MethodName)) ∈ lw_all := lw_g (lw_at lw_m13 212 rfl) rfl
theorem q3194 : (Jvm.Cond.code ({ cls := "ArbitratedBusModel", name := "passes", desc := "()V" } : Jvm.MethodName) prog_29_method_33_code (3 : Nat) (Option.none : Option Jvm.ClassFile.FieldType)) ∈ lw_all := lw_g (lw_at lw_m13 213 rfl) rfl
theorem q3196 : (Jvm.Cond.instanceMethod ({ cls := "ArbitratedBusModel", name := "settle", desc := "()I" } : Jvm.MethodName)) ∈ lw_all := lw_g (lw_at lw_m13 215 rfl) rfl
theorem q3197 : (Jvm.Cond.selects "ArbitratedBusModel" ({ cls := "ArbitratedBusModel", name := "settle", desc := "()I" } : Jvm.MethodName) ({ cls := "ArbitratedBusModel", name := "settle", desc := "()I" } : Jvm.MethodName)) ∈ lw_all := lw_g (lw_at lw_m13 216 rfl) rfl
theorem q3198 : (Jvm.Cond.code ({ cls := "ArbitratedBusModel", name := "settle", desc := "()I" } : Jvm.MethodName) prog_29_method_62_code (2 : Nat) (Option.some Jvm.ClassFile.FieldType.int)) ∈ lw_all := lw_g (lw_at lw_m13 217 rfl) rfl
theorem q3199 : (Jvm.Cond.methodLink "ArbitratedBusModel" (181 : Nat) ({ cls := "ArbitratedBusModel", name := "isSettled", desc := "()Z" } : Jvm.MethodName)) ∈ lw_all := lw_g (lw_at lw_m13 218 rfl) rfl
theorem q3200 : (Jvm.Cond.privateMethod ({ cls := "ArbitratedBusModel", name := "isSettled", desc := "()Z" } : Jvm.MethodName)) ∈ lw_tbl := lw_at lw_m13 219 rfl
theorem q3201 : (Jvm.Cond.instanceMethod ({ cls := "ArbitratedBusModel", name := "isSettled", desc := "()Z" } : Jvm.MethodName)) ∈ lw_all := lw_g (lw_at lw_m13 220 rfl) rfl
theorem q3202 : (Jvm.Cond.code ({ cls := "ArbitratedBusModel", name := "isSettled", desc := "()Z" } : Jvm.MethodName) prog_29_method_61_code (4 : Nat) (Option.some Jvm.ClassFile.FieldType.boolean)) ∈ lw_all := lw_g (lw_at lw_m13 221 rfl) rfl
theorem q3204 : (Jvm.Cond.instanceMethod ({ cls := "ArbitratedBusModel", name := "phase", desc := "(I)I" } : Jvm.MethodName)) ∈ lw_all := lw_g (lw_at lw_m13 223 rfl) rfl
theorem q3205 : (Jvm.Cond.selects "ArbitratedBusModel" ({ cls := "ArbitratedBusModel", name := "phase", desc := "(I)I" } : Jvm.MethodName) ({ cls := "ArbitratedBusModel", name := "phase", desc := "(I)I" } : Jvm.MethodName)) ∈ lw_all := lw_g (lw_at lw_m13 224 rfl) rfl
theorem q3206 : (Jvm.Cond.code ({ cls := "ArbitratedBusModel", name := "phase", desc := "(I)I" } : Jvm.MethodName) prog_29_method_64_code (2 : Nat) (Option.some Jvm.ClassFile.FieldType.int)) ∈ lw_all := lw_g (lw_at lw_m13 225 rfl) rfl
theorem q3207 : (Jvm.Cond.methodLink "ArbitratedBusModel" (185 : Nat) ({ cls := "ArbitratedBusModel", name := "of", desc := "(II)I" } : Jvm.MethodName)) ∈ lw_all := lw_g (lw_at lw_m13 226 rfl) rfl
theorem q3208 : (Jvm.Cond.privateMethod ({ cls := "ArbitratedBusModel", name := "of", desc := "(II)I" } : Jvm.MethodName)) ∈ lw_tbl := lw_at lw_m13 227 rfl
theorem q3209 : (Jvm.Cond.instanceMethod ({ cls := "ArbitratedBusModel", name := "of", desc := "(II)I" } : Jvm.MethodName)) ∈ lw_all := lw_g (lw_at lw_m13 228 rfl) rfl
theorem q3210 : (Jvm.Cond.code ({ cls := "ArbitratedBusModel", name := "of", desc := "(II)I" } : Jvm.MethodName) prog_29_method_63_code (3 : Nat) (Option.some Jvm.ClassFile.FieldType.int)) ∈ lw_all := lw_g (lw_at lw_m13 229 rfl) rfl
theorem q3212 : (Jvm.Cond.instanceMethod ({ cls := "ArbitratedBusModel", name := "isTransmitter", desc := "(I)I" } : Jvm.MethodName)) ∈ lw_all := lw_g (lw_at lw_m13 231 rfl) rfl
theorem q3213 : (Jvm.Cond.selects "ArbitratedBusModel" ({ cls := "ArbitratedBusModel", name := "isTransmitter", desc := "(I)I" } : Jvm.MethodName) ({ cls := "ArbitratedBusModel", name := "isTransmitter", desc := "(I)I" } : Jvm.MethodName)) ∈ lw_all := lw_g (lw_at lw_m13 232 rfl) rfl
theorem q3214 : (Jvm.Cond.code ({ cls := "ArbitratedBusModel", name := "isTransmitter", desc := "(I)I" } : Jvm.MethodName) prog_29_method_65_code (2 : Nat) (Option.some Jvm.ClassFile.FieldType.int)) ∈ lw_all := lw_g (lw_at lw_m13 233 rfl) rfl
theorem q3216 : (Jvm.Cond.instanceMethod ({ cls := "ArbitratedBusModel", name := "transmitErrors", desc := "(I)I" } : Jvm.MethodName)) ∈ lw_all := lw_g (lw_at lw_m13 235 rfl) rfl
theorem q3217 : (Jvm.Cond.selects "ArbitratedBusModel" ({ cls := "ArbitratedBusModel", name := "transmitErrors", desc := "(I)I" } : Jvm.MethodName) ({ cls := "ArbitratedBusModel", name := "transmitErrors", desc := "(I)I" } : Jvm.MethodName)) ∈ lw_all := lw_g (lw_at lw_m13 236 rfl) rfl
theorem q3218 : (Jvm.Cond.code ({ cls := "ArbitratedBusModel", name := "transmitErrors", desc := "(I)I" } : Jvm.MethodName) prog_29_method_66_code (2 : Nat) (Option.some Jvm.ClassFile.FieldType.int)) ∈ lw_all := lw_g (lw_at lw_m13 237 rfl) rfl
theorem q3220 : (Jvm.Cond.instanceMethod ({ cls := "ArbitratedBusModel", name := "receiveErrors", desc := "(I)I" } : Jvm.MethodName)) ∈ lw_all := lw_g (lw_at lw_m13 239 rfl) rfl
theorem q3221 : (Jvm.Cond.selects "ArbitratedBusModel" ({ cls := "ArbitratedBusModel", name := "receiveErrors", desc := "(I)I" } : Jvm.MethodName) ({ cls := "ArbitratedBusModel", name := "receiveErrors", desc := "(I)I" } : Jvm.MethodName)) ∈ lw_all := lw_g (lw_at lw_m14 0 rfl) rfl
theorem q3222 : (Jvm.Cond.code ({ cls := "ArbitratedBusModel", name := "receiveErrors", desc := "(I)I" } : Jvm.MethodName) prog_29_method_67_code (2 : Nat) (Option.some Jvm.ClassFile.FieldType.int)) ∈ lw_all := lw_g (lw_at lw_m14 1 rfl) rfl
theorem q3224 : (Jvm.Cond.instanceMethod ({ cls := "ArbitratedBusModel", name := "isPassive", desc := "(I)I" } : Jvm.MethodName)) ∈ lw_all := lw_g (lw_at lw_m14 3 rfl) rfl
theorem q3225 : (Jvm.Cond.selects "ArbitratedBusModel" ({ cls := "ArbitratedBusModel", name := "isPassive", desc := "(I)I" } : Jvm.MethodName) ({ cls := "ArbitratedBusModel", name := "isPassive", desc := "(I)I" } : Jvm.MethodName)) ∈ lw_all := lw_g (lw_at lw_m14 4 rfl) rfl
theorem q3226 : (Jvm.Cond.code ({ cls := "ArbitratedBusModel", name := "isPassive", desc := "(I)I" } : Jvm.MethodName) prog_29_method_68_code (2 : Nat) (Option.some Jvm.ClassFile.FieldType.int)) ∈ lw_all := lw_g (lw_at lw_m14 5 rfl) rfl
theorem q3228 : (Jvm.Cond.instanceMethod ({ cls := "ArbitratedBusModel", name := "errors", desc := "(II)I" } : Jvm.MethodName)) ∈ lw_all := lw_g (lw_at lw_m14 7 rfl) rfl
theorem q3229 : (Jvm.Cond.selects "ArbitratedBusModel" ({ cls := "ArbitratedBusModel", name := "errors", desc := "(II)I" } : Jvm.MethodName) ({ cls := "ArbitratedBusModel", name := "errors", desc := "(II)I" } : Jvm.MethodName)) ∈ lw_all := lw_g (lw_at lw_m14 8 rfl) rfl
theorem q3230 : (Jvm.Cond.code ({ cls := "ArbitratedBusModel", name := "errors", desc := "(II)I" } : Jvm.MethodName) prog_29_method_69_code (3 : Nat) (Option.some Jvm.ClassFile.FieldType.int)) ∈ lw_all := lw_g (lw_at lw_m14 9 rfl) rfl
theorem q3232 : (Jvm.Cond.instanceMethod ({ cls := "ArbitratedBusModel", name := "lastError", desc := "(I)I" } : Jvm.MethodName)) ∈ lw_all := lw_g (lw_at lw_m14 11 rfl) rfl
theorem q3233 : (Jvm.Cond.selects "ArbitratedBusModel" ({ cls := "ArbitratedBusModel", name := "lastError", desc := "(I)I" } : Jvm.MethodName) ({ cls := "ArbitratedBusModel", name := "lastError", desc := "(I)I" } : Jvm.MethodName)) ∈ lw_all := lw_g (lw_at lw_m14 12 rfl) rfl
theorem q3234 : (Jvm.Cond.code ({ cls := "ArbitratedBusModel", name := "lastError", desc := "(I)I" } : Jvm.MethodName) prog_29_method_71_code (2 : Nat) (Option.some Jvm.ClassFile.FieldType.int)) ∈ lw_all := lw_g (lw_at lw_m14 13 rfl) rfl
theorem q3235 : (Jvm.Cond.methodLink "ArbitratedBusModel" (188 : Nat) ({ cls := "ArbitratedBusModel", name := "lastOf", desc := "(I)I" } : Jvm.MethodName)) ∈ lw_all := lw_g (lw_at lw_m14 14 rfl) rfl
theorem q3236 : (Jvm.Cond.privateMethod ({ cls := "ArbitratedBusModel", name := "lastOf", desc := "(I)I" } : Jvm.MethodName)) ∈ lw_tbl := lw_at lw_m14 15 rfl
theorem q3237 : (Jvm.Cond.instanceMethod ({ cls := "ArbitratedBusModel", name := "lastOf", desc := "(I)I" } : Jvm.MethodName)) ∈ lw_all := lw_g (lw_at lw_m14 16 rfl) rfl
theorem q3238 : (Jvm.Cond.code ({ cls := "ArbitratedBusModel", name := "lastOf", desc := "(I)I" } : Jvm.MethodName) prog_29_method_70_code (2 : Nat) (Option.some Jvm.ClassFile.FieldType.int)) ∈ lw_all := lw_g (lw_at lw_m14 17 rfl) rfl
theorem q3240 : (Jvm.Cond.instanceMethod ({ cls := "ArbitratedBusModel", name := "lostArbitrations", desc := "(I)I" } : Jvm.MethodName)) ∈ lw_all := lw_g (lw_at lw_m14 19 rfl) rfl
theorem q3241 : (Jvm.Cond.selects "ArbitratedBusModel" ({ cls := "ArbitratedBusModel", name := "lostArbitrations", desc := "(I)I" } : Jvm.MethodName) ({ cls := "ArbitratedBusModel", name := "lostArbitrations", desc := "(I)I" } : Jvm.MethodName)) ∈ lw_all := lw_g (lw_at lw_m14 20 rfl) rfl
theorem q3242 : (Jvm.Cond.code ({ cls := "ArbitratedBusModel", name := "lostArbitrations", desc := "(I)I" } : Jvm.MethodName) prog_29_method_72_code (2 : Nat) (Option.some Jvm.ClassFile.FieldType.int)) ∈ lw_all := lw_g (lw_at lw_m14 21 rfl) rfl
theorem q3244 : (Jvm.Cond.instanceMethod ({ cls := "ArbitratedBusModel", name := "overloads", desc := "(I)I" } : Jvm.MethodName)) ∈ lw_all := lw_g (lw_at lw_m14 23 rfl) rfl
theorem q3245 : (Jvm.Cond.selects "ArbitratedBusModel" ({ cls := "ArbitratedBusModel", name := "overloads", desc := "(I)I" } : Jvm.MethodName) ({ cls := "ArbitratedBusModel", name := "overloads", desc := "(I)I" } : Jvm.MethodName)) ∈ lw_all := lw_g (lw_at lw_m14 24 rfl) rfl
theorem q3246 : (Jvm.Cond.code ({ cls := "ArbitratedBusModel", name := "overloads", desc := "(I)I" } : Jvm.MethodName) prog_29_method_73_code (2 : Nat) (Option.some Jvm.ClassFile.FieldType.int)) ∈ lw_all := lw_g (lw_at lw_m14 25 rfl) rfl
theorem q3248 : (Jvm.Cond.instanceMethod ({ cls := "ArbitratedBusModel", name := "sent", desc := "(I)I" } : Jvm.MethodName)) ∈ lw_all := lw_g (lw_at lw_m14 27 rfl) rfl
theorem q3249 : (Jvm.Cond.selects "ArbitratedBusModel" ({ cls := "ArbitratedBusModel", name := "sent", desc := "(I)I" } : Jvm.MethodName) ({ cls := "ArbitratedBusModel", name := "sent", desc := "(I)I" } : Jvm.MethodName)) ∈ lw_all := lw_g (lw_at lw_m14 28 rfl) rfl
theorem q3250 : (Jvm.Cond.code ({ cls := "ArbitratedBusModel", name := "sent", desc := "(I)I" } : Jvm.MethodName) prog_29_method_74_code (2 : Nat) (Option.some Jvm.ClassFile.FieldType.int)) ∈ lw_all := lw_g (lw_at lw_m14 29 rfl) rfl
theorem q3252 : (Jvm.Cond.instanceMethod ({ cls := "ArbitratedBusModel", name := "overruns", desc := "(I)I" } : Jvm.MethodName)) ∈ lw_all := lw_g (lw_at lw_m14 31 rfl) rfl
theorem q3253 : (Jvm.Cond.selects "ArbitratedBusModel" ({ cls := "ArbitratedBusModel", name := "overruns", desc := "(I)I" } : Jvm.MethodName) ({ cls := "ArbitratedBusModel", name := "overruns", desc := "(I)I" } : Jvm.MethodName)) ∈ lw_all := lw_g (lw_at lw_m14 32 rfl) rfl
theorem q3254 : (Jvm.Cond.code ({ cls := "ArbitratedBusModel", name := "overruns", desc := "(I)I" } : Jvm.MethodName) prog_29_method_75_code (2 : Nat) (Option.some Jvm.ClassFile.FieldType.int)) ∈ lw_all := lw_g (lw_at lw_m14 33 rfl) rfl
theorem q3256 : (Jvm.Cond.instanceMethod ({ cls := "ArbitratedBusModel", name := "waiting", desc := "(I)I" } : Jvm.MethodName)) ∈ lw_all := lw_g (lw_at lw_m14 35 rfl) rfl
theorem q3257 : (Jvm.Cond.selects "ArbitratedBusModel" ({ cls := "ArbitratedBusModel", name := "waiting", desc := "(I)I" } : Jvm.MethodName) ({ cls := "ArbitratedBusModel", name := "waiting", desc := "(I)I" } : Jvm.MethodName)) ∈ lw_all := lw_g (lw_at lw_m14 36 rfl) rfl
theorem q3258 : (Jvm.Cond.code ({ cls := "ArbitratedBusModel", name := "waiting", desc := "(I)I" } : Jvm.MethodName) prog_29_method_76_code (2 : Nat) (Option.some Jvm.ClassFile.FieldType.int)) ∈ lw_all := lw_g (lw_at lw_m14 37 rfl) rfl
theorem q3260 : (Jvm.Cond.instanceMethod ({ cls := "ArbitratedBusModel", name := "waitingFrame", desc := "(II)I" } : Jvm.MethodName)) ∈ lw_all := lw_g (lw_at lw_m14 39 rfl) rfl
theorem q3261 : (Jvm.Cond.selects "ArbitratedBusModel" ({ cls := "ArbitratedBusModel", name := "waitingFrame", desc := "(II)I" } : Jvm.MethodName) ({ cls := "ArbitratedBusModel", name := "waitingFrame", desc := "(II)I" } : Jvm.MethodName)) ∈ lw_all := lw_g (lw_at lw_m14 40 rfl) rfl
theorem q3262 : (Jvm.Cond.code ({ cls := "ArbitratedBusModel", name := "waitingFrame", desc := "(II)I" } : Jvm.MethodName) prog_29_method_78_code (3 : Nat) (Option.some Jvm.ClassFile.FieldType.int)) ∈ lw_all := lw_g (lw_at lw_m14 41 rfl) rfl
theorem q3263 : (Jvm.Cond.methodLink "ArbitratedBusModel" (191 : Nat) ({ cls := "ArbitratedBusModel", name := "keyOf", desc := "(II)I" } : Jvm.MethodName)) ∈ lw_all := lw_g (lw_at lw_m14 42 rfl) rfl
theorem q3264 : (Jvm.Cond.privateMethod ({ cls := "ArbitratedBusModel", name := "keyOf", desc := "(II)I" } : Jvm.MethodName)) ∈ lw_tbl := lw_at lw_m14 43 rfl
theorem q3265 : (Jvm.Cond.instanceMethod ({ cls := "ArbitratedBusModel", name := "keyOf", desc := "(II)I" } : Jvm.MethodName)) ∈ lw_all := lw_g (lw_at lw_m14 44 rfl) rfl
theorem q3266 : (Jvm.Cond.code ({ cls := "ArbitratedBusModel", name := "keyOf", desc := "(II)I" } : Jvm.MethodName) prog_29_method_77_code (3 : Nat) (Option.some Jvm.ClassFile.FieldType.int)) ∈ lw_all := lw_g (lw_at lw_m14 45 rfl) rfl
theorem q3268 : (Jvm.Cond.instanceMethod ({ cls := "ArbitratedBusModel", name := "received", desc := "(I)I" } : Jvm.MethodName)) ∈ lw_all := lw_g (lw_at lw_m14 47 rfl) rfl
theorem q3269 : (Jvm.Cond.selects "ArbitratedBusModel" ({ cls := "ArbitratedBusModel", name := "received", desc := "(I)I" } : Jvm.MethodName) ({ cls := "ArbitratedBusModel", name := "received", desc := "(I)I" } : Jvm.MethodName)) ∈ lw_all := lw_g (lw_at lw_m14 48 rfl) rfl
theorem q3270 : (Jvm.Cond.code ({ cls := "ArbitratedBusModel", name := "received", desc := "(I)I" } : Jvm.MethodName) prog_29_method_79_code (2 : Nat) (Option.some Jvm.ClassFile.FieldType.int)) ∈ lw_all := lw_g (lw_at lw_m14 49 rfl) rfl
theorem q3272 : (Jvm.Cond.instanceMethod ({ cls := "ArbitratedBusModel", name := "receivedFrame", desc := "(II)I" } : Jvm.MethodName)) ∈ lw_all := lw_g (lw_at lw_m14 51 rfl) rfl
theorem q3273 : (Jvm.Cond.selects "ArbitratedBusModel" ({ cls := "ArbitratedBusModel", name := "receivedFrame", desc := "(II)I" } : Jvm.MethodName) ({ cls := "ArbitratedBusModel", name := "receivedFrame", desc := "(II)I" } : Jvm.MethodName)) ∈ lw_all := lw_g (lw_at lw_m14 52 rfl) rfl
theorem q3274 : (Jvm.Cond.code ({ cls := "ArbitratedBusModel", name := "receivedFrame", desc := "(II)I" } : Jvm.MethodName) prog_29_method_82_code (3 : Nat) (Option.some Jvm.ClassFile.FieldType.int)) ∈ lw_all := lw_g (lw_at lw_m14 53 rfl) rfl
theorem q3275 : (Jvm.Cond.methodLink "ArbitratedBusModel" (194 : Nat) ({ cls := "ArbitratedBusModel", name := "isGot", desc := "(II)Z" } : Jvm.MethodName)) ∈ lw_all := lw_g (lw_at lw_m14 54 rfl) rfl
theorem q3276 : (Jvm.Cond.privateMethod ({ cls := "ArbitratedBusModel", name := "isGot", desc := "(II)Z" } : Jvm.MethodName)) ∈ lw_tbl := lw_at lw_m14 55 rfl
theorem q3277 : (Jvm.Cond.instanceMethod ({ cls := "ArbitratedBusModel", name := "isGot", desc := "(II)Z" } : Jvm.MethodName)) ∈ lw_all := lw_g (lw_at lw_m14 56 rfl) rfl
theorem q3278 : (Jvm.Cond.code ({ cls := "ArbitratedBusModel", name := "isGot", desc := "(II)Z" } : Jvm.MethodName) prog_29_method_80_code (3 : Nat) (Option.some Jvm.ClassFile.FieldType.boolean)) ∈ lw_all := lw_g (lw_at lw_m14 57 rfl) rfl
theorem q3279 : (Jvm.Cond.methodLink "ArbitratedBusModel" (198 : Nat) ({ cls := "ArbitratedBusModel", name := "gotKey", desc := "(II)I" } : Jvm.MethodName)) ∈ lw_all := lw_g (lw_at lw_m14 58 rfl) rfl
theorem q3280 : (Jvm.Cond.privateMethod ({ cls := "ArbitratedBusModel", name := "gotKey", desc := "(II)I" } : Jvm.MethodName)) ∈ lw_tbl := lw_at lw_m14 59 rfl
theorem q3281 : (Jvm.Cond.instanceMethod ({ cls := "ArbitratedBusModel", name := "gotKey", desc := "(II)I" } : Jvm.MethodName)) ∈ lw_all := lw_g (lw_at lw_m14 60 rfl) rfl
theorem q3282 : (Jvm.Cond.code ({ cls := "ArbitratedBusModel", name := "gotKey", desc := "(II)I" } : Jvm.MethodName) prog_29_method_81_code (3 : Nat) (Option.some Jvm.ClassFile.FieldType.int)) ∈ lw_all := lw_g (lw_at lw_m14 61 rfl) rfl
theorem q3284 : (Jvm.Cond.instanceMethod ({ cls := "ArbitratedBusModel", name := "receivedLength", desc := "(II)I" } : Jvm.MethodName)) ∈ lw_all := lw_g (lw_at lw_m14 63 rfl) rfl
theorem q3285 : (Jvm.Cond.selects "ArbitratedBusModel" ({ cls := "ArbitratedBusModel", name := "receivedLength", desc := "(II)I" } : Jvm.MethodName) ({ cls := "ArbitratedBusModel", name := "receivedLength", desc := "(II)I" } : Jvm.MethodName)) ∈ lw_all := lw_g (lw_at lw_m14 64 rfl) rfl
theorem q3286 : (Jvm.Cond.code ({ cls := "ArbitratedBusModel", name := "receivedLength", desc := "(II)I" } : Jvm.MethodName) prog_29_method_83_code (3 : Nat) (Option.some Jvm.ClassFile.FieldType.int)) ∈ lw_all := lw_g (lw_at lw_m14 65 rfl) rfl
theorem q3288 : (Jvm.Cond.instanceMethod ({ cls := "ArbitratedBusModel", name := "receivedData", desc := "(II)I" } : Jvm.MethodName)) ∈ lw_all := lw_g (lw_at lw_m14 67 rfl) rfl
theorem q3289 : (Jvm.Cond.selects "ArbitratedBusModel" ({ cls := "ArbitratedBusModel", name := "receivedData", desc := "(II)I" } : Jvm.MethodName) ({ cls := "ArbitratedBusModel", name := "receivedData", desc := "(II)I" } : Jvm.MethodName)) ∈ lw_all := lw_g (lw_at lw_m14 68 rfl) rfl
theorem q3290 : (Jvm.Cond.code ({ cls := "ArbitratedBusModel", name := "receivedData", desc := "(II)I" } : Jvm.MethodName) prog_29_method_84_code (3 : Nat) (Option.some Jvm.ClassFile.FieldType.int)) ∈ lw_all := lw_g (lw_at lw_m14 69 rfl) rfl
theorem q3292 : (Jvm.Cond.instanceMethod ({ cls := "ArbitratedBusModel", name := "discard", desc := "(I)I" } : Jvm.MethodName)) ∈ lw_all := lw_g (lw_at lw_m14 71 rfl) rfl
theorem q3293 : (Jvm.Cond.selects "ArbitratedBusModel" ({ cls := "ArbitratedBusModel", name := "discard", desc := "(I)I" } : Jvm.MethodName) ({ cls := "ArbitratedBusModel", name := "discard", desc := "(I)I" } : Jvm.MethodName)) ∈ lw_all := lw_g (lw_at lw_m14 72 rfl) rfl
theorem q3294 : (Jvm.Cond.code ({ cls := "ArbitratedBusModel", name := "discard", desc := "(I)I" } : Jvm.MethodName) prog_29_method_85_code (3 : Nat) (Option.some Jvm.ClassFile.FieldType.int)) ∈ lw_all := lw_g (lw_at lw_m14 73 rfl) rfl
theorem q3296 : (Jvm.Cond.instanceMethod ({ cls := "ArbitratedBusModel", name := "time", desc := "()I" } : Jvm.MethodName)) ∈ lw_all := lw_g (lw_at lw_m14 75 rfl) rfl
theorem q3297 : (Jvm.Cond.selects "ArbitratedBusModel" ({ cls := "ArbitratedBusModel", name := "time", desc := "()I" } : Jvm.MethodName) ({ cls := "ArbitratedBusModel", name := "time", desc := "()I" } : Jvm.MethodName)) ∈ lw_all := lw_g (lw_at lw_m14 76 rfl) rfl
theorem q3298 : (Jvm.Cond.code ({ cls := "ArbitratedBusModel", name := "time", desc := "()I" } : Jvm.MethodName) prog_29_method_86_code (1 : Nat) (Option.some Jvm.ClassFile.FieldType.int)) ∈ lw_all := lw_g (lw_at lw_m14 77 rfl) rfl
theorem q3300 : (Jvm.Cond.instanceMethod ({ cls := "ArbitratedBusModel", name := "level", desc := "(I)I" } : Jvm.MethodName)) ∈ lw_all := lw_g (lw_at lw_m14 79 rfl) rfl
theorem q3301 : (Jvm.Cond.selects "ArbitratedBusModel" ({ cls := "ArbitratedBusModel", name := "level", desc := "(I)I" } : Jvm.MethodName) ({ cls := "ArbitratedBusModel", name := "level", desc := "(I)I" } : Jvm.MethodName)) ∈ lw_all := lw_g (lw_at lw_m14 80 rfl) rfl
theorem q3302 : (Jvm.Cond.code ({ cls := "ArbitratedBusModel", name := "level", desc := "(I)I" } : Jvm.MethodName) prog_29_method_87_code (2 : Nat) (Option.some Jvm.ClassFile.FieldType.int)) ∈ lw_all := lw_g (lw_at lw_m14 81 rfl) rfl
theorem q3304 : (Jvm.Cond.instanceMethod ({ cls := "ArbitratedBusModel", name := "winner", desc := "()I" } : Jvm.MethodName)) ∈ lw_all := lw_g (lw_at lw_m14 83 rfl) rfl
theorem q3305 : (Jvm.Cond.selects "ArbitratedBusModel" ({ cls := "ArbitratedBusModel", name := "winner", desc := "()I" } : Jvm.MethodName) ({ cls := "ArbitratedBusModel", name := "winner", desc := "()I" } : Jvm.MethodName)) ∈ lw_all := lw_g (lw_at lw_m14 84 rfl) rfl
theorem q3306 : (Jvm.Cond.code ({ cls := "ArbitratedBusModel", name := "winner", desc := "()I" } : Jvm.MethodName) prog_29_method_88_code (4 : Nat) (Option.some Jvm.ClassFile.FieldType.int)) ∈ lw_all := lw_g (lw_at lw_m14 85 rfl) rfl
theorem q3308 : (Jvm.Cond.instanceMethod ({ cls := "ArbitratedBusModel", name := "bitsUntilSent", desc := "(I)I" } : Jvm.MethodName)) ∈ lw_all := lw_g (lw_at lw_m14 87 rfl) rfl
theorem q3309 : (Jvm.Cond.selects "ArbitratedBusModel" ({ cls := "ArbitratedBusModel", name := "bitsUntilSent", desc := "(I)I" } : Jvm.MethodName) ({ cls := "ArbitratedBusModel", name := "bitsUntilSent", desc := "(I)I" } : Jvm.MethodName)) ∈ lw_all := lw_g (lw_at lw_m14 88 rfl) rfl
theorem q3310 : (Jvm.Cond.code ({ cls := "ArbitratedBusModel", name := "bitsUntilSent", desc := "(I)I" } : Jvm.MethodName) prog_29_method_89_code (6 : Nat) (Option.some Jvm.ClassFile.FieldType.int)) ∈ lw_all := lw_g (lw_at lw_m14 89 rfl) rfl
theorem q3312 : (Jvm.Cond.instanceMethod ({ cls := "ArbitratedBusModel", name := "addMessage", desc := "(IIII)I" } : Jvm.MethodName)) ∈ lw_all := lw_g (lw_at lw_m14 91 rfl) rfl
theorem q3313 : (Jvm.Cond.selects "ArbitratedBusModel" ({ cls := "ArbitratedBusModel", name := "addMessage", desc := "(IIII)I" } : Jvm.MethodName) ({ cls := "ArbitratedBusModel", name := "addMessage", desc := "(IIII)I" } : Jvm.MethodName)) ∈ lw_all := lw_g (lw_at lw_m14 92 rfl) rfl
theorem q3314 : (Jvm.Cond.code ({ cls := "ArbitratedBusModel", name := "addMessage", desc := "(IIII)I" } : Jvm.MethodName) prog_29_method_91_code (6 : Nat) (Option.some Jvm.ClassFile.FieldType.int)) ∈ lw_all := lw_g (lw_at lw_m14 93 rfl) rfl
theorem q3315 : (Jvm.Cond.methodLink "ArbitratedBusModel" (205 : Nat) ({ cls := "ArbitratedBusModel", name := "messageOf", desc := "(I)I" } : Jvm.MethodName)) ∈ lw_all := lw_g (lw_at lw_m14 94 rfl) rfl
theorem q3316 : (Jvm.Cond.privateMethod ({ cls := "ArbitratedBusModel", name := "messageOf", desc := "(I)I" } : Jvm.MethodName)) ∈ lw_tbl := lw_at lw_m14 95 rfl
theorem q3317 : (Jvm.Cond.instanceMethod ({ cls := "ArbitratedBusModel", name := "messageOf", desc := "(I)I" } : Jvm.MethodName)) ∈ lw_all := lw_g (lw_at lw_m14 96 rfl) rfl
theorem q3318 : (Jvm.Cond.code ({ cls := "ArbitratedBusModel", name := "messageOf", desc := "(I)I" } : Jvm.MethodName) prog_29_method_90_code (3 : Nat) (Option.some Jvm.ClassFile.FieldType.int)) ∈ lw_all := lw_g (lw_at lw_m14 97 rfl) rfl
theorem q3320 : (Jvm.Cond.instanceMethod ({ cls := "ArbitratedBusModel", name := "removeMessage", desc := "(I)I" } : Jvm.MethodName)) ∈ lw_all := lw_g (lw_at lw_m14 99 rfl) rfl
theorem q3321 : (Jvm.Cond.selects "ArbitratedBusModel" ({ cls := "ArbitratedBusModel", name := "removeMessage", desc := "(I)I" } : Jvm.MethodName) ({ cls := "ArbitratedBusModel", name := "removeMessage", desc := "(I)I" } : Jvm.MethodName)) ∈ lw_all := lw_g (lw_at lw_m14 100 rfl) rfl
theorem q3322 : (Jvm.Cond.code ({ cls := "ArbitratedBusModel", name := "removeMessage", desc := "(I)I" } : Jvm.MethodName) prog_29_method_92_code (4 : Nat) (Option.some Jvm.ClassFile.FieldType.int)) ∈ lw_all := lw_g (lw_at lw_m14 101 rfl) rfl
theorem q3324 : (Jvm.Cond.instanceMethod ({ cls := "ArbitratedBusModel", name := "responseTime", desc := "(I)I" } : Jvm.MethodName)) ∈ lw_all := lw_g (lw_at lw_m14 103 rfl) rfl
theorem q3325 : (Jvm.Cond.selects "ArbitratedBusModel" ({ cls := "ArbitratedBusModel", name := "responseTime", desc := "(I)I" } : Jvm.MethodName) ({ cls := "ArbitratedBusModel", name := "responseTime", desc := "(I)I" } : Jvm.MethodName)) ∈ lw_all := lw_g (lw_at lw_m14 104 rfl) rfl
theorem q3326 : (Jvm.Cond.code ({ cls := "ArbitratedBusModel", name := "responseTime", desc := "(I)I" } : Jvm.MethodName) prog_29_method_94_code (3 : Nat) (Option.some Jvm.ClassFile.FieldType.int)) ∈ lw_all := lw_g (lw_at lw_m14 105 rfl) rfl
theorem q3327 : (Jvm.Cond.methodLink "ArbitratedBusModel" (208 : Nat) ({ cls := "ArbitratedBusModel", name := "response", desc := "(I)I" } : Jvm.MethodName)) ∈ lw_all := lw_g (lw_at lw_m14 106 rfl) rfl
theorem q3328 : (Jvm.Cond.privateMethod ({ cls := "ArbitratedBusModel", name := "response", desc := "(I)I" } : Jvm.MethodName)) ∈ lw_tbl := lw_at lw_m14 107 rfl
theorem q3329 : (Jvm.Cond.instanceMethod ({ cls := "ArbitratedBusModel", name := "response", desc := "(I)I" } : Jvm.MethodName)) ∈ lw_all := lw_g (lw_at lw_m14 108 rfl) rfl
theorem q3330 : (Jvm.Cond.code ({ cls := "ArbitratedBusModel", name := "response", desc := "(I)I" } : Jvm.MethodName) prog_29_method_93_code (8 : Nat) (Option.some Jvm.ClassFile.FieldType.int)) ∈ lw_all := lw_g (lw_at lw_m14 109 rfl) rfl
theorem q3332 : (Jvm.Cond.instanceMethod ({ cls := "ArbitratedBusModel", name := "misses", desc := "()I" } : Jvm.MethodName)) ∈ lw_all := lw_g (lw_at lw_m14 111 rfl) rfl
theorem q3333 : (Jvm.Cond.selects "ArbitratedBusModel" ({ cls := "ArbitratedBusModel", name := "misses", desc := "()I" } : Jvm.MethodName) ({ cls := "ArbitratedBusModel", name := "misses", desc := "()I" } : Jvm.MethodName)) ∈ lw_all := lw_g (lw_at lw_m14 112 rfl) rfl
theorem q3334 : (Jvm.Cond.code ({ cls := "ArbitratedBusModel", name := "misses", desc := "()I" } : Jvm.MethodName) prog_29_method_95_code (3 : Nat) (Option.some Jvm.ClassFile.FieldType.int)) ∈ lw_all := lw_g (lw_at lw_m14 113 rfl) rfl
theorem q3336 : (Jvm.Cond.instanceMethod ({ cls := "ArbitratedBusModel", name := "append", desc := "(I)I" } : Jvm.MethodName)) ∈ lw_all := lw_g (lw_at lw_m14 115 rfl) rfl
theorem q3337 : (Jvm.Cond.selects "ArbitratedBusModel" ({ cls := "ArbitratedBusModel", name := "append", desc := "(I)I" } : Jvm.MethodName) ({ cls := "ArbitratedBusModel", name := "append", desc := "(I)I" } : Jvm.MethodName)) ∈ lw_all := lw_g (lw_at lw_m14 116 rfl) rfl
theorem q3338 : (Jvm.Cond.code ({ cls := "ArbitratedBusModel", name := "append", desc := "(I)I" } : Jvm.MethodName) prog_29_method_96_code (2 : Nat) (Option.some Jvm.ClassFile.FieldType.int)) ∈ lw_all := lw_g (lw_at lw_m14 117 rfl) rfl
theorem q3340 : (Jvm.Cond.instanceMethod ({ cls := "ArbitratedBusModel", name := "clearText", desc := "()I" } : Jvm.MethodName)) ∈ lw_all := lw_g (lw_at lw_m14 119 rfl) rfl
theorem q3341 : (Jvm.Cond.selects "ArbitratedBusModel" ({ cls := "ArbitratedBusModel", name := "clearText", desc := "()I" } : Jvm.MethodName) ({ cls := "ArbitratedBusModel", name := "clearText", desc := "()I" } : Jvm.MethodName)) ∈ lw_all := lw_g (lw_at lw_m14 120 rfl) rfl
theorem q3342 : (Jvm.Cond.code ({ cls := "ArbitratedBusModel", name := "clearText", desc := "()I" } : Jvm.MethodName) prog_29_method_97_code (2 : Nat) (Option.some Jvm.ClassFile.FieldType.int)) ∈ lw_all := lw_g (lw_at lw_m14 121 rfl) rfl
theorem q3344 : (Jvm.Cond.instanceMethod ({ cls := "ArbitratedBusModel", name := "faultPosition", desc := "()I" } : Jvm.MethodName)) ∈ lw_all := lw_g (lw_at lw_m14 123 rfl) rfl
theorem q3345 : (Jvm.Cond.selects "ArbitratedBusModel" ({ cls := "ArbitratedBusModel", name := "faultPosition", desc := "()I" } : Jvm.MethodName) ({ cls := "ArbitratedBusModel", name := "faultPosition", desc := "()I" } : Jvm.MethodName)) ∈ lw_all := lw_g (lw_at lw_m14 124 rfl) rfl
theorem q3346 : (Jvm.Cond.code ({ cls := "ArbitratedBusModel", name := "faultPosition", desc := "()I" } : Jvm.MethodName) prog_29_method_102_code (1 : Nat) (Option.some Jvm.ClassFile.FieldType.int)) ∈ lw_all := lw_g (lw_at lw_m14 125 rfl) rfl
theorem q3347 : (Jvm.Cond.methodLink "ArbitratedBusModel" (227 : Nat) ({ cls := "ArbitratedBusModel", name := "faultOf", desc := "()I" } : Jvm.MethodName)) ∈ lw_all := lw_g (lw_at lw_m14 126 rfl) rfl
theorem q3348 : (Jvm.Cond.privateMethod ({ cls := "ArbitratedBusModel", name := "faultOf", desc := "()I" } : Jvm.MethodName)) ∈ lw_tbl := lw_at lw_m14 127 rfl
theorem q3349 : (Jvm.Cond.instanceMethod ({ cls := "ArbitratedBusModel", name := "faultOf", desc := "()I" } : Jvm.MethodName)) ∈ lw_all := lw_g (lw_at lw_m14 128 rfl) rfl
theorem q3350 : (Jvm.Cond.code ({ cls := "ArbitratedBusModel", name := "faultOf", desc := "()I" } : Jvm.MethodName) prog_29_method_101_code (1 : Nat) (Option.some Jvm.ClassFile.FieldType.int)) ∈ lw_all := lw_g (lw_at lw_m14 129 rfl) rfl
theorem q3351 : (Jvm.Cond.methodLink "ArbitratedBusModel" (223 : Nat) ({ cls := "ArbitratedBusModel", name := "isRequest", desc := "([I)Z" } : Jvm.MethodName)) ∈ lw_all := lw_g (lw_at lw_m14 130 rfl) rfl
theorem q3352 : (Jvm.Cond.privateMethod ({ cls := "ArbitratedBusModel", name := "isRequest", desc := "([I)Z" } : Jvm.MethodName)) ∈ lw_tbl := lw_at lw_m14 131 rfl
theorem q3353 : (Jvm.Cond.instanceMethod ({ cls := "ArbitratedBusModel", name := "isRequest", desc := "([I)Z" } : Jvm.MethodName)) ∈ lw_all := lw_g (lw_at lw_m14 132 rfl) rfl
theorem q3354 : (Jvm.Cond.code ({ cls := "ArbitratedBusModel", name := "isRequest", desc := "([I)Z" } : Jvm.MethodName) prog_29_method_100_code (4 : Nat) (Option.some Jvm.ClassFile.FieldType.boolean)) ∈ lw_all := lw_g (lw_at lw_m14 133 rfl) rfl
theorem q3355 : (Jvm.Cond.methodLink "ArbitratedBusModel" (217 : Nat) ({ cls := "ArbitratedBusModel", name := "here", desc := "()I" } : Jvm.MethodName)) ∈ lw_all := lw_g (lw_at lw_m14 134 rfl) rfl
theorem q3356 : (Jvm.Cond.privateMethod ({ cls := "ArbitratedBusModel", name := "here", desc := "()I" } : Jvm.MethodName)) ∈ lw_tbl := lw_at lw_m14 135 rfl
theorem q3357 : (Jvm.Cond.instanceMethod ({ cls := "ArbitratedBusModel", name := "here", desc := "()I" } : Jvm.MethodName)) ∈ lw_all := lw_g (lw_at lw_m14 136 rfl) rfl
theorem q3358 : (Jvm.Cond.code ({ cls := "ArbitratedBusModel", name := "here", desc := "()I" } : Jvm.MethodName) prog_29_method_98_code (1 : Nat) (Option.some Jvm.ClassFile.FieldType.int)) ∈ lw_all := lw_g (lw_at lw_m14 137 rfl) rfl
theorem q3359 : (Jvm.Cond.methodLink "ArbitratedBusModel" (220 : Nat) ({ cls := "ArbitratedBusModel", name := "hex", desc := "(I)I" } : Jvm.MethodName)) ∈ lw_all := lw_g (lw_at lw_m14 138 rfl) rfl
theorem q3360 : (Jvm.Cond.static ({ cls := "ArbitratedBusModel", name := "hex", desc := "(I)I" } : Jvm.MethodName)) ∈ lw_all := lw_g (lw_at lw_m14 139 rfl) rfl
theorem q3361 : (Jvm.Cond.code ({ cls := "ArbitratedBusModel", name := "hex", desc := "(I)I" } : Jvm.MethodName) prog_29_method_99_code (1 : Nat) (Option.some Jvm.ClassFile.FieldType.int)) ∈ lw_all := lw_g (lw_at lw_m14 140 rfl) rfl
theorem q3363 : (Jvm.Cond.instanceMethod ({ cls := "ArbitratedBusModel", name := "load", desc := "()I" } : Jvm.MethodName)) ∈ lw_all := lw_g (lw_at lw_m14 142 rfl) rfl
theorem q3364 : (Jvm.Cond.selects "ArbitratedBusModel" ({ cls := "ArbitratedBusModel", name := "load", desc := "()I" } : Jvm.MethodName) ({ cls := "ArbitratedBusModel", name := "load", desc := "()I" } : Jvm.MethodName)) ∈ lw_all := lw_g (lw_at lw_m14 143 rfl) rfl
theorem q3365 : (Jvm.Cond.code ({ cls := "ArbitratedBusModel", name := "load", desc := "()I" } : Jvm.MethodName) prog_29_method_103_code (4 : Nat) (Option.some Jvm.ClassFile.FieldType.int)) ∈ lw_all := lw_g (lw_at lw_m14 144 rfl) rfl
theorem q3367 : (Jvm.Cond.instanceMethod ({ cls := "ArbitratedBusModel", name := "save", desc := "(I)I" } : Jvm.MethodName)) ∈ lw_all := lw_g (lw_at lw_m14 146 rfl) rfl
theorem q3368 : (Jvm.Cond.selects "ArbitratedBusModel" ({ cls := "ArbitratedBusModel", name := "save", desc := "(I)I" } : Jvm.MethodName) ({ cls := "ArbitratedBusModel", name := "save", desc := "(I)I" } : Jvm.MethodName)) ∈ lw_all := lw_g (lw_at lw_m14 147 rfl) rfl
theorem q3369 : (Jvm.Cond.code ({ cls := "ArbitratedBusModel", name := "save", desc := "(I)I" } : Jvm.MethodName) prog_29_method_104_code (3 : Nat) (Option.some Jvm.ClassFile.FieldType.int)) ∈ lw_all := lw_g (lw_at lw_m14 148 rfl) rfl
theorem q3371 : (Jvm.Cond.instanceMethod ({ cls := "ArbitratedBusModel", name := "restore", desc := "(I)I" } : Jvm.MethodName)) ∈ lw_all := lw_g (lw_at lw_m14 150 rfl) rfl
theorem q3372 : (Jvm.Cond.selects "ArbitratedBusModel" ({ cls := "ArbitratedBusModel", name := "restore", desc := "(I)I" } : Jvm.MethodName) ({ cls := "ArbitratedBusModel", name := "restore", desc := "(I)I" } : Jvm.MethodName)) ∈ lw_all := lw_g (lw_at lw_m14 151 rfl) rfl
theorem q3373 : (Jvm.Cond.code ({ cls := "ArbitratedBusModel", name := "restore", desc := "(I)I" } : Jvm.MethodName) prog_29_method_105_code (3 : Nat) (Option.some Jvm.ClassFile.FieldType.int)) ∈ lw_all := lw_g (lw_at lw_m14 152 rfl) rfl
theorem q3375 : (Jvm.Cond.instanceMethod ({ cls := "ArbitratedBusModel", name := "checksum", desc := "()J" } : Jvm.MethodName)) ∈ lw_all := lw_g (lw_at lw_m14 154 rfl) rfl
theorem q3376 : (Jvm.Cond.selects "ArbitratedBusModel" ({ cls := "ArbitratedBusModel", name := "checksum", desc := "()J" } : Jvm.MethodName) ({ cls := "ArbitratedBusModel", name := "checksum", desc := "()J" } : Jvm.MethodName)) ∈ lw_all := lw_g (lw_at lw_m14 155 rfl) rfl
theorem q3377 : (Jvm.Cond.code ({ cls := "ArbitratedBusModel", name := "checksum", desc := "()J" } : Jvm.MethodName) prog_29_method_108_code (4 : Nat) (Option.some Jvm.ClassFile.FieldType.long)) ∈ lw_all := lw_g (lw_at lw_m14 156 rfl) rfl
theorem q3378 : (Jvm.Cond.constantLong "ArbitratedBusModel" (236 : Nat) (11 : Int64)) ∈ lw_all := lw_g (lw_at lw_m14 157 rfl) rfl
theorem q3379 : (Jvm.Cond.methodLink "ArbitratedBusModel" (232 : Nat) ({ cls := "ArbitratedBusModel", name := "more", desc := "(JI)J" } : Jvm.MethodName)) ∈ lw_all := lw_g (lw_at lw_m14 158 rfl) rfl
theorem q3380 : (Jvm.Cond.static ({ cls := "ArbitratedBusModel", name := "more", desc := "(JI)J" } : Jvm.MethodName)) ∈ lw_all := lw_g (lw_at lw_m14 159 rfl) rfl
theorem q3381 : (Jvm.Cond.code ({ cls := "ArbitratedBusModel", name := "more", desc := "(JI)J" } : Jvm.MethodName) prog_29_method_106_code (3 : Nat) (Option.some Jvm.ClassFile.FieldType.long)) ∈ lw_all := lw_g (lw_at lw_m14 160 rfl) rfl
theorem q3382 : (Jvm.Cond.constantLong "ArbitratedBusModel" (230 : Nat) (31 : Int64)) ∈ lw_all := lw_g (lw_at lw_m14 161 rfl) rfl
theorem q3383 : (Jvm.Cond.methodLink "ArbitratedBusModel" (238 : Nat) ({ cls := "ArbitratedBusModel", name := "moreOf", desc := "(JI)J" } : Jvm.MethodName)) ∈ lw_all := lw_g (lw_at lw_m14 162 rfl) rfl
theorem q3384 : (Jvm.Cond.privateMethod ({ cls := "ArbitratedBusModel", name := "moreOf", desc := "(JI)J" } : Jvm.MethodName)) ∈ lw_tbl := lw_at lw_m14 163 rfl
theorem q3385 : (Jvm.Cond.instanceMethod ({ cls := "ArbitratedBusModel", name := "moreOf", desc := "(JI)J" } : Jvm.MethodName)) ∈ lw_all := lw_g (lw_at lw_m14 164 rfl) rfl
theorem q3386 : (Jvm.Cond.code ({ cls := "ArbitratedBusModel", name := "moreOf", desc := "(JI)J" } : Jvm.MethodName) prog_29_method_107_code (7 : Nat) (Option.some Jvm.ClassFile.FieldType.long)) ∈ lw_all := lw_g (lw_at lw_m14 165 rfl) rfl
theorem q3387 : (Jvm.Cond.methodLink "ArbitratedBusModel" (241 : Nat) ({ cls := "ArbitratedBusModel", name := "level", desc := "(I)I" } : Jvm.MethodName)) ∈ lw_all := lw_g (lw_at lw_m14 166 rfl) rfl
theorem q3427 : (Jvm.Cond.castable "ArbitratedBusModel" "java/lang/Object") ∈ lw_tbl := lw_at lw_m14 206 rfl
theorem in_X8 : ∀ w ∈ wsX80, w ∈ lw_all := lw_in wsX80 [2953, 2955, 2957, 2959, 2961, 2963, 2965, 2967, 2969, 2971, 2973] (by decide +kernel) (by decide +kernel)
