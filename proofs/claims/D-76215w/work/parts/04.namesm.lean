/-! LeftGlovesModel -/
set_option maxRecDepth 100000
def RX13 : String := "LeftGlovesModel"
def TX13 : u_T := fun k => match k with
  | 0 => ("LeftGlovesModel", "d", "[I", true)
  | 1 => ("LeftGlovesModel", "e", "[I", true)
  | 2 => ("LeftGlovesModel", "aside", "[I", true)
  | 3 => ("LeftGlovesModel", "kept", "[I", true)
  | 4 => ("LeftGlovesModel", "isKept", "Z", false)
  | 5 => ("LeftGlovesModel", "found", "[I", true)
  | 6 => ("LeftGlovesModel", "tape", "[B", true)
  | 7 => ("LeftGlovesModel", "taped", "I", false)
  | 8 => ("LeftGlovesModel", "gone", "I", false)
  | 9 => ("LeftGlovesModel", "at", "I", false)
  | 10 => ("LeftGlovesModel", "sort", "I", false)
  | 11 => ("LeftGlovesModel", "from", "I", false)
  | 12 => ("LeftGlovesModel", "value", "J", false)
  | 13 => ("LeftGlovesModel", "fault", "I", false)
  | 14 => ("LeftGlovesModel", "bitsOf", "[I", true)
  | 15 => ("LeftGlovesModel", "sizeOf", "[I", true)
  | 16 => ("LeftGlovesModel", "number", "[I", true)
  | _ => ("LeftGlovesModel", "passing", "[I", true)
def tyX13 : Nat → FieldType := fun k => match k with
  | 0 => .array .int
  | 1 => .array .int
  | 2 => .array .int
  | 3 => .array .int
  | 4 => .boolean
  | 5 => .array .int
  | 6 => .array .byte
  | 7 => .int
  | 8 => .int
  | 9 => .int
  | 10 => .int
  | 11 => .int
  | 12 => .long
  | 13 => .int
  | 14 => .array .int
  | 15 => .array .int
  | 16 => .array .int
  | _ => .array .int
abbrev wsX130 : List Cond := u_ws RX13 TX13 18
set_option maxRecDepth 100000 in
theorem nmX13 : ∀ a, a < 18 → ∀ b, b < 18 → a ≠ b → (TX13 a).2.1 ≠ (TX13 b).2.1 := by decide +kernel
set_option maxRecDepth 100000 in
theorem tyX13_ok : ∀ k, k < 18 → parseFieldDescriptor (TX13 k).2.2.1 = some (tyX13 k) := by decide +kernel
abbrev cX13_init : ByteArray := prog_16_method_1_code
def yX13_init : MethodName := ⟨RX13, "<init>", "()V"⟩
def dkwX13_init_5 : List UInt8 := [79, 132, 1, 1, 167, 255, 227, 177]
abbrev dktX13_init_5 : List UInt8 := dkwX13_init_5 ++ []
def dkwX13_init_4 : List UInt8 := [16, 6, 162, 0, 29, 42, 180, 0, 7, 6, 27, 96, 17, 3, 232, 27, 104, 16, 10, 27, 104, 96, 8, 96]
abbrev dktX13_init_4 : List UInt8 := dkwX13_init_4 ++ dktX13_init_5
def dkwX13_init_3 : List UInt8 := [188, 10, 181, 0, 35, 42, 16, 40, 188, 10, 181, 0, 38, 42, 180, 0, 7, 5, 4, 79, 3, 60, 27]
abbrev dktX13_init_3 : List UInt8 := dkwX13_init_3 ++ dktX13_init_4
def dkwX13_init_2 : List UInt8 := [188, 8, 181, 0, 25, 42, 7, 188, 10, 181, 0, 29, 42, 7, 188, 10, 181, 0, 32, 42, 17, 0, 160]
abbrev dktX13_init_2 : List UInt8 := dkwX13_init_2 ++ dktX13_init_3
def dkwX13_init_1 : List UInt8 := [188, 10, 181, 0, 16, 42, 16, 75, 188, 10, 181, 0, 19, 42, 16, 7, 188, 10, 181, 0, 22, 42, 16, 120]
abbrev dktX13_init_1 : List UInt8 := dkwX13_init_1 ++ dktX13_init_2
def dkwX13_init_0 : List UInt8 := [42, 183, 0, 1, 42, 16, 75, 188, 10, 181, 0, 7, 42, 16, 75, 188, 10, 181, 0, 13, 42, 16, 75]
abbrev dktX13_init_0 : List UInt8 := dkwX13_init_0 ++ dktX13_init_1
theorem dksX13_init_0 : cX13_init.data.toList.drop 0 = dktX13_init_0 := by decide +kernel
theorem dksX13_init_1 : cX13_init.data.toList.drop 23 = dktX13_init_1 := dk_seg dksX13_init_0 23 rfl rfl
theorem dksX13_init_2 : cX13_init.data.toList.drop 47 = dktX13_init_2 := dk_seg dksX13_init_1 24 rfl rfl
theorem dksX13_init_3 : cX13_init.data.toList.drop 70 = dktX13_init_3 := dk_seg dksX13_init_2 23 rfl rfl
theorem dksX13_init_4 : cX13_init.data.toList.drop 93 = dktX13_init_4 := dk_seg dksX13_init_3 23 rfl rfl
theorem dksX13_init_5 : cX13_init.data.toList.drop 117 = dktX13_init_5 := dk_seg dksX13_init_4 24 rfl rfl
theorem dX13_init_0 : decode cX13_init 0 = .ok (.aload_n 0, 1) := dk_42 (dk_at dksX13_init_0 0 rfl rfl)
theorem dX13_init_1 : decode cX13_init 1 = .ok (.invokespecial 1, 3) := dk_183 0 1 (dk_at dksX13_init_0 1 rfl rfl)
theorem dX13_init_4 : decode cX13_init 4 = .ok (.aload_n 0, 1) := dk_42 (dk_at dksX13_init_0 4 rfl rfl)
theorem dX13_init_5 : decode cX13_init 5 = .ok (.bipush 75, 2) := dk_16 75 (dk_at dksX13_init_0 5 rfl rfl)
theorem dX13_init_7 : decode cX13_init 7 = .ok (.newarray .int, 2) := dk_188_10 (dk_at dksX13_init_0 7 rfl rfl)
theorem dX13_init_9 : decode cX13_init 9 = .ok (.putfield 7, 3) := dk_181 0 7 (dk_at dksX13_init_0 9 rfl rfl)
theorem dX13_init_12 : decode cX13_init 12 = .ok (.aload_n 0, 1) := dk_42 (dk_at dksX13_init_0 12 rfl rfl)
theorem dX13_init_13 : decode cX13_init 13 = .ok (.bipush 75, 2) := dk_16 75 (dk_at dksX13_init_0 13 rfl rfl)
theorem dX13_init_15 : decode cX13_init 15 = .ok (.newarray .int, 2) := dk_188_10 (dk_at dksX13_init_0 15 rfl rfl)
theorem dX13_init_17 : decode cX13_init 17 = .ok (.putfield 13, 3) := dk_181 0 13 (dk_at dksX13_init_0 17 rfl rfl)
theorem dX13_init_20 : decode cX13_init 20 = .ok (.aload_n 0, 1) := dk_42 (dk_at dksX13_init_0 20 rfl rfl)
theorem dX13_init_21 : decode cX13_init 21 = .ok (.bipush 75, 2) := dk_16 75 (dk_at dksX13_init_0 21 rfl rfl)
theorem dX13_init_23 : decode cX13_init 23 = .ok (.newarray .int, 2) := dk_188_10 (dk_at dksX13_init_1 0 rfl rfl)
theorem dX13_init_25 : decode cX13_init 25 = .ok (.putfield 16, 3) := dk_181 0 16 (dk_at dksX13_init_1 2 rfl rfl)
theorem dX13_init_28 : decode cX13_init 28 = .ok (.aload_n 0, 1) := dk_42 (dk_at dksX13_init_1 5 rfl rfl)
theorem dX13_init_29 : decode cX13_init 29 = .ok (.bipush 75, 2) := dk_16 75 (dk_at dksX13_init_1 6 rfl rfl)
theorem dX13_init_31 : decode cX13_init 31 = .ok (.newarray .int, 2) := dk_188_10 (dk_at dksX13_init_1 8 rfl rfl)
theorem dX13_init_33 : decode cX13_init 33 = .ok (.putfield 19, 3) := dk_181 0 19 (dk_at dksX13_init_1 10 rfl rfl)
theorem dX13_init_36 : decode cX13_init 36 = .ok (.aload_n 0, 1) := dk_42 (dk_at dksX13_init_1 13 rfl rfl)
theorem dX13_init_37 : decode cX13_init 37 = .ok (.bipush 7, 2) := dk_16 7 (dk_at dksX13_init_1 14 rfl rfl)
theorem dX13_init_39 : decode cX13_init 39 = .ok (.newarray .int, 2) := dk_188_10 (dk_at dksX13_init_1 16 rfl rfl)
theorem dX13_init_41 : decode cX13_init 41 = .ok (.putfield 22, 3) := dk_181 0 22 (dk_at dksX13_init_1 18 rfl rfl)
theorem dX13_init_44 : decode cX13_init 44 = .ok (.aload_n 0, 1) := dk_42 (dk_at dksX13_init_1 21 rfl rfl)
theorem dX13_init_45 : decode cX13_init 45 = .ok (.bipush 120, 2) := dk_16 120 (dk_at dksX13_init_1 22 rfl rfl)
theorem dX13_init_47 : decode cX13_init 47 = .ok (.newarray .byte, 2) := dk_188_8 (dk_at dksX13_init_2 0 rfl rfl)
theorem dX13_init_49 : decode cX13_init 49 = .ok (.putfield 25, 3) := dk_181 0 25 (dk_at dksX13_init_2 2 rfl rfl)
theorem dX13_init_52 : decode cX13_init 52 = .ok (.aload_n 0, 1) := dk_42 (dk_at dksX13_init_2 5 rfl rfl)
theorem dX13_init_53 : decode cX13_init 53 = .ok (.iconst 4, 1) := dk_7 (dk_at dksX13_init_2 6 rfl rfl)
theorem dX13_init_54 : decode cX13_init 54 = .ok (.newarray .int, 2) := dk_188_10 (dk_at dksX13_init_2 7 rfl rfl)
theorem dX13_init_56 : decode cX13_init 56 = .ok (.putfield 29, 3) := dk_181 0 29 (dk_at dksX13_init_2 9 rfl rfl)
theorem dX13_init_59 : decode cX13_init 59 = .ok (.aload_n 0, 1) := dk_42 (dk_at dksX13_init_2 12 rfl rfl)
theorem dX13_init_60 : decode cX13_init 60 = .ok (.iconst 4, 1) := dk_7 (dk_at dksX13_init_2 13 rfl rfl)
theorem dX13_init_61 : decode cX13_init 61 = .ok (.newarray .int, 2) := dk_188_10 (dk_at dksX13_init_2 14 rfl rfl)
theorem dX13_init_63 : decode cX13_init 63 = .ok (.putfield 32, 3) := dk_181 0 32 (dk_at dksX13_init_2 16 rfl rfl)
theorem dX13_init_66 : decode cX13_init 66 = .ok (.aload_n 0, 1) := dk_42 (dk_at dksX13_init_2 19 rfl rfl)
theorem dX13_init_67 : decode cX13_init 67 = .ok (.sipush 160, 3) := dk_17 0 160 (dk_at dksX13_init_2 20 rfl rfl)
theorem dX13_init_70 : decode cX13_init 70 = .ok (.newarray .int, 2) := dk_188_10 (dk_at dksX13_init_3 0 rfl rfl)
theorem dX13_init_72 : decode cX13_init 72 = .ok (.putfield 35, 3) := dk_181 0 35 (dk_at dksX13_init_3 2 rfl rfl)
theorem dX13_init_75 : decode cX13_init 75 = .ok (.aload_n 0, 1) := dk_42 (dk_at dksX13_init_3 5 rfl rfl)
theorem dX13_init_76 : decode cX13_init 76 = .ok (.bipush 40, 2) := dk_16 40 (dk_at dksX13_init_3 6 rfl rfl)
theorem dX13_init_78 : decode cX13_init 78 = .ok (.newarray .int, 2) := dk_188_10 (dk_at dksX13_init_3 8 rfl rfl)
theorem dX13_init_80 : decode cX13_init 80 = .ok (.putfield 38, 3) := dk_181 0 38 (dk_at dksX13_init_3 10 rfl rfl)
theorem dX13_init_83 : decode cX13_init 83 = .ok (.aload_n 0, 1) := dk_42 (dk_at dksX13_init_3 13 rfl rfl)
theorem dX13_init_84 : decode cX13_init 84 = .ok (.getfield 7, 3) := dk_180 0 7 (dk_at dksX13_init_3 14 rfl rfl)
theorem dX13_init_87 : decode cX13_init 87 = .ok (.iconst 2, 1) := dk_5 (dk_at dksX13_init_3 17 rfl rfl)
theorem dX13_init_88 : decode cX13_init 88 = .ok (.iconst 1, 1) := dk_4 (dk_at dksX13_init_3 18 rfl rfl)
theorem dX13_init_89 : decode cX13_init 89 = .ok (.iastore, 1) := dk_79 (dk_at dksX13_init_3 19 rfl rfl)
theorem dX13_init_90 : decode cX13_init 90 = .ok (.iconst 0, 1) := dk_3 (dk_at dksX13_init_3 20 rfl rfl)
theorem dX13_init_91 : decode cX13_init 91 = .ok (.istore_n 1, 1) := dk_60 (dk_at dksX13_init_3 21 rfl rfl)
theorem dX13_init_92 : decode cX13_init 92 = .ok (.iload_n 1, 1) := dk_27 (dk_at dksX13_init_3 22 rfl rfl)
theorem dX13_init_93 : decode cX13_init 93 = .ok (.bipush 6, 2) := dk_16 6 (dk_at dksX13_init_4 0 rfl rfl)
theorem dX13_init_95 : decode cX13_init 95 = .ok (.if_icmp .ge 29, 3) := dk_162 0 29 (dk_at dksX13_init_4 2 rfl rfl)
theorem dX13_init_98 : decode cX13_init 98 = .ok (.aload_n 0, 1) := dk_42 (dk_at dksX13_init_4 5 rfl rfl)
theorem dX13_init_99 : decode cX13_init 99 = .ok (.getfield 7, 3) := dk_180 0 7 (dk_at dksX13_init_4 6 rfl rfl)
theorem dX13_init_102 : decode cX13_init 102 = .ok (.iconst 3, 1) := dk_6 (dk_at dksX13_init_4 9 rfl rfl)
theorem dX13_init_103 : decode cX13_init 103 = .ok (.iload_n 1, 1) := dk_27 (dk_at dksX13_init_4 10 rfl rfl)
theorem dX13_init_104 : decode cX13_init 104 = .ok (.iadd, 1) := dk_96 (dk_at dksX13_init_4 11 rfl rfl)
theorem dX13_init_105 : decode cX13_init 105 = .ok (.sipush 1000, 3) := dk_17 3 232 (dk_at dksX13_init_4 12 rfl rfl)
theorem dX13_init_108 : decode cX13_init 108 = .ok (.iload_n 1, 1) := dk_27 (dk_at dksX13_init_4 15 rfl rfl)
theorem dX13_init_109 : decode cX13_init 109 = .ok (.imul, 1) := dk_104 (dk_at dksX13_init_4 16 rfl rfl)
theorem dX13_init_110 : decode cX13_init 110 = .ok (.bipush 10, 2) := dk_16 10 (dk_at dksX13_init_4 17 rfl rfl)
theorem dX13_init_112 : decode cX13_init 112 = .ok (.iload_n 1, 1) := dk_27 (dk_at dksX13_init_4 19 rfl rfl)
theorem dX13_init_113 : decode cX13_init 113 = .ok (.imul, 1) := dk_104 (dk_at dksX13_init_4 20 rfl rfl)
theorem dX13_init_114 : decode cX13_init 114 = .ok (.iadd, 1) := dk_96 (dk_at dksX13_init_4 21 rfl rfl)
theorem dX13_init_115 : decode cX13_init 115 = .ok (.iconst 5, 1) := dk_8 (dk_at dksX13_init_4 22 rfl rfl)
theorem dX13_init_116 : decode cX13_init 116 = .ok (.iadd, 1) := dk_96 (dk_at dksX13_init_4 23 rfl rfl)
theorem dX13_init_117 : decode cX13_init 117 = .ok (.iastore, 1) := dk_79 (dk_at dksX13_init_5 0 rfl rfl)
theorem dX13_init_118 : decode cX13_init 118 = .ok (.iinc 1 1, 3) := dk_132 1 1 (dk_at dksX13_init_5 1 rfl rfl)
theorem dX13_init_121 : decode cX13_init 121 = .ok (.goto (-29), 3) := dk_167 255 227 (dk_at dksX13_init_5 4 rfl rfl)
theorem dX13_init_124 : decode cX13_init 124 = .ok (.return_, 1) := dk_177 (dk_at dksX13_init_5 7 rfl rfl)
abbrev cX13_say : ByteArray := prog_16_method_33_code
def yX13_say : MethodName := ⟨RX13, "say", "(II)I"⟩
def dkwX13_say_1 : List UInt8 := [167, 0, 8, 42, 3, 182, 0, 128, 172]
abbrev dktX13_say_1 : List UInt8 := dkwX13_say_1 ++ []
def dkwX13_say_0 : List UInt8 := [27, 184, 0, 119, 153, 0, 21, 28, 184, 0, 122, 153, 0, 14, 42, 6, 27, 96, 28, 182, 0, 125]
abbrev dktX13_say_0 : List UInt8 := dkwX13_say_0 ++ dktX13_say_1
theorem dksX13_say_0 : cX13_say.data.toList.drop 0 = dktX13_say_0 := by decide +kernel
theorem dksX13_say_1 : cX13_say.data.toList.drop 22 = dktX13_say_1 := dk_seg dksX13_say_0 22 rfl rfl
theorem dX13_say_0 : decode cX13_say 0 = .ok (.iload_n 1, 1) := dk_27 (dk_at dksX13_say_0 0 rfl rfl)
theorem dX13_say_1 : decode cX13_say 1 = .ok (.invokestatic 119, 3) := dk_184 0 119 (dk_at dksX13_say_0 1 rfl rfl)
theorem dX13_say_4 : decode cX13_say 4 = .ok (.ifCond .eq 21, 3) := dk_153 0 21 (dk_at dksX13_say_0 4 rfl rfl)
theorem dX13_say_7 : decode cX13_say 7 = .ok (.iload_n 2, 1) := dk_28 (dk_at dksX13_say_0 7 rfl rfl)
theorem dX13_say_8 : decode cX13_say 8 = .ok (.invokestatic 122, 3) := dk_184 0 122 (dk_at dksX13_say_0 8 rfl rfl)
theorem dX13_say_11 : decode cX13_say 11 = .ok (.ifCond .eq 14, 3) := dk_153 0 14 (dk_at dksX13_say_0 11 rfl rfl)
theorem dX13_say_14 : decode cX13_say 14 = .ok (.aload_n 0, 1) := dk_42 (dk_at dksX13_say_0 14 rfl rfl)
theorem dX13_say_15 : decode cX13_say 15 = .ok (.iconst 3, 1) := dk_6 (dk_at dksX13_say_0 15 rfl rfl)
theorem dX13_say_16 : decode cX13_say 16 = .ok (.iload_n 1, 1) := dk_27 (dk_at dksX13_say_0 16 rfl rfl)
theorem dX13_say_17 : decode cX13_say 17 = .ok (.iadd, 1) := dk_96 (dk_at dksX13_say_0 17 rfl rfl)
theorem dX13_say_18 : decode cX13_say 18 = .ok (.iload_n 2, 1) := dk_28 (dk_at dksX13_say_0 18 rfl rfl)
theorem dX13_say_19 : decode cX13_say 19 = .ok (.invokevirtual 125, 3) := dk_182 0 125 (dk_at dksX13_say_0 19 rfl rfl)
theorem dX13_say_22 : decode cX13_say 22 = .ok (.goto 8, 3) := dk_167 0 8 (dk_at dksX13_say_1 0 rfl rfl)
theorem dX13_say_25 : decode cX13_say 25 = .ok (.aload_n 0, 1) := dk_42 (dk_at dksX13_say_1 3 rfl rfl)
theorem dX13_say_26 : decode cX13_say 26 = .ok (.iconst 0, 1) := dk_3 (dk_at dksX13_say_1 4 rfl rfl)
theorem dX13_say_27 : decode cX13_say 27 = .ok (.invokevirtual 128, 3) := dk_182 0 128 (dk_at dksX13_say_1 5 rfl rfl)
theorem dX13_say_30 : decode cX13_say 30 = .ok (.ireturn, 1) := dk_172 (dk_at dksX13_say_1 8 rfl rfl)
abbrev cX13_isPlace : ByteArray := prog_16_method_10_code
def yX13_isPlace : MethodName := ⟨RX13, "isPlace", "(I)Z"⟩
def dkwX13_isPlace_0 : List UInt8 := [26, 133, 9, 20, 0, 50, 184, 0, 42, 172]
abbrev dktX13_isPlace_0 : List UInt8 := dkwX13_isPlace_0 ++ []
theorem dksX13_isPlace_0 : cX13_isPlace.data.toList.drop 0 = dktX13_isPlace_0 := by decide +kernel
theorem dX13_isPlace_0 : decode cX13_isPlace 0 = .ok (.iload_n 0, 1) := dk_26 (dk_at dksX13_isPlace_0 0 rfl rfl)
theorem dX13_isPlace_1 : decode cX13_isPlace 1 = .ok (.i2l, 1) := dk_133 (dk_at dksX13_isPlace_0 1 rfl rfl)
theorem dX13_isPlace_2 : decode cX13_isPlace 2 = .ok (.lconst 0, 1) := dk_9 (dk_at dksX13_isPlace_0 2 rfl rfl)
theorem dX13_isPlace_3 : decode cX13_isPlace 3 = .ok (.ldc2_w 50, 3) := dk_20 0 50 (dk_at dksX13_isPlace_0 3 rfl rfl)
theorem dX13_isPlace_6 : decode cX13_isPlace 6 = .ok (.invokestatic 42, 3) := dk_184 0 42 (dk_at dksX13_isPlace_0 6 rfl rfl)
theorem dX13_isPlace_9 : decode cX13_isPlace 9 = .ok (.ireturn, 1) := dk_172 (dk_at dksX13_isPlace_0 9 rfl rfl)
abbrev cX13_in : ByteArray := prog_16_method_4_code
def yX13_in : MethodName := ⟨RX13, "in", "(JJJ)Z"⟩
def dkwX13_in_0 : List UInt8 := [30, 32, 148, 155, 0, 14, 30, 22, 4, 148, 157, 0, 7, 4, 167, 0, 4, 3, 172]
abbrev dktX13_in_0 : List UInt8 := dkwX13_in_0 ++ []
theorem dksX13_in_0 : cX13_in.data.toList.drop 0 = dktX13_in_0 := by decide +kernel
theorem dX13_in_0 : decode cX13_in 0 = .ok (.lload_n 0, 1) := dk_30 (dk_at dksX13_in_0 0 rfl rfl)
theorem dX13_in_1 : decode cX13_in 1 = .ok (.lload_n 2, 1) := dk_32 (dk_at dksX13_in_0 1 rfl rfl)
theorem dX13_in_2 : decode cX13_in 2 = .ok (.lcmp, 1) := dk_148 (dk_at dksX13_in_0 2 rfl rfl)
theorem dX13_in_3 : decode cX13_in 3 = .ok (.ifCond .lt 14, 3) := dk_155 0 14 (dk_at dksX13_in_0 3 rfl rfl)
theorem dX13_in_6 : decode cX13_in 6 = .ok (.lload_n 0, 1) := dk_30 (dk_at dksX13_in_0 6 rfl rfl)
theorem dX13_in_7 : decode cX13_in 7 = .ok (.lload 4, 2) := dk_22 4 (dk_at dksX13_in_0 7 rfl rfl)
theorem dX13_in_9 : decode cX13_in 9 = .ok (.lcmp, 1) := dk_148 (dk_at dksX13_in_0 9 rfl rfl)
theorem dX13_in_10 : decode cX13_in 10 = .ok (.ifCond .gt 7, 3) := dk_157 0 7 (dk_at dksX13_in_0 10 rfl rfl)
theorem dX13_in_13 : decode cX13_in 13 = .ok (.iconst 1, 1) := dk_4 (dk_at dksX13_in_0 13 rfl rfl)
theorem dX13_in_14 : decode cX13_in 14 = .ok (.goto 4, 3) := dk_167 0 4 (dk_at dksX13_in_0 14 rfl rfl)
theorem dX13_in_17 : decode cX13_in 17 = .ok (.iconst 0, 1) := dk_3 (dk_at dksX13_in_0 17 rfl rfl)
theorem dX13_in_18 : decode cX13_in 18 = .ok (.ireturn, 1) := dk_172 (dk_at dksX13_in_0 18 rfl rfl)
abbrev cX13_isSaying : ByteArray := prog_16_method_11_code
def yX13_isSaying : MethodName := ⟨RX13, "isSaying", "(I)Z"⟩
def dkwX13_isSaying_1 : List UInt8 := [167, 0, 4, 3, 172]
abbrev dktX13_isSaying_1 : List UInt8 := dkwX13_isSaying_1 ++ []
def dkwX13_isSaying_0 : List UInt8 := [26, 133, 9, 20, 0, 52, 184, 0, 42, 153, 0, 18, 26, 17, 3, 232, 112, 17, 0, 160, 162, 0, 7, 4]
abbrev dktX13_isSaying_0 : List UInt8 := dkwX13_isSaying_0 ++ dktX13_isSaying_1
theorem dksX13_isSaying_0 : cX13_isSaying.data.toList.drop 0 = dktX13_isSaying_0 := by decide +kernel
theorem dksX13_isSaying_1 : cX13_isSaying.data.toList.drop 24 = dktX13_isSaying_1 := dk_seg dksX13_isSaying_0 24 rfl rfl
theorem dX13_isSaying_0 : decode cX13_isSaying 0 = .ok (.iload_n 0, 1) := dk_26 (dk_at dksX13_isSaying_0 0 rfl rfl)
theorem dX13_isSaying_1 : decode cX13_isSaying 1 = .ok (.i2l, 1) := dk_133 (dk_at dksX13_isSaying_0 1 rfl rfl)
theorem dX13_isSaying_2 : decode cX13_isSaying 2 = .ok (.lconst 0, 1) := dk_9 (dk_at dksX13_isSaying_0 2 rfl rfl)
theorem dX13_isSaying_3 : decode cX13_isSaying 3 = .ok (.ldc2_w 52, 3) := dk_20 0 52 (dk_at dksX13_isSaying_0 3 rfl rfl)
theorem dX13_isSaying_6 : decode cX13_isSaying 6 = .ok (.invokestatic 42, 3) := dk_184 0 42 (dk_at dksX13_isSaying_0 6 rfl rfl)
theorem dX13_isSaying_9 : decode cX13_isSaying 9 = .ok (.ifCond .eq 18, 3) := dk_153 0 18 (dk_at dksX13_isSaying_0 9 rfl rfl)
theorem dX13_isSaying_12 : decode cX13_isSaying 12 = .ok (.iload_n 0, 1) := dk_26 (dk_at dksX13_isSaying_0 12 rfl rfl)
theorem dX13_isSaying_13 : decode cX13_isSaying 13 = .ok (.sipush 1000, 3) := dk_17 3 232 (dk_at dksX13_isSaying_0 13 rfl rfl)
theorem dX13_isSaying_16 : decode cX13_isSaying 16 = .ok (.irem, 1) := dk_112 (dk_at dksX13_isSaying_0 16 rfl rfl)
theorem dX13_isSaying_17 : decode cX13_isSaying 17 = .ok (.sipush 160, 3) := dk_17 0 160 (dk_at dksX13_isSaying_0 17 rfl rfl)
theorem dX13_isSaying_20 : decode cX13_isSaying 20 = .ok (.if_icmp .ge 7, 3) := dk_162 0 7 (dk_at dksX13_isSaying_0 20 rfl rfl)
theorem dX13_isSaying_23 : decode cX13_isSaying 23 = .ok (.iconst 1, 1) := dk_4 (dk_at dksX13_isSaying_0 23 rfl rfl)
theorem dX13_isSaying_24 : decode cX13_isSaying 24 = .ok (.goto 4, 3) := dk_167 0 4 (dk_at dksX13_isSaying_1 0 rfl rfl)
theorem dX13_isSaying_27 : decode cX13_isSaying 27 = .ok (.iconst 0, 1) := dk_3 (dk_at dksX13_isSaying_1 3 rfl rfl)
theorem dX13_isSaying_28 : decode cX13_isSaying 28 = .ok (.ireturn, 1) := dk_172 (dk_at dksX13_isSaying_1 4 rfl rfl)
abbrev cX13_becomes : ByteArray := prog_16_method_14_code
def yX13_becomes : MethodName := ⟨RX13, "becomes", "(II)I"⟩
def dkwX13_becomes_0 : List UInt8 := [42, 180, 0, 7, 27, 46, 62, 42, 180, 0, 7, 27, 28, 79, 29, 172]
abbrev dktX13_becomes_0 : List UInt8 := dkwX13_becomes_0 ++ []
theorem dksX13_becomes_0 : cX13_becomes.data.toList.drop 0 = dktX13_becomes_0 := by decide +kernel
theorem dX13_becomes_0 : decode cX13_becomes 0 = .ok (.aload_n 0, 1) := dk_42 (dk_at dksX13_becomes_0 0 rfl rfl)
theorem dX13_becomes_1 : decode cX13_becomes 1 = .ok (.getfield 7, 3) := dk_180 0 7 (dk_at dksX13_becomes_0 1 rfl rfl)
theorem dX13_becomes_4 : decode cX13_becomes 4 = .ok (.iload_n 1, 1) := dk_27 (dk_at dksX13_becomes_0 4 rfl rfl)
theorem dX13_becomes_5 : decode cX13_becomes 5 = .ok (.iaload, 1) := dk_46 (dk_at dksX13_becomes_0 5 rfl rfl)
theorem dX13_becomes_6 : decode cX13_becomes 6 = .ok (.istore_n 3, 1) := dk_62 (dk_at dksX13_becomes_0 6 rfl rfl)
theorem dX13_becomes_7 : decode cX13_becomes 7 = .ok (.aload_n 0, 1) := dk_42 (dk_at dksX13_becomes_0 7 rfl rfl)
theorem dX13_becomes_8 : decode cX13_becomes 8 = .ok (.getfield 7, 3) := dk_180 0 7 (dk_at dksX13_becomes_0 8 rfl rfl)
theorem dX13_becomes_11 : decode cX13_becomes 11 = .ok (.iload_n 1, 1) := dk_27 (dk_at dksX13_becomes_0 11 rfl rfl)
theorem dX13_becomes_12 : decode cX13_becomes 12 = .ok (.iload_n 2, 1) := dk_28 (dk_at dksX13_becomes_0 12 rfl rfl)
theorem dX13_becomes_13 : decode cX13_becomes 13 = .ok (.iastore, 1) := dk_79 (dk_at dksX13_becomes_0 13 rfl rfl)
theorem dX13_becomes_14 : decode cX13_becomes 14 = .ok (.iload_n 3, 1) := dk_29 (dk_at dksX13_becomes_0 14 rfl rfl)
theorem dX13_becomes_15 : decode cX13_becomes 15 = .ok (.ireturn, 1) := dk_172 (dk_at dksX13_becomes_0 15 rfl rfl)
abbrev cX13_finds : ByteArray := prog_16_method_3_code
def yX13_finds : MethodName := ⟨RX13, "finds", "(I)I"⟩
def dkwX13_finds_0 : List UInt8 := [42, 180, 0, 22, 27, 92, 46, 4, 96, 79, 18, 41, 27, 100, 172]
abbrev dktX13_finds_0 : List UInt8 := dkwX13_finds_0 ++ []
theorem dksX13_finds_0 : cX13_finds.data.toList.drop 0 = dktX13_finds_0 := by decide +kernel
theorem dX13_finds_0 : decode cX13_finds 0 = .ok (.aload_n 0, 1) := dk_42 (dk_at dksX13_finds_0 0 rfl rfl)
theorem dX13_finds_1 : decode cX13_finds 1 = .ok (.getfield 22, 3) := dk_180 0 22 (dk_at dksX13_finds_0 1 rfl rfl)
theorem dX13_finds_4 : decode cX13_finds 4 = .ok (.iload_n 1, 1) := dk_27 (dk_at dksX13_finds_0 4 rfl rfl)
theorem dX13_finds_5 : decode cX13_finds 5 = .ok (.dup2, 1) := dk_92 (dk_at dksX13_finds_0 5 rfl rfl)
theorem dX13_finds_6 : decode cX13_finds 6 = .ok (.iaload, 1) := dk_46 (dk_at dksX13_finds_0 6 rfl rfl)
theorem dX13_finds_7 : decode cX13_finds 7 = .ok (.iconst 1, 1) := dk_4 (dk_at dksX13_finds_0 7 rfl rfl)
theorem dX13_finds_8 : decode cX13_finds 8 = .ok (.iadd, 1) := dk_96 (dk_at dksX13_finds_0 8 rfl rfl)
theorem dX13_finds_9 : decode cX13_finds 9 = .ok (.iastore, 1) := dk_79 (dk_at dksX13_finds_0 9 rfl rfl)
theorem dX13_finds_10 : decode cX13_finds 10 = .ok (.ldc 41, 2) := dk_18 41 (dk_at dksX13_finds_0 10 rfl rfl)
theorem dX13_finds_12 : decode cX13_finds 12 = .ok (.iload_n 1, 1) := dk_27 (dk_at dksX13_finds_0 12 rfl rfl)
theorem dX13_finds_13 : decode cX13_finds 13 = .ok (.isub, 1) := dk_100 (dk_at dksX13_finds_0 13 rfl rfl)
theorem dX13_finds_14 : decode cX13_finds 14 = .ok (.ireturn, 1) := dk_172 (dk_at dksX13_finds_0 14 rfl rfl)
abbrev cX13_said : ByteArray := prog_16_method_34_code
def yX13_said : MethodName := ⟨RX13, "said", "(I)I"⟩
def dkwX13_said_0 : List UInt8 := [27, 184, 0, 119, 153, 0, 14, 42, 180, 0, 7, 6, 27, 96, 46, 167, 0, 8, 42, 3, 182, 0, 128, 172]
abbrev dktX13_said_0 : List UInt8 := dkwX13_said_0 ++ []
theorem dksX13_said_0 : cX13_said.data.toList.drop 0 = dktX13_said_0 := by decide +kernel
theorem dX13_said_0 : decode cX13_said 0 = .ok (.iload_n 1, 1) := dk_27 (dk_at dksX13_said_0 0 rfl rfl)
theorem dX13_said_1 : decode cX13_said 1 = .ok (.invokestatic 119, 3) := dk_184 0 119 (dk_at dksX13_said_0 1 rfl rfl)
theorem dX13_said_4 : decode cX13_said 4 = .ok (.ifCond .eq 14, 3) := dk_153 0 14 (dk_at dksX13_said_0 4 rfl rfl)
theorem dX13_said_7 : decode cX13_said 7 = .ok (.aload_n 0, 1) := dk_42 (dk_at dksX13_said_0 7 rfl rfl)
theorem dX13_said_8 : decode cX13_said 8 = .ok (.getfield 7, 3) := dk_180 0 7 (dk_at dksX13_said_0 8 rfl rfl)
theorem dX13_said_11 : decode cX13_said 11 = .ok (.iconst 3, 1) := dk_6 (dk_at dksX13_said_0 11 rfl rfl)
theorem dX13_said_12 : decode cX13_said 12 = .ok (.iload_n 1, 1) := dk_27 (dk_at dksX13_said_0 12 rfl rfl)
theorem dX13_said_13 : decode cX13_said 13 = .ok (.iadd, 1) := dk_96 (dk_at dksX13_said_0 13 rfl rfl)
theorem dX13_said_14 : decode cX13_said 14 = .ok (.iaload, 1) := dk_46 (dk_at dksX13_said_0 14 rfl rfl)
theorem dX13_said_15 : decode cX13_said 15 = .ok (.goto 8, 3) := dk_167 0 8 (dk_at dksX13_said_0 15 rfl rfl)
theorem dX13_said_18 : decode cX13_said 18 = .ok (.aload_n 0, 1) := dk_42 (dk_at dksX13_said_0 18 rfl rfl)
theorem dX13_said_19 : decode cX13_said 19 = .ok (.iconst 0, 1) := dk_3 (dk_at dksX13_said_0 19 rfl rfl)
theorem dX13_said_20 : decode cX13_said 20 = .ok (.invokevirtual 128, 3) := dk_182 0 128 (dk_at dksX13_said_0 20 rfl rfl)
theorem dX13_said_23 : decode cX13_said 23 = .ok (.ireturn, 1) := dk_172 (dk_at dksX13_said_0 23 rfl rfl)
abbrev cX13_room : ByteArray := prog_16_method_35_code
def yX13_room : MethodName := ⟨RX13, "room", "(II)I"⟩
def dkwX13_room_7 : List UInt8 := [172]
abbrev dktX13_room_7 : List UInt8 := dkwX13_room_7 ++ []
def dkwX13_room_6 : List UInt8 := [96, 46, 16, 10, 108, 16, 100, 112, 120, 167, 0, 4, 3, 128, 54, 4, 132, 5, 1, 167, 255, 203, 21, 4]
abbrev dktX13_room_6 : List UInt8 := dkwX13_room_6 ++ dktX13_room_7
def dkwX13_room_5 : List UInt8 := [180, 0, 7, 6, 21, 5, 96, 46, 17, 3, 232, 108, 27, 160, 0, 23, 4, 42, 180, 0, 7, 6, 21, 5]
abbrev dktX13_room_5 : List UInt8 := dkwX13_room_5 ++ dktX13_room_6
def dkwX13_room_4 : List UInt8 := [42, 29, 6, 182, 0, 116, 172, 3, 54, 4, 3, 54, 5, 21, 5, 16, 6, 162, 0, 52, 21, 4, 42]
abbrev dktX13_room_4 : List UInt8 := dkwX13_room_4 ++ dktX13_room_5
def dkwX13_room_3 : List UInt8 := [162, 0, 31, 28, 154, 0, 7, 29, 167, 0, 22, 28, 4, 160, 0, 11, 42, 27, 182, 0, 78, 167, 0, 9]
abbrev dktX13_room_3 : List UInt8 := dkwX13_room_3 ++ dktX13_room_4
def dkwX13_room_2 : List UInt8 := [182, 0, 62, 153, 0, 10, 4, 21, 4, 120, 167, 0, 4, 3, 128, 62, 132, 4, 1, 167, 255, 221, 28, 6]
abbrev dktX13_room_2 : List UInt8 := dkwX13_room_2 ++ dktX13_room_3
def dkwX13_room_1 : List UInt8 := [172, 3, 62, 3, 54, 4, 21, 4, 42, 180, 0, 7, 3, 46, 162, 0, 30, 29, 42, 21, 4, 27]
abbrev dktX13_room_1 : List UInt8 := dkwX13_room_1 ++ dktX13_room_2
def dkwX13_room_0 : List UInt8 := [27, 184, 0, 119, 153, 0, 15, 28, 133, 9, 20, 0, 131, 184, 0, 42, 154, 0, 9, 42, 3, 182, 0, 128]
abbrev dktX13_room_0 : List UInt8 := dkwX13_room_0 ++ dktX13_room_1
theorem dksX13_room_0 : cX13_room.data.toList.drop 0 = dktX13_room_0 := by decide +kernel
theorem dksX13_room_1 : cX13_room.data.toList.drop 24 = dktX13_room_1 := dk_seg dksX13_room_0 24 rfl rfl
theorem dksX13_room_2 : cX13_room.data.toList.drop 46 = dktX13_room_2 := dk_seg dksX13_room_1 22 rfl rfl
theorem dksX13_room_3 : cX13_room.data.toList.drop 70 = dktX13_room_3 := dk_seg dksX13_room_2 24 rfl rfl
theorem dksX13_room_4 : cX13_room.data.toList.drop 94 = dktX13_room_4 := dk_seg dksX13_room_3 24 rfl rfl
theorem dksX13_room_5 : cX13_room.data.toList.drop 117 = dktX13_room_5 := dk_seg dksX13_room_4 23 rfl rfl
theorem dksX13_room_6 : cX13_room.data.toList.drop 141 = dktX13_room_6 := dk_seg dksX13_room_5 24 rfl rfl
theorem dksX13_room_7 : cX13_room.data.toList.drop 165 = dktX13_room_7 := dk_seg dksX13_room_6 24 rfl rfl
theorem dX13_room_0 : decode cX13_room 0 = .ok (.iload_n 1, 1) := dk_27 (dk_at dksX13_room_0 0 rfl rfl)
theorem dX13_room_1 : decode cX13_room 1 = .ok (.invokestatic 119, 3) := dk_184 0 119 (dk_at dksX13_room_0 1 rfl rfl)
theorem dX13_room_4 : decode cX13_room 4 = .ok (.ifCond .eq 15, 3) := dk_153 0 15 (dk_at dksX13_room_0 4 rfl rfl)
theorem dX13_room_7 : decode cX13_room 7 = .ok (.iload_n 2, 1) := dk_28 (dk_at dksX13_room_0 7 rfl rfl)
theorem dX13_room_8 : decode cX13_room 8 = .ok (.i2l, 1) := dk_133 (dk_at dksX13_room_0 8 rfl rfl)
theorem dX13_room_9 : decode cX13_room 9 = .ok (.lconst 0, 1) := dk_9 (dk_at dksX13_room_0 9 rfl rfl)
theorem dX13_room_10 : decode cX13_room 10 = .ok (.ldc2_w 131, 3) := dk_20 0 131 (dk_at dksX13_room_0 10 rfl rfl)
theorem dX13_room_13 : decode cX13_room 13 = .ok (.invokestatic 42, 3) := dk_184 0 42 (dk_at dksX13_room_0 13 rfl rfl)
theorem dX13_room_16 : decode cX13_room 16 = .ok (.ifCond .ne 9, 3) := dk_154 0 9 (dk_at dksX13_room_0 16 rfl rfl)
theorem dX13_room_19 : decode cX13_room 19 = .ok (.aload_n 0, 1) := dk_42 (dk_at dksX13_room_0 19 rfl rfl)
theorem dX13_room_20 : decode cX13_room 20 = .ok (.iconst 0, 1) := dk_3 (dk_at dksX13_room_0 20 rfl rfl)
theorem dX13_room_21 : decode cX13_room 21 = .ok (.invokevirtual 128, 3) := dk_182 0 128 (dk_at dksX13_room_0 21 rfl rfl)
theorem dX13_room_24 : decode cX13_room 24 = .ok (.ireturn, 1) := dk_172 (dk_at dksX13_room_1 0 rfl rfl)
theorem dX13_room_25 : decode cX13_room 25 = .ok (.iconst 0, 1) := dk_3 (dk_at dksX13_room_1 1 rfl rfl)
theorem dX13_room_26 : decode cX13_room 26 = .ok (.istore_n 3, 1) := dk_62 (dk_at dksX13_room_1 2 rfl rfl)
theorem dX13_room_27 : decode cX13_room 27 = .ok (.iconst 0, 1) := dk_3 (dk_at dksX13_room_1 3 rfl rfl)
theorem dX13_room_28 : decode cX13_room 28 = .ok (.istore 4, 2) := dk_54 4 (dk_at dksX13_room_1 4 rfl rfl)
theorem dX13_room_30 : decode cX13_room 30 = .ok (.iload 4, 2) := dk_21 4 (dk_at dksX13_room_1 6 rfl rfl)
theorem dX13_room_32 : decode cX13_room 32 = .ok (.aload_n 0, 1) := dk_42 (dk_at dksX13_room_1 8 rfl rfl)
theorem dX13_room_33 : decode cX13_room 33 = .ok (.getfield 7, 3) := dk_180 0 7 (dk_at dksX13_room_1 9 rfl rfl)
theorem dX13_room_36 : decode cX13_room 36 = .ok (.iconst 0, 1) := dk_3 (dk_at dksX13_room_1 12 rfl rfl)
theorem dX13_room_37 : decode cX13_room 37 = .ok (.iaload, 1) := dk_46 (dk_at dksX13_room_1 13 rfl rfl)
theorem dX13_room_38 : decode cX13_room 38 = .ok (.if_icmp .ge 30, 3) := dk_162 0 30 (dk_at dksX13_room_1 14 rfl rfl)
theorem dX13_room_41 : decode cX13_room 41 = .ok (.iload_n 3, 1) := dk_29 (dk_at dksX13_room_1 17 rfl rfl)
theorem dX13_room_42 : decode cX13_room 42 = .ok (.aload_n 0, 1) := dk_42 (dk_at dksX13_room_1 18 rfl rfl)
theorem dX13_room_43 : decode cX13_room 43 = .ok (.iload 4, 2) := dk_21 4 (dk_at dksX13_room_1 19 rfl rfl)
theorem dX13_room_45 : decode cX13_room 45 = .ok (.iload_n 1, 1) := dk_27 (dk_at dksX13_room_1 21 rfl rfl)
theorem dX13_room_46 : decode cX13_room 46 = .ok (.invokevirtual 62, 3) := dk_182 0 62 (dk_at dksX13_room_2 0 rfl rfl)
theorem dX13_room_49 : decode cX13_room 49 = .ok (.ifCond .eq 10, 3) := dk_153 0 10 (dk_at dksX13_room_2 3 rfl rfl)
theorem dX13_room_52 : decode cX13_room 52 = .ok (.iconst 1, 1) := dk_4 (dk_at dksX13_room_2 6 rfl rfl)
theorem dX13_room_53 : decode cX13_room 53 = .ok (.iload 4, 2) := dk_21 4 (dk_at dksX13_room_2 7 rfl rfl)
theorem dX13_room_55 : decode cX13_room 55 = .ok (.ishl, 1) := dk_120 (dk_at dksX13_room_2 9 rfl rfl)
theorem dX13_room_56 : decode cX13_room 56 = .ok (.goto 4, 3) := dk_167 0 4 (dk_at dksX13_room_2 10 rfl rfl)
theorem dX13_room_59 : decode cX13_room 59 = .ok (.iconst 0, 1) := dk_3 (dk_at dksX13_room_2 13 rfl rfl)
theorem dX13_room_60 : decode cX13_room 60 = .ok (.ior, 1) := dk_128 (dk_at dksX13_room_2 14 rfl rfl)
theorem dX13_room_61 : decode cX13_room 61 = .ok (.istore_n 3, 1) := dk_62 (dk_at dksX13_room_2 15 rfl rfl)
theorem dX13_room_62 : decode cX13_room 62 = .ok (.iinc 4 1, 3) := dk_132 4 1 (dk_at dksX13_room_2 16 rfl rfl)
theorem dX13_room_65 : decode cX13_room 65 = .ok (.goto (-35), 3) := dk_167 255 221 (dk_at dksX13_room_2 19 rfl rfl)
theorem dX13_room_68 : decode cX13_room 68 = .ok (.iload_n 2, 1) := dk_28 (dk_at dksX13_room_2 22 rfl rfl)
theorem dX13_room_69 : decode cX13_room 69 = .ok (.iconst 3, 1) := dk_6 (dk_at dksX13_room_2 23 rfl rfl)
theorem dX13_room_70 : decode cX13_room 70 = .ok (.if_icmp .ge 31, 3) := dk_162 0 31 (dk_at dksX13_room_3 0 rfl rfl)
theorem dX13_room_73 : decode cX13_room 73 = .ok (.iload_n 2, 1) := dk_28 (dk_at dksX13_room_3 3 rfl rfl)
theorem dX13_room_74 : decode cX13_room 74 = .ok (.ifCond .ne 7, 3) := dk_154 0 7 (dk_at dksX13_room_3 4 rfl rfl)
theorem dX13_room_77 : decode cX13_room 77 = .ok (.iload_n 3, 1) := dk_29 (dk_at dksX13_room_3 7 rfl rfl)
theorem dX13_room_78 : decode cX13_room 78 = .ok (.goto 22, 3) := dk_167 0 22 (dk_at dksX13_room_3 8 rfl rfl)
theorem dX13_room_81 : decode cX13_room 81 = .ok (.iload_n 2, 1) := dk_28 (dk_at dksX13_room_3 11 rfl rfl)
theorem dX13_room_82 : decode cX13_room 82 = .ok (.iconst 1, 1) := dk_4 (dk_at dksX13_room_3 12 rfl rfl)
theorem dX13_room_83 : decode cX13_room 83 = .ok (.if_icmp .ne 11, 3) := dk_160 0 11 (dk_at dksX13_room_3 13 rfl rfl)
theorem dX13_room_86 : decode cX13_room 86 = .ok (.aload_n 0, 1) := dk_42 (dk_at dksX13_room_3 16 rfl rfl)
theorem dX13_room_87 : decode cX13_room 87 = .ok (.iload_n 1, 1) := dk_27 (dk_at dksX13_room_3 17 rfl rfl)
theorem dX13_room_88 : decode cX13_room 88 = .ok (.invokevirtual 78, 3) := dk_182 0 78 (dk_at dksX13_room_3 18 rfl rfl)
theorem dX13_room_91 : decode cX13_room 91 = .ok (.goto 9, 3) := dk_167 0 9 (dk_at dksX13_room_3 21 rfl rfl)
theorem dX13_room_94 : decode cX13_room 94 = .ok (.aload_n 0, 1) := dk_42 (dk_at dksX13_room_4 0 rfl rfl)
theorem dX13_room_95 : decode cX13_room 95 = .ok (.iload_n 3, 1) := dk_29 (dk_at dksX13_room_4 1 rfl rfl)
theorem dX13_room_96 : decode cX13_room 96 = .ok (.iconst 3, 1) := dk_6 (dk_at dksX13_room_4 2 rfl rfl)
theorem dX13_room_97 : decode cX13_room 97 = .ok (.invokevirtual 116, 3) := dk_182 0 116 (dk_at dksX13_room_4 3 rfl rfl)
theorem dX13_room_100 : decode cX13_room 100 = .ok (.ireturn, 1) := dk_172 (dk_at dksX13_room_4 6 rfl rfl)
theorem dX13_room_101 : decode cX13_room 101 = .ok (.iconst 0, 1) := dk_3 (dk_at dksX13_room_4 7 rfl rfl)
theorem dX13_room_102 : decode cX13_room 102 = .ok (.istore 4, 2) := dk_54 4 (dk_at dksX13_room_4 8 rfl rfl)
theorem dX13_room_104 : decode cX13_room 104 = .ok (.iconst 0, 1) := dk_3 (dk_at dksX13_room_4 10 rfl rfl)
theorem dX13_room_105 : decode cX13_room 105 = .ok (.istore 5, 2) := dk_54 5 (dk_at dksX13_room_4 11 rfl rfl)
theorem dX13_room_107 : decode cX13_room 107 = .ok (.iload 5, 2) := dk_21 5 (dk_at dksX13_room_4 13 rfl rfl)
theorem dX13_room_109 : decode cX13_room 109 = .ok (.bipush 6, 2) := dk_16 6 (dk_at dksX13_room_4 15 rfl rfl)
theorem dX13_room_111 : decode cX13_room 111 = .ok (.if_icmp .ge 52, 3) := dk_162 0 52 (dk_at dksX13_room_4 17 rfl rfl)
theorem dX13_room_114 : decode cX13_room 114 = .ok (.iload 4, 2) := dk_21 4 (dk_at dksX13_room_4 20 rfl rfl)
theorem dX13_room_116 : decode cX13_room 116 = .ok (.aload_n 0, 1) := dk_42 (dk_at dksX13_room_4 22 rfl rfl)
theorem dX13_room_117 : decode cX13_room 117 = .ok (.getfield 7, 3) := dk_180 0 7 (dk_at dksX13_room_5 0 rfl rfl)
theorem dX13_room_120 : decode cX13_room 120 = .ok (.iconst 3, 1) := dk_6 (dk_at dksX13_room_5 3 rfl rfl)
theorem dX13_room_121 : decode cX13_room 121 = .ok (.iload 5, 2) := dk_21 5 (dk_at dksX13_room_5 4 rfl rfl)
theorem dX13_room_123 : decode cX13_room 123 = .ok (.iadd, 1) := dk_96 (dk_at dksX13_room_5 6 rfl rfl)
theorem dX13_room_124 : decode cX13_room 124 = .ok (.iaload, 1) := dk_46 (dk_at dksX13_room_5 7 rfl rfl)
theorem dX13_room_125 : decode cX13_room 125 = .ok (.sipush 1000, 3) := dk_17 3 232 (dk_at dksX13_room_5 8 rfl rfl)
theorem dX13_room_128 : decode cX13_room 128 = .ok (.idiv, 1) := dk_108 (dk_at dksX13_room_5 11 rfl rfl)
theorem dX13_room_129 : decode cX13_room 129 = .ok (.iload_n 1, 1) := dk_27 (dk_at dksX13_room_5 12 rfl rfl)
theorem dX13_room_130 : decode cX13_room 130 = .ok (.if_icmp .ne 23, 3) := dk_160 0 23 (dk_at dksX13_room_5 13 rfl rfl)
theorem dX13_room_133 : decode cX13_room 133 = .ok (.iconst 1, 1) := dk_4 (dk_at dksX13_room_5 16 rfl rfl)
theorem dX13_room_134 : decode cX13_room 134 = .ok (.aload_n 0, 1) := dk_42 (dk_at dksX13_room_5 17 rfl rfl)
theorem dX13_room_135 : decode cX13_room 135 = .ok (.getfield 7, 3) := dk_180 0 7 (dk_at dksX13_room_5 18 rfl rfl)
theorem dX13_room_138 : decode cX13_room 138 = .ok (.iconst 3, 1) := dk_6 (dk_at dksX13_room_5 21 rfl rfl)
theorem dX13_room_139 : decode cX13_room 139 = .ok (.iload 5, 2) := dk_21 5 (dk_at dksX13_room_5 22 rfl rfl)
theorem dX13_room_141 : decode cX13_room 141 = .ok (.iadd, 1) := dk_96 (dk_at dksX13_room_6 0 rfl rfl)
theorem dX13_room_142 : decode cX13_room 142 = .ok (.iaload, 1) := dk_46 (dk_at dksX13_room_6 1 rfl rfl)
theorem dX13_room_143 : decode cX13_room 143 = .ok (.bipush 10, 2) := dk_16 10 (dk_at dksX13_room_6 2 rfl rfl)
theorem dX13_room_145 : decode cX13_room 145 = .ok (.idiv, 1) := dk_108 (dk_at dksX13_room_6 4 rfl rfl)
theorem dX13_room_146 : decode cX13_room 146 = .ok (.bipush 100, 2) := dk_16 100 (dk_at dksX13_room_6 5 rfl rfl)
theorem dX13_room_148 : decode cX13_room 148 = .ok (.irem, 1) := dk_112 (dk_at dksX13_room_6 7 rfl rfl)
theorem dX13_room_149 : decode cX13_room 149 = .ok (.ishl, 1) := dk_120 (dk_at dksX13_room_6 8 rfl rfl)
theorem dX13_room_150 : decode cX13_room 150 = .ok (.goto 4, 3) := dk_167 0 4 (dk_at dksX13_room_6 9 rfl rfl)
theorem dX13_room_153 : decode cX13_room 153 = .ok (.iconst 0, 1) := dk_3 (dk_at dksX13_room_6 12 rfl rfl)
theorem dX13_room_154 : decode cX13_room 154 = .ok (.ior, 1) := dk_128 (dk_at dksX13_room_6 13 rfl rfl)
theorem dX13_room_155 : decode cX13_room 155 = .ok (.istore 4, 2) := dk_54 4 (dk_at dksX13_room_6 14 rfl rfl)
theorem dX13_room_157 : decode cX13_room 157 = .ok (.iinc 5 1, 3) := dk_132 5 1 (dk_at dksX13_room_6 16 rfl rfl)
theorem dX13_room_160 : decode cX13_room 160 = .ok (.goto (-53), 3) := dk_167 255 203 (dk_at dksX13_room_6 19 rfl rfl)
theorem dX13_room_163 : decode cX13_room 163 = .ok (.iload 4, 2) := dk_21 4 (dk_at dksX13_room_6 22 rfl rfl)
theorem dX13_room_165 : decode cX13_room 165 = .ok (.ireturn, 1) := dk_172 (dk_at dksX13_room_7 0 rfl rfl)
abbrev cX13_isIn : ByteArray := prog_16_method_16_code
def yX13_isIn : MethodName := ⟨RX13, "isIn", "(II)Z"⟩
def dkwX13_isIn_1 : List UInt8 := [167, 0, 4, 3, 172]
abbrev dktX13_isIn_1 : List UInt8 := dkwX13_isIn_1 ++ []
def dkwX13_isIn_0 : List UInt8 := [42, 180, 0, 54, 27, 122, 4, 126, 154, 0, 17, 42, 27, 4, 182, 0, 58, 28, 160, 0, 7, 4]
abbrev dktX13_isIn_0 : List UInt8 := dkwX13_isIn_0 ++ dktX13_isIn_1
theorem dksX13_isIn_0 : cX13_isIn.data.toList.drop 0 = dktX13_isIn_0 := by decide +kernel
theorem dksX13_isIn_1 : cX13_isIn.data.toList.drop 22 = dktX13_isIn_1 := dk_seg dksX13_isIn_0 22 rfl rfl
theorem dX13_isIn_0 : decode cX13_isIn 0 = .ok (.aload_n 0, 1) := dk_42 (dk_at dksX13_isIn_0 0 rfl rfl)
theorem dX13_isIn_1 : decode cX13_isIn 1 = .ok (.getfield 54, 3) := dk_180 0 54 (dk_at dksX13_isIn_0 1 rfl rfl)
theorem dX13_isIn_4 : decode cX13_isIn 4 = .ok (.iload_n 1, 1) := dk_27 (dk_at dksX13_isIn_0 4 rfl rfl)
theorem dX13_isIn_5 : decode cX13_isIn 5 = .ok (.ishr, 1) := dk_122 (dk_at dksX13_isIn_0 5 rfl rfl)
theorem dX13_isIn_6 : decode cX13_isIn 6 = .ok (.iconst 1, 1) := dk_4 (dk_at dksX13_isIn_0 6 rfl rfl)
theorem dX13_isIn_7 : decode cX13_isIn 7 = .ok (.iand, 1) := dk_126 (dk_at dksX13_isIn_0 7 rfl rfl)
theorem dX13_isIn_8 : decode cX13_isIn 8 = .ok (.ifCond .ne 17, 3) := dk_154 0 17 (dk_at dksX13_isIn_0 8 rfl rfl)
theorem dX13_isIn_11 : decode cX13_isIn 11 = .ok (.aload_n 0, 1) := dk_42 (dk_at dksX13_isIn_0 11 rfl rfl)
theorem dX13_isIn_12 : decode cX13_isIn 12 = .ok (.iload_n 1, 1) := dk_27 (dk_at dksX13_isIn_0 12 rfl rfl)
theorem dX13_isIn_13 : decode cX13_isIn 13 = .ok (.iconst 1, 1) := dk_4 (dk_at dksX13_isIn_0 13 rfl rfl)
theorem dX13_isIn_14 : decode cX13_isIn 14 = .ok (.invokevirtual 58, 3) := dk_182 0 58 (dk_at dksX13_isIn_0 14 rfl rfl)
theorem dX13_isIn_17 : decode cX13_isIn 17 = .ok (.iload_n 2, 1) := dk_28 (dk_at dksX13_isIn_0 17 rfl rfl)
theorem dX13_isIn_18 : decode cX13_isIn 18 = .ok (.if_icmp .ne 7, 3) := dk_160 0 7 (dk_at dksX13_isIn_0 18 rfl rfl)
theorem dX13_isIn_21 : decode cX13_isIn 21 = .ok (.iconst 1, 1) := dk_4 (dk_at dksX13_isIn_0 21 rfl rfl)
theorem dX13_isIn_22 : decode cX13_isIn 22 = .ok (.goto 4, 3) := dk_167 0 4 (dk_at dksX13_isIn_1 0 rfl rfl)
theorem dX13_isIn_25 : decode cX13_isIn 25 = .ok (.iconst 0, 1) := dk_3 (dk_at dksX13_isIn_1 3 rfl rfl)
theorem dX13_isIn_26 : decode cX13_isIn 26 = .ok (.ireturn, 1) := dk_172 (dk_at dksX13_isIn_1 4 rfl rfl)
abbrev cX13_its : ByteArray := prog_16_method_12_code
def yX13_its : MethodName := ⟨RX13, "its", "(II)I"⟩
def dkwX13_its_0 : List UInt8 := [42, 180, 0, 7, 16, 9, 16, 8, 28, 104, 96, 27, 96, 46, 172]
abbrev dktX13_its_0 : List UInt8 := dkwX13_its_0 ++ []
theorem dksX13_its_0 : cX13_its.data.toList.drop 0 = dktX13_its_0 := by decide +kernel
theorem dX13_its_0 : decode cX13_its 0 = .ok (.aload_n 0, 1) := dk_42 (dk_at dksX13_its_0 0 rfl rfl)
theorem dX13_its_1 : decode cX13_its 1 = .ok (.getfield 7, 3) := dk_180 0 7 (dk_at dksX13_its_0 1 rfl rfl)
theorem dX13_its_4 : decode cX13_its 4 = .ok (.bipush 9, 2) := dk_16 9 (dk_at dksX13_its_0 4 rfl rfl)
theorem dX13_its_6 : decode cX13_its 6 = .ok (.bipush 8, 2) := dk_16 8 (dk_at dksX13_its_0 6 rfl rfl)
theorem dX13_its_8 : decode cX13_its 8 = .ok (.iload_n 2, 1) := dk_28 (dk_at dksX13_its_0 8 rfl rfl)
theorem dX13_its_9 : decode cX13_its 9 = .ok (.imul, 1) := dk_104 (dk_at dksX13_its_0 9 rfl rfl)
theorem dX13_its_10 : decode cX13_its 10 = .ok (.iadd, 1) := dk_96 (dk_at dksX13_its_0 10 rfl rfl)
theorem dX13_its_11 : decode cX13_its 11 = .ok (.iload_n 1, 1) := dk_27 (dk_at dksX13_its_0 11 rfl rfl)
theorem dX13_its_12 : decode cX13_its 12 = .ok (.iadd, 1) := dk_96 (dk_at dksX13_its_0 12 rfl rfl)
theorem dX13_its_13 : decode cX13_its 13 = .ok (.iaload, 1) := dk_46 (dk_at dksX13_its_0 13 rfl rfl)
theorem dX13_its_14 : decode cX13_its 14 = .ok (.ireturn, 1) := dk_172 (dk_at dksX13_its_0 14 rfl rfl)
abbrev cX13_hushIn : ByteArray := prog_16_method_22_code
def yX13_hushIn : MethodName := ⟨RX13, "hushIn", "(I)I"⟩
def dkwX13_hushIn_1 : List UInt8 := [42, 29, 182, 0, 74, 167, 0, 4, 3, 96, 61, 132, 3, 1, 167, 255, 222, 28, 172]
abbrev dktX13_hushIn_1 : List UInt8 := dkwX13_hushIn_1 ++ []
def dkwX13_hushIn_0 : List UInt8 := [3, 61, 3, 62, 29, 42, 180, 0, 7, 3, 46, 162, 0, 30, 28, 42, 29, 27, 182, 0, 62, 153, 0, 11]
abbrev dktX13_hushIn_0 : List UInt8 := dkwX13_hushIn_0 ++ dktX13_hushIn_1
theorem dksX13_hushIn_0 : cX13_hushIn.data.toList.drop 0 = dktX13_hushIn_0 := by decide +kernel
theorem dksX13_hushIn_1 : cX13_hushIn.data.toList.drop 24 = dktX13_hushIn_1 := dk_seg dksX13_hushIn_0 24 rfl rfl
theorem dX13_hushIn_0 : decode cX13_hushIn 0 = .ok (.iconst 0, 1) := dk_3 (dk_at dksX13_hushIn_0 0 rfl rfl)
theorem dX13_hushIn_1 : decode cX13_hushIn 1 = .ok (.istore_n 2, 1) := dk_61 (dk_at dksX13_hushIn_0 1 rfl rfl)
theorem dX13_hushIn_2 : decode cX13_hushIn 2 = .ok (.iconst 0, 1) := dk_3 (dk_at dksX13_hushIn_0 2 rfl rfl)
theorem dX13_hushIn_3 : decode cX13_hushIn 3 = .ok (.istore_n 3, 1) := dk_62 (dk_at dksX13_hushIn_0 3 rfl rfl)
theorem dX13_hushIn_4 : decode cX13_hushIn 4 = .ok (.iload_n 3, 1) := dk_29 (dk_at dksX13_hushIn_0 4 rfl rfl)
theorem dX13_hushIn_5 : decode cX13_hushIn 5 = .ok (.aload_n 0, 1) := dk_42 (dk_at dksX13_hushIn_0 5 rfl rfl)
theorem dX13_hushIn_6 : decode cX13_hushIn 6 = .ok (.getfield 7, 3) := dk_180 0 7 (dk_at dksX13_hushIn_0 6 rfl rfl)
theorem dX13_hushIn_9 : decode cX13_hushIn 9 = .ok (.iconst 0, 1) := dk_3 (dk_at dksX13_hushIn_0 9 rfl rfl)
theorem dX13_hushIn_10 : decode cX13_hushIn 10 = .ok (.iaload, 1) := dk_46 (dk_at dksX13_hushIn_0 10 rfl rfl)
theorem dX13_hushIn_11 : decode cX13_hushIn 11 = .ok (.if_icmp .ge 30, 3) := dk_162 0 30 (dk_at dksX13_hushIn_0 11 rfl rfl)
theorem dX13_hushIn_14 : decode cX13_hushIn 14 = .ok (.iload_n 2, 1) := dk_28 (dk_at dksX13_hushIn_0 14 rfl rfl)
theorem dX13_hushIn_15 : decode cX13_hushIn 15 = .ok (.aload_n 0, 1) := dk_42 (dk_at dksX13_hushIn_0 15 rfl rfl)
theorem dX13_hushIn_16 : decode cX13_hushIn 16 = .ok (.iload_n 3, 1) := dk_29 (dk_at dksX13_hushIn_0 16 rfl rfl)
theorem dX13_hushIn_17 : decode cX13_hushIn 17 = .ok (.iload_n 1, 1) := dk_27 (dk_at dksX13_hushIn_0 17 rfl rfl)
theorem dX13_hushIn_18 : decode cX13_hushIn 18 = .ok (.invokevirtual 62, 3) := dk_182 0 62 (dk_at dksX13_hushIn_0 18 rfl rfl)
theorem dX13_hushIn_21 : decode cX13_hushIn 21 = .ok (.ifCond .eq 11, 3) := dk_153 0 11 (dk_at dksX13_hushIn_0 21 rfl rfl)
theorem dX13_hushIn_24 : decode cX13_hushIn 24 = .ok (.aload_n 0, 1) := dk_42 (dk_at dksX13_hushIn_1 0 rfl rfl)
theorem dX13_hushIn_25 : decode cX13_hushIn 25 = .ok (.iload_n 3, 1) := dk_29 (dk_at dksX13_hushIn_1 1 rfl rfl)
theorem dX13_hushIn_26 : decode cX13_hushIn 26 = .ok (.invokevirtual 74, 3) := dk_182 0 74 (dk_at dksX13_hushIn_1 2 rfl rfl)
theorem dX13_hushIn_29 : decode cX13_hushIn 29 = .ok (.goto 4, 3) := dk_167 0 4 (dk_at dksX13_hushIn_1 5 rfl rfl)
theorem dX13_hushIn_32 : decode cX13_hushIn 32 = .ok (.iconst 0, 1) := dk_3 (dk_at dksX13_hushIn_1 8 rfl rfl)
theorem dX13_hushIn_33 : decode cX13_hushIn 33 = .ok (.iadd, 1) := dk_96 (dk_at dksX13_hushIn_1 9 rfl rfl)
theorem dX13_hushIn_34 : decode cX13_hushIn 34 = .ok (.istore_n 2, 1) := dk_61 (dk_at dksX13_hushIn_1 10 rfl rfl)
theorem dX13_hushIn_35 : decode cX13_hushIn 35 = .ok (.iinc 3 1, 3) := dk_132 3 1 (dk_at dksX13_hushIn_1 11 rfl rfl)
theorem dX13_hushIn_38 : decode cX13_hushIn 38 = .ok (.goto (-34), 3) := dk_167 255 222 (dk_at dksX13_hushIn_1 14 rfl rfl)
theorem dX13_hushIn_41 : decode cX13_hushIn 41 = .ok (.iload_n 2, 1) := dk_28 (dk_at dksX13_hushIn_1 17 rfl rfl)
theorem dX13_hushIn_42 : decode cX13_hushIn 42 = .ok (.ireturn, 1) := dk_172 (dk_at dksX13_hushIn_1 18 rfl rfl)
abbrev cX13_hushes : ByteArray := prog_16_method_19_code
def yX13_hushes : MethodName := ⟨RX13, "hushes", "(I)I"⟩
def dkwX13_hushes_2 : List UInt8 := [4, 172, 5, 172, 42, 27, 7, 182, 0, 58, 16, 100, 161, 0, 7, 4, 167, 0, 4, 3, 172, 3, 172]
abbrev dktX13_hushes_2 : List UInt8 := dkwX13_hushes_2 ++ []
def dkwX13_hushes_1 : List UInt8 := [170, 0, 0, 0, 0, 59, 0, 0, 0, 1, 0, 0, 0, 6, 0, 0, 0, 38, 0, 0, 0, 59, 0, 0, 0, 38, 0, 0, 0, 59, 0, 0, 0, 42, 0, 0, 0, 40]
abbrev dktX13_hushes_1 : List UInt8 := dkwX13_hushes_1 ++ dktX13_hushes_2
def dkwX13_hushes_0 : List UInt8 := [42, 27, 3, 182, 0, 58]
abbrev dktX13_hushes_0 : List UInt8 := dkwX13_hushes_0 ++ dktX13_hushes_1
theorem dksX13_hushes_0 : cX13_hushes.data.toList.drop 0 = dktX13_hushes_0 := by decide +kernel
theorem dksX13_hushes_1 : cX13_hushes.data.toList.drop 6 = dktX13_hushes_1 := dk_seg dksX13_hushes_0 6 rfl rfl
theorem dksX13_hushes_2 : cX13_hushes.data.toList.drop 44 = dktX13_hushes_2 := dk_seg dksX13_hushes_1 38 rfl rfl
theorem dX13_hushes_0 : decode cX13_hushes 0 = .ok (.aload_n 0, 1) := dk_42 (dk_at dksX13_hushes_0 0 rfl rfl)
theorem dX13_hushes_1 : decode cX13_hushes 1 = .ok (.iload_n 1, 1) := dk_27 (dk_at dksX13_hushes_0 1 rfl rfl)
theorem dX13_hushes_2 : decode cX13_hushes 2 = .ok (.iconst 0, 1) := dk_3 (dk_at dksX13_hushes_0 2 rfl rfl)
theorem dX13_hushes_3 : decode cX13_hushes 3 = .ok (.invokevirtual 58, 3) := dk_182 0 58 (dk_at dksX13_hushes_0 3 rfl rfl)
theorem dX13_hushes_6 : decode cX13_hushes 6 = .ok (.tableswitch 59 1 6 #[38, 59, 38, 59, 42, 40], 38) := by decide +kernel
theorem dX13_hushes_44 : decode cX13_hushes 44 = .ok (.iconst 1, 1) := dk_4 (dk_at dksX13_hushes_2 0 rfl rfl)
theorem dX13_hushes_45 : decode cX13_hushes 45 = .ok (.ireturn, 1) := dk_172 (dk_at dksX13_hushes_2 1 rfl rfl)
theorem dX13_hushes_46 : decode cX13_hushes 46 = .ok (.iconst 2, 1) := dk_5 (dk_at dksX13_hushes_2 2 rfl rfl)
theorem dX13_hushes_47 : decode cX13_hushes 47 = .ok (.ireturn, 1) := dk_172 (dk_at dksX13_hushes_2 3 rfl rfl)
theorem dX13_hushes_48 : decode cX13_hushes 48 = .ok (.aload_n 0, 1) := dk_42 (dk_at dksX13_hushes_2 4 rfl rfl)
theorem dX13_hushes_49 : decode cX13_hushes 49 = .ok (.iload_n 1, 1) := dk_27 (dk_at dksX13_hushes_2 5 rfl rfl)
theorem dX13_hushes_50 : decode cX13_hushes 50 = .ok (.iconst 4, 1) := dk_7 (dk_at dksX13_hushes_2 6 rfl rfl)
theorem dX13_hushes_51 : decode cX13_hushes 51 = .ok (.invokevirtual 58, 3) := dk_182 0 58 (dk_at dksX13_hushes_2 7 rfl rfl)
theorem dX13_hushes_54 : decode cX13_hushes 54 = .ok (.bipush 100, 2) := dk_16 100 (dk_at dksX13_hushes_2 10 rfl rfl)
theorem dX13_hushes_56 : decode cX13_hushes 56 = .ok (.if_icmp .lt 7, 3) := dk_161 0 7 (dk_at dksX13_hushes_2 12 rfl rfl)
theorem dX13_hushes_59 : decode cX13_hushes 59 = .ok (.iconst 1, 1) := dk_4 (dk_at dksX13_hushes_2 15 rfl rfl)
theorem dX13_hushes_60 : decode cX13_hushes 60 = .ok (.goto 4, 3) := dk_167 0 4 (dk_at dksX13_hushes_2 16 rfl rfl)
theorem dX13_hushes_63 : decode cX13_hushes 63 = .ok (.iconst 0, 1) := dk_3 (dk_at dksX13_hushes_2 19 rfl rfl)
theorem dX13_hushes_64 : decode cX13_hushes 64 = .ok (.ireturn, 1) := dk_172 (dk_at dksX13_hushes_2 20 rfl rfl)
theorem dX13_hushes_65 : decode cX13_hushes 65 = .ok (.iconst 0, 1) := dk_3 (dk_at dksX13_hushes_2 21 rfl rfl)
theorem dX13_hushes_66 : decode cX13_hushes 66 = .ok (.ireturn, 1) := dk_172 (dk_at dksX13_hushes_2 22 rfl rfl)
abbrev cX13_known : ByteArray := prog_16_method_29_code
def yX13_known : MethodName := ⟨RX13, "known", "(II)I"⟩
def dkwX13_known_1 : List UInt8 := [160, 0, 13, 42, 21, 4, 28, 182, 0, 58, 167, 0, 4, 3, 128, 62, 132, 4, 1, 167, 255, 218, 29, 172]
abbrev dktX13_known_1 : List UInt8 := dkwX13_known_1 ++ []
def dkwX13_known_0 : List UInt8 := [3, 62, 3, 54, 4, 21, 4, 42, 180, 0, 7, 3, 46, 162, 0, 33, 29, 27, 21, 4, 122, 4, 126, 4]
abbrev dktX13_known_0 : List UInt8 := dkwX13_known_0 ++ dktX13_known_1
theorem dksX13_known_0 : cX13_known.data.toList.drop 0 = dktX13_known_0 := by decide +kernel
theorem dksX13_known_1 : cX13_known.data.toList.drop 24 = dktX13_known_1 := dk_seg dksX13_known_0 24 rfl rfl
theorem dX13_known_0 : decode cX13_known 0 = .ok (.iconst 0, 1) := dk_3 (dk_at dksX13_known_0 0 rfl rfl)
theorem dX13_known_1 : decode cX13_known 1 = .ok (.istore_n 3, 1) := dk_62 (dk_at dksX13_known_0 1 rfl rfl)
theorem dX13_known_2 : decode cX13_known 2 = .ok (.iconst 0, 1) := dk_3 (dk_at dksX13_known_0 2 rfl rfl)
theorem dX13_known_3 : decode cX13_known 3 = .ok (.istore 4, 2) := dk_54 4 (dk_at dksX13_known_0 3 rfl rfl)
theorem dX13_known_5 : decode cX13_known 5 = .ok (.iload 4, 2) := dk_21 4 (dk_at dksX13_known_0 5 rfl rfl)
theorem dX13_known_7 : decode cX13_known 7 = .ok (.aload_n 0, 1) := dk_42 (dk_at dksX13_known_0 7 rfl rfl)
theorem dX13_known_8 : decode cX13_known 8 = .ok (.getfield 7, 3) := dk_180 0 7 (dk_at dksX13_known_0 8 rfl rfl)
theorem dX13_known_11 : decode cX13_known 11 = .ok (.iconst 0, 1) := dk_3 (dk_at dksX13_known_0 11 rfl rfl)
theorem dX13_known_12 : decode cX13_known 12 = .ok (.iaload, 1) := dk_46 (dk_at dksX13_known_0 12 rfl rfl)
theorem dX13_known_13 : decode cX13_known 13 = .ok (.if_icmp .ge 33, 3) := dk_162 0 33 (dk_at dksX13_known_0 13 rfl rfl)
theorem dX13_known_16 : decode cX13_known 16 = .ok (.iload_n 3, 1) := dk_29 (dk_at dksX13_known_0 16 rfl rfl)
theorem dX13_known_17 : decode cX13_known 17 = .ok (.iload_n 1, 1) := dk_27 (dk_at dksX13_known_0 17 rfl rfl)
theorem dX13_known_18 : decode cX13_known 18 = .ok (.iload 4, 2) := dk_21 4 (dk_at dksX13_known_0 18 rfl rfl)
theorem dX13_known_20 : decode cX13_known 20 = .ok (.ishr, 1) := dk_122 (dk_at dksX13_known_0 20 rfl rfl)
theorem dX13_known_21 : decode cX13_known 21 = .ok (.iconst 1, 1) := dk_4 (dk_at dksX13_known_0 21 rfl rfl)
theorem dX13_known_22 : decode cX13_known 22 = .ok (.iand, 1) := dk_126 (dk_at dksX13_known_0 22 rfl rfl)
theorem dX13_known_23 : decode cX13_known 23 = .ok (.iconst 1, 1) := dk_4 (dk_at dksX13_known_0 23 rfl rfl)
theorem dX13_known_24 : decode cX13_known 24 = .ok (.if_icmp .ne 13, 3) := dk_160 0 13 (dk_at dksX13_known_1 0 rfl rfl)
theorem dX13_known_27 : decode cX13_known 27 = .ok (.aload_n 0, 1) := dk_42 (dk_at dksX13_known_1 3 rfl rfl)
theorem dX13_known_28 : decode cX13_known 28 = .ok (.iload 4, 2) := dk_21 4 (dk_at dksX13_known_1 4 rfl rfl)
theorem dX13_known_30 : decode cX13_known 30 = .ok (.iload_n 2, 1) := dk_28 (dk_at dksX13_known_1 6 rfl rfl)
theorem dX13_known_31 : decode cX13_known 31 = .ok (.invokevirtual 58, 3) := dk_182 0 58 (dk_at dksX13_known_1 7 rfl rfl)
theorem dX13_known_34 : decode cX13_known 34 = .ok (.goto 4, 3) := dk_167 0 4 (dk_at dksX13_known_1 10 rfl rfl)
theorem dX13_known_37 : decode cX13_known 37 = .ok (.iconst 0, 1) := dk_3 (dk_at dksX13_known_1 13 rfl rfl)
theorem dX13_known_38 : decode cX13_known 38 = .ok (.ior, 1) := dk_128 (dk_at dksX13_known_1 14 rfl rfl)
theorem dX13_known_39 : decode cX13_known 39 = .ok (.istore_n 3, 1) := dk_62 (dk_at dksX13_known_1 15 rfl rfl)
theorem dX13_known_40 : decode cX13_known 40 = .ok (.iinc 4 1, 3) := dk_132 4 1 (dk_at dksX13_known_1 16 rfl rfl)
theorem dX13_known_43 : decode cX13_known 43 = .ok (.goto (-38), 3) := dk_167 255 218 (dk_at dksX13_known_1 19 rfl rfl)
theorem dX13_known_46 : decode cX13_known 46 = .ok (.iload_n 3, 1) := dk_29 (dk_at dksX13_known_1 22 rfl rfl)
theorem dX13_known_47 : decode cX13_known 47 = .ok (.ireturn, 1) := dk_172 (dk_at dksX13_known_1 23 rfl rfl)
abbrev cX13_glove : ByteArray := prog_16_method_37_code
def yX13_glove : MethodName := ⟨RX13, "glove", "(II)I"⟩
def dkwX13_glove_2 : List UInt8 := [182, 0, 135, 172]
abbrev dktX13_glove_2 : List UInt8 := dkwX13_glove_2 ++ []
def dkwX13_glove_1 : List UInt8 := [172, 42, 180, 0, 7, 3, 46, 16, 8, 160, 0, 11, 42, 4, 182, 0, 128, 167, 0, 9, 42, 27, 28]
abbrev dktX13_glove_1 : List UInt8 := dkwX13_glove_1 ++ dktX13_glove_2
def dkwX13_glove_0 : List UInt8 := [27, 133, 9, 20, 0, 133, 184, 0, 42, 153, 0, 10, 28, 184, 0, 119, 154, 0, 9, 42, 3, 182, 0, 128]
abbrev dktX13_glove_0 : List UInt8 := dkwX13_glove_0 ++ dktX13_glove_1
theorem dksX13_glove_0 : cX13_glove.data.toList.drop 0 = dktX13_glove_0 := by decide +kernel
theorem dksX13_glove_1 : cX13_glove.data.toList.drop 24 = dktX13_glove_1 := dk_seg dksX13_glove_0 24 rfl rfl
theorem dksX13_glove_2 : cX13_glove.data.toList.drop 47 = dktX13_glove_2 := dk_seg dksX13_glove_1 23 rfl rfl
theorem dX13_glove_0 : decode cX13_glove 0 = .ok (.iload_n 1, 1) := dk_27 (dk_at dksX13_glove_0 0 rfl rfl)
theorem dX13_glove_1 : decode cX13_glove 1 = .ok (.i2l, 1) := dk_133 (dk_at dksX13_glove_0 1 rfl rfl)
theorem dX13_glove_2 : decode cX13_glove 2 = .ok (.lconst 0, 1) := dk_9 (dk_at dksX13_glove_0 2 rfl rfl)
theorem dX13_glove_3 : decode cX13_glove 3 = .ok (.ldc2_w 133, 3) := dk_20 0 133 (dk_at dksX13_glove_0 3 rfl rfl)
theorem dX13_glove_6 : decode cX13_glove 6 = .ok (.invokestatic 42, 3) := dk_184 0 42 (dk_at dksX13_glove_0 6 rfl rfl)
theorem dX13_glove_9 : decode cX13_glove 9 = .ok (.ifCond .eq 10, 3) := dk_153 0 10 (dk_at dksX13_glove_0 9 rfl rfl)
theorem dX13_glove_12 : decode cX13_glove 12 = .ok (.iload_n 2, 1) := dk_28 (dk_at dksX13_glove_0 12 rfl rfl)
theorem dX13_glove_13 : decode cX13_glove 13 = .ok (.invokestatic 119, 3) := dk_184 0 119 (dk_at dksX13_glove_0 13 rfl rfl)
theorem dX13_glove_16 : decode cX13_glove 16 = .ok (.ifCond .ne 9, 3) := dk_154 0 9 (dk_at dksX13_glove_0 16 rfl rfl)
theorem dX13_glove_19 : decode cX13_glove 19 = .ok (.aload_n 0, 1) := dk_42 (dk_at dksX13_glove_0 19 rfl rfl)
theorem dX13_glove_20 : decode cX13_glove 20 = .ok (.iconst 0, 1) := dk_3 (dk_at dksX13_glove_0 20 rfl rfl)
theorem dX13_glove_21 : decode cX13_glove 21 = .ok (.invokevirtual 128, 3) := dk_182 0 128 (dk_at dksX13_glove_0 21 rfl rfl)
theorem dX13_glove_24 : decode cX13_glove 24 = .ok (.ireturn, 1) := dk_172 (dk_at dksX13_glove_1 0 rfl rfl)
theorem dX13_glove_25 : decode cX13_glove 25 = .ok (.aload_n 0, 1) := dk_42 (dk_at dksX13_glove_1 1 rfl rfl)
theorem dX13_glove_26 : decode cX13_glove 26 = .ok (.getfield 7, 3) := dk_180 0 7 (dk_at dksX13_glove_1 2 rfl rfl)
theorem dX13_glove_29 : decode cX13_glove 29 = .ok (.iconst 0, 1) := dk_3 (dk_at dksX13_glove_1 5 rfl rfl)
theorem dX13_glove_30 : decode cX13_glove 30 = .ok (.iaload, 1) := dk_46 (dk_at dksX13_glove_1 6 rfl rfl)
theorem dX13_glove_31 : decode cX13_glove 31 = .ok (.bipush 8, 2) := dk_16 8 (dk_at dksX13_glove_1 7 rfl rfl)
theorem dX13_glove_33 : decode cX13_glove 33 = .ok (.if_icmp .ne 11, 3) := dk_160 0 11 (dk_at dksX13_glove_1 9 rfl rfl)
theorem dX13_glove_36 : decode cX13_glove 36 = .ok (.aload_n 0, 1) := dk_42 (dk_at dksX13_glove_1 12 rfl rfl)
theorem dX13_glove_37 : decode cX13_glove 37 = .ok (.iconst 1, 1) := dk_4 (dk_at dksX13_glove_1 13 rfl rfl)
theorem dX13_glove_38 : decode cX13_glove 38 = .ok (.invokevirtual 128, 3) := dk_182 0 128 (dk_at dksX13_glove_1 14 rfl rfl)
theorem dX13_glove_41 : decode cX13_glove 41 = .ok (.goto 9, 3) := dk_167 0 9 (dk_at dksX13_glove_1 17 rfl rfl)
theorem dX13_glove_44 : decode cX13_glove 44 = .ok (.aload_n 0, 1) := dk_42 (dk_at dksX13_glove_1 20 rfl rfl)
theorem dX13_glove_45 : decode cX13_glove 45 = .ok (.iload_n 1, 1) := dk_27 (dk_at dksX13_glove_1 21 rfl rfl)
theorem dX13_glove_46 : decode cX13_glove 46 = .ok (.iload_n 2, 1) := dk_28 (dk_at dksX13_glove_1 22 rfl rfl)
theorem dX13_glove_47 : decode cX13_glove 47 = .ok (.invokevirtual 135, 3) := dk_182 0 135 (dk_at dksX13_glove_2 0 rfl rfl)
theorem dX13_glove_50 : decode cX13_glove 50 = .ok (.ireturn, 1) := dk_172 (dk_at dksX13_glove_2 3 rfl rfl)
abbrev cX13_comes : ByteArray := prog_16_method_36_code
def yX13_comes : MethodName := ⟨RX13, "comes", "(II)I"⟩
def dkwX13_comes_2 : List UInt8 := [29, 5, 8, 182, 0, 90, 42, 180, 0, 7, 3, 92, 46, 4, 96, 79, 29, 172]
abbrev dktX13_comes_2 : List UInt8 := dkwX13_comes_2 ++ []
def dkwX13_comes_1 : List UInt8 := [182, 0, 90, 132, 4, 1, 167, 255, 238, 42, 29, 3, 27, 182, 0, 90, 42, 29, 4, 28, 182, 0, 90, 42]
abbrev dktX13_comes_1 : List UInt8 := dkwX13_comes_1 ++ dktX13_comes_2
def dkwX13_comes_0 : List UInt8 := [42, 180, 0, 7, 3, 46, 62, 3, 54, 4, 21, 4, 16, 6, 163, 0, 17, 42, 29, 21, 4, 3]
abbrev dktX13_comes_0 : List UInt8 := dkwX13_comes_0 ++ dktX13_comes_1
theorem dksX13_comes_0 : cX13_comes.data.toList.drop 0 = dktX13_comes_0 := by decide +kernel
theorem dksX13_comes_1 : cX13_comes.data.toList.drop 22 = dktX13_comes_1 := dk_seg dksX13_comes_0 22 rfl rfl
theorem dksX13_comes_2 : cX13_comes.data.toList.drop 46 = dktX13_comes_2 := dk_seg dksX13_comes_1 24 rfl rfl
theorem dX13_comes_0 : decode cX13_comes 0 = .ok (.aload_n 0, 1) := dk_42 (dk_at dksX13_comes_0 0 rfl rfl)
theorem dX13_comes_1 : decode cX13_comes 1 = .ok (.getfield 7, 3) := dk_180 0 7 (dk_at dksX13_comes_0 1 rfl rfl)
theorem dX13_comes_4 : decode cX13_comes 4 = .ok (.iconst 0, 1) := dk_3 (dk_at dksX13_comes_0 4 rfl rfl)
theorem dX13_comes_5 : decode cX13_comes 5 = .ok (.iaload, 1) := dk_46 (dk_at dksX13_comes_0 5 rfl rfl)
theorem dX13_comes_6 : decode cX13_comes 6 = .ok (.istore_n 3, 1) := dk_62 (dk_at dksX13_comes_0 6 rfl rfl)
theorem dX13_comes_7 : decode cX13_comes 7 = .ok (.iconst 0, 1) := dk_3 (dk_at dksX13_comes_0 7 rfl rfl)
theorem dX13_comes_8 : decode cX13_comes 8 = .ok (.istore 4, 2) := dk_54 4 (dk_at dksX13_comes_0 8 rfl rfl)
theorem dX13_comes_10 : decode cX13_comes 10 = .ok (.iload 4, 2) := dk_21 4 (dk_at dksX13_comes_0 10 rfl rfl)
theorem dX13_comes_12 : decode cX13_comes 12 = .ok (.bipush 6, 2) := dk_16 6 (dk_at dksX13_comes_0 12 rfl rfl)
theorem dX13_comes_14 : decode cX13_comes 14 = .ok (.if_icmp .gt 17, 3) := dk_163 0 17 (dk_at dksX13_comes_0 14 rfl rfl)
theorem dX13_comes_17 : decode cX13_comes 17 = .ok (.aload_n 0, 1) := dk_42 (dk_at dksX13_comes_0 17 rfl rfl)
theorem dX13_comes_18 : decode cX13_comes 18 = .ok (.iload_n 3, 1) := dk_29 (dk_at dksX13_comes_0 18 rfl rfl)
theorem dX13_comes_19 : decode cX13_comes 19 = .ok (.iload 4, 2) := dk_21 4 (dk_at dksX13_comes_0 19 rfl rfl)
theorem dX13_comes_21 : decode cX13_comes 21 = .ok (.iconst 0, 1) := dk_3 (dk_at dksX13_comes_0 21 rfl rfl)
theorem dX13_comes_22 : decode cX13_comes 22 = .ok (.invokevirtual 90, 3) := dk_182 0 90 (dk_at dksX13_comes_1 0 rfl rfl)
theorem dX13_comes_25 : decode cX13_comes 25 = .ok (.iinc 4 1, 3) := dk_132 4 1 (dk_at dksX13_comes_1 3 rfl rfl)
theorem dX13_comes_28 : decode cX13_comes 28 = .ok (.goto (-18), 3) := dk_167 255 238 (dk_at dksX13_comes_1 6 rfl rfl)
theorem dX13_comes_31 : decode cX13_comes 31 = .ok (.aload_n 0, 1) := dk_42 (dk_at dksX13_comes_1 9 rfl rfl)
theorem dX13_comes_32 : decode cX13_comes 32 = .ok (.iload_n 3, 1) := dk_29 (dk_at dksX13_comes_1 10 rfl rfl)
theorem dX13_comes_33 : decode cX13_comes 33 = .ok (.iconst 0, 1) := dk_3 (dk_at dksX13_comes_1 11 rfl rfl)
theorem dX13_comes_34 : decode cX13_comes 34 = .ok (.iload_n 1, 1) := dk_27 (dk_at dksX13_comes_1 12 rfl rfl)
theorem dX13_comes_35 : decode cX13_comes 35 = .ok (.invokevirtual 90, 3) := dk_182 0 90 (dk_at dksX13_comes_1 13 rfl rfl)
theorem dX13_comes_38 : decode cX13_comes 38 = .ok (.aload_n 0, 1) := dk_42 (dk_at dksX13_comes_1 16 rfl rfl)
theorem dX13_comes_39 : decode cX13_comes 39 = .ok (.iload_n 3, 1) := dk_29 (dk_at dksX13_comes_1 17 rfl rfl)
theorem dX13_comes_40 : decode cX13_comes 40 = .ok (.iconst 1, 1) := dk_4 (dk_at dksX13_comes_1 18 rfl rfl)
theorem dX13_comes_41 : decode cX13_comes 41 = .ok (.iload_n 2, 1) := dk_28 (dk_at dksX13_comes_1 19 rfl rfl)
theorem dX13_comes_42 : decode cX13_comes 42 = .ok (.invokevirtual 90, 3) := dk_182 0 90 (dk_at dksX13_comes_1 20 rfl rfl)
theorem dX13_comes_45 : decode cX13_comes 45 = .ok (.aload_n 0, 1) := dk_42 (dk_at dksX13_comes_1 23 rfl rfl)
theorem dX13_comes_46 : decode cX13_comes 46 = .ok (.iload_n 3, 1) := dk_29 (dk_at dksX13_comes_2 0 rfl rfl)
theorem dX13_comes_47 : decode cX13_comes 47 = .ok (.iconst 2, 1) := dk_5 (dk_at dksX13_comes_2 1 rfl rfl)
theorem dX13_comes_48 : decode cX13_comes 48 = .ok (.iconst 5, 1) := dk_8 (dk_at dksX13_comes_2 2 rfl rfl)
theorem dX13_comes_49 : decode cX13_comes 49 = .ok (.invokevirtual 90, 3) := dk_182 0 90 (dk_at dksX13_comes_2 3 rfl rfl)
theorem dX13_comes_52 : decode cX13_comes 52 = .ok (.aload_n 0, 1) := dk_42 (dk_at dksX13_comes_2 6 rfl rfl)
theorem dX13_comes_53 : decode cX13_comes 53 = .ok (.getfield 7, 3) := dk_180 0 7 (dk_at dksX13_comes_2 7 rfl rfl)
theorem dX13_comes_56 : decode cX13_comes 56 = .ok (.iconst 0, 1) := dk_3 (dk_at dksX13_comes_2 10 rfl rfl)
theorem dX13_comes_57 : decode cX13_comes 57 = .ok (.dup2, 1) := dk_92 (dk_at dksX13_comes_2 11 rfl rfl)
theorem dX13_comes_58 : decode cX13_comes 58 = .ok (.iaload, 1) := dk_46 (dk_at dksX13_comes_2 12 rfl rfl)
theorem dX13_comes_59 : decode cX13_comes 59 = .ok (.iconst 1, 1) := dk_4 (dk_at dksX13_comes_2 13 rfl rfl)
theorem dX13_comes_60 : decode cX13_comes 60 = .ok (.iadd, 1) := dk_96 (dk_at dksX13_comes_2 14 rfl rfl)
theorem dX13_comes_61 : decode cX13_comes 61 = .ok (.iastore, 1) := dk_79 (dk_at dksX13_comes_2 15 rfl rfl)
theorem dX13_comes_62 : decode cX13_comes 62 = .ok (.iload_n 3, 1) := dk_29 (dk_at dksX13_comes_2 16 rfl rfl)
theorem dX13_comes_63 : decode cX13_comes 63 = .ok (.ireturn, 1) := dk_172 (dk_at dksX13_comes_2 17 rfl rfl)
abbrev cX13_sets : ByteArray := prog_16_method_13_code
def yX13_sets : MethodName := ⟨RX13, "sets", "(III)V"⟩
def dkwX13_sets_0 : List UInt8 := [42, 180, 0, 7, 16, 9, 16, 8, 28, 104, 96, 27, 96, 29, 79, 177]
abbrev dktX13_sets_0 : List UInt8 := dkwX13_sets_0 ++ []
theorem dksX13_sets_0 : cX13_sets.data.toList.drop 0 = dktX13_sets_0 := by decide +kernel
theorem dX13_sets_0 : decode cX13_sets 0 = .ok (.aload_n 0, 1) := dk_42 (dk_at dksX13_sets_0 0 rfl rfl)
theorem dX13_sets_1 : decode cX13_sets 1 = .ok (.getfield 7, 3) := dk_180 0 7 (dk_at dksX13_sets_0 1 rfl rfl)
theorem dX13_sets_4 : decode cX13_sets 4 = .ok (.bipush 9, 2) := dk_16 9 (dk_at dksX13_sets_0 4 rfl rfl)
theorem dX13_sets_6 : decode cX13_sets 6 = .ok (.bipush 8, 2) := dk_16 8 (dk_at dksX13_sets_0 6 rfl rfl)
theorem dX13_sets_8 : decode cX13_sets 8 = .ok (.iload_n 2, 1) := dk_28 (dk_at dksX13_sets_0 8 rfl rfl)
theorem dX13_sets_9 : decode cX13_sets 9 = .ok (.imul, 1) := dk_104 (dk_at dksX13_sets_0 9 rfl rfl)
theorem dX13_sets_10 : decode cX13_sets 10 = .ok (.iadd, 1) := dk_96 (dk_at dksX13_sets_0 10 rfl rfl)
theorem dX13_sets_11 : decode cX13_sets 11 = .ok (.iload_n 1, 1) := dk_27 (dk_at dksX13_sets_0 11 rfl rfl)
theorem dX13_sets_12 : decode cX13_sets 12 = .ok (.iadd, 1) := dk_96 (dk_at dksX13_sets_0 12 rfl rfl)
theorem dX13_sets_13 : decode cX13_sets 13 = .ok (.iload_n 3, 1) := dk_29 (dk_at dksX13_sets_0 13 rfl rfl)
theorem dX13_sets_14 : decode cX13_sets 14 = .ok (.iastore, 1) := dk_79 (dk_at dksX13_sets_0 14 rfl rfl)
theorem dX13_sets_15 : decode cX13_sets 15 = .ok (.return_, 1) := dk_177 (dk_at dksX13_sets_0 15 rfl rfl)
abbrev cX13_of : ByteArray := prog_16_method_38_code
def yX13_of : MethodName := ⟨RX13, "of", "(II)I"⟩
def dkwX13_of_4 : List UInt8 := [42, 27, 28, 182, 0, 58, 172]
abbrev dktX13_of_4 : List UInt8 := dkwX13_of_4 ++ []
def dkwX13_of_3 : List UInt8 := [42, 27, 182, 0, 81, 172, 42, 27, 182, 0, 74, 172, 42, 27, 182, 0, 105, 172, 42, 27, 182, 0, 87, 172]
abbrev dktX13_of_3 : List UInt8 := dkwX13_of_3 ++ dktX13_of_4
def dkwX13_of_2 : List UInt8 := [170, 0, 0, 0, 53, 0, 0, 0, 7, 0, 0, 0, 10, 0, 0, 0, 29, 0, 0, 0, 35, 0, 0, 0, 41, 0, 0, 0, 47]
abbrev dktX13_of_2 : List UInt8 := dkwX13_of_2 ++ dktX13_of_3
def dkwX13_of_1 : List UInt8 := [182, 0, 128, 172, 28]
abbrev dktX13_of_1 : List UInt8 := dkwX13_of_1 ++ dktX13_of_2
def dkwX13_of_0 : List UInt8 := [42, 27, 182, 0, 138, 153, 0, 15, 28, 133, 9, 20, 0, 141, 184, 0, 42, 154, 0, 9, 42, 3]
abbrev dktX13_of_0 : List UInt8 := dkwX13_of_0 ++ dktX13_of_1
theorem dksX13_of_0 : cX13_of.data.toList.drop 0 = dktX13_of_0 := by decide +kernel
theorem dksX13_of_1 : cX13_of.data.toList.drop 22 = dktX13_of_1 := dk_seg dksX13_of_0 22 rfl rfl
theorem dksX13_of_2 : cX13_of.data.toList.drop 27 = dktX13_of_2 := dk_seg dksX13_of_1 5 rfl rfl
theorem dksX13_of_3 : cX13_of.data.toList.drop 56 = dktX13_of_3 := dk_seg dksX13_of_2 29 rfl rfl
theorem dksX13_of_4 : cX13_of.data.toList.drop 80 = dktX13_of_4 := dk_seg dksX13_of_3 24 rfl rfl
theorem dX13_of_0 : decode cX13_of 0 = .ok (.aload_n 0, 1) := dk_42 (dk_at dksX13_of_0 0 rfl rfl)
theorem dX13_of_1 : decode cX13_of 1 = .ok (.iload_n 1, 1) := dk_27 (dk_at dksX13_of_0 1 rfl rfl)
theorem dX13_of_2 : decode cX13_of 2 = .ok (.invokevirtual 138, 3) := dk_182 0 138 (dk_at dksX13_of_0 2 rfl rfl)
theorem dX13_of_5 : decode cX13_of 5 = .ok (.ifCond .eq 15, 3) := dk_153 0 15 (dk_at dksX13_of_0 5 rfl rfl)
theorem dX13_of_8 : decode cX13_of 8 = .ok (.iload_n 2, 1) := dk_28 (dk_at dksX13_of_0 8 rfl rfl)
theorem dX13_of_9 : decode cX13_of 9 = .ok (.i2l, 1) := dk_133 (dk_at dksX13_of_0 9 rfl rfl)
theorem dX13_of_10 : decode cX13_of 10 = .ok (.lconst 0, 1) := dk_9 (dk_at dksX13_of_0 10 rfl rfl)
theorem dX13_of_11 : decode cX13_of 11 = .ok (.ldc2_w 141, 3) := dk_20 0 141 (dk_at dksX13_of_0 11 rfl rfl)
theorem dX13_of_14 : decode cX13_of 14 = .ok (.invokestatic 42, 3) := dk_184 0 42 (dk_at dksX13_of_0 14 rfl rfl)
theorem dX13_of_17 : decode cX13_of 17 = .ok (.ifCond .ne 9, 3) := dk_154 0 9 (dk_at dksX13_of_0 17 rfl rfl)
theorem dX13_of_20 : decode cX13_of 20 = .ok (.aload_n 0, 1) := dk_42 (dk_at dksX13_of_0 20 rfl rfl)
theorem dX13_of_21 : decode cX13_of 21 = .ok (.iconst 0, 1) := dk_3 (dk_at dksX13_of_0 21 rfl rfl)
theorem dX13_of_22 : decode cX13_of 22 = .ok (.invokevirtual 128, 3) := dk_182 0 128 (dk_at dksX13_of_1 0 rfl rfl)
theorem dX13_of_25 : decode cX13_of 25 = .ok (.ireturn, 1) := dk_172 (dk_at dksX13_of_1 3 rfl rfl)
theorem dX13_of_26 : decode cX13_of 26 = .ok (.iload_n 2, 1) := dk_28 (dk_at dksX13_of_1 4 rfl rfl)
theorem dX13_of_27 : decode cX13_of 27 = .ok (.tableswitch 53 7 10 #[29, 35, 41, 47], 29) := by decide +kernel
theorem dX13_of_56 : decode cX13_of 56 = .ok (.aload_n 0, 1) := dk_42 (dk_at dksX13_of_3 0 rfl rfl)
theorem dX13_of_57 : decode cX13_of 57 = .ok (.iload_n 1, 1) := dk_27 (dk_at dksX13_of_3 1 rfl rfl)
theorem dX13_of_58 : decode cX13_of 58 = .ok (.invokevirtual 81, 3) := dk_182 0 81 (dk_at dksX13_of_3 2 rfl rfl)
theorem dX13_of_61 : decode cX13_of 61 = .ok (.ireturn, 1) := dk_172 (dk_at dksX13_of_3 5 rfl rfl)
theorem dX13_of_62 : decode cX13_of 62 = .ok (.aload_n 0, 1) := dk_42 (dk_at dksX13_of_3 6 rfl rfl)
theorem dX13_of_63 : decode cX13_of 63 = .ok (.iload_n 1, 1) := dk_27 (dk_at dksX13_of_3 7 rfl rfl)
theorem dX13_of_64 : decode cX13_of 64 = .ok (.invokevirtual 74, 3) := dk_182 0 74 (dk_at dksX13_of_3 8 rfl rfl)
theorem dX13_of_67 : decode cX13_of 67 = .ok (.ireturn, 1) := dk_172 (dk_at dksX13_of_3 11 rfl rfl)
theorem dX13_of_68 : decode cX13_of 68 = .ok (.aload_n 0, 1) := dk_42 (dk_at dksX13_of_3 12 rfl rfl)
theorem dX13_of_69 : decode cX13_of 69 = .ok (.iload_n 1, 1) := dk_27 (dk_at dksX13_of_3 13 rfl rfl)
theorem dX13_of_70 : decode cX13_of 70 = .ok (.invokevirtual 105, 3) := dk_182 0 105 (dk_at dksX13_of_3 14 rfl rfl)
theorem dX13_of_73 : decode cX13_of 73 = .ok (.ireturn, 1) := dk_172 (dk_at dksX13_of_3 17 rfl rfl)
theorem dX13_of_74 : decode cX13_of 74 = .ok (.aload_n 0, 1) := dk_42 (dk_at dksX13_of_3 18 rfl rfl)
theorem dX13_of_75 : decode cX13_of 75 = .ok (.iload_n 1, 1) := dk_27 (dk_at dksX13_of_3 19 rfl rfl)
theorem dX13_of_76 : decode cX13_of 76 = .ok (.invokevirtual 87, 3) := dk_182 0 87 (dk_at dksX13_of_3 20 rfl rfl)
theorem dX13_of_79 : decode cX13_of 79 = .ok (.ireturn, 1) := dk_172 (dk_at dksX13_of_3 23 rfl rfl)
theorem dX13_of_80 : decode cX13_of 80 = .ok (.aload_n 0, 1) := dk_42 (dk_at dksX13_of_4 0 rfl rfl)
theorem dX13_of_81 : decode cX13_of 81 = .ok (.iload_n 1, 1) := dk_27 (dk_at dksX13_of_4 1 rfl rfl)
theorem dX13_of_82 : decode cX13_of 82 = .ok (.iload_n 2, 1) := dk_28 (dk_at dksX13_of_4 2 rfl rfl)
theorem dX13_of_83 : decode cX13_of 83 = .ok (.invokevirtual 58, 3) := dk_182 0 58 (dk_at dksX13_of_4 3 rfl rfl)
theorem dX13_of_86 : decode cX13_of 86 = .ok (.ireturn, 1) := dk_172 (dk_at dksX13_of_4 6 rfl rfl)
abbrev cX13_isGlove : ByteArray := prog_16_method_7_code
def yX13_isGlove : MethodName := ⟨RX13, "isGlove", "(I)Z"⟩
def dkwX13_isGlove_0 : List UInt8 := [27, 133, 9, 42, 180, 0, 7, 3, 46, 4, 100, 133, 184, 0, 42, 172]
abbrev dktX13_isGlove_0 : List UInt8 := dkwX13_isGlove_0 ++ []
theorem dksX13_isGlove_0 : cX13_isGlove.data.toList.drop 0 = dktX13_isGlove_0 := by decide +kernel
theorem dX13_isGlove_0 : decode cX13_isGlove 0 = .ok (.iload_n 1, 1) := dk_27 (dk_at dksX13_isGlove_0 0 rfl rfl)
theorem dX13_isGlove_1 : decode cX13_isGlove 1 = .ok (.i2l, 1) := dk_133 (dk_at dksX13_isGlove_0 1 rfl rfl)
theorem dX13_isGlove_2 : decode cX13_isGlove 2 = .ok (.lconst 0, 1) := dk_9 (dk_at dksX13_isGlove_0 2 rfl rfl)
theorem dX13_isGlove_3 : decode cX13_isGlove 3 = .ok (.aload_n 0, 1) := dk_42 (dk_at dksX13_isGlove_0 3 rfl rfl)
theorem dX13_isGlove_4 : decode cX13_isGlove 4 = .ok (.getfield 7, 3) := dk_180 0 7 (dk_at dksX13_isGlove_0 4 rfl rfl)
theorem dX13_isGlove_7 : decode cX13_isGlove 7 = .ok (.iconst 0, 1) := dk_3 (dk_at dksX13_isGlove_0 7 rfl rfl)
theorem dX13_isGlove_8 : decode cX13_isGlove 8 = .ok (.iaload, 1) := dk_46 (dk_at dksX13_isGlove_0 8 rfl rfl)
theorem dX13_isGlove_9 : decode cX13_isGlove 9 = .ok (.iconst 1, 1) := dk_4 (dk_at dksX13_isGlove_0 9 rfl rfl)
theorem dX13_isGlove_10 : decode cX13_isGlove 10 = .ok (.isub, 1) := dk_100 (dk_at dksX13_isGlove_0 10 rfl rfl)
theorem dX13_isGlove_11 : decode cX13_isGlove 11 = .ok (.i2l, 1) := dk_133 (dk_at dksX13_isGlove_0 11 rfl rfl)
theorem dX13_isGlove_12 : decode cX13_isGlove 12 = .ok (.invokestatic 42, 3) := dk_184 0 42 (dk_at dksX13_isGlove_0 12 rfl rfl)
theorem dX13_isGlove_15 : decode cX13_isGlove 15 = .ok (.ireturn, 1) := dk_172 (dk_at dksX13_isGlove_0 15 rfl rfl)
abbrev cX13_needs : ByteArray := prog_16_method_18_code
def yX13_needs : MethodName := ⟨RX13, "needs", "(I)I"⟩
def dkwX13_needs_4 : List UInt8 := [182, 0, 70, 153, 0, 7, 4, 167, 0, 4, 29, 172, 28, 172]
abbrev dktX13_needs_4 : List UInt8 := dkwX13_needs_4 ++ []
def dkwX13_needs_3 : List UInt8 := [29, 172, 28, 6, 96, 172, 28, 4, 100, 3, 16, 10, 184, 0, 66, 172, 16, 99, 172, 3, 172, 42, 27]
abbrev dktX13_needs_3 : List UInt8 := dkwX13_needs_3 ++ dktX13_needs_4
def dkwX13_needs_2 : List UInt8 := [170, 0, 0, 0, 0, 73, 0, 0, 0, 1, 0, 0, 0, 6, 0, 0, 0, 38, 0, 0, 0, 40, 0, 0, 0, 44, 0, 0, 0, 54, 0, 0, 0, 57, 0, 0, 0, 59]
abbrev dktX13_needs_2 : List UInt8 := dkwX13_needs_2 ++ dktX13_needs_3
def dkwX13_needs_1 : List UInt8 := [182, 0, 58]
abbrev dktX13_needs_1 : List UInt8 := dkwX13_needs_1 ++ dktX13_needs_2
def dkwX13_needs_0 : List UInt8 := [16, 10, 42, 27, 5, 182, 0, 58, 100, 61, 28, 5, 100, 3, 16, 10, 184, 0, 66, 62, 42, 27, 3]
abbrev dktX13_needs_0 : List UInt8 := dkwX13_needs_0 ++ dktX13_needs_1
theorem dksX13_needs_0 : cX13_needs.data.toList.drop 0 = dktX13_needs_0 := by decide +kernel
theorem dksX13_needs_1 : cX13_needs.data.toList.drop 23 = dktX13_needs_1 := dk_seg dksX13_needs_0 23 rfl rfl
theorem dksX13_needs_2 : cX13_needs.data.toList.drop 26 = dktX13_needs_2 := dk_seg dksX13_needs_1 3 rfl rfl
theorem dksX13_needs_3 : cX13_needs.data.toList.drop 64 = dktX13_needs_3 := dk_seg dksX13_needs_2 38 rfl rfl
theorem dksX13_needs_4 : cX13_needs.data.toList.drop 87 = dktX13_needs_4 := dk_seg dksX13_needs_3 23 rfl rfl
theorem dX13_needs_0 : decode cX13_needs 0 = .ok (.bipush 10, 2) := dk_16 10 (dk_at dksX13_needs_0 0 rfl rfl)
theorem dX13_needs_2 : decode cX13_needs 2 = .ok (.aload_n 0, 1) := dk_42 (dk_at dksX13_needs_0 2 rfl rfl)
theorem dX13_needs_3 : decode cX13_needs 3 = .ok (.iload_n 1, 1) := dk_27 (dk_at dksX13_needs_0 3 rfl rfl)
theorem dX13_needs_4 : decode cX13_needs 4 = .ok (.iconst 2, 1) := dk_5 (dk_at dksX13_needs_0 4 rfl rfl)
theorem dX13_needs_5 : decode cX13_needs 5 = .ok (.invokevirtual 58, 3) := dk_182 0 58 (dk_at dksX13_needs_0 5 rfl rfl)
theorem dX13_needs_8 : decode cX13_needs 8 = .ok (.isub, 1) := dk_100 (dk_at dksX13_needs_0 8 rfl rfl)
theorem dX13_needs_9 : decode cX13_needs 9 = .ok (.istore_n 2, 1) := dk_61 (dk_at dksX13_needs_0 9 rfl rfl)
theorem dX13_needs_10 : decode cX13_needs 10 = .ok (.iload_n 2, 1) := dk_28 (dk_at dksX13_needs_0 10 rfl rfl)
theorem dX13_needs_11 : decode cX13_needs 11 = .ok (.iconst 2, 1) := dk_5 (dk_at dksX13_needs_0 11 rfl rfl)
theorem dX13_needs_12 : decode cX13_needs 12 = .ok (.isub, 1) := dk_100 (dk_at dksX13_needs_0 12 rfl rfl)
theorem dX13_needs_13 : decode cX13_needs 13 = .ok (.iconst 0, 1) := dk_3 (dk_at dksX13_needs_0 13 rfl rfl)
theorem dX13_needs_14 : decode cX13_needs 14 = .ok (.bipush 10, 2) := dk_16 10 (dk_at dksX13_needs_0 14 rfl rfl)
theorem dX13_needs_16 : decode cX13_needs 16 = .ok (.invokestatic 66, 3) := dk_184 0 66 (dk_at dksX13_needs_0 16 rfl rfl)
theorem dX13_needs_19 : decode cX13_needs 19 = .ok (.istore_n 3, 1) := dk_62 (dk_at dksX13_needs_0 19 rfl rfl)
theorem dX13_needs_20 : decode cX13_needs 20 = .ok (.aload_n 0, 1) := dk_42 (dk_at dksX13_needs_0 20 rfl rfl)
theorem dX13_needs_21 : decode cX13_needs 21 = .ok (.iload_n 1, 1) := dk_27 (dk_at dksX13_needs_0 21 rfl rfl)
theorem dX13_needs_22 : decode cX13_needs 22 = .ok (.iconst 0, 1) := dk_3 (dk_at dksX13_needs_0 22 rfl rfl)
theorem dX13_needs_23 : decode cX13_needs 23 = .ok (.invokevirtual 58, 3) := dk_182 0 58 (dk_at dksX13_needs_1 0 rfl rfl)
theorem dX13_needs_26 : decode cX13_needs 26 = .ok (.tableswitch 73 1 6 #[38, 40, 44, 54, 57, 59], 38) := by decide +kernel
theorem dX13_needs_64 : decode cX13_needs 64 = .ok (.iload_n 3, 1) := dk_29 (dk_at dksX13_needs_3 0 rfl rfl)
theorem dX13_needs_65 : decode cX13_needs 65 = .ok (.ireturn, 1) := dk_172 (dk_at dksX13_needs_3 1 rfl rfl)
theorem dX13_needs_66 : decode cX13_needs 66 = .ok (.iload_n 2, 1) := dk_28 (dk_at dksX13_needs_3 2 rfl rfl)
theorem dX13_needs_67 : decode cX13_needs 67 = .ok (.iconst 3, 1) := dk_6 (dk_at dksX13_needs_3 3 rfl rfl)
theorem dX13_needs_68 : decode cX13_needs 68 = .ok (.iadd, 1) := dk_96 (dk_at dksX13_needs_3 4 rfl rfl)
theorem dX13_needs_69 : decode cX13_needs 69 = .ok (.ireturn, 1) := dk_172 (dk_at dksX13_needs_3 5 rfl rfl)
theorem dX13_needs_70 : decode cX13_needs 70 = .ok (.iload_n 2, 1) := dk_28 (dk_at dksX13_needs_3 6 rfl rfl)
theorem dX13_needs_71 : decode cX13_needs 71 = .ok (.iconst 1, 1) := dk_4 (dk_at dksX13_needs_3 7 rfl rfl)
theorem dX13_needs_72 : decode cX13_needs 72 = .ok (.isub, 1) := dk_100 (dk_at dksX13_needs_3 8 rfl rfl)
theorem dX13_needs_73 : decode cX13_needs 73 = .ok (.iconst 0, 1) := dk_3 (dk_at dksX13_needs_3 9 rfl rfl)
theorem dX13_needs_74 : decode cX13_needs 74 = .ok (.bipush 10, 2) := dk_16 10 (dk_at dksX13_needs_3 10 rfl rfl)
theorem dX13_needs_76 : decode cX13_needs 76 = .ok (.invokestatic 66, 3) := dk_184 0 66 (dk_at dksX13_needs_3 12 rfl rfl)
theorem dX13_needs_79 : decode cX13_needs 79 = .ok (.ireturn, 1) := dk_172 (dk_at dksX13_needs_3 15 rfl rfl)
theorem dX13_needs_80 : decode cX13_needs 80 = .ok (.bipush 99, 2) := dk_16 99 (dk_at dksX13_needs_3 16 rfl rfl)
theorem dX13_needs_82 : decode cX13_needs 82 = .ok (.ireturn, 1) := dk_172 (dk_at dksX13_needs_3 18 rfl rfl)
theorem dX13_needs_83 : decode cX13_needs 83 = .ok (.iconst 0, 1) := dk_3 (dk_at dksX13_needs_3 19 rfl rfl)
theorem dX13_needs_84 : decode cX13_needs 84 = .ok (.ireturn, 1) := dk_172 (dk_at dksX13_needs_3 20 rfl rfl)
theorem dX13_needs_85 : decode cX13_needs 85 = .ok (.aload_n 0, 1) := dk_42 (dk_at dksX13_needs_3 21 rfl rfl)
theorem dX13_needs_86 : decode cX13_needs 86 = .ok (.iload_n 1, 1) := dk_27 (dk_at dksX13_needs_3 22 rfl rfl)
theorem dX13_needs_87 : decode cX13_needs 87 = .ok (.invokevirtual 70, 3) := dk_182 0 70 (dk_at dksX13_needs_4 0 rfl rfl)
theorem dX13_needs_90 : decode cX13_needs 90 = .ok (.ifCond .eq 7, 3) := dk_153 0 7 (dk_at dksX13_needs_4 3 rfl rfl)
theorem dX13_needs_93 : decode cX13_needs 93 = .ok (.iconst 1, 1) := dk_4 (dk_at dksX13_needs_4 6 rfl rfl)
theorem dX13_needs_94 : decode cX13_needs 94 = .ok (.goto 4, 3) := dk_167 0 4 (dk_at dksX13_needs_4 7 rfl rfl)
theorem dX13_needs_97 : decode cX13_needs 97 = .ok (.iload_n 3, 1) := dk_29 (dk_at dksX13_needs_4 10 rfl rfl)
theorem dX13_needs_98 : decode cX13_needs 98 = .ok (.ireturn, 1) := dk_172 (dk_at dksX13_needs_4 11 rfl rfl)
theorem dX13_needs_99 : decode cX13_needs 99 = .ok (.iload_n 2, 1) := dk_28 (dk_at dksX13_needs_4 12 rfl rfl)
theorem dX13_needs_100 : decode cX13_needs 100 = .ok (.ireturn, 1) := dk_172 (dk_at dksX13_needs_4 13 rfl rfl)
abbrev cX13_held : ByteArray := prog_16_method_5_code
def yX13_held : MethodName := ⟨RX13, "held", "(III)I"⟩
def dkwX13_held_0 : List UInt8 := [26, 27, 162, 0, 7, 27, 167, 0, 13, 26, 28, 164, 0, 7, 28, 167, 0, 4, 26, 172]
abbrev dktX13_held_0 : List UInt8 := dkwX13_held_0 ++ []
theorem dksX13_held_0 : cX13_held.data.toList.drop 0 = dktX13_held_0 := by decide +kernel
theorem dX13_held_0 : decode cX13_held 0 = .ok (.iload_n 0, 1) := dk_26 (dk_at dksX13_held_0 0 rfl rfl)
theorem dX13_held_1 : decode cX13_held 1 = .ok (.iload_n 1, 1) := dk_27 (dk_at dksX13_held_0 1 rfl rfl)
theorem dX13_held_2 : decode cX13_held 2 = .ok (.if_icmp .ge 7, 3) := dk_162 0 7 (dk_at dksX13_held_0 2 rfl rfl)
theorem dX13_held_5 : decode cX13_held 5 = .ok (.iload_n 1, 1) := dk_27 (dk_at dksX13_held_0 5 rfl rfl)
theorem dX13_held_6 : decode cX13_held 6 = .ok (.goto 13, 3) := dk_167 0 13 (dk_at dksX13_held_0 6 rfl rfl)
theorem dX13_held_9 : decode cX13_held 9 = .ok (.iload_n 0, 1) := dk_26 (dk_at dksX13_held_0 9 rfl rfl)
theorem dX13_held_10 : decode cX13_held 10 = .ok (.iload_n 2, 1) := dk_28 (dk_at dksX13_held_0 10 rfl rfl)
theorem dX13_held_11 : decode cX13_held 11 = .ok (.if_icmp .le 7, 3) := dk_164 0 7 (dk_at dksX13_held_0 11 rfl rfl)
theorem dX13_held_14 : decode cX13_held 14 = .ok (.iload_n 2, 1) := dk_28 (dk_at dksX13_held_0 14 rfl rfl)
theorem dX13_held_15 : decode cX13_held 15 = .ok (.goto 4, 3) := dk_167 0 4 (dk_at dksX13_held_0 15 rfl rfl)
theorem dX13_held_18 : decode cX13_held 18 = .ok (.iload_n 0, 1) := dk_26 (dk_at dksX13_held_0 18 rfl rfl)
theorem dX13_held_19 : decode cX13_held 19 = .ok (.ireturn, 1) := dk_172 (dk_at dksX13_held_0 19 rfl rfl)
abbrev cX13_hasOther : ByteArray := prog_16_method_17_code
def yX13_hasOther : MethodName := ⟨RX13, "hasOther", "(I)Z"⟩
def dkwX13_hasOther_1 : List UInt8 := [182, 0, 58, 182, 0, 62, 153, 0, 5, 4, 172, 132, 2, 1, 167, 255, 222, 3, 172]
abbrev dktX13_hasOther_1 : List UInt8 := dkwX13_hasOther_1 ++ []
def dkwX13_hasOther_0 : List UInt8 := [3, 61, 28, 42, 180, 0, 7, 3, 46, 162, 0, 30, 28, 27, 159, 0, 19, 42, 28, 42, 27, 4]
abbrev dktX13_hasOther_0 : List UInt8 := dkwX13_hasOther_0 ++ dktX13_hasOther_1
theorem dksX13_hasOther_0 : cX13_hasOther.data.toList.drop 0 = dktX13_hasOther_0 := by decide +kernel
theorem dksX13_hasOther_1 : cX13_hasOther.data.toList.drop 22 = dktX13_hasOther_1 := dk_seg dksX13_hasOther_0 22 rfl rfl
theorem dX13_hasOther_0 : decode cX13_hasOther 0 = .ok (.iconst 0, 1) := dk_3 (dk_at dksX13_hasOther_0 0 rfl rfl)
theorem dX13_hasOther_1 : decode cX13_hasOther 1 = .ok (.istore_n 2, 1) := dk_61 (dk_at dksX13_hasOther_0 1 rfl rfl)
theorem dX13_hasOther_2 : decode cX13_hasOther 2 = .ok (.iload_n 2, 1) := dk_28 (dk_at dksX13_hasOther_0 2 rfl rfl)
theorem dX13_hasOther_3 : decode cX13_hasOther 3 = .ok (.aload_n 0, 1) := dk_42 (dk_at dksX13_hasOther_0 3 rfl rfl)
theorem dX13_hasOther_4 : decode cX13_hasOther 4 = .ok (.getfield 7, 3) := dk_180 0 7 (dk_at dksX13_hasOther_0 4 rfl rfl)
theorem dX13_hasOther_7 : decode cX13_hasOther 7 = .ok (.iconst 0, 1) := dk_3 (dk_at dksX13_hasOther_0 7 rfl rfl)
theorem dX13_hasOther_8 : decode cX13_hasOther 8 = .ok (.iaload, 1) := dk_46 (dk_at dksX13_hasOther_0 8 rfl rfl)
theorem dX13_hasOther_9 : decode cX13_hasOther 9 = .ok (.if_icmp .ge 30, 3) := dk_162 0 30 (dk_at dksX13_hasOther_0 9 rfl rfl)
theorem dX13_hasOther_12 : decode cX13_hasOther 12 = .ok (.iload_n 2, 1) := dk_28 (dk_at dksX13_hasOther_0 12 rfl rfl)
theorem dX13_hasOther_13 : decode cX13_hasOther 13 = .ok (.iload_n 1, 1) := dk_27 (dk_at dksX13_hasOther_0 13 rfl rfl)
theorem dX13_hasOther_14 : decode cX13_hasOther 14 = .ok (.if_icmp .eq 19, 3) := dk_159 0 19 (dk_at dksX13_hasOther_0 14 rfl rfl)
theorem dX13_hasOther_17 : decode cX13_hasOther 17 = .ok (.aload_n 0, 1) := dk_42 (dk_at dksX13_hasOther_0 17 rfl rfl)
theorem dX13_hasOther_18 : decode cX13_hasOther 18 = .ok (.iload_n 2, 1) := dk_28 (dk_at dksX13_hasOther_0 18 rfl rfl)
theorem dX13_hasOther_19 : decode cX13_hasOther 19 = .ok (.aload_n 0, 1) := dk_42 (dk_at dksX13_hasOther_0 19 rfl rfl)
theorem dX13_hasOther_20 : decode cX13_hasOther 20 = .ok (.iload_n 1, 1) := dk_27 (dk_at dksX13_hasOther_0 20 rfl rfl)
theorem dX13_hasOther_21 : decode cX13_hasOther 21 = .ok (.iconst 1, 1) := dk_4 (dk_at dksX13_hasOther_0 21 rfl rfl)
theorem dX13_hasOther_22 : decode cX13_hasOther 22 = .ok (.invokevirtual 58, 3) := dk_182 0 58 (dk_at dksX13_hasOther_1 0 rfl rfl)
theorem dX13_hasOther_25 : decode cX13_hasOther 25 = .ok (.invokevirtual 62, 3) := dk_182 0 62 (dk_at dksX13_hasOther_1 3 rfl rfl)
theorem dX13_hasOther_28 : decode cX13_hasOther 28 = .ok (.ifCond .eq 5, 3) := dk_153 0 5 (dk_at dksX13_hasOther_1 6 rfl rfl)
theorem dX13_hasOther_31 : decode cX13_hasOther 31 = .ok (.iconst 1, 1) := dk_4 (dk_at dksX13_hasOther_1 9 rfl rfl)
theorem dX13_hasOther_32 : decode cX13_hasOther 32 = .ok (.ireturn, 1) := dk_172 (dk_at dksX13_hasOther_1 10 rfl rfl)
theorem dX13_hasOther_33 : decode cX13_hasOther 33 = .ok (.iinc 2 1, 3) := dk_132 2 1 (dk_at dksX13_hasOther_1 11 rfl rfl)
theorem dX13_hasOther_36 : decode cX13_hasOther 36 = .ok (.goto (-34), 3) := dk_167 255 222 (dk_at dksX13_hasOther_1 14 rfl rfl)
theorem dX13_hasOther_39 : decode cX13_hasOther 39 = .ok (.iconst 0, 1) := dk_3 (dk_at dksX13_hasOther_1 17 rfl rfl)
theorem dX13_hasOther_40 : decode cX13_hasOther 40 = .ok (.ireturn, 1) := dk_172 (dk_at dksX13_hasOther_1 18 rfl rfl)
abbrev cX13_stays : ByteArray := prog_16_method_20_code
def yX13_stays : MethodName := ⟨RX13, "stays", "(I)I"⟩
def dkwX13_stays_2 : List UInt8 := [8, 172, 16, 14, 172, 3, 172, 16, 7, 172]
abbrev dktX13_stays_2 : List UInt8 := dkwX13_stays_2 ++ []
def dkwX13_stays_1 : List UInt8 := [170, 0, 0, 0, 0, 45, 0, 0, 0, 1, 0, 0, 0, 6, 0, 0, 0, 38, 0, 0, 0, 40, 0, 0, 0, 40, 0, 0, 0, 43, 0, 0, 0, 43, 0, 0, 0, 38]
abbrev dktX13_stays_1 : List UInt8 := dkwX13_stays_1 ++ dktX13_stays_2
def dkwX13_stays_0 : List UInt8 := [42, 27, 3, 182, 0, 58]
abbrev dktX13_stays_0 : List UInt8 := dkwX13_stays_0 ++ dktX13_stays_1
theorem dksX13_stays_0 : cX13_stays.data.toList.drop 0 = dktX13_stays_0 := by decide +kernel
theorem dksX13_stays_1 : cX13_stays.data.toList.drop 6 = dktX13_stays_1 := dk_seg dksX13_stays_0 6 rfl rfl
theorem dksX13_stays_2 : cX13_stays.data.toList.drop 44 = dktX13_stays_2 := dk_seg dksX13_stays_1 38 rfl rfl
theorem dX13_stays_0 : decode cX13_stays 0 = .ok (.aload_n 0, 1) := dk_42 (dk_at dksX13_stays_0 0 rfl rfl)
theorem dX13_stays_1 : decode cX13_stays 1 = .ok (.iload_n 1, 1) := dk_27 (dk_at dksX13_stays_0 1 rfl rfl)
theorem dX13_stays_2 : decode cX13_stays 2 = .ok (.iconst 0, 1) := dk_3 (dk_at dksX13_stays_0 2 rfl rfl)
theorem dX13_stays_3 : decode cX13_stays 3 = .ok (.invokevirtual 58, 3) := dk_182 0 58 (dk_at dksX13_stays_0 3 rfl rfl)
theorem dX13_stays_6 : decode cX13_stays 6 = .ok (.tableswitch 45 1 6 #[38, 40, 40, 43, 43, 38], 38) := by decide +kernel
theorem dX13_stays_44 : decode cX13_stays 44 = .ok (.iconst 5, 1) := dk_8 (dk_at dksX13_stays_2 0 rfl rfl)
theorem dX13_stays_45 : decode cX13_stays 45 = .ok (.ireturn, 1) := dk_172 (dk_at dksX13_stays_2 1 rfl rfl)
theorem dX13_stays_46 : decode cX13_stays 46 = .ok (.bipush 14, 2) := dk_16 14 (dk_at dksX13_stays_2 2 rfl rfl)
theorem dX13_stays_48 : decode cX13_stays 48 = .ok (.ireturn, 1) := dk_172 (dk_at dksX13_stays_2 4 rfl rfl)
theorem dX13_stays_49 : decode cX13_stays 49 = .ok (.iconst 0, 1) := dk_3 (dk_at dksX13_stays_2 5 rfl rfl)
theorem dX13_stays_50 : decode cX13_stays 50 = .ok (.ireturn, 1) := dk_172 (dk_at dksX13_stays_2 6 rfl rfl)
theorem dX13_stays_51 : decode cX13_stays 51 = .ok (.bipush 7, 2) := dk_16 7 (dk_at dksX13_stays_2 7 rfl rfl)
theorem dX13_stays_53 : decode cX13_stays 53 = .ok (.ireturn, 1) := dk_172 (dk_at dksX13_stays_2 9 rfl rfl)
abbrev cX13_keeps : ByteArray := prog_16_method_21_code
def yX13_keeps : MethodName := ⟨RX13, "keeps", "(I)I"⟩
def dkwX13_keeps_2 : List UInt8 := [16, 8, 172, 16, 10, 172, 6, 172, 16, 16, 172, 16, 6, 172]
abbrev dktX13_keeps_2 : List UInt8 := dkwX13_keeps_2 ++ []
def dkwX13_keeps_1 : List UInt8 := [170, 0, 0, 0, 0, 49, 0, 0, 0, 1, 0, 0, 0, 6, 0, 0, 0, 38, 0, 0, 0, 44, 0, 0, 0, 44, 0, 0, 0, 44, 0, 0, 0, 46, 0, 0, 0, 41]
abbrev dktX13_keeps_1 : List UInt8 := dkwX13_keeps_1 ++ dktX13_keeps_2
def dkwX13_keeps_0 : List UInt8 := [42, 27, 3, 182, 0, 58]
abbrev dktX13_keeps_0 : List UInt8 := dkwX13_keeps_0 ++ dktX13_keeps_1
theorem dksX13_keeps_0 : cX13_keeps.data.toList.drop 0 = dktX13_keeps_0 := by decide +kernel
theorem dksX13_keeps_1 : cX13_keeps.data.toList.drop 6 = dktX13_keeps_1 := dk_seg dksX13_keeps_0 6 rfl rfl
theorem dksX13_keeps_2 : cX13_keeps.data.toList.drop 44 = dktX13_keeps_2 := dk_seg dksX13_keeps_1 38 rfl rfl
theorem dX13_keeps_0 : decode cX13_keeps 0 = .ok (.aload_n 0, 1) := dk_42 (dk_at dksX13_keeps_0 0 rfl rfl)
theorem dX13_keeps_1 : decode cX13_keeps 1 = .ok (.iload_n 1, 1) := dk_27 (dk_at dksX13_keeps_0 1 rfl rfl)
theorem dX13_keeps_2 : decode cX13_keeps 2 = .ok (.iconst 0, 1) := dk_3 (dk_at dksX13_keeps_0 2 rfl rfl)
theorem dX13_keeps_3 : decode cX13_keeps 3 = .ok (.invokevirtual 58, 3) := dk_182 0 58 (dk_at dksX13_keeps_0 3 rfl rfl)
theorem dX13_keeps_6 : decode cX13_keeps 6 = .ok (.tableswitch 49 1 6 #[38, 44, 44, 44, 46, 41], 38) := by decide +kernel
theorem dX13_keeps_44 : decode cX13_keeps 44 = .ok (.bipush 8, 2) := dk_16 8 (dk_at dksX13_keeps_2 0 rfl rfl)
theorem dX13_keeps_46 : decode cX13_keeps 46 = .ok (.ireturn, 1) := dk_172 (dk_at dksX13_keeps_2 2 rfl rfl)
theorem dX13_keeps_47 : decode cX13_keeps 47 = .ok (.bipush 10, 2) := dk_16 10 (dk_at dksX13_keeps_2 3 rfl rfl)
theorem dX13_keeps_49 : decode cX13_keeps 49 = .ok (.ireturn, 1) := dk_172 (dk_at dksX13_keeps_2 5 rfl rfl)
theorem dX13_keeps_50 : decode cX13_keeps 50 = .ok (.iconst 3, 1) := dk_6 (dk_at dksX13_keeps_2 6 rfl rfl)
theorem dX13_keeps_51 : decode cX13_keeps 51 = .ok (.ireturn, 1) := dk_172 (dk_at dksX13_keeps_2 7 rfl rfl)
theorem dX13_keeps_52 : decode cX13_keeps 52 = .ok (.bipush 16, 2) := dk_16 16 (dk_at dksX13_keeps_2 8 rfl rfl)
theorem dX13_keeps_54 : decode cX13_keeps 54 = .ok (.ireturn, 1) := dk_172 (dk_at dksX13_keeps_2 10 rfl rfl)
theorem dX13_keeps_55 : decode cX13_keeps 55 = .ok (.bipush 6, 2) := dk_16 6 (dk_at dksX13_keeps_2 11 rfl rfl)
theorem dX13_keeps_57 : decode cX13_keeps 57 = .ok (.ireturn, 1) := dk_172 (dk_at dksX13_keeps_2 13 rfl rfl)
abbrev cX13_change : ByteArray := prog_16_method_40_code
def yX13_change : MethodName := ⟨RX13, "change", "(III)I"⟩
def dkwX13_change_2 : List UInt8 := [167, 0, 8, 42, 3, 182, 0, 128, 172]
abbrev dktX13_change_2 : List UInt8 := dkwX13_change_2 ++ []
def dkwX13_change_1 : List UInt8 := [184, 0, 144, 133, 184, 0, 42, 153, 0, 20, 42, 16, 9, 16, 8, 28, 104, 96, 27, 96, 29, 182, 0, 125]
abbrev dktX13_change_1 : List UInt8 := dkwX13_change_1 ++ dktX13_change_2
def dkwX13_change_0 : List UInt8 := [42, 27, 182, 0, 138, 153, 0, 46, 28, 133, 9, 20, 0, 133, 184, 0, 42, 153, 0, 34, 29, 133, 9, 28]
abbrev dktX13_change_0 : List UInt8 := dkwX13_change_0 ++ dktX13_change_1
theorem dksX13_change_0 : cX13_change.data.toList.drop 0 = dktX13_change_0 := by decide +kernel
theorem dksX13_change_1 : cX13_change.data.toList.drop 24 = dktX13_change_1 := dk_seg dksX13_change_0 24 rfl rfl
theorem dksX13_change_2 : cX13_change.data.toList.drop 48 = dktX13_change_2 := dk_seg dksX13_change_1 24 rfl rfl
theorem dX13_change_0 : decode cX13_change 0 = .ok (.aload_n 0, 1) := dk_42 (dk_at dksX13_change_0 0 rfl rfl)
theorem dX13_change_1 : decode cX13_change 1 = .ok (.iload_n 1, 1) := dk_27 (dk_at dksX13_change_0 1 rfl rfl)
theorem dX13_change_2 : decode cX13_change 2 = .ok (.invokevirtual 138, 3) := dk_182 0 138 (dk_at dksX13_change_0 2 rfl rfl)
theorem dX13_change_5 : decode cX13_change 5 = .ok (.ifCond .eq 46, 3) := dk_153 0 46 (dk_at dksX13_change_0 5 rfl rfl)
theorem dX13_change_8 : decode cX13_change 8 = .ok (.iload_n 2, 1) := dk_28 (dk_at dksX13_change_0 8 rfl rfl)
theorem dX13_change_9 : decode cX13_change 9 = .ok (.i2l, 1) := dk_133 (dk_at dksX13_change_0 9 rfl rfl)
theorem dX13_change_10 : decode cX13_change 10 = .ok (.lconst 0, 1) := dk_9 (dk_at dksX13_change_0 10 rfl rfl)
theorem dX13_change_11 : decode cX13_change 11 = .ok (.ldc2_w 133, 3) := dk_20 0 133 (dk_at dksX13_change_0 11 rfl rfl)
theorem dX13_change_14 : decode cX13_change 14 = .ok (.invokestatic 42, 3) := dk_184 0 42 (dk_at dksX13_change_0 14 rfl rfl)
theorem dX13_change_17 : decode cX13_change 17 = .ok (.ifCond .eq 34, 3) := dk_153 0 34 (dk_at dksX13_change_0 17 rfl rfl)
theorem dX13_change_20 : decode cX13_change 20 = .ok (.iload_n 3, 1) := dk_29 (dk_at dksX13_change_0 20 rfl rfl)
theorem dX13_change_21 : decode cX13_change 21 = .ok (.i2l, 1) := dk_133 (dk_at dksX13_change_0 21 rfl rfl)
theorem dX13_change_22 : decode cX13_change 22 = .ok (.lconst 0, 1) := dk_9 (dk_at dksX13_change_0 22 rfl rfl)
theorem dX13_change_23 : decode cX13_change 23 = .ok (.iload_n 2, 1) := dk_28 (dk_at dksX13_change_0 23 rfl rfl)
theorem dX13_change_24 : decode cX13_change 24 = .ok (.invokestatic 144, 3) := dk_184 0 144 (dk_at dksX13_change_1 0 rfl rfl)
theorem dX13_change_27 : decode cX13_change 27 = .ok (.i2l, 1) := dk_133 (dk_at dksX13_change_1 3 rfl rfl)
theorem dX13_change_28 : decode cX13_change 28 = .ok (.invokestatic 42, 3) := dk_184 0 42 (dk_at dksX13_change_1 4 rfl rfl)
theorem dX13_change_31 : decode cX13_change 31 = .ok (.ifCond .eq 20, 3) := dk_153 0 20 (dk_at dksX13_change_1 7 rfl rfl)
theorem dX13_change_34 : decode cX13_change 34 = .ok (.aload_n 0, 1) := dk_42 (dk_at dksX13_change_1 10 rfl rfl)
theorem dX13_change_35 : decode cX13_change 35 = .ok (.bipush 9, 2) := dk_16 9 (dk_at dksX13_change_1 11 rfl rfl)
theorem dX13_change_37 : decode cX13_change 37 = .ok (.bipush 8, 2) := dk_16 8 (dk_at dksX13_change_1 13 rfl rfl)
theorem dX13_change_39 : decode cX13_change 39 = .ok (.iload_n 2, 1) := dk_28 (dk_at dksX13_change_1 15 rfl rfl)
theorem dX13_change_40 : decode cX13_change 40 = .ok (.imul, 1) := dk_104 (dk_at dksX13_change_1 16 rfl rfl)
theorem dX13_change_41 : decode cX13_change 41 = .ok (.iadd, 1) := dk_96 (dk_at dksX13_change_1 17 rfl rfl)
theorem dX13_change_42 : decode cX13_change 42 = .ok (.iload_n 1, 1) := dk_27 (dk_at dksX13_change_1 18 rfl rfl)
theorem dX13_change_43 : decode cX13_change 43 = .ok (.iadd, 1) := dk_96 (dk_at dksX13_change_1 19 rfl rfl)
theorem dX13_change_44 : decode cX13_change 44 = .ok (.iload_n 3, 1) := dk_29 (dk_at dksX13_change_1 20 rfl rfl)
theorem dX13_change_45 : decode cX13_change 45 = .ok (.invokevirtual 125, 3) := dk_182 0 125 (dk_at dksX13_change_1 21 rfl rfl)
theorem dX13_change_48 : decode cX13_change 48 = .ok (.goto 8, 3) := dk_167 0 8 (dk_at dksX13_change_2 0 rfl rfl)
theorem dX13_change_51 : decode cX13_change 51 = .ok (.aload_n 0, 1) := dk_42 (dk_at dksX13_change_2 3 rfl rfl)
theorem dX13_change_52 : decode cX13_change 52 = .ok (.iconst 0, 1) := dk_3 (dk_at dksX13_change_2 4 rfl rfl)
theorem dX13_change_53 : decode cX13_change 53 = .ok (.invokevirtual 128, 3) := dk_182 0 128 (dk_at dksX13_change_2 5 rfl rfl)
theorem dX13_change_56 : decode cX13_change 56 = .ok (.ireturn, 1) := dk_172 (dk_at dksX13_change_2 8 rfl rfl)
abbrev cX13_mostOf : ByteArray := prog_16_method_39_code
def yX13_mostOf : MethodName := ⟨RX13, "mostOf", "(I)I"⟩
def dkwX13_mostOf_1 : List UInt8 := [16, 9, 167, 0, 21, 26, 6, 159, 0, 8, 26, 8, 160, 0, 8, 18, 143, 167, 0, 6, 17, 39, 15, 172]
abbrev dktX13_mostOf_1 : List UInt8 := dkwX13_mostOf_1 ++ []
def dkwX13_mostOf_0 : List UInt8 := [26, 154, 0, 8, 16, 6, 167, 0, 40, 26, 4, 160, 0, 7, 8, 167, 0, 31, 26, 5, 160, 0, 8]
abbrev dktX13_mostOf_0 : List UInt8 := dkwX13_mostOf_0 ++ dktX13_mostOf_1
theorem dksX13_mostOf_0 : cX13_mostOf.data.toList.drop 0 = dktX13_mostOf_0 := by decide +kernel
theorem dksX13_mostOf_1 : cX13_mostOf.data.toList.drop 23 = dktX13_mostOf_1 := dk_seg dksX13_mostOf_0 23 rfl rfl
theorem dX13_mostOf_0 : decode cX13_mostOf 0 = .ok (.iload_n 0, 1) := dk_26 (dk_at dksX13_mostOf_0 0 rfl rfl)
theorem dX13_mostOf_1 : decode cX13_mostOf 1 = .ok (.ifCond .ne 8, 3) := dk_154 0 8 (dk_at dksX13_mostOf_0 1 rfl rfl)
theorem dX13_mostOf_4 : decode cX13_mostOf 4 = .ok (.bipush 6, 2) := dk_16 6 (dk_at dksX13_mostOf_0 4 rfl rfl)
theorem dX13_mostOf_6 : decode cX13_mostOf 6 = .ok (.goto 40, 3) := dk_167 0 40 (dk_at dksX13_mostOf_0 6 rfl rfl)
theorem dX13_mostOf_9 : decode cX13_mostOf 9 = .ok (.iload_n 0, 1) := dk_26 (dk_at dksX13_mostOf_0 9 rfl rfl)
theorem dX13_mostOf_10 : decode cX13_mostOf 10 = .ok (.iconst 1, 1) := dk_4 (dk_at dksX13_mostOf_0 10 rfl rfl)
theorem dX13_mostOf_11 : decode cX13_mostOf 11 = .ok (.if_icmp .ne 7, 3) := dk_160 0 7 (dk_at dksX13_mostOf_0 11 rfl rfl)
theorem dX13_mostOf_14 : decode cX13_mostOf 14 = .ok (.iconst 5, 1) := dk_8 (dk_at dksX13_mostOf_0 14 rfl rfl)
theorem dX13_mostOf_15 : decode cX13_mostOf 15 = .ok (.goto 31, 3) := dk_167 0 31 (dk_at dksX13_mostOf_0 15 rfl rfl)
theorem dX13_mostOf_18 : decode cX13_mostOf 18 = .ok (.iload_n 0, 1) := dk_26 (dk_at dksX13_mostOf_0 18 rfl rfl)
theorem dX13_mostOf_19 : decode cX13_mostOf 19 = .ok (.iconst 2, 1) := dk_5 (dk_at dksX13_mostOf_0 19 rfl rfl)
theorem dX13_mostOf_20 : decode cX13_mostOf 20 = .ok (.if_icmp .ne 8, 3) := dk_160 0 8 (dk_at dksX13_mostOf_0 20 rfl rfl)
theorem dX13_mostOf_23 : decode cX13_mostOf 23 = .ok (.bipush 9, 2) := dk_16 9 (dk_at dksX13_mostOf_1 0 rfl rfl)
theorem dX13_mostOf_25 : decode cX13_mostOf 25 = .ok (.goto 21, 3) := dk_167 0 21 (dk_at dksX13_mostOf_1 2 rfl rfl)
theorem dX13_mostOf_28 : decode cX13_mostOf 28 = .ok (.iload_n 0, 1) := dk_26 (dk_at dksX13_mostOf_1 5 rfl rfl)
theorem dX13_mostOf_29 : decode cX13_mostOf 29 = .ok (.iconst 3, 1) := dk_6 (dk_at dksX13_mostOf_1 6 rfl rfl)
theorem dX13_mostOf_30 : decode cX13_mostOf 30 = .ok (.if_icmp .eq 8, 3) := dk_159 0 8 (dk_at dksX13_mostOf_1 7 rfl rfl)
theorem dX13_mostOf_33 : decode cX13_mostOf 33 = .ok (.iload_n 0, 1) := dk_26 (dk_at dksX13_mostOf_1 10 rfl rfl)
theorem dX13_mostOf_34 : decode cX13_mostOf 34 = .ok (.iconst 5, 1) := dk_8 (dk_at dksX13_mostOf_1 11 rfl rfl)
theorem dX13_mostOf_35 : decode cX13_mostOf 35 = .ok (.if_icmp .ne 8, 3) := dk_160 0 8 (dk_at dksX13_mostOf_1 12 rfl rfl)
theorem dX13_mostOf_38 : decode cX13_mostOf 38 = .ok (.ldc 143, 2) := dk_18 143 (dk_at dksX13_mostOf_1 15 rfl rfl)
theorem dX13_mostOf_40 : decode cX13_mostOf 40 = .ok (.goto 6, 3) := dk_167 0 6 (dk_at dksX13_mostOf_1 17 rfl rfl)
theorem dX13_mostOf_43 : decode cX13_mostOf 43 = .ok (.sipush 9999, 3) := dk_17 39 15 (dk_at dksX13_mostOf_1 20 rfl rfl)
theorem dX13_mostOf_46 : decode cX13_mostOf 46 = .ok (.ireturn, 1) := dk_172 (dk_at dksX13_mostOf_1 23 rfl rfl)
abbrev cX13_draw : ByteArray := prog_16_method_41_code
def yX13_draw : MethodName := ⟨RX13, "draw", "(I)I"⟩
def dkwX13_draw_1 : List UInt8 := [182, 0, 128, 172, 42, 27, 182, 0, 108, 42, 27, 8, 182, 0, 58, 172]
abbrev dktX13_draw_1 : List UInt8 := dkwX13_draw_1 ++ []
def dkwX13_draw_0 : List UInt8 := [42, 27, 182, 0, 138, 154, 0, 9, 42, 3, 182, 0, 128, 172, 42, 27, 182, 0, 105, 154, 0, 9, 42, 7]
abbrev dktX13_draw_0 : List UInt8 := dkwX13_draw_0 ++ dktX13_draw_1
theorem dksX13_draw_0 : cX13_draw.data.toList.drop 0 = dktX13_draw_0 := by decide +kernel
theorem dksX13_draw_1 : cX13_draw.data.toList.drop 24 = dktX13_draw_1 := dk_seg dksX13_draw_0 24 rfl rfl
theorem dX13_draw_0 : decode cX13_draw 0 = .ok (.aload_n 0, 1) := dk_42 (dk_at dksX13_draw_0 0 rfl rfl)
theorem dX13_draw_1 : decode cX13_draw 1 = .ok (.iload_n 1, 1) := dk_27 (dk_at dksX13_draw_0 1 rfl rfl)
theorem dX13_draw_2 : decode cX13_draw 2 = .ok (.invokevirtual 138, 3) := dk_182 0 138 (dk_at dksX13_draw_0 2 rfl rfl)
theorem dX13_draw_5 : decode cX13_draw 5 = .ok (.ifCond .ne 9, 3) := dk_154 0 9 (dk_at dksX13_draw_0 5 rfl rfl)
theorem dX13_draw_8 : decode cX13_draw 8 = .ok (.aload_n 0, 1) := dk_42 (dk_at dksX13_draw_0 8 rfl rfl)
theorem dX13_draw_9 : decode cX13_draw 9 = .ok (.iconst 0, 1) := dk_3 (dk_at dksX13_draw_0 9 rfl rfl)
theorem dX13_draw_10 : decode cX13_draw 10 = .ok (.invokevirtual 128, 3) := dk_182 0 128 (dk_at dksX13_draw_0 10 rfl rfl)
theorem dX13_draw_13 : decode cX13_draw 13 = .ok (.ireturn, 1) := dk_172 (dk_at dksX13_draw_0 13 rfl rfl)
theorem dX13_draw_14 : decode cX13_draw 14 = .ok (.aload_n 0, 1) := dk_42 (dk_at dksX13_draw_0 14 rfl rfl)
theorem dX13_draw_15 : decode cX13_draw 15 = .ok (.iload_n 1, 1) := dk_27 (dk_at dksX13_draw_0 15 rfl rfl)
theorem dX13_draw_16 : decode cX13_draw 16 = .ok (.invokevirtual 105, 3) := dk_182 0 105 (dk_at dksX13_draw_0 16 rfl rfl)
theorem dX13_draw_19 : decode cX13_draw 19 = .ok (.ifCond .ne 9, 3) := dk_154 0 9 (dk_at dksX13_draw_0 19 rfl rfl)
theorem dX13_draw_22 : decode cX13_draw 22 = .ok (.aload_n 0, 1) := dk_42 (dk_at dksX13_draw_0 22 rfl rfl)
theorem dX13_draw_23 : decode cX13_draw 23 = .ok (.iconst 4, 1) := dk_7 (dk_at dksX13_draw_0 23 rfl rfl)
theorem dX13_draw_24 : decode cX13_draw 24 = .ok (.invokevirtual 128, 3) := dk_182 0 128 (dk_at dksX13_draw_1 0 rfl rfl)
theorem dX13_draw_27 : decode cX13_draw 27 = .ok (.ireturn, 1) := dk_172 (dk_at dksX13_draw_1 3 rfl rfl)
theorem dX13_draw_28 : decode cX13_draw 28 = .ok (.aload_n 0, 1) := dk_42 (dk_at dksX13_draw_1 4 rfl rfl)
theorem dX13_draw_29 : decode cX13_draw 29 = .ok (.iload_n 1, 1) := dk_27 (dk_at dksX13_draw_1 5 rfl rfl)
theorem dX13_draw_30 : decode cX13_draw 30 = .ok (.invokevirtual 108, 3) := dk_182 0 108 (dk_at dksX13_draw_1 6 rfl rfl)
theorem dX13_draw_33 : decode cX13_draw 33 = .ok (.aload_n 0, 1) := dk_42 (dk_at dksX13_draw_1 9 rfl rfl)
theorem dX13_draw_34 : decode cX13_draw 34 = .ok (.iload_n 1, 1) := dk_27 (dk_at dksX13_draw_1 10 rfl rfl)
theorem dX13_draw_35 : decode cX13_draw 35 = .ok (.iconst 5, 1) := dk_8 (dk_at dksX13_draw_1 11 rfl rfl)
theorem dX13_draw_36 : decode cX13_draw 36 = .ok (.invokevirtual 58, 3) := dk_182 0 58 (dk_at dksX13_draw_1 12 rfl rfl)
theorem dX13_draw_39 : decode cX13_draw 39 = .ok (.ireturn, 1) := dk_172 (dk_at dksX13_draw_1 15 rfl rfl)
abbrev cX13_drawnOn : ByteArray := prog_16_method_25_code
def yX13_drawnOn : MethodName := ⟨RX13, "drawnOn", "(I)V"⟩
def dkwX13_drawnOn_3 : List UInt8 := [182, 0, 90, 177]
abbrev dktX13_drawnOn_3 : List UInt8 := dkwX13_drawnOn_3 ++ []
def dkwX13_drawnOn_2 : List UInt8 := [17, 39, 15, 184, 0, 66, 182, 0, 90, 42, 27, 4, 42, 27, 4, 182, 0, 58, 4, 96, 16, 6, 112]
abbrev dktX13_drawnOn_2 : List UInt8 := dkwX13_drawnOn_2 ++ dktX13_drawnOn_3
def dkwX13_drawnOn_1 : List UInt8 := [182, 0, 90, 42, 27, 7, 3, 182, 0, 90, 42, 27, 16, 6, 42, 27, 16, 6, 182, 0, 58, 4, 96, 3]
abbrev dktX13_drawnOn_1 : List UInt8 := dkwX13_drawnOn_1 ++ dktX13_drawnOn_2
def dkwX13_drawnOn_0 : List UInt8 := [42, 27, 8, 42, 27, 8, 182, 0, 58, 42, 27, 6, 182, 0, 58, 128, 182, 0, 90, 42, 27, 6, 3]
abbrev dktX13_drawnOn_0 : List UInt8 := dkwX13_drawnOn_0 ++ dktX13_drawnOn_1
theorem dksX13_drawnOn_0 : cX13_drawnOn.data.toList.drop 0 = dktX13_drawnOn_0 := by decide +kernel
theorem dksX13_drawnOn_1 : cX13_drawnOn.data.toList.drop 23 = dktX13_drawnOn_1 := dk_seg dksX13_drawnOn_0 23 rfl rfl
theorem dksX13_drawnOn_2 : cX13_drawnOn.data.toList.drop 47 = dktX13_drawnOn_2 := dk_seg dksX13_drawnOn_1 24 rfl rfl
theorem dksX13_drawnOn_3 : cX13_drawnOn.data.toList.drop 70 = dktX13_drawnOn_3 := dk_seg dksX13_drawnOn_2 23 rfl rfl
theorem dX13_drawnOn_0 : decode cX13_drawnOn 0 = .ok (.aload_n 0, 1) := dk_42 (dk_at dksX13_drawnOn_0 0 rfl rfl)
theorem dX13_drawnOn_1 : decode cX13_drawnOn 1 = .ok (.iload_n 1, 1) := dk_27 (dk_at dksX13_drawnOn_0 1 rfl rfl)
theorem dX13_drawnOn_2 : decode cX13_drawnOn 2 = .ok (.iconst 5, 1) := dk_8 (dk_at dksX13_drawnOn_0 2 rfl rfl)
theorem dX13_drawnOn_3 : decode cX13_drawnOn 3 = .ok (.aload_n 0, 1) := dk_42 (dk_at dksX13_drawnOn_0 3 rfl rfl)
theorem dX13_drawnOn_4 : decode cX13_drawnOn 4 = .ok (.iload_n 1, 1) := dk_27 (dk_at dksX13_drawnOn_0 4 rfl rfl)
theorem dX13_drawnOn_5 : decode cX13_drawnOn 5 = .ok (.iconst 5, 1) := dk_8 (dk_at dksX13_drawnOn_0 5 rfl rfl)
theorem dX13_drawnOn_6 : decode cX13_drawnOn 6 = .ok (.invokevirtual 58, 3) := dk_182 0 58 (dk_at dksX13_drawnOn_0 6 rfl rfl)
theorem dX13_drawnOn_9 : decode cX13_drawnOn 9 = .ok (.aload_n 0, 1) := dk_42 (dk_at dksX13_drawnOn_0 9 rfl rfl)
theorem dX13_drawnOn_10 : decode cX13_drawnOn 10 = .ok (.iload_n 1, 1) := dk_27 (dk_at dksX13_drawnOn_0 10 rfl rfl)
theorem dX13_drawnOn_11 : decode cX13_drawnOn 11 = .ok (.iconst 3, 1) := dk_6 (dk_at dksX13_drawnOn_0 11 rfl rfl)
theorem dX13_drawnOn_12 : decode cX13_drawnOn 12 = .ok (.invokevirtual 58, 3) := dk_182 0 58 (dk_at dksX13_drawnOn_0 12 rfl rfl)
theorem dX13_drawnOn_15 : decode cX13_drawnOn 15 = .ok (.ior, 1) := dk_128 (dk_at dksX13_drawnOn_0 15 rfl rfl)
theorem dX13_drawnOn_16 : decode cX13_drawnOn 16 = .ok (.invokevirtual 90, 3) := dk_182 0 90 (dk_at dksX13_drawnOn_0 16 rfl rfl)
theorem dX13_drawnOn_19 : decode cX13_drawnOn 19 = .ok (.aload_n 0, 1) := dk_42 (dk_at dksX13_drawnOn_0 19 rfl rfl)
theorem dX13_drawnOn_20 : decode cX13_drawnOn 20 = .ok (.iload_n 1, 1) := dk_27 (dk_at dksX13_drawnOn_0 20 rfl rfl)
theorem dX13_drawnOn_21 : decode cX13_drawnOn 21 = .ok (.iconst 3, 1) := dk_6 (dk_at dksX13_drawnOn_0 21 rfl rfl)
theorem dX13_drawnOn_22 : decode cX13_drawnOn 22 = .ok (.iconst 0, 1) := dk_3 (dk_at dksX13_drawnOn_0 22 rfl rfl)
theorem dX13_drawnOn_23 : decode cX13_drawnOn 23 = .ok (.invokevirtual 90, 3) := dk_182 0 90 (dk_at dksX13_drawnOn_1 0 rfl rfl)
theorem dX13_drawnOn_26 : decode cX13_drawnOn 26 = .ok (.aload_n 0, 1) := dk_42 (dk_at dksX13_drawnOn_1 3 rfl rfl)
theorem dX13_drawnOn_27 : decode cX13_drawnOn 27 = .ok (.iload_n 1, 1) := dk_27 (dk_at dksX13_drawnOn_1 4 rfl rfl)
theorem dX13_drawnOn_28 : decode cX13_drawnOn 28 = .ok (.iconst 4, 1) := dk_7 (dk_at dksX13_drawnOn_1 5 rfl rfl)
theorem dX13_drawnOn_29 : decode cX13_drawnOn 29 = .ok (.iconst 0, 1) := dk_3 (dk_at dksX13_drawnOn_1 6 rfl rfl)
theorem dX13_drawnOn_30 : decode cX13_drawnOn 30 = .ok (.invokevirtual 90, 3) := dk_182 0 90 (dk_at dksX13_drawnOn_1 7 rfl rfl)
theorem dX13_drawnOn_33 : decode cX13_drawnOn 33 = .ok (.aload_n 0, 1) := dk_42 (dk_at dksX13_drawnOn_1 10 rfl rfl)
theorem dX13_drawnOn_34 : decode cX13_drawnOn 34 = .ok (.iload_n 1, 1) := dk_27 (dk_at dksX13_drawnOn_1 11 rfl rfl)
theorem dX13_drawnOn_35 : decode cX13_drawnOn 35 = .ok (.bipush 6, 2) := dk_16 6 (dk_at dksX13_drawnOn_1 12 rfl rfl)
theorem dX13_drawnOn_37 : decode cX13_drawnOn 37 = .ok (.aload_n 0, 1) := dk_42 (dk_at dksX13_drawnOn_1 14 rfl rfl)
theorem dX13_drawnOn_38 : decode cX13_drawnOn 38 = .ok (.iload_n 1, 1) := dk_27 (dk_at dksX13_drawnOn_1 15 rfl rfl)
theorem dX13_drawnOn_39 : decode cX13_drawnOn 39 = .ok (.bipush 6, 2) := dk_16 6 (dk_at dksX13_drawnOn_1 16 rfl rfl)
theorem dX13_drawnOn_41 : decode cX13_drawnOn 41 = .ok (.invokevirtual 58, 3) := dk_182 0 58 (dk_at dksX13_drawnOn_1 18 rfl rfl)
theorem dX13_drawnOn_44 : decode cX13_drawnOn 44 = .ok (.iconst 1, 1) := dk_4 (dk_at dksX13_drawnOn_1 21 rfl rfl)
theorem dX13_drawnOn_45 : decode cX13_drawnOn 45 = .ok (.iadd, 1) := dk_96 (dk_at dksX13_drawnOn_1 22 rfl rfl)
theorem dX13_drawnOn_46 : decode cX13_drawnOn 46 = .ok (.iconst 0, 1) := dk_3 (dk_at dksX13_drawnOn_1 23 rfl rfl)
theorem dX13_drawnOn_47 : decode cX13_drawnOn 47 = .ok (.sipush 9999, 3) := dk_17 39 15 (dk_at dksX13_drawnOn_2 0 rfl rfl)
theorem dX13_drawnOn_50 : decode cX13_drawnOn 50 = .ok (.invokestatic 66, 3) := dk_184 0 66 (dk_at dksX13_drawnOn_2 3 rfl rfl)
theorem dX13_drawnOn_53 : decode cX13_drawnOn 53 = .ok (.invokevirtual 90, 3) := dk_182 0 90 (dk_at dksX13_drawnOn_2 6 rfl rfl)
theorem dX13_drawnOn_56 : decode cX13_drawnOn 56 = .ok (.aload_n 0, 1) := dk_42 (dk_at dksX13_drawnOn_2 9 rfl rfl)
theorem dX13_drawnOn_57 : decode cX13_drawnOn 57 = .ok (.iload_n 1, 1) := dk_27 (dk_at dksX13_drawnOn_2 10 rfl rfl)
theorem dX13_drawnOn_58 : decode cX13_drawnOn 58 = .ok (.iconst 1, 1) := dk_4 (dk_at dksX13_drawnOn_2 11 rfl rfl)
theorem dX13_drawnOn_59 : decode cX13_drawnOn 59 = .ok (.aload_n 0, 1) := dk_42 (dk_at dksX13_drawnOn_2 12 rfl rfl)
theorem dX13_drawnOn_60 : decode cX13_drawnOn 60 = .ok (.iload_n 1, 1) := dk_27 (dk_at dksX13_drawnOn_2 13 rfl rfl)
theorem dX13_drawnOn_61 : decode cX13_drawnOn 61 = .ok (.iconst 1, 1) := dk_4 (dk_at dksX13_drawnOn_2 14 rfl rfl)
theorem dX13_drawnOn_62 : decode cX13_drawnOn 62 = .ok (.invokevirtual 58, 3) := dk_182 0 58 (dk_at dksX13_drawnOn_2 15 rfl rfl)
theorem dX13_drawnOn_65 : decode cX13_drawnOn 65 = .ok (.iconst 1, 1) := dk_4 (dk_at dksX13_drawnOn_2 18 rfl rfl)
theorem dX13_drawnOn_66 : decode cX13_drawnOn 66 = .ok (.iadd, 1) := dk_96 (dk_at dksX13_drawnOn_2 19 rfl rfl)
theorem dX13_drawnOn_67 : decode cX13_drawnOn 67 = .ok (.bipush 6, 2) := dk_16 6 (dk_at dksX13_drawnOn_2 20 rfl rfl)
theorem dX13_drawnOn_69 : decode cX13_drawnOn 69 = .ok (.irem, 1) := dk_112 (dk_at dksX13_drawnOn_2 22 rfl rfl)
theorem dX13_drawnOn_70 : decode cX13_drawnOn 70 = .ok (.invokevirtual 90, 3) := dk_182 0 90 (dk_at dksX13_drawnOn_3 0 rfl rfl)
theorem dX13_drawnOn_73 : decode cX13_drawnOn 73 = .ok (.return_, 1) := dk_177 (dk_at dksX13_drawnOn_3 3 rfl rfl)
abbrev cX13_who : ByteArray := prog_16_method_42_code
def yX13_who : MethodName := ⟨RX13, "who", "(II)I"⟩
def dkwX13_who_2 : List UInt8 := [167, 0, 4, 8, 182, 0, 58, 27, 122, 4, 126, 21, 4, 120, 128, 62, 132, 4, 1, 167, 255, 217, 29, 172]
abbrev dktX13_who_2 : List UInt8 := dkwX13_who_2 ++ []
def dkwX13_who_1 : List UInt8 := [62, 3, 54, 4, 21, 4, 42, 180, 0, 7, 3, 46, 162, 0, 34, 29, 42, 21, 4, 28, 154, 0, 7, 6]
abbrev dktX13_who_1 : List UInt8 := dkwX13_who_1 ++ dktX13_who_2
def dkwX13_who_0 : List UInt8 := [27, 184, 0, 147, 153, 0, 13, 28, 133, 9, 10, 184, 0, 42, 154, 0, 9, 42, 3, 182, 0, 128, 172, 3]
abbrev dktX13_who_0 : List UInt8 := dkwX13_who_0 ++ dktX13_who_1
theorem dksX13_who_0 : cX13_who.data.toList.drop 0 = dktX13_who_0 := by decide +kernel
theorem dksX13_who_1 : cX13_who.data.toList.drop 24 = dktX13_who_1 := dk_seg dksX13_who_0 24 rfl rfl
theorem dksX13_who_2 : cX13_who.data.toList.drop 48 = dktX13_who_2 := dk_seg dksX13_who_1 24 rfl rfl
theorem dX13_who_0 : decode cX13_who 0 = .ok (.iload_n 1, 1) := dk_27 (dk_at dksX13_who_0 0 rfl rfl)
theorem dX13_who_1 : decode cX13_who 1 = .ok (.invokestatic 147, 3) := dk_184 0 147 (dk_at dksX13_who_0 1 rfl rfl)
theorem dX13_who_4 : decode cX13_who 4 = .ok (.ifCond .eq 13, 3) := dk_153 0 13 (dk_at dksX13_who_0 4 rfl rfl)
theorem dX13_who_7 : decode cX13_who 7 = .ok (.iload_n 2, 1) := dk_28 (dk_at dksX13_who_0 7 rfl rfl)
theorem dX13_who_8 : decode cX13_who 8 = .ok (.i2l, 1) := dk_133 (dk_at dksX13_who_0 8 rfl rfl)
theorem dX13_who_9 : decode cX13_who 9 = .ok (.lconst 0, 1) := dk_9 (dk_at dksX13_who_0 9 rfl rfl)
theorem dX13_who_10 : decode cX13_who 10 = .ok (.lconst 1, 1) := dk_10 (dk_at dksX13_who_0 10 rfl rfl)
theorem dX13_who_11 : decode cX13_who 11 = .ok (.invokestatic 42, 3) := dk_184 0 42 (dk_at dksX13_who_0 11 rfl rfl)
theorem dX13_who_14 : decode cX13_who 14 = .ok (.ifCond .ne 9, 3) := dk_154 0 9 (dk_at dksX13_who_0 14 rfl rfl)
theorem dX13_who_17 : decode cX13_who 17 = .ok (.aload_n 0, 1) := dk_42 (dk_at dksX13_who_0 17 rfl rfl)
theorem dX13_who_18 : decode cX13_who 18 = .ok (.iconst 0, 1) := dk_3 (dk_at dksX13_who_0 18 rfl rfl)
theorem dX13_who_19 : decode cX13_who 19 = .ok (.invokevirtual 128, 3) := dk_182 0 128 (dk_at dksX13_who_0 19 rfl rfl)
theorem dX13_who_22 : decode cX13_who 22 = .ok (.ireturn, 1) := dk_172 (dk_at dksX13_who_0 22 rfl rfl)
theorem dX13_who_23 : decode cX13_who 23 = .ok (.iconst 0, 1) := dk_3 (dk_at dksX13_who_0 23 rfl rfl)
theorem dX13_who_24 : decode cX13_who 24 = .ok (.istore_n 3, 1) := dk_62 (dk_at dksX13_who_1 0 rfl rfl)
theorem dX13_who_25 : decode cX13_who 25 = .ok (.iconst 0, 1) := dk_3 (dk_at dksX13_who_1 1 rfl rfl)
theorem dX13_who_26 : decode cX13_who 26 = .ok (.istore 4, 2) := dk_54 4 (dk_at dksX13_who_1 2 rfl rfl)
theorem dX13_who_28 : decode cX13_who 28 = .ok (.iload 4, 2) := dk_21 4 (dk_at dksX13_who_1 4 rfl rfl)
theorem dX13_who_30 : decode cX13_who 30 = .ok (.aload_n 0, 1) := dk_42 (dk_at dksX13_who_1 6 rfl rfl)
theorem dX13_who_31 : decode cX13_who 31 = .ok (.getfield 7, 3) := dk_180 0 7 (dk_at dksX13_who_1 7 rfl rfl)
theorem dX13_who_34 : decode cX13_who 34 = .ok (.iconst 0, 1) := dk_3 (dk_at dksX13_who_1 10 rfl rfl)
theorem dX13_who_35 : decode cX13_who 35 = .ok (.iaload, 1) := dk_46 (dk_at dksX13_who_1 11 rfl rfl)
theorem dX13_who_36 : decode cX13_who 36 = .ok (.if_icmp .ge 34, 3) := dk_162 0 34 (dk_at dksX13_who_1 12 rfl rfl)
theorem dX13_who_39 : decode cX13_who 39 = .ok (.iload_n 3, 1) := dk_29 (dk_at dksX13_who_1 15 rfl rfl)
theorem dX13_who_40 : decode cX13_who 40 = .ok (.aload_n 0, 1) := dk_42 (dk_at dksX13_who_1 16 rfl rfl)
theorem dX13_who_41 : decode cX13_who 41 = .ok (.iload 4, 2) := dk_21 4 (dk_at dksX13_who_1 17 rfl rfl)
theorem dX13_who_43 : decode cX13_who 43 = .ok (.iload_n 2, 1) := dk_28 (dk_at dksX13_who_1 19 rfl rfl)
theorem dX13_who_44 : decode cX13_who 44 = .ok (.ifCond .ne 7, 3) := dk_154 0 7 (dk_at dksX13_who_1 20 rfl rfl)
theorem dX13_who_47 : decode cX13_who 47 = .ok (.iconst 3, 1) := dk_6 (dk_at dksX13_who_1 23 rfl rfl)
theorem dX13_who_48 : decode cX13_who 48 = .ok (.goto 4, 3) := dk_167 0 4 (dk_at dksX13_who_2 0 rfl rfl)
theorem dX13_who_51 : decode cX13_who 51 = .ok (.iconst 5, 1) := dk_8 (dk_at dksX13_who_2 3 rfl rfl)
theorem dX13_who_52 : decode cX13_who 52 = .ok (.invokevirtual 58, 3) := dk_182 0 58 (dk_at dksX13_who_2 4 rfl rfl)
theorem dX13_who_55 : decode cX13_who 55 = .ok (.iload_n 1, 1) := dk_27 (dk_at dksX13_who_2 7 rfl rfl)
theorem dX13_who_56 : decode cX13_who 56 = .ok (.ishr, 1) := dk_122 (dk_at dksX13_who_2 8 rfl rfl)
theorem dX13_who_57 : decode cX13_who 57 = .ok (.iconst 1, 1) := dk_4 (dk_at dksX13_who_2 9 rfl rfl)
theorem dX13_who_58 : decode cX13_who 58 = .ok (.iand, 1) := dk_126 (dk_at dksX13_who_2 10 rfl rfl)
theorem dX13_who_59 : decode cX13_who 59 = .ok (.iload 4, 2) := dk_21 4 (dk_at dksX13_who_2 11 rfl rfl)
theorem dX13_who_61 : decode cX13_who 61 = .ok (.ishl, 1) := dk_120 (dk_at dksX13_who_2 13 rfl rfl)
theorem dX13_who_62 : decode cX13_who 62 = .ok (.ior, 1) := dk_128 (dk_at dksX13_who_2 14 rfl rfl)
theorem dX13_who_63 : decode cX13_who 63 = .ok (.istore_n 3, 1) := dk_62 (dk_at dksX13_who_2 15 rfl rfl)
theorem dX13_who_64 : decode cX13_who 64 = .ok (.iinc 4 1, 3) := dk_132 4 1 (dk_at dksX13_who_2 16 rfl rfl)
theorem dX13_who_67 : decode cX13_who 67 = .ok (.goto (-39), 3) := dk_167 255 217 (dk_at dksX13_who_2 19 rfl rfl)
theorem dX13_who_70 : decode cX13_who 70 = .ok (.iload_n 3, 1) := dk_29 (dk_at dksX13_who_2 22 rfl rfl)
theorem dX13_who_71 : decode cX13_who 71 = .ok (.ireturn, 1) := dk_172 (dk_at dksX13_who_2 23 rfl rfl)
abbrev cX13_isTopic : ByteArray := prog_16_method_8_code
def yX13_isTopic : MethodName := ⟨RX13, "isTopic", "(I)Z"⟩
def dkwX13_isTopic_0 : List UInt8 := [26, 133, 9, 20, 0, 46, 184, 0, 42, 172]
abbrev dktX13_isTopic_0 : List UInt8 := dkwX13_isTopic_0 ++ []
theorem dksX13_isTopic_0 : cX13_isTopic.data.toList.drop 0 = dktX13_isTopic_0 := by decide +kernel
theorem dX13_isTopic_0 : decode cX13_isTopic 0 = .ok (.iload_n 0, 1) := dk_26 (dk_at dksX13_isTopic_0 0 rfl rfl)
theorem dX13_isTopic_1 : decode cX13_isTopic 1 = .ok (.i2l, 1) := dk_133 (dk_at dksX13_isTopic_0 1 rfl rfl)
theorem dX13_isTopic_2 : decode cX13_isTopic 2 = .ok (.lconst 0, 1) := dk_9 (dk_at dksX13_isTopic_0 2 rfl rfl)
theorem dX13_isTopic_3 : decode cX13_isTopic 3 = .ok (.ldc2_w 46, 3) := dk_20 0 46 (dk_at dksX13_isTopic_0 3 rfl rfl)
theorem dX13_isTopic_6 : decode cX13_isTopic 6 = .ok (.invokestatic 42, 3) := dk_184 0 42 (dk_at dksX13_isTopic_0 6 rfl rfl)
theorem dX13_isTopic_9 : decode cX13_isTopic 9 = .ok (.ireturn, 1) := dk_172 (dk_at dksX13_isTopic_0 9 rfl rfl)
abbrev cX13_go : ByteArray := prog_16_method_43_code
def yX13_go : MethodName := ⟨RX13, "go", "(I)I"⟩
def dkwX13_go_1 : List UInt8 := [27, 96, 18, 112, 164, 0, 9, 42, 7, 182, 0, 128, 172, 42, 27, 182, 0, 152, 42, 182, 0, 155, 172]
abbrev dktX13_go_1 : List UInt8 := dkwX13_go_1 ++ []
def dkwX13_go_0 : List UInt8 := [27, 133, 10, 20, 0, 150, 184, 0, 42, 154, 0, 9, 42, 3, 182, 0, 128, 172, 42, 180, 0, 7, 4, 46]
abbrev dktX13_go_0 : List UInt8 := dkwX13_go_0 ++ dktX13_go_1
theorem dksX13_go_0 : cX13_go.data.toList.drop 0 = dktX13_go_0 := by decide +kernel
theorem dksX13_go_1 : cX13_go.data.toList.drop 24 = dktX13_go_1 := dk_seg dksX13_go_0 24 rfl rfl
theorem dX13_go_0 : decode cX13_go 0 = .ok (.iload_n 1, 1) := dk_27 (dk_at dksX13_go_0 0 rfl rfl)
theorem dX13_go_1 : decode cX13_go 1 = .ok (.i2l, 1) := dk_133 (dk_at dksX13_go_0 1 rfl rfl)
theorem dX13_go_2 : decode cX13_go 2 = .ok (.lconst 1, 1) := dk_10 (dk_at dksX13_go_0 2 rfl rfl)
theorem dX13_go_3 : decode cX13_go 3 = .ok (.ldc2_w 150, 3) := dk_20 0 150 (dk_at dksX13_go_0 3 rfl rfl)
theorem dX13_go_6 : decode cX13_go 6 = .ok (.invokestatic 42, 3) := dk_184 0 42 (dk_at dksX13_go_0 6 rfl rfl)
theorem dX13_go_9 : decode cX13_go 9 = .ok (.ifCond .ne 9, 3) := dk_154 0 9 (dk_at dksX13_go_0 9 rfl rfl)
theorem dX13_go_12 : decode cX13_go 12 = .ok (.aload_n 0, 1) := dk_42 (dk_at dksX13_go_0 12 rfl rfl)
theorem dX13_go_13 : decode cX13_go 13 = .ok (.iconst 0, 1) := dk_3 (dk_at dksX13_go_0 13 rfl rfl)
theorem dX13_go_14 : decode cX13_go 14 = .ok (.invokevirtual 128, 3) := dk_182 0 128 (dk_at dksX13_go_0 14 rfl rfl)
theorem dX13_go_17 : decode cX13_go 17 = .ok (.ireturn, 1) := dk_172 (dk_at dksX13_go_0 17 rfl rfl)
theorem dX13_go_18 : decode cX13_go 18 = .ok (.aload_n 0, 1) := dk_42 (dk_at dksX13_go_0 18 rfl rfl)
theorem dX13_go_19 : decode cX13_go 19 = .ok (.getfield 7, 3) := dk_180 0 7 (dk_at dksX13_go_0 19 rfl rfl)
theorem dX13_go_22 : decode cX13_go 22 = .ok (.iconst 1, 1) := dk_4 (dk_at dksX13_go_0 22 rfl rfl)
theorem dX13_go_23 : decode cX13_go 23 = .ok (.iaload, 1) := dk_46 (dk_at dksX13_go_0 23 rfl rfl)
theorem dX13_go_24 : decode cX13_go 24 = .ok (.iload_n 1, 1) := dk_27 (dk_at dksX13_go_1 0 rfl rfl)
theorem dX13_go_25 : decode cX13_go 25 = .ok (.iadd, 1) := dk_96 (dk_at dksX13_go_1 1 rfl rfl)
theorem dX13_go_26 : decode cX13_go 26 = .ok (.ldc 112, 2) := dk_18 112 (dk_at dksX13_go_1 2 rfl rfl)
theorem dX13_go_28 : decode cX13_go 28 = .ok (.if_icmp .le 9, 3) := dk_164 0 9 (dk_at dksX13_go_1 4 rfl rfl)
theorem dX13_go_31 : decode cX13_go 31 = .ok (.aload_n 0, 1) := dk_42 (dk_at dksX13_go_1 7 rfl rfl)
theorem dX13_go_32 : decode cX13_go 32 = .ok (.iconst 4, 1) := dk_7 (dk_at dksX13_go_1 8 rfl rfl)
theorem dX13_go_33 : decode cX13_go 33 = .ok (.invokevirtual 128, 3) := dk_182 0 128 (dk_at dksX13_go_1 9 rfl rfl)
theorem dX13_go_36 : decode cX13_go 36 = .ok (.ireturn, 1) := dk_172 (dk_at dksX13_go_1 12 rfl rfl)
theorem dX13_go_37 : decode cX13_go 37 = .ok (.aload_n 0, 1) := dk_42 (dk_at dksX13_go_1 13 rfl rfl)
theorem dX13_go_38 : decode cX13_go 38 = .ok (.iload_n 1, 1) := dk_27 (dk_at dksX13_go_1 14 rfl rfl)
theorem dX13_go_39 : decode cX13_go 39 = .ok (.invokevirtual 152, 3) := dk_182 0 152 (dk_at dksX13_go_1 15 rfl rfl)
theorem dX13_go_42 : decode cX13_go 42 = .ok (.aload_n 0, 1) := dk_42 (dk_at dksX13_go_1 18 rfl rfl)
theorem dX13_go_43 : decode cX13_go 43 = .ok (.invokevirtual 155, 3) := dk_182 0 155 (dk_at dksX13_go_1 19 rfl rfl)
theorem dX13_go_46 : decode cX13_go 46 = .ok (.ireturn, 1) := dk_172 (dk_at dksX13_go_1 22 rfl rfl)
abbrev cX13_daysGo : ByteArray := prog_16_method_28_code
def yX13_daysGo : MethodName := ⟨RX13, "daysGo", "(I)V"⟩
def dkwX13_daysGo_0 : List UInt8 := [3, 61, 28, 27, 162, 0, 13, 42, 182, 0, 113, 132, 2, 1, 167, 255, 244, 177]
abbrev dktX13_daysGo_0 : List UInt8 := dkwX13_daysGo_0 ++ []
theorem dksX13_daysGo_0 : cX13_daysGo.data.toList.drop 0 = dktX13_daysGo_0 := by decide +kernel
theorem dX13_daysGo_0 : decode cX13_daysGo 0 = .ok (.iconst 0, 1) := dk_3 (dk_at dksX13_daysGo_0 0 rfl rfl)
theorem dX13_daysGo_1 : decode cX13_daysGo 1 = .ok (.istore_n 2, 1) := dk_61 (dk_at dksX13_daysGo_0 1 rfl rfl)
theorem dX13_daysGo_2 : decode cX13_daysGo 2 = .ok (.iload_n 2, 1) := dk_28 (dk_at dksX13_daysGo_0 2 rfl rfl)
theorem dX13_daysGo_3 : decode cX13_daysGo 3 = .ok (.iload_n 1, 1) := dk_27 (dk_at dksX13_daysGo_0 3 rfl rfl)
theorem dX13_daysGo_4 : decode cX13_daysGo 4 = .ok (.if_icmp .ge 13, 3) := dk_162 0 13 (dk_at dksX13_daysGo_0 4 rfl rfl)
theorem dX13_daysGo_7 : decode cX13_daysGo 7 = .ok (.aload_n 0, 1) := dk_42 (dk_at dksX13_daysGo_0 7 rfl rfl)
theorem dX13_daysGo_8 : decode cX13_daysGo 8 = .ok (.invokevirtual 113, 3) := dk_182 0 113 (dk_at dksX13_daysGo_0 8 rfl rfl)
theorem dX13_daysGo_11 : decode cX13_daysGo 11 = .ok (.iinc 2 1, 3) := dk_132 2 1 (dk_at dksX13_daysGo_0 11 rfl rfl)
theorem dX13_daysGo_14 : decode cX13_daysGo 14 = .ok (.goto (-12), 3) := dk_167 255 244 (dk_at dksX13_daysGo_0 14 rfl rfl)
theorem dX13_daysGo_17 : decode cX13_daysGo 17 = .ok (.return_, 1) := dk_177 (dk_at dksX13_daysGo_0 17 rfl rfl)
abbrev cX13_dayGoes : ByteArray := prog_16_method_27_code
def yX13_dayGoes : MethodName := ⟨RX13, "dayGoes", "()V"⟩
def dkwX13_dayGoes_6 : List UInt8 := [18, 112, 184, 0, 66, 79, 177]
abbrev dktX13_dayGoes_6 : List UInt8 := dkwX13_dayGoes_6 ++ []
def dkwX13_dayGoes_5 : List UInt8 := [182, 0, 108, 132, 2, 1, 167, 255, 184, 42, 180, 0, 7, 4, 42, 180, 0, 7, 4, 46, 4, 96, 3]
abbrev dktX13_dayGoes_5 : List UInt8 := dkwX13_dayGoes_5 ++ dktX13_dayGoes_6
def dkwX13_dayGoes_4 : List UInt8 := [42, 28, 182, 0, 105, 158, 0, 22, 42, 28, 7, 182, 0, 58, 42, 28, 182, 0, 105, 161, 0, 8, 42, 28]
abbrev dktX13_dayGoes_4 : List UInt8 := dkwX13_dayGoes_4 ++ dktX13_dayGoes_5
def dkwX13_dayGoes_3 : List UInt8 := [154, 0, 51, 42, 28, 7, 42, 28, 7, 182, 0, 58, 4, 96, 3, 17, 39, 15, 184, 0, 66, 182, 0, 90]
abbrev dktX13_dayGoes_3 : List UInt8 := dkwX13_dayGoes_3 ++ dktX13_dayGoes_4
def dkwX13_dayGoes_2 : List UInt8 := [167, 255, 219, 3, 61, 28, 42, 180, 0, 7, 3, 46, 162, 0, 68, 42, 180, 0, 54, 28, 122, 4, 126]
abbrev dktX13_dayGoes_2 : List UInt8 := dkwX13_dayGoes_2 ++ dktX13_dayGoes_3
def dkwX13_dayGoes_1 : List UInt8 := [4, 126, 4, 160, 0, 18, 42, 28, 42, 182, 0, 94, 16, 10, 108, 16, 100, 112, 182, 0, 101, 132, 2, 1]
abbrev dktX13_dayGoes_1 : List UInt8 := dkwX13_dayGoes_1 ++ dktX13_dayGoes_2
def dkwX13_dayGoes_0 : List UInt8 := [42, 42, 182, 0, 94, 182, 0, 98, 60, 3, 61, 28, 42, 180, 0, 7, 3, 46, 162, 0, 33, 27, 28, 122]
abbrev dktX13_dayGoes_0 : List UInt8 := dkwX13_dayGoes_0 ++ dktX13_dayGoes_1
theorem dksX13_dayGoes_0 : cX13_dayGoes.data.toList.drop 0 = dktX13_dayGoes_0 := by decide +kernel
theorem dksX13_dayGoes_1 : cX13_dayGoes.data.toList.drop 24 = dktX13_dayGoes_1 := dk_seg dksX13_dayGoes_0 24 rfl rfl
theorem dksX13_dayGoes_2 : cX13_dayGoes.data.toList.drop 48 = dktX13_dayGoes_2 := dk_seg dksX13_dayGoes_1 24 rfl rfl
theorem dksX13_dayGoes_3 : cX13_dayGoes.data.toList.drop 71 = dktX13_dayGoes_3 := dk_seg dksX13_dayGoes_2 23 rfl rfl
theorem dksX13_dayGoes_4 : cX13_dayGoes.data.toList.drop 95 = dktX13_dayGoes_4 := dk_seg dksX13_dayGoes_3 24 rfl rfl
theorem dksX13_dayGoes_5 : cX13_dayGoes.data.toList.drop 119 = dktX13_dayGoes_5 := dk_seg dksX13_dayGoes_4 24 rfl rfl
theorem dksX13_dayGoes_6 : cX13_dayGoes.data.toList.drop 142 = dktX13_dayGoes_6 := dk_seg dksX13_dayGoes_5 23 rfl rfl
theorem dX13_dayGoes_0 : decode cX13_dayGoes 0 = .ok (.aload_n 0, 1) := dk_42 (dk_at dksX13_dayGoes_0 0 rfl rfl)
theorem dX13_dayGoes_1 : decode cX13_dayGoes 1 = .ok (.aload_n 0, 1) := dk_42 (dk_at dksX13_dayGoes_0 1 rfl rfl)
theorem dX13_dayGoes_2 : decode cX13_dayGoes 2 = .ok (.invokevirtual 94, 3) := dk_182 0 94 (dk_at dksX13_dayGoes_0 2 rfl rfl)
theorem dX13_dayGoes_5 : decode cX13_dayGoes 5 = .ok (.invokevirtual 98, 3) := dk_182 0 98 (dk_at dksX13_dayGoes_0 5 rfl rfl)
theorem dX13_dayGoes_8 : decode cX13_dayGoes 8 = .ok (.istore_n 1, 1) := dk_60 (dk_at dksX13_dayGoes_0 8 rfl rfl)
theorem dX13_dayGoes_9 : decode cX13_dayGoes 9 = .ok (.iconst 0, 1) := dk_3 (dk_at dksX13_dayGoes_0 9 rfl rfl)
theorem dX13_dayGoes_10 : decode cX13_dayGoes 10 = .ok (.istore_n 2, 1) := dk_61 (dk_at dksX13_dayGoes_0 10 rfl rfl)
theorem dX13_dayGoes_11 : decode cX13_dayGoes 11 = .ok (.iload_n 2, 1) := dk_28 (dk_at dksX13_dayGoes_0 11 rfl rfl)
theorem dX13_dayGoes_12 : decode cX13_dayGoes 12 = .ok (.aload_n 0, 1) := dk_42 (dk_at dksX13_dayGoes_0 12 rfl rfl)
theorem dX13_dayGoes_13 : decode cX13_dayGoes 13 = .ok (.getfield 7, 3) := dk_180 0 7 (dk_at dksX13_dayGoes_0 13 rfl rfl)
theorem dX13_dayGoes_16 : decode cX13_dayGoes 16 = .ok (.iconst 0, 1) := dk_3 (dk_at dksX13_dayGoes_0 16 rfl rfl)
theorem dX13_dayGoes_17 : decode cX13_dayGoes 17 = .ok (.iaload, 1) := dk_46 (dk_at dksX13_dayGoes_0 17 rfl rfl)
theorem dX13_dayGoes_18 : decode cX13_dayGoes 18 = .ok (.if_icmp .ge 33, 3) := dk_162 0 33 (dk_at dksX13_dayGoes_0 18 rfl rfl)
theorem dX13_dayGoes_21 : decode cX13_dayGoes 21 = .ok (.iload_n 1, 1) := dk_27 (dk_at dksX13_dayGoes_0 21 rfl rfl)
theorem dX13_dayGoes_22 : decode cX13_dayGoes 22 = .ok (.iload_n 2, 1) := dk_28 (dk_at dksX13_dayGoes_0 22 rfl rfl)
theorem dX13_dayGoes_23 : decode cX13_dayGoes 23 = .ok (.ishr, 1) := dk_122 (dk_at dksX13_dayGoes_0 23 rfl rfl)
theorem dX13_dayGoes_24 : decode cX13_dayGoes 24 = .ok (.iconst 1, 1) := dk_4 (dk_at dksX13_dayGoes_1 0 rfl rfl)
theorem dX13_dayGoes_25 : decode cX13_dayGoes 25 = .ok (.iand, 1) := dk_126 (dk_at dksX13_dayGoes_1 1 rfl rfl)
theorem dX13_dayGoes_26 : decode cX13_dayGoes 26 = .ok (.iconst 1, 1) := dk_4 (dk_at dksX13_dayGoes_1 2 rfl rfl)
theorem dX13_dayGoes_27 : decode cX13_dayGoes 27 = .ok (.if_icmp .ne 18, 3) := dk_160 0 18 (dk_at dksX13_dayGoes_1 3 rfl rfl)
theorem dX13_dayGoes_30 : decode cX13_dayGoes 30 = .ok (.aload_n 0, 1) := dk_42 (dk_at dksX13_dayGoes_1 6 rfl rfl)
theorem dX13_dayGoes_31 : decode cX13_dayGoes 31 = .ok (.iload_n 2, 1) := dk_28 (dk_at dksX13_dayGoes_1 7 rfl rfl)
theorem dX13_dayGoes_32 : decode cX13_dayGoes 32 = .ok (.aload_n 0, 1) := dk_42 (dk_at dksX13_dayGoes_1 8 rfl rfl)
theorem dX13_dayGoes_33 : decode cX13_dayGoes 33 = .ok (.invokevirtual 94, 3) := dk_182 0 94 (dk_at dksX13_dayGoes_1 9 rfl rfl)
theorem dX13_dayGoes_36 : decode cX13_dayGoes 36 = .ok (.bipush 10, 2) := dk_16 10 (dk_at dksX13_dayGoes_1 12 rfl rfl)
theorem dX13_dayGoes_38 : decode cX13_dayGoes 38 = .ok (.idiv, 1) := dk_108 (dk_at dksX13_dayGoes_1 14 rfl rfl)
theorem dX13_dayGoes_39 : decode cX13_dayGoes 39 = .ok (.bipush 100, 2) := dk_16 100 (dk_at dksX13_dayGoes_1 15 rfl rfl)
theorem dX13_dayGoes_41 : decode cX13_dayGoes 41 = .ok (.irem, 1) := dk_112 (dk_at dksX13_dayGoes_1 17 rfl rfl)
theorem dX13_dayGoes_42 : decode cX13_dayGoes 42 = .ok (.invokevirtual 101, 3) := dk_182 0 101 (dk_at dksX13_dayGoes_1 18 rfl rfl)
theorem dX13_dayGoes_45 : decode cX13_dayGoes 45 = .ok (.iinc 2 1, 3) := dk_132 2 1 (dk_at dksX13_dayGoes_1 21 rfl rfl)
theorem dX13_dayGoes_48 : decode cX13_dayGoes 48 = .ok (.goto (-37), 3) := dk_167 255 219 (dk_at dksX13_dayGoes_2 0 rfl rfl)
theorem dX13_dayGoes_51 : decode cX13_dayGoes 51 = .ok (.iconst 0, 1) := dk_3 (dk_at dksX13_dayGoes_2 3 rfl rfl)
theorem dX13_dayGoes_52 : decode cX13_dayGoes 52 = .ok (.istore_n 2, 1) := dk_61 (dk_at dksX13_dayGoes_2 4 rfl rfl)
theorem dX13_dayGoes_53 : decode cX13_dayGoes 53 = .ok (.iload_n 2, 1) := dk_28 (dk_at dksX13_dayGoes_2 5 rfl rfl)
theorem dX13_dayGoes_54 : decode cX13_dayGoes 54 = .ok (.aload_n 0, 1) := dk_42 (dk_at dksX13_dayGoes_2 6 rfl rfl)
theorem dX13_dayGoes_55 : decode cX13_dayGoes 55 = .ok (.getfield 7, 3) := dk_180 0 7 (dk_at dksX13_dayGoes_2 7 rfl rfl)
theorem dX13_dayGoes_58 : decode cX13_dayGoes 58 = .ok (.iconst 0, 1) := dk_3 (dk_at dksX13_dayGoes_2 10 rfl rfl)
theorem dX13_dayGoes_59 : decode cX13_dayGoes 59 = .ok (.iaload, 1) := dk_46 (dk_at dksX13_dayGoes_2 11 rfl rfl)
theorem dX13_dayGoes_60 : decode cX13_dayGoes 60 = .ok (.if_icmp .ge 68, 3) := dk_162 0 68 (dk_at dksX13_dayGoes_2 12 rfl rfl)
theorem dX13_dayGoes_63 : decode cX13_dayGoes 63 = .ok (.aload_n 0, 1) := dk_42 (dk_at dksX13_dayGoes_2 15 rfl rfl)
theorem dX13_dayGoes_64 : decode cX13_dayGoes 64 = .ok (.getfield 54, 3) := dk_180 0 54 (dk_at dksX13_dayGoes_2 16 rfl rfl)
theorem dX13_dayGoes_67 : decode cX13_dayGoes 67 = .ok (.iload_n 2, 1) := dk_28 (dk_at dksX13_dayGoes_2 19 rfl rfl)
theorem dX13_dayGoes_68 : decode cX13_dayGoes 68 = .ok (.ishr, 1) := dk_122 (dk_at dksX13_dayGoes_2 20 rfl rfl)
theorem dX13_dayGoes_69 : decode cX13_dayGoes 69 = .ok (.iconst 1, 1) := dk_4 (dk_at dksX13_dayGoes_2 21 rfl rfl)
theorem dX13_dayGoes_70 : decode cX13_dayGoes 70 = .ok (.iand, 1) := dk_126 (dk_at dksX13_dayGoes_2 22 rfl rfl)
theorem dX13_dayGoes_71 : decode cX13_dayGoes 71 = .ok (.ifCond .ne 51, 3) := dk_154 0 51 (dk_at dksX13_dayGoes_3 0 rfl rfl)
theorem dX13_dayGoes_74 : decode cX13_dayGoes 74 = .ok (.aload_n 0, 1) := dk_42 (dk_at dksX13_dayGoes_3 3 rfl rfl)
theorem dX13_dayGoes_75 : decode cX13_dayGoes 75 = .ok (.iload_n 2, 1) := dk_28 (dk_at dksX13_dayGoes_3 4 rfl rfl)
theorem dX13_dayGoes_76 : decode cX13_dayGoes 76 = .ok (.iconst 4, 1) := dk_7 (dk_at dksX13_dayGoes_3 5 rfl rfl)
theorem dX13_dayGoes_77 : decode cX13_dayGoes 77 = .ok (.aload_n 0, 1) := dk_42 (dk_at dksX13_dayGoes_3 6 rfl rfl)
theorem dX13_dayGoes_78 : decode cX13_dayGoes 78 = .ok (.iload_n 2, 1) := dk_28 (dk_at dksX13_dayGoes_3 7 rfl rfl)
theorem dX13_dayGoes_79 : decode cX13_dayGoes 79 = .ok (.iconst 4, 1) := dk_7 (dk_at dksX13_dayGoes_3 8 rfl rfl)
theorem dX13_dayGoes_80 : decode cX13_dayGoes 80 = .ok (.invokevirtual 58, 3) := dk_182 0 58 (dk_at dksX13_dayGoes_3 9 rfl rfl)
theorem dX13_dayGoes_83 : decode cX13_dayGoes 83 = .ok (.iconst 1, 1) := dk_4 (dk_at dksX13_dayGoes_3 12 rfl rfl)
theorem dX13_dayGoes_84 : decode cX13_dayGoes 84 = .ok (.iadd, 1) := dk_96 (dk_at dksX13_dayGoes_3 13 rfl rfl)
theorem dX13_dayGoes_85 : decode cX13_dayGoes 85 = .ok (.iconst 0, 1) := dk_3 (dk_at dksX13_dayGoes_3 14 rfl rfl)
theorem dX13_dayGoes_86 : decode cX13_dayGoes 86 = .ok (.sipush 9999, 3) := dk_17 39 15 (dk_at dksX13_dayGoes_3 15 rfl rfl)
theorem dX13_dayGoes_89 : decode cX13_dayGoes 89 = .ok (.invokestatic 66, 3) := dk_184 0 66 (dk_at dksX13_dayGoes_3 18 rfl rfl)
theorem dX13_dayGoes_92 : decode cX13_dayGoes 92 = .ok (.invokevirtual 90, 3) := dk_182 0 90 (dk_at dksX13_dayGoes_3 21 rfl rfl)
theorem dX13_dayGoes_95 : decode cX13_dayGoes 95 = .ok (.aload_n 0, 1) := dk_42 (dk_at dksX13_dayGoes_4 0 rfl rfl)
theorem dX13_dayGoes_96 : decode cX13_dayGoes 96 = .ok (.iload_n 2, 1) := dk_28 (dk_at dksX13_dayGoes_4 1 rfl rfl)
theorem dX13_dayGoes_97 : decode cX13_dayGoes 97 = .ok (.invokevirtual 105, 3) := dk_182 0 105 (dk_at dksX13_dayGoes_4 2 rfl rfl)
theorem dX13_dayGoes_100 : decode cX13_dayGoes 100 = .ok (.ifCond .le 22, 3) := dk_158 0 22 (dk_at dksX13_dayGoes_4 5 rfl rfl)
theorem dX13_dayGoes_103 : decode cX13_dayGoes 103 = .ok (.aload_n 0, 1) := dk_42 (dk_at dksX13_dayGoes_4 8 rfl rfl)
theorem dX13_dayGoes_104 : decode cX13_dayGoes 104 = .ok (.iload_n 2, 1) := dk_28 (dk_at dksX13_dayGoes_4 9 rfl rfl)
theorem dX13_dayGoes_105 : decode cX13_dayGoes 105 = .ok (.iconst 4, 1) := dk_7 (dk_at dksX13_dayGoes_4 10 rfl rfl)
theorem dX13_dayGoes_106 : decode cX13_dayGoes 106 = .ok (.invokevirtual 58, 3) := dk_182 0 58 (dk_at dksX13_dayGoes_4 11 rfl rfl)
theorem dX13_dayGoes_109 : decode cX13_dayGoes 109 = .ok (.aload_n 0, 1) := dk_42 (dk_at dksX13_dayGoes_4 14 rfl rfl)
theorem dX13_dayGoes_110 : decode cX13_dayGoes 110 = .ok (.iload_n 2, 1) := dk_28 (dk_at dksX13_dayGoes_4 15 rfl rfl)
theorem dX13_dayGoes_111 : decode cX13_dayGoes 111 = .ok (.invokevirtual 105, 3) := dk_182 0 105 (dk_at dksX13_dayGoes_4 16 rfl rfl)
theorem dX13_dayGoes_114 : decode cX13_dayGoes 114 = .ok (.if_icmp .lt 8, 3) := dk_161 0 8 (dk_at dksX13_dayGoes_4 19 rfl rfl)
theorem dX13_dayGoes_117 : decode cX13_dayGoes 117 = .ok (.aload_n 0, 1) := dk_42 (dk_at dksX13_dayGoes_4 22 rfl rfl)
theorem dX13_dayGoes_118 : decode cX13_dayGoes 118 = .ok (.iload_n 2, 1) := dk_28 (dk_at dksX13_dayGoes_4 23 rfl rfl)
theorem dX13_dayGoes_119 : decode cX13_dayGoes 119 = .ok (.invokevirtual 108, 3) := dk_182 0 108 (dk_at dksX13_dayGoes_5 0 rfl rfl)
theorem dX13_dayGoes_122 : decode cX13_dayGoes 122 = .ok (.iinc 2 1, 3) := dk_132 2 1 (dk_at dksX13_dayGoes_5 3 rfl rfl)
theorem dX13_dayGoes_125 : decode cX13_dayGoes 125 = .ok (.goto (-72), 3) := dk_167 255 184 (dk_at dksX13_dayGoes_5 6 rfl rfl)
theorem dX13_dayGoes_128 : decode cX13_dayGoes 128 = .ok (.aload_n 0, 1) := dk_42 (dk_at dksX13_dayGoes_5 9 rfl rfl)
theorem dX13_dayGoes_129 : decode cX13_dayGoes 129 = .ok (.getfield 7, 3) := dk_180 0 7 (dk_at dksX13_dayGoes_5 10 rfl rfl)
theorem dX13_dayGoes_132 : decode cX13_dayGoes 132 = .ok (.iconst 1, 1) := dk_4 (dk_at dksX13_dayGoes_5 13 rfl rfl)
theorem dX13_dayGoes_133 : decode cX13_dayGoes 133 = .ok (.aload_n 0, 1) := dk_42 (dk_at dksX13_dayGoes_5 14 rfl rfl)
theorem dX13_dayGoes_134 : decode cX13_dayGoes 134 = .ok (.getfield 7, 3) := dk_180 0 7 (dk_at dksX13_dayGoes_5 15 rfl rfl)
theorem dX13_dayGoes_137 : decode cX13_dayGoes 137 = .ok (.iconst 1, 1) := dk_4 (dk_at dksX13_dayGoes_5 18 rfl rfl)
theorem dX13_dayGoes_138 : decode cX13_dayGoes 138 = .ok (.iaload, 1) := dk_46 (dk_at dksX13_dayGoes_5 19 rfl rfl)
theorem dX13_dayGoes_139 : decode cX13_dayGoes 139 = .ok (.iconst 1, 1) := dk_4 (dk_at dksX13_dayGoes_5 20 rfl rfl)
theorem dX13_dayGoes_140 : decode cX13_dayGoes 140 = .ok (.iadd, 1) := dk_96 (dk_at dksX13_dayGoes_5 21 rfl rfl)
theorem dX13_dayGoes_141 : decode cX13_dayGoes 141 = .ok (.iconst 0, 1) := dk_3 (dk_at dksX13_dayGoes_5 22 rfl rfl)
theorem dX13_dayGoes_142 : decode cX13_dayGoes 142 = .ok (.ldc 112, 2) := dk_18 112 (dk_at dksX13_dayGoes_6 0 rfl rfl)
theorem dX13_dayGoes_144 : decode cX13_dayGoes 144 = .ok (.invokestatic 66, 3) := dk_184 0 66 (dk_at dksX13_dayGoes_6 2 rfl rfl)
theorem dX13_dayGoes_147 : decode cX13_dayGoes 147 = .ok (.iastore, 1) := dk_79 (dk_at dksX13_dayGoes_6 5 rfl rfl)
theorem dX13_dayGoes_148 : decode cX13_dayGoes 148 = .ok (.return_, 1) := dk_177 (dk_at dksX13_dayGoes_6 6 rfl rfl)
abbrev cX13_todays : ByteArray := prog_16_method_26_code
def yX13_todays : MethodName := ⟨RX13, "todays", "()I"⟩
def dkwX13_todays_0 : List UInt8 := [42, 180, 0, 7, 6, 42, 180, 0, 7, 4, 46, 16, 6, 112, 96, 46, 172]
abbrev dktX13_todays_0 : List UInt8 := dkwX13_todays_0 ++ []
theorem dksX13_todays_0 : cX13_todays.data.toList.drop 0 = dktX13_todays_0 := by decide +kernel
theorem dX13_todays_0 : decode cX13_todays 0 = .ok (.aload_n 0, 1) := dk_42 (dk_at dksX13_todays_0 0 rfl rfl)
theorem dX13_todays_1 : decode cX13_todays 1 = .ok (.getfield 7, 3) := dk_180 0 7 (dk_at dksX13_todays_0 1 rfl rfl)
theorem dX13_todays_4 : decode cX13_todays 4 = .ok (.iconst 3, 1) := dk_6 (dk_at dksX13_todays_0 4 rfl rfl)
theorem dX13_todays_5 : decode cX13_todays 5 = .ok (.aload_n 0, 1) := dk_42 (dk_at dksX13_todays_0 5 rfl rfl)
theorem dX13_todays_6 : decode cX13_todays 6 = .ok (.getfield 7, 3) := dk_180 0 7 (dk_at dksX13_todays_0 6 rfl rfl)
theorem dX13_todays_9 : decode cX13_todays 9 = .ok (.iconst 1, 1) := dk_4 (dk_at dksX13_todays_0 9 rfl rfl)
theorem dX13_todays_10 : decode cX13_todays 10 = .ok (.iaload, 1) := dk_46 (dk_at dksX13_todays_0 10 rfl rfl)
theorem dX13_todays_11 : decode cX13_todays 11 = .ok (.bipush 6, 2) := dk_16 6 (dk_at dksX13_todays_0 11 rfl rfl)
theorem dX13_todays_13 : decode cX13_todays 13 = .ok (.irem, 1) := dk_112 (dk_at dksX13_todays_0 13 rfl rfl)
theorem dX13_todays_14 : decode cX13_todays 14 = .ok (.iadd, 1) := dk_96 (dk_at dksX13_todays_0 14 rfl rfl)
theorem dX13_todays_15 : decode cX13_todays 15 = .ok (.iaload, 1) := dk_46 (dk_at dksX13_todays_0 15 rfl rfl)
theorem dX13_todays_16 : decode cX13_todays 16 = .ok (.ireturn, 1) := dk_172 (dk_at dksX13_todays_0 16 rfl rfl)
abbrev cX13_hearers : ByteArray := prog_16_method_23_code
def yX13_hearers : MethodName := ⟨RX13, "hearers", "(I)I"⟩
def dkwX13_hearers_3 : List UInt8 := [128, 54, 4, 132, 5, 1, 167, 255, 209, 21, 4, 172]
abbrev dktX13_hearers_3 : List UInt8 := dkwX13_hearers_3 ++ []
def dkwX13_hearers_2 : List UInt8 := [182, 0, 62, 153, 0, 20, 42, 21, 5, 182, 0, 81, 29, 163, 0, 10, 4, 21, 5, 120, 167, 0, 4, 3]
abbrev dktX13_hearers_2 : List UInt8 := dkwX13_hearers_2 ++ dktX13_hearers_3
def dkwX13_hearers_1 : List UInt8 := [54, 4, 3, 54, 5, 21, 5, 42, 180, 0, 7, 3, 46, 162, 0, 42, 21, 4, 42, 21, 5, 28]
abbrev dktX13_hearers_1 : List UInt8 := dkwX13_hearers_1 ++ dktX13_hearers_2
def dkwX13_hearers_0 : List UInt8 := [27, 17, 3, 232, 108, 61, 27, 16, 10, 112, 42, 28, 182, 0, 78, 100, 3, 16, 9, 184, 0, 66, 62, 3]
abbrev dktX13_hearers_0 : List UInt8 := dkwX13_hearers_0 ++ dktX13_hearers_1
theorem dksX13_hearers_0 : cX13_hearers.data.toList.drop 0 = dktX13_hearers_0 := by decide +kernel
theorem dksX13_hearers_1 : cX13_hearers.data.toList.drop 24 = dktX13_hearers_1 := dk_seg dksX13_hearers_0 24 rfl rfl
theorem dksX13_hearers_2 : cX13_hearers.data.toList.drop 46 = dktX13_hearers_2 := dk_seg dksX13_hearers_1 22 rfl rfl
theorem dksX13_hearers_3 : cX13_hearers.data.toList.drop 70 = dktX13_hearers_3 := dk_seg dksX13_hearers_2 24 rfl rfl
theorem dX13_hearers_0 : decode cX13_hearers 0 = .ok (.iload_n 1, 1) := dk_27 (dk_at dksX13_hearers_0 0 rfl rfl)
theorem dX13_hearers_1 : decode cX13_hearers 1 = .ok (.sipush 1000, 3) := dk_17 3 232 (dk_at dksX13_hearers_0 1 rfl rfl)
theorem dX13_hearers_4 : decode cX13_hearers 4 = .ok (.idiv, 1) := dk_108 (dk_at dksX13_hearers_0 4 rfl rfl)
theorem dX13_hearers_5 : decode cX13_hearers 5 = .ok (.istore_n 2, 1) := dk_61 (dk_at dksX13_hearers_0 5 rfl rfl)
theorem dX13_hearers_6 : decode cX13_hearers 6 = .ok (.iload_n 1, 1) := dk_27 (dk_at dksX13_hearers_0 6 rfl rfl)
theorem dX13_hearers_7 : decode cX13_hearers 7 = .ok (.bipush 10, 2) := dk_16 10 (dk_at dksX13_hearers_0 7 rfl rfl)
theorem dX13_hearers_9 : decode cX13_hearers 9 = .ok (.irem, 1) := dk_112 (dk_at dksX13_hearers_0 9 rfl rfl)
theorem dX13_hearers_10 : decode cX13_hearers 10 = .ok (.aload_n 0, 1) := dk_42 (dk_at dksX13_hearers_0 10 rfl rfl)
theorem dX13_hearers_11 : decode cX13_hearers 11 = .ok (.iload_n 2, 1) := dk_28 (dk_at dksX13_hearers_0 11 rfl rfl)
theorem dX13_hearers_12 : decode cX13_hearers 12 = .ok (.invokevirtual 78, 3) := dk_182 0 78 (dk_at dksX13_hearers_0 12 rfl rfl)
theorem dX13_hearers_15 : decode cX13_hearers 15 = .ok (.isub, 1) := dk_100 (dk_at dksX13_hearers_0 15 rfl rfl)
theorem dX13_hearers_16 : decode cX13_hearers 16 = .ok (.iconst 0, 1) := dk_3 (dk_at dksX13_hearers_0 16 rfl rfl)
theorem dX13_hearers_17 : decode cX13_hearers 17 = .ok (.bipush 9, 2) := dk_16 9 (dk_at dksX13_hearers_0 17 rfl rfl)
theorem dX13_hearers_19 : decode cX13_hearers 19 = .ok (.invokestatic 66, 3) := dk_184 0 66 (dk_at dksX13_hearers_0 19 rfl rfl)
theorem dX13_hearers_22 : decode cX13_hearers 22 = .ok (.istore_n 3, 1) := dk_62 (dk_at dksX13_hearers_0 22 rfl rfl)
theorem dX13_hearers_23 : decode cX13_hearers 23 = .ok (.iconst 0, 1) := dk_3 (dk_at dksX13_hearers_0 23 rfl rfl)
theorem dX13_hearers_24 : decode cX13_hearers 24 = .ok (.istore 4, 2) := dk_54 4 (dk_at dksX13_hearers_1 0 rfl rfl)
theorem dX13_hearers_26 : decode cX13_hearers 26 = .ok (.iconst 0, 1) := dk_3 (dk_at dksX13_hearers_1 2 rfl rfl)
theorem dX13_hearers_27 : decode cX13_hearers 27 = .ok (.istore 5, 2) := dk_54 5 (dk_at dksX13_hearers_1 3 rfl rfl)
theorem dX13_hearers_29 : decode cX13_hearers 29 = .ok (.iload 5, 2) := dk_21 5 (dk_at dksX13_hearers_1 5 rfl rfl)
theorem dX13_hearers_31 : decode cX13_hearers 31 = .ok (.aload_n 0, 1) := dk_42 (dk_at dksX13_hearers_1 7 rfl rfl)
theorem dX13_hearers_32 : decode cX13_hearers 32 = .ok (.getfield 7, 3) := dk_180 0 7 (dk_at dksX13_hearers_1 8 rfl rfl)
theorem dX13_hearers_35 : decode cX13_hearers 35 = .ok (.iconst 0, 1) := dk_3 (dk_at dksX13_hearers_1 11 rfl rfl)
theorem dX13_hearers_36 : decode cX13_hearers 36 = .ok (.iaload, 1) := dk_46 (dk_at dksX13_hearers_1 12 rfl rfl)
theorem dX13_hearers_37 : decode cX13_hearers 37 = .ok (.if_icmp .ge 42, 3) := dk_162 0 42 (dk_at dksX13_hearers_1 13 rfl rfl)
theorem dX13_hearers_40 : decode cX13_hearers 40 = .ok (.iload 4, 2) := dk_21 4 (dk_at dksX13_hearers_1 16 rfl rfl)
theorem dX13_hearers_42 : decode cX13_hearers 42 = .ok (.aload_n 0, 1) := dk_42 (dk_at dksX13_hearers_1 18 rfl rfl)
theorem dX13_hearers_43 : decode cX13_hearers 43 = .ok (.iload 5, 2) := dk_21 5 (dk_at dksX13_hearers_1 19 rfl rfl)
theorem dX13_hearers_45 : decode cX13_hearers 45 = .ok (.iload_n 2, 1) := dk_28 (dk_at dksX13_hearers_1 21 rfl rfl)
theorem dX13_hearers_46 : decode cX13_hearers 46 = .ok (.invokevirtual 62, 3) := dk_182 0 62 (dk_at dksX13_hearers_2 0 rfl rfl)
theorem dX13_hearers_49 : decode cX13_hearers 49 = .ok (.ifCond .eq 20, 3) := dk_153 0 20 (dk_at dksX13_hearers_2 3 rfl rfl)
theorem dX13_hearers_52 : decode cX13_hearers 52 = .ok (.aload_n 0, 1) := dk_42 (dk_at dksX13_hearers_2 6 rfl rfl)
theorem dX13_hearers_53 : decode cX13_hearers 53 = .ok (.iload 5, 2) := dk_21 5 (dk_at dksX13_hearers_2 7 rfl rfl)
theorem dX13_hearers_55 : decode cX13_hearers 55 = .ok (.invokevirtual 81, 3) := dk_182 0 81 (dk_at dksX13_hearers_2 9 rfl rfl)
theorem dX13_hearers_58 : decode cX13_hearers 58 = .ok (.iload_n 3, 1) := dk_29 (dk_at dksX13_hearers_2 12 rfl rfl)
theorem dX13_hearers_59 : decode cX13_hearers 59 = .ok (.if_icmp .gt 10, 3) := dk_163 0 10 (dk_at dksX13_hearers_2 13 rfl rfl)
theorem dX13_hearers_62 : decode cX13_hearers 62 = .ok (.iconst 1, 1) := dk_4 (dk_at dksX13_hearers_2 16 rfl rfl)
theorem dX13_hearers_63 : decode cX13_hearers 63 = .ok (.iload 5, 2) := dk_21 5 (dk_at dksX13_hearers_2 17 rfl rfl)
theorem dX13_hearers_65 : decode cX13_hearers 65 = .ok (.ishl, 1) := dk_120 (dk_at dksX13_hearers_2 19 rfl rfl)
theorem dX13_hearers_66 : decode cX13_hearers 66 = .ok (.goto 4, 3) := dk_167 0 4 (dk_at dksX13_hearers_2 20 rfl rfl)
theorem dX13_hearers_69 : decode cX13_hearers 69 = .ok (.iconst 0, 1) := dk_3 (dk_at dksX13_hearers_2 23 rfl rfl)
theorem dX13_hearers_70 : decode cX13_hearers 70 = .ok (.ior, 1) := dk_128 (dk_at dksX13_hearers_3 0 rfl rfl)
theorem dX13_hearers_71 : decode cX13_hearers 71 = .ok (.istore 4, 2) := dk_54 4 (dk_at dksX13_hearers_3 1 rfl rfl)
theorem dX13_hearers_73 : decode cX13_hearers 73 = .ok (.iinc 5 1, 3) := dk_132 5 1 (dk_at dksX13_hearers_3 3 rfl rfl)
theorem dX13_hearers_76 : decode cX13_hearers 76 = .ok (.goto (-47), 3) := dk_167 255 209 (dk_at dksX13_hearers_3 6 rfl rfl)
theorem dX13_hearers_79 : decode cX13_hearers 79 = .ok (.iload 4, 2) := dk_21 4 (dk_at dksX13_hearers_3 9 rfl rfl)
theorem dX13_hearers_81 : decode cX13_hearers 81 = .ok (.ireturn, 1) := dk_172 (dk_at dksX13_hearers_3 11 rfl rfl)
abbrev cX13_learns : ByteArray := prog_16_method_24_code
def yX13_learns : MethodName := ⟨RX13, "learns", "(II)V"⟩
def dkwX13_learns_2 : List UInt8 := [4, 21, 4, 120, 2, 130, 126, 62, 42, 27, 6, 29, 182, 0, 90, 177]
abbrev dktX13_learns_2 : List UInt8 := dkwX13_learns_2 ++ []
def dkwX13_learns_1 : List UInt8 := [54, 4, 29, 21, 4, 122, 4, 126, 153, 0, 9, 21, 4, 28, 160, 0, 9, 132, 4, 1, 167, 255, 238, 29]
abbrev dktX13_learns_1 : List UInt8 := dkwX13_learns_1 ++ dktX13_learns_2
def dkwX13_learns_0 : List UInt8 := [42, 27, 6, 182, 0, 58, 4, 28, 120, 128, 62, 29, 184, 0, 84, 42, 27, 182, 0, 87, 164, 0, 36, 3]
abbrev dktX13_learns_0 : List UInt8 := dkwX13_learns_0 ++ dktX13_learns_1
theorem dksX13_learns_0 : cX13_learns.data.toList.drop 0 = dktX13_learns_0 := by decide +kernel
theorem dksX13_learns_1 : cX13_learns.data.toList.drop 24 = dktX13_learns_1 := dk_seg dksX13_learns_0 24 rfl rfl
theorem dksX13_learns_2 : cX13_learns.data.toList.drop 48 = dktX13_learns_2 := dk_seg dksX13_learns_1 24 rfl rfl
theorem dX13_learns_0 : decode cX13_learns 0 = .ok (.aload_n 0, 1) := dk_42 (dk_at dksX13_learns_0 0 rfl rfl)
theorem dX13_learns_1 : decode cX13_learns 1 = .ok (.iload_n 1, 1) := dk_27 (dk_at dksX13_learns_0 1 rfl rfl)
theorem dX13_learns_2 : decode cX13_learns 2 = .ok (.iconst 3, 1) := dk_6 (dk_at dksX13_learns_0 2 rfl rfl)
theorem dX13_learns_3 : decode cX13_learns 3 = .ok (.invokevirtual 58, 3) := dk_182 0 58 (dk_at dksX13_learns_0 3 rfl rfl)
theorem dX13_learns_6 : decode cX13_learns 6 = .ok (.iconst 1, 1) := dk_4 (dk_at dksX13_learns_0 6 rfl rfl)
theorem dX13_learns_7 : decode cX13_learns 7 = .ok (.iload_n 2, 1) := dk_28 (dk_at dksX13_learns_0 7 rfl rfl)
theorem dX13_learns_8 : decode cX13_learns 8 = .ok (.ishl, 1) := dk_120 (dk_at dksX13_learns_0 8 rfl rfl)
theorem dX13_learns_9 : decode cX13_learns 9 = .ok (.ior, 1) := dk_128 (dk_at dksX13_learns_0 9 rfl rfl)
theorem dX13_learns_10 : decode cX13_learns 10 = .ok (.istore_n 3, 1) := dk_62 (dk_at dksX13_learns_0 10 rfl rfl)
theorem dX13_learns_11 : decode cX13_learns 11 = .ok (.iload_n 3, 1) := dk_29 (dk_at dksX13_learns_0 11 rfl rfl)
theorem dX13_learns_12 : decode cX13_learns 12 = .ok (.invokestatic 84, 3) := dk_184 0 84 (dk_at dksX13_learns_0 12 rfl rfl)
theorem dX13_learns_15 : decode cX13_learns 15 = .ok (.aload_n 0, 1) := dk_42 (dk_at dksX13_learns_0 15 rfl rfl)
theorem dX13_learns_16 : decode cX13_learns 16 = .ok (.iload_n 1, 1) := dk_27 (dk_at dksX13_learns_0 16 rfl rfl)
theorem dX13_learns_17 : decode cX13_learns 17 = .ok (.invokevirtual 87, 3) := dk_182 0 87 (dk_at dksX13_learns_0 17 rfl rfl)
theorem dX13_learns_20 : decode cX13_learns 20 = .ok (.if_icmp .le 36, 3) := dk_164 0 36 (dk_at dksX13_learns_0 20 rfl rfl)
theorem dX13_learns_23 : decode cX13_learns 23 = .ok (.iconst 0, 1) := dk_3 (dk_at dksX13_learns_0 23 rfl rfl)
theorem dX13_learns_24 : decode cX13_learns 24 = .ok (.istore 4, 2) := dk_54 4 (dk_at dksX13_learns_1 0 rfl rfl)
theorem dX13_learns_26 : decode cX13_learns 26 = .ok (.iload_n 3, 1) := dk_29 (dk_at dksX13_learns_1 2 rfl rfl)
theorem dX13_learns_27 : decode cX13_learns 27 = .ok (.iload 4, 2) := dk_21 4 (dk_at dksX13_learns_1 3 rfl rfl)
theorem dX13_learns_29 : decode cX13_learns 29 = .ok (.ishr, 1) := dk_122 (dk_at dksX13_learns_1 5 rfl rfl)
theorem dX13_learns_30 : decode cX13_learns 30 = .ok (.iconst 1, 1) := dk_4 (dk_at dksX13_learns_1 6 rfl rfl)
theorem dX13_learns_31 : decode cX13_learns 31 = .ok (.iand, 1) := dk_126 (dk_at dksX13_learns_1 7 rfl rfl)
theorem dX13_learns_32 : decode cX13_learns 32 = .ok (.ifCond .eq 9, 3) := dk_153 0 9 (dk_at dksX13_learns_1 8 rfl rfl)
theorem dX13_learns_35 : decode cX13_learns 35 = .ok (.iload 4, 2) := dk_21 4 (dk_at dksX13_learns_1 11 rfl rfl)
theorem dX13_learns_37 : decode cX13_learns 37 = .ok (.iload_n 2, 1) := dk_28 (dk_at dksX13_learns_1 13 rfl rfl)
theorem dX13_learns_38 : decode cX13_learns 38 = .ok (.if_icmp .ne 9, 3) := dk_160 0 9 (dk_at dksX13_learns_1 14 rfl rfl)
theorem dX13_learns_41 : decode cX13_learns 41 = .ok (.iinc 4 1, 3) := dk_132 4 1 (dk_at dksX13_learns_1 17 rfl rfl)
theorem dX13_learns_44 : decode cX13_learns 44 = .ok (.goto (-18), 3) := dk_167 255 238 (dk_at dksX13_learns_1 20 rfl rfl)
theorem dX13_learns_47 : decode cX13_learns 47 = .ok (.iload_n 3, 1) := dk_29 (dk_at dksX13_learns_1 23 rfl rfl)
theorem dX13_learns_48 : decode cX13_learns 48 = .ok (.iconst 1, 1) := dk_4 (dk_at dksX13_learns_2 0 rfl rfl)
theorem dX13_learns_49 : decode cX13_learns 49 = .ok (.iload 4, 2) := dk_21 4 (dk_at dksX13_learns_2 1 rfl rfl)
theorem dX13_learns_51 : decode cX13_learns 51 = .ok (.ishl, 1) := dk_120 (dk_at dksX13_learns_2 3 rfl rfl)
theorem dX13_learns_52 : decode cX13_learns 52 = .ok (.iconst (-1), 1) := dk_2 (dk_at dksX13_learns_2 4 rfl rfl)
theorem dX13_learns_53 : decode cX13_learns 53 = .ok (.ixor, 1) := dk_130 (dk_at dksX13_learns_2 5 rfl rfl)
theorem dX13_learns_54 : decode cX13_learns 54 = .ok (.iand, 1) := dk_126 (dk_at dksX13_learns_2 6 rfl rfl)
theorem dX13_learns_55 : decode cX13_learns 55 = .ok (.istore_n 3, 1) := dk_62 (dk_at dksX13_learns_2 7 rfl rfl)
theorem dX13_learns_56 : decode cX13_learns 56 = .ok (.aload_n 0, 1) := dk_42 (dk_at dksX13_learns_2 8 rfl rfl)
theorem dX13_learns_57 : decode cX13_learns 57 = .ok (.iload_n 1, 1) := dk_27 (dk_at dksX13_learns_2 9 rfl rfl)
theorem dX13_learns_58 : decode cX13_learns 58 = .ok (.iconst 3, 1) := dk_6 (dk_at dksX13_learns_2 10 rfl rfl)
theorem dX13_learns_59 : decode cX13_learns 59 = .ok (.iload_n 3, 1) := dk_29 (dk_at dksX13_learns_2 11 rfl rfl)
theorem dX13_learns_60 : decode cX13_learns 60 = .ok (.invokevirtual 90, 3) := dk_182 0 90 (dk_at dksX13_learns_2 12 rfl rfl)
theorem dX13_learns_63 : decode cX13_learns 63 = .ok (.return_, 1) := dk_177 (dk_at dksX13_learns_2 15 rfl rfl)
abbrev cX13_ones : ByteArray := prog_16_method_15_code
def yX13_ones : MethodName := ⟨RX13, "ones", "(I)I"⟩
def dkwX13_ones_1 : List UInt8 := [27, 172]
abbrev dktX13_ones_1 : List UInt8 := dkwX13_ones_1 ++ []
def dkwX13_ones_0 : List UInt8 := [3, 60, 3, 61, 28, 16, 16, 162, 0, 17, 27, 26, 28, 122, 4, 126, 96, 60, 132, 2, 1, 167, 255, 239]
abbrev dktX13_ones_0 : List UInt8 := dkwX13_ones_0 ++ dktX13_ones_1
theorem dksX13_ones_0 : cX13_ones.data.toList.drop 0 = dktX13_ones_0 := by decide +kernel
theorem dksX13_ones_1 : cX13_ones.data.toList.drop 24 = dktX13_ones_1 := dk_seg dksX13_ones_0 24 rfl rfl
theorem dX13_ones_0 : decode cX13_ones 0 = .ok (.iconst 0, 1) := dk_3 (dk_at dksX13_ones_0 0 rfl rfl)
theorem dX13_ones_1 : decode cX13_ones 1 = .ok (.istore_n 1, 1) := dk_60 (dk_at dksX13_ones_0 1 rfl rfl)
theorem dX13_ones_2 : decode cX13_ones 2 = .ok (.iconst 0, 1) := dk_3 (dk_at dksX13_ones_0 2 rfl rfl)
theorem dX13_ones_3 : decode cX13_ones 3 = .ok (.istore_n 2, 1) := dk_61 (dk_at dksX13_ones_0 3 rfl rfl)
theorem dX13_ones_4 : decode cX13_ones 4 = .ok (.iload_n 2, 1) := dk_28 (dk_at dksX13_ones_0 4 rfl rfl)
theorem dX13_ones_5 : decode cX13_ones 5 = .ok (.bipush 16, 2) := dk_16 16 (dk_at dksX13_ones_0 5 rfl rfl)
theorem dX13_ones_7 : decode cX13_ones 7 = .ok (.if_icmp .ge 17, 3) := dk_162 0 17 (dk_at dksX13_ones_0 7 rfl rfl)
theorem dX13_ones_10 : decode cX13_ones 10 = .ok (.iload_n 1, 1) := dk_27 (dk_at dksX13_ones_0 10 rfl rfl)
theorem dX13_ones_11 : decode cX13_ones 11 = .ok (.iload_n 0, 1) := dk_26 (dk_at dksX13_ones_0 11 rfl rfl)
theorem dX13_ones_12 : decode cX13_ones 12 = .ok (.iload_n 2, 1) := dk_28 (dk_at dksX13_ones_0 12 rfl rfl)
theorem dX13_ones_13 : decode cX13_ones 13 = .ok (.ishr, 1) := dk_122 (dk_at dksX13_ones_0 13 rfl rfl)
theorem dX13_ones_14 : decode cX13_ones 14 = .ok (.iconst 1, 1) := dk_4 (dk_at dksX13_ones_0 14 rfl rfl)
theorem dX13_ones_15 : decode cX13_ones 15 = .ok (.iand, 1) := dk_126 (dk_at dksX13_ones_0 15 rfl rfl)
theorem dX13_ones_16 : decode cX13_ones 16 = .ok (.iadd, 1) := dk_96 (dk_at dksX13_ones_0 16 rfl rfl)
theorem dX13_ones_17 : decode cX13_ones 17 = .ok (.istore_n 1, 1) := dk_60 (dk_at dksX13_ones_0 17 rfl rfl)
theorem dX13_ones_18 : decode cX13_ones 18 = .ok (.iinc 2 1, 3) := dk_132 2 1 (dk_at dksX13_ones_0 18 rfl rfl)
theorem dX13_ones_21 : decode cX13_ones 21 = .ok (.goto (-17), 3) := dk_167 255 239 (dk_at dksX13_ones_0 21 rfl rfl)
theorem dX13_ones_24 : decode cX13_ones 24 = .ok (.iload_n 1, 1) := dk_27 (dk_at dksX13_ones_1 0 rfl rfl)
theorem dX13_ones_25 : decode cX13_ones 25 = .ok (.ireturn, 1) := dk_172 (dk_at dksX13_ones_1 1 rfl rfl)
abbrev cX13_allKnow : ByteArray := prog_16_method_30_code
def yX13_allKnow : MethodName := ⟨RX13, "allKnow", "()I"⟩
def dkwX13_allKnow_0 : List UInt8 := [42, 17, 0, 255, 6, 182, 0, 116, 172]
abbrev dktX13_allKnow_0 : List UInt8 := dkwX13_allKnow_0 ++ []
theorem dksX13_allKnow_0 : cX13_allKnow.data.toList.drop 0 = dktX13_allKnow_0 := by decide +kernel
theorem dX13_allKnow_0 : decode cX13_allKnow 0 = .ok (.aload_n 0, 1) := dk_42 (dk_at dksX13_allKnow_0 0 rfl rfl)
theorem dX13_allKnow_1 : decode cX13_allKnow 1 = .ok (.sipush 255, 3) := dk_17 0 255 (dk_at dksX13_allKnow_0 1 rfl rfl)
theorem dX13_allKnow_4 : decode cX13_allKnow 4 = .ok (.iconst 3, 1) := dk_6 (dk_at dksX13_allKnow_0 4 rfl rfl)
theorem dX13_allKnow_5 : decode cX13_allKnow 5 = .ok (.invokevirtual 116, 3) := dk_182 0 116 (dk_at dksX13_allKnow_0 5 rfl rfl)
theorem dX13_allKnow_8 : decode cX13_allKnow 8 = .ok (.ireturn, 1) := dk_172 (dk_at dksX13_allKnow_0 8 rfl rfl)
abbrev cX13_now : ByteArray := prog_16_method_45_code
def yX13_now : MethodName := ⟨RX13, "now", "(I)I"⟩
def dkwX13_now_4 : List UInt8 := [182, 0, 98, 172, 42, 3, 182, 0, 128, 172]
abbrev dktX13_now_4 : List UInt8 := dkwX13_now_4 ++ []
def dkwX13_now_3 : List UInt8 := [182, 0, 158, 128, 2, 130, 126, 172, 42, 182, 0, 161, 172, 42, 182, 0, 164, 172, 42, 42, 182, 0, 94]
abbrev dktX13_now_3 : List UInt8 := dkwX13_now_3 ++ dktX13_now_4
def dkwX13_now_2 : List UInt8 := [42, 180, 0, 7, 4, 46, 172, 42, 182, 0, 155, 172, 42, 182, 0, 158, 172, 18, 143, 42, 182, 0, 155, 42]
abbrev dktX13_now_2 : List UInt8 := dkwX13_now_2 ++ dktX13_now_3
def dkwX13_now_1 : List UInt8 := [170, 0, 0, 0, 0, 0, 94, 0, 0, 0, 0, 0, 0, 0, 6, 0, 0, 0, 43, 0, 0, 0, 50, 0, 0, 0, 55, 0, 0, 0, 60, 0, 0, 0, 75, 0, 0, 0, 80, 0, 0, 0, 85]
abbrev dktX13_now_1 : List UInt8 := dkwX13_now_1 ++ dktX13_now_2
def dkwX13_now_0 : List UInt8 := [27]
abbrev dktX13_now_0 : List UInt8 := dkwX13_now_0 ++ dktX13_now_1
theorem dksX13_now_0 : cX13_now.data.toList.drop 0 = dktX13_now_0 := by decide +kernel
theorem dksX13_now_1 : cX13_now.data.toList.drop 1 = dktX13_now_1 := dk_seg dksX13_now_0 1 rfl rfl
theorem dksX13_now_2 : cX13_now.data.toList.drop 44 = dktX13_now_2 := dk_seg dksX13_now_1 43 rfl rfl
theorem dksX13_now_3 : cX13_now.data.toList.drop 68 = dktX13_now_3 := dk_seg dksX13_now_2 24 rfl rfl
theorem dksX13_now_4 : cX13_now.data.toList.drop 91 = dktX13_now_4 := dk_seg dksX13_now_3 23 rfl rfl
theorem dX13_now_0 : decode cX13_now 0 = .ok (.iload_n 1, 1) := dk_27 (dk_at dksX13_now_0 0 rfl rfl)
theorem dX13_now_1 : decode cX13_now 1 = .ok (.tableswitch 94 0 6 #[43, 50, 55, 60, 75, 80, 85], 43) := by decide +kernel
theorem dX13_now_44 : decode cX13_now 44 = .ok (.aload_n 0, 1) := dk_42 (dk_at dksX13_now_2 0 rfl rfl)
theorem dX13_now_45 : decode cX13_now 45 = .ok (.getfield 7, 3) := dk_180 0 7 (dk_at dksX13_now_2 1 rfl rfl)
theorem dX13_now_48 : decode cX13_now 48 = .ok (.iconst 1, 1) := dk_4 (dk_at dksX13_now_2 4 rfl rfl)
theorem dX13_now_49 : decode cX13_now 49 = .ok (.iaload, 1) := dk_46 (dk_at dksX13_now_2 5 rfl rfl)
theorem dX13_now_50 : decode cX13_now 50 = .ok (.ireturn, 1) := dk_172 (dk_at dksX13_now_2 6 rfl rfl)
theorem dX13_now_51 : decode cX13_now 51 = .ok (.aload_n 0, 1) := dk_42 (dk_at dksX13_now_2 7 rfl rfl)
theorem dX13_now_52 : decode cX13_now 52 = .ok (.invokevirtual 155, 3) := dk_182 0 155 (dk_at dksX13_now_2 8 rfl rfl)
theorem dX13_now_55 : decode cX13_now 55 = .ok (.ireturn, 1) := dk_172 (dk_at dksX13_now_2 11 rfl rfl)
theorem dX13_now_56 : decode cX13_now 56 = .ok (.aload_n 0, 1) := dk_42 (dk_at dksX13_now_2 12 rfl rfl)
theorem dX13_now_57 : decode cX13_now 57 = .ok (.invokevirtual 158, 3) := dk_182 0 158 (dk_at dksX13_now_2 13 rfl rfl)
theorem dX13_now_60 : decode cX13_now 60 = .ok (.ireturn, 1) := dk_172 (dk_at dksX13_now_2 16 rfl rfl)
theorem dX13_now_61 : decode cX13_now 61 = .ok (.ldc 143, 2) := dk_18 143 (dk_at dksX13_now_2 17 rfl rfl)
theorem dX13_now_63 : decode cX13_now 63 = .ok (.aload_n 0, 1) := dk_42 (dk_at dksX13_now_2 19 rfl rfl)
theorem dX13_now_64 : decode cX13_now 64 = .ok (.invokevirtual 155, 3) := dk_182 0 155 (dk_at dksX13_now_2 20 rfl rfl)
theorem dX13_now_67 : decode cX13_now 67 = .ok (.aload_n 0, 1) := dk_42 (dk_at dksX13_now_2 23 rfl rfl)
theorem dX13_now_68 : decode cX13_now 68 = .ok (.invokevirtual 158, 3) := dk_182 0 158 (dk_at dksX13_now_3 0 rfl rfl)
theorem dX13_now_71 : decode cX13_now 71 = .ok (.ior, 1) := dk_128 (dk_at dksX13_now_3 3 rfl rfl)
theorem dX13_now_72 : decode cX13_now 72 = .ok (.iconst (-1), 1) := dk_2 (dk_at dksX13_now_3 4 rfl rfl)
theorem dX13_now_73 : decode cX13_now 73 = .ok (.ixor, 1) := dk_130 (dk_at dksX13_now_3 5 rfl rfl)
theorem dX13_now_74 : decode cX13_now 74 = .ok (.iand, 1) := dk_126 (dk_at dksX13_now_3 6 rfl rfl)
theorem dX13_now_75 : decode cX13_now 75 = .ok (.ireturn, 1) := dk_172 (dk_at dksX13_now_3 7 rfl rfl)
theorem dX13_now_76 : decode cX13_now 76 = .ok (.aload_n 0, 1) := dk_42 (dk_at dksX13_now_3 8 rfl rfl)
theorem dX13_now_77 : decode cX13_now 77 = .ok (.invokevirtual 161, 3) := dk_182 0 161 (dk_at dksX13_now_3 9 rfl rfl)
theorem dX13_now_80 : decode cX13_now 80 = .ok (.ireturn, 1) := dk_172 (dk_at dksX13_now_3 12 rfl rfl)
theorem dX13_now_81 : decode cX13_now 81 = .ok (.aload_n 0, 1) := dk_42 (dk_at dksX13_now_3 13 rfl rfl)
theorem dX13_now_82 : decode cX13_now 82 = .ok (.invokevirtual 164, 3) := dk_182 0 164 (dk_at dksX13_now_3 14 rfl rfl)
theorem dX13_now_85 : decode cX13_now 85 = .ok (.ireturn, 1) := dk_172 (dk_at dksX13_now_3 17 rfl rfl)
theorem dX13_now_86 : decode cX13_now 86 = .ok (.aload_n 0, 1) := dk_42 (dk_at dksX13_now_3 18 rfl rfl)
theorem dX13_now_87 : decode cX13_now 87 = .ok (.aload_n 0, 1) := dk_42 (dk_at dksX13_now_3 19 rfl rfl)
theorem dX13_now_88 : decode cX13_now 88 = .ok (.invokevirtual 94, 3) := dk_182 0 94 (dk_at dksX13_now_3 20 rfl rfl)
theorem dX13_now_91 : decode cX13_now 91 = .ok (.invokevirtual 98, 3) := dk_182 0 98 (dk_at dksX13_now_4 0 rfl rfl)
theorem dX13_now_94 : decode cX13_now 94 = .ok (.ireturn, 1) := dk_172 (dk_at dksX13_now_4 3 rfl rfl)
theorem dX13_now_95 : decode cX13_now 95 = .ok (.aload_n 0, 1) := dk_42 (dk_at dksX13_now_4 4 rfl rfl)
theorem dX13_now_96 : decode cX13_now 96 = .ok (.iconst 0, 1) := dk_3 (dk_at dksX13_now_4 5 rfl rfl)
theorem dX13_now_97 : decode cX13_now 97 = .ok (.invokevirtual 128, 3) := dk_182 0 128 (dk_at dksX13_now_4 6 rfl rfl)
theorem dX13_now_100 : decode cX13_now 100 = .ok (.ireturn, 1) := dk_172 (dk_at dksX13_now_4 9 rfl rfl)
abbrev cX13_allHands : ByteArray := prog_16_method_31_code
def yX13_allHands : MethodName := ⟨RX13, "allHands", "()I"⟩
def dkwX13_allHands_0 : List UInt8 := [42, 17, 0, 255, 8, 182, 0, 116, 172]
abbrev dktX13_allHands_0 : List UInt8 := dkwX13_allHands_0 ++ []
theorem dksX13_allHands_0 : cX13_allHands.data.toList.drop 0 = dktX13_allHands_0 := by decide +kernel
theorem dX13_allHands_0 : decode cX13_allHands 0 = .ok (.aload_n 0, 1) := dk_42 (dk_at dksX13_allHands_0 0 rfl rfl)
theorem dX13_allHands_1 : decode cX13_allHands 1 = .ok (.sipush 255, 3) := dk_17 0 255 (dk_at dksX13_allHands_0 1 rfl rfl)
theorem dX13_allHands_4 : decode cX13_allHands 4 = .ok (.iconst 5, 1) := dk_8 (dk_at dksX13_allHands_0 4 rfl rfl)
theorem dX13_allHands_5 : decode cX13_allHands 5 = .ok (.invokevirtual 116, 3) := dk_182 0 116 (dk_at dksX13_allHands_0 5 rfl rfl)
theorem dX13_allHands_8 : decode cX13_allHands 8 = .ok (.ireturn, 1) := dk_172 (dk_at dksX13_allHands_0 8 rfl rfl)
abbrev cX13_allDrawn : ByteArray := prog_16_method_32_code
def yX13_allDrawn : MethodName := ⟨RX13, "allDrawn", "()I"⟩
def dkwX13_allDrawn_1 : List UInt8 := [132, 2, 1, 167, 255, 233, 27, 172]
abbrev dktX13_allDrawn_1 : List UInt8 := dkwX13_allDrawn_1 ++ []
def dkwX13_allDrawn_0 : List UInt8 := [3, 60, 3, 61, 28, 42, 180, 0, 7, 3, 46, 162, 0, 19, 27, 42, 28, 16, 6, 182, 0, 58, 96, 60]
abbrev dktX13_allDrawn_0 : List UInt8 := dkwX13_allDrawn_0 ++ dktX13_allDrawn_1
theorem dksX13_allDrawn_0 : cX13_allDrawn.data.toList.drop 0 = dktX13_allDrawn_0 := by decide +kernel
theorem dksX13_allDrawn_1 : cX13_allDrawn.data.toList.drop 24 = dktX13_allDrawn_1 := dk_seg dksX13_allDrawn_0 24 rfl rfl
theorem dX13_allDrawn_0 : decode cX13_allDrawn 0 = .ok (.iconst 0, 1) := dk_3 (dk_at dksX13_allDrawn_0 0 rfl rfl)
theorem dX13_allDrawn_1 : decode cX13_allDrawn 1 = .ok (.istore_n 1, 1) := dk_60 (dk_at dksX13_allDrawn_0 1 rfl rfl)
theorem dX13_allDrawn_2 : decode cX13_allDrawn 2 = .ok (.iconst 0, 1) := dk_3 (dk_at dksX13_allDrawn_0 2 rfl rfl)
theorem dX13_allDrawn_3 : decode cX13_allDrawn 3 = .ok (.istore_n 2, 1) := dk_61 (dk_at dksX13_allDrawn_0 3 rfl rfl)
theorem dX13_allDrawn_4 : decode cX13_allDrawn 4 = .ok (.iload_n 2, 1) := dk_28 (dk_at dksX13_allDrawn_0 4 rfl rfl)
theorem dX13_allDrawn_5 : decode cX13_allDrawn 5 = .ok (.aload_n 0, 1) := dk_42 (dk_at dksX13_allDrawn_0 5 rfl rfl)
theorem dX13_allDrawn_6 : decode cX13_allDrawn 6 = .ok (.getfield 7, 3) := dk_180 0 7 (dk_at dksX13_allDrawn_0 6 rfl rfl)
theorem dX13_allDrawn_9 : decode cX13_allDrawn 9 = .ok (.iconst 0, 1) := dk_3 (dk_at dksX13_allDrawn_0 9 rfl rfl)
theorem dX13_allDrawn_10 : decode cX13_allDrawn 10 = .ok (.iaload, 1) := dk_46 (dk_at dksX13_allDrawn_0 10 rfl rfl)
theorem dX13_allDrawn_11 : decode cX13_allDrawn 11 = .ok (.if_icmp .ge 19, 3) := dk_162 0 19 (dk_at dksX13_allDrawn_0 11 rfl rfl)
theorem dX13_allDrawn_14 : decode cX13_allDrawn 14 = .ok (.iload_n 1, 1) := dk_27 (dk_at dksX13_allDrawn_0 14 rfl rfl)
theorem dX13_allDrawn_15 : decode cX13_allDrawn 15 = .ok (.aload_n 0, 1) := dk_42 (dk_at dksX13_allDrawn_0 15 rfl rfl)
theorem dX13_allDrawn_16 : decode cX13_allDrawn 16 = .ok (.iload_n 2, 1) := dk_28 (dk_at dksX13_allDrawn_0 16 rfl rfl)
theorem dX13_allDrawn_17 : decode cX13_allDrawn 17 = .ok (.bipush 6, 2) := dk_16 6 (dk_at dksX13_allDrawn_0 17 rfl rfl)
theorem dX13_allDrawn_19 : decode cX13_allDrawn 19 = .ok (.invokevirtual 58, 3) := dk_182 0 58 (dk_at dksX13_allDrawn_0 19 rfl rfl)
theorem dX13_allDrawn_22 : decode cX13_allDrawn 22 = .ok (.iadd, 1) := dk_96 (dk_at dksX13_allDrawn_0 22 rfl rfl)
theorem dX13_allDrawn_23 : decode cX13_allDrawn 23 = .ok (.istore_n 1, 1) := dk_60 (dk_at dksX13_allDrawn_0 23 rfl rfl)
theorem dX13_allDrawn_24 : decode cX13_allDrawn 24 = .ok (.iinc 2 1, 3) := dk_132 2 1 (dk_at dksX13_allDrawn_1 0 rfl rfl)
theorem dX13_allDrawn_27 : decode cX13_allDrawn 27 = .ok (.goto (-23), 3) := dk_167 255 233 (dk_at dksX13_allDrawn_1 3 rfl rfl)
theorem dX13_allDrawn_30 : decode cX13_allDrawn 30 = .ok (.iload_n 1, 1) := dk_27 (dk_at dksX13_allDrawn_1 6 rfl rfl)
theorem dX13_allDrawn_31 : decode cX13_allDrawn 31 = .ok (.ireturn, 1) := dk_172 (dk_at dksX13_allDrawn_1 7 rfl rfl)
abbrev cX13_wisest : ByteArray := prog_16_method_44_code
def yX13_wisest : MethodName := ⟨RX13, "wisest", "()I"⟩
def dkwX13_wisest_2 : List UInt8 := [167, 255, 212, 27, 172]
abbrev dktX13_wisest_2 : List UInt8 := dkwX13_wisest_2 ++ []
def dkwX13_wisest_1 : List UInt8 := [184, 0, 84, 42, 27, 8, 182, 0, 58, 184, 0, 84, 164, 0, 7, 28, 167, 0, 4, 27, 60, 132, 2, 1]
abbrev dktX13_wisest_1 : List UInt8 := dkwX13_wisest_1 ++ dktX13_wisest_2
def dkwX13_wisest_0 : List UInt8 := [2, 60, 3, 61, 28, 42, 180, 0, 7, 3, 46, 162, 0, 40, 27, 155, 0, 24, 42, 28, 8, 182, 0, 58]
abbrev dktX13_wisest_0 : List UInt8 := dkwX13_wisest_0 ++ dktX13_wisest_1
theorem dksX13_wisest_0 : cX13_wisest.data.toList.drop 0 = dktX13_wisest_0 := by decide +kernel
theorem dksX13_wisest_1 : cX13_wisest.data.toList.drop 24 = dktX13_wisest_1 := dk_seg dksX13_wisest_0 24 rfl rfl
theorem dksX13_wisest_2 : cX13_wisest.data.toList.drop 48 = dktX13_wisest_2 := dk_seg dksX13_wisest_1 24 rfl rfl
theorem dX13_wisest_0 : decode cX13_wisest 0 = .ok (.iconst (-1), 1) := dk_2 (dk_at dksX13_wisest_0 0 rfl rfl)
theorem dX13_wisest_1 : decode cX13_wisest 1 = .ok (.istore_n 1, 1) := dk_60 (dk_at dksX13_wisest_0 1 rfl rfl)
theorem dX13_wisest_2 : decode cX13_wisest 2 = .ok (.iconst 0, 1) := dk_3 (dk_at dksX13_wisest_0 2 rfl rfl)
theorem dX13_wisest_3 : decode cX13_wisest 3 = .ok (.istore_n 2, 1) := dk_61 (dk_at dksX13_wisest_0 3 rfl rfl)
theorem dX13_wisest_4 : decode cX13_wisest 4 = .ok (.iload_n 2, 1) := dk_28 (dk_at dksX13_wisest_0 4 rfl rfl)
theorem dX13_wisest_5 : decode cX13_wisest 5 = .ok (.aload_n 0, 1) := dk_42 (dk_at dksX13_wisest_0 5 rfl rfl)
theorem dX13_wisest_6 : decode cX13_wisest 6 = .ok (.getfield 7, 3) := dk_180 0 7 (dk_at dksX13_wisest_0 6 rfl rfl)
theorem dX13_wisest_9 : decode cX13_wisest 9 = .ok (.iconst 0, 1) := dk_3 (dk_at dksX13_wisest_0 9 rfl rfl)
theorem dX13_wisest_10 : decode cX13_wisest 10 = .ok (.iaload, 1) := dk_46 (dk_at dksX13_wisest_0 10 rfl rfl)
theorem dX13_wisest_11 : decode cX13_wisest 11 = .ok (.if_icmp .ge 40, 3) := dk_162 0 40 (dk_at dksX13_wisest_0 11 rfl rfl)
theorem dX13_wisest_14 : decode cX13_wisest 14 = .ok (.iload_n 1, 1) := dk_27 (dk_at dksX13_wisest_0 14 rfl rfl)
theorem dX13_wisest_15 : decode cX13_wisest 15 = .ok (.ifCond .lt 24, 3) := dk_155 0 24 (dk_at dksX13_wisest_0 15 rfl rfl)
theorem dX13_wisest_18 : decode cX13_wisest 18 = .ok (.aload_n 0, 1) := dk_42 (dk_at dksX13_wisest_0 18 rfl rfl)
theorem dX13_wisest_19 : decode cX13_wisest 19 = .ok (.iload_n 2, 1) := dk_28 (dk_at dksX13_wisest_0 19 rfl rfl)
theorem dX13_wisest_20 : decode cX13_wisest 20 = .ok (.iconst 5, 1) := dk_8 (dk_at dksX13_wisest_0 20 rfl rfl)
theorem dX13_wisest_21 : decode cX13_wisest 21 = .ok (.invokevirtual 58, 3) := dk_182 0 58 (dk_at dksX13_wisest_0 21 rfl rfl)
theorem dX13_wisest_24 : decode cX13_wisest 24 = .ok (.invokestatic 84, 3) := dk_184 0 84 (dk_at dksX13_wisest_1 0 rfl rfl)
theorem dX13_wisest_27 : decode cX13_wisest 27 = .ok (.aload_n 0, 1) := dk_42 (dk_at dksX13_wisest_1 3 rfl rfl)
theorem dX13_wisest_28 : decode cX13_wisest 28 = .ok (.iload_n 1, 1) := dk_27 (dk_at dksX13_wisest_1 4 rfl rfl)
theorem dX13_wisest_29 : decode cX13_wisest 29 = .ok (.iconst 5, 1) := dk_8 (dk_at dksX13_wisest_1 5 rfl rfl)
theorem dX13_wisest_30 : decode cX13_wisest 30 = .ok (.invokevirtual 58, 3) := dk_182 0 58 (dk_at dksX13_wisest_1 6 rfl rfl)
theorem dX13_wisest_33 : decode cX13_wisest 33 = .ok (.invokestatic 84, 3) := dk_184 0 84 (dk_at dksX13_wisest_1 9 rfl rfl)
theorem dX13_wisest_36 : decode cX13_wisest 36 = .ok (.if_icmp .le 7, 3) := dk_164 0 7 (dk_at dksX13_wisest_1 12 rfl rfl)
theorem dX13_wisest_39 : decode cX13_wisest 39 = .ok (.iload_n 2, 1) := dk_28 (dk_at dksX13_wisest_1 15 rfl rfl)
theorem dX13_wisest_40 : decode cX13_wisest 40 = .ok (.goto 4, 3) := dk_167 0 4 (dk_at dksX13_wisest_1 16 rfl rfl)
theorem dX13_wisest_43 : decode cX13_wisest 43 = .ok (.iload_n 1, 1) := dk_27 (dk_at dksX13_wisest_1 19 rfl rfl)
theorem dX13_wisest_44 : decode cX13_wisest 44 = .ok (.istore_n 1, 1) := dk_60 (dk_at dksX13_wisest_1 20 rfl rfl)
theorem dX13_wisest_45 : decode cX13_wisest 45 = .ok (.iinc 2 1, 3) := dk_132 2 1 (dk_at dksX13_wisest_1 21 rfl rfl)
theorem dX13_wisest_48 : decode cX13_wisest 48 = .ok (.goto (-44), 3) := dk_167 255 212 (dk_at dksX13_wisest_2 0 rfl rfl)
theorem dX13_wisest_51 : decode cX13_wisest 51 = .ok (.iload_n 1, 1) := dk_27 (dk_at dksX13_wisest_2 3 rfl rfl)
theorem dX13_wisest_52 : decode cX13_wisest 52 = .ok (.ireturn, 1) := dk_172 (dk_at dksX13_wisest_2 4 rfl rfl)
abbrev cX13_ahead : ByteArray := prog_16_method_47_code
def yX13_ahead : MethodName := ⟨RX13, "ahead", "(III)I"⟩
def dkwX13_ahead_3 : List UInt8 := [172]
abbrev dktX13_ahead_3 : List UInt8 := dkwX13_ahead_3 ++ []
def dkwX13_ahead_2 : List UInt8 := [180, 0, 7, 42, 180, 0, 16, 184, 0, 167, 42, 29, 16, 9, 16, 8, 28, 104, 96, 27, 96, 182, 0, 173]
abbrev dktX13_ahead_2 : List UInt8 := dkwX13_ahead_2 ++ dktX13_ahead_3
def dkwX13_ahead_1 : List UInt8 := [159, 0, 15, 29, 133, 9, 20, 0, 171, 184, 0, 42, 154, 0, 9, 42, 3, 182, 0, 128, 172, 42]
abbrev dktX13_ahead_1 : List UInt8 := dkwX13_ahead_1 ++ dktX13_ahead_2
def dkwX13_ahead_0 : List UInt8 := [42, 27, 182, 0, 138, 153, 0, 32, 28, 133, 10, 20, 0, 133, 184, 0, 42, 153, 0, 20, 28, 5]
abbrev dktX13_ahead_0 : List UInt8 := dkwX13_ahead_0 ++ dktX13_ahead_1
theorem dksX13_ahead_0 : cX13_ahead.data.toList.drop 0 = dktX13_ahead_0 := by decide +kernel
theorem dksX13_ahead_1 : cX13_ahead.data.toList.drop 22 = dktX13_ahead_1 := dk_seg dksX13_ahead_0 22 rfl rfl
theorem dksX13_ahead_2 : cX13_ahead.data.toList.drop 44 = dktX13_ahead_2 := dk_seg dksX13_ahead_1 22 rfl rfl
theorem dksX13_ahead_3 : cX13_ahead.data.toList.drop 68 = dktX13_ahead_3 := dk_seg dksX13_ahead_2 24 rfl rfl
theorem dX13_ahead_0 : decode cX13_ahead 0 = .ok (.aload_n 0, 1) := dk_42 (dk_at dksX13_ahead_0 0 rfl rfl)
theorem dX13_ahead_1 : decode cX13_ahead 1 = .ok (.iload_n 1, 1) := dk_27 (dk_at dksX13_ahead_0 1 rfl rfl)
theorem dX13_ahead_2 : decode cX13_ahead 2 = .ok (.invokevirtual 138, 3) := dk_182 0 138 (dk_at dksX13_ahead_0 2 rfl rfl)
theorem dX13_ahead_5 : decode cX13_ahead 5 = .ok (.ifCond .eq 32, 3) := dk_153 0 32 (dk_at dksX13_ahead_0 5 rfl rfl)
theorem dX13_ahead_8 : decode cX13_ahead 8 = .ok (.iload_n 2, 1) := dk_28 (dk_at dksX13_ahead_0 8 rfl rfl)
theorem dX13_ahead_9 : decode cX13_ahead 9 = .ok (.i2l, 1) := dk_133 (dk_at dksX13_ahead_0 9 rfl rfl)
theorem dX13_ahead_10 : decode cX13_ahead 10 = .ok (.lconst 1, 1) := dk_10 (dk_at dksX13_ahead_0 10 rfl rfl)
theorem dX13_ahead_11 : decode cX13_ahead 11 = .ok (.ldc2_w 133, 3) := dk_20 0 133 (dk_at dksX13_ahead_0 11 rfl rfl)
theorem dX13_ahead_14 : decode cX13_ahead 14 = .ok (.invokestatic 42, 3) := dk_184 0 42 (dk_at dksX13_ahead_0 14 rfl rfl)
theorem dX13_ahead_17 : decode cX13_ahead 17 = .ok (.ifCond .eq 20, 3) := dk_153 0 20 (dk_at dksX13_ahead_0 17 rfl rfl)
theorem dX13_ahead_20 : decode cX13_ahead 20 = .ok (.iload_n 2, 1) := dk_28 (dk_at dksX13_ahead_0 20 rfl rfl)
theorem dX13_ahead_21 : decode cX13_ahead 21 = .ok (.iconst 2, 1) := dk_5 (dk_at dksX13_ahead_0 21 rfl rfl)
theorem dX13_ahead_22 : decode cX13_ahead 22 = .ok (.if_icmp .eq 15, 3) := dk_159 0 15 (dk_at dksX13_ahead_1 0 rfl rfl)
theorem dX13_ahead_25 : decode cX13_ahead 25 = .ok (.iload_n 3, 1) := dk_29 (dk_at dksX13_ahead_1 3 rfl rfl)
theorem dX13_ahead_26 : decode cX13_ahead 26 = .ok (.i2l, 1) := dk_133 (dk_at dksX13_ahead_1 4 rfl rfl)
theorem dX13_ahead_27 : decode cX13_ahead 27 = .ok (.lconst 0, 1) := dk_9 (dk_at dksX13_ahead_1 5 rfl rfl)
theorem dX13_ahead_28 : decode cX13_ahead 28 = .ok (.ldc2_w 171, 3) := dk_20 0 171 (dk_at dksX13_ahead_1 6 rfl rfl)
theorem dX13_ahead_31 : decode cX13_ahead 31 = .ok (.invokestatic 42, 3) := dk_184 0 42 (dk_at dksX13_ahead_1 9 rfl rfl)
theorem dX13_ahead_34 : decode cX13_ahead 34 = .ok (.ifCond .ne 9, 3) := dk_154 0 9 (dk_at dksX13_ahead_1 12 rfl rfl)
theorem dX13_ahead_37 : decode cX13_ahead 37 = .ok (.aload_n 0, 1) := dk_42 (dk_at dksX13_ahead_1 15 rfl rfl)
theorem dX13_ahead_38 : decode cX13_ahead 38 = .ok (.iconst 0, 1) := dk_3 (dk_at dksX13_ahead_1 16 rfl rfl)
theorem dX13_ahead_39 : decode cX13_ahead 39 = .ok (.invokevirtual 128, 3) := dk_182 0 128 (dk_at dksX13_ahead_1 17 rfl rfl)
theorem dX13_ahead_42 : decode cX13_ahead 42 = .ok (.ireturn, 1) := dk_172 (dk_at dksX13_ahead_1 20 rfl rfl)
theorem dX13_ahead_43 : decode cX13_ahead 43 = .ok (.aload_n 0, 1) := dk_42 (dk_at dksX13_ahead_1 21 rfl rfl)
theorem dX13_ahead_44 : decode cX13_ahead 44 = .ok (.getfield 7, 3) := dk_180 0 7 (dk_at dksX13_ahead_2 0 rfl rfl)
theorem dX13_ahead_47 : decode cX13_ahead 47 = .ok (.aload_n 0, 1) := dk_42 (dk_at dksX13_ahead_2 3 rfl rfl)
theorem dX13_ahead_48 : decode cX13_ahead 48 = .ok (.getfield 16, 3) := dk_180 0 16 (dk_at dksX13_ahead_2 4 rfl rfl)
theorem dX13_ahead_51 : decode cX13_ahead 51 = .ok (.invokestatic 167, 3) := dk_184 0 167 (dk_at dksX13_ahead_2 7 rfl rfl)
theorem dX13_ahead_54 : decode cX13_ahead 54 = .ok (.aload_n 0, 1) := dk_42 (dk_at dksX13_ahead_2 10 rfl rfl)
theorem dX13_ahead_55 : decode cX13_ahead 55 = .ok (.iload_n 3, 1) := dk_29 (dk_at dksX13_ahead_2 11 rfl rfl)
theorem dX13_ahead_56 : decode cX13_ahead 56 = .ok (.bipush 9, 2) := dk_16 9 (dk_at dksX13_ahead_2 12 rfl rfl)
theorem dX13_ahead_58 : decode cX13_ahead 58 = .ok (.bipush 8, 2) := dk_16 8 (dk_at dksX13_ahead_2 14 rfl rfl)
theorem dX13_ahead_60 : decode cX13_ahead 60 = .ok (.iload_n 2, 1) := dk_28 (dk_at dksX13_ahead_2 16 rfl rfl)
theorem dX13_ahead_61 : decode cX13_ahead 61 = .ok (.imul, 1) := dk_104 (dk_at dksX13_ahead_2 17 rfl rfl)
theorem dX13_ahead_62 : decode cX13_ahead 62 = .ok (.iadd, 1) := dk_96 (dk_at dksX13_ahead_2 18 rfl rfl)
theorem dX13_ahead_63 : decode cX13_ahead 63 = .ok (.iload_n 1, 1) := dk_27 (dk_at dksX13_ahead_2 19 rfl rfl)
theorem dX13_ahead_64 : decode cX13_ahead 64 = .ok (.iadd, 1) := dk_96 (dk_at dksX13_ahead_2 20 rfl rfl)
theorem dX13_ahead_65 : decode cX13_ahead 65 = .ok (.invokevirtual 173, 3) := dk_182 0 173 (dk_at dksX13_ahead_2 21 rfl rfl)
theorem dX13_ahead_68 : decode cX13_ahead 68 = .ok (.ireturn, 1) := dk_172 (dk_at dksX13_ahead_3 0 rfl rfl)
abbrev cX13_copies : ByteArray := prog_16_method_6_code
def yX13_copies : MethodName := ⟨RX13, "copies", "([I[I)V"⟩
def dkwX13_copies_0 : List UInt8 := [3, 61, 28, 16, 75, 162, 0, 15, 43, 28, 42, 28, 46, 79, 132, 2, 1, 167, 255, 241, 177]
abbrev dktX13_copies_0 : List UInt8 := dkwX13_copies_0 ++ []
theorem dksX13_copies_0 : cX13_copies.data.toList.drop 0 = dktX13_copies_0 := by decide +kernel
theorem dX13_copies_0 : decode cX13_copies 0 = .ok (.iconst 0, 1) := dk_3 (dk_at dksX13_copies_0 0 rfl rfl)
theorem dX13_copies_1 : decode cX13_copies 1 = .ok (.istore_n 2, 1) := dk_61 (dk_at dksX13_copies_0 1 rfl rfl)
theorem dX13_copies_2 : decode cX13_copies 2 = .ok (.iload_n 2, 1) := dk_28 (dk_at dksX13_copies_0 2 rfl rfl)
theorem dX13_copies_3 : decode cX13_copies 3 = .ok (.bipush 75, 2) := dk_16 75 (dk_at dksX13_copies_0 3 rfl rfl)
theorem dX13_copies_5 : decode cX13_copies 5 = .ok (.if_icmp .ge 15, 3) := dk_162 0 15 (dk_at dksX13_copies_0 5 rfl rfl)
theorem dX13_copies_8 : decode cX13_copies 8 = .ok (.aload_n 1, 1) := dk_43 (dk_at dksX13_copies_0 8 rfl rfl)
theorem dX13_copies_9 : decode cX13_copies 9 = .ok (.iload_n 2, 1) := dk_28 (dk_at dksX13_copies_0 9 rfl rfl)
theorem dX13_copies_10 : decode cX13_copies 10 = .ok (.aload_n 0, 1) := dk_42 (dk_at dksX13_copies_0 10 rfl rfl)
theorem dX13_copies_11 : decode cX13_copies 11 = .ok (.iload_n 2, 1) := dk_28 (dk_at dksX13_copies_0 11 rfl rfl)
theorem dX13_copies_12 : decode cX13_copies 12 = .ok (.iaload, 1) := dk_46 (dk_at dksX13_copies_0 12 rfl rfl)
theorem dX13_copies_13 : decode cX13_copies 13 = .ok (.iastore, 1) := dk_79 (dk_at dksX13_copies_0 13 rfl rfl)
theorem dX13_copies_14 : decode cX13_copies 14 = .ok (.iinc 2 1, 3) := dk_132 2 1 (dk_at dksX13_copies_0 14 rfl rfl)
theorem dX13_copies_17 : decode cX13_copies 17 = .ok (.goto (-15), 3) := dk_167 255 241 (dk_at dksX13_copies_0 17 rfl rfl)
theorem dX13_copies_20 : decode cX13_copies 20 = .ok (.return_, 1) := dk_177 (dk_at dksX13_copies_0 20 rfl rfl)
abbrev cX13_behind : ByteArray := prog_16_method_46_code
def yX13_behind : MethodName := ⟨RX13, "behind", "(II)I"⟩
def dkwX13_behind_1 : List UInt8 := [172]
abbrev dktX13_behind_1 : List UInt8 := dkwX13_behind_1 ++ []
def dkwX13_behind_0 : List UInt8 := [42, 27, 182, 0, 152, 42, 180, 0, 7, 28, 46, 62, 42, 180, 0, 16, 42, 180, 0, 7, 184, 0, 167, 29]
abbrev dktX13_behind_0 : List UInt8 := dkwX13_behind_0 ++ dktX13_behind_1
theorem dksX13_behind_0 : cX13_behind.data.toList.drop 0 = dktX13_behind_0 := by decide +kernel
theorem dksX13_behind_1 : cX13_behind.data.toList.drop 24 = dktX13_behind_1 := dk_seg dksX13_behind_0 24 rfl rfl
theorem dX13_behind_0 : decode cX13_behind 0 = .ok (.aload_n 0, 1) := dk_42 (dk_at dksX13_behind_0 0 rfl rfl)
theorem dX13_behind_1 : decode cX13_behind 1 = .ok (.iload_n 1, 1) := dk_27 (dk_at dksX13_behind_0 1 rfl rfl)
theorem dX13_behind_2 : decode cX13_behind 2 = .ok (.invokevirtual 152, 3) := dk_182 0 152 (dk_at dksX13_behind_0 2 rfl rfl)
theorem dX13_behind_5 : decode cX13_behind 5 = .ok (.aload_n 0, 1) := dk_42 (dk_at dksX13_behind_0 5 rfl rfl)
theorem dX13_behind_6 : decode cX13_behind 6 = .ok (.getfield 7, 3) := dk_180 0 7 (dk_at dksX13_behind_0 6 rfl rfl)
theorem dX13_behind_9 : decode cX13_behind 9 = .ok (.iload_n 2, 1) := dk_28 (dk_at dksX13_behind_0 9 rfl rfl)
theorem dX13_behind_10 : decode cX13_behind 10 = .ok (.iaload, 1) := dk_46 (dk_at dksX13_behind_0 10 rfl rfl)
theorem dX13_behind_11 : decode cX13_behind 11 = .ok (.istore_n 3, 1) := dk_62 (dk_at dksX13_behind_0 11 rfl rfl)
theorem dX13_behind_12 : decode cX13_behind 12 = .ok (.aload_n 0, 1) := dk_42 (dk_at dksX13_behind_0 12 rfl rfl)
theorem dX13_behind_13 : decode cX13_behind 13 = .ok (.getfield 16, 3) := dk_180 0 16 (dk_at dksX13_behind_0 13 rfl rfl)
theorem dX13_behind_16 : decode cX13_behind 16 = .ok (.aload_n 0, 1) := dk_42 (dk_at dksX13_behind_0 16 rfl rfl)
theorem dX13_behind_17 : decode cX13_behind 17 = .ok (.getfield 7, 3) := dk_180 0 7 (dk_at dksX13_behind_0 17 rfl rfl)
theorem dX13_behind_20 : decode cX13_behind 20 = .ok (.invokestatic 167, 3) := dk_184 0 167 (dk_at dksX13_behind_0 20 rfl rfl)
theorem dX13_behind_23 : decode cX13_behind 23 = .ok (.iload_n 3, 1) := dk_29 (dk_at dksX13_behind_0 23 rfl rfl)
theorem dX13_behind_24 : decode cX13_behind 24 = .ok (.ireturn, 1) := dk_172 (dk_at dksX13_behind_1 0 rfl rfl)
abbrev cX13_hears : ByteArray := prog_16_method_48_code
def yX13_hears : MethodName := ⟨RX13, "hears", "(II)I"⟩
def dkwX13_hears_4 : List UInt8 := [180, 0, 7, 184, 0, 167, 21, 4, 153, 0, 7, 29, 167, 0, 8, 42, 6, 182, 0, 128, 172]
abbrev dktX13_hears_4 : List UInt8 := dkwX13_hears_4 ++ []
def dkwX13_hears_3 : List UInt8 := [182, 0, 58, 28, 122, 4, 126, 4, 160, 0, 7, 4, 167, 0, 4, 3, 54, 4, 42, 180, 0, 16, 42]
abbrev dktX13_hears_3 : List UInt8 := dkwX13_hears_3 ++ dktX13_hears_4
def dkwX13_hears_2 : List UInt8 := [182, 0, 58, 28, 122, 4, 126, 154, 0, 13, 42, 182, 0, 113, 132, 3, 1, 167, 255, 229, 42, 27, 6]
abbrev dktX13_hears_2 : List UInt8 := dkwX13_hears_2 ++ dktX13_hears_3
def dkwX13_hears_1 : List UInt8 := [180, 0, 7, 42, 180, 0, 16, 184, 0, 167, 3, 62, 29, 17, 0, 200, 162, 0, 26, 42, 27, 6]
abbrev dktX13_hears_1 : List UInt8 := dkwX13_hears_1 ++ dktX13_hears_2
def dkwX13_hears_0 : List UInt8 := [42, 27, 182, 0, 138, 153, 0, 10, 28, 184, 0, 147, 154, 0, 9, 42, 3, 182, 0, 128, 172, 42]
abbrev dktX13_hears_0 : List UInt8 := dkwX13_hears_0 ++ dktX13_hears_1
theorem dksX13_hears_0 : cX13_hears.data.toList.drop 0 = dktX13_hears_0 := by decide +kernel
theorem dksX13_hears_1 : cX13_hears.data.toList.drop 22 = dktX13_hears_1 := dk_seg dksX13_hears_0 22 rfl rfl
theorem dksX13_hears_2 : cX13_hears.data.toList.drop 44 = dktX13_hears_2 := dk_seg dksX13_hears_1 22 rfl rfl
theorem dksX13_hears_3 : cX13_hears.data.toList.drop 67 = dktX13_hears_3 := dk_seg dksX13_hears_2 23 rfl rfl
theorem dksX13_hears_4 : cX13_hears.data.toList.drop 90 = dktX13_hears_4 := dk_seg dksX13_hears_3 23 rfl rfl
theorem dX13_hears_0 : decode cX13_hears 0 = .ok (.aload_n 0, 1) := dk_42 (dk_at dksX13_hears_0 0 rfl rfl)
theorem dX13_hears_1 : decode cX13_hears 1 = .ok (.iload_n 1, 1) := dk_27 (dk_at dksX13_hears_0 1 rfl rfl)
theorem dX13_hears_2 : decode cX13_hears 2 = .ok (.invokevirtual 138, 3) := dk_182 0 138 (dk_at dksX13_hears_0 2 rfl rfl)
theorem dX13_hears_5 : decode cX13_hears 5 = .ok (.ifCond .eq 10, 3) := dk_153 0 10 (dk_at dksX13_hears_0 5 rfl rfl)
theorem dX13_hears_8 : decode cX13_hears 8 = .ok (.iload_n 2, 1) := dk_28 (dk_at dksX13_hears_0 8 rfl rfl)
theorem dX13_hears_9 : decode cX13_hears 9 = .ok (.invokestatic 147, 3) := dk_184 0 147 (dk_at dksX13_hears_0 9 rfl rfl)
theorem dX13_hears_12 : decode cX13_hears 12 = .ok (.ifCond .ne 9, 3) := dk_154 0 9 (dk_at dksX13_hears_0 12 rfl rfl)
theorem dX13_hears_15 : decode cX13_hears 15 = .ok (.aload_n 0, 1) := dk_42 (dk_at dksX13_hears_0 15 rfl rfl)
theorem dX13_hears_16 : decode cX13_hears 16 = .ok (.iconst 0, 1) := dk_3 (dk_at dksX13_hears_0 16 rfl rfl)
theorem dX13_hears_17 : decode cX13_hears 17 = .ok (.invokevirtual 128, 3) := dk_182 0 128 (dk_at dksX13_hears_0 17 rfl rfl)
theorem dX13_hears_20 : decode cX13_hears 20 = .ok (.ireturn, 1) := dk_172 (dk_at dksX13_hears_0 20 rfl rfl)
theorem dX13_hears_21 : decode cX13_hears 21 = .ok (.aload_n 0, 1) := dk_42 (dk_at dksX13_hears_0 21 rfl rfl)
theorem dX13_hears_22 : decode cX13_hears 22 = .ok (.getfield 7, 3) := dk_180 0 7 (dk_at dksX13_hears_1 0 rfl rfl)
theorem dX13_hears_25 : decode cX13_hears 25 = .ok (.aload_n 0, 1) := dk_42 (dk_at dksX13_hears_1 3 rfl rfl)
theorem dX13_hears_26 : decode cX13_hears 26 = .ok (.getfield 16, 3) := dk_180 0 16 (dk_at dksX13_hears_1 4 rfl rfl)
theorem dX13_hears_29 : decode cX13_hears 29 = .ok (.invokestatic 167, 3) := dk_184 0 167 (dk_at dksX13_hears_1 7 rfl rfl)
theorem dX13_hears_32 : decode cX13_hears 32 = .ok (.iconst 0, 1) := dk_3 (dk_at dksX13_hears_1 10 rfl rfl)
theorem dX13_hears_33 : decode cX13_hears 33 = .ok (.istore_n 3, 1) := dk_62 (dk_at dksX13_hears_1 11 rfl rfl)
theorem dX13_hears_34 : decode cX13_hears 34 = .ok (.iload_n 3, 1) := dk_29 (dk_at dksX13_hears_1 12 rfl rfl)
theorem dX13_hears_35 : decode cX13_hears 35 = .ok (.sipush 200, 3) := dk_17 0 200 (dk_at dksX13_hears_1 13 rfl rfl)
theorem dX13_hears_38 : decode cX13_hears 38 = .ok (.if_icmp .ge 26, 3) := dk_162 0 26 (dk_at dksX13_hears_1 16 rfl rfl)
theorem dX13_hears_41 : decode cX13_hears 41 = .ok (.aload_n 0, 1) := dk_42 (dk_at dksX13_hears_1 19 rfl rfl)
theorem dX13_hears_42 : decode cX13_hears 42 = .ok (.iload_n 1, 1) := dk_27 (dk_at dksX13_hears_1 20 rfl rfl)
theorem dX13_hears_43 : decode cX13_hears 43 = .ok (.iconst 3, 1) := dk_6 (dk_at dksX13_hears_1 21 rfl rfl)
theorem dX13_hears_44 : decode cX13_hears 44 = .ok (.invokevirtual 58, 3) := dk_182 0 58 (dk_at dksX13_hears_2 0 rfl rfl)
theorem dX13_hears_47 : decode cX13_hears 47 = .ok (.iload_n 2, 1) := dk_28 (dk_at dksX13_hears_2 3 rfl rfl)
theorem dX13_hears_48 : decode cX13_hears 48 = .ok (.ishr, 1) := dk_122 (dk_at dksX13_hears_2 4 rfl rfl)
theorem dX13_hears_49 : decode cX13_hears 49 = .ok (.iconst 1, 1) := dk_4 (dk_at dksX13_hears_2 5 rfl rfl)
theorem dX13_hears_50 : decode cX13_hears 50 = .ok (.iand, 1) := dk_126 (dk_at dksX13_hears_2 6 rfl rfl)
theorem dX13_hears_51 : decode cX13_hears 51 = .ok (.ifCond .ne 13, 3) := dk_154 0 13 (dk_at dksX13_hears_2 7 rfl rfl)
theorem dX13_hears_54 : decode cX13_hears 54 = .ok (.aload_n 0, 1) := dk_42 (dk_at dksX13_hears_2 10 rfl rfl)
theorem dX13_hears_55 : decode cX13_hears 55 = .ok (.invokevirtual 113, 3) := dk_182 0 113 (dk_at dksX13_hears_2 11 rfl rfl)
theorem dX13_hears_58 : decode cX13_hears 58 = .ok (.iinc 3 1, 3) := dk_132 3 1 (dk_at dksX13_hears_2 14 rfl rfl)
theorem dX13_hears_61 : decode cX13_hears 61 = .ok (.goto (-27), 3) := dk_167 255 229 (dk_at dksX13_hears_2 17 rfl rfl)
theorem dX13_hears_64 : decode cX13_hears 64 = .ok (.aload_n 0, 1) := dk_42 (dk_at dksX13_hears_2 20 rfl rfl)
theorem dX13_hears_65 : decode cX13_hears 65 = .ok (.iload_n 1, 1) := dk_27 (dk_at dksX13_hears_2 21 rfl rfl)
theorem dX13_hears_66 : decode cX13_hears 66 = .ok (.iconst 3, 1) := dk_6 (dk_at dksX13_hears_2 22 rfl rfl)
theorem dX13_hears_67 : decode cX13_hears 67 = .ok (.invokevirtual 58, 3) := dk_182 0 58 (dk_at dksX13_hears_3 0 rfl rfl)
theorem dX13_hears_70 : decode cX13_hears 70 = .ok (.iload_n 2, 1) := dk_28 (dk_at dksX13_hears_3 3 rfl rfl)
theorem dX13_hears_71 : decode cX13_hears 71 = .ok (.ishr, 1) := dk_122 (dk_at dksX13_hears_3 4 rfl rfl)
theorem dX13_hears_72 : decode cX13_hears 72 = .ok (.iconst 1, 1) := dk_4 (dk_at dksX13_hears_3 5 rfl rfl)
theorem dX13_hears_73 : decode cX13_hears 73 = .ok (.iand, 1) := dk_126 (dk_at dksX13_hears_3 6 rfl rfl)
theorem dX13_hears_74 : decode cX13_hears 74 = .ok (.iconst 1, 1) := dk_4 (dk_at dksX13_hears_3 7 rfl rfl)
theorem dX13_hears_75 : decode cX13_hears 75 = .ok (.if_icmp .ne 7, 3) := dk_160 0 7 (dk_at dksX13_hears_3 8 rfl rfl)
theorem dX13_hears_78 : decode cX13_hears 78 = .ok (.iconst 1, 1) := dk_4 (dk_at dksX13_hears_3 11 rfl rfl)
theorem dX13_hears_79 : decode cX13_hears 79 = .ok (.goto 4, 3) := dk_167 0 4 (dk_at dksX13_hears_3 12 rfl rfl)
theorem dX13_hears_82 : decode cX13_hears 82 = .ok (.iconst 0, 1) := dk_3 (dk_at dksX13_hears_3 15 rfl rfl)
theorem dX13_hears_83 : decode cX13_hears 83 = .ok (.istore 4, 2) := dk_54 4 (dk_at dksX13_hears_3 16 rfl rfl)
theorem dX13_hears_85 : decode cX13_hears 85 = .ok (.aload_n 0, 1) := dk_42 (dk_at dksX13_hears_3 18 rfl rfl)
theorem dX13_hears_86 : decode cX13_hears 86 = .ok (.getfield 16, 3) := dk_180 0 16 (dk_at dksX13_hears_3 19 rfl rfl)
theorem dX13_hears_89 : decode cX13_hears 89 = .ok (.aload_n 0, 1) := dk_42 (dk_at dksX13_hears_3 22 rfl rfl)
theorem dX13_hears_90 : decode cX13_hears 90 = .ok (.getfield 7, 3) := dk_180 0 7 (dk_at dksX13_hears_4 0 rfl rfl)
theorem dX13_hears_93 : decode cX13_hears 93 = .ok (.invokestatic 167, 3) := dk_184 0 167 (dk_at dksX13_hears_4 3 rfl rfl)
theorem dX13_hears_96 : decode cX13_hears 96 = .ok (.iload 4, 2) := dk_21 4 (dk_at dksX13_hears_4 6 rfl rfl)
theorem dX13_hears_98 : decode cX13_hears 98 = .ok (.ifCond .eq 7, 3) := dk_153 0 7 (dk_at dksX13_hears_4 8 rfl rfl)
theorem dX13_hears_101 : decode cX13_hears 101 = .ok (.iload_n 3, 1) := dk_29 (dk_at dksX13_hears_4 11 rfl rfl)
theorem dX13_hears_102 : decode cX13_hears 102 = .ok (.goto 8, 3) := dk_167 0 8 (dk_at dksX13_hears_4 12 rfl rfl)
theorem dX13_hears_105 : decode cX13_hears 105 = .ok (.aload_n 0, 1) := dk_42 (dk_at dksX13_hears_4 15 rfl rfl)
theorem dX13_hears_106 : decode cX13_hears 106 = .ok (.iconst 3, 1) := dk_6 (dk_at dksX13_hears_4 16 rfl rfl)
theorem dX13_hears_107 : decode cX13_hears 107 = .ok (.invokevirtual 128, 3) := dk_182 0 128 (dk_at dksX13_hears_4 17 rfl rfl)
theorem dX13_hears_110 : decode cX13_hears 110 = .ok (.ireturn, 1) := dk_172 (dk_at dksX13_hears_4 20 rfl rfl)
abbrev cX13_wise : ByteArray := prog_16_method_49_code
def yX13_wise : MethodName := ⟨RX13, "wise", "(II)I"⟩
def dkwX13_wise_4 : List UInt8 := [180, 0, 7, 184, 0, 167, 21, 4, 153, 0, 7, 29, 167, 0, 8, 42, 6, 182, 0, 128, 172]
abbrev dktX13_wise_4 : List UInt8 := dkwX13_wise_4 ++ []
def dkwX13_wise_3 : List UInt8 := [27, 8, 182, 0, 58, 184, 0, 84, 28, 161, 0, 7, 4, 167, 0, 4, 3, 54, 4, 42, 180, 0, 16, 42]
abbrev dktX13_wise_3 : List UInt8 := dkwX13_wise_3 ++ dktX13_wise_4
def dkwX13_wise_2 : List UInt8 := [42, 27, 8, 182, 0, 58, 184, 0, 84, 28, 162, 0, 13, 42, 182, 0, 113, 132, 3, 1, 167, 255, 229, 42]
abbrev dktX13_wise_2 : List UInt8 := dkwX13_wise_2 ++ dktX13_wise_3
def dkwX13_wise_1 : List UInt8 := [182, 0, 128, 172, 42, 180, 0, 7, 42, 180, 0, 16, 184, 0, 167, 3, 62, 29, 17, 0, 200, 162, 0, 26]
abbrev dktX13_wise_1 : List UInt8 := dkwX13_wise_1 ++ dktX13_wise_2
def dkwX13_wise_0 : List UInt8 := [42, 27, 182, 0, 138, 153, 0, 15, 28, 133, 9, 20, 0, 176, 184, 0, 42, 154, 0, 9, 42, 3]
abbrev dktX13_wise_0 : List UInt8 := dkwX13_wise_0 ++ dktX13_wise_1
theorem dksX13_wise_0 : cX13_wise.data.toList.drop 0 = dktX13_wise_0 := by decide +kernel
theorem dksX13_wise_1 : cX13_wise.data.toList.drop 22 = dktX13_wise_1 := dk_seg dksX13_wise_0 22 rfl rfl
theorem dksX13_wise_2 : cX13_wise.data.toList.drop 46 = dktX13_wise_2 := dk_seg dksX13_wise_1 24 rfl rfl
theorem dksX13_wise_3 : cX13_wise.data.toList.drop 70 = dktX13_wise_3 := dk_seg dksX13_wise_2 24 rfl rfl
theorem dksX13_wise_4 : cX13_wise.data.toList.drop 94 = dktX13_wise_4 := dk_seg dksX13_wise_3 24 rfl rfl
theorem dX13_wise_0 : decode cX13_wise 0 = .ok (.aload_n 0, 1) := dk_42 (dk_at dksX13_wise_0 0 rfl rfl)
theorem dX13_wise_1 : decode cX13_wise 1 = .ok (.iload_n 1, 1) := dk_27 (dk_at dksX13_wise_0 1 rfl rfl)
theorem dX13_wise_2 : decode cX13_wise 2 = .ok (.invokevirtual 138, 3) := dk_182 0 138 (dk_at dksX13_wise_0 2 rfl rfl)
theorem dX13_wise_5 : decode cX13_wise 5 = .ok (.ifCond .eq 15, 3) := dk_153 0 15 (dk_at dksX13_wise_0 5 rfl rfl)
theorem dX13_wise_8 : decode cX13_wise 8 = .ok (.iload_n 2, 1) := dk_28 (dk_at dksX13_wise_0 8 rfl rfl)
theorem dX13_wise_9 : decode cX13_wise 9 = .ok (.i2l, 1) := dk_133 (dk_at dksX13_wise_0 9 rfl rfl)
theorem dX13_wise_10 : decode cX13_wise 10 = .ok (.lconst 0, 1) := dk_9 (dk_at dksX13_wise_0 10 rfl rfl)
theorem dX13_wise_11 : decode cX13_wise 11 = .ok (.ldc2_w 176, 3) := dk_20 0 176 (dk_at dksX13_wise_0 11 rfl rfl)
theorem dX13_wise_14 : decode cX13_wise 14 = .ok (.invokestatic 42, 3) := dk_184 0 42 (dk_at dksX13_wise_0 14 rfl rfl)
theorem dX13_wise_17 : decode cX13_wise 17 = .ok (.ifCond .ne 9, 3) := dk_154 0 9 (dk_at dksX13_wise_0 17 rfl rfl)
theorem dX13_wise_20 : decode cX13_wise 20 = .ok (.aload_n 0, 1) := dk_42 (dk_at dksX13_wise_0 20 rfl rfl)
theorem dX13_wise_21 : decode cX13_wise 21 = .ok (.iconst 0, 1) := dk_3 (dk_at dksX13_wise_0 21 rfl rfl)
theorem dX13_wise_22 : decode cX13_wise 22 = .ok (.invokevirtual 128, 3) := dk_182 0 128 (dk_at dksX13_wise_1 0 rfl rfl)
theorem dX13_wise_25 : decode cX13_wise 25 = .ok (.ireturn, 1) := dk_172 (dk_at dksX13_wise_1 3 rfl rfl)
theorem dX13_wise_26 : decode cX13_wise 26 = .ok (.aload_n 0, 1) := dk_42 (dk_at dksX13_wise_1 4 rfl rfl)
theorem dX13_wise_27 : decode cX13_wise 27 = .ok (.getfield 7, 3) := dk_180 0 7 (dk_at dksX13_wise_1 5 rfl rfl)
theorem dX13_wise_30 : decode cX13_wise 30 = .ok (.aload_n 0, 1) := dk_42 (dk_at dksX13_wise_1 8 rfl rfl)
theorem dX13_wise_31 : decode cX13_wise 31 = .ok (.getfield 16, 3) := dk_180 0 16 (dk_at dksX13_wise_1 9 rfl rfl)
theorem dX13_wise_34 : decode cX13_wise 34 = .ok (.invokestatic 167, 3) := dk_184 0 167 (dk_at dksX13_wise_1 12 rfl rfl)
theorem dX13_wise_37 : decode cX13_wise 37 = .ok (.iconst 0, 1) := dk_3 (dk_at dksX13_wise_1 15 rfl rfl)
theorem dX13_wise_38 : decode cX13_wise 38 = .ok (.istore_n 3, 1) := dk_62 (dk_at dksX13_wise_1 16 rfl rfl)
theorem dX13_wise_39 : decode cX13_wise 39 = .ok (.iload_n 3, 1) := dk_29 (dk_at dksX13_wise_1 17 rfl rfl)
theorem dX13_wise_40 : decode cX13_wise 40 = .ok (.sipush 200, 3) := dk_17 0 200 (dk_at dksX13_wise_1 18 rfl rfl)
theorem dX13_wise_43 : decode cX13_wise 43 = .ok (.if_icmp .ge 26, 3) := dk_162 0 26 (dk_at dksX13_wise_1 21 rfl rfl)
theorem dX13_wise_46 : decode cX13_wise 46 = .ok (.aload_n 0, 1) := dk_42 (dk_at dksX13_wise_2 0 rfl rfl)
theorem dX13_wise_47 : decode cX13_wise 47 = .ok (.iload_n 1, 1) := dk_27 (dk_at dksX13_wise_2 1 rfl rfl)
theorem dX13_wise_48 : decode cX13_wise 48 = .ok (.iconst 5, 1) := dk_8 (dk_at dksX13_wise_2 2 rfl rfl)
theorem dX13_wise_49 : decode cX13_wise 49 = .ok (.invokevirtual 58, 3) := dk_182 0 58 (dk_at dksX13_wise_2 3 rfl rfl)
theorem dX13_wise_52 : decode cX13_wise 52 = .ok (.invokestatic 84, 3) := dk_184 0 84 (dk_at dksX13_wise_2 6 rfl rfl)
theorem dX13_wise_55 : decode cX13_wise 55 = .ok (.iload_n 2, 1) := dk_28 (dk_at dksX13_wise_2 9 rfl rfl)
theorem dX13_wise_56 : decode cX13_wise 56 = .ok (.if_icmp .ge 13, 3) := dk_162 0 13 (dk_at dksX13_wise_2 10 rfl rfl)
theorem dX13_wise_59 : decode cX13_wise 59 = .ok (.aload_n 0, 1) := dk_42 (dk_at dksX13_wise_2 13 rfl rfl)
theorem dX13_wise_60 : decode cX13_wise 60 = .ok (.invokevirtual 113, 3) := dk_182 0 113 (dk_at dksX13_wise_2 14 rfl rfl)
theorem dX13_wise_63 : decode cX13_wise 63 = .ok (.iinc 3 1, 3) := dk_132 3 1 (dk_at dksX13_wise_2 17 rfl rfl)
theorem dX13_wise_66 : decode cX13_wise 66 = .ok (.goto (-27), 3) := dk_167 255 229 (dk_at dksX13_wise_2 20 rfl rfl)
theorem dX13_wise_69 : decode cX13_wise 69 = .ok (.aload_n 0, 1) := dk_42 (dk_at dksX13_wise_2 23 rfl rfl)
theorem dX13_wise_70 : decode cX13_wise 70 = .ok (.iload_n 1, 1) := dk_27 (dk_at dksX13_wise_3 0 rfl rfl)
theorem dX13_wise_71 : decode cX13_wise 71 = .ok (.iconst 5, 1) := dk_8 (dk_at dksX13_wise_3 1 rfl rfl)
theorem dX13_wise_72 : decode cX13_wise 72 = .ok (.invokevirtual 58, 3) := dk_182 0 58 (dk_at dksX13_wise_3 2 rfl rfl)
theorem dX13_wise_75 : decode cX13_wise 75 = .ok (.invokestatic 84, 3) := dk_184 0 84 (dk_at dksX13_wise_3 5 rfl rfl)
theorem dX13_wise_78 : decode cX13_wise 78 = .ok (.iload_n 2, 1) := dk_28 (dk_at dksX13_wise_3 8 rfl rfl)
theorem dX13_wise_79 : decode cX13_wise 79 = .ok (.if_icmp .lt 7, 3) := dk_161 0 7 (dk_at dksX13_wise_3 9 rfl rfl)
theorem dX13_wise_82 : decode cX13_wise 82 = .ok (.iconst 1, 1) := dk_4 (dk_at dksX13_wise_3 12 rfl rfl)
theorem dX13_wise_83 : decode cX13_wise 83 = .ok (.goto 4, 3) := dk_167 0 4 (dk_at dksX13_wise_3 13 rfl rfl)
theorem dX13_wise_86 : decode cX13_wise 86 = .ok (.iconst 0, 1) := dk_3 (dk_at dksX13_wise_3 16 rfl rfl)
theorem dX13_wise_87 : decode cX13_wise 87 = .ok (.istore 4, 2) := dk_54 4 (dk_at dksX13_wise_3 17 rfl rfl)
theorem dX13_wise_89 : decode cX13_wise 89 = .ok (.aload_n 0, 1) := dk_42 (dk_at dksX13_wise_3 19 rfl rfl)
theorem dX13_wise_90 : decode cX13_wise 90 = .ok (.getfield 16, 3) := dk_180 0 16 (dk_at dksX13_wise_3 20 rfl rfl)
theorem dX13_wise_93 : decode cX13_wise 93 = .ok (.aload_n 0, 1) := dk_42 (dk_at dksX13_wise_3 23 rfl rfl)
theorem dX13_wise_94 : decode cX13_wise 94 = .ok (.getfield 7, 3) := dk_180 0 7 (dk_at dksX13_wise_4 0 rfl rfl)
theorem dX13_wise_97 : decode cX13_wise 97 = .ok (.invokestatic 167, 3) := dk_184 0 167 (dk_at dksX13_wise_4 3 rfl rfl)
theorem dX13_wise_100 : decode cX13_wise 100 = .ok (.iload 4, 2) := dk_21 4 (dk_at dksX13_wise_4 6 rfl rfl)
theorem dX13_wise_102 : decode cX13_wise 102 = .ok (.ifCond .eq 7, 3) := dk_153 0 7 (dk_at dksX13_wise_4 8 rfl rfl)
theorem dX13_wise_105 : decode cX13_wise 105 = .ok (.iload_n 3, 1) := dk_29 (dk_at dksX13_wise_4 11 rfl rfl)
theorem dX13_wise_106 : decode cX13_wise 106 = .ok (.goto 8, 3) := dk_167 0 8 (dk_at dksX13_wise_4 12 rfl rfl)
theorem dX13_wise_109 : decode cX13_wise 109 = .ok (.aload_n 0, 1) := dk_42 (dk_at dksX13_wise_4 15 rfl rfl)
theorem dX13_wise_110 : decode cX13_wise 110 = .ok (.iconst 3, 1) := dk_6 (dk_at dksX13_wise_4 16 rfl rfl)
theorem dX13_wise_111 : decode cX13_wise 111 = .ok (.invokevirtual 128, 3) := dk_182 0 128 (dk_at dksX13_wise_4 17 rfl rfl)
theorem dX13_wise_114 : decode cX13_wise 114 = .ok (.ireturn, 1) := dk_172 (dk_at dksX13_wise_4 20 rfl rfl)
abbrev cX13_out : ByteArray := prog_16_method_51_code
def yX13_out : MethodName := ⟨RX13, "out", "(I)I"⟩
def dkwX13_out_3 : List UInt8 := [28, 167, 0, 8, 42, 6, 182, 0, 128, 172]
abbrev dktX13_out_3 : List UInt8 := dkwX13_out_3 ++ []
def dkwX13_out_2 : List UInt8 := [167, 255, 234, 42, 27, 182, 0, 181, 62, 42, 180, 0, 16, 42, 180, 0, 7, 184, 0, 167, 29, 153, 0, 7]
abbrev dktX13_out_2 : List UInt8 := dkwX13_out_2 ++ dktX13_out_3
def dkwX13_out_1 : List UInt8 := [3, 61, 28, 17, 0, 200, 162, 0, 21, 42, 27, 182, 0, 181, 154, 0, 13, 42, 182, 0, 113, 132, 2, 1]
abbrev dktX13_out_1 : List UInt8 := dkwX13_out_1 ++ dktX13_out_2
def dkwX13_out_0 : List UInt8 := [27, 184, 0, 178, 154, 0, 9, 42, 3, 182, 0, 128, 172, 42, 180, 0, 7, 42, 180, 0, 16, 184, 0, 167]
abbrev dktX13_out_0 : List UInt8 := dkwX13_out_0 ++ dktX13_out_1
theorem dksX13_out_0 : cX13_out.data.toList.drop 0 = dktX13_out_0 := by decide +kernel
theorem dksX13_out_1 : cX13_out.data.toList.drop 24 = dktX13_out_1 := dk_seg dksX13_out_0 24 rfl rfl
theorem dksX13_out_2 : cX13_out.data.toList.drop 48 = dktX13_out_2 := dk_seg dksX13_out_1 24 rfl rfl
theorem dksX13_out_3 : cX13_out.data.toList.drop 72 = dktX13_out_3 := dk_seg dksX13_out_2 24 rfl rfl
theorem dX13_out_0 : decode cX13_out 0 = .ok (.iload_n 1, 1) := dk_27 (dk_at dksX13_out_0 0 rfl rfl)
theorem dX13_out_1 : decode cX13_out 1 = .ok (.invokestatic 178, 3) := dk_184 0 178 (dk_at dksX13_out_0 1 rfl rfl)
theorem dX13_out_4 : decode cX13_out 4 = .ok (.ifCond .ne 9, 3) := dk_154 0 9 (dk_at dksX13_out_0 4 rfl rfl)
theorem dX13_out_7 : decode cX13_out 7 = .ok (.aload_n 0, 1) := dk_42 (dk_at dksX13_out_0 7 rfl rfl)
theorem dX13_out_8 : decode cX13_out 8 = .ok (.iconst 0, 1) := dk_3 (dk_at dksX13_out_0 8 rfl rfl)
theorem dX13_out_9 : decode cX13_out 9 = .ok (.invokevirtual 128, 3) := dk_182 0 128 (dk_at dksX13_out_0 9 rfl rfl)
theorem dX13_out_12 : decode cX13_out 12 = .ok (.ireturn, 1) := dk_172 (dk_at dksX13_out_0 12 rfl rfl)
theorem dX13_out_13 : decode cX13_out 13 = .ok (.aload_n 0, 1) := dk_42 (dk_at dksX13_out_0 13 rfl rfl)
theorem dX13_out_14 : decode cX13_out 14 = .ok (.getfield 7, 3) := dk_180 0 7 (dk_at dksX13_out_0 14 rfl rfl)
theorem dX13_out_17 : decode cX13_out 17 = .ok (.aload_n 0, 1) := dk_42 (dk_at dksX13_out_0 17 rfl rfl)
theorem dX13_out_18 : decode cX13_out 18 = .ok (.getfield 16, 3) := dk_180 0 16 (dk_at dksX13_out_0 18 rfl rfl)
theorem dX13_out_21 : decode cX13_out 21 = .ok (.invokestatic 167, 3) := dk_184 0 167 (dk_at dksX13_out_0 21 rfl rfl)
theorem dX13_out_24 : decode cX13_out 24 = .ok (.iconst 0, 1) := dk_3 (dk_at dksX13_out_1 0 rfl rfl)
theorem dX13_out_25 : decode cX13_out 25 = .ok (.istore_n 2, 1) := dk_61 (dk_at dksX13_out_1 1 rfl rfl)
theorem dX13_out_26 : decode cX13_out 26 = .ok (.iload_n 2, 1) := dk_28 (dk_at dksX13_out_1 2 rfl rfl)
theorem dX13_out_27 : decode cX13_out 27 = .ok (.sipush 200, 3) := dk_17 0 200 (dk_at dksX13_out_1 3 rfl rfl)
theorem dX13_out_30 : decode cX13_out 30 = .ok (.if_icmp .ge 21, 3) := dk_162 0 21 (dk_at dksX13_out_1 6 rfl rfl)
theorem dX13_out_33 : decode cX13_out 33 = .ok (.aload_n 0, 1) := dk_42 (dk_at dksX13_out_1 9 rfl rfl)
theorem dX13_out_34 : decode cX13_out 34 = .ok (.iload_n 1, 1) := dk_27 (dk_at dksX13_out_1 10 rfl rfl)
theorem dX13_out_35 : decode cX13_out 35 = .ok (.invokevirtual 181, 3) := dk_182 0 181 (dk_at dksX13_out_1 11 rfl rfl)
theorem dX13_out_38 : decode cX13_out 38 = .ok (.ifCond .ne 13, 3) := dk_154 0 13 (dk_at dksX13_out_1 14 rfl rfl)
theorem dX13_out_41 : decode cX13_out 41 = .ok (.aload_n 0, 1) := dk_42 (dk_at dksX13_out_1 17 rfl rfl)
theorem dX13_out_42 : decode cX13_out 42 = .ok (.invokevirtual 113, 3) := dk_182 0 113 (dk_at dksX13_out_1 18 rfl rfl)
theorem dX13_out_45 : decode cX13_out 45 = .ok (.iinc 2 1, 3) := dk_132 2 1 (dk_at dksX13_out_1 21 rfl rfl)
theorem dX13_out_48 : decode cX13_out 48 = .ok (.goto (-22), 3) := dk_167 255 234 (dk_at dksX13_out_2 0 rfl rfl)
theorem dX13_out_51 : decode cX13_out 51 = .ok (.aload_n 0, 1) := dk_42 (dk_at dksX13_out_2 3 rfl rfl)
theorem dX13_out_52 : decode cX13_out 52 = .ok (.iload_n 1, 1) := dk_27 (dk_at dksX13_out_2 4 rfl rfl)
theorem dX13_out_53 : decode cX13_out 53 = .ok (.invokevirtual 181, 3) := dk_182 0 181 (dk_at dksX13_out_2 5 rfl rfl)
theorem dX13_out_56 : decode cX13_out 56 = .ok (.istore_n 3, 1) := dk_62 (dk_at dksX13_out_2 8 rfl rfl)
theorem dX13_out_57 : decode cX13_out 57 = .ok (.aload_n 0, 1) := dk_42 (dk_at dksX13_out_2 9 rfl rfl)
theorem dX13_out_58 : decode cX13_out 58 = .ok (.getfield 16, 3) := dk_180 0 16 (dk_at dksX13_out_2 10 rfl rfl)
theorem dX13_out_61 : decode cX13_out 61 = .ok (.aload_n 0, 1) := dk_42 (dk_at dksX13_out_2 13 rfl rfl)
theorem dX13_out_62 : decode cX13_out 62 = .ok (.getfield 7, 3) := dk_180 0 7 (dk_at dksX13_out_2 14 rfl rfl)
theorem dX13_out_65 : decode cX13_out 65 = .ok (.invokestatic 167, 3) := dk_184 0 167 (dk_at dksX13_out_2 17 rfl rfl)
theorem dX13_out_68 : decode cX13_out 68 = .ok (.iload_n 3, 1) := dk_29 (dk_at dksX13_out_2 20 rfl rfl)
theorem dX13_out_69 : decode cX13_out 69 = .ok (.ifCond .eq 7, 3) := dk_153 0 7 (dk_at dksX13_out_2 21 rfl rfl)
theorem dX13_out_72 : decode cX13_out 72 = .ok (.iload_n 2, 1) := dk_28 (dk_at dksX13_out_3 0 rfl rfl)
theorem dX13_out_73 : decode cX13_out 73 = .ok (.goto 8, 3) := dk_167 0 8 (dk_at dksX13_out_3 1 rfl rfl)
theorem dX13_out_76 : decode cX13_out 76 = .ok (.aload_n 0, 1) := dk_42 (dk_at dksX13_out_3 4 rfl rfl)
theorem dX13_out_77 : decode cX13_out 77 = .ok (.iconst 3, 1) := dk_6 (dk_at dksX13_out_3 5 rfl rfl)
theorem dX13_out_78 : decode cX13_out 78 = .ok (.invokevirtual 128, 3) := dk_182 0 128 (dk_at dksX13_out_3 6 rfl rfl)
theorem dX13_out_81 : decode cX13_out 81 = .ok (.ireturn, 1) := dk_172 (dk_at dksX13_out_3 9 rfl rfl)
abbrev cX13_areTopics : ByteArray := prog_16_method_9_code
def yX13_areTopics : MethodName := ⟨RX13, "areTopics", "(I)Z"⟩
def dkwX13_areTopics_0 : List UInt8 := [26, 133, 9, 20, 0, 48, 184, 0, 42, 172]
abbrev dktX13_areTopics_0 : List UInt8 := dkwX13_areTopics_0 ++ []
theorem dksX13_areTopics_0 : cX13_areTopics.data.toList.drop 0 = dktX13_areTopics_0 := by decide +kernel
theorem dX13_areTopics_0 : decode cX13_areTopics 0 = .ok (.iload_n 0, 1) := dk_26 (dk_at dksX13_areTopics_0 0 rfl rfl)
theorem dX13_areTopics_1 : decode cX13_areTopics 1 = .ok (.i2l, 1) := dk_133 (dk_at dksX13_areTopics_0 1 rfl rfl)
theorem dX13_areTopics_2 : decode cX13_areTopics 2 = .ok (.lconst 0, 1) := dk_9 (dk_at dksX13_areTopics_0 2 rfl rfl)
theorem dX13_areTopics_3 : decode cX13_areTopics 3 = .ok (.ldc2_w 48, 3) := dk_20 0 48 (dk_at dksX13_areTopics_0 3 rfl rfl)
theorem dX13_areTopics_6 : decode cX13_areTopics 6 = .ok (.invokestatic 42, 3) := dk_184 0 42 (dk_at dksX13_areTopics_0 6 rfl rfl)
theorem dX13_areTopics_9 : decode cX13_areTopics 9 = .ok (.ireturn, 1) := dk_172 (dk_at dksX13_areTopics_0 9 rfl rfl)
abbrev cX13_areKnown : ByteArray := prog_16_method_50_code
def yX13_areKnown : MethodName := ⟨RX13, "areKnown", "(I)Z"⟩
def dkwX13_areKnown_0 : List UInt8 := [27, 42, 182, 0, 155, 42, 182, 0, 158, 128, 2, 130, 126, 154, 0, 7, 4, 167, 0, 4, 3, 172]
abbrev dktX13_areKnown_0 : List UInt8 := dkwX13_areKnown_0 ++ []
theorem dksX13_areKnown_0 : cX13_areKnown.data.toList.drop 0 = dktX13_areKnown_0 := by decide +kernel
theorem dX13_areKnown_0 : decode cX13_areKnown 0 = .ok (.iload_n 1, 1) := dk_27 (dk_at dksX13_areKnown_0 0 rfl rfl)
theorem dX13_areKnown_1 : decode cX13_areKnown 1 = .ok (.aload_n 0, 1) := dk_42 (dk_at dksX13_areKnown_0 1 rfl rfl)
theorem dX13_areKnown_2 : decode cX13_areKnown 2 = .ok (.invokevirtual 155, 3) := dk_182 0 155 (dk_at dksX13_areKnown_0 2 rfl rfl)
theorem dX13_areKnown_5 : decode cX13_areKnown 5 = .ok (.aload_n 0, 1) := dk_42 (dk_at dksX13_areKnown_0 5 rfl rfl)
theorem dX13_areKnown_6 : decode cX13_areKnown 6 = .ok (.invokevirtual 158, 3) := dk_182 0 158 (dk_at dksX13_areKnown_0 6 rfl rfl)
theorem dX13_areKnown_9 : decode cX13_areKnown 9 = .ok (.ior, 1) := dk_128 (dk_at dksX13_areKnown_0 9 rfl rfl)
theorem dX13_areKnown_10 : decode cX13_areKnown 10 = .ok (.iconst (-1), 1) := dk_2 (dk_at dksX13_areKnown_0 10 rfl rfl)
theorem dX13_areKnown_11 : decode cX13_areKnown 11 = .ok (.ixor, 1) := dk_130 (dk_at dksX13_areKnown_0 11 rfl rfl)
theorem dX13_areKnown_12 : decode cX13_areKnown 12 = .ok (.iand, 1) := dk_126 (dk_at dksX13_areKnown_0 12 rfl rfl)
theorem dX13_areKnown_13 : decode cX13_areKnown 13 = .ok (.ifCond .ne 7, 3) := dk_154 0 7 (dk_at dksX13_areKnown_0 13 rfl rfl)
theorem dX13_areKnown_16 : decode cX13_areKnown 16 = .ok (.iconst 1, 1) := dk_4 (dk_at dksX13_areKnown_0 16 rfl rfl)
theorem dX13_areKnown_17 : decode cX13_areKnown 17 = .ok (.goto 4, 3) := dk_167 0 4 (dk_at dksX13_areKnown_0 17 rfl rfl)
theorem dX13_areKnown_20 : decode cX13_areKnown 20 = .ok (.iconst 0, 1) := dk_3 (dk_at dksX13_areKnown_0 20 rfl rfl)
theorem dX13_areKnown_21 : decode cX13_areKnown 21 = .ok (.ireturn, 1) := dk_172 (dk_at dksX13_areKnown_0 21 rfl rfl)
abbrev cX13_leave : ByteArray := prog_16_method_53_code
def yX13_leave : MethodName := ⟨RX13, "leave", "(II)I"⟩
def dkwX13_leave_1 : List UInt8 := [28, 182, 0, 184, 167, 0, 8, 42, 3, 182, 0, 128, 172]
abbrev dktX13_leave_1 : List UInt8 := dkwX13_leave_1 ++ []
def dkwX13_leave_0 : List UInt8 := [42, 27, 182, 0, 138, 153, 0, 26, 28, 133, 9, 20, 0, 150, 184, 0, 42, 153, 0, 14, 42, 27, 4, 8]
abbrev dktX13_leave_0 : List UInt8 := dkwX13_leave_0 ++ dktX13_leave_1
theorem dksX13_leave_0 : cX13_leave.data.toList.drop 0 = dktX13_leave_0 := by decide +kernel
theorem dksX13_leave_1 : cX13_leave.data.toList.drop 24 = dktX13_leave_1 := dk_seg dksX13_leave_0 24 rfl rfl
theorem dX13_leave_0 : decode cX13_leave 0 = .ok (.aload_n 0, 1) := dk_42 (dk_at dksX13_leave_0 0 rfl rfl)
theorem dX13_leave_1 : decode cX13_leave 1 = .ok (.iload_n 1, 1) := dk_27 (dk_at dksX13_leave_0 1 rfl rfl)
theorem dX13_leave_2 : decode cX13_leave 2 = .ok (.invokevirtual 138, 3) := dk_182 0 138 (dk_at dksX13_leave_0 2 rfl rfl)
theorem dX13_leave_5 : decode cX13_leave 5 = .ok (.ifCond .eq 26, 3) := dk_153 0 26 (dk_at dksX13_leave_0 5 rfl rfl)
theorem dX13_leave_8 : decode cX13_leave 8 = .ok (.iload_n 2, 1) := dk_28 (dk_at dksX13_leave_0 8 rfl rfl)
theorem dX13_leave_9 : decode cX13_leave 9 = .ok (.i2l, 1) := dk_133 (dk_at dksX13_leave_0 9 rfl rfl)
theorem dX13_leave_10 : decode cX13_leave 10 = .ok (.lconst 0, 1) := dk_9 (dk_at dksX13_leave_0 10 rfl rfl)
theorem dX13_leave_11 : decode cX13_leave 11 = .ok (.ldc2_w 150, 3) := dk_20 0 150 (dk_at dksX13_leave_0 11 rfl rfl)
theorem dX13_leave_14 : decode cX13_leave 14 = .ok (.invokestatic 42, 3) := dk_184 0 42 (dk_at dksX13_leave_0 14 rfl rfl)
theorem dX13_leave_17 : decode cX13_leave 17 = .ok (.ifCond .eq 14, 3) := dk_153 0 14 (dk_at dksX13_leave_0 17 rfl rfl)
theorem dX13_leave_20 : decode cX13_leave 20 = .ok (.aload_n 0, 1) := dk_42 (dk_at dksX13_leave_0 20 rfl rfl)
theorem dX13_leave_21 : decode cX13_leave 21 = .ok (.iload_n 1, 1) := dk_27 (dk_at dksX13_leave_0 21 rfl rfl)
theorem dX13_leave_22 : decode cX13_leave 22 = .ok (.iconst 1, 1) := dk_4 (dk_at dksX13_leave_0 22 rfl rfl)
theorem dX13_leave_23 : decode cX13_leave 23 = .ok (.iconst 5, 1) := dk_8 (dk_at dksX13_leave_0 23 rfl rfl)
theorem dX13_leave_24 : decode cX13_leave 24 = .ok (.iload_n 2, 1) := dk_28 (dk_at dksX13_leave_1 0 rfl rfl)
theorem dX13_leave_25 : decode cX13_leave 25 = .ok (.invokevirtual 184, 3) := dk_182 0 184 (dk_at dksX13_leave_1 1 rfl rfl)
theorem dX13_leave_28 : decode cX13_leave 28 = .ok (.goto 8, 3) := dk_167 0 8 (dk_at dksX13_leave_1 4 rfl rfl)
theorem dX13_leave_31 : decode cX13_leave 31 = .ok (.aload_n 0, 1) := dk_42 (dk_at dksX13_leave_1 7 rfl rfl)
theorem dX13_leave_32 : decode cX13_leave 32 = .ok (.iconst 0, 1) := dk_3 (dk_at dksX13_leave_1 8 rfl rfl)
theorem dX13_leave_33 : decode cX13_leave 33 = .ok (.invokevirtual 128, 3) := dk_182 0 128 (dk_at dksX13_leave_1 9 rfl rfl)
theorem dX13_leave_36 : decode cX13_leave 36 = .ok (.ireturn, 1) := dk_172 (dk_at dksX13_leave_1 12 rfl rfl)
abbrev cX13_bestOf : ByteArray := prog_16_method_52_code
def yX13_bestOf : MethodName := ⟨RX13, "bestOf", "(IIII)I"⟩
def dkwX13_bestOf_3 : List UInt8 := [21, 5, 172]
abbrev dktX13_bestOf_3 : List UInt8 := dkwX13_bestOf_3 ++ []
def dkwX13_bestOf_2 : List UInt8 := [54, 8, 21, 8, 21, 6, 164, 0, 11, 21, 7, 54, 5, 21, 8, 54, 6, 132, 7, 1, 167, 255, 209]
abbrev dktX13_bestOf_2 : List UInt8 := dkwX13_bestOf_2 ++ dktX13_bestOf_3
def dkwX13_bestOf_1 : List UInt8 := [163, 0, 47, 42, 27, 28, 21, 7, 182, 0, 90, 42, 21, 4, 16, 49, 27, 96, 182, 0, 173, 184, 0, 84]
abbrev dktX13_bestOf_1 : List UInt8 := dkwX13_bestOf_1 ++ dktX13_bestOf_2
def dkwX13_bestOf_0 : List UInt8 := [42, 180, 0, 7, 42, 180, 0, 16, 184, 0, 167, 3, 54, 5, 2, 54, 6, 3, 54, 7, 21, 7, 29]
abbrev dktX13_bestOf_0 : List UInt8 := dkwX13_bestOf_0 ++ dktX13_bestOf_1
theorem dksX13_bestOf_0 : cX13_bestOf.data.toList.drop 0 = dktX13_bestOf_0 := by decide +kernel
theorem dksX13_bestOf_1 : cX13_bestOf.data.toList.drop 23 = dktX13_bestOf_1 := dk_seg dksX13_bestOf_0 23 rfl rfl
theorem dksX13_bestOf_2 : cX13_bestOf.data.toList.drop 47 = dktX13_bestOf_2 := dk_seg dksX13_bestOf_1 24 rfl rfl
theorem dksX13_bestOf_3 : cX13_bestOf.data.toList.drop 70 = dktX13_bestOf_3 := dk_seg dksX13_bestOf_2 23 rfl rfl
theorem dX13_bestOf_0 : decode cX13_bestOf 0 = .ok (.aload_n 0, 1) := dk_42 (dk_at dksX13_bestOf_0 0 rfl rfl)
theorem dX13_bestOf_1 : decode cX13_bestOf 1 = .ok (.getfield 7, 3) := dk_180 0 7 (dk_at dksX13_bestOf_0 1 rfl rfl)
theorem dX13_bestOf_4 : decode cX13_bestOf 4 = .ok (.aload_n 0, 1) := dk_42 (dk_at dksX13_bestOf_0 4 rfl rfl)
theorem dX13_bestOf_5 : decode cX13_bestOf 5 = .ok (.getfield 16, 3) := dk_180 0 16 (dk_at dksX13_bestOf_0 5 rfl rfl)
theorem dX13_bestOf_8 : decode cX13_bestOf 8 = .ok (.invokestatic 167, 3) := dk_184 0 167 (dk_at dksX13_bestOf_0 8 rfl rfl)
theorem dX13_bestOf_11 : decode cX13_bestOf 11 = .ok (.iconst 0, 1) := dk_3 (dk_at dksX13_bestOf_0 11 rfl rfl)
theorem dX13_bestOf_12 : decode cX13_bestOf 12 = .ok (.istore 5, 2) := dk_54 5 (dk_at dksX13_bestOf_0 12 rfl rfl)
theorem dX13_bestOf_14 : decode cX13_bestOf 14 = .ok (.iconst (-1), 1) := dk_2 (dk_at dksX13_bestOf_0 14 rfl rfl)
theorem dX13_bestOf_15 : decode cX13_bestOf 15 = .ok (.istore 6, 2) := dk_54 6 (dk_at dksX13_bestOf_0 15 rfl rfl)
theorem dX13_bestOf_17 : decode cX13_bestOf 17 = .ok (.iconst 0, 1) := dk_3 (dk_at dksX13_bestOf_0 17 rfl rfl)
theorem dX13_bestOf_18 : decode cX13_bestOf 18 = .ok (.istore 7, 2) := dk_54 7 (dk_at dksX13_bestOf_0 18 rfl rfl)
theorem dX13_bestOf_20 : decode cX13_bestOf 20 = .ok (.iload 7, 2) := dk_21 7 (dk_at dksX13_bestOf_0 20 rfl rfl)
theorem dX13_bestOf_22 : decode cX13_bestOf 22 = .ok (.iload_n 3, 1) := dk_29 (dk_at dksX13_bestOf_0 22 rfl rfl)
theorem dX13_bestOf_23 : decode cX13_bestOf 23 = .ok (.if_icmp .gt 47, 3) := dk_163 0 47 (dk_at dksX13_bestOf_1 0 rfl rfl)
theorem dX13_bestOf_26 : decode cX13_bestOf 26 = .ok (.aload_n 0, 1) := dk_42 (dk_at dksX13_bestOf_1 3 rfl rfl)
theorem dX13_bestOf_27 : decode cX13_bestOf 27 = .ok (.iload_n 1, 1) := dk_27 (dk_at dksX13_bestOf_1 4 rfl rfl)
theorem dX13_bestOf_28 : decode cX13_bestOf 28 = .ok (.iload_n 2, 1) := dk_28 (dk_at dksX13_bestOf_1 5 rfl rfl)
theorem dX13_bestOf_29 : decode cX13_bestOf 29 = .ok (.iload 7, 2) := dk_21 7 (dk_at dksX13_bestOf_1 6 rfl rfl)
theorem dX13_bestOf_31 : decode cX13_bestOf 31 = .ok (.invokevirtual 90, 3) := dk_182 0 90 (dk_at dksX13_bestOf_1 8 rfl rfl)
theorem dX13_bestOf_34 : decode cX13_bestOf 34 = .ok (.aload_n 0, 1) := dk_42 (dk_at dksX13_bestOf_1 11 rfl rfl)
theorem dX13_bestOf_35 : decode cX13_bestOf 35 = .ok (.iload 4, 2) := dk_21 4 (dk_at dksX13_bestOf_1 12 rfl rfl)
theorem dX13_bestOf_37 : decode cX13_bestOf 37 = .ok (.bipush 49, 2) := dk_16 49 (dk_at dksX13_bestOf_1 14 rfl rfl)
theorem dX13_bestOf_39 : decode cX13_bestOf 39 = .ok (.iload_n 1, 1) := dk_27 (dk_at dksX13_bestOf_1 16 rfl rfl)
theorem dX13_bestOf_40 : decode cX13_bestOf 40 = .ok (.iadd, 1) := dk_96 (dk_at dksX13_bestOf_1 17 rfl rfl)
theorem dX13_bestOf_41 : decode cX13_bestOf 41 = .ok (.invokevirtual 173, 3) := dk_182 0 173 (dk_at dksX13_bestOf_1 18 rfl rfl)
theorem dX13_bestOf_44 : decode cX13_bestOf 44 = .ok (.invokestatic 84, 3) := dk_184 0 84 (dk_at dksX13_bestOf_1 21 rfl rfl)
theorem dX13_bestOf_47 : decode cX13_bestOf 47 = .ok (.istore 8, 2) := dk_54 8 (dk_at dksX13_bestOf_2 0 rfl rfl)
theorem dX13_bestOf_49 : decode cX13_bestOf 49 = .ok (.iload 8, 2) := dk_21 8 (dk_at dksX13_bestOf_2 2 rfl rfl)
theorem dX13_bestOf_51 : decode cX13_bestOf 51 = .ok (.iload 6, 2) := dk_21 6 (dk_at dksX13_bestOf_2 4 rfl rfl)
theorem dX13_bestOf_53 : decode cX13_bestOf 53 = .ok (.if_icmp .le 11, 3) := dk_164 0 11 (dk_at dksX13_bestOf_2 6 rfl rfl)
theorem dX13_bestOf_56 : decode cX13_bestOf 56 = .ok (.iload 7, 2) := dk_21 7 (dk_at dksX13_bestOf_2 9 rfl rfl)
theorem dX13_bestOf_58 : decode cX13_bestOf 58 = .ok (.istore 5, 2) := dk_54 5 (dk_at dksX13_bestOf_2 11 rfl rfl)
theorem dX13_bestOf_60 : decode cX13_bestOf 60 = .ok (.iload 8, 2) := dk_21 8 (dk_at dksX13_bestOf_2 13 rfl rfl)
theorem dX13_bestOf_62 : decode cX13_bestOf 62 = .ok (.istore 6, 2) := dk_54 6 (dk_at dksX13_bestOf_2 15 rfl rfl)
theorem dX13_bestOf_64 : decode cX13_bestOf 64 = .ok (.iinc 7 1, 3) := dk_132 7 1 (dk_at dksX13_bestOf_2 17 rfl rfl)
theorem dX13_bestOf_67 : decode cX13_bestOf 67 = .ok (.goto (-47), 3) := dk_167 255 209 (dk_at dksX13_bestOf_2 20 rfl rfl)
theorem dX13_bestOf_70 : decode cX13_bestOf 70 = .ok (.iload 5, 2) := dk_21 5 (dk_at dksX13_bestOf_3 0 rfl rfl)
theorem dX13_bestOf_72 : decode cX13_bestOf 72 = .ok (.ireturn, 1) := dk_172 (dk_at dksX13_bestOf_3 2 rfl rfl)
abbrev cX13_openFor : ByteArray := prog_16_method_54_code
def yX13_openFor : MethodName := ⟨RX13, "openFor", "(III)I"⟩
def dkwX13_openFor_4 : List UInt8 := [6, 182, 0, 128, 172]
abbrev dktX13_openFor_4 : List UInt8 := dkwX13_openFor_4 ++ []
def dkwX13_openFor_3 : List UInt8 := [16, 49, 27, 96, 182, 0, 173, 184, 0, 84, 28, 161, 0, 6, 21, 4, 172, 132, 4, 1, 167, 255, 219, 42]
abbrev dktX13_openFor_3 : List UInt8 := dkwX13_openFor_3 ++ dktX13_openFor_4
def dkwX13_openFor_2 : List UInt8 := [184, 0, 167, 3, 54, 4, 21, 4, 16, 10, 162, 0, 36, 42, 27, 5, 21, 4, 182, 0, 90, 42, 29]
abbrev dktX13_openFor_2 : List UInt8 := dkwX13_openFor_2 ++ dktX13_openFor_3
def dkwX13_openFor_1 : List UInt8 := [20, 0, 150, 184, 0, 42, 154, 0, 9, 42, 3, 182, 0, 128, 172, 42, 180, 0, 7, 42, 180, 0, 16]
abbrev dktX13_openFor_1 : List UInt8 := dkwX13_openFor_1 ++ dktX13_openFor_2
def dkwX13_openFor_0 : List UInt8 := [42, 27, 182, 0, 138, 153, 0, 27, 28, 133, 9, 20, 0, 176, 184, 0, 42, 153, 0, 15, 29, 133, 9]
abbrev dktX13_openFor_0 : List UInt8 := dkwX13_openFor_0 ++ dktX13_openFor_1
theorem dksX13_openFor_0 : cX13_openFor.data.toList.drop 0 = dktX13_openFor_0 := by decide +kernel
theorem dksX13_openFor_1 : cX13_openFor.data.toList.drop 23 = dktX13_openFor_1 := dk_seg dksX13_openFor_0 23 rfl rfl
theorem dksX13_openFor_2 : cX13_openFor.data.toList.drop 46 = dktX13_openFor_2 := dk_seg dksX13_openFor_1 23 rfl rfl
theorem dksX13_openFor_3 : cX13_openFor.data.toList.drop 69 = dktX13_openFor_3 := dk_seg dksX13_openFor_2 23 rfl rfl
theorem dksX13_openFor_4 : cX13_openFor.data.toList.drop 93 = dktX13_openFor_4 := dk_seg dksX13_openFor_3 24 rfl rfl
theorem dX13_openFor_0 : decode cX13_openFor 0 = .ok (.aload_n 0, 1) := dk_42 (dk_at dksX13_openFor_0 0 rfl rfl)
theorem dX13_openFor_1 : decode cX13_openFor 1 = .ok (.iload_n 1, 1) := dk_27 (dk_at dksX13_openFor_0 1 rfl rfl)
theorem dX13_openFor_2 : decode cX13_openFor 2 = .ok (.invokevirtual 138, 3) := dk_182 0 138 (dk_at dksX13_openFor_0 2 rfl rfl)
theorem dX13_openFor_5 : decode cX13_openFor 5 = .ok (.ifCond .eq 27, 3) := dk_153 0 27 (dk_at dksX13_openFor_0 5 rfl rfl)
theorem dX13_openFor_8 : decode cX13_openFor 8 = .ok (.iload_n 2, 1) := dk_28 (dk_at dksX13_openFor_0 8 rfl rfl)
theorem dX13_openFor_9 : decode cX13_openFor 9 = .ok (.i2l, 1) := dk_133 (dk_at dksX13_openFor_0 9 rfl rfl)
theorem dX13_openFor_10 : decode cX13_openFor 10 = .ok (.lconst 0, 1) := dk_9 (dk_at dksX13_openFor_0 10 rfl rfl)
theorem dX13_openFor_11 : decode cX13_openFor 11 = .ok (.ldc2_w 176, 3) := dk_20 0 176 (dk_at dksX13_openFor_0 11 rfl rfl)
theorem dX13_openFor_14 : decode cX13_openFor 14 = .ok (.invokestatic 42, 3) := dk_184 0 42 (dk_at dksX13_openFor_0 14 rfl rfl)
theorem dX13_openFor_17 : decode cX13_openFor 17 = .ok (.ifCond .eq 15, 3) := dk_153 0 15 (dk_at dksX13_openFor_0 17 rfl rfl)
theorem dX13_openFor_20 : decode cX13_openFor 20 = .ok (.iload_n 3, 1) := dk_29 (dk_at dksX13_openFor_0 20 rfl rfl)
theorem dX13_openFor_21 : decode cX13_openFor 21 = .ok (.i2l, 1) := dk_133 (dk_at dksX13_openFor_0 21 rfl rfl)
theorem dX13_openFor_22 : decode cX13_openFor 22 = .ok (.lconst 0, 1) := dk_9 (dk_at dksX13_openFor_0 22 rfl rfl)
theorem dX13_openFor_23 : decode cX13_openFor 23 = .ok (.ldc2_w 150, 3) := dk_20 0 150 (dk_at dksX13_openFor_1 0 rfl rfl)
theorem dX13_openFor_26 : decode cX13_openFor 26 = .ok (.invokestatic 42, 3) := dk_184 0 42 (dk_at dksX13_openFor_1 3 rfl rfl)
theorem dX13_openFor_29 : decode cX13_openFor 29 = .ok (.ifCond .ne 9, 3) := dk_154 0 9 (dk_at dksX13_openFor_1 6 rfl rfl)
theorem dX13_openFor_32 : decode cX13_openFor 32 = .ok (.aload_n 0, 1) := dk_42 (dk_at dksX13_openFor_1 9 rfl rfl)
theorem dX13_openFor_33 : decode cX13_openFor 33 = .ok (.iconst 0, 1) := dk_3 (dk_at dksX13_openFor_1 10 rfl rfl)
theorem dX13_openFor_34 : decode cX13_openFor 34 = .ok (.invokevirtual 128, 3) := dk_182 0 128 (dk_at dksX13_openFor_1 11 rfl rfl)
theorem dX13_openFor_37 : decode cX13_openFor 37 = .ok (.ireturn, 1) := dk_172 (dk_at dksX13_openFor_1 14 rfl rfl)
theorem dX13_openFor_38 : decode cX13_openFor 38 = .ok (.aload_n 0, 1) := dk_42 (dk_at dksX13_openFor_1 15 rfl rfl)
theorem dX13_openFor_39 : decode cX13_openFor 39 = .ok (.getfield 7, 3) := dk_180 0 7 (dk_at dksX13_openFor_1 16 rfl rfl)
theorem dX13_openFor_42 : decode cX13_openFor 42 = .ok (.aload_n 0, 1) := dk_42 (dk_at dksX13_openFor_1 19 rfl rfl)
theorem dX13_openFor_43 : decode cX13_openFor 43 = .ok (.getfield 16, 3) := dk_180 0 16 (dk_at dksX13_openFor_1 20 rfl rfl)
theorem dX13_openFor_46 : decode cX13_openFor 46 = .ok (.invokestatic 167, 3) := dk_184 0 167 (dk_at dksX13_openFor_2 0 rfl rfl)
theorem dX13_openFor_49 : decode cX13_openFor 49 = .ok (.iconst 0, 1) := dk_3 (dk_at dksX13_openFor_2 3 rfl rfl)
theorem dX13_openFor_50 : decode cX13_openFor 50 = .ok (.istore 4, 2) := dk_54 4 (dk_at dksX13_openFor_2 4 rfl rfl)
theorem dX13_openFor_52 : decode cX13_openFor 52 = .ok (.iload 4, 2) := dk_21 4 (dk_at dksX13_openFor_2 6 rfl rfl)
theorem dX13_openFor_54 : decode cX13_openFor 54 = .ok (.bipush 10, 2) := dk_16 10 (dk_at dksX13_openFor_2 8 rfl rfl)
theorem dX13_openFor_56 : decode cX13_openFor 56 = .ok (.if_icmp .ge 36, 3) := dk_162 0 36 (dk_at dksX13_openFor_2 10 rfl rfl)
theorem dX13_openFor_59 : decode cX13_openFor 59 = .ok (.aload_n 0, 1) := dk_42 (dk_at dksX13_openFor_2 13 rfl rfl)
theorem dX13_openFor_60 : decode cX13_openFor 60 = .ok (.iload_n 1, 1) := dk_27 (dk_at dksX13_openFor_2 14 rfl rfl)
theorem dX13_openFor_61 : decode cX13_openFor 61 = .ok (.iconst 2, 1) := dk_5 (dk_at dksX13_openFor_2 15 rfl rfl)
theorem dX13_openFor_62 : decode cX13_openFor 62 = .ok (.iload 4, 2) := dk_21 4 (dk_at dksX13_openFor_2 16 rfl rfl)
theorem dX13_openFor_64 : decode cX13_openFor 64 = .ok (.invokevirtual 90, 3) := dk_182 0 90 (dk_at dksX13_openFor_2 18 rfl rfl)
theorem dX13_openFor_67 : decode cX13_openFor 67 = .ok (.aload_n 0, 1) := dk_42 (dk_at dksX13_openFor_2 21 rfl rfl)
theorem dX13_openFor_68 : decode cX13_openFor 68 = .ok (.iload_n 3, 1) := dk_29 (dk_at dksX13_openFor_2 22 rfl rfl)
theorem dX13_openFor_69 : decode cX13_openFor 69 = .ok (.bipush 49, 2) := dk_16 49 (dk_at dksX13_openFor_3 0 rfl rfl)
theorem dX13_openFor_71 : decode cX13_openFor 71 = .ok (.iload_n 1, 1) := dk_27 (dk_at dksX13_openFor_3 2 rfl rfl)
theorem dX13_openFor_72 : decode cX13_openFor 72 = .ok (.iadd, 1) := dk_96 (dk_at dksX13_openFor_3 3 rfl rfl)
theorem dX13_openFor_73 : decode cX13_openFor 73 = .ok (.invokevirtual 173, 3) := dk_182 0 173 (dk_at dksX13_openFor_3 4 rfl rfl)
theorem dX13_openFor_76 : decode cX13_openFor 76 = .ok (.invokestatic 84, 3) := dk_184 0 84 (dk_at dksX13_openFor_3 7 rfl rfl)
theorem dX13_openFor_79 : decode cX13_openFor 79 = .ok (.iload_n 2, 1) := dk_28 (dk_at dksX13_openFor_3 10 rfl rfl)
theorem dX13_openFor_80 : decode cX13_openFor 80 = .ok (.if_icmp .lt 6, 3) := dk_161 0 6 (dk_at dksX13_openFor_3 11 rfl rfl)
theorem dX13_openFor_83 : decode cX13_openFor 83 = .ok (.iload 4, 2) := dk_21 4 (dk_at dksX13_openFor_3 14 rfl rfl)
theorem dX13_openFor_85 : decode cX13_openFor 85 = .ok (.ireturn, 1) := dk_172 (dk_at dksX13_openFor_3 16 rfl rfl)
theorem dX13_openFor_86 : decode cX13_openFor 86 = .ok (.iinc 4 1, 3) := dk_132 4 1 (dk_at dksX13_openFor_3 17 rfl rfl)
theorem dX13_openFor_89 : decode cX13_openFor 89 = .ok (.goto (-37), 3) := dk_167 255 219 (dk_at dksX13_openFor_3 20 rfl rfl)
theorem dX13_openFor_92 : decode cX13_openFor 92 = .ok (.aload_n 0, 1) := dk_42 (dk_at dksX13_openFor_3 23 rfl rfl)
theorem dX13_openFor_93 : decode cX13_openFor 93 = .ok (.iconst 3, 1) := dk_6 (dk_at dksX13_openFor_4 0 rfl rfl)
theorem dX13_openFor_94 : decode cX13_openFor 94 = .ok (.invokevirtual 128, 3) := dk_182 0 128 (dk_at dksX13_openFor_4 1 rfl rfl)
theorem dX13_openFor_97 : decode cX13_openFor 97 = .ok (.ireturn, 1) := dk_172 (dk_at dksX13_openFor_4 4 rfl rfl)
abbrev cX13_kindFor : ByteArray := prog_16_method_55_code
def yX13_kindFor : MethodName := ⟨RX13, "kindFor", "(II)I"⟩
def dkwX13_kindFor_1 : List UInt8 := [16, 6, 28, 182, 0, 184, 167, 0, 8, 42, 3, 182, 0, 128, 172]
abbrev dktX13_kindFor_1 : List UInt8 := dkwX13_kindFor_1 ++ []
def dkwX13_kindFor_0 : List UInt8 := [42, 27, 182, 0, 138, 153, 0, 27, 28, 133, 9, 20, 0, 150, 184, 0, 42, 153, 0, 15, 42, 27, 3]
abbrev dktX13_kindFor_0 : List UInt8 := dkwX13_kindFor_0 ++ dktX13_kindFor_1
theorem dksX13_kindFor_0 : cX13_kindFor.data.toList.drop 0 = dktX13_kindFor_0 := by decide +kernel
theorem dksX13_kindFor_1 : cX13_kindFor.data.toList.drop 23 = dktX13_kindFor_1 := dk_seg dksX13_kindFor_0 23 rfl rfl
theorem dX13_kindFor_0 : decode cX13_kindFor 0 = .ok (.aload_n 0, 1) := dk_42 (dk_at dksX13_kindFor_0 0 rfl rfl)
theorem dX13_kindFor_1 : decode cX13_kindFor 1 = .ok (.iload_n 1, 1) := dk_27 (dk_at dksX13_kindFor_0 1 rfl rfl)
theorem dX13_kindFor_2 : decode cX13_kindFor 2 = .ok (.invokevirtual 138, 3) := dk_182 0 138 (dk_at dksX13_kindFor_0 2 rfl rfl)
theorem dX13_kindFor_5 : decode cX13_kindFor 5 = .ok (.ifCond .eq 27, 3) := dk_153 0 27 (dk_at dksX13_kindFor_0 5 rfl rfl)
theorem dX13_kindFor_8 : decode cX13_kindFor 8 = .ok (.iload_n 2, 1) := dk_28 (dk_at dksX13_kindFor_0 8 rfl rfl)
theorem dX13_kindFor_9 : decode cX13_kindFor 9 = .ok (.i2l, 1) := dk_133 (dk_at dksX13_kindFor_0 9 rfl rfl)
theorem dX13_kindFor_10 : decode cX13_kindFor 10 = .ok (.lconst 0, 1) := dk_9 (dk_at dksX13_kindFor_0 10 rfl rfl)
theorem dX13_kindFor_11 : decode cX13_kindFor 11 = .ok (.ldc2_w 150, 3) := dk_20 0 150 (dk_at dksX13_kindFor_0 11 rfl rfl)
theorem dX13_kindFor_14 : decode cX13_kindFor 14 = .ok (.invokestatic 42, 3) := dk_184 0 42 (dk_at dksX13_kindFor_0 14 rfl rfl)
theorem dX13_kindFor_17 : decode cX13_kindFor 17 = .ok (.ifCond .eq 15, 3) := dk_153 0 15 (dk_at dksX13_kindFor_0 17 rfl rfl)
theorem dX13_kindFor_20 : decode cX13_kindFor 20 = .ok (.aload_n 0, 1) := dk_42 (dk_at dksX13_kindFor_0 20 rfl rfl)
theorem dX13_kindFor_21 : decode cX13_kindFor 21 = .ok (.iload_n 1, 1) := dk_27 (dk_at dksX13_kindFor_0 21 rfl rfl)
theorem dX13_kindFor_22 : decode cX13_kindFor 22 = .ok (.iconst 0, 1) := dk_3 (dk_at dksX13_kindFor_0 22 rfl rfl)
theorem dX13_kindFor_23 : decode cX13_kindFor 23 = .ok (.bipush 6, 2) := dk_16 6 (dk_at dksX13_kindFor_1 0 rfl rfl)
theorem dX13_kindFor_25 : decode cX13_kindFor 25 = .ok (.iload_n 2, 1) := dk_28 (dk_at dksX13_kindFor_1 2 rfl rfl)
theorem dX13_kindFor_26 : decode cX13_kindFor 26 = .ok (.invokevirtual 184, 3) := dk_182 0 184 (dk_at dksX13_kindFor_1 3 rfl rfl)
theorem dX13_kindFor_29 : decode cX13_kindFor 29 = .ok (.goto 8, 3) := dk_167 0 8 (dk_at dksX13_kindFor_1 6 rfl rfl)
theorem dX13_kindFor_32 : decode cX13_kindFor 32 = .ok (.aload_n 0, 1) := dk_42 (dk_at dksX13_kindFor_1 9 rfl rfl)
theorem dX13_kindFor_33 : decode cX13_kindFor 33 = .ok (.iconst 0, 1) := dk_3 (dk_at dksX13_kindFor_1 10 rfl rfl)
theorem dX13_kindFor_34 : decode cX13_kindFor 34 = .ok (.invokevirtual 128, 3) := dk_182 0 128 (dk_at dksX13_kindFor_1 11 rfl rfl)
theorem dX13_kindFor_37 : decode cX13_kindFor 37 = .ok (.ireturn, 1) := dk_172 (dk_at dksX13_kindFor_1 14 rfl rfl)
abbrev cX13_lower : ByteArray := prog_16_method_56_code
def yX13_lower : MethodName := ⟨RX13, "lower", "(I)I"⟩
def dkwX13_lower_2 : List UInt8 := [182, 0, 98, 154, 0, 5, 29, 172, 132, 3, 255, 167, 255, 237, 42, 6, 182, 0, 128, 172]
abbrev dktX13_lower_2 : List UInt8 := dkwX13_lower_2 ++ []
def dkwX13_lower_1 : List UInt8 := [180, 0, 7, 6, 27, 96, 46, 16, 10, 112, 100, 61, 16, 9, 62, 29, 155, 0, 21, 42, 28, 29, 96]
abbrev dktX13_lower_1 : List UInt8 := dkwX13_lower_1 ++ dktX13_lower_2
def dkwX13_lower_0 : List UInt8 := [27, 184, 0, 119, 154, 0, 9, 42, 3, 182, 0, 128, 172, 42, 180, 0, 7, 6, 27, 96, 46, 42]
abbrev dktX13_lower_0 : List UInt8 := dkwX13_lower_0 ++ dktX13_lower_1
theorem dksX13_lower_0 : cX13_lower.data.toList.drop 0 = dktX13_lower_0 := by decide +kernel
theorem dksX13_lower_1 : cX13_lower.data.toList.drop 22 = dktX13_lower_1 := dk_seg dksX13_lower_0 22 rfl rfl
theorem dksX13_lower_2 : cX13_lower.data.toList.drop 45 = dktX13_lower_2 := dk_seg dksX13_lower_1 23 rfl rfl
theorem dX13_lower_0 : decode cX13_lower 0 = .ok (.iload_n 1, 1) := dk_27 (dk_at dksX13_lower_0 0 rfl rfl)
theorem dX13_lower_1 : decode cX13_lower 1 = .ok (.invokestatic 119, 3) := dk_184 0 119 (dk_at dksX13_lower_0 1 rfl rfl)
theorem dX13_lower_4 : decode cX13_lower 4 = .ok (.ifCond .ne 9, 3) := dk_154 0 9 (dk_at dksX13_lower_0 4 rfl rfl)
theorem dX13_lower_7 : decode cX13_lower 7 = .ok (.aload_n 0, 1) := dk_42 (dk_at dksX13_lower_0 7 rfl rfl)
theorem dX13_lower_8 : decode cX13_lower 8 = .ok (.iconst 0, 1) := dk_3 (dk_at dksX13_lower_0 8 rfl rfl)
theorem dX13_lower_9 : decode cX13_lower 9 = .ok (.invokevirtual 128, 3) := dk_182 0 128 (dk_at dksX13_lower_0 9 rfl rfl)
theorem dX13_lower_12 : decode cX13_lower 12 = .ok (.ireturn, 1) := dk_172 (dk_at dksX13_lower_0 12 rfl rfl)
theorem dX13_lower_13 : decode cX13_lower 13 = .ok (.aload_n 0, 1) := dk_42 (dk_at dksX13_lower_0 13 rfl rfl)
theorem dX13_lower_14 : decode cX13_lower 14 = .ok (.getfield 7, 3) := dk_180 0 7 (dk_at dksX13_lower_0 14 rfl rfl)
theorem dX13_lower_17 : decode cX13_lower 17 = .ok (.iconst 3, 1) := dk_6 (dk_at dksX13_lower_0 17 rfl rfl)
theorem dX13_lower_18 : decode cX13_lower 18 = .ok (.iload_n 1, 1) := dk_27 (dk_at dksX13_lower_0 18 rfl rfl)
theorem dX13_lower_19 : decode cX13_lower 19 = .ok (.iadd, 1) := dk_96 (dk_at dksX13_lower_0 19 rfl rfl)
theorem dX13_lower_20 : decode cX13_lower 20 = .ok (.iaload, 1) := dk_46 (dk_at dksX13_lower_0 20 rfl rfl)
theorem dX13_lower_21 : decode cX13_lower 21 = .ok (.aload_n 0, 1) := dk_42 (dk_at dksX13_lower_0 21 rfl rfl)
theorem dX13_lower_22 : decode cX13_lower 22 = .ok (.getfield 7, 3) := dk_180 0 7 (dk_at dksX13_lower_1 0 rfl rfl)
theorem dX13_lower_25 : decode cX13_lower 25 = .ok (.iconst 3, 1) := dk_6 (dk_at dksX13_lower_1 3 rfl rfl)
theorem dX13_lower_26 : decode cX13_lower 26 = .ok (.iload_n 1, 1) := dk_27 (dk_at dksX13_lower_1 4 rfl rfl)
theorem dX13_lower_27 : decode cX13_lower 27 = .ok (.iadd, 1) := dk_96 (dk_at dksX13_lower_1 5 rfl rfl)
theorem dX13_lower_28 : decode cX13_lower 28 = .ok (.iaload, 1) := dk_46 (dk_at dksX13_lower_1 6 rfl rfl)
theorem dX13_lower_29 : decode cX13_lower 29 = .ok (.bipush 10, 2) := dk_16 10 (dk_at dksX13_lower_1 7 rfl rfl)
theorem dX13_lower_31 : decode cX13_lower 31 = .ok (.irem, 1) := dk_112 (dk_at dksX13_lower_1 9 rfl rfl)
theorem dX13_lower_32 : decode cX13_lower 32 = .ok (.isub, 1) := dk_100 (dk_at dksX13_lower_1 10 rfl rfl)
theorem dX13_lower_33 : decode cX13_lower 33 = .ok (.istore_n 2, 1) := dk_61 (dk_at dksX13_lower_1 11 rfl rfl)
theorem dX13_lower_34 : decode cX13_lower 34 = .ok (.bipush 9, 2) := dk_16 9 (dk_at dksX13_lower_1 12 rfl rfl)
theorem dX13_lower_36 : decode cX13_lower 36 = .ok (.istore_n 3, 1) := dk_62 (dk_at dksX13_lower_1 14 rfl rfl)
theorem dX13_lower_37 : decode cX13_lower 37 = .ok (.iload_n 3, 1) := dk_29 (dk_at dksX13_lower_1 15 rfl rfl)
theorem dX13_lower_38 : decode cX13_lower 38 = .ok (.ifCond .lt 21, 3) := dk_155 0 21 (dk_at dksX13_lower_1 16 rfl rfl)
theorem dX13_lower_41 : decode cX13_lower 41 = .ok (.aload_n 0, 1) := dk_42 (dk_at dksX13_lower_1 19 rfl rfl)
theorem dX13_lower_42 : decode cX13_lower 42 = .ok (.iload_n 2, 1) := dk_28 (dk_at dksX13_lower_1 20 rfl rfl)
theorem dX13_lower_43 : decode cX13_lower 43 = .ok (.iload_n 3, 1) := dk_29 (dk_at dksX13_lower_1 21 rfl rfl)
theorem dX13_lower_44 : decode cX13_lower 44 = .ok (.iadd, 1) := dk_96 (dk_at dksX13_lower_1 22 rfl rfl)
theorem dX13_lower_45 : decode cX13_lower 45 = .ok (.invokevirtual 98, 3) := dk_182 0 98 (dk_at dksX13_lower_2 0 rfl rfl)
theorem dX13_lower_48 : decode cX13_lower 48 = .ok (.ifCond .ne 5, 3) := dk_154 0 5 (dk_at dksX13_lower_2 3 rfl rfl)
theorem dX13_lower_51 : decode cX13_lower 51 = .ok (.iload_n 3, 1) := dk_29 (dk_at dksX13_lower_2 6 rfl rfl)
theorem dX13_lower_52 : decode cX13_lower 52 = .ok (.ireturn, 1) := dk_172 (dk_at dksX13_lower_2 7 rfl rfl)
theorem dX13_lower_53 : decode cX13_lower 53 = .ok (.iinc 3 (-1), 3) := dk_132 3 255 (dk_at dksX13_lower_2 8 rfl rfl)
theorem dX13_lower_56 : decode cX13_lower 56 = .ok (.goto (-19), 3) := dk_167 255 237 (dk_at dksX13_lower_2 11 rfl rfl)
theorem dX13_lower_59 : decode cX13_lower 59 = .ok (.aload_n 0, 1) := dk_42 (dk_at dksX13_lower_2 14 rfl rfl)
theorem dX13_lower_60 : decode cX13_lower 60 = .ok (.iconst 3, 1) := dk_6 (dk_at dksX13_lower_2 15 rfl rfl)
theorem dX13_lower_61 : decode cX13_lower 61 = .ok (.invokevirtual 128, 3) := dk_182 0 128 (dk_at dksX13_lower_2 16 rfl rfl)
theorem dX13_lower_64 : decode cX13_lower 64 = .ok (.ireturn, 1) := dk_172 (dk_at dksX13_lower_2 19 rfl rfl)
abbrev cX13_cover : ByteArray := prog_16_method_57_code
def yX13_cover : MethodName := ⟨RX13, "cover", "(I)I"⟩
def dkwX13_cover_4 : List UInt8 := [182, 0, 128, 167, 0, 4, 28, 172]
abbrev dktX13_cover_4 : List UInt8 := dkwX13_cover_4 ++ []
def dkwX13_cover_3 : List UInt8 := [184, 0, 84, 162, 0, 7, 29, 167, 0, 4, 28, 61, 132, 3, 1, 167, 255, 188, 28, 156, 0, 11, 42, 6]
abbrev dktX13_cover_3 : List UInt8 := dkwX13_cover_3 ++ dktX13_cover_4
def dkwX13_cover_2 : List UInt8 := [154, 0, 7, 4, 167, 0, 4, 3, 54, 4, 21, 4, 153, 0, 22, 28, 155, 0, 14, 29, 184, 0, 84, 28]
abbrev dktX13_cover_2 : List UInt8 := dkwX13_cover_2 ++ dktX13_cover_3
def dkwX13_cover_1 : List UInt8 := [46, 120, 162, 0, 62, 27, 42, 29, 6, 182, 0, 116, 42, 29, 8, 182, 0, 116, 128, 2, 130, 126]
abbrev dktX13_cover_1 : List UInt8 := dkwX13_cover_1 ++ dktX13_cover_2
def dkwX13_cover_0 : List UInt8 := [27, 184, 0, 178, 154, 0, 9, 42, 3, 182, 0, 128, 172, 2, 61, 3, 62, 29, 4, 42, 180, 0, 7, 3]
abbrev dktX13_cover_0 : List UInt8 := dkwX13_cover_0 ++ dktX13_cover_1
theorem dksX13_cover_0 : cX13_cover.data.toList.drop 0 = dktX13_cover_0 := by decide +kernel
theorem dksX13_cover_1 : cX13_cover.data.toList.drop 24 = dktX13_cover_1 := dk_seg dksX13_cover_0 24 rfl rfl
theorem dksX13_cover_2 : cX13_cover.data.toList.drop 46 = dktX13_cover_2 := dk_seg dksX13_cover_1 22 rfl rfl
theorem dksX13_cover_3 : cX13_cover.data.toList.drop 70 = dktX13_cover_3 := dk_seg dksX13_cover_2 24 rfl rfl
theorem dksX13_cover_4 : cX13_cover.data.toList.drop 94 = dktX13_cover_4 := dk_seg dksX13_cover_3 24 rfl rfl
theorem dX13_cover_0 : decode cX13_cover 0 = .ok (.iload_n 1, 1) := dk_27 (dk_at dksX13_cover_0 0 rfl rfl)
theorem dX13_cover_1 : decode cX13_cover 1 = .ok (.invokestatic 178, 3) := dk_184 0 178 (dk_at dksX13_cover_0 1 rfl rfl)
theorem dX13_cover_4 : decode cX13_cover 4 = .ok (.ifCond .ne 9, 3) := dk_154 0 9 (dk_at dksX13_cover_0 4 rfl rfl)
theorem dX13_cover_7 : decode cX13_cover 7 = .ok (.aload_n 0, 1) := dk_42 (dk_at dksX13_cover_0 7 rfl rfl)
theorem dX13_cover_8 : decode cX13_cover 8 = .ok (.iconst 0, 1) := dk_3 (dk_at dksX13_cover_0 8 rfl rfl)
theorem dX13_cover_9 : decode cX13_cover 9 = .ok (.invokevirtual 128, 3) := dk_182 0 128 (dk_at dksX13_cover_0 9 rfl rfl)
theorem dX13_cover_12 : decode cX13_cover 12 = .ok (.ireturn, 1) := dk_172 (dk_at dksX13_cover_0 12 rfl rfl)
theorem dX13_cover_13 : decode cX13_cover 13 = .ok (.iconst (-1), 1) := dk_2 (dk_at dksX13_cover_0 13 rfl rfl)
theorem dX13_cover_14 : decode cX13_cover 14 = .ok (.istore_n 2, 1) := dk_61 (dk_at dksX13_cover_0 14 rfl rfl)
theorem dX13_cover_15 : decode cX13_cover 15 = .ok (.iconst 0, 1) := dk_3 (dk_at dksX13_cover_0 15 rfl rfl)
theorem dX13_cover_16 : decode cX13_cover 16 = .ok (.istore_n 3, 1) := dk_62 (dk_at dksX13_cover_0 16 rfl rfl)
theorem dX13_cover_17 : decode cX13_cover 17 = .ok (.iload_n 3, 1) := dk_29 (dk_at dksX13_cover_0 17 rfl rfl)
theorem dX13_cover_18 : decode cX13_cover 18 = .ok (.iconst 1, 1) := dk_4 (dk_at dksX13_cover_0 18 rfl rfl)
theorem dX13_cover_19 : decode cX13_cover 19 = .ok (.aload_n 0, 1) := dk_42 (dk_at dksX13_cover_0 19 rfl rfl)
theorem dX13_cover_20 : decode cX13_cover 20 = .ok (.getfield 7, 3) := dk_180 0 7 (dk_at dksX13_cover_0 20 rfl rfl)
theorem dX13_cover_23 : decode cX13_cover 23 = .ok (.iconst 0, 1) := dk_3 (dk_at dksX13_cover_0 23 rfl rfl)
theorem dX13_cover_24 : decode cX13_cover 24 = .ok (.iaload, 1) := dk_46 (dk_at dksX13_cover_1 0 rfl rfl)
theorem dX13_cover_25 : decode cX13_cover 25 = .ok (.ishl, 1) := dk_120 (dk_at dksX13_cover_1 1 rfl rfl)
theorem dX13_cover_26 : decode cX13_cover 26 = .ok (.if_icmp .ge 62, 3) := dk_162 0 62 (dk_at dksX13_cover_1 2 rfl rfl)
theorem dX13_cover_29 : decode cX13_cover 29 = .ok (.iload_n 1, 1) := dk_27 (dk_at dksX13_cover_1 5 rfl rfl)
theorem dX13_cover_30 : decode cX13_cover 30 = .ok (.aload_n 0, 1) := dk_42 (dk_at dksX13_cover_1 6 rfl rfl)
theorem dX13_cover_31 : decode cX13_cover 31 = .ok (.iload_n 3, 1) := dk_29 (dk_at dksX13_cover_1 7 rfl rfl)
theorem dX13_cover_32 : decode cX13_cover 32 = .ok (.iconst 3, 1) := dk_6 (dk_at dksX13_cover_1 8 rfl rfl)
theorem dX13_cover_33 : decode cX13_cover 33 = .ok (.invokevirtual 116, 3) := dk_182 0 116 (dk_at dksX13_cover_1 9 rfl rfl)
theorem dX13_cover_36 : decode cX13_cover 36 = .ok (.aload_n 0, 1) := dk_42 (dk_at dksX13_cover_1 12 rfl rfl)
theorem dX13_cover_37 : decode cX13_cover 37 = .ok (.iload_n 3, 1) := dk_29 (dk_at dksX13_cover_1 13 rfl rfl)
theorem dX13_cover_38 : decode cX13_cover 38 = .ok (.iconst 5, 1) := dk_8 (dk_at dksX13_cover_1 14 rfl rfl)
theorem dX13_cover_39 : decode cX13_cover 39 = .ok (.invokevirtual 116, 3) := dk_182 0 116 (dk_at dksX13_cover_1 15 rfl rfl)
theorem dX13_cover_42 : decode cX13_cover 42 = .ok (.ior, 1) := dk_128 (dk_at dksX13_cover_1 18 rfl rfl)
theorem dX13_cover_43 : decode cX13_cover 43 = .ok (.iconst (-1), 1) := dk_2 (dk_at dksX13_cover_1 19 rfl rfl)
theorem dX13_cover_44 : decode cX13_cover 44 = .ok (.ixor, 1) := dk_130 (dk_at dksX13_cover_1 20 rfl rfl)
theorem dX13_cover_45 : decode cX13_cover 45 = .ok (.iand, 1) := dk_126 (dk_at dksX13_cover_1 21 rfl rfl)
theorem dX13_cover_46 : decode cX13_cover 46 = .ok (.ifCond .ne 7, 3) := dk_154 0 7 (dk_at dksX13_cover_2 0 rfl rfl)
theorem dX13_cover_49 : decode cX13_cover 49 = .ok (.iconst 1, 1) := dk_4 (dk_at dksX13_cover_2 3 rfl rfl)
theorem dX13_cover_50 : decode cX13_cover 50 = .ok (.goto 4, 3) := dk_167 0 4 (dk_at dksX13_cover_2 4 rfl rfl)
theorem dX13_cover_53 : decode cX13_cover 53 = .ok (.iconst 0, 1) := dk_3 (dk_at dksX13_cover_2 7 rfl rfl)
theorem dX13_cover_54 : decode cX13_cover 54 = .ok (.istore 4, 2) := dk_54 4 (dk_at dksX13_cover_2 8 rfl rfl)
theorem dX13_cover_56 : decode cX13_cover 56 = .ok (.iload 4, 2) := dk_21 4 (dk_at dksX13_cover_2 10 rfl rfl)
theorem dX13_cover_58 : decode cX13_cover 58 = .ok (.ifCond .eq 22, 3) := dk_153 0 22 (dk_at dksX13_cover_2 12 rfl rfl)
theorem dX13_cover_61 : decode cX13_cover 61 = .ok (.iload_n 2, 1) := dk_28 (dk_at dksX13_cover_2 15 rfl rfl)
theorem dX13_cover_62 : decode cX13_cover 62 = .ok (.ifCond .lt 14, 3) := dk_155 0 14 (dk_at dksX13_cover_2 16 rfl rfl)
theorem dX13_cover_65 : decode cX13_cover 65 = .ok (.iload_n 3, 1) := dk_29 (dk_at dksX13_cover_2 19 rfl rfl)
theorem dX13_cover_66 : decode cX13_cover 66 = .ok (.invokestatic 84, 3) := dk_184 0 84 (dk_at dksX13_cover_2 20 rfl rfl)
theorem dX13_cover_69 : decode cX13_cover 69 = .ok (.iload_n 2, 1) := dk_28 (dk_at dksX13_cover_2 23 rfl rfl)
theorem dX13_cover_70 : decode cX13_cover 70 = .ok (.invokestatic 84, 3) := dk_184 0 84 (dk_at dksX13_cover_3 0 rfl rfl)
theorem dX13_cover_73 : decode cX13_cover 73 = .ok (.if_icmp .ge 7, 3) := dk_162 0 7 (dk_at dksX13_cover_3 3 rfl rfl)
theorem dX13_cover_76 : decode cX13_cover 76 = .ok (.iload_n 3, 1) := dk_29 (dk_at dksX13_cover_3 6 rfl rfl)
theorem dX13_cover_77 : decode cX13_cover 77 = .ok (.goto 4, 3) := dk_167 0 4 (dk_at dksX13_cover_3 7 rfl rfl)
theorem dX13_cover_80 : decode cX13_cover 80 = .ok (.iload_n 2, 1) := dk_28 (dk_at dksX13_cover_3 10 rfl rfl)
theorem dX13_cover_81 : decode cX13_cover 81 = .ok (.istore_n 2, 1) := dk_61 (dk_at dksX13_cover_3 11 rfl rfl)
theorem dX13_cover_82 : decode cX13_cover 82 = .ok (.iinc 3 1, 3) := dk_132 3 1 (dk_at dksX13_cover_3 12 rfl rfl)
theorem dX13_cover_85 : decode cX13_cover 85 = .ok (.goto (-68), 3) := dk_167 255 188 (dk_at dksX13_cover_3 15 rfl rfl)
theorem dX13_cover_88 : decode cX13_cover 88 = .ok (.iload_n 2, 1) := dk_28 (dk_at dksX13_cover_3 18 rfl rfl)
theorem dX13_cover_89 : decode cX13_cover 89 = .ok (.ifCond .ge 11, 3) := dk_156 0 11 (dk_at dksX13_cover_3 19 rfl rfl)
theorem dX13_cover_92 : decode cX13_cover 92 = .ok (.aload_n 0, 1) := dk_42 (dk_at dksX13_cover_3 22 rfl rfl)
theorem dX13_cover_93 : decode cX13_cover 93 = .ok (.iconst 3, 1) := dk_6 (dk_at dksX13_cover_3 23 rfl rfl)
theorem dX13_cover_94 : decode cX13_cover 94 = .ok (.invokevirtual 128, 3) := dk_182 0 128 (dk_at dksX13_cover_4 0 rfl rfl)
theorem dX13_cover_97 : decode cX13_cover 97 = .ok (.goto 4, 3) := dk_167 0 4 (dk_at dksX13_cover_4 3 rfl rfl)
theorem dX13_cover_100 : decode cX13_cover 100 = .ok (.iload_n 2, 1) := dk_28 (dk_at dksX13_cover_4 6 rfl rfl)
theorem dX13_cover_101 : decode cX13_cover 101 = .ok (.ireturn, 1) := dk_172 (dk_at dksX13_cover_4 7 rfl rfl)
abbrev cX13_away : ByteArray := prog_16_method_58_code
def yX13_away : MethodName := ⟨RX13, "away", "(III)I"⟩
def dkwX13_away_7 : List UInt8 := [156, 0, 11, 42, 6, 182, 0, 128, 167, 0, 5, 21, 4, 172]
abbrev dktX13_away_7 : List UInt8 := dkwX13_away_7 ++ []
def dkwX13_away_6 : List UInt8 := [21, 5, 167, 0, 5, 21, 4, 54, 4, 132, 5, 1, 167, 255, 153, 42, 3, 181, 0, 54, 21, 4]
abbrev dktX13_away_6 : List UInt8 := dkwX13_away_6 ++ dktX13_away_7
def dkwX13_away_5 : List UInt8 := [54, 6, 42, 180, 0, 16, 42, 180, 0, 7, 184, 0, 167, 21, 6, 28, 122, 4, 126, 4, 160, 0, 8]
abbrev dktX13_away_5 : List UInt8 := dkwX13_away_5 ++ dktX13_away_6
def dkwX13_away_4 : List UInt8 := [42, 21, 5, 181, 0, 54, 42, 29, 182, 0, 152, 42, 27, 6, 182, 0, 58, 42, 27, 8, 182, 0, 58, 128]
abbrev dktX13_away_4 : List UInt8 := dkwX13_away_4 ++ dktX13_away_5
def dkwX13_away_3 : List UInt8 := [159, 0, 80, 21, 4, 155, 0, 19, 21, 5, 184, 0, 84, 21, 4, 184, 0, 84, 161, 0, 6, 167, 0, 59]
abbrev dktX13_away_3 : List UInt8 := dkwX13_away_3 ++ dktX13_away_4
def dkwX13_away_2 : List UInt8 := [54, 5, 21, 5, 4, 42, 180, 0, 7, 3, 46, 120, 162, 0, 96, 21, 5, 27, 122, 4, 126, 4]
abbrev dktX13_away_2 : List UInt8 := dkwX13_away_2 ++ dktX13_away_3
def dkwX13_away_1 : List UInt8 := [154, 0, 9, 42, 3, 182, 0, 128, 172, 42, 180, 0, 7, 42, 180, 0, 16, 184, 0, 167, 2, 54, 4, 3]
abbrev dktX13_away_1 : List UInt8 := dkwX13_away_1 ++ dktX13_away_2
def dkwX13_away_0 : List UInt8 := [42, 27, 182, 0, 138, 153, 0, 22, 28, 184, 0, 147, 153, 0, 15, 29, 133, 9, 20, 0, 188, 184, 0, 42]
abbrev dktX13_away_0 : List UInt8 := dkwX13_away_0 ++ dktX13_away_1
theorem dksX13_away_0 : cX13_away.data.toList.drop 0 = dktX13_away_0 := by decide +kernel
theorem dksX13_away_1 : cX13_away.data.toList.drop 24 = dktX13_away_1 := dk_seg dksX13_away_0 24 rfl rfl
theorem dksX13_away_2 : cX13_away.data.toList.drop 48 = dktX13_away_2 := dk_seg dksX13_away_1 24 rfl rfl
theorem dksX13_away_3 : cX13_away.data.toList.drop 70 = dktX13_away_3 := dk_seg dksX13_away_2 22 rfl rfl
theorem dksX13_away_4 : cX13_away.data.toList.drop 94 = dktX13_away_4 := dk_seg dksX13_away_3 24 rfl rfl
theorem dksX13_away_5 : cX13_away.data.toList.drop 118 = dktX13_away_5 := dk_seg dksX13_away_4 24 rfl rfl
theorem dksX13_away_6 : cX13_away.data.toList.drop 141 = dktX13_away_6 := dk_seg dksX13_away_5 23 rfl rfl
theorem dksX13_away_7 : cX13_away.data.toList.drop 163 = dktX13_away_7 := dk_seg dksX13_away_6 22 rfl rfl
theorem dX13_away_0 : decode cX13_away 0 = .ok (.aload_n 0, 1) := dk_42 (dk_at dksX13_away_0 0 rfl rfl)
theorem dX13_away_1 : decode cX13_away 1 = .ok (.iload_n 1, 1) := dk_27 (dk_at dksX13_away_0 1 rfl rfl)
theorem dX13_away_2 : decode cX13_away 2 = .ok (.invokevirtual 138, 3) := dk_182 0 138 (dk_at dksX13_away_0 2 rfl rfl)
theorem dX13_away_5 : decode cX13_away 5 = .ok (.ifCond .eq 22, 3) := dk_153 0 22 (dk_at dksX13_away_0 5 rfl rfl)
theorem dX13_away_8 : decode cX13_away 8 = .ok (.iload_n 2, 1) := dk_28 (dk_at dksX13_away_0 8 rfl rfl)
theorem dX13_away_9 : decode cX13_away 9 = .ok (.invokestatic 147, 3) := dk_184 0 147 (dk_at dksX13_away_0 9 rfl rfl)
theorem dX13_away_12 : decode cX13_away 12 = .ok (.ifCond .eq 15, 3) := dk_153 0 15 (dk_at dksX13_away_0 12 rfl rfl)
theorem dX13_away_15 : decode cX13_away 15 = .ok (.iload_n 3, 1) := dk_29 (dk_at dksX13_away_0 15 rfl rfl)
theorem dX13_away_16 : decode cX13_away 16 = .ok (.i2l, 1) := dk_133 (dk_at dksX13_away_0 16 rfl rfl)
theorem dX13_away_17 : decode cX13_away 17 = .ok (.lconst 0, 1) := dk_9 (dk_at dksX13_away_0 17 rfl rfl)
theorem dX13_away_18 : decode cX13_away 18 = .ok (.ldc2_w 188, 3) := dk_20 0 188 (dk_at dksX13_away_0 18 rfl rfl)
theorem dX13_away_21 : decode cX13_away 21 = .ok (.invokestatic 42, 3) := dk_184 0 42 (dk_at dksX13_away_0 21 rfl rfl)
theorem dX13_away_24 : decode cX13_away 24 = .ok (.ifCond .ne 9, 3) := dk_154 0 9 (dk_at dksX13_away_1 0 rfl rfl)
theorem dX13_away_27 : decode cX13_away 27 = .ok (.aload_n 0, 1) := dk_42 (dk_at dksX13_away_1 3 rfl rfl)
theorem dX13_away_28 : decode cX13_away 28 = .ok (.iconst 0, 1) := dk_3 (dk_at dksX13_away_1 4 rfl rfl)
theorem dX13_away_29 : decode cX13_away 29 = .ok (.invokevirtual 128, 3) := dk_182 0 128 (dk_at dksX13_away_1 5 rfl rfl)
theorem dX13_away_32 : decode cX13_away 32 = .ok (.ireturn, 1) := dk_172 (dk_at dksX13_away_1 8 rfl rfl)
theorem dX13_away_33 : decode cX13_away 33 = .ok (.aload_n 0, 1) := dk_42 (dk_at dksX13_away_1 9 rfl rfl)
theorem dX13_away_34 : decode cX13_away 34 = .ok (.getfield 7, 3) := dk_180 0 7 (dk_at dksX13_away_1 10 rfl rfl)
theorem dX13_away_37 : decode cX13_away 37 = .ok (.aload_n 0, 1) := dk_42 (dk_at dksX13_away_1 13 rfl rfl)
theorem dX13_away_38 : decode cX13_away 38 = .ok (.getfield 16, 3) := dk_180 0 16 (dk_at dksX13_away_1 14 rfl rfl)
theorem dX13_away_41 : decode cX13_away 41 = .ok (.invokestatic 167, 3) := dk_184 0 167 (dk_at dksX13_away_1 17 rfl rfl)
theorem dX13_away_44 : decode cX13_away 44 = .ok (.iconst (-1), 1) := dk_2 (dk_at dksX13_away_1 20 rfl rfl)
theorem dX13_away_45 : decode cX13_away 45 = .ok (.istore 4, 2) := dk_54 4 (dk_at dksX13_away_1 21 rfl rfl)
theorem dX13_away_47 : decode cX13_away 47 = .ok (.iconst 0, 1) := dk_3 (dk_at dksX13_away_1 23 rfl rfl)
theorem dX13_away_48 : decode cX13_away 48 = .ok (.istore 5, 2) := dk_54 5 (dk_at dksX13_away_2 0 rfl rfl)
theorem dX13_away_50 : decode cX13_away 50 = .ok (.iload 5, 2) := dk_21 5 (dk_at dksX13_away_2 2 rfl rfl)
theorem dX13_away_52 : decode cX13_away 52 = .ok (.iconst 1, 1) := dk_4 (dk_at dksX13_away_2 4 rfl rfl)
theorem dX13_away_53 : decode cX13_away 53 = .ok (.aload_n 0, 1) := dk_42 (dk_at dksX13_away_2 5 rfl rfl)
theorem dX13_away_54 : decode cX13_away 54 = .ok (.getfield 7, 3) := dk_180 0 7 (dk_at dksX13_away_2 6 rfl rfl)
theorem dX13_away_57 : decode cX13_away 57 = .ok (.iconst 0, 1) := dk_3 (dk_at dksX13_away_2 9 rfl rfl)
theorem dX13_away_58 : decode cX13_away 58 = .ok (.iaload, 1) := dk_46 (dk_at dksX13_away_2 10 rfl rfl)
theorem dX13_away_59 : decode cX13_away 59 = .ok (.ishl, 1) := dk_120 (dk_at dksX13_away_2 11 rfl rfl)
theorem dX13_away_60 : decode cX13_away 60 = .ok (.if_icmp .ge 96, 3) := dk_162 0 96 (dk_at dksX13_away_2 12 rfl rfl)
theorem dX13_away_63 : decode cX13_away 63 = .ok (.iload 5, 2) := dk_21 5 (dk_at dksX13_away_2 15 rfl rfl)
theorem dX13_away_65 : decode cX13_away 65 = .ok (.iload_n 1, 1) := dk_27 (dk_at dksX13_away_2 17 rfl rfl)
theorem dX13_away_66 : decode cX13_away 66 = .ok (.ishr, 1) := dk_122 (dk_at dksX13_away_2 18 rfl rfl)
theorem dX13_away_67 : decode cX13_away 67 = .ok (.iconst 1, 1) := dk_4 (dk_at dksX13_away_2 19 rfl rfl)
theorem dX13_away_68 : decode cX13_away 68 = .ok (.iand, 1) := dk_126 (dk_at dksX13_away_2 20 rfl rfl)
theorem dX13_away_69 : decode cX13_away 69 = .ok (.iconst 1, 1) := dk_4 (dk_at dksX13_away_2 21 rfl rfl)
theorem dX13_away_70 : decode cX13_away 70 = .ok (.if_icmp .eq 80, 3) := dk_159 0 80 (dk_at dksX13_away_3 0 rfl rfl)
theorem dX13_away_73 : decode cX13_away 73 = .ok (.iload 4, 2) := dk_21 4 (dk_at dksX13_away_3 3 rfl rfl)
theorem dX13_away_75 : decode cX13_away 75 = .ok (.ifCond .lt 19, 3) := dk_155 0 19 (dk_at dksX13_away_3 5 rfl rfl)
theorem dX13_away_78 : decode cX13_away 78 = .ok (.iload 5, 2) := dk_21 5 (dk_at dksX13_away_3 8 rfl rfl)
theorem dX13_away_80 : decode cX13_away 80 = .ok (.invokestatic 84, 3) := dk_184 0 84 (dk_at dksX13_away_3 10 rfl rfl)
theorem dX13_away_83 : decode cX13_away 83 = .ok (.iload 4, 2) := dk_21 4 (dk_at dksX13_away_3 13 rfl rfl)
theorem dX13_away_85 : decode cX13_away 85 = .ok (.invokestatic 84, 3) := dk_184 0 84 (dk_at dksX13_away_3 15 rfl rfl)
theorem dX13_away_88 : decode cX13_away 88 = .ok (.if_icmp .lt 6, 3) := dk_161 0 6 (dk_at dksX13_away_3 18 rfl rfl)
theorem dX13_away_91 : decode cX13_away 91 = .ok (.goto 59, 3) := dk_167 0 59 (dk_at dksX13_away_3 21 rfl rfl)
theorem dX13_away_94 : decode cX13_away 94 = .ok (.aload_n 0, 1) := dk_42 (dk_at dksX13_away_4 0 rfl rfl)
theorem dX13_away_95 : decode cX13_away 95 = .ok (.iload 5, 2) := dk_21 5 (dk_at dksX13_away_4 1 rfl rfl)
theorem dX13_away_97 : decode cX13_away 97 = .ok (.putfield 54, 3) := dk_181 0 54 (dk_at dksX13_away_4 3 rfl rfl)
theorem dX13_away_100 : decode cX13_away 100 = .ok (.aload_n 0, 1) := dk_42 (dk_at dksX13_away_4 6 rfl rfl)
theorem dX13_away_101 : decode cX13_away 101 = .ok (.iload_n 3, 1) := dk_29 (dk_at dksX13_away_4 7 rfl rfl)
theorem dX13_away_102 : decode cX13_away 102 = .ok (.invokevirtual 152, 3) := dk_182 0 152 (dk_at dksX13_away_4 8 rfl rfl)
theorem dX13_away_105 : decode cX13_away 105 = .ok (.aload_n 0, 1) := dk_42 (dk_at dksX13_away_4 11 rfl rfl)
theorem dX13_away_106 : decode cX13_away 106 = .ok (.iload_n 1, 1) := dk_27 (dk_at dksX13_away_4 12 rfl rfl)
theorem dX13_away_107 : decode cX13_away 107 = .ok (.iconst 3, 1) := dk_6 (dk_at dksX13_away_4 13 rfl rfl)
theorem dX13_away_108 : decode cX13_away 108 = .ok (.invokevirtual 58, 3) := dk_182 0 58 (dk_at dksX13_away_4 14 rfl rfl)
theorem dX13_away_111 : decode cX13_away 111 = .ok (.aload_n 0, 1) := dk_42 (dk_at dksX13_away_4 17 rfl rfl)
theorem dX13_away_112 : decode cX13_away 112 = .ok (.iload_n 1, 1) := dk_27 (dk_at dksX13_away_4 18 rfl rfl)
theorem dX13_away_113 : decode cX13_away 113 = .ok (.iconst 5, 1) := dk_8 (dk_at dksX13_away_4 19 rfl rfl)
theorem dX13_away_114 : decode cX13_away 114 = .ok (.invokevirtual 58, 3) := dk_182 0 58 (dk_at dksX13_away_4 20 rfl rfl)
theorem dX13_away_117 : decode cX13_away 117 = .ok (.ior, 1) := dk_128 (dk_at dksX13_away_4 23 rfl rfl)
theorem dX13_away_118 : decode cX13_away 118 = .ok (.istore 6, 2) := dk_54 6 (dk_at dksX13_away_5 0 rfl rfl)
theorem dX13_away_120 : decode cX13_away 120 = .ok (.aload_n 0, 1) := dk_42 (dk_at dksX13_away_5 2 rfl rfl)
theorem dX13_away_121 : decode cX13_away 121 = .ok (.getfield 16, 3) := dk_180 0 16 (dk_at dksX13_away_5 3 rfl rfl)
theorem dX13_away_124 : decode cX13_away 124 = .ok (.aload_n 0, 1) := dk_42 (dk_at dksX13_away_5 6 rfl rfl)
theorem dX13_away_125 : decode cX13_away 125 = .ok (.getfield 7, 3) := dk_180 0 7 (dk_at dksX13_away_5 7 rfl rfl)
theorem dX13_away_128 : decode cX13_away 128 = .ok (.invokestatic 167, 3) := dk_184 0 167 (dk_at dksX13_away_5 10 rfl rfl)
theorem dX13_away_131 : decode cX13_away 131 = .ok (.iload 6, 2) := dk_21 6 (dk_at dksX13_away_5 13 rfl rfl)
theorem dX13_away_133 : decode cX13_away 133 = .ok (.iload_n 2, 1) := dk_28 (dk_at dksX13_away_5 15 rfl rfl)
theorem dX13_away_134 : decode cX13_away 134 = .ok (.ishr, 1) := dk_122 (dk_at dksX13_away_5 16 rfl rfl)
theorem dX13_away_135 : decode cX13_away 135 = .ok (.iconst 1, 1) := dk_4 (dk_at dksX13_away_5 17 rfl rfl)
theorem dX13_away_136 : decode cX13_away 136 = .ok (.iand, 1) := dk_126 (dk_at dksX13_away_5 18 rfl rfl)
theorem dX13_away_137 : decode cX13_away 137 = .ok (.iconst 1, 1) := dk_4 (dk_at dksX13_away_5 19 rfl rfl)
theorem dX13_away_138 : decode cX13_away 138 = .ok (.if_icmp .ne 8, 3) := dk_160 0 8 (dk_at dksX13_away_5 20 rfl rfl)
theorem dX13_away_141 : decode cX13_away 141 = .ok (.iload 5, 2) := dk_21 5 (dk_at dksX13_away_6 0 rfl rfl)
theorem dX13_away_143 : decode cX13_away 143 = .ok (.goto 5, 3) := dk_167 0 5 (dk_at dksX13_away_6 2 rfl rfl)
theorem dX13_away_146 : decode cX13_away 146 = .ok (.iload 4, 2) := dk_21 4 (dk_at dksX13_away_6 5 rfl rfl)
theorem dX13_away_148 : decode cX13_away 148 = .ok (.istore 4, 2) := dk_54 4 (dk_at dksX13_away_6 7 rfl rfl)
theorem dX13_away_150 : decode cX13_away 150 = .ok (.iinc 5 1, 3) := dk_132 5 1 (dk_at dksX13_away_6 9 rfl rfl)
theorem dX13_away_153 : decode cX13_away 153 = .ok (.goto (-103), 3) := dk_167 255 153 (dk_at dksX13_away_6 12 rfl rfl)
theorem dX13_away_156 : decode cX13_away 156 = .ok (.aload_n 0, 1) := dk_42 (dk_at dksX13_away_6 15 rfl rfl)
theorem dX13_away_157 : decode cX13_away 157 = .ok (.iconst 0, 1) := dk_3 (dk_at dksX13_away_6 16 rfl rfl)
theorem dX13_away_158 : decode cX13_away 158 = .ok (.putfield 54, 3) := dk_181 0 54 (dk_at dksX13_away_6 17 rfl rfl)
theorem dX13_away_161 : decode cX13_away 161 = .ok (.iload 4, 2) := dk_21 4 (dk_at dksX13_away_6 20 rfl rfl)
theorem dX13_away_163 : decode cX13_away 163 = .ok (.ifCond .ge 11, 3) := dk_156 0 11 (dk_at dksX13_away_7 0 rfl rfl)
theorem dX13_away_166 : decode cX13_away 166 = .ok (.aload_n 0, 1) := dk_42 (dk_at dksX13_away_7 3 rfl rfl)
theorem dX13_away_167 : decode cX13_away 167 = .ok (.iconst 3, 1) := dk_6 (dk_at dksX13_away_7 4 rfl rfl)
theorem dX13_away_168 : decode cX13_away 168 = .ok (.invokevirtual 128, 3) := dk_182 0 128 (dk_at dksX13_away_7 5 rfl rfl)
theorem dX13_away_171 : decode cX13_away 171 = .ok (.goto 5, 3) := dk_167 0 5 (dk_at dksX13_away_7 8 rfl rfl)
theorem dX13_away_174 : decode cX13_away 174 = .ok (.iload 4, 2) := dk_21 4 (dk_at dksX13_away_7 11 rfl rfl)
theorem dX13_away_176 : decode cX13_away 176 = .ok (.ireturn, 1) := dk_172 (dk_at dksX13_away_7 13 rfl rfl)
abbrev cX13_fits : ByteArray := prog_16_method_61_code
def yX13_fits : MethodName := ⟨RX13, "fits", "(II)I"⟩
def dkwX13_fits_1 : List UInt8 := [182, 0, 196, 172]
abbrev dktX13_fits_1 : List UInt8 := dkwX13_fits_1 ++ []
def dkwX13_fits_0 : List UInt8 := [42, 27, 28, 182, 0, 193, 62, 29, 155, 0, 11, 42, 29, 182, 0, 128, 167, 0, 11, 42, 27, 28, 4, 8]
abbrev dktX13_fits_0 : List UInt8 := dkwX13_fits_0 ++ dktX13_fits_1
theorem dksX13_fits_0 : cX13_fits.data.toList.drop 0 = dktX13_fits_0 := by decide +kernel
theorem dksX13_fits_1 : cX13_fits.data.toList.drop 24 = dktX13_fits_1 := dk_seg dksX13_fits_0 24 rfl rfl
theorem dX13_fits_0 : decode cX13_fits 0 = .ok (.aload_n 0, 1) := dk_42 (dk_at dksX13_fits_0 0 rfl rfl)
theorem dX13_fits_1 : decode cX13_fits 1 = .ok (.iload_n 1, 1) := dk_27 (dk_at dksX13_fits_0 1 rfl rfl)
theorem dX13_fits_2 : decode cX13_fits 2 = .ok (.iload_n 2, 1) := dk_28 (dk_at dksX13_fits_0 2 rfl rfl)
theorem dX13_fits_3 : decode cX13_fits 3 = .ok (.invokevirtual 193, 3) := dk_182 0 193 (dk_at dksX13_fits_0 3 rfl rfl)
theorem dX13_fits_6 : decode cX13_fits 6 = .ok (.istore_n 3, 1) := dk_62 (dk_at dksX13_fits_0 6 rfl rfl)
theorem dX13_fits_7 : decode cX13_fits 7 = .ok (.iload_n 3, 1) := dk_29 (dk_at dksX13_fits_0 7 rfl rfl)
theorem dX13_fits_8 : decode cX13_fits 8 = .ok (.ifCond .lt 11, 3) := dk_155 0 11 (dk_at dksX13_fits_0 8 rfl rfl)
theorem dX13_fits_11 : decode cX13_fits 11 = .ok (.aload_n 0, 1) := dk_42 (dk_at dksX13_fits_0 11 rfl rfl)
theorem dX13_fits_12 : decode cX13_fits 12 = .ok (.iload_n 3, 1) := dk_29 (dk_at dksX13_fits_0 12 rfl rfl)
theorem dX13_fits_13 : decode cX13_fits 13 = .ok (.invokevirtual 128, 3) := dk_182 0 128 (dk_at dksX13_fits_0 13 rfl rfl)
theorem dX13_fits_16 : decode cX13_fits 16 = .ok (.goto 11, 3) := dk_167 0 11 (dk_at dksX13_fits_0 16 rfl rfl)
theorem dX13_fits_19 : decode cX13_fits 19 = .ok (.aload_n 0, 1) := dk_42 (dk_at dksX13_fits_0 19 rfl rfl)
theorem dX13_fits_20 : decode cX13_fits 20 = .ok (.iload_n 1, 1) := dk_27 (dk_at dksX13_fits_0 20 rfl rfl)
theorem dX13_fits_21 : decode cX13_fits 21 = .ok (.iload_n 2, 1) := dk_28 (dk_at dksX13_fits_0 21 rfl rfl)
theorem dX13_fits_22 : decode cX13_fits 22 = .ok (.iconst 1, 1) := dk_4 (dk_at dksX13_fits_0 22 rfl rfl)
theorem dX13_fits_23 : decode cX13_fits 23 = .ok (.iconst 5, 1) := dk_8 (dk_at dksX13_fits_0 23 rfl rfl)
theorem dX13_fits_24 : decode cX13_fits 24 = .ok (.invokevirtual 196, 3) := dk_182 0 196 (dk_at dksX13_fits_1 0 rfl rfl)
theorem dX13_fits_27 : decode cX13_fits 27 = .ok (.ireturn, 1) := dk_172 (dk_at dksX13_fits_1 3 rfl rfl)
abbrev cX13_whyNot : ByteArray := prog_16_method_60_code
def yX13_whyNot : MethodName := ⟨RX13, "whyNot", "(II)I"⟩
def dkwX13_whyNot_1 : List UInt8 := [167, 0, 4, 3, 172]
abbrev dktX13_whyNot_1 : List UInt8 := dkwX13_whyNot_1 ++ []
def dkwX13_whyNot_0 : List UInt8 := [42, 27, 182, 0, 190, 62, 29, 155, 0, 7, 29, 167, 0, 16, 42, 28, 182, 0, 138, 153, 0, 7, 2]
abbrev dktX13_whyNot_0 : List UInt8 := dkwX13_whyNot_0 ++ dktX13_whyNot_1
theorem dksX13_whyNot_0 : cX13_whyNot.data.toList.drop 0 = dktX13_whyNot_0 := by decide +kernel
theorem dksX13_whyNot_1 : cX13_whyNot.data.toList.drop 23 = dktX13_whyNot_1 := dk_seg dksX13_whyNot_0 23 rfl rfl
theorem dX13_whyNot_0 : decode cX13_whyNot 0 = .ok (.aload_n 0, 1) := dk_42 (dk_at dksX13_whyNot_0 0 rfl rfl)
theorem dX13_whyNot_1 : decode cX13_whyNot 1 = .ok (.iload_n 1, 1) := dk_27 (dk_at dksX13_whyNot_0 1 rfl rfl)
theorem dX13_whyNot_2 : decode cX13_whyNot 2 = .ok (.invokevirtual 190, 3) := dk_182 0 190 (dk_at dksX13_whyNot_0 2 rfl rfl)
theorem dX13_whyNot_5 : decode cX13_whyNot 5 = .ok (.istore_n 3, 1) := dk_62 (dk_at dksX13_whyNot_0 5 rfl rfl)
theorem dX13_whyNot_6 : decode cX13_whyNot 6 = .ok (.iload_n 3, 1) := dk_29 (dk_at dksX13_whyNot_0 6 rfl rfl)
theorem dX13_whyNot_7 : decode cX13_whyNot 7 = .ok (.ifCond .lt 7, 3) := dk_155 0 7 (dk_at dksX13_whyNot_0 7 rfl rfl)
theorem dX13_whyNot_10 : decode cX13_whyNot 10 = .ok (.iload_n 3, 1) := dk_29 (dk_at dksX13_whyNot_0 10 rfl rfl)
theorem dX13_whyNot_11 : decode cX13_whyNot 11 = .ok (.goto 16, 3) := dk_167 0 16 (dk_at dksX13_whyNot_0 11 rfl rfl)
theorem dX13_whyNot_14 : decode cX13_whyNot 14 = .ok (.aload_n 0, 1) := dk_42 (dk_at dksX13_whyNot_0 14 rfl rfl)
theorem dX13_whyNot_15 : decode cX13_whyNot 15 = .ok (.iload_n 2, 1) := dk_28 (dk_at dksX13_whyNot_0 15 rfl rfl)
theorem dX13_whyNot_16 : decode cX13_whyNot 16 = .ok (.invokevirtual 138, 3) := dk_182 0 138 (dk_at dksX13_whyNot_0 16 rfl rfl)
theorem dX13_whyNot_19 : decode cX13_whyNot 19 = .ok (.ifCond .eq 7, 3) := dk_153 0 7 (dk_at dksX13_whyNot_0 19 rfl rfl)
theorem dX13_whyNot_22 : decode cX13_whyNot 22 = .ok (.iconst (-1), 1) := dk_2 (dk_at dksX13_whyNot_0 22 rfl rfl)
theorem dX13_whyNot_23 : decode cX13_whyNot 23 = .ok (.goto 4, 3) := dk_167 0 4 (dk_at dksX13_whyNot_1 0 rfl rfl)
theorem dX13_whyNot_26 : decode cX13_whyNot 26 = .ok (.iconst 0, 1) := dk_3 (dk_at dksX13_whyNot_1 3 rfl rfl)
theorem dX13_whyNot_27 : decode cX13_whyNot 27 = .ok (.ireturn, 1) := dk_172 (dk_at dksX13_whyNot_1 4 rfl rfl)
abbrev cX13_whyNone : ByteArray := prog_16_method_89_code
def yX13_whyNone : MethodName := ⟨RX13, "whyNone", "(I)I"⟩
def dkwX13_whyNone_1 : List UInt8 := [2, 172]
abbrev dktX13_whyNone_1 : List UInt8 := dkwX13_whyNone_1 ++ []
def dkwX13_whyNone_0 : List UInt8 := [27, 184, 1, 53, 154, 0, 7, 3, 167, 0, 17, 42, 180, 0, 29, 27, 46, 154, 0, 7, 8, 167, 0, 4]
abbrev dktX13_whyNone_0 : List UInt8 := dkwX13_whyNone_0 ++ dktX13_whyNone_1
theorem dksX13_whyNone_0 : cX13_whyNone.data.toList.drop 0 = dktX13_whyNone_0 := by decide +kernel
theorem dksX13_whyNone_1 : cX13_whyNone.data.toList.drop 24 = dktX13_whyNone_1 := dk_seg dksX13_whyNone_0 24 rfl rfl
theorem dX13_whyNone_0 : decode cX13_whyNone 0 = .ok (.iload_n 1, 1) := dk_27 (dk_at dksX13_whyNone_0 0 rfl rfl)
theorem dX13_whyNone_1 : decode cX13_whyNone 1 = .ok (.invokestatic 309, 3) := dk_184 1 53 (dk_at dksX13_whyNone_0 1 rfl rfl)
theorem dX13_whyNone_4 : decode cX13_whyNone 4 = .ok (.ifCond .ne 7, 3) := dk_154 0 7 (dk_at dksX13_whyNone_0 4 rfl rfl)
theorem dX13_whyNone_7 : decode cX13_whyNone 7 = .ok (.iconst 0, 1) := dk_3 (dk_at dksX13_whyNone_0 7 rfl rfl)
theorem dX13_whyNone_8 : decode cX13_whyNone 8 = .ok (.goto 17, 3) := dk_167 0 17 (dk_at dksX13_whyNone_0 8 rfl rfl)
theorem dX13_whyNone_11 : decode cX13_whyNone 11 = .ok (.aload_n 0, 1) := dk_42 (dk_at dksX13_whyNone_0 11 rfl rfl)
theorem dX13_whyNone_12 : decode cX13_whyNone 12 = .ok (.getfield 29, 3) := dk_180 0 29 (dk_at dksX13_whyNone_0 12 rfl rfl)
theorem dX13_whyNone_15 : decode cX13_whyNone 15 = .ok (.iload_n 1, 1) := dk_27 (dk_at dksX13_whyNone_0 15 rfl rfl)
theorem dX13_whyNone_16 : decode cX13_whyNone 16 = .ok (.iaload, 1) := dk_46 (dk_at dksX13_whyNone_0 16 rfl rfl)
theorem dX13_whyNone_17 : decode cX13_whyNone 17 = .ok (.ifCond .ne 7, 3) := dk_154 0 7 (dk_at dksX13_whyNone_0 17 rfl rfl)
theorem dX13_whyNone_20 : decode cX13_whyNone 20 = .ok (.iconst 5, 1) := dk_8 (dk_at dksX13_whyNone_0 20 rfl rfl)
theorem dX13_whyNone_21 : decode cX13_whyNone 21 = .ok (.goto 4, 3) := dk_167 0 4 (dk_at dksX13_whyNone_0 21 rfl rfl)
theorem dX13_whyNone_24 : decode cX13_whyNone 24 = .ok (.iconst (-1), 1) := dk_2 (dk_at dksX13_whyNone_1 0 rfl rfl)
theorem dX13_whyNone_25 : decode cX13_whyNone 25 = .ok (.ireturn, 1) := dk_172 (dk_at dksX13_whyNone_1 1 rfl rfl)
abbrev cX13_isSheet : ByteArray := prog_16_method_87_code
def yX13_isSheet : MethodName := ⟨RX13, "isSheet", "(I)Z"⟩
def dkwX13_isSheet_0 : List UInt8 := [26, 133, 9, 20, 0, 131, 184, 0, 42, 172]
abbrev dktX13_isSheet_0 : List UInt8 := dkwX13_isSheet_0 ++ []
theorem dksX13_isSheet_0 : cX13_isSheet.data.toList.drop 0 = dktX13_isSheet_0 := by decide +kernel
theorem dX13_isSheet_0 : decode cX13_isSheet 0 = .ok (.iload_n 0, 1) := dk_26 (dk_at dksX13_isSheet_0 0 rfl rfl)
theorem dX13_isSheet_1 : decode cX13_isSheet 1 = .ok (.i2l, 1) := dk_133 (dk_at dksX13_isSheet_0 1 rfl rfl)
theorem dX13_isSheet_2 : decode cX13_isSheet 2 = .ok (.lconst 0, 1) := dk_9 (dk_at dksX13_isSheet_0 2 rfl rfl)
theorem dX13_isSheet_3 : decode cX13_isSheet 3 = .ok (.ldc2_w 131, 3) := dk_20 0 131 (dk_at dksX13_isSheet_0 3 rfl rfl)
theorem dX13_isSheet_6 : decode cX13_isSheet 6 = .ok (.invokestatic 42, 3) := dk_184 0 42 (dk_at dksX13_isSheet_0 6 rfl rfl)
theorem dX13_isSheet_9 : decode cX13_isSheet 9 = .ok (.ireturn, 1) := dk_172 (dk_at dksX13_isSheet_0 9 rfl rfl)
abbrev cX13_fitting : ByteArray := prog_16_method_59_code
def yX13_fitting : MethodName := ⟨RX13, "fitting", "(IIII)I"⟩
def dkwX13_fitting_5 : List UInt8 := [153, 0, 10, 4, 21, 6, 120, 167, 0, 4, 3, 128, 54, 5, 132, 6, 1, 167, 255, 139, 21, 5, 172]
abbrev dktX13_fitting_5 : List UInt8 := dkwX13_fitting_5 ++ []
def dkwX13_fitting_4 : List UInt8 := [182, 0, 113, 132, 8, 1, 167, 255, 195, 42, 180, 0, 16, 42, 180, 0, 7, 184, 0, 167, 21, 5, 21, 7]
abbrev dktX13_fitting_4 : List UInt8 := dkwX13_fitting_4 ++ dktX13_fitting_5
def dkwX13_fitting_3 : List UInt8 := [2, 159, 0, 14, 21, 9, 42, 28, 6, 182, 0, 58, 160, 0, 7, 4, 167, 0, 4, 3, 54, 7, 42]
abbrev dktX13_fitting_3 : List UInt8 := dkwX13_fitting_3 ++ dktX13_fitting_4
def dkwX13_fitting_2 : List UInt8 := [162, 0, 56, 21, 7, 153, 0, 51, 42, 180, 0, 35, 16, 40, 27, 104, 21, 8, 96, 46, 54, 9, 21, 9]
abbrev dktX13_fitting_2 : List UInt8 := dkwX13_fitting_2 ++ dktX13_fitting_3
def dkwX13_fitting_1 : List UInt8 := [42, 28, 29, 21, 6, 182, 0, 90, 4, 54, 7, 3, 54, 8, 21, 8, 42, 180, 0, 32, 27, 46]
abbrev dktX13_fitting_1 : List UInt8 := dkwX13_fitting_1 ++ dktX13_fitting_2
def dkwX13_fitting_0 : List UInt8 := [42, 180, 0, 7, 42, 180, 0, 16, 184, 0, 167, 3, 54, 5, 3, 54, 6, 21, 6, 21, 4, 163, 0, 116]
abbrev dktX13_fitting_0 : List UInt8 := dkwX13_fitting_0 ++ dktX13_fitting_1
theorem dksX13_fitting_0 : cX13_fitting.data.toList.drop 0 = dktX13_fitting_0 := by decide +kernel
theorem dksX13_fitting_1 : cX13_fitting.data.toList.drop 24 = dktX13_fitting_1 := dk_seg dksX13_fitting_0 24 rfl rfl
theorem dksX13_fitting_2 : cX13_fitting.data.toList.drop 46 = dktX13_fitting_2 := dk_seg dksX13_fitting_1 22 rfl rfl
theorem dksX13_fitting_3 : cX13_fitting.data.toList.drop 70 = dktX13_fitting_3 := dk_seg dksX13_fitting_2 24 rfl rfl
theorem dksX13_fitting_4 : cX13_fitting.data.toList.drop 93 = dktX13_fitting_4 := dk_seg dksX13_fitting_3 23 rfl rfl
theorem dksX13_fitting_5 : cX13_fitting.data.toList.drop 117 = dktX13_fitting_5 := dk_seg dksX13_fitting_4 24 rfl rfl
theorem dX13_fitting_0 : decode cX13_fitting 0 = .ok (.aload_n 0, 1) := dk_42 (dk_at dksX13_fitting_0 0 rfl rfl)
theorem dX13_fitting_1 : decode cX13_fitting 1 = .ok (.getfield 7, 3) := dk_180 0 7 (dk_at dksX13_fitting_0 1 rfl rfl)
theorem dX13_fitting_4 : decode cX13_fitting 4 = .ok (.aload_n 0, 1) := dk_42 (dk_at dksX13_fitting_0 4 rfl rfl)
theorem dX13_fitting_5 : decode cX13_fitting 5 = .ok (.getfield 16, 3) := dk_180 0 16 (dk_at dksX13_fitting_0 5 rfl rfl)
theorem dX13_fitting_8 : decode cX13_fitting 8 = .ok (.invokestatic 167, 3) := dk_184 0 167 (dk_at dksX13_fitting_0 8 rfl rfl)
theorem dX13_fitting_11 : decode cX13_fitting 11 = .ok (.iconst 0, 1) := dk_3 (dk_at dksX13_fitting_0 11 rfl rfl)
theorem dX13_fitting_12 : decode cX13_fitting 12 = .ok (.istore 5, 2) := dk_54 5 (dk_at dksX13_fitting_0 12 rfl rfl)
theorem dX13_fitting_14 : decode cX13_fitting 14 = .ok (.iconst 0, 1) := dk_3 (dk_at dksX13_fitting_0 14 rfl rfl)
theorem dX13_fitting_15 : decode cX13_fitting 15 = .ok (.istore 6, 2) := dk_54 6 (dk_at dksX13_fitting_0 15 rfl rfl)
theorem dX13_fitting_17 : decode cX13_fitting 17 = .ok (.iload 6, 2) := dk_21 6 (dk_at dksX13_fitting_0 17 rfl rfl)
theorem dX13_fitting_19 : decode cX13_fitting 19 = .ok (.iload 4, 2) := dk_21 4 (dk_at dksX13_fitting_0 19 rfl rfl)
theorem dX13_fitting_21 : decode cX13_fitting 21 = .ok (.if_icmp .gt 116, 3) := dk_163 0 116 (dk_at dksX13_fitting_0 21 rfl rfl)
theorem dX13_fitting_24 : decode cX13_fitting 24 = .ok (.aload_n 0, 1) := dk_42 (dk_at dksX13_fitting_1 0 rfl rfl)
theorem dX13_fitting_25 : decode cX13_fitting 25 = .ok (.iload_n 2, 1) := dk_28 (dk_at dksX13_fitting_1 1 rfl rfl)
theorem dX13_fitting_26 : decode cX13_fitting 26 = .ok (.iload_n 3, 1) := dk_29 (dk_at dksX13_fitting_1 2 rfl rfl)
theorem dX13_fitting_27 : decode cX13_fitting 27 = .ok (.iload 6, 2) := dk_21 6 (dk_at dksX13_fitting_1 3 rfl rfl)
theorem dX13_fitting_29 : decode cX13_fitting 29 = .ok (.invokevirtual 90, 3) := dk_182 0 90 (dk_at dksX13_fitting_1 5 rfl rfl)
theorem dX13_fitting_32 : decode cX13_fitting 32 = .ok (.iconst 1, 1) := dk_4 (dk_at dksX13_fitting_1 8 rfl rfl)
theorem dX13_fitting_33 : decode cX13_fitting 33 = .ok (.istore 7, 2) := dk_54 7 (dk_at dksX13_fitting_1 9 rfl rfl)
theorem dX13_fitting_35 : decode cX13_fitting 35 = .ok (.iconst 0, 1) := dk_3 (dk_at dksX13_fitting_1 11 rfl rfl)
theorem dX13_fitting_36 : decode cX13_fitting 36 = .ok (.istore 8, 2) := dk_54 8 (dk_at dksX13_fitting_1 12 rfl rfl)
theorem dX13_fitting_38 : decode cX13_fitting 38 = .ok (.iload 8, 2) := dk_21 8 (dk_at dksX13_fitting_1 14 rfl rfl)
theorem dX13_fitting_40 : decode cX13_fitting 40 = .ok (.aload_n 0, 1) := dk_42 (dk_at dksX13_fitting_1 16 rfl rfl)
theorem dX13_fitting_41 : decode cX13_fitting 41 = .ok (.getfield 32, 3) := dk_180 0 32 (dk_at dksX13_fitting_1 17 rfl rfl)
theorem dX13_fitting_44 : decode cX13_fitting 44 = .ok (.iload_n 1, 1) := dk_27 (dk_at dksX13_fitting_1 20 rfl rfl)
theorem dX13_fitting_45 : decode cX13_fitting 45 = .ok (.iaload, 1) := dk_46 (dk_at dksX13_fitting_1 21 rfl rfl)
theorem dX13_fitting_46 : decode cX13_fitting 46 = .ok (.if_icmp .ge 56, 3) := dk_162 0 56 (dk_at dksX13_fitting_2 0 rfl rfl)
theorem dX13_fitting_49 : decode cX13_fitting 49 = .ok (.iload 7, 2) := dk_21 7 (dk_at dksX13_fitting_2 3 rfl rfl)
theorem dX13_fitting_51 : decode cX13_fitting 51 = .ok (.ifCond .eq 51, 3) := dk_153 0 51 (dk_at dksX13_fitting_2 5 rfl rfl)
theorem dX13_fitting_54 : decode cX13_fitting 54 = .ok (.aload_n 0, 1) := dk_42 (dk_at dksX13_fitting_2 8 rfl rfl)
theorem dX13_fitting_55 : decode cX13_fitting 55 = .ok (.getfield 35, 3) := dk_180 0 35 (dk_at dksX13_fitting_2 9 rfl rfl)
theorem dX13_fitting_58 : decode cX13_fitting 58 = .ok (.bipush 40, 2) := dk_16 40 (dk_at dksX13_fitting_2 12 rfl rfl)
theorem dX13_fitting_60 : decode cX13_fitting 60 = .ok (.iload_n 1, 1) := dk_27 (dk_at dksX13_fitting_2 14 rfl rfl)
theorem dX13_fitting_61 : decode cX13_fitting 61 = .ok (.imul, 1) := dk_104 (dk_at dksX13_fitting_2 15 rfl rfl)
theorem dX13_fitting_62 : decode cX13_fitting 62 = .ok (.iload 8, 2) := dk_21 8 (dk_at dksX13_fitting_2 16 rfl rfl)
theorem dX13_fitting_64 : decode cX13_fitting 64 = .ok (.iadd, 1) := dk_96 (dk_at dksX13_fitting_2 18 rfl rfl)
theorem dX13_fitting_65 : decode cX13_fitting 65 = .ok (.iaload, 1) := dk_46 (dk_at dksX13_fitting_2 19 rfl rfl)
theorem dX13_fitting_66 : decode cX13_fitting 66 = .ok (.istore 9, 2) := dk_54 9 (dk_at dksX13_fitting_2 20 rfl rfl)
theorem dX13_fitting_68 : decode cX13_fitting 68 = .ok (.iload 9, 2) := dk_21 9 (dk_at dksX13_fitting_2 22 rfl rfl)
theorem dX13_fitting_70 : decode cX13_fitting 70 = .ok (.iconst (-1), 1) := dk_2 (dk_at dksX13_fitting_3 0 rfl rfl)
theorem dX13_fitting_71 : decode cX13_fitting 71 = .ok (.if_icmp .eq 14, 3) := dk_159 0 14 (dk_at dksX13_fitting_3 1 rfl rfl)
theorem dX13_fitting_74 : decode cX13_fitting 74 = .ok (.iload 9, 2) := dk_21 9 (dk_at dksX13_fitting_3 4 rfl rfl)
theorem dX13_fitting_76 : decode cX13_fitting 76 = .ok (.aload_n 0, 1) := dk_42 (dk_at dksX13_fitting_3 6 rfl rfl)
theorem dX13_fitting_77 : decode cX13_fitting 77 = .ok (.iload_n 2, 1) := dk_28 (dk_at dksX13_fitting_3 7 rfl rfl)
theorem dX13_fitting_78 : decode cX13_fitting 78 = .ok (.iconst 3, 1) := dk_6 (dk_at dksX13_fitting_3 8 rfl rfl)
theorem dX13_fitting_79 : decode cX13_fitting 79 = .ok (.invokevirtual 58, 3) := dk_182 0 58 (dk_at dksX13_fitting_3 9 rfl rfl)
theorem dX13_fitting_82 : decode cX13_fitting 82 = .ok (.if_icmp .ne 7, 3) := dk_160 0 7 (dk_at dksX13_fitting_3 12 rfl rfl)
theorem dX13_fitting_85 : decode cX13_fitting 85 = .ok (.iconst 1, 1) := dk_4 (dk_at dksX13_fitting_3 15 rfl rfl)
theorem dX13_fitting_86 : decode cX13_fitting 86 = .ok (.goto 4, 3) := dk_167 0 4 (dk_at dksX13_fitting_3 16 rfl rfl)
theorem dX13_fitting_89 : decode cX13_fitting 89 = .ok (.iconst 0, 1) := dk_3 (dk_at dksX13_fitting_3 19 rfl rfl)
theorem dX13_fitting_90 : decode cX13_fitting 90 = .ok (.istore 7, 2) := dk_54 7 (dk_at dksX13_fitting_3 20 rfl rfl)
theorem dX13_fitting_92 : decode cX13_fitting 92 = .ok (.aload_n 0, 1) := dk_42 (dk_at dksX13_fitting_3 22 rfl rfl)
theorem dX13_fitting_93 : decode cX13_fitting 93 = .ok (.invokevirtual 113, 3) := dk_182 0 113 (dk_at dksX13_fitting_4 0 rfl rfl)
theorem dX13_fitting_96 : decode cX13_fitting 96 = .ok (.iinc 8 1, 3) := dk_132 8 1 (dk_at dksX13_fitting_4 3 rfl rfl)
theorem dX13_fitting_99 : decode cX13_fitting 99 = .ok (.goto (-61), 3) := dk_167 255 195 (dk_at dksX13_fitting_4 6 rfl rfl)
theorem dX13_fitting_102 : decode cX13_fitting 102 = .ok (.aload_n 0, 1) := dk_42 (dk_at dksX13_fitting_4 9 rfl rfl)
theorem dX13_fitting_103 : decode cX13_fitting 103 = .ok (.getfield 16, 3) := dk_180 0 16 (dk_at dksX13_fitting_4 10 rfl rfl)
theorem dX13_fitting_106 : decode cX13_fitting 106 = .ok (.aload_n 0, 1) := dk_42 (dk_at dksX13_fitting_4 13 rfl rfl)
theorem dX13_fitting_107 : decode cX13_fitting 107 = .ok (.getfield 7, 3) := dk_180 0 7 (dk_at dksX13_fitting_4 14 rfl rfl)
theorem dX13_fitting_110 : decode cX13_fitting 110 = .ok (.invokestatic 167, 3) := dk_184 0 167 (dk_at dksX13_fitting_4 17 rfl rfl)
theorem dX13_fitting_113 : decode cX13_fitting 113 = .ok (.iload 5, 2) := dk_21 5 (dk_at dksX13_fitting_4 20 rfl rfl)
theorem dX13_fitting_115 : decode cX13_fitting 115 = .ok (.iload 7, 2) := dk_21 7 (dk_at dksX13_fitting_4 22 rfl rfl)
theorem dX13_fitting_117 : decode cX13_fitting 117 = .ok (.ifCond .eq 10, 3) := dk_153 0 10 (dk_at dksX13_fitting_5 0 rfl rfl)
theorem dX13_fitting_120 : decode cX13_fitting 120 = .ok (.iconst 1, 1) := dk_4 (dk_at dksX13_fitting_5 3 rfl rfl)
theorem dX13_fitting_121 : decode cX13_fitting 121 = .ok (.iload 6, 2) := dk_21 6 (dk_at dksX13_fitting_5 4 rfl rfl)
theorem dX13_fitting_123 : decode cX13_fitting 123 = .ok (.ishl, 1) := dk_120 (dk_at dksX13_fitting_5 6 rfl rfl)
theorem dX13_fitting_124 : decode cX13_fitting 124 = .ok (.goto 4, 3) := dk_167 0 4 (dk_at dksX13_fitting_5 7 rfl rfl)
theorem dX13_fitting_127 : decode cX13_fitting 127 = .ok (.iconst 0, 1) := dk_3 (dk_at dksX13_fitting_5 10 rfl rfl)
theorem dX13_fitting_128 : decode cX13_fitting 128 = .ok (.ior, 1) := dk_128 (dk_at dksX13_fitting_5 11 rfl rfl)
theorem dX13_fitting_129 : decode cX13_fitting 129 = .ok (.istore 5, 2) := dk_54 5 (dk_at dksX13_fitting_5 12 rfl rfl)
theorem dX13_fitting_131 : decode cX13_fitting 131 = .ok (.iinc 6 1, 3) := dk_132 6 1 (dk_at dksX13_fitting_5 14 rfl rfl)
theorem dX13_fitting_134 : decode cX13_fitting 134 = .ok (.goto (-117), 3) := dk_167 255 139 (dk_at dksX13_fitting_5 17 rfl rfl)
theorem dX13_fitting_137 : decode cX13_fitting 137 = .ok (.iload 5, 2) := dk_21 5 (dk_at dksX13_fitting_5 20 rfl rfl)
theorem dX13_fitting_139 : decode cX13_fitting 139 = .ok (.ireturn, 1) := dk_172 (dk_at dksX13_fitting_5 22 rfl rfl)
abbrev cX13_kinds : ByteArray := prog_16_method_62_code
def yX13_kinds : MethodName := ⟨RX13, "kinds", "(II)I"⟩
def dkwX13_kinds_1 : List UInt8 := [16, 6, 182, 0, 196, 172]
abbrev dktX13_kinds_1 : List UInt8 := dkwX13_kinds_1 ++ []
def dkwX13_kinds_0 : List UInt8 := [42, 27, 28, 182, 0, 193, 62, 29, 155, 0, 11, 42, 29, 182, 0, 128, 167, 0, 12, 42, 27, 28, 3]
abbrev dktX13_kinds_0 : List UInt8 := dkwX13_kinds_0 ++ dktX13_kinds_1
theorem dksX13_kinds_0 : cX13_kinds.data.toList.drop 0 = dktX13_kinds_0 := by decide +kernel
theorem dksX13_kinds_1 : cX13_kinds.data.toList.drop 23 = dktX13_kinds_1 := dk_seg dksX13_kinds_0 23 rfl rfl
theorem dX13_kinds_0 : decode cX13_kinds 0 = .ok (.aload_n 0, 1) := dk_42 (dk_at dksX13_kinds_0 0 rfl rfl)
theorem dX13_kinds_1 : decode cX13_kinds 1 = .ok (.iload_n 1, 1) := dk_27 (dk_at dksX13_kinds_0 1 rfl rfl)
theorem dX13_kinds_2 : decode cX13_kinds 2 = .ok (.iload_n 2, 1) := dk_28 (dk_at dksX13_kinds_0 2 rfl rfl)
theorem dX13_kinds_3 : decode cX13_kinds 3 = .ok (.invokevirtual 193, 3) := dk_182 0 193 (dk_at dksX13_kinds_0 3 rfl rfl)
theorem dX13_kinds_6 : decode cX13_kinds 6 = .ok (.istore_n 3, 1) := dk_62 (dk_at dksX13_kinds_0 6 rfl rfl)
theorem dX13_kinds_7 : decode cX13_kinds 7 = .ok (.iload_n 3, 1) := dk_29 (dk_at dksX13_kinds_0 7 rfl rfl)
theorem dX13_kinds_8 : decode cX13_kinds 8 = .ok (.ifCond .lt 11, 3) := dk_155 0 11 (dk_at dksX13_kinds_0 8 rfl rfl)
theorem dX13_kinds_11 : decode cX13_kinds 11 = .ok (.aload_n 0, 1) := dk_42 (dk_at dksX13_kinds_0 11 rfl rfl)
theorem dX13_kinds_12 : decode cX13_kinds 12 = .ok (.iload_n 3, 1) := dk_29 (dk_at dksX13_kinds_0 12 rfl rfl)
theorem dX13_kinds_13 : decode cX13_kinds 13 = .ok (.invokevirtual 128, 3) := dk_182 0 128 (dk_at dksX13_kinds_0 13 rfl rfl)
theorem dX13_kinds_16 : decode cX13_kinds 16 = .ok (.goto 12, 3) := dk_167 0 12 (dk_at dksX13_kinds_0 16 rfl rfl)
theorem dX13_kinds_19 : decode cX13_kinds 19 = .ok (.aload_n 0, 1) := dk_42 (dk_at dksX13_kinds_0 19 rfl rfl)
theorem dX13_kinds_20 : decode cX13_kinds 20 = .ok (.iload_n 1, 1) := dk_27 (dk_at dksX13_kinds_0 20 rfl rfl)
theorem dX13_kinds_21 : decode cX13_kinds 21 = .ok (.iload_n 2, 1) := dk_28 (dk_at dksX13_kinds_0 21 rfl rfl)
theorem dX13_kinds_22 : decode cX13_kinds 22 = .ok (.iconst 0, 1) := dk_3 (dk_at dksX13_kinds_0 22 rfl rfl)
theorem dX13_kinds_23 : decode cX13_kinds 23 = .ok (.bipush 6, 2) := dk_16 6 (dk_at dksX13_kinds_1 0 rfl rfl)
theorem dX13_kinds_25 : decode cX13_kinds 25 = .ok (.invokevirtual 196, 3) := dk_182 0 196 (dk_at dksX13_kinds_1 2 rfl rfl)
theorem dX13_kinds_28 : decode cX13_kinds 28 = .ok (.ireturn, 1) := dk_172 (dk_at dksX13_kinds_1 5 rfl rfl)
abbrev cX13_talk : ByteArray := prog_16_method_64_code
def yX13_talk : MethodName := ⟨RX13, "talk", "(I)I"⟩
def dkwX13_talk_4 : List UInt8 := [96, 21, 5, 96, 79, 42, 182, 0, 113, 132, 2, 1, 167, 255, 188, 42, 182, 0, 155, 172]
abbrev dktX13_talk_4 : List UInt8 := dkwX13_talk_4 ++ []
def dkwX13_talk_3 : List UInt8 := [180, 0, 7, 6, 42, 180, 0, 7, 4, 46, 16, 6, 112, 96, 17, 3, 232, 29, 104, 16, 10, 21, 4, 104]
abbrev dktX13_talk_3 : List UInt8 := dkwX13_talk_3 ++ dktX13_talk_4
def dkwX13_talk_2 : List UInt8 := [16, 6, 112, 62, 42, 182, 0, 200, 16, 16, 112, 54, 4, 42, 182, 0, 200, 16, 10, 112, 54, 5, 42]
abbrev dktX13_talk_2 : List UInt8 := dkwX13_talk_2 ++ dktX13_talk_3
def dkwX13_talk_1 : List UInt8 := [27, 96, 18, 112, 164, 0, 9, 42, 7, 182, 0, 128, 172, 3, 61, 28, 27, 162, 0, 69, 42, 182, 0, 200]
abbrev dktX13_talk_1 : List UInt8 := dkwX13_talk_1 ++ dktX13_talk_2
def dkwX13_talk_0 : List UInt8 := [27, 133, 10, 20, 0, 188, 184, 0, 42, 154, 0, 9, 42, 3, 182, 0, 128, 172, 42, 180, 0, 7, 4, 46]
abbrev dktX13_talk_0 : List UInt8 := dkwX13_talk_0 ++ dktX13_talk_1
theorem dksX13_talk_0 : cX13_talk.data.toList.drop 0 = dktX13_talk_0 := by decide +kernel
theorem dksX13_talk_1 : cX13_talk.data.toList.drop 24 = dktX13_talk_1 := dk_seg dksX13_talk_0 24 rfl rfl
theorem dksX13_talk_2 : cX13_talk.data.toList.drop 48 = dktX13_talk_2 := dk_seg dksX13_talk_1 24 rfl rfl
theorem dksX13_talk_3 : cX13_talk.data.toList.drop 71 = dktX13_talk_3 := dk_seg dksX13_talk_2 23 rfl rfl
theorem dksX13_talk_4 : cX13_talk.data.toList.drop 95 = dktX13_talk_4 := dk_seg dksX13_talk_3 24 rfl rfl
theorem dX13_talk_0 : decode cX13_talk 0 = .ok (.iload_n 1, 1) := dk_27 (dk_at dksX13_talk_0 0 rfl rfl)
theorem dX13_talk_1 : decode cX13_talk 1 = .ok (.i2l, 1) := dk_133 (dk_at dksX13_talk_0 1 rfl rfl)
theorem dX13_talk_2 : decode cX13_talk 2 = .ok (.lconst 1, 1) := dk_10 (dk_at dksX13_talk_0 2 rfl rfl)
theorem dX13_talk_3 : decode cX13_talk 3 = .ok (.ldc2_w 188, 3) := dk_20 0 188 (dk_at dksX13_talk_0 3 rfl rfl)
theorem dX13_talk_6 : decode cX13_talk 6 = .ok (.invokestatic 42, 3) := dk_184 0 42 (dk_at dksX13_talk_0 6 rfl rfl)
theorem dX13_talk_9 : decode cX13_talk 9 = .ok (.ifCond .ne 9, 3) := dk_154 0 9 (dk_at dksX13_talk_0 9 rfl rfl)
theorem dX13_talk_12 : decode cX13_talk 12 = .ok (.aload_n 0, 1) := dk_42 (dk_at dksX13_talk_0 12 rfl rfl)
theorem dX13_talk_13 : decode cX13_talk 13 = .ok (.iconst 0, 1) := dk_3 (dk_at dksX13_talk_0 13 rfl rfl)
theorem dX13_talk_14 : decode cX13_talk 14 = .ok (.invokevirtual 128, 3) := dk_182 0 128 (dk_at dksX13_talk_0 14 rfl rfl)
theorem dX13_talk_17 : decode cX13_talk 17 = .ok (.ireturn, 1) := dk_172 (dk_at dksX13_talk_0 17 rfl rfl)
theorem dX13_talk_18 : decode cX13_talk 18 = .ok (.aload_n 0, 1) := dk_42 (dk_at dksX13_talk_0 18 rfl rfl)
theorem dX13_talk_19 : decode cX13_talk 19 = .ok (.getfield 7, 3) := dk_180 0 7 (dk_at dksX13_talk_0 19 rfl rfl)
theorem dX13_talk_22 : decode cX13_talk 22 = .ok (.iconst 1, 1) := dk_4 (dk_at dksX13_talk_0 22 rfl rfl)
theorem dX13_talk_23 : decode cX13_talk 23 = .ok (.iaload, 1) := dk_46 (dk_at dksX13_talk_0 23 rfl rfl)
theorem dX13_talk_24 : decode cX13_talk 24 = .ok (.iload_n 1, 1) := dk_27 (dk_at dksX13_talk_1 0 rfl rfl)
theorem dX13_talk_25 : decode cX13_talk 25 = .ok (.iadd, 1) := dk_96 (dk_at dksX13_talk_1 1 rfl rfl)
theorem dX13_talk_26 : decode cX13_talk 26 = .ok (.ldc 112, 2) := dk_18 112 (dk_at dksX13_talk_1 2 rfl rfl)
theorem dX13_talk_28 : decode cX13_talk 28 = .ok (.if_icmp .le 9, 3) := dk_164 0 9 (dk_at dksX13_talk_1 4 rfl rfl)
theorem dX13_talk_31 : decode cX13_talk 31 = .ok (.aload_n 0, 1) := dk_42 (dk_at dksX13_talk_1 7 rfl rfl)
theorem dX13_talk_32 : decode cX13_talk 32 = .ok (.iconst 4, 1) := dk_7 (dk_at dksX13_talk_1 8 rfl rfl)
theorem dX13_talk_33 : decode cX13_talk 33 = .ok (.invokevirtual 128, 3) := dk_182 0 128 (dk_at dksX13_talk_1 9 rfl rfl)
theorem dX13_talk_36 : decode cX13_talk 36 = .ok (.ireturn, 1) := dk_172 (dk_at dksX13_talk_1 12 rfl rfl)
theorem dX13_talk_37 : decode cX13_talk 37 = .ok (.iconst 0, 1) := dk_3 (dk_at dksX13_talk_1 13 rfl rfl)
theorem dX13_talk_38 : decode cX13_talk 38 = .ok (.istore_n 2, 1) := dk_61 (dk_at dksX13_talk_1 14 rfl rfl)
theorem dX13_talk_39 : decode cX13_talk 39 = .ok (.iload_n 2, 1) := dk_28 (dk_at dksX13_talk_1 15 rfl rfl)
theorem dX13_talk_40 : decode cX13_talk 40 = .ok (.iload_n 1, 1) := dk_27 (dk_at dksX13_talk_1 16 rfl rfl)
theorem dX13_talk_41 : decode cX13_talk 41 = .ok (.if_icmp .ge 69, 3) := dk_162 0 69 (dk_at dksX13_talk_1 17 rfl rfl)
theorem dX13_talk_44 : decode cX13_talk 44 = .ok (.aload_n 0, 1) := dk_42 (dk_at dksX13_talk_1 20 rfl rfl)
theorem dX13_talk_45 : decode cX13_talk 45 = .ok (.invokevirtual 200, 3) := dk_182 0 200 (dk_at dksX13_talk_1 21 rfl rfl)
theorem dX13_talk_48 : decode cX13_talk 48 = .ok (.bipush 6, 2) := dk_16 6 (dk_at dksX13_talk_2 0 rfl rfl)
theorem dX13_talk_50 : decode cX13_talk 50 = .ok (.irem, 1) := dk_112 (dk_at dksX13_talk_2 2 rfl rfl)
theorem dX13_talk_51 : decode cX13_talk 51 = .ok (.istore_n 3, 1) := dk_62 (dk_at dksX13_talk_2 3 rfl rfl)
theorem dX13_talk_52 : decode cX13_talk 52 = .ok (.aload_n 0, 1) := dk_42 (dk_at dksX13_talk_2 4 rfl rfl)
theorem dX13_talk_53 : decode cX13_talk 53 = .ok (.invokevirtual 200, 3) := dk_182 0 200 (dk_at dksX13_talk_2 5 rfl rfl)
theorem dX13_talk_56 : decode cX13_talk 56 = .ok (.bipush 16, 2) := dk_16 16 (dk_at dksX13_talk_2 8 rfl rfl)
theorem dX13_talk_58 : decode cX13_talk 58 = .ok (.irem, 1) := dk_112 (dk_at dksX13_talk_2 10 rfl rfl)
theorem dX13_talk_59 : decode cX13_talk 59 = .ok (.istore 4, 2) := dk_54 4 (dk_at dksX13_talk_2 11 rfl rfl)
theorem dX13_talk_61 : decode cX13_talk 61 = .ok (.aload_n 0, 1) := dk_42 (dk_at dksX13_talk_2 13 rfl rfl)
theorem dX13_talk_62 : decode cX13_talk 62 = .ok (.invokevirtual 200, 3) := dk_182 0 200 (dk_at dksX13_talk_2 14 rfl rfl)
theorem dX13_talk_65 : decode cX13_talk 65 = .ok (.bipush 10, 2) := dk_16 10 (dk_at dksX13_talk_2 17 rfl rfl)
theorem dX13_talk_67 : decode cX13_talk 67 = .ok (.irem, 1) := dk_112 (dk_at dksX13_talk_2 19 rfl rfl)
theorem dX13_talk_68 : decode cX13_talk 68 = .ok (.istore 5, 2) := dk_54 5 (dk_at dksX13_talk_2 20 rfl rfl)
theorem dX13_talk_70 : decode cX13_talk 70 = .ok (.aload_n 0, 1) := dk_42 (dk_at dksX13_talk_2 22 rfl rfl)
theorem dX13_talk_71 : decode cX13_talk 71 = .ok (.getfield 7, 3) := dk_180 0 7 (dk_at dksX13_talk_3 0 rfl rfl)
theorem dX13_talk_74 : decode cX13_talk 74 = .ok (.iconst 3, 1) := dk_6 (dk_at dksX13_talk_3 3 rfl rfl)
theorem dX13_talk_75 : decode cX13_talk 75 = .ok (.aload_n 0, 1) := dk_42 (dk_at dksX13_talk_3 4 rfl rfl)
theorem dX13_talk_76 : decode cX13_talk 76 = .ok (.getfield 7, 3) := dk_180 0 7 (dk_at dksX13_talk_3 5 rfl rfl)
theorem dX13_talk_79 : decode cX13_talk 79 = .ok (.iconst 1, 1) := dk_4 (dk_at dksX13_talk_3 8 rfl rfl)
theorem dX13_talk_80 : decode cX13_talk 80 = .ok (.iaload, 1) := dk_46 (dk_at dksX13_talk_3 9 rfl rfl)
theorem dX13_talk_81 : decode cX13_talk 81 = .ok (.bipush 6, 2) := dk_16 6 (dk_at dksX13_talk_3 10 rfl rfl)
theorem dX13_talk_83 : decode cX13_talk 83 = .ok (.irem, 1) := dk_112 (dk_at dksX13_talk_3 12 rfl rfl)
theorem dX13_talk_84 : decode cX13_talk 84 = .ok (.iadd, 1) := dk_96 (dk_at dksX13_talk_3 13 rfl rfl)
theorem dX13_talk_85 : decode cX13_talk 85 = .ok (.sipush 1000, 3) := dk_17 3 232 (dk_at dksX13_talk_3 14 rfl rfl)
theorem dX13_talk_88 : decode cX13_talk 88 = .ok (.iload_n 3, 1) := dk_29 (dk_at dksX13_talk_3 17 rfl rfl)
theorem dX13_talk_89 : decode cX13_talk 89 = .ok (.imul, 1) := dk_104 (dk_at dksX13_talk_3 18 rfl rfl)
theorem dX13_talk_90 : decode cX13_talk 90 = .ok (.bipush 10, 2) := dk_16 10 (dk_at dksX13_talk_3 19 rfl rfl)
theorem dX13_talk_92 : decode cX13_talk 92 = .ok (.iload 4, 2) := dk_21 4 (dk_at dksX13_talk_3 21 rfl rfl)
theorem dX13_talk_94 : decode cX13_talk 94 = .ok (.imul, 1) := dk_104 (dk_at dksX13_talk_3 23 rfl rfl)
theorem dX13_talk_95 : decode cX13_talk 95 = .ok (.iadd, 1) := dk_96 (dk_at dksX13_talk_4 0 rfl rfl)
theorem dX13_talk_96 : decode cX13_talk 96 = .ok (.iload 5, 2) := dk_21 5 (dk_at dksX13_talk_4 1 rfl rfl)
theorem dX13_talk_98 : decode cX13_talk 98 = .ok (.iadd, 1) := dk_96 (dk_at dksX13_talk_4 3 rfl rfl)
theorem dX13_talk_99 : decode cX13_talk 99 = .ok (.iastore, 1) := dk_79 (dk_at dksX13_talk_4 4 rfl rfl)
theorem dX13_talk_100 : decode cX13_talk 100 = .ok (.aload_n 0, 1) := dk_42 (dk_at dksX13_talk_4 5 rfl rfl)
theorem dX13_talk_101 : decode cX13_talk 101 = .ok (.invokevirtual 113, 3) := dk_182 0 113 (dk_at dksX13_talk_4 6 rfl rfl)
theorem dX13_talk_104 : decode cX13_talk 104 = .ok (.iinc 2 1, 3) := dk_132 2 1 (dk_at dksX13_talk_4 9 rfl rfl)
theorem dX13_talk_107 : decode cX13_talk 107 = .ok (.goto (-68), 3) := dk_167 255 188 (dk_at dksX13_talk_4 12 rfl rfl)
theorem dX13_talk_110 : decode cX13_talk 110 = .ok (.aload_n 0, 1) := dk_42 (dk_at dksX13_talk_4 15 rfl rfl)
theorem dX13_talk_111 : decode cX13_talk 111 = .ok (.invokevirtual 155, 3) := dk_182 0 155 (dk_at dksX13_talk_4 16 rfl rfl)
theorem dX13_talk_114 : decode cX13_talk 114 = .ok (.ireturn, 1) := dk_172 (dk_at dksX13_talk_4 19 rfl rfl)
abbrev cX13_drawOne : ByteArray := prog_16_method_63_code
def yX13_drawOne : MethodName := ⟨RX13, "drawOne", "()I"⟩
def dkwX13_drawOne_1 : List UInt8 := [46, 16, 8, 124, 172]
abbrev dktX13_drawOne_1 : List UInt8 := dkwX13_drawOne_1 ++ []
def dkwX13_drawOne_0 : List UInt8 := [42, 180, 0, 7, 5, 42, 180, 0, 7, 5, 46, 18, 199, 104, 17, 48, 57, 96, 79, 42, 180, 0, 7, 5]
abbrev dktX13_drawOne_0 : List UInt8 := dkwX13_drawOne_0 ++ dktX13_drawOne_1
theorem dksX13_drawOne_0 : cX13_drawOne.data.toList.drop 0 = dktX13_drawOne_0 := by decide +kernel
theorem dksX13_drawOne_1 : cX13_drawOne.data.toList.drop 24 = dktX13_drawOne_1 := dk_seg dksX13_drawOne_0 24 rfl rfl
theorem dX13_drawOne_0 : decode cX13_drawOne 0 = .ok (.aload_n 0, 1) := dk_42 (dk_at dksX13_drawOne_0 0 rfl rfl)
theorem dX13_drawOne_1 : decode cX13_drawOne 1 = .ok (.getfield 7, 3) := dk_180 0 7 (dk_at dksX13_drawOne_0 1 rfl rfl)
theorem dX13_drawOne_4 : decode cX13_drawOne 4 = .ok (.iconst 2, 1) := dk_5 (dk_at dksX13_drawOne_0 4 rfl rfl)
theorem dX13_drawOne_5 : decode cX13_drawOne 5 = .ok (.aload_n 0, 1) := dk_42 (dk_at dksX13_drawOne_0 5 rfl rfl)
theorem dX13_drawOne_6 : decode cX13_drawOne 6 = .ok (.getfield 7, 3) := dk_180 0 7 (dk_at dksX13_drawOne_0 6 rfl rfl)
theorem dX13_drawOne_9 : decode cX13_drawOne 9 = .ok (.iconst 2, 1) := dk_5 (dk_at dksX13_drawOne_0 9 rfl rfl)
theorem dX13_drawOne_10 : decode cX13_drawOne 10 = .ok (.iaload, 1) := dk_46 (dk_at dksX13_drawOne_0 10 rfl rfl)
theorem dX13_drawOne_11 : decode cX13_drawOne 11 = .ok (.ldc 199, 2) := dk_18 199 (dk_at dksX13_drawOne_0 11 rfl rfl)
theorem dX13_drawOne_13 : decode cX13_drawOne 13 = .ok (.imul, 1) := dk_104 (dk_at dksX13_drawOne_0 13 rfl rfl)
theorem dX13_drawOne_14 : decode cX13_drawOne 14 = .ok (.sipush 12345, 3) := dk_17 48 57 (dk_at dksX13_drawOne_0 14 rfl rfl)
theorem dX13_drawOne_17 : decode cX13_drawOne 17 = .ok (.iadd, 1) := dk_96 (dk_at dksX13_drawOne_0 17 rfl rfl)
theorem dX13_drawOne_18 : decode cX13_drawOne 18 = .ok (.iastore, 1) := dk_79 (dk_at dksX13_drawOne_0 18 rfl rfl)
theorem dX13_drawOne_19 : decode cX13_drawOne 19 = .ok (.aload_n 0, 1) := dk_42 (dk_at dksX13_drawOne_0 19 rfl rfl)
theorem dX13_drawOne_20 : decode cX13_drawOne 20 = .ok (.getfield 7, 3) := dk_180 0 7 (dk_at dksX13_drawOne_0 20 rfl rfl)
theorem dX13_drawOne_23 : decode cX13_drawOne 23 = .ok (.iconst 2, 1) := dk_5 (dk_at dksX13_drawOne_0 23 rfl rfl)
theorem dX13_drawOne_24 : decode cX13_drawOne 24 = .ok (.iaload, 1) := dk_46 (dk_at dksX13_drawOne_1 0 rfl rfl)
theorem dX13_drawOne_25 : decode cX13_drawOne 25 = .ok (.bipush 8, 2) := dk_16 8 (dk_at dksX13_drawOne_1 1 rfl rfl)
theorem dX13_drawOne_27 : decode cX13_drawOne 27 = .ok (.iushr, 1) := dk_124 (dk_at dksX13_drawOne_1 3 rfl rfl)
theorem dX13_drawOne_28 : decode cX13_drawOne 28 = .ok (.ireturn, 1) := dk_172 (dk_at dksX13_drawOne_1 4 rfl rfl)
abbrev cX13_odds : ByteArray := prog_16_method_65_code
def yX13_odds : MethodName := ⟨RX13, "odds", "(III)J"⟩
def dkwX13_odds_4 : List UInt8 := [154, 0, 9, 21, 4, 133, 167, 0, 6, 21, 5, 133, 105, 55, 6, 132, 8, 1, 167, 255, 229, 22, 6, 173]
abbrev dktX13_odds_4 : List UInt8 := dkwX13_odds_4 ++ []
def dkwX13_odds_3 : List UInt8 := [21, 5, 5, 108, 54, 5, 167, 255, 231, 10, 55, 6, 3, 54, 8, 21, 8, 28, 162, 0, 27, 22, 6, 29]
abbrev dktX13_odds_3 : List UInt8 := dkwX13_odds_3 ++ dktX13_odds_4
def dkwX13_odds_2 : List UInt8 := [16, 16, 54, 5, 21, 4, 5, 112, 154, 0, 24, 21, 5, 4, 164, 0, 18, 21, 4, 5, 108, 54, 4]
abbrev dktX13_odds_2 : List UInt8 := dkwX13_odds_2 ++ dktX13_odds_3
def dkwX13_odds_1 : List UInt8 := [184, 0, 42, 154, 0, 10, 42, 3, 182, 0, 128, 133, 173, 42, 27, 8, 182, 0, 58, 184, 0, 84, 54, 4]
abbrev dktX13_odds_1 : List UInt8 := dkwX13_odds_1 ++ dktX13_odds_2
def dkwX13_odds_0 : List UInt8 := [42, 27, 182, 0, 138, 153, 0, 25, 28, 133, 9, 20, 0, 46, 184, 0, 42, 153, 0, 13, 29, 133, 9, 10]
abbrev dktX13_odds_0 : List UInt8 := dkwX13_odds_0 ++ dktX13_odds_1
theorem dksX13_odds_0 : cX13_odds.data.toList.drop 0 = dktX13_odds_0 := by decide +kernel
theorem dksX13_odds_1 : cX13_odds.data.toList.drop 24 = dktX13_odds_1 := dk_seg dksX13_odds_0 24 rfl rfl
theorem dksX13_odds_2 : cX13_odds.data.toList.drop 48 = dktX13_odds_2 := dk_seg dksX13_odds_1 24 rfl rfl
theorem dksX13_odds_3 : cX13_odds.data.toList.drop 71 = dktX13_odds_3 := dk_seg dksX13_odds_2 23 rfl rfl
theorem dksX13_odds_4 : cX13_odds.data.toList.drop 95 = dktX13_odds_4 := dk_seg dksX13_odds_3 24 rfl rfl
theorem dX13_odds_0 : decode cX13_odds 0 = .ok (.aload_n 0, 1) := dk_42 (dk_at dksX13_odds_0 0 rfl rfl)
theorem dX13_odds_1 : decode cX13_odds 1 = .ok (.iload_n 1, 1) := dk_27 (dk_at dksX13_odds_0 1 rfl rfl)
theorem dX13_odds_2 : decode cX13_odds 2 = .ok (.invokevirtual 138, 3) := dk_182 0 138 (dk_at dksX13_odds_0 2 rfl rfl)
theorem dX13_odds_5 : decode cX13_odds 5 = .ok (.ifCond .eq 25, 3) := dk_153 0 25 (dk_at dksX13_odds_0 5 rfl rfl)
theorem dX13_odds_8 : decode cX13_odds 8 = .ok (.iload_n 2, 1) := dk_28 (dk_at dksX13_odds_0 8 rfl rfl)
theorem dX13_odds_9 : decode cX13_odds 9 = .ok (.i2l, 1) := dk_133 (dk_at dksX13_odds_0 9 rfl rfl)
theorem dX13_odds_10 : decode cX13_odds 10 = .ok (.lconst 0, 1) := dk_9 (dk_at dksX13_odds_0 10 rfl rfl)
theorem dX13_odds_11 : decode cX13_odds 11 = .ok (.ldc2_w 46, 3) := dk_20 0 46 (dk_at dksX13_odds_0 11 rfl rfl)
theorem dX13_odds_14 : decode cX13_odds 14 = .ok (.invokestatic 42, 3) := dk_184 0 42 (dk_at dksX13_odds_0 14 rfl rfl)
theorem dX13_odds_17 : decode cX13_odds 17 = .ok (.ifCond .eq 13, 3) := dk_153 0 13 (dk_at dksX13_odds_0 17 rfl rfl)
theorem dX13_odds_20 : decode cX13_odds 20 = .ok (.iload_n 3, 1) := dk_29 (dk_at dksX13_odds_0 20 rfl rfl)
theorem dX13_odds_21 : decode cX13_odds 21 = .ok (.i2l, 1) := dk_133 (dk_at dksX13_odds_0 21 rfl rfl)
theorem dX13_odds_22 : decode cX13_odds 22 = .ok (.lconst 0, 1) := dk_9 (dk_at dksX13_odds_0 22 rfl rfl)
theorem dX13_odds_23 : decode cX13_odds 23 = .ok (.lconst 1, 1) := dk_10 (dk_at dksX13_odds_0 23 rfl rfl)
theorem dX13_odds_24 : decode cX13_odds 24 = .ok (.invokestatic 42, 3) := dk_184 0 42 (dk_at dksX13_odds_1 0 rfl rfl)
theorem dX13_odds_27 : decode cX13_odds 27 = .ok (.ifCond .ne 10, 3) := dk_154 0 10 (dk_at dksX13_odds_1 3 rfl rfl)
theorem dX13_odds_30 : decode cX13_odds 30 = .ok (.aload_n 0, 1) := dk_42 (dk_at dksX13_odds_1 6 rfl rfl)
theorem dX13_odds_31 : decode cX13_odds 31 = .ok (.iconst 0, 1) := dk_3 (dk_at dksX13_odds_1 7 rfl rfl)
theorem dX13_odds_32 : decode cX13_odds 32 = .ok (.invokevirtual 128, 3) := dk_182 0 128 (dk_at dksX13_odds_1 8 rfl rfl)
theorem dX13_odds_35 : decode cX13_odds 35 = .ok (.i2l, 1) := dk_133 (dk_at dksX13_odds_1 11 rfl rfl)
theorem dX13_odds_36 : decode cX13_odds 36 = .ok (.lreturn, 1) := dk_173 (dk_at dksX13_odds_1 12 rfl rfl)
theorem dX13_odds_37 : decode cX13_odds 37 = .ok (.aload_n 0, 1) := dk_42 (dk_at dksX13_odds_1 13 rfl rfl)
theorem dX13_odds_38 : decode cX13_odds 38 = .ok (.iload_n 1, 1) := dk_27 (dk_at dksX13_odds_1 14 rfl rfl)
theorem dX13_odds_39 : decode cX13_odds 39 = .ok (.iconst 5, 1) := dk_8 (dk_at dksX13_odds_1 15 rfl rfl)
theorem dX13_odds_40 : decode cX13_odds 40 = .ok (.invokevirtual 58, 3) := dk_182 0 58 (dk_at dksX13_odds_1 16 rfl rfl)
theorem dX13_odds_43 : decode cX13_odds 43 = .ok (.invokestatic 84, 3) := dk_184 0 84 (dk_at dksX13_odds_1 19 rfl rfl)
theorem dX13_odds_46 : decode cX13_odds 46 = .ok (.istore 4, 2) := dk_54 4 (dk_at dksX13_odds_1 22 rfl rfl)
theorem dX13_odds_48 : decode cX13_odds 48 = .ok (.bipush 16, 2) := dk_16 16 (dk_at dksX13_odds_2 0 rfl rfl)
theorem dX13_odds_50 : decode cX13_odds 50 = .ok (.istore 5, 2) := dk_54 5 (dk_at dksX13_odds_2 2 rfl rfl)
theorem dX13_odds_52 : decode cX13_odds 52 = .ok (.iload 4, 2) := dk_21 4 (dk_at dksX13_odds_2 4 rfl rfl)
theorem dX13_odds_54 : decode cX13_odds 54 = .ok (.iconst 2, 1) := dk_5 (dk_at dksX13_odds_2 6 rfl rfl)
theorem dX13_odds_55 : decode cX13_odds 55 = .ok (.irem, 1) := dk_112 (dk_at dksX13_odds_2 7 rfl rfl)
theorem dX13_odds_56 : decode cX13_odds 56 = .ok (.ifCond .ne 24, 3) := dk_154 0 24 (dk_at dksX13_odds_2 8 rfl rfl)
theorem dX13_odds_59 : decode cX13_odds 59 = .ok (.iload 5, 2) := dk_21 5 (dk_at dksX13_odds_2 11 rfl rfl)
theorem dX13_odds_61 : decode cX13_odds 61 = .ok (.iconst 1, 1) := dk_4 (dk_at dksX13_odds_2 13 rfl rfl)
theorem dX13_odds_62 : decode cX13_odds 62 = .ok (.if_icmp .le 18, 3) := dk_164 0 18 (dk_at dksX13_odds_2 14 rfl rfl)
theorem dX13_odds_65 : decode cX13_odds 65 = .ok (.iload 4, 2) := dk_21 4 (dk_at dksX13_odds_2 17 rfl rfl)
theorem dX13_odds_67 : decode cX13_odds 67 = .ok (.iconst 2, 1) := dk_5 (dk_at dksX13_odds_2 19 rfl rfl)
theorem dX13_odds_68 : decode cX13_odds 68 = .ok (.idiv, 1) := dk_108 (dk_at dksX13_odds_2 20 rfl rfl)
theorem dX13_odds_69 : decode cX13_odds 69 = .ok (.istore 4, 2) := dk_54 4 (dk_at dksX13_odds_2 21 rfl rfl)
theorem dX13_odds_71 : decode cX13_odds 71 = .ok (.iload 5, 2) := dk_21 5 (dk_at dksX13_odds_3 0 rfl rfl)
theorem dX13_odds_73 : decode cX13_odds 73 = .ok (.iconst 2, 1) := dk_5 (dk_at dksX13_odds_3 2 rfl rfl)
theorem dX13_odds_74 : decode cX13_odds 74 = .ok (.idiv, 1) := dk_108 (dk_at dksX13_odds_3 3 rfl rfl)
theorem dX13_odds_75 : decode cX13_odds 75 = .ok (.istore 5, 2) := dk_54 5 (dk_at dksX13_odds_3 4 rfl rfl)
theorem dX13_odds_77 : decode cX13_odds 77 = .ok (.goto (-25), 3) := dk_167 255 231 (dk_at dksX13_odds_3 6 rfl rfl)
theorem dX13_odds_80 : decode cX13_odds 80 = .ok (.lconst 1, 1) := dk_10 (dk_at dksX13_odds_3 9 rfl rfl)
theorem dX13_odds_81 : decode cX13_odds 81 = .ok (.lstore 6, 2) := dk_55 6 (dk_at dksX13_odds_3 10 rfl rfl)
theorem dX13_odds_83 : decode cX13_odds 83 = .ok (.iconst 0, 1) := dk_3 (dk_at dksX13_odds_3 12 rfl rfl)
theorem dX13_odds_84 : decode cX13_odds 84 = .ok (.istore 8, 2) := dk_54 8 (dk_at dksX13_odds_3 13 rfl rfl)
theorem dX13_odds_86 : decode cX13_odds 86 = .ok (.iload 8, 2) := dk_21 8 (dk_at dksX13_odds_3 15 rfl rfl)
theorem dX13_odds_88 : decode cX13_odds 88 = .ok (.iload_n 2, 1) := dk_28 (dk_at dksX13_odds_3 17 rfl rfl)
theorem dX13_odds_89 : decode cX13_odds 89 = .ok (.if_icmp .ge 27, 3) := dk_162 0 27 (dk_at dksX13_odds_3 18 rfl rfl)
theorem dX13_odds_92 : decode cX13_odds 92 = .ok (.lload 6, 2) := dk_22 6 (dk_at dksX13_odds_3 21 rfl rfl)
theorem dX13_odds_94 : decode cX13_odds 94 = .ok (.iload_n 3, 1) := dk_29 (dk_at dksX13_odds_3 23 rfl rfl)
theorem dX13_odds_95 : decode cX13_odds 95 = .ok (.ifCond .ne 9, 3) := dk_154 0 9 (dk_at dksX13_odds_4 0 rfl rfl)
theorem dX13_odds_98 : decode cX13_odds 98 = .ok (.iload 4, 2) := dk_21 4 (dk_at dksX13_odds_4 3 rfl rfl)
theorem dX13_odds_100 : decode cX13_odds 100 = .ok (.i2l, 1) := dk_133 (dk_at dksX13_odds_4 5 rfl rfl)
theorem dX13_odds_101 : decode cX13_odds 101 = .ok (.goto 6, 3) := dk_167 0 6 (dk_at dksX13_odds_4 6 rfl rfl)
theorem dX13_odds_104 : decode cX13_odds 104 = .ok (.iload 5, 2) := dk_21 5 (dk_at dksX13_odds_4 9 rfl rfl)
theorem dX13_odds_106 : decode cX13_odds 106 = .ok (.i2l, 1) := dk_133 (dk_at dksX13_odds_4 11 rfl rfl)
theorem dX13_odds_107 : decode cX13_odds 107 = .ok (.lmul, 1) := dk_105 (dk_at dksX13_odds_4 12 rfl rfl)
theorem dX13_odds_108 : decode cX13_odds 108 = .ok (.lstore 6, 2) := dk_55 6 (dk_at dksX13_odds_4 13 rfl rfl)
theorem dX13_odds_110 : decode cX13_odds 110 = .ok (.iinc 8 1, 3) := dk_132 8 1 (dk_at dksX13_odds_4 15 rfl rfl)
theorem dX13_odds_113 : decode cX13_odds 113 = .ok (.goto (-27), 3) := dk_167 255 229 (dk_at dksX13_odds_4 18 rfl rfl)
theorem dX13_odds_116 : decode cX13_odds 116 = .ok (.lload 6, 2) := dk_22 6 (dk_at dksX13_odds_4 21 rfl rfl)
theorem dX13_odds_118 : decode cX13_odds 118 = .ok (.lreturn, 1) := dk_173 (dk_at dksX13_odds_4 23 rfl rfl)
abbrev cX13_seed : ByteArray := prog_16_method_66_code
def yX13_seed : MethodName := ⟨RX13, "seed", "(I)I"⟩
def dkwX13_seed_0 : List UInt8 := [42, 5, 27, 182, 0, 125, 172]
abbrev dktX13_seed_0 : List UInt8 := dkwX13_seed_0 ++ []
theorem dksX13_seed_0 : cX13_seed.data.toList.drop 0 = dktX13_seed_0 := by decide +kernel
theorem dX13_seed_0 : decode cX13_seed 0 = .ok (.aload_n 0, 1) := dk_42 (dk_at dksX13_seed_0 0 rfl rfl)
theorem dX13_seed_1 : decode cX13_seed 1 = .ok (.iconst 2, 1) := dk_5 (dk_at dksX13_seed_0 1 rfl rfl)
theorem dX13_seed_2 : decode cX13_seed 2 = .ok (.iload_n 1, 1) := dk_27 (dk_at dksX13_seed_0 2 rfl rfl)
theorem dX13_seed_3 : decode cX13_seed 3 = .ok (.invokevirtual 125, 3) := dk_182 0 125 (dk_at dksX13_seed_0 3 rfl rfl)
theorem dX13_seed_6 : decode cX13_seed 6 = .ok (.ireturn, 1) := dk_172 (dk_at dksX13_seed_0 6 rfl rfl)
abbrev cX13_feed : ByteArray := prog_16_method_67_code
def yX13_feed : MethodName := ⟨RX13, "feed", "(II)I"⟩
def dkwX13_feed_3 : List UInt8 := [167, 255, 223, 42, 180, 0, 205, 172]
abbrev dktX13_feed_3 : List UInt8 := dkwX13_feed_3 ++ []
def dkwX13_feed_2 : List UInt8 := [180, 0, 205, 27, 16, 8, 29, 104, 122, 145, 84, 42, 89, 180, 0, 205, 4, 96, 181, 0, 205, 132, 3, 255]
abbrev dktX13_feed_2 : List UInt8 := dkwX13_feed_2 ++ dktX13_feed_3
def dkwX13_feed_1 : List UInt8 := [16, 120, 164, 0, 9, 42, 4, 182, 0, 128, 172, 28, 4, 100, 62, 29, 155, 0, 35, 42, 180, 0, 25, 42]
abbrev dktX13_feed_1 : List UInt8 := dkwX13_feed_1 ++ dktX13_feed_2
def dkwX13_feed_0 : List UInt8 := [28, 133, 10, 20, 0, 203, 184, 0, 42, 154, 0, 9, 42, 3, 182, 0, 128, 172, 42, 180, 0, 205, 28, 96]
abbrev dktX13_feed_0 : List UInt8 := dkwX13_feed_0 ++ dktX13_feed_1
theorem dksX13_feed_0 : cX13_feed.data.toList.drop 0 = dktX13_feed_0 := by decide +kernel
theorem dksX13_feed_1 : cX13_feed.data.toList.drop 24 = dktX13_feed_1 := dk_seg dksX13_feed_0 24 rfl rfl
theorem dksX13_feed_2 : cX13_feed.data.toList.drop 48 = dktX13_feed_2 := dk_seg dksX13_feed_1 24 rfl rfl
theorem dksX13_feed_3 : cX13_feed.data.toList.drop 72 = dktX13_feed_3 := dk_seg dksX13_feed_2 24 rfl rfl
theorem dX13_feed_0 : decode cX13_feed 0 = .ok (.iload_n 2, 1) := dk_28 (dk_at dksX13_feed_0 0 rfl rfl)
theorem dX13_feed_1 : decode cX13_feed 1 = .ok (.i2l, 1) := dk_133 (dk_at dksX13_feed_0 1 rfl rfl)
theorem dX13_feed_2 : decode cX13_feed 2 = .ok (.lconst 1, 1) := dk_10 (dk_at dksX13_feed_0 2 rfl rfl)
theorem dX13_feed_3 : decode cX13_feed 3 = .ok (.ldc2_w 203, 3) := dk_20 0 203 (dk_at dksX13_feed_0 3 rfl rfl)
theorem dX13_feed_6 : decode cX13_feed 6 = .ok (.invokestatic 42, 3) := dk_184 0 42 (dk_at dksX13_feed_0 6 rfl rfl)
theorem dX13_feed_9 : decode cX13_feed 9 = .ok (.ifCond .ne 9, 3) := dk_154 0 9 (dk_at dksX13_feed_0 9 rfl rfl)
theorem dX13_feed_12 : decode cX13_feed 12 = .ok (.aload_n 0, 1) := dk_42 (dk_at dksX13_feed_0 12 rfl rfl)
theorem dX13_feed_13 : decode cX13_feed 13 = .ok (.iconst 0, 1) := dk_3 (dk_at dksX13_feed_0 13 rfl rfl)
theorem dX13_feed_14 : decode cX13_feed 14 = .ok (.invokevirtual 128, 3) := dk_182 0 128 (dk_at dksX13_feed_0 14 rfl rfl)
theorem dX13_feed_17 : decode cX13_feed 17 = .ok (.ireturn, 1) := dk_172 (dk_at dksX13_feed_0 17 rfl rfl)
theorem dX13_feed_18 : decode cX13_feed 18 = .ok (.aload_n 0, 1) := dk_42 (dk_at dksX13_feed_0 18 rfl rfl)
theorem dX13_feed_19 : decode cX13_feed 19 = .ok (.getfield 205, 3) := dk_180 0 205 (dk_at dksX13_feed_0 19 rfl rfl)
theorem dX13_feed_22 : decode cX13_feed 22 = .ok (.iload_n 2, 1) := dk_28 (dk_at dksX13_feed_0 22 rfl rfl)
theorem dX13_feed_23 : decode cX13_feed 23 = .ok (.iadd, 1) := dk_96 (dk_at dksX13_feed_0 23 rfl rfl)
theorem dX13_feed_24 : decode cX13_feed 24 = .ok (.bipush 120, 2) := dk_16 120 (dk_at dksX13_feed_1 0 rfl rfl)
theorem dX13_feed_26 : decode cX13_feed 26 = .ok (.if_icmp .le 9, 3) := dk_164 0 9 (dk_at dksX13_feed_1 2 rfl rfl)
theorem dX13_feed_29 : decode cX13_feed 29 = .ok (.aload_n 0, 1) := dk_42 (dk_at dksX13_feed_1 5 rfl rfl)
theorem dX13_feed_30 : decode cX13_feed 30 = .ok (.iconst 1, 1) := dk_4 (dk_at dksX13_feed_1 6 rfl rfl)
theorem dX13_feed_31 : decode cX13_feed 31 = .ok (.invokevirtual 128, 3) := dk_182 0 128 (dk_at dksX13_feed_1 7 rfl rfl)
theorem dX13_feed_34 : decode cX13_feed 34 = .ok (.ireturn, 1) := dk_172 (dk_at dksX13_feed_1 10 rfl rfl)
theorem dX13_feed_35 : decode cX13_feed 35 = .ok (.iload_n 2, 1) := dk_28 (dk_at dksX13_feed_1 11 rfl rfl)
theorem dX13_feed_36 : decode cX13_feed 36 = .ok (.iconst 1, 1) := dk_4 (dk_at dksX13_feed_1 12 rfl rfl)
theorem dX13_feed_37 : decode cX13_feed 37 = .ok (.isub, 1) := dk_100 (dk_at dksX13_feed_1 13 rfl rfl)
theorem dX13_feed_38 : decode cX13_feed 38 = .ok (.istore_n 3, 1) := dk_62 (dk_at dksX13_feed_1 14 rfl rfl)
theorem dX13_feed_39 : decode cX13_feed 39 = .ok (.iload_n 3, 1) := dk_29 (dk_at dksX13_feed_1 15 rfl rfl)
theorem dX13_feed_40 : decode cX13_feed 40 = .ok (.ifCond .lt 35, 3) := dk_155 0 35 (dk_at dksX13_feed_1 16 rfl rfl)
theorem dX13_feed_43 : decode cX13_feed 43 = .ok (.aload_n 0, 1) := dk_42 (dk_at dksX13_feed_1 19 rfl rfl)
theorem dX13_feed_44 : decode cX13_feed 44 = .ok (.getfield 25, 3) := dk_180 0 25 (dk_at dksX13_feed_1 20 rfl rfl)
theorem dX13_feed_47 : decode cX13_feed 47 = .ok (.aload_n 0, 1) := dk_42 (dk_at dksX13_feed_1 23 rfl rfl)
theorem dX13_feed_48 : decode cX13_feed 48 = .ok (.getfield 205, 3) := dk_180 0 205 (dk_at dksX13_feed_2 0 rfl rfl)
theorem dX13_feed_51 : decode cX13_feed 51 = .ok (.iload_n 1, 1) := dk_27 (dk_at dksX13_feed_2 3 rfl rfl)
theorem dX13_feed_52 : decode cX13_feed 52 = .ok (.bipush 8, 2) := dk_16 8 (dk_at dksX13_feed_2 4 rfl rfl)
theorem dX13_feed_54 : decode cX13_feed 54 = .ok (.iload_n 3, 1) := dk_29 (dk_at dksX13_feed_2 6 rfl rfl)
theorem dX13_feed_55 : decode cX13_feed 55 = .ok (.imul, 1) := dk_104 (dk_at dksX13_feed_2 7 rfl rfl)
theorem dX13_feed_56 : decode cX13_feed 56 = .ok (.ishr, 1) := dk_122 (dk_at dksX13_feed_2 8 rfl rfl)
theorem dX13_feed_57 : decode cX13_feed 57 = .ok (.i2b, 1) := dk_145 (dk_at dksX13_feed_2 9 rfl rfl)
theorem dX13_feed_58 : decode cX13_feed 58 = .ok (.bastore, 1) := dk_84 (dk_at dksX13_feed_2 10 rfl rfl)
theorem dX13_feed_59 : decode cX13_feed 59 = .ok (.aload_n 0, 1) := dk_42 (dk_at dksX13_feed_2 11 rfl rfl)
theorem dX13_feed_60 : decode cX13_feed 60 = .ok (.dup, 1) := dk_89 (dk_at dksX13_feed_2 12 rfl rfl)
theorem dX13_feed_61 : decode cX13_feed 61 = .ok (.getfield 205, 3) := dk_180 0 205 (dk_at dksX13_feed_2 13 rfl rfl)
theorem dX13_feed_64 : decode cX13_feed 64 = .ok (.iconst 1, 1) := dk_4 (dk_at dksX13_feed_2 16 rfl rfl)
theorem dX13_feed_65 : decode cX13_feed 65 = .ok (.iadd, 1) := dk_96 (dk_at dksX13_feed_2 17 rfl rfl)
theorem dX13_feed_66 : decode cX13_feed 66 = .ok (.putfield 205, 3) := dk_181 0 205 (dk_at dksX13_feed_2 18 rfl rfl)
theorem dX13_feed_69 : decode cX13_feed 69 = .ok (.iinc 3 (-1), 3) := dk_132 3 255 (dk_at dksX13_feed_2 21 rfl rfl)
theorem dX13_feed_72 : decode cX13_feed 72 = .ok (.goto (-33), 3) := dk_167 255 223 (dk_at dksX13_feed_3 0 rfl rfl)
theorem dX13_feed_75 : decode cX13_feed 75 = .ok (.aload_n 0, 1) := dk_42 (dk_at dksX13_feed_3 3 rfl rfl)
theorem dX13_feed_76 : decode cX13_feed 76 = .ok (.getfield 205, 3) := dk_180 0 205 (dk_at dksX13_feed_3 4 rfl rfl)
theorem dX13_feed_79 : decode cX13_feed 79 = .ok (.ireturn, 1) := dk_172 (dk_at dksX13_feed_3 7 rfl rfl)
abbrev cX13_wipe : ByteArray := prog_16_method_68_code
def yX13_wipe : MethodName := ⟨RX13, "wipe", "()I"⟩
def dkwX13_wipe_0 : List UInt8 := [42, 180, 0, 205, 60, 42, 3, 181, 0, 205, 27, 172]
abbrev dktX13_wipe_0 : List UInt8 := dkwX13_wipe_0 ++ []
theorem dksX13_wipe_0 : cX13_wipe.data.toList.drop 0 = dktX13_wipe_0 := by decide +kernel
theorem dX13_wipe_0 : decode cX13_wipe 0 = .ok (.aload_n 0, 1) := dk_42 (dk_at dksX13_wipe_0 0 rfl rfl)
theorem dX13_wipe_1 : decode cX13_wipe 1 = .ok (.getfield 205, 3) := dk_180 0 205 (dk_at dksX13_wipe_0 1 rfl rfl)
theorem dX13_wipe_4 : decode cX13_wipe 4 = .ok (.istore_n 1, 1) := dk_60 (dk_at dksX13_wipe_0 4 rfl rfl)
theorem dX13_wipe_5 : decode cX13_wipe 5 = .ok (.aload_n 0, 1) := dk_42 (dk_at dksX13_wipe_0 5 rfl rfl)
theorem dX13_wipe_6 : decode cX13_wipe 6 = .ok (.iconst 0, 1) := dk_3 (dk_at dksX13_wipe_0 6 rfl rfl)
theorem dX13_wipe_7 : decode cX13_wipe 7 = .ok (.putfield 205, 3) := dk_181 0 205 (dk_at dksX13_wipe_0 7 rfl rfl)
theorem dX13_wipe_10 : decode cX13_wipe 10 = .ok (.iload_n 1, 1) := dk_27 (dk_at dksX13_wipe_0 10 rfl rfl)
theorem dX13_wipe_11 : decode cX13_wipe 11 = .ok (.ireturn, 1) := dk_172 (dk_at dksX13_wipe_0 11 rfl rfl)
abbrev cX13_text : ByteArray := prog_16_method_83_code
def yX13_text : MethodName := ⟨RX13, "text", "()I"⟩
def dkwX13_text_2 : List UInt8 := [27, 172]
abbrev dktX13_text_2 : List UInt8 := dkwX13_text_2 ++ []
def dkwX13_text_1 : List UInt8 := [180, 0, 238, 155, 0, 21, 42, 180, 0, 13, 42, 180, 0, 7, 184, 0, 167, 2, 42, 180, 0, 238, 100, 172]
abbrev dktX13_text_1 : List UInt8 := dkwX13_text_1 ++ dktX13_text_2
def dkwX13_text_0 : List UInt8 := [42, 180, 0, 7, 42, 180, 0, 13, 184, 0, 167, 42, 182, 1, 43, 60, 42, 3, 181, 0, 205, 42]
abbrev dktX13_text_0 : List UInt8 := dkwX13_text_0 ++ dktX13_text_1
theorem dksX13_text_0 : cX13_text.data.toList.drop 0 = dktX13_text_0 := by decide +kernel
theorem dksX13_text_1 : cX13_text.data.toList.drop 22 = dktX13_text_1 := dk_seg dksX13_text_0 22 rfl rfl
theorem dksX13_text_2 : cX13_text.data.toList.drop 46 = dktX13_text_2 := dk_seg dksX13_text_1 24 rfl rfl
theorem dX13_text_0 : decode cX13_text 0 = .ok (.aload_n 0, 1) := dk_42 (dk_at dksX13_text_0 0 rfl rfl)
theorem dX13_text_1 : decode cX13_text 1 = .ok (.getfield 7, 3) := dk_180 0 7 (dk_at dksX13_text_0 1 rfl rfl)
theorem dX13_text_4 : decode cX13_text 4 = .ok (.aload_n 0, 1) := dk_42 (dk_at dksX13_text_0 4 rfl rfl)
theorem dX13_text_5 : decode cX13_text 5 = .ok (.getfield 13, 3) := dk_180 0 13 (dk_at dksX13_text_0 5 rfl rfl)
theorem dX13_text_8 : decode cX13_text 8 = .ok (.invokestatic 167, 3) := dk_184 0 167 (dk_at dksX13_text_0 8 rfl rfl)
theorem dX13_text_11 : decode cX13_text 11 = .ok (.aload_n 0, 1) := dk_42 (dk_at dksX13_text_0 11 rfl rfl)
theorem dX13_text_12 : decode cX13_text 12 = .ok (.invokevirtual 299, 3) := dk_182 1 43 (dk_at dksX13_text_0 12 rfl rfl)
theorem dX13_text_15 : decode cX13_text 15 = .ok (.istore_n 1, 1) := dk_60 (dk_at dksX13_text_0 15 rfl rfl)
theorem dX13_text_16 : decode cX13_text 16 = .ok (.aload_n 0, 1) := dk_42 (dk_at dksX13_text_0 16 rfl rfl)
theorem dX13_text_17 : decode cX13_text 17 = .ok (.iconst 0, 1) := dk_3 (dk_at dksX13_text_0 17 rfl rfl)
theorem dX13_text_18 : decode cX13_text 18 = .ok (.putfield 205, 3) := dk_181 0 205 (dk_at dksX13_text_0 18 rfl rfl)
theorem dX13_text_21 : decode cX13_text 21 = .ok (.aload_n 0, 1) := dk_42 (dk_at dksX13_text_0 21 rfl rfl)
theorem dX13_text_22 : decode cX13_text 22 = .ok (.getfield 238, 3) := dk_180 0 238 (dk_at dksX13_text_1 0 rfl rfl)
theorem dX13_text_25 : decode cX13_text 25 = .ok (.ifCond .lt 21, 3) := dk_155 0 21 (dk_at dksX13_text_1 3 rfl rfl)
theorem dX13_text_28 : decode cX13_text 28 = .ok (.aload_n 0, 1) := dk_42 (dk_at dksX13_text_1 6 rfl rfl)
theorem dX13_text_29 : decode cX13_text 29 = .ok (.getfield 13, 3) := dk_180 0 13 (dk_at dksX13_text_1 7 rfl rfl)
theorem dX13_text_32 : decode cX13_text 32 = .ok (.aload_n 0, 1) := dk_42 (dk_at dksX13_text_1 10 rfl rfl)
theorem dX13_text_33 : decode cX13_text 33 = .ok (.getfield 7, 3) := dk_180 0 7 (dk_at dksX13_text_1 11 rfl rfl)
theorem dX13_text_36 : decode cX13_text 36 = .ok (.invokestatic 167, 3) := dk_184 0 167 (dk_at dksX13_text_1 14 rfl rfl)
theorem dX13_text_39 : decode cX13_text 39 = .ok (.iconst (-1), 1) := dk_2 (dk_at dksX13_text_1 17 rfl rfl)
theorem dX13_text_40 : decode cX13_text 40 = .ok (.aload_n 0, 1) := dk_42 (dk_at dksX13_text_1 18 rfl rfl)
theorem dX13_text_41 : decode cX13_text 41 = .ok (.getfield 238, 3) := dk_180 0 238 (dk_at dksX13_text_1 19 rfl rfl)
theorem dX13_text_44 : decode cX13_text 44 = .ok (.isub, 1) := dk_100 (dk_at dksX13_text_1 22 rfl rfl)
theorem dX13_text_45 : decode cX13_text 45 = .ok (.ireturn, 1) := dk_172 (dk_at dksX13_text_1 23 rfl rfl)
theorem dX13_text_46 : decode cX13_text 46 = .ok (.iload_n 1, 1) := dk_27 (dk_at dksX13_text_2 0 rfl rfl)
theorem dX13_text_47 : decode cX13_text 47 = .ok (.ireturn, 1) := dk_172 (dk_at dksX13_text_2 1 rfl rfl)
abbrev cX13_items : ByteArray := prog_16_method_82_code
def yX13_items : MethodName := ⟨RX13, "items", "()I"⟩
def dkwX13_items_2 : List UInt8 := [167, 255, 230, 42, 180, 0, 238, 156, 0, 14, 42, 180, 0, 221, 153, 0, 7, 42, 182, 1, 3, 27, 172]
abbrev dktX13_items_2 : List UInt8 := dkwX13_items_2 ++ []
def dkwX13_items_1 : List UInt8 := [156, 0, 25, 42, 180, 0, 221, 6, 160, 0, 17, 42, 182, 1, 6, 42, 182, 1, 40, 132, 1, 1]
abbrev dktX13_items_1 : List UInt8 := dkwX13_items_1 ++ dktX13_items_2
def dkwX13_items_0 : List UInt8 := [42, 3, 181, 0, 208, 42, 2, 181, 0, 238, 42, 182, 1, 6, 42, 182, 1, 40, 4, 60, 42, 180, 0, 238]
abbrev dktX13_items_0 : List UInt8 := dkwX13_items_0 ++ dktX13_items_1
theorem dksX13_items_0 : cX13_items.data.toList.drop 0 = dktX13_items_0 := by decide +kernel
theorem dksX13_items_1 : cX13_items.data.toList.drop 24 = dktX13_items_1 := dk_seg dksX13_items_0 24 rfl rfl
theorem dksX13_items_2 : cX13_items.data.toList.drop 46 = dktX13_items_2 := dk_seg dksX13_items_1 22 rfl rfl
theorem dX13_items_0 : decode cX13_items 0 = .ok (.aload_n 0, 1) := dk_42 (dk_at dksX13_items_0 0 rfl rfl)
theorem dX13_items_1 : decode cX13_items 1 = .ok (.iconst 0, 1) := dk_3 (dk_at dksX13_items_0 1 rfl rfl)
theorem dX13_items_2 : decode cX13_items 2 = .ok (.putfield 208, 3) := dk_181 0 208 (dk_at dksX13_items_0 2 rfl rfl)
theorem dX13_items_5 : decode cX13_items 5 = .ok (.aload_n 0, 1) := dk_42 (dk_at dksX13_items_0 5 rfl rfl)
theorem dX13_items_6 : decode cX13_items 6 = .ok (.iconst (-1), 1) := dk_2 (dk_at dksX13_items_0 6 rfl rfl)
theorem dX13_items_7 : decode cX13_items 7 = .ok (.putfield 238, 3) := dk_181 0 238 (dk_at dksX13_items_0 7 rfl rfl)
theorem dX13_items_10 : decode cX13_items 10 = .ok (.aload_n 0, 1) := dk_42 (dk_at dksX13_items_0 10 rfl rfl)
theorem dX13_items_11 : decode cX13_items 11 = .ok (.invokevirtual 262, 3) := dk_182 1 6 (dk_at dksX13_items_0 11 rfl rfl)
theorem dX13_items_14 : decode cX13_items 14 = .ok (.aload_n 0, 1) := dk_42 (dk_at dksX13_items_0 14 rfl rfl)
theorem dX13_items_15 : decode cX13_items 15 = .ok (.invokevirtual 296, 3) := dk_182 1 40 (dk_at dksX13_items_0 15 rfl rfl)
theorem dX13_items_18 : decode cX13_items 18 = .ok (.iconst 1, 1) := dk_4 (dk_at dksX13_items_0 18 rfl rfl)
theorem dX13_items_19 : decode cX13_items 19 = .ok (.istore_n 1, 1) := dk_60 (dk_at dksX13_items_0 19 rfl rfl)
theorem dX13_items_20 : decode cX13_items 20 = .ok (.aload_n 0, 1) := dk_42 (dk_at dksX13_items_0 20 rfl rfl)
theorem dX13_items_21 : decode cX13_items 21 = .ok (.getfield 238, 3) := dk_180 0 238 (dk_at dksX13_items_0 21 rfl rfl)
theorem dX13_items_24 : decode cX13_items 24 = .ok (.ifCond .ge 25, 3) := dk_156 0 25 (dk_at dksX13_items_1 0 rfl rfl)
theorem dX13_items_27 : decode cX13_items 27 = .ok (.aload_n 0, 1) := dk_42 (dk_at dksX13_items_1 3 rfl rfl)
theorem dX13_items_28 : decode cX13_items 28 = .ok (.getfield 221, 3) := dk_180 0 221 (dk_at dksX13_items_1 4 rfl rfl)
theorem dX13_items_31 : decode cX13_items 31 = .ok (.iconst 3, 1) := dk_6 (dk_at dksX13_items_1 7 rfl rfl)
theorem dX13_items_32 : decode cX13_items 32 = .ok (.if_icmp .ne 17, 3) := dk_160 0 17 (dk_at dksX13_items_1 8 rfl rfl)
theorem dX13_items_35 : decode cX13_items 35 = .ok (.aload_n 0, 1) := dk_42 (dk_at dksX13_items_1 11 rfl rfl)
theorem dX13_items_36 : decode cX13_items 36 = .ok (.invokevirtual 262, 3) := dk_182 1 6 (dk_at dksX13_items_1 12 rfl rfl)
theorem dX13_items_39 : decode cX13_items 39 = .ok (.aload_n 0, 1) := dk_42 (dk_at dksX13_items_1 15 rfl rfl)
theorem dX13_items_40 : decode cX13_items 40 = .ok (.invokevirtual 296, 3) := dk_182 1 40 (dk_at dksX13_items_1 16 rfl rfl)
theorem dX13_items_43 : decode cX13_items 43 = .ok (.iinc 1 1, 3) := dk_132 1 1 (dk_at dksX13_items_1 19 rfl rfl)
theorem dX13_items_46 : decode cX13_items 46 = .ok (.goto (-26), 3) := dk_167 255 230 (dk_at dksX13_items_2 0 rfl rfl)
theorem dX13_items_49 : decode cX13_items 49 = .ok (.aload_n 0, 1) := dk_42 (dk_at dksX13_items_2 3 rfl rfl)
theorem dX13_items_50 : decode cX13_items 50 = .ok (.getfield 238, 3) := dk_180 0 238 (dk_at dksX13_items_2 4 rfl rfl)
theorem dX13_items_53 : decode cX13_items 53 = .ok (.ifCond .ge 14, 3) := dk_156 0 14 (dk_at dksX13_items_2 7 rfl rfl)
theorem dX13_items_56 : decode cX13_items 56 = .ok (.aload_n 0, 1) := dk_42 (dk_at dksX13_items_2 10 rfl rfl)
theorem dX13_items_57 : decode cX13_items 57 = .ok (.getfield 221, 3) := dk_180 0 221 (dk_at dksX13_items_2 11 rfl rfl)
theorem dX13_items_60 : decode cX13_items 60 = .ok (.ifCond .eq 7, 3) := dk_153 0 7 (dk_at dksX13_items_2 14 rfl rfl)
theorem dX13_items_63 : decode cX13_items 63 = .ok (.aload_n 0, 1) := dk_42 (dk_at dksX13_items_2 17 rfl rfl)
theorem dX13_items_64 : decode cX13_items 64 = .ok (.invokevirtual 259, 3) := dk_182 1 3 (dk_at dksX13_items_2 18 rfl rfl)
theorem dX13_items_67 : decode cX13_items 67 = .ok (.iload_n 1, 1) := dk_27 (dk_at dksX13_items_2 21 rfl rfl)
theorem dX13_items_68 : decode cX13_items 68 = .ok (.ireturn, 1) := dk_172 (dk_at dksX13_items_2 22 rfl rfl)
abbrev cX13_next : ByteArray := prog_16_method_72_code
def yX13_next : MethodName := ⟨RX13, "next", "()V"⟩
def dkwX13_next_11 : List UInt8 := [167, 255, 188, 42, 7, 181, 0, 221, 177]
abbrev dktX13_next_11 : List UInt8 := dkwX13_next_11 ++ []
def dkwX13_next_10 : List UInt8 := [182, 0, 211, 133, 97, 20, 0, 236, 101, 181, 0, 217, 42, 89, 180, 0, 208, 4, 96, 181, 0, 208]
abbrev dktX13_next_10 : List UInt8 := dkwX13_next_10 ++ dktX13_next_11
def dkwX13_next_9 : List UInt8 := [158, 0, 10, 42, 180, 0, 217, 167, 0, 25, 42, 180, 0, 217, 20, 0, 141, 105, 42, 42, 180, 0, 208]
abbrev dktX13_next_9 : List UInt8 := dkwX13_next_9 ++ dktX13_next_10
def dkwX13_next_8 : List UInt8 := [42, 42, 180, 0, 208, 182, 0, 211, 184, 0, 231, 153, 0, 65, 42, 42, 180, 0, 217, 20, 0, 234, 148]
abbrev dktX13_next_8 : List UInt8 := dkwX13_next_8 ++ dktX13_next_9
def dkwX13_next_7 : List UInt8 := [89, 180, 0, 208, 4, 96, 181, 0, 208, 167, 255, 189, 27, 184, 0, 231, 153, 0, 79, 42, 5, 181, 0, 221]
abbrev dktX13_next_7 : List UInt8 := dkwX13_next_7 ++ dktX13_next_8
def dkwX13_next_6 : List UInt8 := [180, 0, 217, 20, 0, 229, 105, 42, 42, 180, 0, 208, 182, 0, 211, 184, 0, 224, 133, 97, 181, 0, 217, 42]
abbrev dktX13_next_6 : List UInt8 := dkwX13_next_6 ++ dktX13_next_7
def dkwX13_next_5 : List UInt8 := [158, 0, 147, 42, 42, 180, 0, 217, 20, 0, 227, 148, 158, 0, 10, 42, 180, 0, 217, 167, 0, 24, 42]
abbrev dktX13_next_5 : List UInt8 := dkwX13_next_5 ++ dktX13_next_6
def dkwX13_next_4 : List UInt8 := [184, 0, 224, 158, 0, 78, 42, 4, 181, 0, 221, 42, 42, 180, 0, 208, 182, 0, 211, 184, 0, 224]
abbrev dktX13_next_4 : List UInt8 := dkwX13_next_4 ++ dktX13_next_5
def dkwX13_next_3 : List UInt8 := [160, 0, 21, 42, 6, 181, 0, 221, 42, 89, 180, 0, 208, 4, 96, 181, 0, 208, 167, 0, 173, 27]
abbrev dktX13_next_3 : List UInt8 := dkwX13_next_3 ++ dktX13_next_4
def dkwX13_next_2 : List UInt8 := [60, 42, 180, 0, 208, 42, 180, 0, 205, 160, 0, 11, 42, 3, 181, 0, 221, 167, 0, 197, 27, 16, 59]
abbrev dktX13_next_2 : List UInt8 := dkwX13_next_2 ++ dktX13_next_3
def dkwX13_next_1 : List UInt8 := [167, 255, 233, 42, 42, 180, 0, 208, 181, 0, 214, 42, 9, 181, 0, 217, 42, 42, 180, 0, 208, 182, 0, 211]
abbrev dktX13_next_1 : List UInt8 := dkwX13_next_1 ++ dktX13_next_2
def dkwX13_next_0 : List UInt8 := [42, 42, 180, 0, 208, 182, 0, 211, 16, 32, 160, 0, 16, 42, 89, 180, 0, 208, 4, 96, 181, 0, 208]
abbrev dktX13_next_0 : List UInt8 := dkwX13_next_0 ++ dktX13_next_1
theorem dksX13_next_0 : cX13_next.data.toList.drop 0 = dktX13_next_0 := by decide +kernel
theorem dksX13_next_1 : cX13_next.data.toList.drop 23 = dktX13_next_1 := dk_seg dksX13_next_0 23 rfl rfl
theorem dksX13_next_2 : cX13_next.data.toList.drop 47 = dktX13_next_2 := dk_seg dksX13_next_1 24 rfl rfl
theorem dksX13_next_3 : cX13_next.data.toList.drop 70 = dktX13_next_3 := dk_seg dksX13_next_2 23 rfl rfl
theorem dksX13_next_4 : cX13_next.data.toList.drop 92 = dktX13_next_4 := dk_seg dksX13_next_3 22 rfl rfl
theorem dksX13_next_5 : cX13_next.data.toList.drop 114 = dktX13_next_5 := dk_seg dksX13_next_4 22 rfl rfl
theorem dksX13_next_6 : cX13_next.data.toList.drop 137 = dktX13_next_6 := dk_seg dksX13_next_5 23 rfl rfl
theorem dksX13_next_7 : cX13_next.data.toList.drop 161 = dktX13_next_7 := dk_seg dksX13_next_6 24 rfl rfl
theorem dksX13_next_8 : cX13_next.data.toList.drop 185 = dktX13_next_8 := dk_seg dksX13_next_7 24 rfl rfl
theorem dksX13_next_9 : cX13_next.data.toList.drop 208 = dktX13_next_9 := dk_seg dksX13_next_8 23 rfl rfl
theorem dksX13_next_10 : cX13_next.data.toList.drop 231 = dktX13_next_10 := dk_seg dksX13_next_9 23 rfl rfl
theorem dksX13_next_11 : cX13_next.data.toList.drop 253 = dktX13_next_11 := dk_seg dksX13_next_10 22 rfl rfl
theorem dX13_next_0 : decode cX13_next 0 = .ok (.aload_n 0, 1) := dk_42 (dk_at dksX13_next_0 0 rfl rfl)
theorem dX13_next_1 : decode cX13_next 1 = .ok (.aload_n 0, 1) := dk_42 (dk_at dksX13_next_0 1 rfl rfl)
theorem dX13_next_2 : decode cX13_next 2 = .ok (.getfield 208, 3) := dk_180 0 208 (dk_at dksX13_next_0 2 rfl rfl)
theorem dX13_next_5 : decode cX13_next 5 = .ok (.invokevirtual 211, 3) := dk_182 0 211 (dk_at dksX13_next_0 5 rfl rfl)
theorem dX13_next_8 : decode cX13_next 8 = .ok (.bipush 32, 2) := dk_16 32 (dk_at dksX13_next_0 8 rfl rfl)
theorem dX13_next_10 : decode cX13_next 10 = .ok (.if_icmp .ne 16, 3) := dk_160 0 16 (dk_at dksX13_next_0 10 rfl rfl)
theorem dX13_next_13 : decode cX13_next 13 = .ok (.aload_n 0, 1) := dk_42 (dk_at dksX13_next_0 13 rfl rfl)
theorem dX13_next_14 : decode cX13_next 14 = .ok (.dup, 1) := dk_89 (dk_at dksX13_next_0 14 rfl rfl)
theorem dX13_next_15 : decode cX13_next 15 = .ok (.getfield 208, 3) := dk_180 0 208 (dk_at dksX13_next_0 15 rfl rfl)
theorem dX13_next_18 : decode cX13_next 18 = .ok (.iconst 1, 1) := dk_4 (dk_at dksX13_next_0 18 rfl rfl)
theorem dX13_next_19 : decode cX13_next 19 = .ok (.iadd, 1) := dk_96 (dk_at dksX13_next_0 19 rfl rfl)
theorem dX13_next_20 : decode cX13_next 20 = .ok (.putfield 208, 3) := dk_181 0 208 (dk_at dksX13_next_0 20 rfl rfl)
theorem dX13_next_23 : decode cX13_next 23 = .ok (.goto (-23), 3) := dk_167 255 233 (dk_at dksX13_next_1 0 rfl rfl)
theorem dX13_next_26 : decode cX13_next 26 = .ok (.aload_n 0, 1) := dk_42 (dk_at dksX13_next_1 3 rfl rfl)
theorem dX13_next_27 : decode cX13_next 27 = .ok (.aload_n 0, 1) := dk_42 (dk_at dksX13_next_1 4 rfl rfl)
theorem dX13_next_28 : decode cX13_next 28 = .ok (.getfield 208, 3) := dk_180 0 208 (dk_at dksX13_next_1 5 rfl rfl)
theorem dX13_next_31 : decode cX13_next 31 = .ok (.putfield 214, 3) := dk_181 0 214 (dk_at dksX13_next_1 8 rfl rfl)
theorem dX13_next_34 : decode cX13_next 34 = .ok (.aload_n 0, 1) := dk_42 (dk_at dksX13_next_1 11 rfl rfl)
theorem dX13_next_35 : decode cX13_next 35 = .ok (.lconst 0, 1) := dk_9 (dk_at dksX13_next_1 12 rfl rfl)
theorem dX13_next_36 : decode cX13_next 36 = .ok (.putfield 217, 3) := dk_181 0 217 (dk_at dksX13_next_1 13 rfl rfl)
theorem dX13_next_39 : decode cX13_next 39 = .ok (.aload_n 0, 1) := dk_42 (dk_at dksX13_next_1 16 rfl rfl)
theorem dX13_next_40 : decode cX13_next 40 = .ok (.aload_n 0, 1) := dk_42 (dk_at dksX13_next_1 17 rfl rfl)
theorem dX13_next_41 : decode cX13_next 41 = .ok (.getfield 208, 3) := dk_180 0 208 (dk_at dksX13_next_1 18 rfl rfl)
theorem dX13_next_44 : decode cX13_next 44 = .ok (.invokevirtual 211, 3) := dk_182 0 211 (dk_at dksX13_next_1 21 rfl rfl)
theorem dX13_next_47 : decode cX13_next 47 = .ok (.istore_n 1, 1) := dk_60 (dk_at dksX13_next_2 0 rfl rfl)
theorem dX13_next_48 : decode cX13_next 48 = .ok (.aload_n 0, 1) := dk_42 (dk_at dksX13_next_2 1 rfl rfl)
theorem dX13_next_49 : decode cX13_next 49 = .ok (.getfield 208, 3) := dk_180 0 208 (dk_at dksX13_next_2 2 rfl rfl)
theorem dX13_next_52 : decode cX13_next 52 = .ok (.aload_n 0, 1) := dk_42 (dk_at dksX13_next_2 5 rfl rfl)
theorem dX13_next_53 : decode cX13_next 53 = .ok (.getfield 205, 3) := dk_180 0 205 (dk_at dksX13_next_2 6 rfl rfl)
theorem dX13_next_56 : decode cX13_next 56 = .ok (.if_icmp .ne 11, 3) := dk_160 0 11 (dk_at dksX13_next_2 9 rfl rfl)
theorem dX13_next_59 : decode cX13_next 59 = .ok (.aload_n 0, 1) := dk_42 (dk_at dksX13_next_2 12 rfl rfl)
theorem dX13_next_60 : decode cX13_next 60 = .ok (.iconst 0, 1) := dk_3 (dk_at dksX13_next_2 13 rfl rfl)
theorem dX13_next_61 : decode cX13_next 61 = .ok (.putfield 221, 3) := dk_181 0 221 (dk_at dksX13_next_2 14 rfl rfl)
theorem dX13_next_64 : decode cX13_next 64 = .ok (.goto 197, 3) := dk_167 0 197 (dk_at dksX13_next_2 17 rfl rfl)
theorem dX13_next_67 : decode cX13_next 67 = .ok (.iload_n 1, 1) := dk_27 (dk_at dksX13_next_2 20 rfl rfl)
theorem dX13_next_68 : decode cX13_next 68 = .ok (.bipush 59, 2) := dk_16 59 (dk_at dksX13_next_2 21 rfl rfl)
theorem dX13_next_70 : decode cX13_next 70 = .ok (.if_icmp .ne 21, 3) := dk_160 0 21 (dk_at dksX13_next_3 0 rfl rfl)
theorem dX13_next_73 : decode cX13_next 73 = .ok (.aload_n 0, 1) := dk_42 (dk_at dksX13_next_3 3 rfl rfl)
theorem dX13_next_74 : decode cX13_next 74 = .ok (.iconst 3, 1) := dk_6 (dk_at dksX13_next_3 4 rfl rfl)
theorem dX13_next_75 : decode cX13_next 75 = .ok (.putfield 221, 3) := dk_181 0 221 (dk_at dksX13_next_3 5 rfl rfl)
theorem dX13_next_78 : decode cX13_next 78 = .ok (.aload_n 0, 1) := dk_42 (dk_at dksX13_next_3 8 rfl rfl)
theorem dX13_next_79 : decode cX13_next 79 = .ok (.dup, 1) := dk_89 (dk_at dksX13_next_3 9 rfl rfl)
theorem dX13_next_80 : decode cX13_next 80 = .ok (.getfield 208, 3) := dk_180 0 208 (dk_at dksX13_next_3 10 rfl rfl)
theorem dX13_next_83 : decode cX13_next 83 = .ok (.iconst 1, 1) := dk_4 (dk_at dksX13_next_3 13 rfl rfl)
theorem dX13_next_84 : decode cX13_next 84 = .ok (.iadd, 1) := dk_96 (dk_at dksX13_next_3 14 rfl rfl)
theorem dX13_next_85 : decode cX13_next 85 = .ok (.putfield 208, 3) := dk_181 0 208 (dk_at dksX13_next_3 15 rfl rfl)
theorem dX13_next_88 : decode cX13_next 88 = .ok (.goto 173, 3) := dk_167 0 173 (dk_at dksX13_next_3 18 rfl rfl)
theorem dX13_next_91 : decode cX13_next 91 = .ok (.iload_n 1, 1) := dk_27 (dk_at dksX13_next_3 21 rfl rfl)
theorem dX13_next_92 : decode cX13_next 92 = .ok (.invokestatic 224, 3) := dk_184 0 224 (dk_at dksX13_next_4 0 rfl rfl)
theorem dX13_next_95 : decode cX13_next 95 = .ok (.ifCond .le 78, 3) := dk_158 0 78 (dk_at dksX13_next_4 3 rfl rfl)
theorem dX13_next_98 : decode cX13_next 98 = .ok (.aload_n 0, 1) := dk_42 (dk_at dksX13_next_4 6 rfl rfl)
theorem dX13_next_99 : decode cX13_next 99 = .ok (.iconst 1, 1) := dk_4 (dk_at dksX13_next_4 7 rfl rfl)
theorem dX13_next_100 : decode cX13_next 100 = .ok (.putfield 221, 3) := dk_181 0 221 (dk_at dksX13_next_4 8 rfl rfl)
theorem dX13_next_103 : decode cX13_next 103 = .ok (.aload_n 0, 1) := dk_42 (dk_at dksX13_next_4 11 rfl rfl)
theorem dX13_next_104 : decode cX13_next 104 = .ok (.aload_n 0, 1) := dk_42 (dk_at dksX13_next_4 12 rfl rfl)
theorem dX13_next_105 : decode cX13_next 105 = .ok (.getfield 208, 3) := dk_180 0 208 (dk_at dksX13_next_4 13 rfl rfl)
theorem dX13_next_108 : decode cX13_next 108 = .ok (.invokevirtual 211, 3) := dk_182 0 211 (dk_at dksX13_next_4 16 rfl rfl)
theorem dX13_next_111 : decode cX13_next 111 = .ok (.invokestatic 224, 3) := dk_184 0 224 (dk_at dksX13_next_4 19 rfl rfl)
theorem dX13_next_114 : decode cX13_next 114 = .ok (.ifCond .le 147, 3) := dk_158 0 147 (dk_at dksX13_next_5 0 rfl rfl)
theorem dX13_next_117 : decode cX13_next 117 = .ok (.aload_n 0, 1) := dk_42 (dk_at dksX13_next_5 3 rfl rfl)
theorem dX13_next_118 : decode cX13_next 118 = .ok (.aload_n 0, 1) := dk_42 (dk_at dksX13_next_5 4 rfl rfl)
theorem dX13_next_119 : decode cX13_next 119 = .ok (.getfield 217, 3) := dk_180 0 217 (dk_at dksX13_next_5 5 rfl rfl)
theorem dX13_next_122 : decode cX13_next 122 = .ok (.ldc2_w 227, 3) := dk_20 0 227 (dk_at dksX13_next_5 8 rfl rfl)
theorem dX13_next_125 : decode cX13_next 125 = .ok (.lcmp, 1) := dk_148 (dk_at dksX13_next_5 11 rfl rfl)
theorem dX13_next_126 : decode cX13_next 126 = .ok (.ifCond .le 10, 3) := dk_158 0 10 (dk_at dksX13_next_5 12 rfl rfl)
theorem dX13_next_129 : decode cX13_next 129 = .ok (.aload_n 0, 1) := dk_42 (dk_at dksX13_next_5 15 rfl rfl)
theorem dX13_next_130 : decode cX13_next 130 = .ok (.getfield 217, 3) := dk_180 0 217 (dk_at dksX13_next_5 16 rfl rfl)
theorem dX13_next_133 : decode cX13_next 133 = .ok (.goto 24, 3) := dk_167 0 24 (dk_at dksX13_next_5 19 rfl rfl)
theorem dX13_next_136 : decode cX13_next 136 = .ok (.aload_n 0, 1) := dk_42 (dk_at dksX13_next_5 22 rfl rfl)
theorem dX13_next_137 : decode cX13_next 137 = .ok (.getfield 217, 3) := dk_180 0 217 (dk_at dksX13_next_6 0 rfl rfl)
theorem dX13_next_140 : decode cX13_next 140 = .ok (.ldc2_w 229, 3) := dk_20 0 229 (dk_at dksX13_next_6 3 rfl rfl)
theorem dX13_next_143 : decode cX13_next 143 = .ok (.lmul, 1) := dk_105 (dk_at dksX13_next_6 6 rfl rfl)
theorem dX13_next_144 : decode cX13_next 144 = .ok (.aload_n 0, 1) := dk_42 (dk_at dksX13_next_6 7 rfl rfl)
theorem dX13_next_145 : decode cX13_next 145 = .ok (.aload_n 0, 1) := dk_42 (dk_at dksX13_next_6 8 rfl rfl)
theorem dX13_next_146 : decode cX13_next 146 = .ok (.getfield 208, 3) := dk_180 0 208 (dk_at dksX13_next_6 9 rfl rfl)
theorem dX13_next_149 : decode cX13_next 149 = .ok (.invokevirtual 211, 3) := dk_182 0 211 (dk_at dksX13_next_6 12 rfl rfl)
theorem dX13_next_152 : decode cX13_next 152 = .ok (.invokestatic 224, 3) := dk_184 0 224 (dk_at dksX13_next_6 15 rfl rfl)
theorem dX13_next_155 : decode cX13_next 155 = .ok (.i2l, 1) := dk_133 (dk_at dksX13_next_6 18 rfl rfl)
theorem dX13_next_156 : decode cX13_next 156 = .ok (.ladd, 1) := dk_97 (dk_at dksX13_next_6 19 rfl rfl)
theorem dX13_next_157 : decode cX13_next 157 = .ok (.putfield 217, 3) := dk_181 0 217 (dk_at dksX13_next_6 20 rfl rfl)
theorem dX13_next_160 : decode cX13_next 160 = .ok (.aload_n 0, 1) := dk_42 (dk_at dksX13_next_6 23 rfl rfl)
theorem dX13_next_161 : decode cX13_next 161 = .ok (.dup, 1) := dk_89 (dk_at dksX13_next_7 0 rfl rfl)
theorem dX13_next_162 : decode cX13_next 162 = .ok (.getfield 208, 3) := dk_180 0 208 (dk_at dksX13_next_7 1 rfl rfl)
theorem dX13_next_165 : decode cX13_next 165 = .ok (.iconst 1, 1) := dk_4 (dk_at dksX13_next_7 4 rfl rfl)
theorem dX13_next_166 : decode cX13_next 166 = .ok (.iadd, 1) := dk_96 (dk_at dksX13_next_7 5 rfl rfl)
theorem dX13_next_167 : decode cX13_next 167 = .ok (.putfield 208, 3) := dk_181 0 208 (dk_at dksX13_next_7 6 rfl rfl)
theorem dX13_next_170 : decode cX13_next 170 = .ok (.goto (-67), 3) := dk_167 255 189 (dk_at dksX13_next_7 9 rfl rfl)
theorem dX13_next_173 : decode cX13_next 173 = .ok (.iload_n 1, 1) := dk_27 (dk_at dksX13_next_7 12 rfl rfl)
theorem dX13_next_174 : decode cX13_next 174 = .ok (.invokestatic 231, 3) := dk_184 0 231 (dk_at dksX13_next_7 13 rfl rfl)
theorem dX13_next_177 : decode cX13_next 177 = .ok (.ifCond .eq 79, 3) := dk_153 0 79 (dk_at dksX13_next_7 16 rfl rfl)
theorem dX13_next_180 : decode cX13_next 180 = .ok (.aload_n 0, 1) := dk_42 (dk_at dksX13_next_7 19 rfl rfl)
theorem dX13_next_181 : decode cX13_next 181 = .ok (.iconst 2, 1) := dk_5 (dk_at dksX13_next_7 20 rfl rfl)
theorem dX13_next_182 : decode cX13_next 182 = .ok (.putfield 221, 3) := dk_181 0 221 (dk_at dksX13_next_7 21 rfl rfl)
theorem dX13_next_185 : decode cX13_next 185 = .ok (.aload_n 0, 1) := dk_42 (dk_at dksX13_next_8 0 rfl rfl)
theorem dX13_next_186 : decode cX13_next 186 = .ok (.aload_n 0, 1) := dk_42 (dk_at dksX13_next_8 1 rfl rfl)
theorem dX13_next_187 : decode cX13_next 187 = .ok (.getfield 208, 3) := dk_180 0 208 (dk_at dksX13_next_8 2 rfl rfl)
theorem dX13_next_190 : decode cX13_next 190 = .ok (.invokevirtual 211, 3) := dk_182 0 211 (dk_at dksX13_next_8 5 rfl rfl)
theorem dX13_next_193 : decode cX13_next 193 = .ok (.invokestatic 231, 3) := dk_184 0 231 (dk_at dksX13_next_8 8 rfl rfl)
theorem dX13_next_196 : decode cX13_next 196 = .ok (.ifCond .eq 65, 3) := dk_153 0 65 (dk_at dksX13_next_8 11 rfl rfl)
theorem dX13_next_199 : decode cX13_next 199 = .ok (.aload_n 0, 1) := dk_42 (dk_at dksX13_next_8 14 rfl rfl)
theorem dX13_next_200 : decode cX13_next 200 = .ok (.aload_n 0, 1) := dk_42 (dk_at dksX13_next_8 15 rfl rfl)
theorem dX13_next_201 : decode cX13_next 201 = .ok (.getfield 217, 3) := dk_180 0 217 (dk_at dksX13_next_8 16 rfl rfl)
theorem dX13_next_204 : decode cX13_next 204 = .ok (.ldc2_w 234, 3) := dk_20 0 234 (dk_at dksX13_next_8 19 rfl rfl)
theorem dX13_next_207 : decode cX13_next 207 = .ok (.lcmp, 1) := dk_148 (dk_at dksX13_next_8 22 rfl rfl)
theorem dX13_next_208 : decode cX13_next 208 = .ok (.ifCond .le 10, 3) := dk_158 0 10 (dk_at dksX13_next_9 0 rfl rfl)
theorem dX13_next_211 : decode cX13_next 211 = .ok (.aload_n 0, 1) := dk_42 (dk_at dksX13_next_9 3 rfl rfl)
theorem dX13_next_212 : decode cX13_next 212 = .ok (.getfield 217, 3) := dk_180 0 217 (dk_at dksX13_next_9 4 rfl rfl)
theorem dX13_next_215 : decode cX13_next 215 = .ok (.goto 25, 3) := dk_167 0 25 (dk_at dksX13_next_9 7 rfl rfl)
theorem dX13_next_218 : decode cX13_next 218 = .ok (.aload_n 0, 1) := dk_42 (dk_at dksX13_next_9 10 rfl rfl)
theorem dX13_next_219 : decode cX13_next 219 = .ok (.getfield 217, 3) := dk_180 0 217 (dk_at dksX13_next_9 11 rfl rfl)
theorem dX13_next_222 : decode cX13_next 222 = .ok (.ldc2_w 141, 3) := dk_20 0 141 (dk_at dksX13_next_9 14 rfl rfl)
theorem dX13_next_225 : decode cX13_next 225 = .ok (.lmul, 1) := dk_105 (dk_at dksX13_next_9 17 rfl rfl)
theorem dX13_next_226 : decode cX13_next 226 = .ok (.aload_n 0, 1) := dk_42 (dk_at dksX13_next_9 18 rfl rfl)
theorem dX13_next_227 : decode cX13_next 227 = .ok (.aload_n 0, 1) := dk_42 (dk_at dksX13_next_9 19 rfl rfl)
theorem dX13_next_228 : decode cX13_next 228 = .ok (.getfield 208, 3) := dk_180 0 208 (dk_at dksX13_next_9 20 rfl rfl)
theorem dX13_next_231 : decode cX13_next 231 = .ok (.invokevirtual 211, 3) := dk_182 0 211 (dk_at dksX13_next_10 0 rfl rfl)
theorem dX13_next_234 : decode cX13_next 234 = .ok (.i2l, 1) := dk_133 (dk_at dksX13_next_10 3 rfl rfl)
theorem dX13_next_235 : decode cX13_next 235 = .ok (.ladd, 1) := dk_97 (dk_at dksX13_next_10 4 rfl rfl)
theorem dX13_next_236 : decode cX13_next 236 = .ok (.ldc2_w 236, 3) := dk_20 0 236 (dk_at dksX13_next_10 5 rfl rfl)
theorem dX13_next_239 : decode cX13_next 239 = .ok (.lsub, 1) := dk_101 (dk_at dksX13_next_10 8 rfl rfl)
theorem dX13_next_240 : decode cX13_next 240 = .ok (.putfield 217, 3) := dk_181 0 217 (dk_at dksX13_next_10 9 rfl rfl)
theorem dX13_next_243 : decode cX13_next 243 = .ok (.aload_n 0, 1) := dk_42 (dk_at dksX13_next_10 12 rfl rfl)
theorem dX13_next_244 : decode cX13_next 244 = .ok (.dup, 1) := dk_89 (dk_at dksX13_next_10 13 rfl rfl)
theorem dX13_next_245 : decode cX13_next 245 = .ok (.getfield 208, 3) := dk_180 0 208 (dk_at dksX13_next_10 14 rfl rfl)
theorem dX13_next_248 : decode cX13_next 248 = .ok (.iconst 1, 1) := dk_4 (dk_at dksX13_next_10 17 rfl rfl)
theorem dX13_next_249 : decode cX13_next 249 = .ok (.iadd, 1) := dk_96 (dk_at dksX13_next_10 18 rfl rfl)
theorem dX13_next_250 : decode cX13_next 250 = .ok (.putfield 208, 3) := dk_181 0 208 (dk_at dksX13_next_10 19 rfl rfl)
theorem dX13_next_253 : decode cX13_next 253 = .ok (.goto (-68), 3) := dk_167 255 188 (dk_at dksX13_next_11 0 rfl rfl)
theorem dX13_next_256 : decode cX13_next 256 = .ok (.aload_n 0, 1) := dk_42 (dk_at dksX13_next_11 3 rfl rfl)
theorem dX13_next_257 : decode cX13_next 257 = .ok (.iconst 4, 1) := dk_7 (dk_at dksX13_next_11 4 rfl rfl)
theorem dX13_next_258 : decode cX13_next 258 = .ok (.putfield 221, 3) := dk_181 0 221 (dk_at dksX13_next_11 5 rfl rfl)
theorem dX13_next_261 : decode cX13_next 261 = .ok (.return_, 1) := dk_177 (dk_at dksX13_next_11 8 rfl rfl)
abbrev cX13_byteAt : ByteArray := prog_16_method_71_code
def yX13_byteAt : MethodName := ⟨RX13, "byteAt", "(I)I"⟩
def dkwX13_byteAt_0 : List UInt8 := [27, 42, 180, 0, 205, 162, 0, 12, 42, 180, 0, 25, 27, 51, 167, 0, 4, 2, 172]
abbrev dktX13_byteAt_0 : List UInt8 := dkwX13_byteAt_0 ++ []
theorem dksX13_byteAt_0 : cX13_byteAt.data.toList.drop 0 = dktX13_byteAt_0 := by decide +kernel
theorem dX13_byteAt_0 : decode cX13_byteAt 0 = .ok (.iload_n 1, 1) := dk_27 (dk_at dksX13_byteAt_0 0 rfl rfl)
theorem dX13_byteAt_1 : decode cX13_byteAt 1 = .ok (.aload_n 0, 1) := dk_42 (dk_at dksX13_byteAt_0 1 rfl rfl)
theorem dX13_byteAt_2 : decode cX13_byteAt 2 = .ok (.getfield 205, 3) := dk_180 0 205 (dk_at dksX13_byteAt_0 2 rfl rfl)
theorem dX13_byteAt_5 : decode cX13_byteAt 5 = .ok (.if_icmp .ge 12, 3) := dk_162 0 12 (dk_at dksX13_byteAt_0 5 rfl rfl)
theorem dX13_byteAt_8 : decode cX13_byteAt 8 = .ok (.aload_n 0, 1) := dk_42 (dk_at dksX13_byteAt_0 8 rfl rfl)
theorem dX13_byteAt_9 : decode cX13_byteAt 9 = .ok (.getfield 25, 3) := dk_180 0 25 (dk_at dksX13_byteAt_0 9 rfl rfl)
theorem dX13_byteAt_12 : decode cX13_byteAt 12 = .ok (.iload_n 1, 1) := dk_27 (dk_at dksX13_byteAt_0 12 rfl rfl)
theorem dX13_byteAt_13 : decode cX13_byteAt 13 = .ok (.baload, 1) := dk_51 (dk_at dksX13_byteAt_0 13 rfl rfl)
theorem dX13_byteAt_14 : decode cX13_byteAt 14 = .ok (.goto 4, 3) := dk_167 0 4 (dk_at dksX13_byteAt_0 14 rfl rfl)
theorem dX13_byteAt_17 : decode cX13_byteAt 17 = .ok (.iconst (-1), 1) := dk_2 (dk_at dksX13_byteAt_0 17 rfl rfl)
theorem dX13_byteAt_18 : decode cX13_byteAt 18 = .ok (.ireturn, 1) := dk_172 (dk_at dksX13_byteAt_0 18 rfl rfl)
abbrev cX13_letter : ByteArray := prog_16_method_69_code
def yX13_letter : MethodName := ⟨RX13, "letter", "(I)I"⟩
def dkwX13_letter_0 : List UInt8 := [26, 16, 97, 161, 0, 18, 26, 16, 122, 163, 0, 12, 26, 16, 97, 100, 4, 96, 167, 0, 4, 3, 172]
abbrev dktX13_letter_0 : List UInt8 := dkwX13_letter_0 ++ []
theorem dksX13_letter_0 : cX13_letter.data.toList.drop 0 = dktX13_letter_0 := by decide +kernel
theorem dX13_letter_0 : decode cX13_letter 0 = .ok (.iload_n 0, 1) := dk_26 (dk_at dksX13_letter_0 0 rfl rfl)
theorem dX13_letter_1 : decode cX13_letter 1 = .ok (.bipush 97, 2) := dk_16 97 (dk_at dksX13_letter_0 1 rfl rfl)
theorem dX13_letter_3 : decode cX13_letter 3 = .ok (.if_icmp .lt 18, 3) := dk_161 0 18 (dk_at dksX13_letter_0 3 rfl rfl)
theorem dX13_letter_6 : decode cX13_letter 6 = .ok (.iload_n 0, 1) := dk_26 (dk_at dksX13_letter_0 6 rfl rfl)
theorem dX13_letter_7 : decode cX13_letter 7 = .ok (.bipush 122, 2) := dk_16 122 (dk_at dksX13_letter_0 7 rfl rfl)
theorem dX13_letter_9 : decode cX13_letter 9 = .ok (.if_icmp .gt 12, 3) := dk_163 0 12 (dk_at dksX13_letter_0 9 rfl rfl)
theorem dX13_letter_12 : decode cX13_letter 12 = .ok (.iload_n 0, 1) := dk_26 (dk_at dksX13_letter_0 12 rfl rfl)
theorem dX13_letter_13 : decode cX13_letter 13 = .ok (.bipush 97, 2) := dk_16 97 (dk_at dksX13_letter_0 13 rfl rfl)
theorem dX13_letter_15 : decode cX13_letter 15 = .ok (.isub, 1) := dk_100 (dk_at dksX13_letter_0 15 rfl rfl)
theorem dX13_letter_16 : decode cX13_letter 16 = .ok (.iconst 1, 1) := dk_4 (dk_at dksX13_letter_0 16 rfl rfl)
theorem dX13_letter_17 : decode cX13_letter 17 = .ok (.iadd, 1) := dk_96 (dk_at dksX13_letter_0 17 rfl rfl)
theorem dX13_letter_18 : decode cX13_letter 18 = .ok (.goto 4, 3) := dk_167 0 4 (dk_at dksX13_letter_0 18 rfl rfl)
theorem dX13_letter_21 : decode cX13_letter 21 = .ok (.iconst 0, 1) := dk_3 (dk_at dksX13_letter_0 21 rfl rfl)
theorem dX13_letter_22 : decode cX13_letter 22 = .ok (.ireturn, 1) := dk_172 (dk_at dksX13_letter_0 22 rfl rfl)
abbrev cX13_isDigit : ByteArray := prog_16_method_70_code
def yX13_isDigit : MethodName := ⟨RX13, "isDigit", "(I)Z"⟩
def dkwX13_isDigit_0 : List UInt8 := [26, 16, 48, 161, 0, 13, 26, 16, 57, 163, 0, 7, 4, 167, 0, 4, 3, 172]
abbrev dktX13_isDigit_0 : List UInt8 := dkwX13_isDigit_0 ++ []
theorem dksX13_isDigit_0 : cX13_isDigit.data.toList.drop 0 = dktX13_isDigit_0 := by decide +kernel
theorem dX13_isDigit_0 : decode cX13_isDigit 0 = .ok (.iload_n 0, 1) := dk_26 (dk_at dksX13_isDigit_0 0 rfl rfl)
theorem dX13_isDigit_1 : decode cX13_isDigit 1 = .ok (.bipush 48, 2) := dk_16 48 (dk_at dksX13_isDigit_0 1 rfl rfl)
theorem dX13_isDigit_3 : decode cX13_isDigit 3 = .ok (.if_icmp .lt 13, 3) := dk_161 0 13 (dk_at dksX13_isDigit_0 3 rfl rfl)
theorem dX13_isDigit_6 : decode cX13_isDigit 6 = .ok (.iload_n 0, 1) := dk_26 (dk_at dksX13_isDigit_0 6 rfl rfl)
theorem dX13_isDigit_7 : decode cX13_isDigit 7 = .ok (.bipush 57, 2) := dk_16 57 (dk_at dksX13_isDigit_0 7 rfl rfl)
theorem dX13_isDigit_9 : decode cX13_isDigit 9 = .ok (.if_icmp .gt 7, 3) := dk_163 0 7 (dk_at dksX13_isDigit_0 9 rfl rfl)
theorem dX13_isDigit_12 : decode cX13_isDigit 12 = .ok (.iconst 1, 1) := dk_4 (dk_at dksX13_isDigit_0 12 rfl rfl)
theorem dX13_isDigit_13 : decode cX13_isDigit 13 = .ok (.goto 4, 3) := dk_167 0 4 (dk_at dksX13_isDigit_0 13 rfl rfl)
theorem dX13_isDigit_16 : decode cX13_isDigit 16 = .ok (.iconst 0, 1) := dk_3 (dk_at dksX13_isDigit_0 16 rfl rfl)
theorem dX13_isDigit_17 : decode cX13_isDigit 17 = .ok (.ireturn, 1) := dk_172 (dk_at dksX13_isDigit_0 17 rfl rfl)
abbrev cX13_item : ByteArray := prog_16_method_81_code
def yX13_item : MethodName := ⟨RX13, "item", "()V"⟩
def dkwX13_item_2 : List UInt8 := [167, 0, 7, 42, 182, 1, 3, 177]
abbrev dktX13_item_2 : List UInt8 := dkwX13_item_2 ++ []
def dkwX13_item_1 : List UInt8 := [153, 0, 10, 42, 182, 1, 32, 167, 0, 24, 42, 20, 1, 35, 182, 0, 243, 153, 0, 10, 42, 182, 1, 37]
abbrev dktX13_item_1 : List UInt8 := dkwX13_item_1 ++ dktX13_item_2
def dkwX13_item_0 : List UInt8 := [42, 182, 1, 24, 60, 27, 155, 0, 11, 42, 27, 182, 1, 27, 167, 0, 41, 42, 20, 1, 30, 182, 0, 243]
abbrev dktX13_item_0 : List UInt8 := dkwX13_item_0 ++ dktX13_item_1
theorem dksX13_item_0 : cX13_item.data.toList.drop 0 = dktX13_item_0 := by decide +kernel
theorem dksX13_item_1 : cX13_item.data.toList.drop 24 = dktX13_item_1 := dk_seg dksX13_item_0 24 rfl rfl
theorem dksX13_item_2 : cX13_item.data.toList.drop 48 = dktX13_item_2 := dk_seg dksX13_item_1 24 rfl rfl
theorem dX13_item_0 : decode cX13_item 0 = .ok (.aload_n 0, 1) := dk_42 (dk_at dksX13_item_0 0 rfl rfl)
theorem dX13_item_1 : decode cX13_item 1 = .ok (.invokevirtual 280, 3) := dk_182 1 24 (dk_at dksX13_item_0 1 rfl rfl)
theorem dX13_item_4 : decode cX13_item 4 = .ok (.istore_n 1, 1) := dk_60 (dk_at dksX13_item_0 4 rfl rfl)
theorem dX13_item_5 : decode cX13_item 5 = .ok (.iload_n 1, 1) := dk_27 (dk_at dksX13_item_0 5 rfl rfl)
theorem dX13_item_6 : decode cX13_item 6 = .ok (.ifCond .lt 11, 3) := dk_155 0 11 (dk_at dksX13_item_0 6 rfl rfl)
theorem dX13_item_9 : decode cX13_item 9 = .ok (.aload_n 0, 1) := dk_42 (dk_at dksX13_item_0 9 rfl rfl)
theorem dX13_item_10 : decode cX13_item 10 = .ok (.iload_n 1, 1) := dk_27 (dk_at dksX13_item_0 10 rfl rfl)
theorem dX13_item_11 : decode cX13_item 11 = .ok (.invokevirtual 283, 3) := dk_182 1 27 (dk_at dksX13_item_0 11 rfl rfl)
theorem dX13_item_14 : decode cX13_item 14 = .ok (.goto 41, 3) := dk_167 0 41 (dk_at dksX13_item_0 14 rfl rfl)
theorem dX13_item_17 : decode cX13_item 17 = .ok (.aload_n 0, 1) := dk_42 (dk_at dksX13_item_0 17 rfl rfl)
theorem dX13_item_18 : decode cX13_item 18 = .ok (.ldc2_w 286, 3) := dk_20 1 30 (dk_at dksX13_item_0 18 rfl rfl)
theorem dX13_item_21 : decode cX13_item 21 = .ok (.invokevirtual 243, 3) := dk_182 0 243 (dk_at dksX13_item_0 21 rfl rfl)
theorem dX13_item_24 : decode cX13_item 24 = .ok (.ifCond .eq 10, 3) := dk_153 0 10 (dk_at dksX13_item_1 0 rfl rfl)
theorem dX13_item_27 : decode cX13_item 27 = .ok (.aload_n 0, 1) := dk_42 (dk_at dksX13_item_1 3 rfl rfl)
theorem dX13_item_28 : decode cX13_item 28 = .ok (.invokevirtual 288, 3) := dk_182 1 32 (dk_at dksX13_item_1 4 rfl rfl)
theorem dX13_item_31 : decode cX13_item 31 = .ok (.goto 24, 3) := dk_167 0 24 (dk_at dksX13_item_1 7 rfl rfl)
theorem dX13_item_34 : decode cX13_item 34 = .ok (.aload_n 0, 1) := dk_42 (dk_at dksX13_item_1 10 rfl rfl)
theorem dX13_item_35 : decode cX13_item 35 = .ok (.ldc2_w 291, 3) := dk_20 1 35 (dk_at dksX13_item_1 11 rfl rfl)
theorem dX13_item_38 : decode cX13_item 38 = .ok (.invokevirtual 243, 3) := dk_182 0 243 (dk_at dksX13_item_1 14 rfl rfl)
theorem dX13_item_41 : decode cX13_item 41 = .ok (.ifCond .eq 10, 3) := dk_153 0 10 (dk_at dksX13_item_1 17 rfl rfl)
theorem dX13_item_44 : decode cX13_item 44 = .ok (.aload_n 0, 1) := dk_42 (dk_at dksX13_item_1 20 rfl rfl)
theorem dX13_item_45 : decode cX13_item 45 = .ok (.invokevirtual 293, 3) := dk_182 1 37 (dk_at dksX13_item_1 21 rfl rfl)
theorem dX13_item_48 : decode cX13_item 48 = .ok (.goto 7, 3) := dk_167 0 7 (dk_at dksX13_item_2 0 rfl rfl)
theorem dX13_item_51 : decode cX13_item 51 = .ok (.aload_n 0, 1) := dk_42 (dk_at dksX13_item_2 3 rfl rfl)
theorem dX13_item_52 : decode cX13_item 52 = .ok (.invokevirtual 259, 3) := dk_182 1 3 (dk_at dksX13_item_2 4 rfl rfl)
theorem dX13_item_55 : decode cX13_item 55 = .ok (.return_, 1) := dk_177 (dk_at dksX13_item_2 7 rfl rfl)
abbrev cX13_kindHere : ByteArray := prog_16_method_75_code
def yX13_kindHere : MethodName := ⟨RX13, "kindHere", "()I"⟩
def dkwX13_kindHere_4 : List UInt8 := [16, 6, 167, 0, 4, 2, 172]
abbrev dktX13_kindHere_4 : List UInt8 := dkwX13_kindHere_4 ++ []
def dkwX13_kindHere_3 : List UInt8 := [42, 20, 0, 255, 182, 0, 243, 153, 0, 7, 8, 167, 0, 19, 42, 20, 1, 1, 182, 0, 243, 153, 0, 8]
abbrev dktX13_kindHere_3 : List UInt8 := dkwX13_kindHere_3 ++ dktX13_kindHere_4
def dkwX13_kindHere_2 : List UInt8 := [182, 0, 243, 153, 0, 7, 6, 167, 0, 47, 42, 20, 0, 253, 182, 0, 243, 153, 0, 7, 7, 167, 0, 33]
abbrev dktX13_kindHere_2 : List UInt8 := dkwX13_kindHere_2 ++ dktX13_kindHere_3
def dkwX13_kindHere_1 : List UInt8 := [4, 167, 0, 75, 42, 20, 0, 249, 182, 0, 243, 153, 0, 7, 5, 167, 0, 61, 42, 20, 0, 251]
abbrev dktX13_kindHere_1 : List UInt8 := dkwX13_kindHere_1 ++ dktX13_kindHere_2
def dkwX13_kindHere_0 : List UInt8 := [42, 20, 0, 241, 182, 0, 243, 153, 0, 7, 3, 167, 0, 89, 42, 20, 0, 247, 182, 0, 243, 153, 0, 7]
abbrev dktX13_kindHere_0 : List UInt8 := dkwX13_kindHere_0 ++ dktX13_kindHere_1
theorem dksX13_kindHere_0 : cX13_kindHere.data.toList.drop 0 = dktX13_kindHere_0 := by decide +kernel
theorem dksX13_kindHere_1 : cX13_kindHere.data.toList.drop 24 = dktX13_kindHere_1 := dk_seg dksX13_kindHere_0 24 rfl rfl
theorem dksX13_kindHere_2 : cX13_kindHere.data.toList.drop 46 = dktX13_kindHere_2 := dk_seg dksX13_kindHere_1 22 rfl rfl
theorem dksX13_kindHere_3 : cX13_kindHere.data.toList.drop 70 = dktX13_kindHere_3 := dk_seg dksX13_kindHere_2 24 rfl rfl
theorem dksX13_kindHere_4 : cX13_kindHere.data.toList.drop 94 = dktX13_kindHere_4 := dk_seg dksX13_kindHere_3 24 rfl rfl
theorem dX13_kindHere_0 : decode cX13_kindHere 0 = .ok (.aload_n 0, 1) := dk_42 (dk_at dksX13_kindHere_0 0 rfl rfl)
theorem dX13_kindHere_1 : decode cX13_kindHere 1 = .ok (.ldc2_w 241, 3) := dk_20 0 241 (dk_at dksX13_kindHere_0 1 rfl rfl)
theorem dX13_kindHere_4 : decode cX13_kindHere 4 = .ok (.invokevirtual 243, 3) := dk_182 0 243 (dk_at dksX13_kindHere_0 4 rfl rfl)
theorem dX13_kindHere_7 : decode cX13_kindHere 7 = .ok (.ifCond .eq 7, 3) := dk_153 0 7 (dk_at dksX13_kindHere_0 7 rfl rfl)
theorem dX13_kindHere_10 : decode cX13_kindHere 10 = .ok (.iconst 0, 1) := dk_3 (dk_at dksX13_kindHere_0 10 rfl rfl)
theorem dX13_kindHere_11 : decode cX13_kindHere 11 = .ok (.goto 89, 3) := dk_167 0 89 (dk_at dksX13_kindHere_0 11 rfl rfl)
theorem dX13_kindHere_14 : decode cX13_kindHere 14 = .ok (.aload_n 0, 1) := dk_42 (dk_at dksX13_kindHere_0 14 rfl rfl)
theorem dX13_kindHere_15 : decode cX13_kindHere 15 = .ok (.ldc2_w 247, 3) := dk_20 0 247 (dk_at dksX13_kindHere_0 15 rfl rfl)
theorem dX13_kindHere_18 : decode cX13_kindHere 18 = .ok (.invokevirtual 243, 3) := dk_182 0 243 (dk_at dksX13_kindHere_0 18 rfl rfl)
theorem dX13_kindHere_21 : decode cX13_kindHere 21 = .ok (.ifCond .eq 7, 3) := dk_153 0 7 (dk_at dksX13_kindHere_0 21 rfl rfl)
theorem dX13_kindHere_24 : decode cX13_kindHere 24 = .ok (.iconst 1, 1) := dk_4 (dk_at dksX13_kindHere_1 0 rfl rfl)
theorem dX13_kindHere_25 : decode cX13_kindHere 25 = .ok (.goto 75, 3) := dk_167 0 75 (dk_at dksX13_kindHere_1 1 rfl rfl)
theorem dX13_kindHere_28 : decode cX13_kindHere 28 = .ok (.aload_n 0, 1) := dk_42 (dk_at dksX13_kindHere_1 4 rfl rfl)
theorem dX13_kindHere_29 : decode cX13_kindHere 29 = .ok (.ldc2_w 249, 3) := dk_20 0 249 (dk_at dksX13_kindHere_1 5 rfl rfl)
theorem dX13_kindHere_32 : decode cX13_kindHere 32 = .ok (.invokevirtual 243, 3) := dk_182 0 243 (dk_at dksX13_kindHere_1 8 rfl rfl)
theorem dX13_kindHere_35 : decode cX13_kindHere 35 = .ok (.ifCond .eq 7, 3) := dk_153 0 7 (dk_at dksX13_kindHere_1 11 rfl rfl)
theorem dX13_kindHere_38 : decode cX13_kindHere 38 = .ok (.iconst 2, 1) := dk_5 (dk_at dksX13_kindHere_1 14 rfl rfl)
theorem dX13_kindHere_39 : decode cX13_kindHere 39 = .ok (.goto 61, 3) := dk_167 0 61 (dk_at dksX13_kindHere_1 15 rfl rfl)
theorem dX13_kindHere_42 : decode cX13_kindHere 42 = .ok (.aload_n 0, 1) := dk_42 (dk_at dksX13_kindHere_1 18 rfl rfl)
theorem dX13_kindHere_43 : decode cX13_kindHere 43 = .ok (.ldc2_w 251, 3) := dk_20 0 251 (dk_at dksX13_kindHere_1 19 rfl rfl)
theorem dX13_kindHere_46 : decode cX13_kindHere 46 = .ok (.invokevirtual 243, 3) := dk_182 0 243 (dk_at dksX13_kindHere_2 0 rfl rfl)
theorem dX13_kindHere_49 : decode cX13_kindHere 49 = .ok (.ifCond .eq 7, 3) := dk_153 0 7 (dk_at dksX13_kindHere_2 3 rfl rfl)
theorem dX13_kindHere_52 : decode cX13_kindHere 52 = .ok (.iconst 3, 1) := dk_6 (dk_at dksX13_kindHere_2 6 rfl rfl)
theorem dX13_kindHere_53 : decode cX13_kindHere 53 = .ok (.goto 47, 3) := dk_167 0 47 (dk_at dksX13_kindHere_2 7 rfl rfl)
theorem dX13_kindHere_56 : decode cX13_kindHere 56 = .ok (.aload_n 0, 1) := dk_42 (dk_at dksX13_kindHere_2 10 rfl rfl)
theorem dX13_kindHere_57 : decode cX13_kindHere 57 = .ok (.ldc2_w 253, 3) := dk_20 0 253 (dk_at dksX13_kindHere_2 11 rfl rfl)
theorem dX13_kindHere_60 : decode cX13_kindHere 60 = .ok (.invokevirtual 243, 3) := dk_182 0 243 (dk_at dksX13_kindHere_2 14 rfl rfl)
theorem dX13_kindHere_63 : decode cX13_kindHere 63 = .ok (.ifCond .eq 7, 3) := dk_153 0 7 (dk_at dksX13_kindHere_2 17 rfl rfl)
theorem dX13_kindHere_66 : decode cX13_kindHere 66 = .ok (.iconst 4, 1) := dk_7 (dk_at dksX13_kindHere_2 20 rfl rfl)
theorem dX13_kindHere_67 : decode cX13_kindHere 67 = .ok (.goto 33, 3) := dk_167 0 33 (dk_at dksX13_kindHere_2 21 rfl rfl)
theorem dX13_kindHere_70 : decode cX13_kindHere 70 = .ok (.aload_n 0, 1) := dk_42 (dk_at dksX13_kindHere_3 0 rfl rfl)
theorem dX13_kindHere_71 : decode cX13_kindHere 71 = .ok (.ldc2_w 255, 3) := dk_20 0 255 (dk_at dksX13_kindHere_3 1 rfl rfl)
theorem dX13_kindHere_74 : decode cX13_kindHere 74 = .ok (.invokevirtual 243, 3) := dk_182 0 243 (dk_at dksX13_kindHere_3 4 rfl rfl)
theorem dX13_kindHere_77 : decode cX13_kindHere 77 = .ok (.ifCond .eq 7, 3) := dk_153 0 7 (dk_at dksX13_kindHere_3 7 rfl rfl)
theorem dX13_kindHere_80 : decode cX13_kindHere 80 = .ok (.iconst 5, 1) := dk_8 (dk_at dksX13_kindHere_3 10 rfl rfl)
theorem dX13_kindHere_81 : decode cX13_kindHere 81 = .ok (.goto 19, 3) := dk_167 0 19 (dk_at dksX13_kindHere_3 11 rfl rfl)
theorem dX13_kindHere_84 : decode cX13_kindHere 84 = .ok (.aload_n 0, 1) := dk_42 (dk_at dksX13_kindHere_3 14 rfl rfl)
theorem dX13_kindHere_85 : decode cX13_kindHere 85 = .ok (.ldc2_w 257, 3) := dk_20 1 1 (dk_at dksX13_kindHere_3 15 rfl rfl)
theorem dX13_kindHere_88 : decode cX13_kindHere 88 = .ok (.invokevirtual 243, 3) := dk_182 0 243 (dk_at dksX13_kindHere_3 18 rfl rfl)
theorem dX13_kindHere_91 : decode cX13_kindHere 91 = .ok (.ifCond .eq 8, 3) := dk_153 0 8 (dk_at dksX13_kindHere_3 21 rfl rfl)
theorem dX13_kindHere_94 : decode cX13_kindHere 94 = .ok (.bipush 6, 2) := dk_16 6 (dk_at dksX13_kindHere_4 0 rfl rfl)
theorem dX13_kindHere_96 : decode cX13_kindHere 96 = .ok (.goto 4, 3) := dk_167 0 4 (dk_at dksX13_kindHere_4 2 rfl rfl)
theorem dX13_kindHere_99 : decode cX13_kindHere 99 = .ok (.iconst (-1), 1) := dk_2 (dk_at dksX13_kindHere_4 5 rfl rfl)
theorem dX13_kindHere_100 : decode cX13_kindHere 100 = .ok (.ireturn, 1) := dk_172 (dk_at dksX13_kindHere_4 6 rfl rfl)
abbrev cX13_isWord : ByteArray := prog_16_method_74_code
def yX13_isWord : MethodName := ⟨RX13, "isWord", "(J)Z"⟩
def dkwX13_isWord_0 : List UInt8 := [42, 180, 0, 221, 4, 160, 0, 16, 42, 180, 0, 217, 31, 148, 154, 0, 7, 4, 167, 0, 4, 3, 172]
abbrev dktX13_isWord_0 : List UInt8 := dkwX13_isWord_0 ++ []
theorem dksX13_isWord_0 : cX13_isWord.data.toList.drop 0 = dktX13_isWord_0 := by decide +kernel
theorem dX13_isWord_0 : decode cX13_isWord 0 = .ok (.aload_n 0, 1) := dk_42 (dk_at dksX13_isWord_0 0 rfl rfl)
theorem dX13_isWord_1 : decode cX13_isWord 1 = .ok (.getfield 221, 3) := dk_180 0 221 (dk_at dksX13_isWord_0 1 rfl rfl)
theorem dX13_isWord_4 : decode cX13_isWord 4 = .ok (.iconst 1, 1) := dk_4 (dk_at dksX13_isWord_0 4 rfl rfl)
theorem dX13_isWord_5 : decode cX13_isWord 5 = .ok (.if_icmp .ne 16, 3) := dk_160 0 16 (dk_at dksX13_isWord_0 5 rfl rfl)
theorem dX13_isWord_8 : decode cX13_isWord 8 = .ok (.aload_n 0, 1) := dk_42 (dk_at dksX13_isWord_0 8 rfl rfl)
theorem dX13_isWord_9 : decode cX13_isWord 9 = .ok (.getfield 217, 3) := dk_180 0 217 (dk_at dksX13_isWord_0 9 rfl rfl)
theorem dX13_isWord_12 : decode cX13_isWord 12 = .ok (.lload_n 1, 1) := dk_31 (dk_at dksX13_isWord_0 12 rfl rfl)
theorem dX13_isWord_13 : decode cX13_isWord 13 = .ok (.lcmp, 1) := dk_148 (dk_at dksX13_isWord_0 13 rfl rfl)
theorem dX13_isWord_14 : decode cX13_isWord 14 = .ok (.ifCond .ne 7, 3) := dk_154 0 7 (dk_at dksX13_isWord_0 14 rfl rfl)
theorem dX13_isWord_17 : decode cX13_isWord 17 = .ok (.iconst 1, 1) := dk_4 (dk_at dksX13_isWord_0 17 rfl rfl)
theorem dX13_isWord_18 : decode cX13_isWord 18 = .ok (.goto 4, 3) := dk_167 0 4 (dk_at dksX13_isWord_0 18 rfl rfl)
theorem dX13_isWord_21 : decode cX13_isWord 21 = .ok (.iconst 0, 1) := dk_3 (dk_at dksX13_isWord_0 21 rfl rfl)
theorem dX13_isWord_22 : decode cX13_isWord 22 = .ok (.ireturn, 1) := dk_172 (dk_at dksX13_isWord_0 22 rfl rfl)
abbrev cX13_gloveHere : ByteArray := prog_16_method_78_code
def yX13_gloveHere : MethodName := ⟨RX13, "gloveHere", "(I)V"⟩
def dkwX13_gloveHere_2 : List UInt8 := [20, 1, 20, 28, 6, 182, 1, 14, 42, 20, 1, 22, 28, 7, 182, 1, 14, 177]
abbrev dktX13_gloveHere_2 : List UInt8 := dkwX13_gloveHere_2 ++ []
def dkwX13_gloveHere_1 : List UInt8 := [182, 0, 135, 61, 42, 20, 1, 12, 28, 4, 182, 1, 14, 42, 20, 1, 18, 28, 5, 182, 1, 14, 42]
abbrev dktX13_gloveHere_1 : List UInt8 := dkwX13_gloveHere_1 ++ dktX13_gloveHere_2
def dkwX13_gloveHere_0 : List UInt8 := [42, 180, 0, 7, 3, 46, 16, 8, 160, 0, 8, 42, 182, 1, 3, 177, 42, 182, 1, 6, 42, 27, 3]
abbrev dktX13_gloveHere_0 : List UInt8 := dkwX13_gloveHere_0 ++ dktX13_gloveHere_1
theorem dksX13_gloveHere_0 : cX13_gloveHere.data.toList.drop 0 = dktX13_gloveHere_0 := by decide +kernel
theorem dksX13_gloveHere_1 : cX13_gloveHere.data.toList.drop 23 = dktX13_gloveHere_1 := dk_seg dksX13_gloveHere_0 23 rfl rfl
theorem dksX13_gloveHere_2 : cX13_gloveHere.data.toList.drop 46 = dktX13_gloveHere_2 := dk_seg dksX13_gloveHere_1 23 rfl rfl
theorem dX13_gloveHere_0 : decode cX13_gloveHere 0 = .ok (.aload_n 0, 1) := dk_42 (dk_at dksX13_gloveHere_0 0 rfl rfl)
theorem dX13_gloveHere_1 : decode cX13_gloveHere 1 = .ok (.getfield 7, 3) := dk_180 0 7 (dk_at dksX13_gloveHere_0 1 rfl rfl)
theorem dX13_gloveHere_4 : decode cX13_gloveHere 4 = .ok (.iconst 0, 1) := dk_3 (dk_at dksX13_gloveHere_0 4 rfl rfl)
theorem dX13_gloveHere_5 : decode cX13_gloveHere 5 = .ok (.iaload, 1) := dk_46 (dk_at dksX13_gloveHere_0 5 rfl rfl)
theorem dX13_gloveHere_6 : decode cX13_gloveHere 6 = .ok (.bipush 8, 2) := dk_16 8 (dk_at dksX13_gloveHere_0 6 rfl rfl)
theorem dX13_gloveHere_8 : decode cX13_gloveHere 8 = .ok (.if_icmp .ne 8, 3) := dk_160 0 8 (dk_at dksX13_gloveHere_0 8 rfl rfl)
theorem dX13_gloveHere_11 : decode cX13_gloveHere 11 = .ok (.aload_n 0, 1) := dk_42 (dk_at dksX13_gloveHere_0 11 rfl rfl)
theorem dX13_gloveHere_12 : decode cX13_gloveHere 12 = .ok (.invokevirtual 259, 3) := dk_182 1 3 (dk_at dksX13_gloveHere_0 12 rfl rfl)
theorem dX13_gloveHere_15 : decode cX13_gloveHere 15 = .ok (.return_, 1) := dk_177 (dk_at dksX13_gloveHere_0 15 rfl rfl)
theorem dX13_gloveHere_16 : decode cX13_gloveHere 16 = .ok (.aload_n 0, 1) := dk_42 (dk_at dksX13_gloveHere_0 16 rfl rfl)
theorem dX13_gloveHere_17 : decode cX13_gloveHere 17 = .ok (.invokevirtual 262, 3) := dk_182 1 6 (dk_at dksX13_gloveHere_0 17 rfl rfl)
theorem dX13_gloveHere_20 : decode cX13_gloveHere 20 = .ok (.aload_n 0, 1) := dk_42 (dk_at dksX13_gloveHere_0 20 rfl rfl)
theorem dX13_gloveHere_21 : decode cX13_gloveHere 21 = .ok (.iload_n 1, 1) := dk_27 (dk_at dksX13_gloveHere_0 21 rfl rfl)
theorem dX13_gloveHere_22 : decode cX13_gloveHere 22 = .ok (.iconst 0, 1) := dk_3 (dk_at dksX13_gloveHere_0 22 rfl rfl)
theorem dX13_gloveHere_23 : decode cX13_gloveHere 23 = .ok (.invokevirtual 135, 3) := dk_182 0 135 (dk_at dksX13_gloveHere_1 0 rfl rfl)
theorem dX13_gloveHere_26 : decode cX13_gloveHere 26 = .ok (.istore_n 2, 1) := dk_61 (dk_at dksX13_gloveHere_1 3 rfl rfl)
theorem dX13_gloveHere_27 : decode cX13_gloveHere 27 = .ok (.aload_n 0, 1) := dk_42 (dk_at dksX13_gloveHere_1 4 rfl rfl)
theorem dX13_gloveHere_28 : decode cX13_gloveHere 28 = .ok (.ldc2_w 268, 3) := dk_20 1 12 (dk_at dksX13_gloveHere_1 5 rfl rfl)
theorem dX13_gloveHere_31 : decode cX13_gloveHere 31 = .ok (.iload_n 2, 1) := dk_28 (dk_at dksX13_gloveHere_1 8 rfl rfl)
theorem dX13_gloveHere_32 : decode cX13_gloveHere 32 = .ok (.iconst 1, 1) := dk_4 (dk_at dksX13_gloveHere_1 9 rfl rfl)
theorem dX13_gloveHere_33 : decode cX13_gloveHere 33 = .ok (.invokevirtual 270, 3) := dk_182 1 14 (dk_at dksX13_gloveHere_1 10 rfl rfl)
theorem dX13_gloveHere_36 : decode cX13_gloveHere 36 = .ok (.aload_n 0, 1) := dk_42 (dk_at dksX13_gloveHere_1 13 rfl rfl)
theorem dX13_gloveHere_37 : decode cX13_gloveHere 37 = .ok (.ldc2_w 274, 3) := dk_20 1 18 (dk_at dksX13_gloveHere_1 14 rfl rfl)
theorem dX13_gloveHere_40 : decode cX13_gloveHere 40 = .ok (.iload_n 2, 1) := dk_28 (dk_at dksX13_gloveHere_1 17 rfl rfl)
theorem dX13_gloveHere_41 : decode cX13_gloveHere 41 = .ok (.iconst 2, 1) := dk_5 (dk_at dksX13_gloveHere_1 18 rfl rfl)
theorem dX13_gloveHere_42 : decode cX13_gloveHere 42 = .ok (.invokevirtual 270, 3) := dk_182 1 14 (dk_at dksX13_gloveHere_1 19 rfl rfl)
theorem dX13_gloveHere_45 : decode cX13_gloveHere 45 = .ok (.aload_n 0, 1) := dk_42 (dk_at dksX13_gloveHere_1 22 rfl rfl)
theorem dX13_gloveHere_46 : decode cX13_gloveHere 46 = .ok (.ldc2_w 276, 3) := dk_20 1 20 (dk_at dksX13_gloveHere_2 0 rfl rfl)
theorem dX13_gloveHere_49 : decode cX13_gloveHere 49 = .ok (.iload_n 2, 1) := dk_28 (dk_at dksX13_gloveHere_2 3 rfl rfl)
theorem dX13_gloveHere_50 : decode cX13_gloveHere 50 = .ok (.iconst 3, 1) := dk_6 (dk_at dksX13_gloveHere_2 4 rfl rfl)
theorem dX13_gloveHere_51 : decode cX13_gloveHere 51 = .ok (.invokevirtual 270, 3) := dk_182 1 14 (dk_at dksX13_gloveHere_2 5 rfl rfl)
theorem dX13_gloveHere_54 : decode cX13_gloveHere 54 = .ok (.aload_n 0, 1) := dk_42 (dk_at dksX13_gloveHere_2 8 rfl rfl)
theorem dX13_gloveHere_55 : decode cX13_gloveHere 55 = .ok (.ldc2_w 278, 3) := dk_20 1 22 (dk_at dksX13_gloveHere_2 9 rfl rfl)
theorem dX13_gloveHere_58 : decode cX13_gloveHere 58 = .ok (.iload_n 2, 1) := dk_28 (dk_at dksX13_gloveHere_2 12 rfl rfl)
theorem dX13_gloveHere_59 : decode cX13_gloveHere 59 = .ok (.iconst 4, 1) := dk_7 (dk_at dksX13_gloveHere_2 13 rfl rfl)
theorem dX13_gloveHere_60 : decode cX13_gloveHere 60 = .ok (.invokevirtual 270, 3) := dk_182 1 14 (dk_at dksX13_gloveHere_2 14 rfl rfl)
theorem dX13_gloveHere_63 : decode cX13_gloveHere 63 = .ok (.return_, 1) := dk_177 (dk_at dksX13_gloveHere_2 17 rfl rfl)
abbrev cX13_wrongHere : ByteArray := prog_16_method_73_code
def yX13_wrongHere : MethodName := ⟨RX13, "wrongHere", "()V"⟩
def dkwX13_wrongHere_0 : List UInt8 := [42, 42, 180, 0, 238, 156, 0, 10, 42, 180, 0, 214, 167, 0, 7, 42, 180, 0, 238, 181, 0, 238, 177]
abbrev dktX13_wrongHere_0 : List UInt8 := dkwX13_wrongHere_0 ++ []
theorem dksX13_wrongHere_0 : cX13_wrongHere.data.toList.drop 0 = dktX13_wrongHere_0 := by decide +kernel
theorem dX13_wrongHere_0 : decode cX13_wrongHere 0 = .ok (.aload_n 0, 1) := dk_42 (dk_at dksX13_wrongHere_0 0 rfl rfl)
theorem dX13_wrongHere_1 : decode cX13_wrongHere 1 = .ok (.aload_n 0, 1) := dk_42 (dk_at dksX13_wrongHere_0 1 rfl rfl)
theorem dX13_wrongHere_2 : decode cX13_wrongHere 2 = .ok (.getfield 238, 3) := dk_180 0 238 (dk_at dksX13_wrongHere_0 2 rfl rfl)
theorem dX13_wrongHere_5 : decode cX13_wrongHere 5 = .ok (.ifCond .ge 10, 3) := dk_156 0 10 (dk_at dksX13_wrongHere_0 5 rfl rfl)
theorem dX13_wrongHere_8 : decode cX13_wrongHere 8 = .ok (.aload_n 0, 1) := dk_42 (dk_at dksX13_wrongHere_0 8 rfl rfl)
theorem dX13_wrongHere_9 : decode cX13_wrongHere 9 = .ok (.getfield 214, 3) := dk_180 0 214 (dk_at dksX13_wrongHere_0 9 rfl rfl)
theorem dX13_wrongHere_12 : decode cX13_wrongHere 12 = .ok (.goto 7, 3) := dk_167 0 7 (dk_at dksX13_wrongHere_0 12 rfl rfl)
theorem dX13_wrongHere_15 : decode cX13_wrongHere 15 = .ok (.aload_n 0, 1) := dk_42 (dk_at dksX13_wrongHere_0 15 rfl rfl)
theorem dX13_wrongHere_16 : decode cX13_wrongHere 16 = .ok (.getfield 238, 3) := dk_180 0 238 (dk_at dksX13_wrongHere_0 16 rfl rfl)
theorem dX13_wrongHere_19 : decode cX13_wrongHere 19 = .ok (.putfield 238, 3) := dk_181 0 238 (dk_at dksX13_wrongHere_0 19 rfl rfl)
theorem dX13_wrongHere_22 : decode cX13_wrongHere 22 = .ok (.return_, 1) := dk_177 (dk_at dksX13_wrongHere_0 22 rfl rfl)
abbrev cX13_perhaps : ByteArray := prog_16_method_77_code
def yX13_perhaps : MethodName := ⟨RX13, "perhaps", "(JII)V"⟩
def dkwX13_perhaps_2 : List UInt8 := [177]
abbrev dktX13_perhaps_2 : List UInt8 := dkwX13_perhaps_2 ++ []
def dkwX13_perhaps_1 : List UInt8 := [184, 0, 144, 182, 1, 9, 54, 5, 42, 180, 0, 238, 156, 0, 12, 42, 29, 21, 4, 21, 5, 182, 0, 90]
abbrev dktX13_perhaps_1 : List UInt8 := dkwX13_perhaps_1 ++ dktX13_perhaps_2
def dkwX13_perhaps_0 : List UInt8 := [42, 180, 0, 238, 156, 0, 42, 42, 31, 182, 0, 243, 153, 0, 34, 42, 182, 1, 6, 42, 21, 4]
abbrev dktX13_perhaps_0 : List UInt8 := dkwX13_perhaps_0 ++ dktX13_perhaps_1
theorem dksX13_perhaps_0 : cX13_perhaps.data.toList.drop 0 = dktX13_perhaps_0 := by decide +kernel
theorem dksX13_perhaps_1 : cX13_perhaps.data.toList.drop 22 = dktX13_perhaps_1 := dk_seg dksX13_perhaps_0 22 rfl rfl
theorem dksX13_perhaps_2 : cX13_perhaps.data.toList.drop 46 = dktX13_perhaps_2 := dk_seg dksX13_perhaps_1 24 rfl rfl
theorem dX13_perhaps_0 : decode cX13_perhaps 0 = .ok (.aload_n 0, 1) := dk_42 (dk_at dksX13_perhaps_0 0 rfl rfl)
theorem dX13_perhaps_1 : decode cX13_perhaps 1 = .ok (.getfield 238, 3) := dk_180 0 238 (dk_at dksX13_perhaps_0 1 rfl rfl)
theorem dX13_perhaps_4 : decode cX13_perhaps 4 = .ok (.ifCond .ge 42, 3) := dk_156 0 42 (dk_at dksX13_perhaps_0 4 rfl rfl)
theorem dX13_perhaps_7 : decode cX13_perhaps 7 = .ok (.aload_n 0, 1) := dk_42 (dk_at dksX13_perhaps_0 7 rfl rfl)
theorem dX13_perhaps_8 : decode cX13_perhaps 8 = .ok (.lload_n 1, 1) := dk_31 (dk_at dksX13_perhaps_0 8 rfl rfl)
theorem dX13_perhaps_9 : decode cX13_perhaps 9 = .ok (.invokevirtual 243, 3) := dk_182 0 243 (dk_at dksX13_perhaps_0 9 rfl rfl)
theorem dX13_perhaps_12 : decode cX13_perhaps 12 = .ok (.ifCond .eq 34, 3) := dk_153 0 34 (dk_at dksX13_perhaps_0 12 rfl rfl)
theorem dX13_perhaps_15 : decode cX13_perhaps 15 = .ok (.aload_n 0, 1) := dk_42 (dk_at dksX13_perhaps_0 15 rfl rfl)
theorem dX13_perhaps_16 : decode cX13_perhaps 16 = .ok (.invokevirtual 262, 3) := dk_182 1 6 (dk_at dksX13_perhaps_0 16 rfl rfl)
theorem dX13_perhaps_19 : decode cX13_perhaps 19 = .ok (.aload_n 0, 1) := dk_42 (dk_at dksX13_perhaps_0 19 rfl rfl)
theorem dX13_perhaps_20 : decode cX13_perhaps 20 = .ok (.iload 4, 2) := dk_21 4 (dk_at dksX13_perhaps_0 20 rfl rfl)
theorem dX13_perhaps_22 : decode cX13_perhaps 22 = .ok (.invokestatic 144, 3) := dk_184 0 144 (dk_at dksX13_perhaps_1 0 rfl rfl)
theorem dX13_perhaps_25 : decode cX13_perhaps 25 = .ok (.invokevirtual 265, 3) := dk_182 1 9 (dk_at dksX13_perhaps_1 3 rfl rfl)
theorem dX13_perhaps_28 : decode cX13_perhaps 28 = .ok (.istore 5, 2) := dk_54 5 (dk_at dksX13_perhaps_1 6 rfl rfl)
theorem dX13_perhaps_30 : decode cX13_perhaps 30 = .ok (.aload_n 0, 1) := dk_42 (dk_at dksX13_perhaps_1 8 rfl rfl)
theorem dX13_perhaps_31 : decode cX13_perhaps 31 = .ok (.getfield 238, 3) := dk_180 0 238 (dk_at dksX13_perhaps_1 9 rfl rfl)
theorem dX13_perhaps_34 : decode cX13_perhaps 34 = .ok (.ifCond .ge 12, 3) := dk_156 0 12 (dk_at dksX13_perhaps_1 12 rfl rfl)
theorem dX13_perhaps_37 : decode cX13_perhaps 37 = .ok (.aload_n 0, 1) := dk_42 (dk_at dksX13_perhaps_1 15 rfl rfl)
theorem dX13_perhaps_38 : decode cX13_perhaps 38 = .ok (.iload_n 3, 1) := dk_29 (dk_at dksX13_perhaps_1 16 rfl rfl)
theorem dX13_perhaps_39 : decode cX13_perhaps 39 = .ok (.iload 4, 2) := dk_21 4 (dk_at dksX13_perhaps_1 17 rfl rfl)
theorem dX13_perhaps_41 : decode cX13_perhaps 41 = .ok (.iload 5, 2) := dk_21 5 (dk_at dksX13_perhaps_1 19 rfl rfl)
theorem dX13_perhaps_43 : decode cX13_perhaps 43 = .ok (.invokevirtual 90, 3) := dk_182 0 90 (dk_at dksX13_perhaps_1 21 rfl rfl)
theorem dX13_perhaps_46 : decode cX13_perhaps 46 = .ok (.return_, 1) := dk_177 (dk_at dksX13_perhaps_2 0 rfl rfl)
abbrev cX13_numberHere : ByteArray := prog_16_method_76_code
def yX13_numberHere : MethodName := ⟨RX13, "numberHere", "(I)I"⟩
def dkwX13_numberHere_1 : List UInt8 := [42, 182, 1, 3, 3, 172, 42, 182, 1, 6, 28, 172]
abbrev dktX13_numberHere_1 : List UInt8 := dkwX13_numberHere_1 ++ []
def dkwX13_numberHere_0 : List UInt8 := [42, 180, 0, 217, 136, 61, 42, 180, 0, 221, 5, 160, 0, 13, 42, 180, 0, 217, 27, 133, 148, 158, 0, 9]
abbrev dktX13_numberHere_0 : List UInt8 := dkwX13_numberHere_0 ++ dktX13_numberHere_1
theorem dksX13_numberHere_0 : cX13_numberHere.data.toList.drop 0 = dktX13_numberHere_0 := by decide +kernel
theorem dksX13_numberHere_1 : cX13_numberHere.data.toList.drop 24 = dktX13_numberHere_1 := dk_seg dksX13_numberHere_0 24 rfl rfl
theorem dX13_numberHere_0 : decode cX13_numberHere 0 = .ok (.aload_n 0, 1) := dk_42 (dk_at dksX13_numberHere_0 0 rfl rfl)
theorem dX13_numberHere_1 : decode cX13_numberHere 1 = .ok (.getfield 217, 3) := dk_180 0 217 (dk_at dksX13_numberHere_0 1 rfl rfl)
theorem dX13_numberHere_4 : decode cX13_numberHere 4 = .ok (.l2i, 1) := dk_136 (dk_at dksX13_numberHere_0 4 rfl rfl)
theorem dX13_numberHere_5 : decode cX13_numberHere 5 = .ok (.istore_n 2, 1) := dk_61 (dk_at dksX13_numberHere_0 5 rfl rfl)
theorem dX13_numberHere_6 : decode cX13_numberHere 6 = .ok (.aload_n 0, 1) := dk_42 (dk_at dksX13_numberHere_0 6 rfl rfl)
theorem dX13_numberHere_7 : decode cX13_numberHere 7 = .ok (.getfield 221, 3) := dk_180 0 221 (dk_at dksX13_numberHere_0 7 rfl rfl)
theorem dX13_numberHere_10 : decode cX13_numberHere 10 = .ok (.iconst 2, 1) := dk_5 (dk_at dksX13_numberHere_0 10 rfl rfl)
theorem dX13_numberHere_11 : decode cX13_numberHere 11 = .ok (.if_icmp .ne 13, 3) := dk_160 0 13 (dk_at dksX13_numberHere_0 11 rfl rfl)
theorem dX13_numberHere_14 : decode cX13_numberHere 14 = .ok (.aload_n 0, 1) := dk_42 (dk_at dksX13_numberHere_0 14 rfl rfl)
theorem dX13_numberHere_15 : decode cX13_numberHere 15 = .ok (.getfield 217, 3) := dk_180 0 217 (dk_at dksX13_numberHere_0 15 rfl rfl)
theorem dX13_numberHere_18 : decode cX13_numberHere 18 = .ok (.iload_n 1, 1) := dk_27 (dk_at dksX13_numberHere_0 18 rfl rfl)
theorem dX13_numberHere_19 : decode cX13_numberHere 19 = .ok (.i2l, 1) := dk_133 (dk_at dksX13_numberHere_0 19 rfl rfl)
theorem dX13_numberHere_20 : decode cX13_numberHere 20 = .ok (.lcmp, 1) := dk_148 (dk_at dksX13_numberHere_0 20 rfl rfl)
theorem dX13_numberHere_21 : decode cX13_numberHere 21 = .ok (.ifCond .le 9, 3) := dk_158 0 9 (dk_at dksX13_numberHere_0 21 rfl rfl)
theorem dX13_numberHere_24 : decode cX13_numberHere 24 = .ok (.aload_n 0, 1) := dk_42 (dk_at dksX13_numberHere_1 0 rfl rfl)
theorem dX13_numberHere_25 : decode cX13_numberHere 25 = .ok (.invokevirtual 259, 3) := dk_182 1 3 (dk_at dksX13_numberHere_1 1 rfl rfl)
theorem dX13_numberHere_28 : decode cX13_numberHere 28 = .ok (.iconst 0, 1) := dk_3 (dk_at dksX13_numberHere_1 4 rfl rfl)
theorem dX13_numberHere_29 : decode cX13_numberHere 29 = .ok (.ireturn, 1) := dk_172 (dk_at dksX13_numberHere_1 5 rfl rfl)
theorem dX13_numberHere_30 : decode cX13_numberHere 30 = .ok (.aload_n 0, 1) := dk_42 (dk_at dksX13_numberHere_1 6 rfl rfl)
theorem dX13_numberHere_31 : decode cX13_numberHere 31 = .ok (.invokevirtual 262, 3) := dk_182 1 6 (dk_at dksX13_numberHere_1 7 rfl rfl)
theorem dX13_numberHere_34 : decode cX13_numberHere 34 = .ok (.iload_n 2, 1) := dk_28 (dk_at dksX13_numberHere_1 10 rfl rfl)
theorem dX13_numberHere_35 : decode cX13_numberHere 35 = .ok (.ireturn, 1) := dk_172 (dk_at dksX13_numberHere_1 11 rfl rfl)
abbrev cX13_saidHere : ByteArray := prog_16_method_79_code
def yX13_saidHere : MethodName := ⟨RX13, "saidHere", "()V"⟩
def dkwX13_saidHere_4 : List UInt8 := [177]
abbrev dktX13_saidHere_4 : List UInt8 := dkwX13_saidHere_4 ++ []
def dkwX13_saidHere_3 : List UInt8 := [156, 0, 24, 42, 180, 0, 7, 6, 27, 96, 17, 3, 232, 28, 104, 16, 10, 29, 104, 96, 21, 4, 96, 79]
abbrev dktX13_saidHere_3 : List UInt8 := dkwX13_saidHere_3 ++ dktX13_saidHere_4
def dkwX13_saidHere_2 : List UInt8 := [180, 0, 238, 156, 0, 12, 42, 16, 9, 182, 1, 9, 167, 0, 4, 3, 54, 4, 42, 180, 0, 238]
abbrev dktX13_saidHere_2 : List UInt8 := dkwX13_saidHere_2 ++ dktX13_saidHere_3
def dkwX13_saidHere_1 : List UInt8 := [167, 0, 4, 3, 61, 42, 180, 0, 238, 156, 0, 12, 42, 16, 15, 182, 1, 9, 167, 0, 4, 3, 62, 42]
abbrev dktX13_saidHere_1 : List UInt8 := dkwX13_saidHere_1 ++ dktX13_saidHere_2
def dkwX13_saidHere_0 : List UInt8 := [42, 182, 1, 6, 42, 8, 182, 1, 9, 60, 42, 180, 0, 238, 156, 0, 11, 42, 8, 182, 1, 9]
abbrev dktX13_saidHere_0 : List UInt8 := dkwX13_saidHere_0 ++ dktX13_saidHere_1
theorem dksX13_saidHere_0 : cX13_saidHere.data.toList.drop 0 = dktX13_saidHere_0 := by decide +kernel
theorem dksX13_saidHere_1 : cX13_saidHere.data.toList.drop 22 = dktX13_saidHere_1 := dk_seg dksX13_saidHere_0 22 rfl rfl
theorem dksX13_saidHere_2 : cX13_saidHere.data.toList.drop 46 = dktX13_saidHere_2 := dk_seg dksX13_saidHere_1 24 rfl rfl
theorem dksX13_saidHere_3 : cX13_saidHere.data.toList.drop 68 = dktX13_saidHere_3 := dk_seg dksX13_saidHere_2 22 rfl rfl
theorem dksX13_saidHere_4 : cX13_saidHere.data.toList.drop 92 = dktX13_saidHere_4 := dk_seg dksX13_saidHere_3 24 rfl rfl
theorem dX13_saidHere_0 : decode cX13_saidHere 0 = .ok (.aload_n 0, 1) := dk_42 (dk_at dksX13_saidHere_0 0 rfl rfl)
theorem dX13_saidHere_1 : decode cX13_saidHere 1 = .ok (.invokevirtual 262, 3) := dk_182 1 6 (dk_at dksX13_saidHere_0 1 rfl rfl)
theorem dX13_saidHere_4 : decode cX13_saidHere 4 = .ok (.aload_n 0, 1) := dk_42 (dk_at dksX13_saidHere_0 4 rfl rfl)
theorem dX13_saidHere_5 : decode cX13_saidHere 5 = .ok (.iconst 5, 1) := dk_8 (dk_at dksX13_saidHere_0 5 rfl rfl)
theorem dX13_saidHere_6 : decode cX13_saidHere 6 = .ok (.invokevirtual 265, 3) := dk_182 1 9 (dk_at dksX13_saidHere_0 6 rfl rfl)
theorem dX13_saidHere_9 : decode cX13_saidHere 9 = .ok (.istore_n 1, 1) := dk_60 (dk_at dksX13_saidHere_0 9 rfl rfl)
theorem dX13_saidHere_10 : decode cX13_saidHere 10 = .ok (.aload_n 0, 1) := dk_42 (dk_at dksX13_saidHere_0 10 rfl rfl)
theorem dX13_saidHere_11 : decode cX13_saidHere 11 = .ok (.getfield 238, 3) := dk_180 0 238 (dk_at dksX13_saidHere_0 11 rfl rfl)
theorem dX13_saidHere_14 : decode cX13_saidHere 14 = .ok (.ifCond .ge 11, 3) := dk_156 0 11 (dk_at dksX13_saidHere_0 14 rfl rfl)
theorem dX13_saidHere_17 : decode cX13_saidHere 17 = .ok (.aload_n 0, 1) := dk_42 (dk_at dksX13_saidHere_0 17 rfl rfl)
theorem dX13_saidHere_18 : decode cX13_saidHere 18 = .ok (.iconst 5, 1) := dk_8 (dk_at dksX13_saidHere_0 18 rfl rfl)
theorem dX13_saidHere_19 : decode cX13_saidHere 19 = .ok (.invokevirtual 265, 3) := dk_182 1 9 (dk_at dksX13_saidHere_0 19 rfl rfl)
theorem dX13_saidHere_22 : decode cX13_saidHere 22 = .ok (.goto 4, 3) := dk_167 0 4 (dk_at dksX13_saidHere_1 0 rfl rfl)
theorem dX13_saidHere_25 : decode cX13_saidHere 25 = .ok (.iconst 0, 1) := dk_3 (dk_at dksX13_saidHere_1 3 rfl rfl)
theorem dX13_saidHere_26 : decode cX13_saidHere 26 = .ok (.istore_n 2, 1) := dk_61 (dk_at dksX13_saidHere_1 4 rfl rfl)
theorem dX13_saidHere_27 : decode cX13_saidHere 27 = .ok (.aload_n 0, 1) := dk_42 (dk_at dksX13_saidHere_1 5 rfl rfl)
theorem dX13_saidHere_28 : decode cX13_saidHere 28 = .ok (.getfield 238, 3) := dk_180 0 238 (dk_at dksX13_saidHere_1 6 rfl rfl)
theorem dX13_saidHere_31 : decode cX13_saidHere 31 = .ok (.ifCond .ge 12, 3) := dk_156 0 12 (dk_at dksX13_saidHere_1 9 rfl rfl)
theorem dX13_saidHere_34 : decode cX13_saidHere 34 = .ok (.aload_n 0, 1) := dk_42 (dk_at dksX13_saidHere_1 12 rfl rfl)
theorem dX13_saidHere_35 : decode cX13_saidHere 35 = .ok (.bipush 15, 2) := dk_16 15 (dk_at dksX13_saidHere_1 13 rfl rfl)
theorem dX13_saidHere_37 : decode cX13_saidHere 37 = .ok (.invokevirtual 265, 3) := dk_182 1 9 (dk_at dksX13_saidHere_1 15 rfl rfl)
theorem dX13_saidHere_40 : decode cX13_saidHere 40 = .ok (.goto 4, 3) := dk_167 0 4 (dk_at dksX13_saidHere_1 18 rfl rfl)
theorem dX13_saidHere_43 : decode cX13_saidHere 43 = .ok (.iconst 0, 1) := dk_3 (dk_at dksX13_saidHere_1 21 rfl rfl)
theorem dX13_saidHere_44 : decode cX13_saidHere 44 = .ok (.istore_n 3, 1) := dk_62 (dk_at dksX13_saidHere_1 22 rfl rfl)
theorem dX13_saidHere_45 : decode cX13_saidHere 45 = .ok (.aload_n 0, 1) := dk_42 (dk_at dksX13_saidHere_1 23 rfl rfl)
theorem dX13_saidHere_46 : decode cX13_saidHere 46 = .ok (.getfield 238, 3) := dk_180 0 238 (dk_at dksX13_saidHere_2 0 rfl rfl)
theorem dX13_saidHere_49 : decode cX13_saidHere 49 = .ok (.ifCond .ge 12, 3) := dk_156 0 12 (dk_at dksX13_saidHere_2 3 rfl rfl)
theorem dX13_saidHere_52 : decode cX13_saidHere 52 = .ok (.aload_n 0, 1) := dk_42 (dk_at dksX13_saidHere_2 6 rfl rfl)
theorem dX13_saidHere_53 : decode cX13_saidHere 53 = .ok (.bipush 9, 2) := dk_16 9 (dk_at dksX13_saidHere_2 7 rfl rfl)
theorem dX13_saidHere_55 : decode cX13_saidHere 55 = .ok (.invokevirtual 265, 3) := dk_182 1 9 (dk_at dksX13_saidHere_2 9 rfl rfl)
theorem dX13_saidHere_58 : decode cX13_saidHere 58 = .ok (.goto 4, 3) := dk_167 0 4 (dk_at dksX13_saidHere_2 12 rfl rfl)
theorem dX13_saidHere_61 : decode cX13_saidHere 61 = .ok (.iconst 0, 1) := dk_3 (dk_at dksX13_saidHere_2 15 rfl rfl)
theorem dX13_saidHere_62 : decode cX13_saidHere 62 = .ok (.istore 4, 2) := dk_54 4 (dk_at dksX13_saidHere_2 16 rfl rfl)
theorem dX13_saidHere_64 : decode cX13_saidHere 64 = .ok (.aload_n 0, 1) := dk_42 (dk_at dksX13_saidHere_2 18 rfl rfl)
theorem dX13_saidHere_65 : decode cX13_saidHere 65 = .ok (.getfield 238, 3) := dk_180 0 238 (dk_at dksX13_saidHere_2 19 rfl rfl)
theorem dX13_saidHere_68 : decode cX13_saidHere 68 = .ok (.ifCond .ge 24, 3) := dk_156 0 24 (dk_at dksX13_saidHere_3 0 rfl rfl)
theorem dX13_saidHere_71 : decode cX13_saidHere 71 = .ok (.aload_n 0, 1) := dk_42 (dk_at dksX13_saidHere_3 3 rfl rfl)
theorem dX13_saidHere_72 : decode cX13_saidHere 72 = .ok (.getfield 7, 3) := dk_180 0 7 (dk_at dksX13_saidHere_3 4 rfl rfl)
theorem dX13_saidHere_75 : decode cX13_saidHere 75 = .ok (.iconst 3, 1) := dk_6 (dk_at dksX13_saidHere_3 7 rfl rfl)
theorem dX13_saidHere_76 : decode cX13_saidHere 76 = .ok (.iload_n 1, 1) := dk_27 (dk_at dksX13_saidHere_3 8 rfl rfl)
theorem dX13_saidHere_77 : decode cX13_saidHere 77 = .ok (.iadd, 1) := dk_96 (dk_at dksX13_saidHere_3 9 rfl rfl)
theorem dX13_saidHere_78 : decode cX13_saidHere 78 = .ok (.sipush 1000, 3) := dk_17 3 232 (dk_at dksX13_saidHere_3 10 rfl rfl)
theorem dX13_saidHere_81 : decode cX13_saidHere 81 = .ok (.iload_n 2, 1) := dk_28 (dk_at dksX13_saidHere_3 13 rfl rfl)
theorem dX13_saidHere_82 : decode cX13_saidHere 82 = .ok (.imul, 1) := dk_104 (dk_at dksX13_saidHere_3 14 rfl rfl)
theorem dX13_saidHere_83 : decode cX13_saidHere 83 = .ok (.bipush 10, 2) := dk_16 10 (dk_at dksX13_saidHere_3 15 rfl rfl)
theorem dX13_saidHere_85 : decode cX13_saidHere 85 = .ok (.iload_n 3, 1) := dk_29 (dk_at dksX13_saidHere_3 17 rfl rfl)
theorem dX13_saidHere_86 : decode cX13_saidHere 86 = .ok (.imul, 1) := dk_104 (dk_at dksX13_saidHere_3 18 rfl rfl)
theorem dX13_saidHere_87 : decode cX13_saidHere 87 = .ok (.iadd, 1) := dk_96 (dk_at dksX13_saidHere_3 19 rfl rfl)
theorem dX13_saidHere_88 : decode cX13_saidHere 88 = .ok (.iload 4, 2) := dk_21 4 (dk_at dksX13_saidHere_3 20 rfl rfl)
theorem dX13_saidHere_90 : decode cX13_saidHere 90 = .ok (.iadd, 1) := dk_96 (dk_at dksX13_saidHere_3 22 rfl rfl)
theorem dX13_saidHere_91 : decode cX13_saidHere 91 = .ok (.iastore, 1) := dk_79 (dk_at dksX13_saidHere_3 23 rfl rfl)
theorem dX13_saidHere_92 : decode cX13_saidHere 92 = .ok (.return_, 1) := dk_177 (dk_at dksX13_saidHere_4 0 rfl rfl)
abbrev cX13_handHere : ByteArray := prog_16_method_80_code
def yX13_handHere : MethodName := ⟨RX13, "handHere", "()V"⟩
def dkwX13_handHere_2 : List UInt8 := [182, 0, 90, 177]
abbrev dktX13_handHere_2 : List UInt8 := dkwX13_handHere_2 ++ []
def dkwX13_handHere_1 : List UInt8 := [42, 18, 143, 182, 1, 9, 167, 0, 4, 3, 61, 42, 180, 0, 238, 156, 0, 10, 42, 27, 8, 28]
abbrev dktX13_handHere_1 : List UInt8 := dkwX13_handHere_1 ++ dktX13_handHere_2
def dkwX13_handHere_0 : List UInt8 := [42, 182, 1, 6, 42, 42, 180, 0, 7, 3, 46, 4, 100, 182, 1, 9, 60, 42, 180, 0, 238, 156, 0, 12]
abbrev dktX13_handHere_0 : List UInt8 := dkwX13_handHere_0 ++ dktX13_handHere_1
theorem dksX13_handHere_0 : cX13_handHere.data.toList.drop 0 = dktX13_handHere_0 := by decide +kernel
theorem dksX13_handHere_1 : cX13_handHere.data.toList.drop 24 = dktX13_handHere_1 := dk_seg dksX13_handHere_0 24 rfl rfl
theorem dksX13_handHere_2 : cX13_handHere.data.toList.drop 46 = dktX13_handHere_2 := dk_seg dksX13_handHere_1 22 rfl rfl
theorem dX13_handHere_0 : decode cX13_handHere 0 = .ok (.aload_n 0, 1) := dk_42 (dk_at dksX13_handHere_0 0 rfl rfl)
theorem dX13_handHere_1 : decode cX13_handHere 1 = .ok (.invokevirtual 262, 3) := dk_182 1 6 (dk_at dksX13_handHere_0 1 rfl rfl)
theorem dX13_handHere_4 : decode cX13_handHere 4 = .ok (.aload_n 0, 1) := dk_42 (dk_at dksX13_handHere_0 4 rfl rfl)
theorem dX13_handHere_5 : decode cX13_handHere 5 = .ok (.aload_n 0, 1) := dk_42 (dk_at dksX13_handHere_0 5 rfl rfl)
theorem dX13_handHere_6 : decode cX13_handHere 6 = .ok (.getfield 7, 3) := dk_180 0 7 (dk_at dksX13_handHere_0 6 rfl rfl)
theorem dX13_handHere_9 : decode cX13_handHere 9 = .ok (.iconst 0, 1) := dk_3 (dk_at dksX13_handHere_0 9 rfl rfl)
theorem dX13_handHere_10 : decode cX13_handHere 10 = .ok (.iaload, 1) := dk_46 (dk_at dksX13_handHere_0 10 rfl rfl)
theorem dX13_handHere_11 : decode cX13_handHere 11 = .ok (.iconst 1, 1) := dk_4 (dk_at dksX13_handHere_0 11 rfl rfl)
theorem dX13_handHere_12 : decode cX13_handHere 12 = .ok (.isub, 1) := dk_100 (dk_at dksX13_handHere_0 12 rfl rfl)
theorem dX13_handHere_13 : decode cX13_handHere 13 = .ok (.invokevirtual 265, 3) := dk_182 1 9 (dk_at dksX13_handHere_0 13 rfl rfl)
theorem dX13_handHere_16 : decode cX13_handHere 16 = .ok (.istore_n 1, 1) := dk_60 (dk_at dksX13_handHere_0 16 rfl rfl)
theorem dX13_handHere_17 : decode cX13_handHere 17 = .ok (.aload_n 0, 1) := dk_42 (dk_at dksX13_handHere_0 17 rfl rfl)
theorem dX13_handHere_18 : decode cX13_handHere 18 = .ok (.getfield 238, 3) := dk_180 0 238 (dk_at dksX13_handHere_0 18 rfl rfl)
theorem dX13_handHere_21 : decode cX13_handHere 21 = .ok (.ifCond .ge 12, 3) := dk_156 0 12 (dk_at dksX13_handHere_0 21 rfl rfl)
theorem dX13_handHere_24 : decode cX13_handHere 24 = .ok (.aload_n 0, 1) := dk_42 (dk_at dksX13_handHere_1 0 rfl rfl)
theorem dX13_handHere_25 : decode cX13_handHere 25 = .ok (.ldc 143, 2) := dk_18 143 (dk_at dksX13_handHere_1 1 rfl rfl)
theorem dX13_handHere_27 : decode cX13_handHere 27 = .ok (.invokevirtual 265, 3) := dk_182 1 9 (dk_at dksX13_handHere_1 3 rfl rfl)
theorem dX13_handHere_30 : decode cX13_handHere 30 = .ok (.goto 4, 3) := dk_167 0 4 (dk_at dksX13_handHere_1 6 rfl rfl)
theorem dX13_handHere_33 : decode cX13_handHere 33 = .ok (.iconst 0, 1) := dk_3 (dk_at dksX13_handHere_1 9 rfl rfl)
theorem dX13_handHere_34 : decode cX13_handHere 34 = .ok (.istore_n 2, 1) := dk_61 (dk_at dksX13_handHere_1 10 rfl rfl)
theorem dX13_handHere_35 : decode cX13_handHere 35 = .ok (.aload_n 0, 1) := dk_42 (dk_at dksX13_handHere_1 11 rfl rfl)
theorem dX13_handHere_36 : decode cX13_handHere 36 = .ok (.getfield 238, 3) := dk_180 0 238 (dk_at dksX13_handHere_1 12 rfl rfl)
theorem dX13_handHere_39 : decode cX13_handHere 39 = .ok (.ifCond .ge 10, 3) := dk_156 0 10 (dk_at dksX13_handHere_1 15 rfl rfl)
theorem dX13_handHere_42 : decode cX13_handHere 42 = .ok (.aload_n 0, 1) := dk_42 (dk_at dksX13_handHere_1 18 rfl rfl)
theorem dX13_handHere_43 : decode cX13_handHere 43 = .ok (.iload_n 1, 1) := dk_27 (dk_at dksX13_handHere_1 19 rfl rfl)
theorem dX13_handHere_44 : decode cX13_handHere 44 = .ok (.iconst 5, 1) := dk_8 (dk_at dksX13_handHere_1 20 rfl rfl)
theorem dX13_handHere_45 : decode cX13_handHere 45 = .ok (.iload_n 2, 1) := dk_28 (dk_at dksX13_handHere_1 21 rfl rfl)
theorem dX13_handHere_46 : decode cX13_handHere 46 = .ok (.invokevirtual 90, 3) := dk_182 0 90 (dk_at dksX13_handHere_2 0 rfl rfl)
theorem dX13_handHere_49 : decode cX13_handHere 49 = .ok (.return_, 1) := dk_177 (dk_at dksX13_handHere_2 3 rfl rfl)
abbrev cX13_hold : ByteArray := prog_16_method_84_code
def yX13_hold : MethodName := ⟨RX13, "hold", "(II)I"⟩
def dkwX13_hold_2 : List UInt8 := [96, 79, 4, 172]
abbrev dktX13_hold_2 : List UInt8 := dkwX13_hold_2 ++ []
def dkwX13_hold_1 : List UInt8 := [100, 133, 184, 0, 42, 154, 0, 9, 42, 3, 182, 0, 128, 172, 42, 180, 0, 7, 16, 65, 27, 96, 28, 4]
abbrev dktX13_hold_1 : List UInt8 := dkwX13_hold_1 ++ dktX13_hold_2
def dkwX13_hold_0 : List UInt8 := [27, 133, 9, 20, 1, 46, 184, 0, 42, 153, 0, 23, 28, 133, 20, 1, 48, 42, 180, 0, 7, 3, 46, 4]
abbrev dktX13_hold_0 : List UInt8 := dkwX13_hold_0 ++ dktX13_hold_1
theorem dksX13_hold_0 : cX13_hold.data.toList.drop 0 = dktX13_hold_0 := by decide +kernel
theorem dksX13_hold_1 : cX13_hold.data.toList.drop 24 = dktX13_hold_1 := dk_seg dksX13_hold_0 24 rfl rfl
theorem dksX13_hold_2 : cX13_hold.data.toList.drop 48 = dktX13_hold_2 := dk_seg dksX13_hold_1 24 rfl rfl
theorem dX13_hold_0 : decode cX13_hold 0 = .ok (.iload_n 1, 1) := dk_27 (dk_at dksX13_hold_0 0 rfl rfl)
theorem dX13_hold_1 : decode cX13_hold 1 = .ok (.i2l, 1) := dk_133 (dk_at dksX13_hold_0 1 rfl rfl)
theorem dX13_hold_2 : decode cX13_hold 2 = .ok (.lconst 0, 1) := dk_9 (dk_at dksX13_hold_0 2 rfl rfl)
theorem dX13_hold_3 : decode cX13_hold 3 = .ok (.ldc2_w 302, 3) := dk_20 1 46 (dk_at dksX13_hold_0 3 rfl rfl)
theorem dX13_hold_6 : decode cX13_hold 6 = .ok (.invokestatic 42, 3) := dk_184 0 42 (dk_at dksX13_hold_0 6 rfl rfl)
theorem dX13_hold_9 : decode cX13_hold 9 = .ok (.ifCond .eq 23, 3) := dk_153 0 23 (dk_at dksX13_hold_0 9 rfl rfl)
theorem dX13_hold_12 : decode cX13_hold 12 = .ok (.iload_n 2, 1) := dk_28 (dk_at dksX13_hold_0 12 rfl rfl)
theorem dX13_hold_13 : decode cX13_hold 13 = .ok (.i2l, 1) := dk_133 (dk_at dksX13_hold_0 13 rfl rfl)
theorem dX13_hold_14 : decode cX13_hold 14 = .ok (.ldc2_w 304, 3) := dk_20 1 48 (dk_at dksX13_hold_0 14 rfl rfl)
theorem dX13_hold_17 : decode cX13_hold 17 = .ok (.aload_n 0, 1) := dk_42 (dk_at dksX13_hold_0 17 rfl rfl)
theorem dX13_hold_18 : decode cX13_hold 18 = .ok (.getfield 7, 3) := dk_180 0 7 (dk_at dksX13_hold_0 18 rfl rfl)
theorem dX13_hold_21 : decode cX13_hold 21 = .ok (.iconst 0, 1) := dk_3 (dk_at dksX13_hold_0 21 rfl rfl)
theorem dX13_hold_22 : decode cX13_hold 22 = .ok (.iaload, 1) := dk_46 (dk_at dksX13_hold_0 22 rfl rfl)
theorem dX13_hold_23 : decode cX13_hold 23 = .ok (.iconst 1, 1) := dk_4 (dk_at dksX13_hold_0 23 rfl rfl)
theorem dX13_hold_24 : decode cX13_hold 24 = .ok (.isub, 1) := dk_100 (dk_at dksX13_hold_1 0 rfl rfl)
theorem dX13_hold_25 : decode cX13_hold 25 = .ok (.i2l, 1) := dk_133 (dk_at dksX13_hold_1 1 rfl rfl)
theorem dX13_hold_26 : decode cX13_hold 26 = .ok (.invokestatic 42, 3) := dk_184 0 42 (dk_at dksX13_hold_1 2 rfl rfl)
theorem dX13_hold_29 : decode cX13_hold 29 = .ok (.ifCond .ne 9, 3) := dk_154 0 9 (dk_at dksX13_hold_1 5 rfl rfl)
theorem dX13_hold_32 : decode cX13_hold 32 = .ok (.aload_n 0, 1) := dk_42 (dk_at dksX13_hold_1 8 rfl rfl)
theorem dX13_hold_33 : decode cX13_hold 33 = .ok (.iconst 0, 1) := dk_3 (dk_at dksX13_hold_1 9 rfl rfl)
theorem dX13_hold_34 : decode cX13_hold 34 = .ok (.invokevirtual 128, 3) := dk_182 0 128 (dk_at dksX13_hold_1 10 rfl rfl)
theorem dX13_hold_37 : decode cX13_hold 37 = .ok (.ireturn, 1) := dk_172 (dk_at dksX13_hold_1 13 rfl rfl)
theorem dX13_hold_38 : decode cX13_hold 38 = .ok (.aload_n 0, 1) := dk_42 (dk_at dksX13_hold_1 14 rfl rfl)
theorem dX13_hold_39 : decode cX13_hold 39 = .ok (.getfield 7, 3) := dk_180 0 7 (dk_at dksX13_hold_1 15 rfl rfl)
theorem dX13_hold_42 : decode cX13_hold 42 = .ok (.bipush 65, 2) := dk_16 65 (dk_at dksX13_hold_1 18 rfl rfl)
theorem dX13_hold_44 : decode cX13_hold 44 = .ok (.iload_n 1, 1) := dk_27 (dk_at dksX13_hold_1 20 rfl rfl)
theorem dX13_hold_45 : decode cX13_hold 45 = .ok (.iadd, 1) := dk_96 (dk_at dksX13_hold_1 21 rfl rfl)
theorem dX13_hold_46 : decode cX13_hold 46 = .ok (.iload_n 2, 1) := dk_28 (dk_at dksX13_hold_1 22 rfl rfl)
theorem dX13_hold_47 : decode cX13_hold 47 = .ok (.iconst 1, 1) := dk_4 (dk_at dksX13_hold_1 23 rfl rfl)
theorem dX13_hold_48 : decode cX13_hold 48 = .ok (.iadd, 1) := dk_96 (dk_at dksX13_hold_2 0 rfl rfl)
theorem dX13_hold_49 : decode cX13_hold 49 = .ok (.iastore, 1) := dk_79 (dk_at dksX13_hold_2 1 rfl rfl)
theorem dX13_hold_50 : decode cX13_hold 50 = .ok (.iconst 1, 1) := dk_4 (dk_at dksX13_hold_2 2 rfl rfl)
theorem dX13_hold_51 : decode cX13_hold 51 = .ok (.ireturn, 1) := dk_172 (dk_at dksX13_hold_2 3 rfl rfl)
abbrev cX13_as : ByteArray := prog_16_method_86_code
def yX13_as : MethodName := ⟨RX13, "as", "(II)I"⟩
def dkwX13_as_4 : List UInt8 := [160, 0, 7, 29, 167, 0, 8, 42, 5, 182, 0, 128, 172]
abbrev dktX13_as_4 : List UInt8 := dkwX13_as_4 ++ []
def dkwX13_as_3 : List UInt8 := [28, 21, 4, 159, 0, 24, 28, 21, 4, 184, 1, 50, 159, 0, 15, 28, 21, 4, 184, 1, 50, 184, 1, 50]
abbrev dktX13_as_3 : List UInt8 := dkwX13_as_3 ++ dktX13_as_4
def dkwX13_as_2 : List UInt8 := [42, 180, 0, 7, 16, 65, 27, 96, 46, 4, 100, 62, 42, 29, 3, 182, 0, 58, 54, 4, 28, 153, 0, 30]
abbrev dktX13_as_2 : List UInt8 := dkwX13_as_2 ++ dktX13_as_3
def dkwX13_as_1 : List UInt8 := [42, 3, 182, 0, 128, 172, 42, 180, 0, 7, 16, 65, 27, 96, 46, 154, 0, 9, 42, 8, 182, 0, 128, 172]
abbrev dktX13_as_1 : List UInt8 := dkwX13_as_1 ++ dktX13_as_2
def dkwX13_as_0 : List UInt8 := [27, 133, 9, 20, 1, 46, 184, 0, 42, 153, 0, 15, 28, 133, 9, 20, 0, 133, 184, 0, 42, 154, 0, 9]
abbrev dktX13_as_0 : List UInt8 := dkwX13_as_0 ++ dktX13_as_1
theorem dksX13_as_0 : cX13_as.data.toList.drop 0 = dktX13_as_0 := by decide +kernel
theorem dksX13_as_1 : cX13_as.data.toList.drop 24 = dktX13_as_1 := dk_seg dksX13_as_0 24 rfl rfl
theorem dksX13_as_2 : cX13_as.data.toList.drop 48 = dktX13_as_2 := dk_seg dksX13_as_1 24 rfl rfl
theorem dksX13_as_3 : cX13_as.data.toList.drop 72 = dktX13_as_3 := dk_seg dksX13_as_2 24 rfl rfl
theorem dksX13_as_4 : cX13_as.data.toList.drop 96 = dktX13_as_4 := dk_seg dksX13_as_3 24 rfl rfl
theorem dX13_as_0 : decode cX13_as 0 = .ok (.iload_n 1, 1) := dk_27 (dk_at dksX13_as_0 0 rfl rfl)
theorem dX13_as_1 : decode cX13_as 1 = .ok (.i2l, 1) := dk_133 (dk_at dksX13_as_0 1 rfl rfl)
theorem dX13_as_2 : decode cX13_as 2 = .ok (.lconst 0, 1) := dk_9 (dk_at dksX13_as_0 2 rfl rfl)
theorem dX13_as_3 : decode cX13_as 3 = .ok (.ldc2_w 302, 3) := dk_20 1 46 (dk_at dksX13_as_0 3 rfl rfl)
theorem dX13_as_6 : decode cX13_as 6 = .ok (.invokestatic 42, 3) := dk_184 0 42 (dk_at dksX13_as_0 6 rfl rfl)
theorem dX13_as_9 : decode cX13_as 9 = .ok (.ifCond .eq 15, 3) := dk_153 0 15 (dk_at dksX13_as_0 9 rfl rfl)
theorem dX13_as_12 : decode cX13_as 12 = .ok (.iload_n 2, 1) := dk_28 (dk_at dksX13_as_0 12 rfl rfl)
theorem dX13_as_13 : decode cX13_as 13 = .ok (.i2l, 1) := dk_133 (dk_at dksX13_as_0 13 rfl rfl)
theorem dX13_as_14 : decode cX13_as 14 = .ok (.lconst 0, 1) := dk_9 (dk_at dksX13_as_0 14 rfl rfl)
theorem dX13_as_15 : decode cX13_as 15 = .ok (.ldc2_w 133, 3) := dk_20 0 133 (dk_at dksX13_as_0 15 rfl rfl)
theorem dX13_as_18 : decode cX13_as 18 = .ok (.invokestatic 42, 3) := dk_184 0 42 (dk_at dksX13_as_0 18 rfl rfl)
theorem dX13_as_21 : decode cX13_as 21 = .ok (.ifCond .ne 9, 3) := dk_154 0 9 (dk_at dksX13_as_0 21 rfl rfl)
theorem dX13_as_24 : decode cX13_as 24 = .ok (.aload_n 0, 1) := dk_42 (dk_at dksX13_as_1 0 rfl rfl)
theorem dX13_as_25 : decode cX13_as 25 = .ok (.iconst 0, 1) := dk_3 (dk_at dksX13_as_1 1 rfl rfl)
theorem dX13_as_26 : decode cX13_as 26 = .ok (.invokevirtual 128, 3) := dk_182 0 128 (dk_at dksX13_as_1 2 rfl rfl)
theorem dX13_as_29 : decode cX13_as 29 = .ok (.ireturn, 1) := dk_172 (dk_at dksX13_as_1 5 rfl rfl)
theorem dX13_as_30 : decode cX13_as 30 = .ok (.aload_n 0, 1) := dk_42 (dk_at dksX13_as_1 6 rfl rfl)
theorem dX13_as_31 : decode cX13_as 31 = .ok (.getfield 7, 3) := dk_180 0 7 (dk_at dksX13_as_1 7 rfl rfl)
theorem dX13_as_34 : decode cX13_as 34 = .ok (.bipush 65, 2) := dk_16 65 (dk_at dksX13_as_1 10 rfl rfl)
theorem dX13_as_36 : decode cX13_as 36 = .ok (.iload_n 1, 1) := dk_27 (dk_at dksX13_as_1 12 rfl rfl)
theorem dX13_as_37 : decode cX13_as 37 = .ok (.iadd, 1) := dk_96 (dk_at dksX13_as_1 13 rfl rfl)
theorem dX13_as_38 : decode cX13_as 38 = .ok (.iaload, 1) := dk_46 (dk_at dksX13_as_1 14 rfl rfl)
theorem dX13_as_39 : decode cX13_as 39 = .ok (.ifCond .ne 9, 3) := dk_154 0 9 (dk_at dksX13_as_1 15 rfl rfl)
theorem dX13_as_42 : decode cX13_as 42 = .ok (.aload_n 0, 1) := dk_42 (dk_at dksX13_as_1 18 rfl rfl)
theorem dX13_as_43 : decode cX13_as 43 = .ok (.iconst 5, 1) := dk_8 (dk_at dksX13_as_1 19 rfl rfl)
theorem dX13_as_44 : decode cX13_as 44 = .ok (.invokevirtual 128, 3) := dk_182 0 128 (dk_at dksX13_as_1 20 rfl rfl)
theorem dX13_as_47 : decode cX13_as 47 = .ok (.ireturn, 1) := dk_172 (dk_at dksX13_as_1 23 rfl rfl)
theorem dX13_as_48 : decode cX13_as 48 = .ok (.aload_n 0, 1) := dk_42 (dk_at dksX13_as_2 0 rfl rfl)
theorem dX13_as_49 : decode cX13_as 49 = .ok (.getfield 7, 3) := dk_180 0 7 (dk_at dksX13_as_2 1 rfl rfl)
theorem dX13_as_52 : decode cX13_as 52 = .ok (.bipush 65, 2) := dk_16 65 (dk_at dksX13_as_2 4 rfl rfl)
theorem dX13_as_54 : decode cX13_as 54 = .ok (.iload_n 1, 1) := dk_27 (dk_at dksX13_as_2 6 rfl rfl)
theorem dX13_as_55 : decode cX13_as 55 = .ok (.iadd, 1) := dk_96 (dk_at dksX13_as_2 7 rfl rfl)
theorem dX13_as_56 : decode cX13_as 56 = .ok (.iaload, 1) := dk_46 (dk_at dksX13_as_2 8 rfl rfl)
theorem dX13_as_57 : decode cX13_as 57 = .ok (.iconst 1, 1) := dk_4 (dk_at dksX13_as_2 9 rfl rfl)
theorem dX13_as_58 : decode cX13_as 58 = .ok (.isub, 1) := dk_100 (dk_at dksX13_as_2 10 rfl rfl)
theorem dX13_as_59 : decode cX13_as 59 = .ok (.istore_n 3, 1) := dk_62 (dk_at dksX13_as_2 11 rfl rfl)
theorem dX13_as_60 : decode cX13_as 60 = .ok (.aload_n 0, 1) := dk_42 (dk_at dksX13_as_2 12 rfl rfl)
theorem dX13_as_61 : decode cX13_as 61 = .ok (.iload_n 3, 1) := dk_29 (dk_at dksX13_as_2 13 rfl rfl)
theorem dX13_as_62 : decode cX13_as 62 = .ok (.iconst 0, 1) := dk_3 (dk_at dksX13_as_2 14 rfl rfl)
theorem dX13_as_63 : decode cX13_as 63 = .ok (.invokevirtual 58, 3) := dk_182 0 58 (dk_at dksX13_as_2 15 rfl rfl)
theorem dX13_as_66 : decode cX13_as 66 = .ok (.istore 4, 2) := dk_54 4 (dk_at dksX13_as_2 18 rfl rfl)
theorem dX13_as_68 : decode cX13_as 68 = .ok (.iload_n 2, 1) := dk_28 (dk_at dksX13_as_2 20 rfl rfl)
theorem dX13_as_69 : decode cX13_as 69 = .ok (.ifCond .eq 30, 3) := dk_153 0 30 (dk_at dksX13_as_2 21 rfl rfl)
theorem dX13_as_72 : decode cX13_as 72 = .ok (.iload_n 2, 1) := dk_28 (dk_at dksX13_as_3 0 rfl rfl)
theorem dX13_as_73 : decode cX13_as 73 = .ok (.iload 4, 2) := dk_21 4 (dk_at dksX13_as_3 1 rfl rfl)
theorem dX13_as_75 : decode cX13_as 75 = .ok (.if_icmp .eq 24, 3) := dk_159 0 24 (dk_at dksX13_as_3 3 rfl rfl)
theorem dX13_as_78 : decode cX13_as 78 = .ok (.iload_n 2, 1) := dk_28 (dk_at dksX13_as_3 6 rfl rfl)
theorem dX13_as_79 : decode cX13_as 79 = .ok (.iload 4, 2) := dk_21 4 (dk_at dksX13_as_3 7 rfl rfl)
theorem dX13_as_81 : decode cX13_as 81 = .ok (.invokestatic 306, 3) := dk_184 1 50 (dk_at dksX13_as_3 9 rfl rfl)
theorem dX13_as_84 : decode cX13_as 84 = .ok (.if_icmp .eq 15, 3) := dk_159 0 15 (dk_at dksX13_as_3 12 rfl rfl)
theorem dX13_as_87 : decode cX13_as 87 = .ok (.iload_n 2, 1) := dk_28 (dk_at dksX13_as_3 15 rfl rfl)
theorem dX13_as_88 : decode cX13_as 88 = .ok (.iload 4, 2) := dk_21 4 (dk_at dksX13_as_3 16 rfl rfl)
theorem dX13_as_90 : decode cX13_as 90 = .ok (.invokestatic 306, 3) := dk_184 1 50 (dk_at dksX13_as_3 18 rfl rfl)
theorem dX13_as_93 : decode cX13_as 93 = .ok (.invokestatic 306, 3) := dk_184 1 50 (dk_at dksX13_as_3 21 rfl rfl)
theorem dX13_as_96 : decode cX13_as 96 = .ok (.if_icmp .ne 7, 3) := dk_160 0 7 (dk_at dksX13_as_4 0 rfl rfl)
theorem dX13_as_99 : decode cX13_as 99 = .ok (.iload_n 3, 1) := dk_29 (dk_at dksX13_as_4 3 rfl rfl)
theorem dX13_as_100 : decode cX13_as 100 = .ok (.goto 8, 3) := dk_167 0 8 (dk_at dksX13_as_4 4 rfl rfl)
theorem dX13_as_103 : decode cX13_as 103 = .ok (.aload_n 0, 1) := dk_42 (dk_at dksX13_as_4 7 rfl rfl)
theorem dX13_as_104 : decode cX13_as 104 = .ok (.iconst 2, 1) := dk_5 (dk_at dksX13_as_4 8 rfl rfl)
theorem dX13_as_105 : decode cX13_as 105 = .ok (.invokevirtual 128, 3) := dk_182 0 128 (dk_at dksX13_as_4 9 rfl rfl)
theorem dX13_as_108 : decode cX13_as 108 = .ok (.ireturn, 1) := dk_172 (dk_at dksX13_as_4 12 rfl rfl)
abbrev cX13_above : ByteArray := prog_16_method_85_code
def yX13_above : MethodName := ⟨RX13, "above", "(I)I"⟩
def dkwX13_above_1 : List UInt8 := [4, 167, 0, 4, 3, 172]
abbrev dktX13_above_1 : List UInt8 := dkwX13_above_1 ++ []
def dkwX13_above_0 : List UInt8 := [26, 6, 160, 0, 7, 5, 167, 0, 23, 26, 7, 160, 0, 7, 6, 167, 0, 14, 26, 16, 6, 160, 0, 7]
abbrev dktX13_above_0 : List UInt8 := dkwX13_above_0 ++ dktX13_above_1
theorem dksX13_above_0 : cX13_above.data.toList.drop 0 = dktX13_above_0 := by decide +kernel
theorem dksX13_above_1 : cX13_above.data.toList.drop 24 = dktX13_above_1 := dk_seg dksX13_above_0 24 rfl rfl
theorem dX13_above_0 : decode cX13_above 0 = .ok (.iload_n 0, 1) := dk_26 (dk_at dksX13_above_0 0 rfl rfl)
theorem dX13_above_1 : decode cX13_above 1 = .ok (.iconst 3, 1) := dk_6 (dk_at dksX13_above_0 1 rfl rfl)
theorem dX13_above_2 : decode cX13_above 2 = .ok (.if_icmp .ne 7, 3) := dk_160 0 7 (dk_at dksX13_above_0 2 rfl rfl)
theorem dX13_above_5 : decode cX13_above 5 = .ok (.iconst 2, 1) := dk_5 (dk_at dksX13_above_0 5 rfl rfl)
theorem dX13_above_6 : decode cX13_above 6 = .ok (.goto 23, 3) := dk_167 0 23 (dk_at dksX13_above_0 6 rfl rfl)
theorem dX13_above_9 : decode cX13_above 9 = .ok (.iload_n 0, 1) := dk_26 (dk_at dksX13_above_0 9 rfl rfl)
theorem dX13_above_10 : decode cX13_above 10 = .ok (.iconst 4, 1) := dk_7 (dk_at dksX13_above_0 10 rfl rfl)
theorem dX13_above_11 : decode cX13_above 11 = .ok (.if_icmp .ne 7, 3) := dk_160 0 7 (dk_at dksX13_above_0 11 rfl rfl)
theorem dX13_above_14 : decode cX13_above 14 = .ok (.iconst 3, 1) := dk_6 (dk_at dksX13_above_0 14 rfl rfl)
theorem dX13_above_15 : decode cX13_above 15 = .ok (.goto 14, 3) := dk_167 0 14 (dk_at dksX13_above_0 15 rfl rfl)
theorem dX13_above_18 : decode cX13_above 18 = .ok (.iload_n 0, 1) := dk_26 (dk_at dksX13_above_0 18 rfl rfl)
theorem dX13_above_19 : decode cX13_above 19 = .ok (.bipush 6, 2) := dk_16 6 (dk_at dksX13_above_0 19 rfl rfl)
theorem dX13_above_21 : decode cX13_above 21 = .ok (.if_icmp .ne 7, 3) := dk_160 0 7 (dk_at dksX13_above_0 21 rfl rfl)
theorem dX13_above_24 : decode cX13_above 24 = .ok (.iconst 1, 1) := dk_4 (dk_at dksX13_above_1 0 rfl rfl)
theorem dX13_above_25 : decode cX13_above 25 = .ok (.goto 4, 3) := dk_167 0 4 (dk_at dksX13_above_1 1 rfl rfl)
theorem dX13_above_28 : decode cX13_above 28 = .ok (.iconst 0, 1) := dk_3 (dk_at dksX13_above_1 4 rfl rfl)
theorem dX13_above_29 : decode cX13_above 29 = .ok (.ireturn, 1) := dk_172 (dk_at dksX13_above_1 5 rfl rfl)
abbrev cX13_sheet : ByteArray := prog_16_method_88_code
def yX13_sheet : MethodName := ⟨RX13, "sheet", "(III)I"⟩
def dkwX13_sheet_4 : List UInt8 := [16, 40, 27, 104, 21, 4, 96, 3, 79, 132, 4, 1, 167, 255, 233, 42, 180, 0, 32, 27, 46, 172]
abbrev dktX13_sheet_4 : List UInt8 := dkwX13_sheet_4 ++ []
def dkwX13_sheet_3 : List UInt8 := [154, 0, 7, 3, 167, 0, 4, 29, 79, 3, 54, 4, 21, 4, 16, 40, 162, 0, 22, 42, 180, 0, 35]
abbrev dktX13_sheet_3 : List UInt8 := dkwX13_sheet_3 ++ dktX13_sheet_4
def dkwX13_sheet_2 : List UInt8 := [16, 40, 164, 0, 9, 42, 3, 182, 0, 128, 172, 42, 180, 0, 29, 27, 28, 79, 42, 180, 0, 32, 27, 28]
abbrev dktX13_sheet_2 : List UInt8 := dkwX13_sheet_2 ++ dktX13_sheet_3
def dkwX13_sheet_1 : List UInt8 := [16, 32, 159, 0, 9, 42, 3, 182, 0, 128, 172, 29, 156, 0, 10, 42, 16, 6, 182, 0, 128, 172, 29]
abbrev dktX13_sheet_1 : List UInt8 := dkwX13_sheet_1 ++ dktX13_sheet_2
def dkwX13_sheet_0 : List UInt8 := [27, 184, 1, 53, 153, 0, 25, 28, 153, 0, 27, 28, 16, 8, 159, 0, 21, 28, 16, 16, 159, 0, 15, 28]
abbrev dktX13_sheet_0 : List UInt8 := dkwX13_sheet_0 ++ dktX13_sheet_1
theorem dksX13_sheet_0 : cX13_sheet.data.toList.drop 0 = dktX13_sheet_0 := by decide +kernel
theorem dksX13_sheet_1 : cX13_sheet.data.toList.drop 24 = dktX13_sheet_1 := dk_seg dksX13_sheet_0 24 rfl rfl
theorem dksX13_sheet_2 : cX13_sheet.data.toList.drop 47 = dktX13_sheet_2 := dk_seg dksX13_sheet_1 23 rfl rfl
theorem dksX13_sheet_3 : cX13_sheet.data.toList.drop 71 = dktX13_sheet_3 := dk_seg dksX13_sheet_2 24 rfl rfl
theorem dksX13_sheet_4 : cX13_sheet.data.toList.drop 94 = dktX13_sheet_4 := dk_seg dksX13_sheet_3 23 rfl rfl
theorem dX13_sheet_0 : decode cX13_sheet 0 = .ok (.iload_n 1, 1) := dk_27 (dk_at dksX13_sheet_0 0 rfl rfl)
theorem dX13_sheet_1 : decode cX13_sheet 1 = .ok (.invokestatic 309, 3) := dk_184 1 53 (dk_at dksX13_sheet_0 1 rfl rfl)
theorem dX13_sheet_4 : decode cX13_sheet 4 = .ok (.ifCond .eq 25, 3) := dk_153 0 25 (dk_at dksX13_sheet_0 4 rfl rfl)
theorem dX13_sheet_7 : decode cX13_sheet 7 = .ok (.iload_n 2, 1) := dk_28 (dk_at dksX13_sheet_0 7 rfl rfl)
theorem dX13_sheet_8 : decode cX13_sheet 8 = .ok (.ifCond .eq 27, 3) := dk_153 0 27 (dk_at dksX13_sheet_0 8 rfl rfl)
theorem dX13_sheet_11 : decode cX13_sheet 11 = .ok (.iload_n 2, 1) := dk_28 (dk_at dksX13_sheet_0 11 rfl rfl)
theorem dX13_sheet_12 : decode cX13_sheet 12 = .ok (.bipush 8, 2) := dk_16 8 (dk_at dksX13_sheet_0 12 rfl rfl)
theorem dX13_sheet_14 : decode cX13_sheet 14 = .ok (.if_icmp .eq 21, 3) := dk_159 0 21 (dk_at dksX13_sheet_0 14 rfl rfl)
theorem dX13_sheet_17 : decode cX13_sheet 17 = .ok (.iload_n 2, 1) := dk_28 (dk_at dksX13_sheet_0 17 rfl rfl)
theorem dX13_sheet_18 : decode cX13_sheet 18 = .ok (.bipush 16, 2) := dk_16 16 (dk_at dksX13_sheet_0 18 rfl rfl)
theorem dX13_sheet_20 : decode cX13_sheet 20 = .ok (.if_icmp .eq 15, 3) := dk_159 0 15 (dk_at dksX13_sheet_0 20 rfl rfl)
theorem dX13_sheet_23 : decode cX13_sheet 23 = .ok (.iload_n 2, 1) := dk_28 (dk_at dksX13_sheet_0 23 rfl rfl)
theorem dX13_sheet_24 : decode cX13_sheet 24 = .ok (.bipush 32, 2) := dk_16 32 (dk_at dksX13_sheet_1 0 rfl rfl)
theorem dX13_sheet_26 : decode cX13_sheet 26 = .ok (.if_icmp .eq 9, 3) := dk_159 0 9 (dk_at dksX13_sheet_1 2 rfl rfl)
theorem dX13_sheet_29 : decode cX13_sheet 29 = .ok (.aload_n 0, 1) := dk_42 (dk_at dksX13_sheet_1 5 rfl rfl)
theorem dX13_sheet_30 : decode cX13_sheet 30 = .ok (.iconst 0, 1) := dk_3 (dk_at dksX13_sheet_1 6 rfl rfl)
theorem dX13_sheet_31 : decode cX13_sheet 31 = .ok (.invokevirtual 128, 3) := dk_182 0 128 (dk_at dksX13_sheet_1 7 rfl rfl)
theorem dX13_sheet_34 : decode cX13_sheet 34 = .ok (.ireturn, 1) := dk_172 (dk_at dksX13_sheet_1 10 rfl rfl)
theorem dX13_sheet_35 : decode cX13_sheet 35 = .ok (.iload_n 3, 1) := dk_29 (dk_at dksX13_sheet_1 11 rfl rfl)
theorem dX13_sheet_36 : decode cX13_sheet 36 = .ok (.ifCond .ge 10, 3) := dk_156 0 10 (dk_at dksX13_sheet_1 12 rfl rfl)
theorem dX13_sheet_39 : decode cX13_sheet 39 = .ok (.aload_n 0, 1) := dk_42 (dk_at dksX13_sheet_1 15 rfl rfl)
theorem dX13_sheet_40 : decode cX13_sheet 40 = .ok (.bipush 6, 2) := dk_16 6 (dk_at dksX13_sheet_1 16 rfl rfl)
theorem dX13_sheet_42 : decode cX13_sheet 42 = .ok (.invokevirtual 128, 3) := dk_182 0 128 (dk_at dksX13_sheet_1 18 rfl rfl)
theorem dX13_sheet_45 : decode cX13_sheet 45 = .ok (.ireturn, 1) := dk_172 (dk_at dksX13_sheet_1 21 rfl rfl)
theorem dX13_sheet_46 : decode cX13_sheet 46 = .ok (.iload_n 3, 1) := dk_29 (dk_at dksX13_sheet_1 22 rfl rfl)
theorem dX13_sheet_47 : decode cX13_sheet 47 = .ok (.bipush 40, 2) := dk_16 40 (dk_at dksX13_sheet_2 0 rfl rfl)
theorem dX13_sheet_49 : decode cX13_sheet 49 = .ok (.if_icmp .le 9, 3) := dk_164 0 9 (dk_at dksX13_sheet_2 2 rfl rfl)
theorem dX13_sheet_52 : decode cX13_sheet 52 = .ok (.aload_n 0, 1) := dk_42 (dk_at dksX13_sheet_2 5 rfl rfl)
theorem dX13_sheet_53 : decode cX13_sheet 53 = .ok (.iconst 0, 1) := dk_3 (dk_at dksX13_sheet_2 6 rfl rfl)
theorem dX13_sheet_54 : decode cX13_sheet 54 = .ok (.invokevirtual 128, 3) := dk_182 0 128 (dk_at dksX13_sheet_2 7 rfl rfl)
theorem dX13_sheet_57 : decode cX13_sheet 57 = .ok (.ireturn, 1) := dk_172 (dk_at dksX13_sheet_2 10 rfl rfl)
theorem dX13_sheet_58 : decode cX13_sheet 58 = .ok (.aload_n 0, 1) := dk_42 (dk_at dksX13_sheet_2 11 rfl rfl)
theorem dX13_sheet_59 : decode cX13_sheet 59 = .ok (.getfield 29, 3) := dk_180 0 29 (dk_at dksX13_sheet_2 12 rfl rfl)
theorem dX13_sheet_62 : decode cX13_sheet 62 = .ok (.iload_n 1, 1) := dk_27 (dk_at dksX13_sheet_2 15 rfl rfl)
theorem dX13_sheet_63 : decode cX13_sheet 63 = .ok (.iload_n 2, 1) := dk_28 (dk_at dksX13_sheet_2 16 rfl rfl)
theorem dX13_sheet_64 : decode cX13_sheet 64 = .ok (.iastore, 1) := dk_79 (dk_at dksX13_sheet_2 17 rfl rfl)
theorem dX13_sheet_65 : decode cX13_sheet 65 = .ok (.aload_n 0, 1) := dk_42 (dk_at dksX13_sheet_2 18 rfl rfl)
theorem dX13_sheet_66 : decode cX13_sheet 66 = .ok (.getfield 32, 3) := dk_180 0 32 (dk_at dksX13_sheet_2 19 rfl rfl)
theorem dX13_sheet_69 : decode cX13_sheet 69 = .ok (.iload_n 1, 1) := dk_27 (dk_at dksX13_sheet_2 22 rfl rfl)
theorem dX13_sheet_70 : decode cX13_sheet 70 = .ok (.iload_n 2, 1) := dk_28 (dk_at dksX13_sheet_2 23 rfl rfl)
theorem dX13_sheet_71 : decode cX13_sheet 71 = .ok (.ifCond .ne 7, 3) := dk_154 0 7 (dk_at dksX13_sheet_3 0 rfl rfl)
theorem dX13_sheet_74 : decode cX13_sheet 74 = .ok (.iconst 0, 1) := dk_3 (dk_at dksX13_sheet_3 3 rfl rfl)
theorem dX13_sheet_75 : decode cX13_sheet 75 = .ok (.goto 4, 3) := dk_167 0 4 (dk_at dksX13_sheet_3 4 rfl rfl)
theorem dX13_sheet_78 : decode cX13_sheet 78 = .ok (.iload_n 3, 1) := dk_29 (dk_at dksX13_sheet_3 7 rfl rfl)
theorem dX13_sheet_79 : decode cX13_sheet 79 = .ok (.iastore, 1) := dk_79 (dk_at dksX13_sheet_3 8 rfl rfl)
theorem dX13_sheet_80 : decode cX13_sheet 80 = .ok (.iconst 0, 1) := dk_3 (dk_at dksX13_sheet_3 9 rfl rfl)
theorem dX13_sheet_81 : decode cX13_sheet 81 = .ok (.istore 4, 2) := dk_54 4 (dk_at dksX13_sheet_3 10 rfl rfl)
theorem dX13_sheet_83 : decode cX13_sheet 83 = .ok (.iload 4, 2) := dk_21 4 (dk_at dksX13_sheet_3 12 rfl rfl)
theorem dX13_sheet_85 : decode cX13_sheet 85 = .ok (.bipush 40, 2) := dk_16 40 (dk_at dksX13_sheet_3 14 rfl rfl)
theorem dX13_sheet_87 : decode cX13_sheet 87 = .ok (.if_icmp .ge 22, 3) := dk_162 0 22 (dk_at dksX13_sheet_3 16 rfl rfl)
theorem dX13_sheet_90 : decode cX13_sheet 90 = .ok (.aload_n 0, 1) := dk_42 (dk_at dksX13_sheet_3 19 rfl rfl)
theorem dX13_sheet_91 : decode cX13_sheet 91 = .ok (.getfield 35, 3) := dk_180 0 35 (dk_at dksX13_sheet_3 20 rfl rfl)
theorem dX13_sheet_94 : decode cX13_sheet 94 = .ok (.bipush 40, 2) := dk_16 40 (dk_at dksX13_sheet_4 0 rfl rfl)
theorem dX13_sheet_96 : decode cX13_sheet 96 = .ok (.iload_n 1, 1) := dk_27 (dk_at dksX13_sheet_4 2 rfl rfl)
theorem dX13_sheet_97 : decode cX13_sheet 97 = .ok (.imul, 1) := dk_104 (dk_at dksX13_sheet_4 3 rfl rfl)
theorem dX13_sheet_98 : decode cX13_sheet 98 = .ok (.iload 4, 2) := dk_21 4 (dk_at dksX13_sheet_4 4 rfl rfl)
theorem dX13_sheet_100 : decode cX13_sheet 100 = .ok (.iadd, 1) := dk_96 (dk_at dksX13_sheet_4 6 rfl rfl)
theorem dX13_sheet_101 : decode cX13_sheet 101 = .ok (.iconst 0, 1) := dk_3 (dk_at dksX13_sheet_4 7 rfl rfl)
theorem dX13_sheet_102 : decode cX13_sheet 102 = .ok (.iastore, 1) := dk_79 (dk_at dksX13_sheet_4 8 rfl rfl)
theorem dX13_sheet_103 : decode cX13_sheet 103 = .ok (.iinc 4 1, 3) := dk_132 4 1 (dk_at dksX13_sheet_4 9 rfl rfl)
theorem dX13_sheet_106 : decode cX13_sheet 106 = .ok (.goto (-23), 3) := dk_167 255 233 (dk_at dksX13_sheet_4 12 rfl rfl)
theorem dX13_sheet_109 : decode cX13_sheet 109 = .ok (.aload_n 0, 1) := dk_42 (dk_at dksX13_sheet_4 15 rfl rfl)
theorem dX13_sheet_110 : decode cX13_sheet 110 = .ok (.getfield 32, 3) := dk_180 0 32 (dk_at dksX13_sheet_4 16 rfl rfl)
theorem dX13_sheet_113 : decode cX13_sheet 113 = .ok (.iload_n 1, 1) := dk_27 (dk_at dksX13_sheet_4 19 rfl rfl)
theorem dX13_sheet_114 : decode cX13_sheet 114 = .ok (.iaload, 1) := dk_46 (dk_at dksX13_sheet_4 20 rfl rfl)
theorem dX13_sheet_115 : decode cX13_sheet 115 = .ok (.ireturn, 1) := dk_172 (dk_at dksX13_sheet_4 21 rfl rfl)
abbrev cX13_write : ByteArray := prog_16_method_90_code
def yX13_write : MethodName := ⟨RX13, "write", "(III)I"⟩
def dkwX13_write_4 : List UInt8 := [29, 79, 4, 172]
abbrev dktX13_write_4 : List UInt8 := dkwX13_write_4 ++ []
def dkwX13_write_3 : List UInt8 := [160, 0, 8, 29, 145, 167, 0, 20, 42, 180, 0, 29, 27, 46, 16, 16, 160, 0, 8, 29, 147, 167, 0, 4]
abbrev dktX13_write_3 : List UInt8 := dkwX13_write_3 ++ dktX13_write_4
def dkwX13_write_2 : List UInt8 := [182, 0, 128, 172, 42, 180, 0, 35, 16, 40, 27, 104, 28, 96, 42, 180, 0, 29, 27, 46, 16, 8]
abbrev dktX13_write_2 : List UInt8 := dkwX13_write_2 ++ dktX13_write_3
def dkwX13_write_1 : List UInt8 := [184, 0, 42, 154, 0, 7, 3, 167, 0, 5, 21, 4, 54, 4, 21, 4, 155, 0, 10, 42, 21, 4]
abbrev dktX13_write_1 : List UInt8 := dkwX13_write_1 ++ dktX13_write_2
def dkwX13_write_0 : List UInt8 := [42, 27, 182, 0, 190, 54, 4, 21, 4, 156, 0, 25, 28, 133, 9, 42, 180, 0, 32, 27, 46, 4, 100, 133]
abbrev dktX13_write_0 : List UInt8 := dkwX13_write_0 ++ dktX13_write_1
theorem dksX13_write_0 : cX13_write.data.toList.drop 0 = dktX13_write_0 := by decide +kernel
theorem dksX13_write_1 : cX13_write.data.toList.drop 24 = dktX13_write_1 := dk_seg dksX13_write_0 24 rfl rfl
theorem dksX13_write_2 : cX13_write.data.toList.drop 46 = dktX13_write_2 := dk_seg dksX13_write_1 22 rfl rfl
theorem dksX13_write_3 : cX13_write.data.toList.drop 68 = dktX13_write_3 := dk_seg dksX13_write_2 22 rfl rfl
theorem dksX13_write_4 : cX13_write.data.toList.drop 92 = dktX13_write_4 := dk_seg dksX13_write_3 24 rfl rfl
theorem dX13_write_0 : decode cX13_write 0 = .ok (.aload_n 0, 1) := dk_42 (dk_at dksX13_write_0 0 rfl rfl)
theorem dX13_write_1 : decode cX13_write 1 = .ok (.iload_n 1, 1) := dk_27 (dk_at dksX13_write_0 1 rfl rfl)
theorem dX13_write_2 : decode cX13_write 2 = .ok (.invokevirtual 190, 3) := dk_182 0 190 (dk_at dksX13_write_0 2 rfl rfl)
theorem dX13_write_5 : decode cX13_write 5 = .ok (.istore 4, 2) := dk_54 4 (dk_at dksX13_write_0 5 rfl rfl)
theorem dX13_write_7 : decode cX13_write 7 = .ok (.iload 4, 2) := dk_21 4 (dk_at dksX13_write_0 7 rfl rfl)
theorem dX13_write_9 : decode cX13_write 9 = .ok (.ifCond .ge 25, 3) := dk_156 0 25 (dk_at dksX13_write_0 9 rfl rfl)
theorem dX13_write_12 : decode cX13_write 12 = .ok (.iload_n 2, 1) := dk_28 (dk_at dksX13_write_0 12 rfl rfl)
theorem dX13_write_13 : decode cX13_write 13 = .ok (.i2l, 1) := dk_133 (dk_at dksX13_write_0 13 rfl rfl)
theorem dX13_write_14 : decode cX13_write 14 = .ok (.lconst 0, 1) := dk_9 (dk_at dksX13_write_0 14 rfl rfl)
theorem dX13_write_15 : decode cX13_write 15 = .ok (.aload_n 0, 1) := dk_42 (dk_at dksX13_write_0 15 rfl rfl)
theorem dX13_write_16 : decode cX13_write 16 = .ok (.getfield 32, 3) := dk_180 0 32 (dk_at dksX13_write_0 16 rfl rfl)
theorem dX13_write_19 : decode cX13_write 19 = .ok (.iload_n 1, 1) := dk_27 (dk_at dksX13_write_0 19 rfl rfl)
theorem dX13_write_20 : decode cX13_write 20 = .ok (.iaload, 1) := dk_46 (dk_at dksX13_write_0 20 rfl rfl)
theorem dX13_write_21 : decode cX13_write 21 = .ok (.iconst 1, 1) := dk_4 (dk_at dksX13_write_0 21 rfl rfl)
theorem dX13_write_22 : decode cX13_write 22 = .ok (.isub, 1) := dk_100 (dk_at dksX13_write_0 22 rfl rfl)
theorem dX13_write_23 : decode cX13_write 23 = .ok (.i2l, 1) := dk_133 (dk_at dksX13_write_0 23 rfl rfl)
theorem dX13_write_24 : decode cX13_write 24 = .ok (.invokestatic 42, 3) := dk_184 0 42 (dk_at dksX13_write_1 0 rfl rfl)
theorem dX13_write_27 : decode cX13_write 27 = .ok (.ifCond .ne 7, 3) := dk_154 0 7 (dk_at dksX13_write_1 3 rfl rfl)
theorem dX13_write_30 : decode cX13_write 30 = .ok (.iconst 0, 1) := dk_3 (dk_at dksX13_write_1 6 rfl rfl)
theorem dX13_write_31 : decode cX13_write 31 = .ok (.goto 5, 3) := dk_167 0 5 (dk_at dksX13_write_1 7 rfl rfl)
theorem dX13_write_34 : decode cX13_write 34 = .ok (.iload 4, 2) := dk_21 4 (dk_at dksX13_write_1 10 rfl rfl)
theorem dX13_write_36 : decode cX13_write 36 = .ok (.istore 4, 2) := dk_54 4 (dk_at dksX13_write_1 12 rfl rfl)
theorem dX13_write_38 : decode cX13_write 38 = .ok (.iload 4, 2) := dk_21 4 (dk_at dksX13_write_1 14 rfl rfl)
theorem dX13_write_40 : decode cX13_write 40 = .ok (.ifCond .lt 10, 3) := dk_155 0 10 (dk_at dksX13_write_1 16 rfl rfl)
theorem dX13_write_43 : decode cX13_write 43 = .ok (.aload_n 0, 1) := dk_42 (dk_at dksX13_write_1 19 rfl rfl)
theorem dX13_write_44 : decode cX13_write 44 = .ok (.iload 4, 2) := dk_21 4 (dk_at dksX13_write_1 20 rfl rfl)
theorem dX13_write_46 : decode cX13_write 46 = .ok (.invokevirtual 128, 3) := dk_182 0 128 (dk_at dksX13_write_2 0 rfl rfl)
theorem dX13_write_49 : decode cX13_write 49 = .ok (.ireturn, 1) := dk_172 (dk_at dksX13_write_2 3 rfl rfl)
theorem dX13_write_50 : decode cX13_write 50 = .ok (.aload_n 0, 1) := dk_42 (dk_at dksX13_write_2 4 rfl rfl)
theorem dX13_write_51 : decode cX13_write 51 = .ok (.getfield 35, 3) := dk_180 0 35 (dk_at dksX13_write_2 5 rfl rfl)
theorem dX13_write_54 : decode cX13_write 54 = .ok (.bipush 40, 2) := dk_16 40 (dk_at dksX13_write_2 8 rfl rfl)
theorem dX13_write_56 : decode cX13_write 56 = .ok (.iload_n 1, 1) := dk_27 (dk_at dksX13_write_2 10 rfl rfl)
theorem dX13_write_57 : decode cX13_write 57 = .ok (.imul, 1) := dk_104 (dk_at dksX13_write_2 11 rfl rfl)
theorem dX13_write_58 : decode cX13_write 58 = .ok (.iload_n 2, 1) := dk_28 (dk_at dksX13_write_2 12 rfl rfl)
theorem dX13_write_59 : decode cX13_write 59 = .ok (.iadd, 1) := dk_96 (dk_at dksX13_write_2 13 rfl rfl)
theorem dX13_write_60 : decode cX13_write 60 = .ok (.aload_n 0, 1) := dk_42 (dk_at dksX13_write_2 14 rfl rfl)
theorem dX13_write_61 : decode cX13_write 61 = .ok (.getfield 29, 3) := dk_180 0 29 (dk_at dksX13_write_2 15 rfl rfl)
theorem dX13_write_64 : decode cX13_write 64 = .ok (.iload_n 1, 1) := dk_27 (dk_at dksX13_write_2 18 rfl rfl)
theorem dX13_write_65 : decode cX13_write 65 = .ok (.iaload, 1) := dk_46 (dk_at dksX13_write_2 19 rfl rfl)
theorem dX13_write_66 : decode cX13_write 66 = .ok (.bipush 8, 2) := dk_16 8 (dk_at dksX13_write_2 20 rfl rfl)
theorem dX13_write_68 : decode cX13_write 68 = .ok (.if_icmp .ne 8, 3) := dk_160 0 8 (dk_at dksX13_write_3 0 rfl rfl)
theorem dX13_write_71 : decode cX13_write 71 = .ok (.iload_n 3, 1) := dk_29 (dk_at dksX13_write_3 3 rfl rfl)
theorem dX13_write_72 : decode cX13_write 72 = .ok (.i2b, 1) := dk_145 (dk_at dksX13_write_3 4 rfl rfl)
theorem dX13_write_73 : decode cX13_write 73 = .ok (.goto 20, 3) := dk_167 0 20 (dk_at dksX13_write_3 5 rfl rfl)
theorem dX13_write_76 : decode cX13_write 76 = .ok (.aload_n 0, 1) := dk_42 (dk_at dksX13_write_3 8 rfl rfl)
theorem dX13_write_77 : decode cX13_write 77 = .ok (.getfield 29, 3) := dk_180 0 29 (dk_at dksX13_write_3 9 rfl rfl)
theorem dX13_write_80 : decode cX13_write 80 = .ok (.iload_n 1, 1) := dk_27 (dk_at dksX13_write_3 12 rfl rfl)
theorem dX13_write_81 : decode cX13_write 81 = .ok (.iaload, 1) := dk_46 (dk_at dksX13_write_3 13 rfl rfl)
theorem dX13_write_82 : decode cX13_write 82 = .ok (.bipush 16, 2) := dk_16 16 (dk_at dksX13_write_3 14 rfl rfl)
theorem dX13_write_84 : decode cX13_write 84 = .ok (.if_icmp .ne 8, 3) := dk_160 0 8 (dk_at dksX13_write_3 16 rfl rfl)
theorem dX13_write_87 : decode cX13_write 87 = .ok (.iload_n 3, 1) := dk_29 (dk_at dksX13_write_3 19 rfl rfl)
theorem dX13_write_88 : decode cX13_write 88 = .ok (.i2s, 1) := dk_147 (dk_at dksX13_write_3 20 rfl rfl)
theorem dX13_write_89 : decode cX13_write 89 = .ok (.goto 4, 3) := dk_167 0 4 (dk_at dksX13_write_3 21 rfl rfl)
theorem dX13_write_92 : decode cX13_write 92 = .ok (.iload_n 3, 1) := dk_29 (dk_at dksX13_write_4 0 rfl rfl)
theorem dX13_write_93 : decode cX13_write 93 = .ok (.iastore, 1) := dk_79 (dk_at dksX13_write_4 1 rfl rfl)
theorem dX13_write_94 : decode cX13_write 94 = .ok (.iconst 1, 1) := dk_4 (dk_at dksX13_write_4 2 rfl rfl)
theorem dX13_write_95 : decode cX13_write 95 = .ok (.ireturn, 1) := dk_172 (dk_at dksX13_write_4 3 rfl rfl)
abbrev cX13_copy : ByteArray := prog_16_method_91_code
def yX13_copy : MethodName := ⟨RX13, "copy", "(IIIII)I"⟩
def dkwX13_copy_8 : List UInt8 := [79, 132, 6, 1, 167, 255, 224, 21, 5, 172]
abbrev dktX13_copy_8 : List UInt8 := dkwX13_copy_8 ++ []
def dkwX13_copy_7 : List UInt8 := [162, 0, 31, 42, 180, 0, 35, 16, 40, 29, 104, 21, 4, 96, 21, 6, 96, 42, 180, 0, 38, 21, 6, 46]
abbrev dktX13_copy_7 : List UInt8 := dkwX13_copy_7 ++ dktX13_copy_8
def dkwX13_copy_6 : List UInt8 := [16, 40, 27, 104, 28, 96, 21, 6, 96, 46, 79, 132, 6, 1, 167, 255, 225, 3, 54, 6, 21, 6, 21, 5]
abbrev dktX13_copy_6 : List UInt8 := dkwX13_copy_6 ++ dktX13_copy_7
def dkwX13_copy_5 : List UInt8 := [182, 0, 128, 172, 3, 54, 6, 21, 6, 21, 5, 162, 0, 30, 42, 180, 0, 38, 21, 6, 42, 180, 0, 35]
abbrev dktX13_copy_5 : List UInt8 := dkwX13_copy_5 ++ dktX13_copy_6
def dkwX13_copy_4 : List UInt8 := [157, 0, 21, 21, 4, 133, 21, 5, 133, 97, 42, 180, 0, 32, 29, 46, 133, 148, 158, 0, 9, 42, 3]
abbrev dktX13_copy_4 : List UInt8 := dkwX13_copy_4 ++ dktX13_copy_5
def dkwX13_copy_3 : List UInt8 := [155, 0, 43, 21, 5, 155, 0, 38, 28, 133, 21, 5, 133, 97, 42, 180, 0, 32, 27, 46, 133, 148]
abbrev dktX13_copy_3 : List UInt8 := dkwX13_copy_3 ++ dktX13_copy_4
def dkwX13_copy_2 : List UInt8 := [27, 46, 42, 180, 0, 29, 29, 46, 159, 0, 9, 42, 5, 182, 0, 128, 172, 28, 155, 0, 48, 21, 4]
abbrev dktX13_copy_2 : List UInt8 := dkwX13_copy_2 ++ dktX13_copy_3
def dkwX13_copy_1 : List UInt8 := [27, 46, 153, 0, 12, 42, 180, 0, 29, 29, 46, 154, 0, 9, 42, 8, 182, 0, 128, 172, 42, 180, 0, 29]
abbrev dktX13_copy_1 : List UInt8 := dkwX13_copy_1 ++ dktX13_copy_2
def dkwX13_copy_0 : List UInt8 := [27, 184, 1, 53, 153, 0, 10, 29, 184, 1, 53, 154, 0, 9, 42, 3, 182, 0, 128, 172, 42, 180, 0, 29]
abbrev dktX13_copy_0 : List UInt8 := dkwX13_copy_0 ++ dktX13_copy_1
theorem dksX13_copy_0 : cX13_copy.data.toList.drop 0 = dktX13_copy_0 := by decide +kernel
theorem dksX13_copy_1 : cX13_copy.data.toList.drop 24 = dktX13_copy_1 := dk_seg dksX13_copy_0 24 rfl rfl
theorem dksX13_copy_2 : cX13_copy.data.toList.drop 48 = dktX13_copy_2 := dk_seg dksX13_copy_1 24 rfl rfl
theorem dksX13_copy_3 : cX13_copy.data.toList.drop 71 = dktX13_copy_3 := dk_seg dksX13_copy_2 23 rfl rfl
theorem dksX13_copy_4 : cX13_copy.data.toList.drop 93 = dktX13_copy_4 := dk_seg dksX13_copy_3 22 rfl rfl
theorem dksX13_copy_5 : cX13_copy.data.toList.drop 116 = dktX13_copy_5 := dk_seg dksX13_copy_4 23 rfl rfl
theorem dksX13_copy_6 : cX13_copy.data.toList.drop 140 = dktX13_copy_6 := dk_seg dksX13_copy_5 24 rfl rfl
theorem dksX13_copy_7 : cX13_copy.data.toList.drop 164 = dktX13_copy_7 := dk_seg dksX13_copy_6 24 rfl rfl
theorem dksX13_copy_8 : cX13_copy.data.toList.drop 188 = dktX13_copy_8 := dk_seg dksX13_copy_7 24 rfl rfl
theorem dX13_copy_0 : decode cX13_copy 0 = .ok (.iload_n 1, 1) := dk_27 (dk_at dksX13_copy_0 0 rfl rfl)
theorem dX13_copy_1 : decode cX13_copy 1 = .ok (.invokestatic 309, 3) := dk_184 1 53 (dk_at dksX13_copy_0 1 rfl rfl)
theorem dX13_copy_4 : decode cX13_copy 4 = .ok (.ifCond .eq 10, 3) := dk_153 0 10 (dk_at dksX13_copy_0 4 rfl rfl)
theorem dX13_copy_7 : decode cX13_copy 7 = .ok (.iload_n 3, 1) := dk_29 (dk_at dksX13_copy_0 7 rfl rfl)
theorem dX13_copy_8 : decode cX13_copy 8 = .ok (.invokestatic 309, 3) := dk_184 1 53 (dk_at dksX13_copy_0 8 rfl rfl)
theorem dX13_copy_11 : decode cX13_copy 11 = .ok (.ifCond .ne 9, 3) := dk_154 0 9 (dk_at dksX13_copy_0 11 rfl rfl)
theorem dX13_copy_14 : decode cX13_copy 14 = .ok (.aload_n 0, 1) := dk_42 (dk_at dksX13_copy_0 14 rfl rfl)
theorem dX13_copy_15 : decode cX13_copy 15 = .ok (.iconst 0, 1) := dk_3 (dk_at dksX13_copy_0 15 rfl rfl)
theorem dX13_copy_16 : decode cX13_copy 16 = .ok (.invokevirtual 128, 3) := dk_182 0 128 (dk_at dksX13_copy_0 16 rfl rfl)
theorem dX13_copy_19 : decode cX13_copy 19 = .ok (.ireturn, 1) := dk_172 (dk_at dksX13_copy_0 19 rfl rfl)
theorem dX13_copy_20 : decode cX13_copy 20 = .ok (.aload_n 0, 1) := dk_42 (dk_at dksX13_copy_0 20 rfl rfl)
theorem dX13_copy_21 : decode cX13_copy 21 = .ok (.getfield 29, 3) := dk_180 0 29 (dk_at dksX13_copy_0 21 rfl rfl)
theorem dX13_copy_24 : decode cX13_copy 24 = .ok (.iload_n 1, 1) := dk_27 (dk_at dksX13_copy_1 0 rfl rfl)
theorem dX13_copy_25 : decode cX13_copy 25 = .ok (.iaload, 1) := dk_46 (dk_at dksX13_copy_1 1 rfl rfl)
theorem dX13_copy_26 : decode cX13_copy 26 = .ok (.ifCond .eq 12, 3) := dk_153 0 12 (dk_at dksX13_copy_1 2 rfl rfl)
theorem dX13_copy_29 : decode cX13_copy 29 = .ok (.aload_n 0, 1) := dk_42 (dk_at dksX13_copy_1 5 rfl rfl)
theorem dX13_copy_30 : decode cX13_copy 30 = .ok (.getfield 29, 3) := dk_180 0 29 (dk_at dksX13_copy_1 6 rfl rfl)
theorem dX13_copy_33 : decode cX13_copy 33 = .ok (.iload_n 3, 1) := dk_29 (dk_at dksX13_copy_1 9 rfl rfl)
theorem dX13_copy_34 : decode cX13_copy 34 = .ok (.iaload, 1) := dk_46 (dk_at dksX13_copy_1 10 rfl rfl)
theorem dX13_copy_35 : decode cX13_copy 35 = .ok (.ifCond .ne 9, 3) := dk_154 0 9 (dk_at dksX13_copy_1 11 rfl rfl)
theorem dX13_copy_38 : decode cX13_copy 38 = .ok (.aload_n 0, 1) := dk_42 (dk_at dksX13_copy_1 14 rfl rfl)
theorem dX13_copy_39 : decode cX13_copy 39 = .ok (.iconst 5, 1) := dk_8 (dk_at dksX13_copy_1 15 rfl rfl)
theorem dX13_copy_40 : decode cX13_copy 40 = .ok (.invokevirtual 128, 3) := dk_182 0 128 (dk_at dksX13_copy_1 16 rfl rfl)
theorem dX13_copy_43 : decode cX13_copy 43 = .ok (.ireturn, 1) := dk_172 (dk_at dksX13_copy_1 19 rfl rfl)
theorem dX13_copy_44 : decode cX13_copy 44 = .ok (.aload_n 0, 1) := dk_42 (dk_at dksX13_copy_1 20 rfl rfl)
theorem dX13_copy_45 : decode cX13_copy 45 = .ok (.getfield 29, 3) := dk_180 0 29 (dk_at dksX13_copy_1 21 rfl rfl)
theorem dX13_copy_48 : decode cX13_copy 48 = .ok (.iload_n 1, 1) := dk_27 (dk_at dksX13_copy_2 0 rfl rfl)
theorem dX13_copy_49 : decode cX13_copy 49 = .ok (.iaload, 1) := dk_46 (dk_at dksX13_copy_2 1 rfl rfl)
theorem dX13_copy_50 : decode cX13_copy 50 = .ok (.aload_n 0, 1) := dk_42 (dk_at dksX13_copy_2 2 rfl rfl)
theorem dX13_copy_51 : decode cX13_copy 51 = .ok (.getfield 29, 3) := dk_180 0 29 (dk_at dksX13_copy_2 3 rfl rfl)
theorem dX13_copy_54 : decode cX13_copy 54 = .ok (.iload_n 3, 1) := dk_29 (dk_at dksX13_copy_2 6 rfl rfl)
theorem dX13_copy_55 : decode cX13_copy 55 = .ok (.iaload, 1) := dk_46 (dk_at dksX13_copy_2 7 rfl rfl)
theorem dX13_copy_56 : decode cX13_copy 56 = .ok (.if_icmp .eq 9, 3) := dk_159 0 9 (dk_at dksX13_copy_2 8 rfl rfl)
theorem dX13_copy_59 : decode cX13_copy 59 = .ok (.aload_n 0, 1) := dk_42 (dk_at dksX13_copy_2 11 rfl rfl)
theorem dX13_copy_60 : decode cX13_copy 60 = .ok (.iconst 2, 1) := dk_5 (dk_at dksX13_copy_2 12 rfl rfl)
theorem dX13_copy_61 : decode cX13_copy 61 = .ok (.invokevirtual 128, 3) := dk_182 0 128 (dk_at dksX13_copy_2 13 rfl rfl)
theorem dX13_copy_64 : decode cX13_copy 64 = .ok (.ireturn, 1) := dk_172 (dk_at dksX13_copy_2 16 rfl rfl)
theorem dX13_copy_65 : decode cX13_copy 65 = .ok (.iload_n 2, 1) := dk_28 (dk_at dksX13_copy_2 17 rfl rfl)
theorem dX13_copy_66 : decode cX13_copy 66 = .ok (.ifCond .lt 48, 3) := dk_155 0 48 (dk_at dksX13_copy_2 18 rfl rfl)
theorem dX13_copy_69 : decode cX13_copy 69 = .ok (.iload 4, 2) := dk_21 4 (dk_at dksX13_copy_2 21 rfl rfl)
theorem dX13_copy_71 : decode cX13_copy 71 = .ok (.ifCond .lt 43, 3) := dk_155 0 43 (dk_at dksX13_copy_3 0 rfl rfl)
theorem dX13_copy_74 : decode cX13_copy 74 = .ok (.iload 5, 2) := dk_21 5 (dk_at dksX13_copy_3 3 rfl rfl)
theorem dX13_copy_76 : decode cX13_copy 76 = .ok (.ifCond .lt 38, 3) := dk_155 0 38 (dk_at dksX13_copy_3 5 rfl rfl)
theorem dX13_copy_79 : decode cX13_copy 79 = .ok (.iload_n 2, 1) := dk_28 (dk_at dksX13_copy_3 8 rfl rfl)
theorem dX13_copy_80 : decode cX13_copy 80 = .ok (.i2l, 1) := dk_133 (dk_at dksX13_copy_3 9 rfl rfl)
theorem dX13_copy_81 : decode cX13_copy 81 = .ok (.iload 5, 2) := dk_21 5 (dk_at dksX13_copy_3 10 rfl rfl)
theorem dX13_copy_83 : decode cX13_copy 83 = .ok (.i2l, 1) := dk_133 (dk_at dksX13_copy_3 12 rfl rfl)
theorem dX13_copy_84 : decode cX13_copy 84 = .ok (.ladd, 1) := dk_97 (dk_at dksX13_copy_3 13 rfl rfl)
theorem dX13_copy_85 : decode cX13_copy 85 = .ok (.aload_n 0, 1) := dk_42 (dk_at dksX13_copy_3 14 rfl rfl)
theorem dX13_copy_86 : decode cX13_copy 86 = .ok (.getfield 32, 3) := dk_180 0 32 (dk_at dksX13_copy_3 15 rfl rfl)
theorem dX13_copy_89 : decode cX13_copy 89 = .ok (.iload_n 1, 1) := dk_27 (dk_at dksX13_copy_3 18 rfl rfl)
theorem dX13_copy_90 : decode cX13_copy 90 = .ok (.iaload, 1) := dk_46 (dk_at dksX13_copy_3 19 rfl rfl)
theorem dX13_copy_91 : decode cX13_copy 91 = .ok (.i2l, 1) := dk_133 (dk_at dksX13_copy_3 20 rfl rfl)
theorem dX13_copy_92 : decode cX13_copy 92 = .ok (.lcmp, 1) := dk_148 (dk_at dksX13_copy_3 21 rfl rfl)
theorem dX13_copy_93 : decode cX13_copy 93 = .ok (.ifCond .gt 21, 3) := dk_157 0 21 (dk_at dksX13_copy_4 0 rfl rfl)
theorem dX13_copy_96 : decode cX13_copy 96 = .ok (.iload 4, 2) := dk_21 4 (dk_at dksX13_copy_4 3 rfl rfl)
theorem dX13_copy_98 : decode cX13_copy 98 = .ok (.i2l, 1) := dk_133 (dk_at dksX13_copy_4 5 rfl rfl)
theorem dX13_copy_99 : decode cX13_copy 99 = .ok (.iload 5, 2) := dk_21 5 (dk_at dksX13_copy_4 6 rfl rfl)
theorem dX13_copy_101 : decode cX13_copy 101 = .ok (.i2l, 1) := dk_133 (dk_at dksX13_copy_4 8 rfl rfl)
theorem dX13_copy_102 : decode cX13_copy 102 = .ok (.ladd, 1) := dk_97 (dk_at dksX13_copy_4 9 rfl rfl)
theorem dX13_copy_103 : decode cX13_copy 103 = .ok (.aload_n 0, 1) := dk_42 (dk_at dksX13_copy_4 10 rfl rfl)
theorem dX13_copy_104 : decode cX13_copy 104 = .ok (.getfield 32, 3) := dk_180 0 32 (dk_at dksX13_copy_4 11 rfl rfl)
theorem dX13_copy_107 : decode cX13_copy 107 = .ok (.iload_n 3, 1) := dk_29 (dk_at dksX13_copy_4 14 rfl rfl)
theorem dX13_copy_108 : decode cX13_copy 108 = .ok (.iaload, 1) := dk_46 (dk_at dksX13_copy_4 15 rfl rfl)
theorem dX13_copy_109 : decode cX13_copy 109 = .ok (.i2l, 1) := dk_133 (dk_at dksX13_copy_4 16 rfl rfl)
theorem dX13_copy_110 : decode cX13_copy 110 = .ok (.lcmp, 1) := dk_148 (dk_at dksX13_copy_4 17 rfl rfl)
theorem dX13_copy_111 : decode cX13_copy 111 = .ok (.ifCond .le 9, 3) := dk_158 0 9 (dk_at dksX13_copy_4 18 rfl rfl)
theorem dX13_copy_114 : decode cX13_copy 114 = .ok (.aload_n 0, 1) := dk_42 (dk_at dksX13_copy_4 21 rfl rfl)
theorem dX13_copy_115 : decode cX13_copy 115 = .ok (.iconst 0, 1) := dk_3 (dk_at dksX13_copy_4 22 rfl rfl)
theorem dX13_copy_116 : decode cX13_copy 116 = .ok (.invokevirtual 128, 3) := dk_182 0 128 (dk_at dksX13_copy_5 0 rfl rfl)
theorem dX13_copy_119 : decode cX13_copy 119 = .ok (.ireturn, 1) := dk_172 (dk_at dksX13_copy_5 3 rfl rfl)
theorem dX13_copy_120 : decode cX13_copy 120 = .ok (.iconst 0, 1) := dk_3 (dk_at dksX13_copy_5 4 rfl rfl)
theorem dX13_copy_121 : decode cX13_copy 121 = .ok (.istore 6, 2) := dk_54 6 (dk_at dksX13_copy_5 5 rfl rfl)
theorem dX13_copy_123 : decode cX13_copy 123 = .ok (.iload 6, 2) := dk_21 6 (dk_at dksX13_copy_5 7 rfl rfl)
theorem dX13_copy_125 : decode cX13_copy 125 = .ok (.iload 5, 2) := dk_21 5 (dk_at dksX13_copy_5 9 rfl rfl)
theorem dX13_copy_127 : decode cX13_copy 127 = .ok (.if_icmp .ge 30, 3) := dk_162 0 30 (dk_at dksX13_copy_5 11 rfl rfl)
theorem dX13_copy_130 : decode cX13_copy 130 = .ok (.aload_n 0, 1) := dk_42 (dk_at dksX13_copy_5 14 rfl rfl)
theorem dX13_copy_131 : decode cX13_copy 131 = .ok (.getfield 38, 3) := dk_180 0 38 (dk_at dksX13_copy_5 15 rfl rfl)
theorem dX13_copy_134 : decode cX13_copy 134 = .ok (.iload 6, 2) := dk_21 6 (dk_at dksX13_copy_5 18 rfl rfl)
theorem dX13_copy_136 : decode cX13_copy 136 = .ok (.aload_n 0, 1) := dk_42 (dk_at dksX13_copy_5 20 rfl rfl)
theorem dX13_copy_137 : decode cX13_copy 137 = .ok (.getfield 35, 3) := dk_180 0 35 (dk_at dksX13_copy_5 21 rfl rfl)
theorem dX13_copy_140 : decode cX13_copy 140 = .ok (.bipush 40, 2) := dk_16 40 (dk_at dksX13_copy_6 0 rfl rfl)
theorem dX13_copy_142 : decode cX13_copy 142 = .ok (.iload_n 1, 1) := dk_27 (dk_at dksX13_copy_6 2 rfl rfl)
theorem dX13_copy_143 : decode cX13_copy 143 = .ok (.imul, 1) := dk_104 (dk_at dksX13_copy_6 3 rfl rfl)
theorem dX13_copy_144 : decode cX13_copy 144 = .ok (.iload_n 2, 1) := dk_28 (dk_at dksX13_copy_6 4 rfl rfl)
theorem dX13_copy_145 : decode cX13_copy 145 = .ok (.iadd, 1) := dk_96 (dk_at dksX13_copy_6 5 rfl rfl)
theorem dX13_copy_146 : decode cX13_copy 146 = .ok (.iload 6, 2) := dk_21 6 (dk_at dksX13_copy_6 6 rfl rfl)
theorem dX13_copy_148 : decode cX13_copy 148 = .ok (.iadd, 1) := dk_96 (dk_at dksX13_copy_6 8 rfl rfl)
theorem dX13_copy_149 : decode cX13_copy 149 = .ok (.iaload, 1) := dk_46 (dk_at dksX13_copy_6 9 rfl rfl)
theorem dX13_copy_150 : decode cX13_copy 150 = .ok (.iastore, 1) := dk_79 (dk_at dksX13_copy_6 10 rfl rfl)
theorem dX13_copy_151 : decode cX13_copy 151 = .ok (.iinc 6 1, 3) := dk_132 6 1 (dk_at dksX13_copy_6 11 rfl rfl)
theorem dX13_copy_154 : decode cX13_copy 154 = .ok (.goto (-31), 3) := dk_167 255 225 (dk_at dksX13_copy_6 14 rfl rfl)
theorem dX13_copy_157 : decode cX13_copy 157 = .ok (.iconst 0, 1) := dk_3 (dk_at dksX13_copy_6 17 rfl rfl)
theorem dX13_copy_158 : decode cX13_copy 158 = .ok (.istore 6, 2) := dk_54 6 (dk_at dksX13_copy_6 18 rfl rfl)
theorem dX13_copy_160 : decode cX13_copy 160 = .ok (.iload 6, 2) := dk_21 6 (dk_at dksX13_copy_6 20 rfl rfl)
theorem dX13_copy_162 : decode cX13_copy 162 = .ok (.iload 5, 2) := dk_21 5 (dk_at dksX13_copy_6 22 rfl rfl)
theorem dX13_copy_164 : decode cX13_copy 164 = .ok (.if_icmp .ge 31, 3) := dk_162 0 31 (dk_at dksX13_copy_7 0 rfl rfl)
theorem dX13_copy_167 : decode cX13_copy 167 = .ok (.aload_n 0, 1) := dk_42 (dk_at dksX13_copy_7 3 rfl rfl)
theorem dX13_copy_168 : decode cX13_copy 168 = .ok (.getfield 35, 3) := dk_180 0 35 (dk_at dksX13_copy_7 4 rfl rfl)
theorem dX13_copy_171 : decode cX13_copy 171 = .ok (.bipush 40, 2) := dk_16 40 (dk_at dksX13_copy_7 7 rfl rfl)
theorem dX13_copy_173 : decode cX13_copy 173 = .ok (.iload_n 3, 1) := dk_29 (dk_at dksX13_copy_7 9 rfl rfl)
theorem dX13_copy_174 : decode cX13_copy 174 = .ok (.imul, 1) := dk_104 (dk_at dksX13_copy_7 10 rfl rfl)
theorem dX13_copy_175 : decode cX13_copy 175 = .ok (.iload 4, 2) := dk_21 4 (dk_at dksX13_copy_7 11 rfl rfl)
theorem dX13_copy_177 : decode cX13_copy 177 = .ok (.iadd, 1) := dk_96 (dk_at dksX13_copy_7 13 rfl rfl)
theorem dX13_copy_178 : decode cX13_copy 178 = .ok (.iload 6, 2) := dk_21 6 (dk_at dksX13_copy_7 14 rfl rfl)
theorem dX13_copy_180 : decode cX13_copy 180 = .ok (.iadd, 1) := dk_96 (dk_at dksX13_copy_7 16 rfl rfl)
theorem dX13_copy_181 : decode cX13_copy 181 = .ok (.aload_n 0, 1) := dk_42 (dk_at dksX13_copy_7 17 rfl rfl)
theorem dX13_copy_182 : decode cX13_copy 182 = .ok (.getfield 38, 3) := dk_180 0 38 (dk_at dksX13_copy_7 18 rfl rfl)
theorem dX13_copy_185 : decode cX13_copy 185 = .ok (.iload 6, 2) := dk_21 6 (dk_at dksX13_copy_7 21 rfl rfl)
theorem dX13_copy_187 : decode cX13_copy 187 = .ok (.iaload, 1) := dk_46 (dk_at dksX13_copy_7 23 rfl rfl)
theorem dX13_copy_188 : decode cX13_copy 188 = .ok (.iastore, 1) := dk_79 (dk_at dksX13_copy_8 0 rfl rfl)
theorem dX13_copy_189 : decode cX13_copy 189 = .ok (.iinc 6 1, 3) := dk_132 6 1 (dk_at dksX13_copy_8 1 rfl rfl)
theorem dX13_copy_192 : decode cX13_copy 192 = .ok (.goto (-32), 3) := dk_167 255 224 (dk_at dksX13_copy_8 4 rfl rfl)
theorem dX13_copy_195 : decode cX13_copy 195 = .ok (.iload 5, 2) := dk_21 5 (dk_at dksX13_copy_8 7 rfl rfl)
theorem dX13_copy_197 : decode cX13_copy 197 = .ok (.ireturn, 1) := dk_172 (dk_at dksX13_copy_8 9 rfl rfl)
abbrev cX13_load : ByteArray := prog_16_method_92_code
def yX13_load : MethodName := ⟨RX13, "load", "(I)I"⟩
def dkwX13_load_3 : List UInt8 := [132, 3, 1, 167, 255, 201, 29, 172]
abbrev dktX13_load_3 : List UInt8 := dkwX13_load_3 ++ []
def dkwX13_load_2 : List UInt8 := [153, 0, 28, 42, 180, 0, 7, 6, 29, 96, 42, 180, 0, 35, 16, 40, 27, 104, 29, 96, 46, 79]
abbrev dktX13_load_2 : List UInt8 := dkwX13_load_2 ++ dktX13_load_3
def dkwX13_load_1 : List UInt8 := [46, 162, 0, 51, 29, 16, 6, 162, 0, 45, 42, 180, 0, 35, 16, 40, 27, 104, 29, 96, 46, 184, 0, 122]
abbrev dktX13_load_1 : List UInt8 := dkwX13_load_1 ++ dktX13_load_2
def dkwX13_load_0 : List UInt8 := [42, 27, 182, 0, 190, 61, 28, 155, 0, 9, 42, 28, 182, 0, 128, 172, 3, 62, 29, 42, 180, 0, 32, 27]
abbrev dktX13_load_0 : List UInt8 := dkwX13_load_0 ++ dktX13_load_1
theorem dksX13_load_0 : cX13_load.data.toList.drop 0 = dktX13_load_0 := by decide +kernel
theorem dksX13_load_1 : cX13_load.data.toList.drop 24 = dktX13_load_1 := dk_seg dksX13_load_0 24 rfl rfl
theorem dksX13_load_2 : cX13_load.data.toList.drop 48 = dktX13_load_2 := dk_seg dksX13_load_1 24 rfl rfl
theorem dksX13_load_3 : cX13_load.data.toList.drop 70 = dktX13_load_3 := dk_seg dksX13_load_2 22 rfl rfl
theorem dX13_load_0 : decode cX13_load 0 = .ok (.aload_n 0, 1) := dk_42 (dk_at dksX13_load_0 0 rfl rfl)
theorem dX13_load_1 : decode cX13_load 1 = .ok (.iload_n 1, 1) := dk_27 (dk_at dksX13_load_0 1 rfl rfl)
theorem dX13_load_2 : decode cX13_load 2 = .ok (.invokevirtual 190, 3) := dk_182 0 190 (dk_at dksX13_load_0 2 rfl rfl)
theorem dX13_load_5 : decode cX13_load 5 = .ok (.istore_n 2, 1) := dk_61 (dk_at dksX13_load_0 5 rfl rfl)
theorem dX13_load_6 : decode cX13_load 6 = .ok (.iload_n 2, 1) := dk_28 (dk_at dksX13_load_0 6 rfl rfl)
theorem dX13_load_7 : decode cX13_load 7 = .ok (.ifCond .lt 9, 3) := dk_155 0 9 (dk_at dksX13_load_0 7 rfl rfl)
theorem dX13_load_10 : decode cX13_load 10 = .ok (.aload_n 0, 1) := dk_42 (dk_at dksX13_load_0 10 rfl rfl)
theorem dX13_load_11 : decode cX13_load 11 = .ok (.iload_n 2, 1) := dk_28 (dk_at dksX13_load_0 11 rfl rfl)
theorem dX13_load_12 : decode cX13_load 12 = .ok (.invokevirtual 128, 3) := dk_182 0 128 (dk_at dksX13_load_0 12 rfl rfl)
theorem dX13_load_15 : decode cX13_load 15 = .ok (.ireturn, 1) := dk_172 (dk_at dksX13_load_0 15 rfl rfl)
theorem dX13_load_16 : decode cX13_load 16 = .ok (.iconst 0, 1) := dk_3 (dk_at dksX13_load_0 16 rfl rfl)
theorem dX13_load_17 : decode cX13_load 17 = .ok (.istore_n 3, 1) := dk_62 (dk_at dksX13_load_0 17 rfl rfl)
theorem dX13_load_18 : decode cX13_load 18 = .ok (.iload_n 3, 1) := dk_29 (dk_at dksX13_load_0 18 rfl rfl)
theorem dX13_load_19 : decode cX13_load 19 = .ok (.aload_n 0, 1) := dk_42 (dk_at dksX13_load_0 19 rfl rfl)
theorem dX13_load_20 : decode cX13_load 20 = .ok (.getfield 32, 3) := dk_180 0 32 (dk_at dksX13_load_0 20 rfl rfl)
theorem dX13_load_23 : decode cX13_load 23 = .ok (.iload_n 1, 1) := dk_27 (dk_at dksX13_load_0 23 rfl rfl)
theorem dX13_load_24 : decode cX13_load 24 = .ok (.iaload, 1) := dk_46 (dk_at dksX13_load_1 0 rfl rfl)
theorem dX13_load_25 : decode cX13_load 25 = .ok (.if_icmp .ge 51, 3) := dk_162 0 51 (dk_at dksX13_load_1 1 rfl rfl)
theorem dX13_load_28 : decode cX13_load 28 = .ok (.iload_n 3, 1) := dk_29 (dk_at dksX13_load_1 4 rfl rfl)
theorem dX13_load_29 : decode cX13_load 29 = .ok (.bipush 6, 2) := dk_16 6 (dk_at dksX13_load_1 5 rfl rfl)
theorem dX13_load_31 : decode cX13_load 31 = .ok (.if_icmp .ge 45, 3) := dk_162 0 45 (dk_at dksX13_load_1 7 rfl rfl)
theorem dX13_load_34 : decode cX13_load 34 = .ok (.aload_n 0, 1) := dk_42 (dk_at dksX13_load_1 10 rfl rfl)
theorem dX13_load_35 : decode cX13_load 35 = .ok (.getfield 35, 3) := dk_180 0 35 (dk_at dksX13_load_1 11 rfl rfl)
theorem dX13_load_38 : decode cX13_load 38 = .ok (.bipush 40, 2) := dk_16 40 (dk_at dksX13_load_1 14 rfl rfl)
theorem dX13_load_40 : decode cX13_load 40 = .ok (.iload_n 1, 1) := dk_27 (dk_at dksX13_load_1 16 rfl rfl)
theorem dX13_load_41 : decode cX13_load 41 = .ok (.imul, 1) := dk_104 (dk_at dksX13_load_1 17 rfl rfl)
theorem dX13_load_42 : decode cX13_load 42 = .ok (.iload_n 3, 1) := dk_29 (dk_at dksX13_load_1 18 rfl rfl)
theorem dX13_load_43 : decode cX13_load 43 = .ok (.iadd, 1) := dk_96 (dk_at dksX13_load_1 19 rfl rfl)
theorem dX13_load_44 : decode cX13_load 44 = .ok (.iaload, 1) := dk_46 (dk_at dksX13_load_1 20 rfl rfl)
theorem dX13_load_45 : decode cX13_load 45 = .ok (.invokestatic 122, 3) := dk_184 0 122 (dk_at dksX13_load_1 21 rfl rfl)
theorem dX13_load_48 : decode cX13_load 48 = .ok (.ifCond .eq 28, 3) := dk_153 0 28 (dk_at dksX13_load_2 0 rfl rfl)
theorem dX13_load_51 : decode cX13_load 51 = .ok (.aload_n 0, 1) := dk_42 (dk_at dksX13_load_2 3 rfl rfl)
theorem dX13_load_52 : decode cX13_load 52 = .ok (.getfield 7, 3) := dk_180 0 7 (dk_at dksX13_load_2 4 rfl rfl)
theorem dX13_load_55 : decode cX13_load 55 = .ok (.iconst 3, 1) := dk_6 (dk_at dksX13_load_2 7 rfl rfl)
theorem dX13_load_56 : decode cX13_load 56 = .ok (.iload_n 3, 1) := dk_29 (dk_at dksX13_load_2 8 rfl rfl)
theorem dX13_load_57 : decode cX13_load 57 = .ok (.iadd, 1) := dk_96 (dk_at dksX13_load_2 9 rfl rfl)
theorem dX13_load_58 : decode cX13_load 58 = .ok (.aload_n 0, 1) := dk_42 (dk_at dksX13_load_2 10 rfl rfl)
theorem dX13_load_59 : decode cX13_load 59 = .ok (.getfield 35, 3) := dk_180 0 35 (dk_at dksX13_load_2 11 rfl rfl)
theorem dX13_load_62 : decode cX13_load 62 = .ok (.bipush 40, 2) := dk_16 40 (dk_at dksX13_load_2 14 rfl rfl)
theorem dX13_load_64 : decode cX13_load 64 = .ok (.iload_n 1, 1) := dk_27 (dk_at dksX13_load_2 16 rfl rfl)
theorem dX13_load_65 : decode cX13_load 65 = .ok (.imul, 1) := dk_104 (dk_at dksX13_load_2 17 rfl rfl)
theorem dX13_load_66 : decode cX13_load 66 = .ok (.iload_n 3, 1) := dk_29 (dk_at dksX13_load_2 18 rfl rfl)
theorem dX13_load_67 : decode cX13_load 67 = .ok (.iadd, 1) := dk_96 (dk_at dksX13_load_2 19 rfl rfl)
theorem dX13_load_68 : decode cX13_load 68 = .ok (.iaload, 1) := dk_46 (dk_at dksX13_load_2 20 rfl rfl)
theorem dX13_load_69 : decode cX13_load 69 = .ok (.iastore, 1) := dk_79 (dk_at dksX13_load_2 21 rfl rfl)
theorem dX13_load_70 : decode cX13_load 70 = .ok (.iinc 3 1, 3) := dk_132 3 1 (dk_at dksX13_load_3 0 rfl rfl)
theorem dX13_load_73 : decode cX13_load 73 = .ok (.goto (-55), 3) := dk_167 255 201 (dk_at dksX13_load_3 3 rfl rfl)
theorem dX13_load_76 : decode cX13_load 76 = .ok (.iload_n 3, 1) := dk_29 (dk_at dksX13_load_3 6 rfl rfl)
theorem dX13_load_77 : decode cX13_load 77 = .ok (.ireturn, 1) := dk_172 (dk_at dksX13_load_3 7 rfl rfl)
abbrev cX13_judge : ByteArray := prog_16_method_93_code
def yX13_judge : MethodName := ⟨RX13, "judge", "(I)I"⟩
def dkwX13_judge_2 : List UInt8 := [29, 8, 182, 0, 58, 159, 0, 7, 4, 29, 96, 172, 132, 3, 1, 167, 255, 211, 3, 172]
abbrev dktX13_judge_2 : List UInt8 := dkwX13_judge_2 ++ []
def dkwX13_judge_1 : List UInt8 := [46, 162, 0, 41, 42, 29, 182, 0, 138, 153, 0, 23, 42, 180, 0, 35, 16, 40, 27, 104, 29, 96, 46, 42]
abbrev dktX13_judge_1 : List UInt8 := dkwX13_judge_1 ++ dktX13_judge_2
def dkwX13_judge_0 : List UInt8 := [42, 27, 182, 0, 190, 61, 28, 155, 0, 9, 42, 28, 182, 0, 128, 172, 3, 62, 29, 42, 180, 0, 32, 27]
abbrev dktX13_judge_0 : List UInt8 := dkwX13_judge_0 ++ dktX13_judge_1
theorem dksX13_judge_0 : cX13_judge.data.toList.drop 0 = dktX13_judge_0 := by decide +kernel
theorem dksX13_judge_1 : cX13_judge.data.toList.drop 24 = dktX13_judge_1 := dk_seg dksX13_judge_0 24 rfl rfl
theorem dksX13_judge_2 : cX13_judge.data.toList.drop 48 = dktX13_judge_2 := dk_seg dksX13_judge_1 24 rfl rfl
theorem dX13_judge_0 : decode cX13_judge 0 = .ok (.aload_n 0, 1) := dk_42 (dk_at dksX13_judge_0 0 rfl rfl)
theorem dX13_judge_1 : decode cX13_judge 1 = .ok (.iload_n 1, 1) := dk_27 (dk_at dksX13_judge_0 1 rfl rfl)
theorem dX13_judge_2 : decode cX13_judge 2 = .ok (.invokevirtual 190, 3) := dk_182 0 190 (dk_at dksX13_judge_0 2 rfl rfl)
theorem dX13_judge_5 : decode cX13_judge 5 = .ok (.istore_n 2, 1) := dk_61 (dk_at dksX13_judge_0 5 rfl rfl)
theorem dX13_judge_6 : decode cX13_judge 6 = .ok (.iload_n 2, 1) := dk_28 (dk_at dksX13_judge_0 6 rfl rfl)
theorem dX13_judge_7 : decode cX13_judge 7 = .ok (.ifCond .lt 9, 3) := dk_155 0 9 (dk_at dksX13_judge_0 7 rfl rfl)
theorem dX13_judge_10 : decode cX13_judge 10 = .ok (.aload_n 0, 1) := dk_42 (dk_at dksX13_judge_0 10 rfl rfl)
theorem dX13_judge_11 : decode cX13_judge 11 = .ok (.iload_n 2, 1) := dk_28 (dk_at dksX13_judge_0 11 rfl rfl)
theorem dX13_judge_12 : decode cX13_judge 12 = .ok (.invokevirtual 128, 3) := dk_182 0 128 (dk_at dksX13_judge_0 12 rfl rfl)
theorem dX13_judge_15 : decode cX13_judge 15 = .ok (.ireturn, 1) := dk_172 (dk_at dksX13_judge_0 15 rfl rfl)
theorem dX13_judge_16 : decode cX13_judge 16 = .ok (.iconst 0, 1) := dk_3 (dk_at dksX13_judge_0 16 rfl rfl)
theorem dX13_judge_17 : decode cX13_judge 17 = .ok (.istore_n 3, 1) := dk_62 (dk_at dksX13_judge_0 17 rfl rfl)
theorem dX13_judge_18 : decode cX13_judge 18 = .ok (.iload_n 3, 1) := dk_29 (dk_at dksX13_judge_0 18 rfl rfl)
theorem dX13_judge_19 : decode cX13_judge 19 = .ok (.aload_n 0, 1) := dk_42 (dk_at dksX13_judge_0 19 rfl rfl)
theorem dX13_judge_20 : decode cX13_judge 20 = .ok (.getfield 32, 3) := dk_180 0 32 (dk_at dksX13_judge_0 20 rfl rfl)
theorem dX13_judge_23 : decode cX13_judge 23 = .ok (.iload_n 1, 1) := dk_27 (dk_at dksX13_judge_0 23 rfl rfl)
theorem dX13_judge_24 : decode cX13_judge 24 = .ok (.iaload, 1) := dk_46 (dk_at dksX13_judge_1 0 rfl rfl)
theorem dX13_judge_25 : decode cX13_judge 25 = .ok (.if_icmp .ge 41, 3) := dk_162 0 41 (dk_at dksX13_judge_1 1 rfl rfl)
theorem dX13_judge_28 : decode cX13_judge 28 = .ok (.aload_n 0, 1) := dk_42 (dk_at dksX13_judge_1 4 rfl rfl)
theorem dX13_judge_29 : decode cX13_judge 29 = .ok (.iload_n 3, 1) := dk_29 (dk_at dksX13_judge_1 5 rfl rfl)
theorem dX13_judge_30 : decode cX13_judge 30 = .ok (.invokevirtual 138, 3) := dk_182 0 138 (dk_at dksX13_judge_1 6 rfl rfl)
theorem dX13_judge_33 : decode cX13_judge 33 = .ok (.ifCond .eq 23, 3) := dk_153 0 23 (dk_at dksX13_judge_1 9 rfl rfl)
theorem dX13_judge_36 : decode cX13_judge 36 = .ok (.aload_n 0, 1) := dk_42 (dk_at dksX13_judge_1 12 rfl rfl)
theorem dX13_judge_37 : decode cX13_judge 37 = .ok (.getfield 35, 3) := dk_180 0 35 (dk_at dksX13_judge_1 13 rfl rfl)
theorem dX13_judge_40 : decode cX13_judge 40 = .ok (.bipush 40, 2) := dk_16 40 (dk_at dksX13_judge_1 16 rfl rfl)
theorem dX13_judge_42 : decode cX13_judge 42 = .ok (.iload_n 1, 1) := dk_27 (dk_at dksX13_judge_1 18 rfl rfl)
theorem dX13_judge_43 : decode cX13_judge 43 = .ok (.imul, 1) := dk_104 (dk_at dksX13_judge_1 19 rfl rfl)
theorem dX13_judge_44 : decode cX13_judge 44 = .ok (.iload_n 3, 1) := dk_29 (dk_at dksX13_judge_1 20 rfl rfl)
theorem dX13_judge_45 : decode cX13_judge 45 = .ok (.iadd, 1) := dk_96 (dk_at dksX13_judge_1 21 rfl rfl)
theorem dX13_judge_46 : decode cX13_judge 46 = .ok (.iaload, 1) := dk_46 (dk_at dksX13_judge_1 22 rfl rfl)
theorem dX13_judge_47 : decode cX13_judge 47 = .ok (.aload_n 0, 1) := dk_42 (dk_at dksX13_judge_1 23 rfl rfl)
theorem dX13_judge_48 : decode cX13_judge 48 = .ok (.iload_n 3, 1) := dk_29 (dk_at dksX13_judge_2 0 rfl rfl)
theorem dX13_judge_49 : decode cX13_judge 49 = .ok (.iconst 5, 1) := dk_8 (dk_at dksX13_judge_2 1 rfl rfl)
theorem dX13_judge_50 : decode cX13_judge 50 = .ok (.invokevirtual 58, 3) := dk_182 0 58 (dk_at dksX13_judge_2 2 rfl rfl)
theorem dX13_judge_53 : decode cX13_judge 53 = .ok (.if_icmp .eq 7, 3) := dk_159 0 7 (dk_at dksX13_judge_2 5 rfl rfl)
theorem dX13_judge_56 : decode cX13_judge 56 = .ok (.iconst 1, 1) := dk_4 (dk_at dksX13_judge_2 8 rfl rfl)
theorem dX13_judge_57 : decode cX13_judge 57 = .ok (.iload_n 3, 1) := dk_29 (dk_at dksX13_judge_2 9 rfl rfl)
theorem dX13_judge_58 : decode cX13_judge 58 = .ok (.iadd, 1) := dk_96 (dk_at dksX13_judge_2 10 rfl rfl)
theorem dX13_judge_59 : decode cX13_judge 59 = .ok (.ireturn, 1) := dk_172 (dk_at dksX13_judge_2 11 rfl rfl)
theorem dX13_judge_60 : decode cX13_judge 60 = .ok (.iinc 3 1, 3) := dk_132 3 1 (dk_at dksX13_judge_2 12 rfl rfl)
theorem dX13_judge_63 : decode cX13_judge 63 = .ok (.goto (-45), 3) := dk_167 255 211 (dk_at dksX13_judge_2 15 rfl rfl)
theorem dX13_judge_66 : decode cX13_judge 66 = .ok (.iconst 0, 1) := dk_3 (dk_at dksX13_judge_2 18 rfl rfl)
theorem dX13_judge_67 : decode cX13_judge 67 = .ok (.ireturn, 1) := dk_172 (dk_at dksX13_judge_2 19 rfl rfl)
abbrev cX13_image : ByteArray := prog_16_method_94_code
def yX13_image : MethodName := ⟨RX13, "image", "()I"⟩
def dkwX13_image_0 : List UInt8 := [42, 180, 0, 7, 42, 180, 0, 19, 184, 0, 167, 42, 4, 181, 1, 56, 4, 172]
abbrev dktX13_image_0 : List UInt8 := dkwX13_image_0 ++ []
theorem dksX13_image_0 : cX13_image.data.toList.drop 0 = dktX13_image_0 := by decide +kernel
theorem dX13_image_0 : decode cX13_image 0 = .ok (.aload_n 0, 1) := dk_42 (dk_at dksX13_image_0 0 rfl rfl)
theorem dX13_image_1 : decode cX13_image 1 = .ok (.getfield 7, 3) := dk_180 0 7 (dk_at dksX13_image_0 1 rfl rfl)
theorem dX13_image_4 : decode cX13_image 4 = .ok (.aload_n 0, 1) := dk_42 (dk_at dksX13_image_0 4 rfl rfl)
theorem dX13_image_5 : decode cX13_image 5 = .ok (.getfield 19, 3) := dk_180 0 19 (dk_at dksX13_image_0 5 rfl rfl)
theorem dX13_image_8 : decode cX13_image 8 = .ok (.invokestatic 167, 3) := dk_184 0 167 (dk_at dksX13_image_0 8 rfl rfl)
theorem dX13_image_11 : decode cX13_image 11 = .ok (.aload_n 0, 1) := dk_42 (dk_at dksX13_image_0 11 rfl rfl)
theorem dX13_image_12 : decode cX13_image 12 = .ok (.iconst 1, 1) := dk_4 (dk_at dksX13_image_0 12 rfl rfl)
theorem dX13_image_13 : decode cX13_image 13 = .ok (.putfield 312, 3) := dk_181 1 56 (dk_at dksX13_image_0 13 rfl rfl)
theorem dX13_image_16 : decode cX13_image 16 = .ok (.iconst 1, 1) := dk_4 (dk_at dksX13_image_0 16 rfl rfl)
theorem dX13_image_17 : decode cX13_image 17 = .ok (.ireturn, 1) := dk_172 (dk_at dksX13_image_0 17 rfl rfl)
abbrev cX13_undo : ByteArray := prog_16_method_95_code
def yX13_undo : MethodName := ⟨RX13, "undo", "()I"⟩
def dkwX13_undo_1 : List UInt8 := [42, 180, 0, 7, 4, 46, 172]
abbrev dktX13_undo_1 : List UInt8 := dkwX13_undo_1 ++ []
def dkwX13_undo_0 : List UInt8 := [42, 180, 1, 56, 154, 0, 9, 42, 6, 182, 0, 128, 172, 42, 180, 0, 19, 42, 180, 0, 7, 184, 0, 167]
abbrev dktX13_undo_0 : List UInt8 := dkwX13_undo_0 ++ dktX13_undo_1
theorem dksX13_undo_0 : cX13_undo.data.toList.drop 0 = dktX13_undo_0 := by decide +kernel
theorem dksX13_undo_1 : cX13_undo.data.toList.drop 24 = dktX13_undo_1 := dk_seg dksX13_undo_0 24 rfl rfl
theorem dX13_undo_0 : decode cX13_undo 0 = .ok (.aload_n 0, 1) := dk_42 (dk_at dksX13_undo_0 0 rfl rfl)
theorem dX13_undo_1 : decode cX13_undo 1 = .ok (.getfield 312, 3) := dk_180 1 56 (dk_at dksX13_undo_0 1 rfl rfl)
theorem dX13_undo_4 : decode cX13_undo 4 = .ok (.ifCond .ne 9, 3) := dk_154 0 9 (dk_at dksX13_undo_0 4 rfl rfl)
theorem dX13_undo_7 : decode cX13_undo 7 = .ok (.aload_n 0, 1) := dk_42 (dk_at dksX13_undo_0 7 rfl rfl)
theorem dX13_undo_8 : decode cX13_undo 8 = .ok (.iconst 3, 1) := dk_6 (dk_at dksX13_undo_0 8 rfl rfl)
theorem dX13_undo_9 : decode cX13_undo 9 = .ok (.invokevirtual 128, 3) := dk_182 0 128 (dk_at dksX13_undo_0 9 rfl rfl)
theorem dX13_undo_12 : decode cX13_undo 12 = .ok (.ireturn, 1) := dk_172 (dk_at dksX13_undo_0 12 rfl rfl)
theorem dX13_undo_13 : decode cX13_undo 13 = .ok (.aload_n 0, 1) := dk_42 (dk_at dksX13_undo_0 13 rfl rfl)
theorem dX13_undo_14 : decode cX13_undo 14 = .ok (.getfield 19, 3) := dk_180 0 19 (dk_at dksX13_undo_0 14 rfl rfl)
theorem dX13_undo_17 : decode cX13_undo 17 = .ok (.aload_n 0, 1) := dk_42 (dk_at dksX13_undo_0 17 rfl rfl)
theorem dX13_undo_18 : decode cX13_undo 18 = .ok (.getfield 7, 3) := dk_180 0 7 (dk_at dksX13_undo_0 18 rfl rfl)
theorem dX13_undo_21 : decode cX13_undo 21 = .ok (.invokestatic 167, 3) := dk_184 0 167 (dk_at dksX13_undo_0 21 rfl rfl)
theorem dX13_undo_24 : decode cX13_undo 24 = .ok (.aload_n 0, 1) := dk_42 (dk_at dksX13_undo_1 0 rfl rfl)
theorem dX13_undo_25 : decode cX13_undo 25 = .ok (.getfield 7, 3) := dk_180 0 7 (dk_at dksX13_undo_1 1 rfl rfl)
theorem dX13_undo_28 : decode cX13_undo 28 = .ok (.iconst 1, 1) := dk_4 (dk_at dksX13_undo_1 4 rfl rfl)
theorem dX13_undo_29 : decode cX13_undo 29 = .ok (.iaload, 1) := dk_46 (dk_at dksX13_undo_1 5 rfl rfl)
theorem dX13_undo_30 : decode cX13_undo 30 = .ok (.ireturn, 1) := dk_172 (dk_at dksX13_undo_1 6 rfl rfl)
abbrev cX13_tear : ByteArray := prog_16_method_96_code
def yX13_tear : MethodName := ⟨RX13, "tear", "()I"⟩
def dkwX13_tear_0 : List UInt8 := [42, 180, 1, 56, 153, 0, 7, 4, 167, 0, 4, 3, 60, 42, 3, 181, 1, 56, 27, 172]
abbrev dktX13_tear_0 : List UInt8 := dkwX13_tear_0 ++ []
theorem dksX13_tear_0 : cX13_tear.data.toList.drop 0 = dktX13_tear_0 := by decide +kernel
theorem dX13_tear_0 : decode cX13_tear 0 = .ok (.aload_n 0, 1) := dk_42 (dk_at dksX13_tear_0 0 rfl rfl)
theorem dX13_tear_1 : decode cX13_tear 1 = .ok (.getfield 312, 3) := dk_180 1 56 (dk_at dksX13_tear_0 1 rfl rfl)
theorem dX13_tear_4 : decode cX13_tear 4 = .ok (.ifCond .eq 7, 3) := dk_153 0 7 (dk_at dksX13_tear_0 4 rfl rfl)
theorem dX13_tear_7 : decode cX13_tear 7 = .ok (.iconst 1, 1) := dk_4 (dk_at dksX13_tear_0 7 rfl rfl)
theorem dX13_tear_8 : decode cX13_tear 8 = .ok (.goto 4, 3) := dk_167 0 4 (dk_at dksX13_tear_0 8 rfl rfl)
theorem dX13_tear_11 : decode cX13_tear 11 = .ok (.iconst 0, 1) := dk_3 (dk_at dksX13_tear_0 11 rfl rfl)
theorem dX13_tear_12 : decode cX13_tear 12 = .ok (.istore_n 1, 1) := dk_60 (dk_at dksX13_tear_0 12 rfl rfl)
theorem dX13_tear_13 : decode cX13_tear 13 = .ok (.aload_n 0, 1) := dk_42 (dk_at dksX13_tear_0 13 rfl rfl)
theorem dX13_tear_14 : decode cX13_tear 14 = .ok (.iconst 0, 1) := dk_3 (dk_at dksX13_tear_0 14 rfl rfl)
theorem dX13_tear_15 : decode cX13_tear 15 = .ok (.putfield 312, 3) := dk_181 1 56 (dk_at dksX13_tear_0 15 rfl rfl)
theorem dX13_tear_18 : decode cX13_tear 18 = .ok (.iload_n 1, 1) := dk_27 (dk_at dksX13_tear_0 18 rfl rfl)
theorem dX13_tear_19 : decode cX13_tear 19 = .ok (.ireturn, 1) := dk_172 (dk_at dksX13_tear_0 19 rfl rfl)
abbrev cX13_count : ByteArray := prog_16_method_98_code
def yX13_count : MethodName := ⟨RX13, "count", "(I)I"⟩
def dkwX13_count_4 : List UInt8 := [42, 182, 1, 60, 172, 42, 3, 182, 0, 128, 172]
abbrev dktX13_count_4 : List UInt8 := dkwX13_count_4 ++ []
def dkwX13_count_3 : List UInt8 := [182, 0, 158, 184, 0, 84, 172, 42, 182, 0, 161, 172, 42, 180, 0, 205, 172, 42, 180, 0, 7, 5, 46, 172]
abbrev dktX13_count_3 : List UInt8 := dkwX13_count_3 ++ dktX13_count_4
def dkwX13_count_2 : List UInt8 := [42, 180, 0, 7, 4, 46, 172, 42, 180, 0, 7, 3, 46, 172, 42, 182, 0, 155, 184, 0, 84, 172, 42]
abbrev dktX13_count_2 : List UInt8 := dkwX13_count_2 ++ dktX13_count_3
def dkwX13_count_1 : List UInt8 := [170, 0, 0, 0, 0, 0, 99, 0, 0, 0, 0, 0, 0, 0, 7, 0, 0, 0, 47, 0, 0, 0, 54, 0, 0, 0, 61, 0, 0, 0, 69, 0, 0, 0, 77, 0, 0, 0, 82, 0, 0, 0, 87, 0, 0, 0, 94]
abbrev dktX13_count_1 : List UInt8 := dkwX13_count_1 ++ dktX13_count_2
def dkwX13_count_0 : List UInt8 := [27]
abbrev dktX13_count_0 : List UInt8 := dkwX13_count_0 ++ dktX13_count_1
theorem dksX13_count_0 : cX13_count.data.toList.drop 0 = dktX13_count_0 := by decide +kernel
theorem dksX13_count_1 : cX13_count.data.toList.drop 1 = dktX13_count_1 := dk_seg dksX13_count_0 1 rfl rfl
theorem dksX13_count_2 : cX13_count.data.toList.drop 48 = dktX13_count_2 := dk_seg dksX13_count_1 47 rfl rfl
theorem dksX13_count_3 : cX13_count.data.toList.drop 71 = dktX13_count_3 := dk_seg dksX13_count_2 23 rfl rfl
theorem dksX13_count_4 : cX13_count.data.toList.drop 95 = dktX13_count_4 := dk_seg dksX13_count_3 24 rfl rfl
theorem dX13_count_0 : decode cX13_count 0 = .ok (.iload_n 1, 1) := dk_27 (dk_at dksX13_count_0 0 rfl rfl)
theorem dX13_count_1 : decode cX13_count 1 = .ok (.tableswitch 99 0 7 #[47, 54, 61, 69, 77, 82, 87, 94], 47) := by decide +kernel
theorem dX13_count_48 : decode cX13_count 48 = .ok (.aload_n 0, 1) := dk_42 (dk_at dksX13_count_2 0 rfl rfl)
theorem dX13_count_49 : decode cX13_count 49 = .ok (.getfield 7, 3) := dk_180 0 7 (dk_at dksX13_count_2 1 rfl rfl)
theorem dX13_count_52 : decode cX13_count 52 = .ok (.iconst 1, 1) := dk_4 (dk_at dksX13_count_2 4 rfl rfl)
theorem dX13_count_53 : decode cX13_count 53 = .ok (.iaload, 1) := dk_46 (dk_at dksX13_count_2 5 rfl rfl)
theorem dX13_count_54 : decode cX13_count 54 = .ok (.ireturn, 1) := dk_172 (dk_at dksX13_count_2 6 rfl rfl)
theorem dX13_count_55 : decode cX13_count 55 = .ok (.aload_n 0, 1) := dk_42 (dk_at dksX13_count_2 7 rfl rfl)
theorem dX13_count_56 : decode cX13_count 56 = .ok (.getfield 7, 3) := dk_180 0 7 (dk_at dksX13_count_2 8 rfl rfl)
theorem dX13_count_59 : decode cX13_count 59 = .ok (.iconst 0, 1) := dk_3 (dk_at dksX13_count_2 11 rfl rfl)
theorem dX13_count_60 : decode cX13_count 60 = .ok (.iaload, 1) := dk_46 (dk_at dksX13_count_2 12 rfl rfl)
theorem dX13_count_61 : decode cX13_count 61 = .ok (.ireturn, 1) := dk_172 (dk_at dksX13_count_2 13 rfl rfl)
theorem dX13_count_62 : decode cX13_count 62 = .ok (.aload_n 0, 1) := dk_42 (dk_at dksX13_count_2 14 rfl rfl)
theorem dX13_count_63 : decode cX13_count 63 = .ok (.invokevirtual 155, 3) := dk_182 0 155 (dk_at dksX13_count_2 15 rfl rfl)
theorem dX13_count_66 : decode cX13_count 66 = .ok (.invokestatic 84, 3) := dk_184 0 84 (dk_at dksX13_count_2 18 rfl rfl)
theorem dX13_count_69 : decode cX13_count 69 = .ok (.ireturn, 1) := dk_172 (dk_at dksX13_count_2 21 rfl rfl)
theorem dX13_count_70 : decode cX13_count 70 = .ok (.aload_n 0, 1) := dk_42 (dk_at dksX13_count_2 22 rfl rfl)
theorem dX13_count_71 : decode cX13_count 71 = .ok (.invokevirtual 158, 3) := dk_182 0 158 (dk_at dksX13_count_3 0 rfl rfl)
theorem dX13_count_74 : decode cX13_count 74 = .ok (.invokestatic 84, 3) := dk_184 0 84 (dk_at dksX13_count_3 3 rfl rfl)
theorem dX13_count_77 : decode cX13_count 77 = .ok (.ireturn, 1) := dk_172 (dk_at dksX13_count_3 6 rfl rfl)
theorem dX13_count_78 : decode cX13_count 78 = .ok (.aload_n 0, 1) := dk_42 (dk_at dksX13_count_3 7 rfl rfl)
theorem dX13_count_79 : decode cX13_count 79 = .ok (.invokevirtual 161, 3) := dk_182 0 161 (dk_at dksX13_count_3 8 rfl rfl)
theorem dX13_count_82 : decode cX13_count 82 = .ok (.ireturn, 1) := dk_172 (dk_at dksX13_count_3 11 rfl rfl)
theorem dX13_count_83 : decode cX13_count 83 = .ok (.aload_n 0, 1) := dk_42 (dk_at dksX13_count_3 12 rfl rfl)
theorem dX13_count_84 : decode cX13_count 84 = .ok (.getfield 205, 3) := dk_180 0 205 (dk_at dksX13_count_3 13 rfl rfl)
theorem dX13_count_87 : decode cX13_count 87 = .ok (.ireturn, 1) := dk_172 (dk_at dksX13_count_3 16 rfl rfl)
theorem dX13_count_88 : decode cX13_count 88 = .ok (.aload_n 0, 1) := dk_42 (dk_at dksX13_count_3 17 rfl rfl)
theorem dX13_count_89 : decode cX13_count 89 = .ok (.getfield 7, 3) := dk_180 0 7 (dk_at dksX13_count_3 18 rfl rfl)
theorem dX13_count_92 : decode cX13_count 92 = .ok (.iconst 2, 1) := dk_5 (dk_at dksX13_count_3 21 rfl rfl)
theorem dX13_count_93 : decode cX13_count 93 = .ok (.iaload, 1) := dk_46 (dk_at dksX13_count_3 22 rfl rfl)
theorem dX13_count_94 : decode cX13_count 94 = .ok (.ireturn, 1) := dk_172 (dk_at dksX13_count_3 23 rfl rfl)
theorem dX13_count_95 : decode cX13_count 95 = .ok (.aload_n 0, 1) := dk_42 (dk_at dksX13_count_4 0 rfl rfl)
theorem dX13_count_96 : decode cX13_count 96 = .ok (.invokevirtual 316, 3) := dk_182 1 60 (dk_at dksX13_count_4 1 rfl rfl)
theorem dX13_count_99 : decode cX13_count 99 = .ok (.ireturn, 1) := dk_172 (dk_at dksX13_count_4 4 rfl rfl)
theorem dX13_count_100 : decode cX13_count 100 = .ok (.aload_n 0, 1) := dk_42 (dk_at dksX13_count_4 5 rfl rfl)
theorem dX13_count_101 : decode cX13_count 101 = .ok (.iconst 0, 1) := dk_3 (dk_at dksX13_count_4 6 rfl rfl)
theorem dX13_count_102 : decode cX13_count 102 = .ok (.invokevirtual 128, 3) := dk_182 0 128 (dk_at dksX13_count_4 7 rfl rfl)
theorem dX13_count_105 : decode cX13_count 105 = .ok (.ireturn, 1) := dk_172 (dk_at dksX13_count_4 10 rfl rfl)
abbrev cX13_holding : ByteArray := prog_16_method_97_code
def yX13_holding : MethodName := ⟨RX13, "holding", "()I"⟩
def dkwX13_holding_1 : List UInt8 := [167, 0, 4, 3, 96, 60, 132, 2, 1, 167, 255, 227, 27, 172]
abbrev dktX13_holding_1 : List UInt8 := dkwX13_holding_1 ++ []
def dkwX13_holding_0 : List UInt8 := [3, 60, 3, 61, 28, 16, 10, 162, 0, 29, 27, 42, 180, 0, 7, 16, 65, 28, 96, 46, 158, 0, 7, 4]
abbrev dktX13_holding_0 : List UInt8 := dkwX13_holding_0 ++ dktX13_holding_1
theorem dksX13_holding_0 : cX13_holding.data.toList.drop 0 = dktX13_holding_0 := by decide +kernel
theorem dksX13_holding_1 : cX13_holding.data.toList.drop 24 = dktX13_holding_1 := dk_seg dksX13_holding_0 24 rfl rfl
theorem dX13_holding_0 : decode cX13_holding 0 = .ok (.iconst 0, 1) := dk_3 (dk_at dksX13_holding_0 0 rfl rfl)
theorem dX13_holding_1 : decode cX13_holding 1 = .ok (.istore_n 1, 1) := dk_60 (dk_at dksX13_holding_0 1 rfl rfl)
theorem dX13_holding_2 : decode cX13_holding 2 = .ok (.iconst 0, 1) := dk_3 (dk_at dksX13_holding_0 2 rfl rfl)
theorem dX13_holding_3 : decode cX13_holding 3 = .ok (.istore_n 2, 1) := dk_61 (dk_at dksX13_holding_0 3 rfl rfl)
theorem dX13_holding_4 : decode cX13_holding 4 = .ok (.iload_n 2, 1) := dk_28 (dk_at dksX13_holding_0 4 rfl rfl)
theorem dX13_holding_5 : decode cX13_holding 5 = .ok (.bipush 10, 2) := dk_16 10 (dk_at dksX13_holding_0 5 rfl rfl)
theorem dX13_holding_7 : decode cX13_holding 7 = .ok (.if_icmp .ge 29, 3) := dk_162 0 29 (dk_at dksX13_holding_0 7 rfl rfl)
theorem dX13_holding_10 : decode cX13_holding 10 = .ok (.iload_n 1, 1) := dk_27 (dk_at dksX13_holding_0 10 rfl rfl)
theorem dX13_holding_11 : decode cX13_holding 11 = .ok (.aload_n 0, 1) := dk_42 (dk_at dksX13_holding_0 11 rfl rfl)
theorem dX13_holding_12 : decode cX13_holding 12 = .ok (.getfield 7, 3) := dk_180 0 7 (dk_at dksX13_holding_0 12 rfl rfl)
theorem dX13_holding_15 : decode cX13_holding 15 = .ok (.bipush 65, 2) := dk_16 65 (dk_at dksX13_holding_0 15 rfl rfl)
theorem dX13_holding_17 : decode cX13_holding 17 = .ok (.iload_n 2, 1) := dk_28 (dk_at dksX13_holding_0 17 rfl rfl)
theorem dX13_holding_18 : decode cX13_holding 18 = .ok (.iadd, 1) := dk_96 (dk_at dksX13_holding_0 18 rfl rfl)
theorem dX13_holding_19 : decode cX13_holding 19 = .ok (.iaload, 1) := dk_46 (dk_at dksX13_holding_0 19 rfl rfl)
theorem dX13_holding_20 : decode cX13_holding 20 = .ok (.ifCond .le 7, 3) := dk_158 0 7 (dk_at dksX13_holding_0 20 rfl rfl)
theorem dX13_holding_23 : decode cX13_holding 23 = .ok (.iconst 1, 1) := dk_4 (dk_at dksX13_holding_0 23 rfl rfl)
theorem dX13_holding_24 : decode cX13_holding 24 = .ok (.goto 4, 3) := dk_167 0 4 (dk_at dksX13_holding_1 0 rfl rfl)
theorem dX13_holding_27 : decode cX13_holding 27 = .ok (.iconst 0, 1) := dk_3 (dk_at dksX13_holding_1 3 rfl rfl)
theorem dX13_holding_28 : decode cX13_holding 28 = .ok (.iadd, 1) := dk_96 (dk_at dksX13_holding_1 4 rfl rfl)
theorem dX13_holding_29 : decode cX13_holding 29 = .ok (.istore_n 1, 1) := dk_60 (dk_at dksX13_holding_1 5 rfl rfl)
theorem dX13_holding_30 : decode cX13_holding 30 = .ok (.iinc 2 1, 3) := dk_132 2 1 (dk_at dksX13_holding_1 6 rfl rfl)
theorem dX13_holding_33 : decode cX13_holding 33 = .ok (.goto (-29), 3) := dk_167 255 227 (dk_at dksX13_holding_1 9 rfl rfl)
theorem dX13_holding_36 : decode cX13_holding 36 = .ok (.iload_n 1, 1) := dk_27 (dk_at dksX13_holding_1 12 rfl rfl)
theorem dX13_holding_37 : decode cX13_holding 37 = .ok (.ireturn, 1) := dk_172 (dk_at dksX13_holding_1 13 rfl rfl)
abbrev cX13_status : ByteArray := prog_16_method_99_code
def yX13_status : MethodName := ⟨RX13, "status", "(I)I"⟩
def dkwX13_status_2 : List UInt8 := [156, 0, 7, 28, 167, 0, 9, 42, 180, 0, 22, 27, 46, 172]
abbrev dktX13_status_2 : List UInt8 := dkwX13_status_2 ++ []
def dkwX13_status_1 : List UInt8 := [29, 16, 7, 162, 0, 18, 28, 42, 180, 0, 22, 29, 46, 96, 61, 132, 3, 1, 167, 255, 238, 27]
abbrev dktX13_status_1 : List UInt8 := dkwX13_status_1 ++ dktX13_status_2
def dkwX13_status_0 : List UInt8 := [27, 133, 20, 1, 48, 20, 0, 133, 184, 0, 42, 154, 0, 9, 42, 3, 182, 0, 128, 172, 3, 61, 3, 62]
abbrev dktX13_status_0 : List UInt8 := dkwX13_status_0 ++ dktX13_status_1
theorem dksX13_status_0 : cX13_status.data.toList.drop 0 = dktX13_status_0 := by decide +kernel
theorem dksX13_status_1 : cX13_status.data.toList.drop 24 = dktX13_status_1 := dk_seg dksX13_status_0 24 rfl rfl
theorem dksX13_status_2 : cX13_status.data.toList.drop 46 = dktX13_status_2 := dk_seg dksX13_status_1 22 rfl rfl
theorem dX13_status_0 : decode cX13_status 0 = .ok (.iload_n 1, 1) := dk_27 (dk_at dksX13_status_0 0 rfl rfl)
theorem dX13_status_1 : decode cX13_status 1 = .ok (.i2l, 1) := dk_133 (dk_at dksX13_status_0 1 rfl rfl)
theorem dX13_status_2 : decode cX13_status 2 = .ok (.ldc2_w 304, 3) := dk_20 1 48 (dk_at dksX13_status_0 2 rfl rfl)
theorem dX13_status_5 : decode cX13_status 5 = .ok (.ldc2_w 133, 3) := dk_20 0 133 (dk_at dksX13_status_0 5 rfl rfl)
theorem dX13_status_8 : decode cX13_status 8 = .ok (.invokestatic 42, 3) := dk_184 0 42 (dk_at dksX13_status_0 8 rfl rfl)
theorem dX13_status_11 : decode cX13_status 11 = .ok (.ifCond .ne 9, 3) := dk_154 0 9 (dk_at dksX13_status_0 11 rfl rfl)
theorem dX13_status_14 : decode cX13_status 14 = .ok (.aload_n 0, 1) := dk_42 (dk_at dksX13_status_0 14 rfl rfl)
theorem dX13_status_15 : decode cX13_status 15 = .ok (.iconst 0, 1) := dk_3 (dk_at dksX13_status_0 15 rfl rfl)
theorem dX13_status_16 : decode cX13_status 16 = .ok (.invokevirtual 128, 3) := dk_182 0 128 (dk_at dksX13_status_0 16 rfl rfl)
theorem dX13_status_19 : decode cX13_status 19 = .ok (.ireturn, 1) := dk_172 (dk_at dksX13_status_0 19 rfl rfl)
theorem dX13_status_20 : decode cX13_status 20 = .ok (.iconst 0, 1) := dk_3 (dk_at dksX13_status_0 20 rfl rfl)
theorem dX13_status_21 : decode cX13_status 21 = .ok (.istore_n 2, 1) := dk_61 (dk_at dksX13_status_0 21 rfl rfl)
theorem dX13_status_22 : decode cX13_status 22 = .ok (.iconst 0, 1) := dk_3 (dk_at dksX13_status_0 22 rfl rfl)
theorem dX13_status_23 : decode cX13_status 23 = .ok (.istore_n 3, 1) := dk_62 (dk_at dksX13_status_0 23 rfl rfl)
theorem dX13_status_24 : decode cX13_status 24 = .ok (.iload_n 3, 1) := dk_29 (dk_at dksX13_status_1 0 rfl rfl)
theorem dX13_status_25 : decode cX13_status 25 = .ok (.bipush 7, 2) := dk_16 7 (dk_at dksX13_status_1 1 rfl rfl)
theorem dX13_status_27 : decode cX13_status 27 = .ok (.if_icmp .ge 18, 3) := dk_162 0 18 (dk_at dksX13_status_1 3 rfl rfl)
theorem dX13_status_30 : decode cX13_status 30 = .ok (.iload_n 2, 1) := dk_28 (dk_at dksX13_status_1 6 rfl rfl)
theorem dX13_status_31 : decode cX13_status 31 = .ok (.aload_n 0, 1) := dk_42 (dk_at dksX13_status_1 7 rfl rfl)
theorem dX13_status_32 : decode cX13_status 32 = .ok (.getfield 22, 3) := dk_180 0 22 (dk_at dksX13_status_1 8 rfl rfl)
theorem dX13_status_35 : decode cX13_status 35 = .ok (.iload_n 3, 1) := dk_29 (dk_at dksX13_status_1 11 rfl rfl)
theorem dX13_status_36 : decode cX13_status 36 = .ok (.iaload, 1) := dk_46 (dk_at dksX13_status_1 12 rfl rfl)
theorem dX13_status_37 : decode cX13_status 37 = .ok (.iadd, 1) := dk_96 (dk_at dksX13_status_1 13 rfl rfl)
theorem dX13_status_38 : decode cX13_status 38 = .ok (.istore_n 2, 1) := dk_61 (dk_at dksX13_status_1 14 rfl rfl)
theorem dX13_status_39 : decode cX13_status 39 = .ok (.iinc 3 1, 3) := dk_132 3 1 (dk_at dksX13_status_1 15 rfl rfl)
theorem dX13_status_42 : decode cX13_status 42 = .ok (.goto (-18), 3) := dk_167 255 238 (dk_at dksX13_status_1 18 rfl rfl)
theorem dX13_status_45 : decode cX13_status 45 = .ok (.iload_n 1, 1) := dk_27 (dk_at dksX13_status_1 21 rfl rfl)
theorem dX13_status_46 : decode cX13_status 46 = .ok (.ifCond .ge 7, 3) := dk_156 0 7 (dk_at dksX13_status_2 0 rfl rfl)
theorem dX13_status_49 : decode cX13_status 49 = .ok (.iload_n 2, 1) := dk_28 (dk_at dksX13_status_2 3 rfl rfl)
theorem dX13_status_50 : decode cX13_status 50 = .ok (.goto 9, 3) := dk_167 0 9 (dk_at dksX13_status_2 4 rfl rfl)
theorem dX13_status_53 : decode cX13_status 53 = .ok (.aload_n 0, 1) := dk_42 (dk_at dksX13_status_2 7 rfl rfl)
theorem dX13_status_54 : decode cX13_status 54 = .ok (.getfield 22, 3) := dk_180 0 22 (dk_at dksX13_status_2 8 rfl rfl)
theorem dX13_status_57 : decode cX13_status 57 = .ok (.iload_n 1, 1) := dk_27 (dk_at dksX13_status_2 11 rfl rfl)
theorem dX13_status_58 : decode cX13_status 58 = .ok (.iaload, 1) := dk_46 (dk_at dksX13_status_2 12 rfl rfl)
theorem dX13_status_59 : decode cX13_status 59 = .ok (.ireturn, 1) := dk_172 (dk_at dksX13_status_2 13 rfl rfl)
theorem q107 : (Jvm.Cond.initialized "LeftGlovesModel") ∈ lw_all := lw_g (lw_at lw_m1 17 rfl) rfl
theorem q1159 : (Jvm.Cond.instantiable "LeftGlovesModel" (18 : Nat)) ∈ lw_all := lw_g (lw_at lw_m5 109 rfl) rfl
theorem q1161 : (Jvm.Cond.instanceMethod ({ cls := "LeftGlovesModel", name := "<init>", desc := "()V" } : Jvm.MethodName)) ∈ lw_all := lw_g (lw_at lw_m5 111 rfl) rfl
theorem q1162 : (Jvm.Cond.code ({ cls := "LeftGlovesModel", name := "<init>", desc := "()V" } : Jvm.MethodName) prog_16_method_1_code (2 : Nat) (Option.none : Option Jvm.ClassFile.FieldType)) ∈ lw_all := lw_g (lw_at lw_m5 112 rfl) rfl
theorem q1163 : (Jvm.Cond.methodLink "LeftGlovesModel" (1 : Nat) ({ cls := "java/lang/Object", name := "<init>", desc := "()V" } : Jvm.MethodName)) ∈ lw_all := lw_g (lw_at lw_m5 113 rfl) rfl
theorem q1164 : (Jvm.Cond.fieldLink "LeftGlovesModel" (7 : Nat) "LeftGlovesModel" "d" "[I") ∈ lw_all := lw_g (lw_at lw_m5 114 rfl) rfl
theorem q1165 : (Jvm.Cond.fieldLink "LeftGlovesModel" (13 : Nat) "LeftGlovesModel" "e" "[I") ∈ lw_all := lw_g (lw_at lw_m5 115 rfl) rfl
theorem q1166 : (Jvm.Cond.fieldLink "LeftGlovesModel" (16 : Nat) "LeftGlovesModel" "aside" "[I") ∈ lw_all := lw_g (lw_at lw_m5 116 rfl) rfl
theorem q1167 : (Jvm.Cond.fieldLink "LeftGlovesModel" (19 : Nat) "LeftGlovesModel" "kept" "[I") ∈ lw_all := lw_g (lw_at lw_m5 117 rfl) rfl
theorem q1168 : (Jvm.Cond.fieldLink "LeftGlovesModel" (312 : Nat) "LeftGlovesModel" "isKept" "Z") ∈ lw_all := lw_g (lw_at lw_m5 118 rfl) rfl
theorem q1169 : (Jvm.Cond.fieldLink "LeftGlovesModel" (22 : Nat) "LeftGlovesModel" "found" "[I") ∈ lw_all := lw_g (lw_at lw_m5 119 rfl) rfl
theorem q1170 : (Jvm.Cond.fieldLink "LeftGlovesModel" (25 : Nat) "LeftGlovesModel" "tape" "[B") ∈ lw_all := lw_g (lw_at lw_m5 120 rfl) rfl
theorem q1171 : (Jvm.Cond.fieldLink "LeftGlovesModel" (205 : Nat) "LeftGlovesModel" "taped" "I") ∈ lw_all := lw_g (lw_at lw_m5 121 rfl) rfl
theorem q1172 : (Jvm.Cond.fieldLink "LeftGlovesModel" (54 : Nat) "LeftGlovesModel" "gone" "I") ∈ lw_all := lw_g (lw_at lw_m5 122 rfl) rfl
theorem q1173 : (Jvm.Cond.fieldLink "LeftGlovesModel" (208 : Nat) "LeftGlovesModel" "at" "I") ∈ lw_all := lw_g (lw_at lw_m5 123 rfl) rfl
theorem q1174 : (Jvm.Cond.fieldLink "LeftGlovesModel" (221 : Nat) "LeftGlovesModel" "sort" "I") ∈ lw_all := lw_g (lw_at lw_m5 124 rfl) rfl
theorem q1175 : (Jvm.Cond.fieldLink "LeftGlovesModel" (214 : Nat) "LeftGlovesModel" "from" "I") ∈ lw_all := lw_g (lw_at lw_m5 125 rfl) rfl
theorem q1176 : (Jvm.Cond.fieldLink "LeftGlovesModel" (217 : Nat) "LeftGlovesModel" "value" "J") ∈ lw_all := lw_g (lw_at lw_m5 126 rfl) rfl
theorem q1177 : (Jvm.Cond.fieldLink "LeftGlovesModel" (238 : Nat) "LeftGlovesModel" "fault" "I") ∈ lw_all := lw_g (lw_at lw_m5 127 rfl) rfl
theorem q1178 : (Jvm.Cond.fieldLink "LeftGlovesModel" (29 : Nat) "LeftGlovesModel" "bitsOf" "[I") ∈ lw_all := lw_g (lw_at lw_m5 128 rfl) rfl
theorem q1179 : (Jvm.Cond.fieldLink "LeftGlovesModel" (32 : Nat) "LeftGlovesModel" "sizeOf" "[I") ∈ lw_all := lw_g (lw_at lw_m5 129 rfl) rfl
theorem q1180 : (Jvm.Cond.fieldLink "LeftGlovesModel" (35 : Nat) "LeftGlovesModel" "number" "[I") ∈ lw_all := lw_g (lw_at lw_m5 130 rfl) rfl
theorem q1181 : (Jvm.Cond.fieldLink "LeftGlovesModel" (38 : Nat) "LeftGlovesModel" "passing" "[I") ∈ lw_all := lw_g (lw_at lw_m5 131 rfl) rfl
theorem q1182 : (Jvm.Cond.laysFinal "LeftGlovesModel" "LeftGlovesModel" "d" "[I") ∈ lw_all := lw_g (lw_at lw_m5 132 rfl) rfl
theorem q1183 : (Jvm.Cond.soleField "LeftGlovesModel" "d") ∈ lw_all := lw_g (lw_at lw_m5 133 rfl) rfl
theorem q1184 : (Jvm.Cond.laysFinal "LeftGlovesModel" "LeftGlovesModel" "e" "[I") ∈ lw_all := lw_g (lw_at lw_m5 134 rfl) rfl
theorem q1185 : (Jvm.Cond.soleField "LeftGlovesModel" "e") ∈ lw_all := lw_g (lw_at lw_m5 135 rfl) rfl
theorem q1186 : (Jvm.Cond.laysFinal "LeftGlovesModel" "LeftGlovesModel" "aside" "[I") ∈ lw_all := lw_g (lw_at lw_m5 136 rfl) rfl
theorem q1187 : (Jvm.Cond.soleField "LeftGlovesModel" "aside") ∈ lw_all := lw_g (lw_at lw_m5 137 rfl) rfl
theorem q1188 : (Jvm.Cond.laysFinal "LeftGlovesModel" "LeftGlovesModel" "kept" "[I") ∈ lw_all := lw_g (lw_at lw_m5 138 rfl) rfl
theorem q1189 : (Jvm.Cond.soleField "LeftGlovesModel" "kept") ∈ lw_all := lw_g (lw_at lw_m5 139 rfl) rfl
theorem q1190 : (Jvm.Cond.lays "LeftGlovesModel" "LeftGlovesModel" "isKept" "Z") ∈ lw_all := lw_g (lw_at lw_m5 140 rfl) rfl
theorem q1191 : (Jvm.Cond.soleField "LeftGlovesModel" "isKept") ∈ lw_all := lw_g (lw_at lw_m5 141 rfl) rfl
theorem q1192 : (Jvm.Cond.laysFinal "LeftGlovesModel" "LeftGlovesModel" "found" "[I") ∈ lw_all := lw_g (lw_at lw_m5 142 rfl) rfl
theorem q1193 : (Jvm.Cond.soleField "LeftGlovesModel" "found") ∈ lw_all := lw_g (lw_at lw_m5 143 rfl) rfl
theorem q1194 : (Jvm.Cond.laysFinal "LeftGlovesModel" "LeftGlovesModel" "tape" "[B") ∈ lw_all := lw_g (lw_at lw_m5 144 rfl) rfl
theorem q1195 : (Jvm.Cond.soleField "LeftGlovesModel" "tape") ∈ lw_all := lw_g (lw_at lw_m5 145 rfl) rfl
theorem q1196 : (Jvm.Cond.lays "LeftGlovesModel" "LeftGlovesModel" "taped" "I") ∈ lw_all := lw_g (lw_at lw_m5 146 rfl) rfl
theorem q1197 : (Jvm.Cond.soleField "LeftGlovesModel" "taped") ∈ lw_all := lw_g (lw_at lw_m5 147 rfl) rfl
theorem q1198 : (Jvm.Cond.lays "LeftGlovesModel" "LeftGlovesModel" "gone" "I") ∈ lw_all := lw_g (lw_at lw_m5 148 rfl) rfl
theorem q1199 : (Jvm.Cond.soleField "LeftGlovesModel" "gone") ∈ lw_all := lw_g (lw_at lw_m5 149 rfl) rfl
theorem q1200 : (Jvm.Cond.lays "LeftGlovesModel" "LeftGlovesModel" "at" "I") ∈ lw_all := lw_g (lw_at lw_m5 150 rfl) rfl
theorem q1201 : (Jvm.Cond.soleField "LeftGlovesModel" "at") ∈ lw_all := lw_g (lw_at lw_m5 151 rfl) rfl
theorem q1202 : (Jvm.Cond.lays "LeftGlovesModel" "LeftGlovesModel" "sort" "I") ∈ lw_all := lw_g (lw_at lw_m5 152 rfl) rfl
theorem q1203 : (Jvm.Cond.soleField "LeftGlovesModel" "sort") ∈ lw_all := lw_g (lw_at lw_m5 153 rfl) rfl
theorem q1204 : (Jvm.Cond.lays "LeftGlovesModel" "LeftGlovesModel" "from" "I") ∈ lw_all := lw_g (lw_at lw_m5 154 rfl) rfl
theorem q1205 : (Jvm.Cond.soleField "LeftGlovesModel" "from") ∈ lw_all := lw_g (lw_at lw_m5 155 rfl) rfl
theorem q1206 : (Jvm.Cond.lays "LeftGlovesModel" "LeftGlovesModel" "value" "J") ∈ lw_all := lw_g (lw_at lw_m5 156 rfl) rfl
theorem q1207 : (Jvm.Cond.soleField "LeftGlovesModel" "value") ∈ lw_all := lw_g (lw_at lw_m5 157 rfl) rfl
theorem q1208 : (Jvm.Cond.lays "LeftGlovesModel" "LeftGlovesModel" "fault" "I") ∈ lw_all := lw_g (lw_at lw_m5 158 rfl) rfl
theorem q1209 : (Jvm.Cond.soleField "LeftGlovesModel" "fault") ∈ lw_all := lw_g (lw_at lw_m5 159 rfl) rfl
theorem q1210 : (Jvm.Cond.laysFinal "LeftGlovesModel" "LeftGlovesModel" "bitsOf" "[I") ∈ lw_all := lw_g (lw_at lw_m5 160 rfl) rfl
theorem q1211 : (Jvm.Cond.soleField "LeftGlovesModel" "bitsOf") ∈ lw_all := lw_g (lw_at lw_m5 161 rfl) rfl
theorem q1212 : (Jvm.Cond.laysFinal "LeftGlovesModel" "LeftGlovesModel" "sizeOf" "[I") ∈ lw_all := lw_g (lw_at lw_m5 162 rfl) rfl
theorem q1213 : (Jvm.Cond.soleField "LeftGlovesModel" "sizeOf") ∈ lw_all := lw_g (lw_at lw_m5 163 rfl) rfl
theorem q1214 : (Jvm.Cond.laysFinal "LeftGlovesModel" "LeftGlovesModel" "number" "[I") ∈ lw_all := lw_g (lw_at lw_m5 164 rfl) rfl
theorem q1215 : (Jvm.Cond.soleField "LeftGlovesModel" "number") ∈ lw_all := lw_g (lw_at lw_m5 165 rfl) rfl
theorem q1216 : (Jvm.Cond.laysFinal "LeftGlovesModel" "LeftGlovesModel" "passing" "[I") ∈ lw_all := lw_g (lw_at lw_m5 166 rfl) rfl
theorem q1217 : (Jvm.Cond.soleField "LeftGlovesModel" "passing") ∈ lw_all := lw_g (lw_at lw_m5 167 rfl) rfl
theorem q1218 : (Jvm.Cond.superclass "LeftGlovesModel" "java/lang/Object") ∈ lw_all := lw_g (lw_at lw_m5 168 rfl) rfl
theorem q1220 : (Jvm.Cond.instanceMethod ({ cls := "LeftGlovesModel", name := "say", desc := "(II)I" } : Jvm.MethodName)) ∈ lw_all := lw_g (lw_at lw_m5 170 rfl) rfl
theorem q1221 : (Jvm.Cond.selects "LeftGlovesModel" ({ cls := "LeftGlovesModel", name := "say", desc := "(II)I" } : Jvm.MethodName) ({ cls := "LeftGlovesModel", name := "say", desc := "(II)I" } : Jvm.MethodName)) ∈ lw_all := lw_g (lw_at lw_m5 171 rfl) rfl
theorem q1222 : (Jvm.Cond.code ({ cls := "LeftGlovesModel", name := "say", desc := "(II)I" } : Jvm.MethodName) prog_16_method_33_code (3 : Nat) (Option.some Jvm.ClassFile.FieldType.int)) ∈ lw_all := lw_g (lw_at lw_m5 172 rfl) rfl
theorem q1223 : (Jvm.Cond.methodLink "LeftGlovesModel" (119 : Nat) ({ cls := "LeftGlovesModel", name := "isPlace", desc := "(I)Z" } : Jvm.MethodName)) ∈ lw_all := lw_g (lw_at lw_m5 173 rfl) rfl
theorem q1224 : (Jvm.Cond.static ({ cls := "LeftGlovesModel", name := "isPlace", desc := "(I)Z" } : Jvm.MethodName)) ∈ lw_all := lw_g (lw_at lw_m5 174 rfl) rfl
theorem q1225 : (Jvm.Cond.code ({ cls := "LeftGlovesModel", name := "isPlace", desc := "(I)Z" } : Jvm.MethodName) prog_16_method_10_code (1 : Nat) (Option.some Jvm.ClassFile.FieldType.boolean)) ∈ lw_all := lw_g (lw_at lw_m5 175 rfl) rfl
theorem q1226 : (Jvm.Cond.constantLong "LeftGlovesModel" (50 : Nat) (5 : Int64)) ∈ lw_all := lw_g (lw_at lw_m5 176 rfl) rfl
theorem q1227 : (Jvm.Cond.methodLink "LeftGlovesModel" (42 : Nat) ({ cls := "LeftGlovesModel", name := "in", desc := "(JJJ)Z" } : Jvm.MethodName)) ∈ lw_all := lw_g (lw_at lw_m5 177 rfl) rfl
theorem q1228 : (Jvm.Cond.static ({ cls := "LeftGlovesModel", name := "in", desc := "(JJJ)Z" } : Jvm.MethodName)) ∈ lw_all := lw_g (lw_at lw_m5 178 rfl) rfl
theorem q1229 : (Jvm.Cond.code ({ cls := "LeftGlovesModel", name := "in", desc := "(JJJ)Z" } : Jvm.MethodName) prog_16_method_4_code (6 : Nat) (Option.some Jvm.ClassFile.FieldType.boolean)) ∈ lw_all := lw_g (lw_at lw_m5 179 rfl) rfl
theorem q1230 : (Jvm.Cond.methodLink "LeftGlovesModel" (122 : Nat) ({ cls := "LeftGlovesModel", name := "isSaying", desc := "(I)Z" } : Jvm.MethodName)) ∈ lw_all := lw_g (lw_at lw_m5 180 rfl) rfl
theorem q1231 : (Jvm.Cond.static ({ cls := "LeftGlovesModel", name := "isSaying", desc := "(I)Z" } : Jvm.MethodName)) ∈ lw_all := lw_g (lw_at lw_m5 181 rfl) rfl
theorem q1232 : (Jvm.Cond.code ({ cls := "LeftGlovesModel", name := "isSaying", desc := "(I)Z" } : Jvm.MethodName) prog_16_method_11_code (1 : Nat) (Option.some Jvm.ClassFile.FieldType.boolean)) ∈ lw_all := lw_g (lw_at lw_m5 182 rfl) rfl
theorem q1233 : (Jvm.Cond.constantLong "LeftGlovesModel" (52 : Nat) (5159 : Int64)) ∈ lw_all := lw_g (lw_at lw_m5 183 rfl) rfl
theorem q1234 : (Jvm.Cond.methodLink "LeftGlovesModel" (125 : Nat) ({ cls := "LeftGlovesModel", name := "becomes", desc := "(II)I" } : Jvm.MethodName)) ∈ lw_all := lw_g (lw_at lw_m5 184 rfl) rfl
theorem q1235 : (Jvm.Cond.privateMethod ({ cls := "LeftGlovesModel", name := "becomes", desc := "(II)I" } : Jvm.MethodName)) ∈ lw_tbl := lw_at lw_m5 185 rfl
theorem q1236 : (Jvm.Cond.instanceMethod ({ cls := "LeftGlovesModel", name := "becomes", desc := "(II)I" } : Jvm.MethodName)) ∈ lw_all := lw_g (lw_at lw_m5 186 rfl) rfl
theorem q1237 : (Jvm.Cond.code ({ cls := "LeftGlovesModel", name := "becomes", desc := "(II)I" } : Jvm.MethodName) prog_16_method_14_code (4 : Nat) (Option.some Jvm.ClassFile.FieldType.int)) ∈ lw_all := lw_g (lw_at lw_m5 187 rfl) rfl
theorem q1238 : (Jvm.Cond.methodLink "LeftGlovesModel" (128 : Nat) ({ cls := "LeftGlovesModel", name := "finds", desc := "(I)I" } : Jvm.MethodName)) ∈ lw_all := lw_g (lw_at lw_m5 188 rfl) rfl
theorem q1239 : (Jvm.Cond.privateMethod ({ cls := "LeftGlovesModel", name := "finds", desc := "(I)I" } : Jvm.MethodName)) ∈ lw_tbl := lw_at lw_m5 189 rfl
theorem q1240 : (Jvm.Cond.instanceMethod ({ cls := "LeftGlovesModel", name := "finds", desc := "(I)I" } : Jvm.MethodName)) ∈ lw_all := lw_g (lw_at lw_m5 190 rfl) rfl
theorem q1241 : (Jvm.Cond.code ({ cls := "LeftGlovesModel", name := "finds", desc := "(I)I" } : Jvm.MethodName) prog_16_method_3_code (2 : Nat) (Option.some Jvm.ClassFile.FieldType.int)) ∈ lw_all := lw_g (lw_at lw_m5 191 rfl) rfl
theorem q1242 : (Jvm.Cond.constant "LeftGlovesModel" (41 : Nat) (-1000001 : Int32)) ∈ lw_all := lw_g (lw_at lw_m5 192 rfl) rfl
theorem q1244 : (Jvm.Cond.instanceMethod ({ cls := "LeftGlovesModel", name := "said", desc := "(I)I" } : Jvm.MethodName)) ∈ lw_all := lw_g (lw_at lw_m5 194 rfl) rfl
theorem q1245 : (Jvm.Cond.selects "LeftGlovesModel" ({ cls := "LeftGlovesModel", name := "said", desc := "(I)I" } : Jvm.MethodName) ({ cls := "LeftGlovesModel", name := "said", desc := "(I)I" } : Jvm.MethodName)) ∈ lw_all := lw_g (lw_at lw_m5 195 rfl) rfl
theorem q1246 : (Jvm.Cond.code ({ cls := "LeftGlovesModel", name := "said", desc := "(I)I" } : Jvm.MethodName) prog_16_method_34_code (2 : Nat) (Option.some Jvm.ClassFile.FieldType.int)) ∈ lw_all := lw_g (lw_at lw_m5 196 rfl) rfl
theorem q1248 : (Jvm.Cond.instanceMethod ({ cls := "LeftGlovesModel", name := "room", desc := "(II)I" } : Jvm.MethodName)) ∈ lw_all := lw_g (lw_at lw_m5 198 rfl) rfl
theorem q1249 : (Jvm.Cond.selects "LeftGlovesModel" ({ cls := "LeftGlovesModel", name := "room", desc := "(II)I" } : Jvm.MethodName) ({ cls := "LeftGlovesModel", name := "room", desc := "(II)I" } : Jvm.MethodName)) ∈ lw_all := lw_g (lw_at lw_m5 199 rfl) rfl
theorem q1250 : (Jvm.Cond.code ({ cls := "LeftGlovesModel", name := "room", desc := "(II)I" } : Jvm.MethodName) prog_16_method_35_code (6 : Nat) (Option.some Jvm.ClassFile.FieldType.int)) ∈ lw_all := lw_g (lw_at lw_m5 200 rfl) rfl
theorem q1251 : (Jvm.Cond.constantLong "LeftGlovesModel" (131 : Nat) (3 : Int64)) ∈ lw_all := lw_g (lw_at lw_m5 201 rfl) rfl
theorem q1252 : (Jvm.Cond.methodLink "LeftGlovesModel" (62 : Nat) ({ cls := "LeftGlovesModel", name := "isIn", desc := "(II)Z" } : Jvm.MethodName)) ∈ lw_all := lw_g (lw_at lw_m5 202 rfl) rfl
theorem q1253 : (Jvm.Cond.privateMethod ({ cls := "LeftGlovesModel", name := "isIn", desc := "(II)Z" } : Jvm.MethodName)) ∈ lw_tbl := lw_at lw_m5 203 rfl
theorem q1254 : (Jvm.Cond.instanceMethod ({ cls := "LeftGlovesModel", name := "isIn", desc := "(II)Z" } : Jvm.MethodName)) ∈ lw_all := lw_g (lw_at lw_m5 204 rfl) rfl
theorem q1255 : (Jvm.Cond.code ({ cls := "LeftGlovesModel", name := "isIn", desc := "(II)Z" } : Jvm.MethodName) prog_16_method_16_code (3 : Nat) (Option.some Jvm.ClassFile.FieldType.boolean)) ∈ lw_all := lw_g (lw_at lw_m5 205 rfl) rfl
theorem q1256 : (Jvm.Cond.methodLink "LeftGlovesModel" (58 : Nat) ({ cls := "LeftGlovesModel", name := "its", desc := "(II)I" } : Jvm.MethodName)) ∈ lw_all := lw_g (lw_at lw_m5 206 rfl) rfl
theorem q1257 : (Jvm.Cond.privateMethod ({ cls := "LeftGlovesModel", name := "its", desc := "(II)I" } : Jvm.MethodName)) ∈ lw_tbl := lw_at lw_m5 207 rfl
theorem q1258 : (Jvm.Cond.instanceMethod ({ cls := "LeftGlovesModel", name := "its", desc := "(II)I" } : Jvm.MethodName)) ∈ lw_all := lw_g (lw_at lw_m5 208 rfl) rfl
theorem q1259 : (Jvm.Cond.code ({ cls := "LeftGlovesModel", name := "its", desc := "(II)I" } : Jvm.MethodName) prog_16_method_12_code (3 : Nat) (Option.some Jvm.ClassFile.FieldType.int)) ∈ lw_all := lw_g (lw_at lw_m5 209 rfl) rfl
theorem q1260 : (Jvm.Cond.methodLink "LeftGlovesModel" (78 : Nat) ({ cls := "LeftGlovesModel", name := "hushIn", desc := "(I)I" } : Jvm.MethodName)) ∈ lw_all := lw_g (lw_at lw_m5 210 rfl) rfl
theorem q1261 : (Jvm.Cond.privateMethod ({ cls := "LeftGlovesModel", name := "hushIn", desc := "(I)I" } : Jvm.MethodName)) ∈ lw_tbl := lw_at lw_m5 211 rfl
theorem q1262 : (Jvm.Cond.instanceMethod ({ cls := "LeftGlovesModel", name := "hushIn", desc := "(I)I" } : Jvm.MethodName)) ∈ lw_all := lw_g (lw_at lw_m5 212 rfl) rfl
theorem q1263 : (Jvm.Cond.code ({ cls := "LeftGlovesModel", name := "hushIn", desc := "(I)I" } : Jvm.MethodName) prog_16_method_22_code (4 : Nat) (Option.some Jvm.ClassFile.FieldType.int)) ∈ lw_all := lw_g (lw_at lw_m5 213 rfl) rfl
theorem q1264 : (Jvm.Cond.methodLink "LeftGlovesModel" (74 : Nat) ({ cls := "LeftGlovesModel", name := "hushes", desc := "(I)I" } : Jvm.MethodName)) ∈ lw_all := lw_g (lw_at lw_m5 214 rfl) rfl
theorem q1265 : (Jvm.Cond.privateMethod ({ cls := "LeftGlovesModel", name := "hushes", desc := "(I)I" } : Jvm.MethodName)) ∈ lw_tbl := lw_at lw_m5 215 rfl
theorem q1266 : (Jvm.Cond.instanceMethod ({ cls := "LeftGlovesModel", name := "hushes", desc := "(I)I" } : Jvm.MethodName)) ∈ lw_all := lw_g (lw_at lw_m5 216 rfl) rfl
theorem q1267 : (Jvm.Cond.code ({ cls := "LeftGlovesModel", name := "hushes", desc := "(I)I" } : Jvm.MethodName) prog_16_method_19_code (2 : Nat) (Option.some Jvm.ClassFile.FieldType.int)) ∈ lw_all := lw_g (lw_at lw_m5 217 rfl) rfl
theorem q1268 : (Jvm.Cond.methodLink "LeftGlovesModel" (116 : Nat) ({ cls := "LeftGlovesModel", name := "known", desc := "(II)I" } : Jvm.MethodName)) ∈ lw_all := lw_g (lw_at lw_m5 218 rfl) rfl
theorem q1269 : (Jvm.Cond.privateMethod ({ cls := "LeftGlovesModel", name := "known", desc := "(II)I" } : Jvm.MethodName)) ∈ lw_tbl := lw_at lw_m5 219 rfl
theorem q1270 : (Jvm.Cond.instanceMethod ({ cls := "LeftGlovesModel", name := "known", desc := "(II)I" } : Jvm.MethodName)) ∈ lw_all := lw_g (lw_at lw_m5 220 rfl) rfl
theorem q1271 : (Jvm.Cond.code ({ cls := "LeftGlovesModel", name := "known", desc := "(II)I" } : Jvm.MethodName) prog_16_method_29_code (5 : Nat) (Option.some Jvm.ClassFile.FieldType.int)) ∈ lw_all := lw_g (lw_at lw_m5 221 rfl) rfl
theorem q1273 : (Jvm.Cond.instanceMethod ({ cls := "LeftGlovesModel", name := "glove", desc := "(II)I" } : Jvm.MethodName)) ∈ lw_all := lw_g (lw_at lw_m5 223 rfl) rfl
theorem q1274 : (Jvm.Cond.selects "LeftGlovesModel" ({ cls := "LeftGlovesModel", name := "glove", desc := "(II)I" } : Jvm.MethodName) ({ cls := "LeftGlovesModel", name := "glove", desc := "(II)I" } : Jvm.MethodName)) ∈ lw_all := lw_g (lw_at lw_m5 224 rfl) rfl
theorem q1275 : (Jvm.Cond.code ({ cls := "LeftGlovesModel", name := "glove", desc := "(II)I" } : Jvm.MethodName) prog_16_method_37_code (3 : Nat) (Option.some Jvm.ClassFile.FieldType.int)) ∈ lw_all := lw_g (lw_at lw_m5 225 rfl) rfl
theorem q1276 : (Jvm.Cond.constantLong "LeftGlovesModel" (133 : Nat) (6 : Int64)) ∈ lw_all := lw_g (lw_at lw_m5 226 rfl) rfl
theorem q1277 : (Jvm.Cond.methodLink "LeftGlovesModel" (135 : Nat) ({ cls := "LeftGlovesModel", name := "comes", desc := "(II)I" } : Jvm.MethodName)) ∈ lw_all := lw_g (lw_at lw_m5 227 rfl) rfl
theorem q1278 : (Jvm.Cond.privateMethod ({ cls := "LeftGlovesModel", name := "comes", desc := "(II)I" } : Jvm.MethodName)) ∈ lw_tbl := lw_at lw_m5 228 rfl
theorem q1279 : (Jvm.Cond.instanceMethod ({ cls := "LeftGlovesModel", name := "comes", desc := "(II)I" } : Jvm.MethodName)) ∈ lw_all := lw_g (lw_at lw_m5 229 rfl) rfl
theorem q1280 : (Jvm.Cond.code ({ cls := "LeftGlovesModel", name := "comes", desc := "(II)I" } : Jvm.MethodName) prog_16_method_36_code (5 : Nat) (Option.some Jvm.ClassFile.FieldType.int)) ∈ lw_all := lw_g (lw_at lw_m5 230 rfl) rfl
theorem q1281 : (Jvm.Cond.methodLink "LeftGlovesModel" (90 : Nat) ({ cls := "LeftGlovesModel", name := "sets", desc := "(III)V" } : Jvm.MethodName)) ∈ lw_all := lw_g (lw_at lw_m5 231 rfl) rfl
theorem q1282 : (Jvm.Cond.privateMethod ({ cls := "LeftGlovesModel", name := "sets", desc := "(III)V" } : Jvm.MethodName)) ∈ lw_tbl := lw_at lw_m5 232 rfl
theorem q1283 : (Jvm.Cond.instanceMethod ({ cls := "LeftGlovesModel", name := "sets", desc := "(III)V" } : Jvm.MethodName)) ∈ lw_all := lw_g (lw_at lw_m5 233 rfl) rfl
theorem q1284 : (Jvm.Cond.code ({ cls := "LeftGlovesModel", name := "sets", desc := "(III)V" } : Jvm.MethodName) prog_16_method_13_code (4 : Nat) (Option.none : Option Jvm.ClassFile.FieldType)) ∈ lw_all := lw_g (lw_at lw_m5 234 rfl) rfl
theorem q1286 : (Jvm.Cond.instanceMethod ({ cls := "LeftGlovesModel", name := "of", desc := "(II)I" } : Jvm.MethodName)) ∈ lw_all := lw_g (lw_at lw_m5 236 rfl) rfl
theorem q1287 : (Jvm.Cond.selects "LeftGlovesModel" ({ cls := "LeftGlovesModel", name := "of", desc := "(II)I" } : Jvm.MethodName) ({ cls := "LeftGlovesModel", name := "of", desc := "(II)I" } : Jvm.MethodName)) ∈ lw_all := lw_g (lw_at lw_m5 237 rfl) rfl
theorem q1288 : (Jvm.Cond.code ({ cls := "LeftGlovesModel", name := "of", desc := "(II)I" } : Jvm.MethodName) prog_16_method_38_code (3 : Nat) (Option.some Jvm.ClassFile.FieldType.int)) ∈ lw_all := lw_g (lw_at lw_m5 238 rfl) rfl
theorem q1289 : (Jvm.Cond.methodLink "LeftGlovesModel" (138 : Nat) ({ cls := "LeftGlovesModel", name := "isGlove", desc := "(I)Z" } : Jvm.MethodName)) ∈ lw_all := lw_g (lw_at lw_m5 239 rfl) rfl
theorem q1290 : (Jvm.Cond.privateMethod ({ cls := "LeftGlovesModel", name := "isGlove", desc := "(I)Z" } : Jvm.MethodName)) ∈ lw_tbl := lw_at lw_m6 0 rfl
theorem q1291 : (Jvm.Cond.instanceMethod ({ cls := "LeftGlovesModel", name := "isGlove", desc := "(I)Z" } : Jvm.MethodName)) ∈ lw_all := lw_g (lw_at lw_m6 1 rfl) rfl
theorem q1292 : (Jvm.Cond.code ({ cls := "LeftGlovesModel", name := "isGlove", desc := "(I)Z" } : Jvm.MethodName) prog_16_method_7_code (2 : Nat) (Option.some Jvm.ClassFile.FieldType.boolean)) ∈ lw_all := lw_g (lw_at lw_m6 2 rfl) rfl
theorem q1293 : (Jvm.Cond.constantLong "LeftGlovesModel" (141 : Nat) (10 : Int64)) ∈ lw_all := lw_g (lw_at lw_m6 3 rfl) rfl
theorem q1294 : (Jvm.Cond.methodLink "LeftGlovesModel" (81 : Nat) ({ cls := "LeftGlovesModel", name := "needs", desc := "(I)I" } : Jvm.MethodName)) ∈ lw_all := lw_g (lw_at lw_m6 4 rfl) rfl
theorem q1295 : (Jvm.Cond.privateMethod ({ cls := "LeftGlovesModel", name := "needs", desc := "(I)I" } : Jvm.MethodName)) ∈ lw_tbl := lw_at lw_m6 5 rfl
theorem q1296 : (Jvm.Cond.instanceMethod ({ cls := "LeftGlovesModel", name := "needs", desc := "(I)I" } : Jvm.MethodName)) ∈ lw_all := lw_g (lw_at lw_m6 6 rfl) rfl
theorem q1297 : (Jvm.Cond.code ({ cls := "LeftGlovesModel", name := "needs", desc := "(I)I" } : Jvm.MethodName) prog_16_method_18_code (4 : Nat) (Option.some Jvm.ClassFile.FieldType.int)) ∈ lw_all := lw_g (lw_at lw_m6 7 rfl) rfl
theorem q1298 : (Jvm.Cond.methodLink "LeftGlovesModel" (66 : Nat) ({ cls := "LeftGlovesModel", name := "held", desc := "(III)I" } : Jvm.MethodName)) ∈ lw_all := lw_g (lw_at lw_m6 8 rfl) rfl
theorem q1299 : (Jvm.Cond.static ({ cls := "LeftGlovesModel", name := "held", desc := "(III)I" } : Jvm.MethodName)) ∈ lw_all := lw_g (lw_at lw_m6 9 rfl) rfl
theorem q1300 : (Jvm.Cond.code ({ cls := "LeftGlovesModel", name := "held", desc := "(III)I" } : Jvm.MethodName) prog_16_method_5_code (3 : Nat) (Option.some Jvm.ClassFile.FieldType.int)) ∈ lw_all := lw_g (lw_at lw_m6 10 rfl) rfl
theorem q1301 : (Jvm.Cond.methodLink "LeftGlovesModel" (70 : Nat) ({ cls := "LeftGlovesModel", name := "hasOther", desc := "(I)Z" } : Jvm.MethodName)) ∈ lw_all := lw_g (lw_at lw_m6 11 rfl) rfl
theorem q1302 : (Jvm.Cond.privateMethod ({ cls := "LeftGlovesModel", name := "hasOther", desc := "(I)Z" } : Jvm.MethodName)) ∈ lw_tbl := lw_at lw_m6 12 rfl
theorem q1303 : (Jvm.Cond.instanceMethod ({ cls := "LeftGlovesModel", name := "hasOther", desc := "(I)Z" } : Jvm.MethodName)) ∈ lw_all := lw_g (lw_at lw_m6 13 rfl) rfl
theorem q1304 : (Jvm.Cond.code ({ cls := "LeftGlovesModel", name := "hasOther", desc := "(I)Z" } : Jvm.MethodName) prog_16_method_17_code (3 : Nat) (Option.some Jvm.ClassFile.FieldType.boolean)) ∈ lw_all := lw_g (lw_at lw_m6 14 rfl) rfl
theorem q1305 : (Jvm.Cond.methodLink "LeftGlovesModel" (105 : Nat) ({ cls := "LeftGlovesModel", name := "stays", desc := "(I)I" } : Jvm.MethodName)) ∈ lw_all := lw_g (lw_at lw_m6 15 rfl) rfl
theorem q1306 : (Jvm.Cond.privateMethod ({ cls := "LeftGlovesModel", name := "stays", desc := "(I)I" } : Jvm.MethodName)) ∈ lw_tbl := lw_at lw_m6 16 rfl
theorem q1307 : (Jvm.Cond.instanceMethod ({ cls := "LeftGlovesModel", name := "stays", desc := "(I)I" } : Jvm.MethodName)) ∈ lw_all := lw_g (lw_at lw_m6 17 rfl) rfl
theorem q1308 : (Jvm.Cond.code ({ cls := "LeftGlovesModel", name := "stays", desc := "(I)I" } : Jvm.MethodName) prog_16_method_20_code (2 : Nat) (Option.some Jvm.ClassFile.FieldType.int)) ∈ lw_all := lw_g (lw_at lw_m6 18 rfl) rfl
theorem q1309 : (Jvm.Cond.methodLink "LeftGlovesModel" (87 : Nat) ({ cls := "LeftGlovesModel", name := "keeps", desc := "(I)I" } : Jvm.MethodName)) ∈ lw_all := lw_g (lw_at lw_m6 19 rfl) rfl
theorem q1310 : (Jvm.Cond.privateMethod ({ cls := "LeftGlovesModel", name := "keeps", desc := "(I)I" } : Jvm.MethodName)) ∈ lw_tbl := lw_at lw_m6 20 rfl
theorem q1311 : (Jvm.Cond.instanceMethod ({ cls := "LeftGlovesModel", name := "keeps", desc := "(I)I" } : Jvm.MethodName)) ∈ lw_all := lw_g (lw_at lw_m6 21 rfl) rfl
theorem q1312 : (Jvm.Cond.code ({ cls := "LeftGlovesModel", name := "keeps", desc := "(I)I" } : Jvm.MethodName) prog_16_method_21_code (2 : Nat) (Option.some Jvm.ClassFile.FieldType.int)) ∈ lw_all := lw_g (lw_at lw_m6 22 rfl) rfl
theorem q1314 : (Jvm.Cond.instanceMethod ({ cls := "LeftGlovesModel", name := "change", desc := "(III)I" } : Jvm.MethodName)) ∈ lw_all := lw_g (lw_at lw_m6 24 rfl) rfl
theorem q1315 : (Jvm.Cond.selects "LeftGlovesModel" ({ cls := "LeftGlovesModel", name := "change", desc := "(III)I" } : Jvm.MethodName) ({ cls := "LeftGlovesModel", name := "change", desc := "(III)I" } : Jvm.MethodName)) ∈ lw_all := lw_g (lw_at lw_m6 25 rfl) rfl
theorem q1316 : (Jvm.Cond.code ({ cls := "LeftGlovesModel", name := "change", desc := "(III)I" } : Jvm.MethodName) prog_16_method_40_code (4 : Nat) (Option.some Jvm.ClassFile.FieldType.int)) ∈ lw_all := lw_g (lw_at lw_m6 26 rfl) rfl
theorem q1317 : (Jvm.Cond.methodLink "LeftGlovesModel" (144 : Nat) ({ cls := "LeftGlovesModel", name := "mostOf", desc := "(I)I" } : Jvm.MethodName)) ∈ lw_all := lw_g (lw_at lw_m6 27 rfl) rfl
theorem q1318 : (Jvm.Cond.static ({ cls := "LeftGlovesModel", name := "mostOf", desc := "(I)I" } : Jvm.MethodName)) ∈ lw_all := lw_g (lw_at lw_m6 28 rfl) rfl
theorem q1319 : (Jvm.Cond.code ({ cls := "LeftGlovesModel", name := "mostOf", desc := "(I)I" } : Jvm.MethodName) prog_16_method_39_code (1 : Nat) (Option.some Jvm.ClassFile.FieldType.int)) ∈ lw_all := lw_g (lw_at lw_m6 29 rfl) rfl
theorem q1320 : (Jvm.Cond.constant "LeftGlovesModel" (143 : Nat) (65535 : Int32)) ∈ lw_all := lw_g (lw_at lw_m6 30 rfl) rfl
theorem q1322 : (Jvm.Cond.instanceMethod ({ cls := "LeftGlovesModel", name := "draw", desc := "(I)I" } : Jvm.MethodName)) ∈ lw_all := lw_g (lw_at lw_m6 32 rfl) rfl
theorem q1323 : (Jvm.Cond.selects "LeftGlovesModel" ({ cls := "LeftGlovesModel", name := "draw", desc := "(I)I" } : Jvm.MethodName) ({ cls := "LeftGlovesModel", name := "draw", desc := "(I)I" } : Jvm.MethodName)) ∈ lw_all := lw_g (lw_at lw_m6 33 rfl) rfl
theorem q1324 : (Jvm.Cond.code ({ cls := "LeftGlovesModel", name := "draw", desc := "(I)I" } : Jvm.MethodName) prog_16_method_41_code (2 : Nat) (Option.some Jvm.ClassFile.FieldType.int)) ∈ lw_all := lw_g (lw_at lw_m6 34 rfl) rfl
theorem q1325 : (Jvm.Cond.methodLink "LeftGlovesModel" (108 : Nat) ({ cls := "LeftGlovesModel", name := "drawnOn", desc := "(I)V" } : Jvm.MethodName)) ∈ lw_all := lw_g (lw_at lw_m6 35 rfl) rfl
theorem q1326 : (Jvm.Cond.privateMethod ({ cls := "LeftGlovesModel", name := "drawnOn", desc := "(I)V" } : Jvm.MethodName)) ∈ lw_tbl := lw_at lw_m6 36 rfl
theorem q1327 : (Jvm.Cond.instanceMethod ({ cls := "LeftGlovesModel", name := "drawnOn", desc := "(I)V" } : Jvm.MethodName)) ∈ lw_all := lw_g (lw_at lw_m6 37 rfl) rfl
theorem q1328 : (Jvm.Cond.code ({ cls := "LeftGlovesModel", name := "drawnOn", desc := "(I)V" } : Jvm.MethodName) prog_16_method_25_code (2 : Nat) (Option.none : Option Jvm.ClassFile.FieldType)) ∈ lw_all := lw_g (lw_at lw_m6 38 rfl) rfl
theorem q1330 : (Jvm.Cond.instanceMethod ({ cls := "LeftGlovesModel", name := "who", desc := "(II)I" } : Jvm.MethodName)) ∈ lw_all := lw_g (lw_at lw_m6 40 rfl) rfl
theorem q1331 : (Jvm.Cond.selects "LeftGlovesModel" ({ cls := "LeftGlovesModel", name := "who", desc := "(II)I" } : Jvm.MethodName) ({ cls := "LeftGlovesModel", name := "who", desc := "(II)I" } : Jvm.MethodName)) ∈ lw_all := lw_g (lw_at lw_m6 41 rfl) rfl
theorem q1332 : (Jvm.Cond.code ({ cls := "LeftGlovesModel", name := "who", desc := "(II)I" } : Jvm.MethodName) prog_16_method_42_code (5 : Nat) (Option.some Jvm.ClassFile.FieldType.int)) ∈ lw_all := lw_g (lw_at lw_m6 42 rfl) rfl
theorem q1333 : (Jvm.Cond.methodLink "LeftGlovesModel" (147 : Nat) ({ cls := "LeftGlovesModel", name := "isTopic", desc := "(I)Z" } : Jvm.MethodName)) ∈ lw_all := lw_g (lw_at lw_m6 43 rfl) rfl
theorem q1334 : (Jvm.Cond.static ({ cls := "LeftGlovesModel", name := "isTopic", desc := "(I)Z" } : Jvm.MethodName)) ∈ lw_all := lw_g (lw_at lw_m6 44 rfl) rfl
theorem q1335 : (Jvm.Cond.code ({ cls := "LeftGlovesModel", name := "isTopic", desc := "(I)Z" } : Jvm.MethodName) prog_16_method_8_code (1 : Nat) (Option.some Jvm.ClassFile.FieldType.boolean)) ∈ lw_all := lw_g (lw_at lw_m6 45 rfl) rfl
theorem q1336 : (Jvm.Cond.constantLong "LeftGlovesModel" (46 : Nat) (15 : Int64)) ∈ lw_all := lw_g (lw_at lw_m6 46 rfl) rfl
theorem q1338 : (Jvm.Cond.instanceMethod ({ cls := "LeftGlovesModel", name := "go", desc := "(I)I" } : Jvm.MethodName)) ∈ lw_all := lw_g (lw_at lw_m6 48 rfl) rfl
theorem q1339 : (Jvm.Cond.selects "LeftGlovesModel" ({ cls := "LeftGlovesModel", name := "go", desc := "(I)I" } : Jvm.MethodName) ({ cls := "LeftGlovesModel", name := "go", desc := "(I)I" } : Jvm.MethodName)) ∈ lw_all := lw_g (lw_at lw_m6 49 rfl) rfl
theorem q1340 : (Jvm.Cond.code ({ cls := "LeftGlovesModel", name := "go", desc := "(I)I" } : Jvm.MethodName) prog_16_method_43_code (2 : Nat) (Option.some Jvm.ClassFile.FieldType.int)) ∈ lw_all := lw_g (lw_at lw_m6 50 rfl) rfl
theorem q1341 : (Jvm.Cond.constantLong "LeftGlovesModel" (150 : Nat) (60 : Int64)) ∈ lw_all := lw_g (lw_at lw_m6 51 rfl) rfl
theorem q1342 : (Jvm.Cond.constant "LeftGlovesModel" (112 : Nat) (99999 : Int32)) ∈ lw_all := lw_g (lw_at lw_m6 52 rfl) rfl
theorem q1343 : (Jvm.Cond.methodLink "LeftGlovesModel" (152 : Nat) ({ cls := "LeftGlovesModel", name := "daysGo", desc := "(I)V" } : Jvm.MethodName)) ∈ lw_all := lw_g (lw_at lw_m6 53 rfl) rfl
theorem q1344 : (Jvm.Cond.privateMethod ({ cls := "LeftGlovesModel", name := "daysGo", desc := "(I)V" } : Jvm.MethodName)) ∈ lw_tbl := lw_at lw_m6 54 rfl
theorem q1345 : (Jvm.Cond.instanceMethod ({ cls := "LeftGlovesModel", name := "daysGo", desc := "(I)V" } : Jvm.MethodName)) ∈ lw_all := lw_g (lw_at lw_m6 55 rfl) rfl
theorem q1346 : (Jvm.Cond.code ({ cls := "LeftGlovesModel", name := "daysGo", desc := "(I)V" } : Jvm.MethodName) prog_16_method_28_code (3 : Nat) (Option.none : Option Jvm.ClassFile.FieldType)) ∈ lw_all := lw_g (lw_at lw_m6 56 rfl) rfl
theorem q1347 : (Jvm.Cond.methodLink "LeftGlovesModel" (113 : Nat) ({ cls := "LeftGlovesModel", name := "dayGoes", desc := "()V" } : Jvm.MethodName)) ∈ lw_all := lw_g (lw_at lw_m6 57 rfl) rfl
theorem q1348 : (Jvm.Cond.privateMethod ({ cls := "LeftGlovesModel", name := "dayGoes", desc := "()V" } : Jvm.MethodName)) ∈ lw_tbl := lw_at lw_m6 58 rfl
theorem q1349 : (Jvm.Cond.instanceMethod ({ cls := "LeftGlovesModel", name := "dayGoes", desc := "()V" } : Jvm.MethodName)) ∈ lw_all := lw_g (lw_at lw_m6 59 rfl) rfl
theorem q1350 : (Jvm.Cond.code ({ cls := "LeftGlovesModel", name := "dayGoes", desc := "()V" } : Jvm.MethodName) prog_16_method_27_code (3 : Nat) (Option.none : Option Jvm.ClassFile.FieldType)) ∈ lw_all := lw_g (lw_at lw_m6 60 rfl) rfl
theorem q1351 : (Jvm.Cond.methodLink "LeftGlovesModel" (94 : Nat) ({ cls := "LeftGlovesModel", name := "todays", desc := "()I" } : Jvm.MethodName)) ∈ lw_all := lw_g (lw_at lw_m6 61 rfl) rfl
theorem q1352 : (Jvm.Cond.privateMethod ({ cls := "LeftGlovesModel", name := "todays", desc := "()I" } : Jvm.MethodName)) ∈ lw_tbl := lw_at lw_m6 62 rfl
theorem q1353 : (Jvm.Cond.instanceMethod ({ cls := "LeftGlovesModel", name := "todays", desc := "()I" } : Jvm.MethodName)) ∈ lw_all := lw_g (lw_at lw_m6 63 rfl) rfl
theorem q1354 : (Jvm.Cond.code ({ cls := "LeftGlovesModel", name := "todays", desc := "()I" } : Jvm.MethodName) prog_16_method_26_code (1 : Nat) (Option.some Jvm.ClassFile.FieldType.int)) ∈ lw_all := lw_g (lw_at lw_m6 64 rfl) rfl
theorem q1355 : (Jvm.Cond.methodLink "LeftGlovesModel" (98 : Nat) ({ cls := "LeftGlovesModel", name := "hearers", desc := "(I)I" } : Jvm.MethodName)) ∈ lw_all := lw_g (lw_at lw_m6 65 rfl) rfl
theorem q1356 : (Jvm.Cond.privateMethod ({ cls := "LeftGlovesModel", name := "hearers", desc := "(I)I" } : Jvm.MethodName)) ∈ lw_tbl := lw_at lw_m6 66 rfl
theorem q1357 : (Jvm.Cond.instanceMethod ({ cls := "LeftGlovesModel", name := "hearers", desc := "(I)I" } : Jvm.MethodName)) ∈ lw_all := lw_g (lw_at lw_m6 67 rfl) rfl
theorem q1358 : (Jvm.Cond.code ({ cls := "LeftGlovesModel", name := "hearers", desc := "(I)I" } : Jvm.MethodName) prog_16_method_23_code (6 : Nat) (Option.some Jvm.ClassFile.FieldType.int)) ∈ lw_all := lw_g (lw_at lw_m6 68 rfl) rfl
theorem q1359 : (Jvm.Cond.methodLink "LeftGlovesModel" (101 : Nat) ({ cls := "LeftGlovesModel", name := "learns", desc := "(II)V" } : Jvm.MethodName)) ∈ lw_all := lw_g (lw_at lw_m6 69 rfl) rfl
theorem q1360 : (Jvm.Cond.privateMethod ({ cls := "LeftGlovesModel", name := "learns", desc := "(II)V" } : Jvm.MethodName)) ∈ lw_tbl := lw_at lw_m6 70 rfl
theorem q1361 : (Jvm.Cond.instanceMethod ({ cls := "LeftGlovesModel", name := "learns", desc := "(II)V" } : Jvm.MethodName)) ∈ lw_all := lw_g (lw_at lw_m6 71 rfl) rfl
theorem q1362 : (Jvm.Cond.code ({ cls := "LeftGlovesModel", name := "learns", desc := "(II)V" } : Jvm.MethodName) prog_16_method_24_code (5 : Nat) (Option.none : Option Jvm.ClassFile.FieldType)) ∈ lw_all := lw_g (lw_at lw_m6 72 rfl) rfl
theorem q1363 : (Jvm.Cond.methodLink "LeftGlovesModel" (84 : Nat) ({ cls := "LeftGlovesModel", name := "ones", desc := "(I)I" } : Jvm.MethodName)) ∈ lw_all := lw_g (lw_at lw_m6 73 rfl) rfl
theorem q1364 : (Jvm.Cond.static ({ cls := "LeftGlovesModel", name := "ones", desc := "(I)I" } : Jvm.MethodName)) ∈ lw_all := lw_g (lw_at lw_m6 74 rfl) rfl
theorem q1365 : (Jvm.Cond.code ({ cls := "LeftGlovesModel", name := "ones", desc := "(I)I" } : Jvm.MethodName) prog_16_method_15_code (3 : Nat) (Option.some Jvm.ClassFile.FieldType.int)) ∈ lw_all := lw_g (lw_at lw_m6 75 rfl) rfl
theorem q1366 : (Jvm.Cond.methodLink "LeftGlovesModel" (155 : Nat) ({ cls := "LeftGlovesModel", name := "allKnow", desc := "()I" } : Jvm.MethodName)) ∈ lw_all := lw_g (lw_at lw_m6 76 rfl) rfl
theorem q1367 : (Jvm.Cond.privateMethod ({ cls := "LeftGlovesModel", name := "allKnow", desc := "()I" } : Jvm.MethodName)) ∈ lw_tbl := lw_at lw_m6 77 rfl
theorem q1368 : (Jvm.Cond.instanceMethod ({ cls := "LeftGlovesModel", name := "allKnow", desc := "()I" } : Jvm.MethodName)) ∈ lw_all := lw_g (lw_at lw_m6 78 rfl) rfl
theorem q1369 : (Jvm.Cond.code ({ cls := "LeftGlovesModel", name := "allKnow", desc := "()I" } : Jvm.MethodName) prog_16_method_30_code (1 : Nat) (Option.some Jvm.ClassFile.FieldType.int)) ∈ lw_all := lw_g (lw_at lw_m6 79 rfl) rfl
theorem q1371 : (Jvm.Cond.instanceMethod ({ cls := "LeftGlovesModel", name := "now", desc := "(I)I" } : Jvm.MethodName)) ∈ lw_all := lw_g (lw_at lw_m6 81 rfl) rfl
theorem q1372 : (Jvm.Cond.selects "LeftGlovesModel" ({ cls := "LeftGlovesModel", name := "now", desc := "(I)I" } : Jvm.MethodName) ({ cls := "LeftGlovesModel", name := "now", desc := "(I)I" } : Jvm.MethodName)) ∈ lw_all := lw_g (lw_at lw_m6 82 rfl) rfl
theorem q1373 : (Jvm.Cond.code ({ cls := "LeftGlovesModel", name := "now", desc := "(I)I" } : Jvm.MethodName) prog_16_method_45_code (2 : Nat) (Option.some Jvm.ClassFile.FieldType.int)) ∈ lw_all := lw_g (lw_at lw_m6 83 rfl) rfl
theorem q1374 : (Jvm.Cond.methodLink "LeftGlovesModel" (158 : Nat) ({ cls := "LeftGlovesModel", name := "allHands", desc := "()I" } : Jvm.MethodName)) ∈ lw_all := lw_g (lw_at lw_m6 84 rfl) rfl
theorem q1375 : (Jvm.Cond.privateMethod ({ cls := "LeftGlovesModel", name := "allHands", desc := "()I" } : Jvm.MethodName)) ∈ lw_tbl := lw_at lw_m6 85 rfl
theorem q1376 : (Jvm.Cond.instanceMethod ({ cls := "LeftGlovesModel", name := "allHands", desc := "()I" } : Jvm.MethodName)) ∈ lw_all := lw_g (lw_at lw_m6 86 rfl) rfl
theorem q1377 : (Jvm.Cond.code ({ cls := "LeftGlovesModel", name := "allHands", desc := "()I" } : Jvm.MethodName) prog_16_method_31_code (1 : Nat) (Option.some Jvm.ClassFile.FieldType.int)) ∈ lw_all := lw_g (lw_at lw_m6 87 rfl) rfl
theorem q1378 : (Jvm.Cond.methodLink "LeftGlovesModel" (161 : Nat) ({ cls := "LeftGlovesModel", name := "allDrawn", desc := "()I" } : Jvm.MethodName)) ∈ lw_all := lw_g (lw_at lw_m6 88 rfl) rfl
theorem q1379 : (Jvm.Cond.privateMethod ({ cls := "LeftGlovesModel", name := "allDrawn", desc := "()I" } : Jvm.MethodName)) ∈ lw_tbl := lw_at lw_m6 89 rfl
theorem q1380 : (Jvm.Cond.instanceMethod ({ cls := "LeftGlovesModel", name := "allDrawn", desc := "()I" } : Jvm.MethodName)) ∈ lw_all := lw_g (lw_at lw_m6 90 rfl) rfl
theorem q1381 : (Jvm.Cond.code ({ cls := "LeftGlovesModel", name := "allDrawn", desc := "()I" } : Jvm.MethodName) prog_16_method_32_code (3 : Nat) (Option.some Jvm.ClassFile.FieldType.int)) ∈ lw_all := lw_g (lw_at lw_m6 91 rfl) rfl
theorem q1382 : (Jvm.Cond.methodLink "LeftGlovesModel" (164 : Nat) ({ cls := "LeftGlovesModel", name := "wisest", desc := "()I" } : Jvm.MethodName)) ∈ lw_all := lw_g (lw_at lw_m6 92 rfl) rfl
theorem q1383 : (Jvm.Cond.privateMethod ({ cls := "LeftGlovesModel", name := "wisest", desc := "()I" } : Jvm.MethodName)) ∈ lw_tbl := lw_at lw_m6 93 rfl
theorem q1384 : (Jvm.Cond.instanceMethod ({ cls := "LeftGlovesModel", name := "wisest", desc := "()I" } : Jvm.MethodName)) ∈ lw_all := lw_g (lw_at lw_m6 94 rfl) rfl
theorem q1385 : (Jvm.Cond.code ({ cls := "LeftGlovesModel", name := "wisest", desc := "()I" } : Jvm.MethodName) prog_16_method_44_code (3 : Nat) (Option.some Jvm.ClassFile.FieldType.int)) ∈ lw_all := lw_g (lw_at lw_m6 95 rfl) rfl
theorem q1387 : (Jvm.Cond.instanceMethod ({ cls := "LeftGlovesModel", name := "ahead", desc := "(III)I" } : Jvm.MethodName)) ∈ lw_all := lw_g (lw_at lw_m6 97 rfl) rfl
theorem q1388 : (Jvm.Cond.selects "LeftGlovesModel" ({ cls := "LeftGlovesModel", name := "ahead", desc := "(III)I" } : Jvm.MethodName) ({ cls := "LeftGlovesModel", name := "ahead", desc := "(III)I" } : Jvm.MethodName)) ∈ lw_all := lw_g (lw_at lw_m6 98 rfl) rfl
theorem q1389 : (Jvm.Cond.code ({ cls := "LeftGlovesModel", name := "ahead", desc := "(III)I" } : Jvm.MethodName) prog_16_method_47_code (4 : Nat) (Option.some Jvm.ClassFile.FieldType.int)) ∈ lw_all := lw_g (lw_at lw_m6 99 rfl) rfl
theorem q1390 : (Jvm.Cond.constantLong "LeftGlovesModel" (171 : Nat) (100 : Int64)) ∈ lw_all := lw_g (lw_at lw_m6 100 rfl) rfl
theorem q1391 : (Jvm.Cond.methodLink "LeftGlovesModel" (167 : Nat) ({ cls := "LeftGlovesModel", name := "copies", desc := "([I[I)V" } : Jvm.MethodName)) ∈ lw_all := lw_g (lw_at lw_m6 101 rfl) rfl
theorem q1392 : (Jvm.Cond.static ({ cls := "LeftGlovesModel", name := "copies", desc := "([I[I)V" } : Jvm.MethodName)) ∈ lw_all := lw_g (lw_at lw_m6 102 rfl) rfl
theorem q1393 : (Jvm.Cond.code ({ cls := "LeftGlovesModel", name := "copies", desc := "([I[I)V" } : Jvm.MethodName) prog_16_method_6_code (3 : Nat) (Option.none : Option Jvm.ClassFile.FieldType)) ∈ lw_all := lw_g (lw_at lw_m6 103 rfl) rfl
theorem q1394 : (Jvm.Cond.methodLink "LeftGlovesModel" (173 : Nat) ({ cls := "LeftGlovesModel", name := "behind", desc := "(II)I" } : Jvm.MethodName)) ∈ lw_all := lw_g (lw_at lw_m6 104 rfl) rfl
theorem q1395 : (Jvm.Cond.privateMethod ({ cls := "LeftGlovesModel", name := "behind", desc := "(II)I" } : Jvm.MethodName)) ∈ lw_tbl := lw_at lw_m6 105 rfl
theorem q1396 : (Jvm.Cond.instanceMethod ({ cls := "LeftGlovesModel", name := "behind", desc := "(II)I" } : Jvm.MethodName)) ∈ lw_all := lw_g (lw_at lw_m6 106 rfl) rfl
theorem q1397 : (Jvm.Cond.code ({ cls := "LeftGlovesModel", name := "behind", desc := "(II)I" } : Jvm.MethodName) prog_16_method_46_code (4 : Nat) (Option.some Jvm.ClassFile.FieldType.int)) ∈ lw_all := lw_g (lw_at lw_m6 107 rfl) rfl
theorem q1399 : (Jvm.Cond.instanceMethod ({ cls := "LeftGlovesModel", name := "hears", desc := "(II)I" } : Jvm.MethodName)) ∈ lw_all := lw_g (lw_at lw_m6 109 rfl) rfl
theorem q1400 : (Jvm.Cond.selects "LeftGlovesModel" ({ cls := "LeftGlovesModel", name := "hears", desc := "(II)I" } : Jvm.MethodName) ({ cls := "LeftGlovesModel", name := "hears", desc := "(II)I" } : Jvm.MethodName)) ∈ lw_all := lw_g (lw_at lw_m6 110 rfl) rfl
theorem q1401 : (Jvm.Cond.code ({ cls := "LeftGlovesModel", name := "hears", desc := "(II)I" } : Jvm.MethodName) prog_16_method_48_code (5 : Nat) (Option.some Jvm.ClassFile.FieldType.int)) ∈ lw_all := lw_g (lw_at lw_m6 111 rfl) rfl
theorem q1403 : (Jvm.Cond.instanceMethod ({ cls := "LeftGlovesModel", name := "wise", desc := "(II)I" } : Jvm.MethodName)) ∈ lw_all := lw_g (lw_at lw_m6 113 rfl) rfl
theorem q1404 : (Jvm.Cond.selects "LeftGlovesModel" ({ cls := "LeftGlovesModel", name := "wise", desc := "(II)I" } : Jvm.MethodName) ({ cls := "LeftGlovesModel", name := "wise", desc := "(II)I" } : Jvm.MethodName)) ∈ lw_all := lw_g (lw_at lw_m6 114 rfl) rfl
theorem q1405 : (Jvm.Cond.code ({ cls := "LeftGlovesModel", name := "wise", desc := "(II)I" } : Jvm.MethodName) prog_16_method_49_code (5 : Nat) (Option.some Jvm.ClassFile.FieldType.int)) ∈ lw_all := lw_g (lw_at lw_m6 115 rfl) rfl
theorem q1406 : (Jvm.Cond.constantLong "LeftGlovesModel" (176 : Nat) (16 : Int64)) ∈ lw_all := lw_g (lw_at lw_m6 116 rfl) rfl
theorem q1408 : (Jvm.Cond.instanceMethod ({ cls := "LeftGlovesModel", name := "out", desc := "(I)I" } : Jvm.MethodName)) ∈ lw_all := lw_g (lw_at lw_m6 118 rfl) rfl
theorem q1409 : (Jvm.Cond.selects "LeftGlovesModel" ({ cls := "LeftGlovesModel", name := "out", desc := "(I)I" } : Jvm.MethodName) ({ cls := "LeftGlovesModel", name := "out", desc := "(I)I" } : Jvm.MethodName)) ∈ lw_all := lw_g (lw_at lw_m6 119 rfl) rfl
theorem q1410 : (Jvm.Cond.code ({ cls := "LeftGlovesModel", name := "out", desc := "(I)I" } : Jvm.MethodName) prog_16_method_51_code (4 : Nat) (Option.some Jvm.ClassFile.FieldType.int)) ∈ lw_all := lw_g (lw_at lw_m6 120 rfl) rfl
theorem q1411 : (Jvm.Cond.methodLink "LeftGlovesModel" (178 : Nat) ({ cls := "LeftGlovesModel", name := "areTopics", desc := "(I)Z" } : Jvm.MethodName)) ∈ lw_all := lw_g (lw_at lw_m6 121 rfl) rfl
theorem q1412 : (Jvm.Cond.static ({ cls := "LeftGlovesModel", name := "areTopics", desc := "(I)Z" } : Jvm.MethodName)) ∈ lw_all := lw_g (lw_at lw_m6 122 rfl) rfl
theorem q1413 : (Jvm.Cond.code ({ cls := "LeftGlovesModel", name := "areTopics", desc := "(I)Z" } : Jvm.MethodName) prog_16_method_9_code (1 : Nat) (Option.some Jvm.ClassFile.FieldType.boolean)) ∈ lw_all := lw_g (lw_at lw_m6 123 rfl) rfl
theorem q1414 : (Jvm.Cond.constantLong "LeftGlovesModel" (48 : Nat) (65535 : Int64)) ∈ lw_all := lw_g (lw_at lw_m6 124 rfl) rfl
theorem q1415 : (Jvm.Cond.methodLink "LeftGlovesModel" (181 : Nat) ({ cls := "LeftGlovesModel", name := "areKnown", desc := "(I)Z" } : Jvm.MethodName)) ∈ lw_all := lw_g (lw_at lw_m6 125 rfl) rfl
theorem q1416 : (Jvm.Cond.privateMethod ({ cls := "LeftGlovesModel", name := "areKnown", desc := "(I)Z" } : Jvm.MethodName)) ∈ lw_tbl := lw_at lw_m6 126 rfl
theorem q1417 : (Jvm.Cond.instanceMethod ({ cls := "LeftGlovesModel", name := "areKnown", desc := "(I)Z" } : Jvm.MethodName)) ∈ lw_all := lw_g (lw_at lw_m6 127 rfl) rfl
theorem q1418 : (Jvm.Cond.code ({ cls := "LeftGlovesModel", name := "areKnown", desc := "(I)Z" } : Jvm.MethodName) prog_16_method_50_code (2 : Nat) (Option.some Jvm.ClassFile.FieldType.boolean)) ∈ lw_all := lw_g (lw_at lw_m6 128 rfl) rfl
theorem q1420 : (Jvm.Cond.instanceMethod ({ cls := "LeftGlovesModel", name := "leave", desc := "(II)I" } : Jvm.MethodName)) ∈ lw_all := lw_g (lw_at lw_m6 130 rfl) rfl
theorem q1421 : (Jvm.Cond.selects "LeftGlovesModel" ({ cls := "LeftGlovesModel", name := "leave", desc := "(II)I" } : Jvm.MethodName) ({ cls := "LeftGlovesModel", name := "leave", desc := "(II)I" } : Jvm.MethodName)) ∈ lw_all := lw_g (lw_at lw_m6 131 rfl) rfl
theorem q1422 : (Jvm.Cond.code ({ cls := "LeftGlovesModel", name := "leave", desc := "(II)I" } : Jvm.MethodName) prog_16_method_53_code (3 : Nat) (Option.some Jvm.ClassFile.FieldType.int)) ∈ lw_all := lw_g (lw_at lw_m6 132 rfl) rfl
theorem q1423 : (Jvm.Cond.methodLink "LeftGlovesModel" (184 : Nat) ({ cls := "LeftGlovesModel", name := "bestOf", desc := "(IIII)I" } : Jvm.MethodName)) ∈ lw_all := lw_g (lw_at lw_m6 133 rfl) rfl
theorem q1424 : (Jvm.Cond.privateMethod ({ cls := "LeftGlovesModel", name := "bestOf", desc := "(IIII)I" } : Jvm.MethodName)) ∈ lw_tbl := lw_at lw_m6 134 rfl
theorem q1425 : (Jvm.Cond.instanceMethod ({ cls := "LeftGlovesModel", name := "bestOf", desc := "(IIII)I" } : Jvm.MethodName)) ∈ lw_all := lw_g (lw_at lw_m6 135 rfl) rfl
theorem q1426 : (Jvm.Cond.code ({ cls := "LeftGlovesModel", name := "bestOf", desc := "(IIII)I" } : Jvm.MethodName) prog_16_method_52_code (9 : Nat) (Option.some Jvm.ClassFile.FieldType.int)) ∈ lw_all := lw_g (lw_at lw_m6 136 rfl) rfl
theorem q1428 : (Jvm.Cond.instanceMethod ({ cls := "LeftGlovesModel", name := "openFor", desc := "(III)I" } : Jvm.MethodName)) ∈ lw_all := lw_g (lw_at lw_m6 138 rfl) rfl
theorem q1429 : (Jvm.Cond.selects "LeftGlovesModel" ({ cls := "LeftGlovesModel", name := "openFor", desc := "(III)I" } : Jvm.MethodName) ({ cls := "LeftGlovesModel", name := "openFor", desc := "(III)I" } : Jvm.MethodName)) ∈ lw_all := lw_g (lw_at lw_m6 139 rfl) rfl
theorem q1430 : (Jvm.Cond.code ({ cls := "LeftGlovesModel", name := "openFor", desc := "(III)I" } : Jvm.MethodName) prog_16_method_54_code (5 : Nat) (Option.some Jvm.ClassFile.FieldType.int)) ∈ lw_all := lw_g (lw_at lw_m6 140 rfl) rfl
theorem q1432 : (Jvm.Cond.instanceMethod ({ cls := "LeftGlovesModel", name := "kindFor", desc := "(II)I" } : Jvm.MethodName)) ∈ lw_all := lw_g (lw_at lw_m6 142 rfl) rfl
theorem q1433 : (Jvm.Cond.selects "LeftGlovesModel" ({ cls := "LeftGlovesModel", name := "kindFor", desc := "(II)I" } : Jvm.MethodName) ({ cls := "LeftGlovesModel", name := "kindFor", desc := "(II)I" } : Jvm.MethodName)) ∈ lw_all := lw_g (lw_at lw_m6 143 rfl) rfl
theorem q1434 : (Jvm.Cond.code ({ cls := "LeftGlovesModel", name := "kindFor", desc := "(II)I" } : Jvm.MethodName) prog_16_method_55_code (3 : Nat) (Option.some Jvm.ClassFile.FieldType.int)) ∈ lw_all := lw_g (lw_at lw_m6 144 rfl) rfl
theorem q1436 : (Jvm.Cond.instanceMethod ({ cls := "LeftGlovesModel", name := "lower", desc := "(I)I" } : Jvm.MethodName)) ∈ lw_all := lw_g (lw_at lw_m6 146 rfl) rfl
theorem q1437 : (Jvm.Cond.selects "LeftGlovesModel" ({ cls := "LeftGlovesModel", name := "lower", desc := "(I)I" } : Jvm.MethodName) ({ cls := "LeftGlovesModel", name := "lower", desc := "(I)I" } : Jvm.MethodName)) ∈ lw_all := lw_g (lw_at lw_m6 147 rfl) rfl
theorem q1438 : (Jvm.Cond.code ({ cls := "LeftGlovesModel", name := "lower", desc := "(I)I" } : Jvm.MethodName) prog_16_method_56_code (4 : Nat) (Option.some Jvm.ClassFile.FieldType.int)) ∈ lw_all := lw_g (lw_at lw_m6 148 rfl) rfl
theorem q1440 : (Jvm.Cond.instanceMethod ({ cls := "LeftGlovesModel", name := "cover", desc := "(I)I" } : Jvm.MethodName)) ∈ lw_all := lw_g (lw_at lw_m6 150 rfl) rfl
theorem q1441 : (Jvm.Cond.selects "LeftGlovesModel" ({ cls := "LeftGlovesModel", name := "cover", desc := "(I)I" } : Jvm.MethodName) ({ cls := "LeftGlovesModel", name := "cover", desc := "(I)I" } : Jvm.MethodName)) ∈ lw_all := lw_g (lw_at lw_m6 151 rfl) rfl
theorem q1442 : (Jvm.Cond.code ({ cls := "LeftGlovesModel", name := "cover", desc := "(I)I" } : Jvm.MethodName) prog_16_method_57_code (5 : Nat) (Option.some Jvm.ClassFile.FieldType.int)) ∈ lw_all := lw_g (lw_at lw_m6 152 rfl) rfl
theorem q1444 : (Jvm.Cond.instanceMethod ({ cls := "LeftGlovesModel", name := "away", desc := "(III)I" } : Jvm.MethodName)) ∈ lw_all := lw_g (lw_at lw_m6 154 rfl) rfl
theorem q1445 : (Jvm.Cond.selects "LeftGlovesModel" ({ cls := "LeftGlovesModel", name := "away", desc := "(III)I" } : Jvm.MethodName) ({ cls := "LeftGlovesModel", name := "away", desc := "(III)I" } : Jvm.MethodName)) ∈ lw_all := lw_g (lw_at lw_m6 155 rfl) rfl
theorem q1446 : (Jvm.Cond.code ({ cls := "LeftGlovesModel", name := "away", desc := "(III)I" } : Jvm.MethodName) prog_16_method_58_code (7 : Nat) (Option.some Jvm.ClassFile.FieldType.int)) ∈ lw_all := lw_g (lw_at lw_m6 156 rfl) rfl
theorem q1447 : (Jvm.Cond.constantLong "LeftGlovesModel" (188 : Nat) (20 : Int64)) ∈ lw_all := lw_g (lw_at lw_m6 157 rfl) rfl
theorem q1449 : (Jvm.Cond.instanceMethod ({ cls := "LeftGlovesModel", name := "fits", desc := "(II)I" } : Jvm.MethodName)) ∈ lw_all := lw_g (lw_at lw_m6 159 rfl) rfl
theorem q1450 : (Jvm.Cond.selects "LeftGlovesModel" ({ cls := "LeftGlovesModel", name := "fits", desc := "(II)I" } : Jvm.MethodName) ({ cls := "LeftGlovesModel", name := "fits", desc := "(II)I" } : Jvm.MethodName)) ∈ lw_all := lw_g (lw_at lw_m6 160 rfl) rfl
theorem q1451 : (Jvm.Cond.code ({ cls := "LeftGlovesModel", name := "fits", desc := "(II)I" } : Jvm.MethodName) prog_16_method_61_code (4 : Nat) (Option.some Jvm.ClassFile.FieldType.int)) ∈ lw_all := lw_g (lw_at lw_m6 161 rfl) rfl
theorem q1452 : (Jvm.Cond.methodLink "LeftGlovesModel" (193 : Nat) ({ cls := "LeftGlovesModel", name := "whyNot", desc := "(II)I" } : Jvm.MethodName)) ∈ lw_all := lw_g (lw_at lw_m6 162 rfl) rfl
theorem q1453 : (Jvm.Cond.privateMethod ({ cls := "LeftGlovesModel", name := "whyNot", desc := "(II)I" } : Jvm.MethodName)) ∈ lw_tbl := lw_at lw_m6 163 rfl
theorem q1454 : (Jvm.Cond.instanceMethod ({ cls := "LeftGlovesModel", name := "whyNot", desc := "(II)I" } : Jvm.MethodName)) ∈ lw_all := lw_g (lw_at lw_m6 164 rfl) rfl
theorem q1455 : (Jvm.Cond.code ({ cls := "LeftGlovesModel", name := "whyNot", desc := "(II)I" } : Jvm.MethodName) prog_16_method_60_code (4 : Nat) (Option.some Jvm.ClassFile.FieldType.int)) ∈ lw_all := lw_g (lw_at lw_m6 165 rfl) rfl
theorem q1456 : (Jvm.Cond.methodLink "LeftGlovesModel" (190 : Nat) ({ cls := "LeftGlovesModel", name := "whyNone", desc := "(I)I" } : Jvm.MethodName)) ∈ lw_all := lw_g (lw_at lw_m6 166 rfl) rfl
theorem q1457 : (Jvm.Cond.privateMethod ({ cls := "LeftGlovesModel", name := "whyNone", desc := "(I)I" } : Jvm.MethodName)) ∈ lw_tbl := lw_at lw_m6 167 rfl
theorem q1458 : (Jvm.Cond.instanceMethod ({ cls := "LeftGlovesModel", name := "whyNone", desc := "(I)I" } : Jvm.MethodName)) ∈ lw_all := lw_g (lw_at lw_m6 168 rfl) rfl
theorem q1459 : (Jvm.Cond.code ({ cls := "LeftGlovesModel", name := "whyNone", desc := "(I)I" } : Jvm.MethodName) prog_16_method_89_code (2 : Nat) (Option.some Jvm.ClassFile.FieldType.int)) ∈ lw_all := lw_g (lw_at lw_m6 169 rfl) rfl
theorem q1460 : (Jvm.Cond.methodLink "LeftGlovesModel" (309 : Nat) ({ cls := "LeftGlovesModel", name := "isSheet", desc := "(I)Z" } : Jvm.MethodName)) ∈ lw_all := lw_g (lw_at lw_m6 170 rfl) rfl
theorem q1461 : (Jvm.Cond.static ({ cls := "LeftGlovesModel", name := "isSheet", desc := "(I)Z" } : Jvm.MethodName)) ∈ lw_all := lw_g (lw_at lw_m6 171 rfl) rfl
theorem q1462 : (Jvm.Cond.code ({ cls := "LeftGlovesModel", name := "isSheet", desc := "(I)Z" } : Jvm.MethodName) prog_16_method_87_code (1 : Nat) (Option.some Jvm.ClassFile.FieldType.boolean)) ∈ lw_all := lw_g (lw_at lw_m6 172 rfl) rfl
theorem q1463 : (Jvm.Cond.methodLink "LeftGlovesModel" (196 : Nat) ({ cls := "LeftGlovesModel", name := "fitting", desc := "(IIII)I" } : Jvm.MethodName)) ∈ lw_all := lw_g (lw_at lw_m6 173 rfl) rfl
theorem q1464 : (Jvm.Cond.privateMethod ({ cls := "LeftGlovesModel", name := "fitting", desc := "(IIII)I" } : Jvm.MethodName)) ∈ lw_tbl := lw_at lw_m6 174 rfl
theorem q1465 : (Jvm.Cond.instanceMethod ({ cls := "LeftGlovesModel", name := "fitting", desc := "(IIII)I" } : Jvm.MethodName)) ∈ lw_all := lw_g (lw_at lw_m6 175 rfl) rfl
theorem q1466 : (Jvm.Cond.code ({ cls := "LeftGlovesModel", name := "fitting", desc := "(IIII)I" } : Jvm.MethodName) prog_16_method_59_code (10 : Nat) (Option.some Jvm.ClassFile.FieldType.int)) ∈ lw_all := lw_g (lw_at lw_m6 176 rfl) rfl
theorem q1468 : (Jvm.Cond.instanceMethod ({ cls := "LeftGlovesModel", name := "kinds", desc := "(II)I" } : Jvm.MethodName)) ∈ lw_all := lw_g (lw_at lw_m6 178 rfl) rfl
theorem q1469 : (Jvm.Cond.selects "LeftGlovesModel" ({ cls := "LeftGlovesModel", name := "kinds", desc := "(II)I" } : Jvm.MethodName) ({ cls := "LeftGlovesModel", name := "kinds", desc := "(II)I" } : Jvm.MethodName)) ∈ lw_all := lw_g (lw_at lw_m6 179 rfl) rfl
theorem q1470 : (Jvm.Cond.code ({ cls := "LeftGlovesModel", name := "kinds", desc := "(II)I" } : Jvm.MethodName) prog_16_method_62_code (4 : Nat) (Option.some Jvm.ClassFile.FieldType.int)) ∈ lw_all := lw_g (lw_at lw_m6 180 rfl) rfl
theorem q1472 : (Jvm.Cond.instanceMethod ({ cls := "LeftGlovesModel", name := "talk", desc := "(I)I" } : Jvm.MethodName)) ∈ lw_all := lw_g (lw_at lw_m6 182 rfl) rfl
theorem q1473 : (Jvm.Cond.selects "LeftGlovesModel" ({ cls := "LeftGlovesModel", name := "talk", desc := "(I)I" } : Jvm.MethodName) ({ cls := "LeftGlovesModel", name := "talk", desc := "(I)I" } : Jvm.MethodName)) ∈ lw_all := lw_g (lw_at lw_m6 183 rfl) rfl
theorem q1474 : (Jvm.Cond.code ({ cls := "LeftGlovesModel", name := "talk", desc := "(I)I" } : Jvm.MethodName) prog_16_method_64_code (6 : Nat) (Option.some Jvm.ClassFile.FieldType.int)) ∈ lw_all := lw_g (lw_at lw_m6 184 rfl) rfl
theorem q1475 : (Jvm.Cond.methodLink "LeftGlovesModel" (200 : Nat) ({ cls := "LeftGlovesModel", name := "drawOne", desc := "()I" } : Jvm.MethodName)) ∈ lw_all := lw_g (lw_at lw_m6 185 rfl) rfl
theorem q1476 : (Jvm.Cond.privateMethod ({ cls := "LeftGlovesModel", name := "drawOne", desc := "()I" } : Jvm.MethodName)) ∈ lw_tbl := lw_at lw_m6 186 rfl
theorem q1477 : (Jvm.Cond.instanceMethod ({ cls := "LeftGlovesModel", name := "drawOne", desc := "()I" } : Jvm.MethodName)) ∈ lw_all := lw_g (lw_at lw_m6 187 rfl) rfl
theorem q1478 : (Jvm.Cond.code ({ cls := "LeftGlovesModel", name := "drawOne", desc := "()I" } : Jvm.MethodName) prog_16_method_63_code (1 : Nat) (Option.some Jvm.ClassFile.FieldType.int)) ∈ lw_all := lw_g (lw_at lw_m6 188 rfl) rfl
theorem q1479 : (Jvm.Cond.constant "LeftGlovesModel" (199 : Nat) (1103515245 : Int32)) ∈ lw_all := lw_g (lw_at lw_m6 189 rfl) rfl
theorem q1481 : (Jvm.Cond.instanceMethod ({ cls := "LeftGlovesModel", name := "odds", desc := "(III)J" } : Jvm.MethodName)) ∈ lw_all := lw_g (lw_at lw_m6 191 rfl) rfl
theorem q1482 : (Jvm.Cond.selects "LeftGlovesModel" ({ cls := "LeftGlovesModel", name := "odds", desc := "(III)J" } : Jvm.MethodName) ({ cls := "LeftGlovesModel", name := "odds", desc := "(III)J" } : Jvm.MethodName)) ∈ lw_all := lw_g (lw_at lw_m6 192 rfl) rfl
theorem q1483 : (Jvm.Cond.code ({ cls := "LeftGlovesModel", name := "odds", desc := "(III)J" } : Jvm.MethodName) prog_16_method_65_code (9 : Nat) (Option.some Jvm.ClassFile.FieldType.long)) ∈ lw_all := lw_g (lw_at lw_m6 193 rfl) rfl
theorem q1485 : (Jvm.Cond.instanceMethod ({ cls := "LeftGlovesModel", name := "seed", desc := "(I)I" } : Jvm.MethodName)) ∈ lw_all := lw_g (lw_at lw_m6 195 rfl) rfl
theorem q1486 : (Jvm.Cond.selects "LeftGlovesModel" ({ cls := "LeftGlovesModel", name := "seed", desc := "(I)I" } : Jvm.MethodName) ({ cls := "LeftGlovesModel", name := "seed", desc := "(I)I" } : Jvm.MethodName)) ∈ lw_all := lw_g (lw_at lw_m6 196 rfl) rfl
theorem q1487 : (Jvm.Cond.code ({ cls := "LeftGlovesModel", name := "seed", desc := "(I)I" } : Jvm.MethodName) prog_16_method_66_code (2 : Nat) (Option.some Jvm.ClassFile.FieldType.int)) ∈ lw_all := lw_g (lw_at lw_m6 197 rfl) rfl
theorem q1489 : (Jvm.Cond.instanceMethod ({ cls := "LeftGlovesModel", name := "feed", desc := "(II)I" } : Jvm.MethodName)) ∈ lw_all := lw_g (lw_at lw_m6 199 rfl) rfl
theorem q1490 : (Jvm.Cond.selects "LeftGlovesModel" ({ cls := "LeftGlovesModel", name := "feed", desc := "(II)I" } : Jvm.MethodName) ({ cls := "LeftGlovesModel", name := "feed", desc := "(II)I" } : Jvm.MethodName)) ∈ lw_all := lw_g (lw_at lw_m6 200 rfl) rfl
theorem q1491 : (Jvm.Cond.code ({ cls := "LeftGlovesModel", name := "feed", desc := "(II)I" } : Jvm.MethodName) prog_16_method_67_code (4 : Nat) (Option.some Jvm.ClassFile.FieldType.int)) ∈ lw_all := lw_g (lw_at lw_m6 201 rfl) rfl
theorem q1492 : (Jvm.Cond.constantLong "LeftGlovesModel" (203 : Nat) (4 : Int64)) ∈ lw_all := lw_g (lw_at lw_m6 202 rfl) rfl
theorem q1494 : (Jvm.Cond.instanceMethod ({ cls := "LeftGlovesModel", name := "wipe", desc := "()I" } : Jvm.MethodName)) ∈ lw_all := lw_g (lw_at lw_m6 204 rfl) rfl
theorem q1495 : (Jvm.Cond.selects "LeftGlovesModel" ({ cls := "LeftGlovesModel", name := "wipe", desc := "()I" } : Jvm.MethodName) ({ cls := "LeftGlovesModel", name := "wipe", desc := "()I" } : Jvm.MethodName)) ∈ lw_all := lw_g (lw_at lw_m6 205 rfl) rfl
theorem q1496 : (Jvm.Cond.code ({ cls := "LeftGlovesModel", name := "wipe", desc := "()I" } : Jvm.MethodName) prog_16_method_68_code (2 : Nat) (Option.some Jvm.ClassFile.FieldType.int)) ∈ lw_all := lw_g (lw_at lw_m6 206 rfl) rfl
theorem q1498 : (Jvm.Cond.instanceMethod ({ cls := "LeftGlovesModel", name := "text", desc := "()I" } : Jvm.MethodName)) ∈ lw_all := lw_g (lw_at lw_m6 208 rfl) rfl
theorem q1499 : (Jvm.Cond.selects "LeftGlovesModel" ({ cls := "LeftGlovesModel", name := "text", desc := "()I" } : Jvm.MethodName) ({ cls := "LeftGlovesModel", name := "text", desc := "()I" } : Jvm.MethodName)) ∈ lw_all := lw_g (lw_at lw_m6 209 rfl) rfl
theorem q1500 : (Jvm.Cond.code ({ cls := "LeftGlovesModel", name := "text", desc := "()I" } : Jvm.MethodName) prog_16_method_83_code (2 : Nat) (Option.some Jvm.ClassFile.FieldType.int)) ∈ lw_all := lw_g (lw_at lw_m6 210 rfl) rfl
theorem q1501 : (Jvm.Cond.methodLink "LeftGlovesModel" (299 : Nat) ({ cls := "LeftGlovesModel", name := "items", desc := "()I" } : Jvm.MethodName)) ∈ lw_all := lw_g (lw_at lw_m6 211 rfl) rfl
theorem q1502 : (Jvm.Cond.privateMethod ({ cls := "LeftGlovesModel", name := "items", desc := "()I" } : Jvm.MethodName)) ∈ lw_tbl := lw_at lw_m6 212 rfl
theorem q1503 : (Jvm.Cond.instanceMethod ({ cls := "LeftGlovesModel", name := "items", desc := "()I" } : Jvm.MethodName)) ∈ lw_all := lw_g (lw_at lw_m6 213 rfl) rfl
theorem q1504 : (Jvm.Cond.code ({ cls := "LeftGlovesModel", name := "items", desc := "()I" } : Jvm.MethodName) prog_16_method_82_code (2 : Nat) (Option.some Jvm.ClassFile.FieldType.int)) ∈ lw_all := lw_g (lw_at lw_m6 214 rfl) rfl
theorem q1505 : (Jvm.Cond.methodLink "LeftGlovesModel" (262 : Nat) ({ cls := "LeftGlovesModel", name := "next", desc := "()V" } : Jvm.MethodName)) ∈ lw_all := lw_g (lw_at lw_m6 215 rfl) rfl
theorem q1506 : (Jvm.Cond.privateMethod ({ cls := "LeftGlovesModel", name := "next", desc := "()V" } : Jvm.MethodName)) ∈ lw_tbl := lw_at lw_m6 216 rfl
theorem q1507 : (Jvm.Cond.instanceMethod ({ cls := "LeftGlovesModel", name := "next", desc := "()V" } : Jvm.MethodName)) ∈ lw_all := lw_g (lw_at lw_m6 217 rfl) rfl
theorem q1508 : (Jvm.Cond.code ({ cls := "LeftGlovesModel", name := "next", desc := "()V" } : Jvm.MethodName) prog_16_method_72_code (2 : Nat) (Option.none : Option Jvm.ClassFile.FieldType)) ∈ lw_all := lw_g (lw_at lw_m6 218 rfl) rfl
theorem q1509 : (Jvm.Cond.methodLink "LeftGlovesModel" (211 : Nat) ({ cls := "LeftGlovesModel", name := "byteAt", desc := "(I)I" } : Jvm.MethodName)) ∈ lw_all := lw_g (lw_at lw_m6 219 rfl) rfl
theorem q1510 : (Jvm.Cond.privateMethod ({ cls := "LeftGlovesModel", name := "byteAt", desc := "(I)I" } : Jvm.MethodName)) ∈ lw_tbl := lw_at lw_m6 220 rfl
theorem q1511 : (Jvm.Cond.instanceMethod ({ cls := "LeftGlovesModel", name := "byteAt", desc := "(I)I" } : Jvm.MethodName)) ∈ lw_all := lw_g (lw_at lw_m6 221 rfl) rfl
theorem q1512 : (Jvm.Cond.code ({ cls := "LeftGlovesModel", name := "byteAt", desc := "(I)I" } : Jvm.MethodName) prog_16_method_71_code (2 : Nat) (Option.some Jvm.ClassFile.FieldType.int)) ∈ lw_all := lw_g (lw_at lw_m6 222 rfl) rfl
theorem q1513 : (Jvm.Cond.methodLink "LeftGlovesModel" (224 : Nat) ({ cls := "LeftGlovesModel", name := "letter", desc := "(I)I" } : Jvm.MethodName)) ∈ lw_all := lw_g (lw_at lw_m6 223 rfl) rfl
theorem q1514 : (Jvm.Cond.static ({ cls := "LeftGlovesModel", name := "letter", desc := "(I)I" } : Jvm.MethodName)) ∈ lw_all := lw_g (lw_at lw_m6 224 rfl) rfl
theorem q1515 : (Jvm.Cond.code ({ cls := "LeftGlovesModel", name := "letter", desc := "(I)I" } : Jvm.MethodName) prog_16_method_69_code (1 : Nat) (Option.some Jvm.ClassFile.FieldType.int)) ∈ lw_all := lw_g (lw_at lw_m6 225 rfl) rfl
theorem q1516 : (Jvm.Cond.constantLong "LeftGlovesModel" (227 : Nat) (100000000000000000 : Int64)) ∈ lw_all := lw_g (lw_at lw_m6 226 rfl) rfl
theorem q1517 : (Jvm.Cond.constantLong "LeftGlovesModel" (229 : Nat) (27 : Int64)) ∈ lw_all := lw_g (lw_at lw_m6 227 rfl) rfl
theorem q1518 : (Jvm.Cond.methodLink "LeftGlovesModel" (231 : Nat) ({ cls := "LeftGlovesModel", name := "isDigit", desc := "(I)Z" } : Jvm.MethodName)) ∈ lw_all := lw_g (lw_at lw_m6 228 rfl) rfl
theorem q1519 : (Jvm.Cond.static ({ cls := "LeftGlovesModel", name := "isDigit", desc := "(I)Z" } : Jvm.MethodName)) ∈ lw_all := lw_g (lw_at lw_m6 229 rfl) rfl
theorem q1520 : (Jvm.Cond.code ({ cls := "LeftGlovesModel", name := "isDigit", desc := "(I)Z" } : Jvm.MethodName) prog_16_method_70_code (1 : Nat) (Option.some Jvm.ClassFile.FieldType.boolean)) ∈ lw_all := lw_g (lw_at lw_m6 230 rfl) rfl
theorem q1521 : (Jvm.Cond.constantLong "LeftGlovesModel" (234 : Nat) (99999 : Int64)) ∈ lw_all := lw_g (lw_at lw_m6 231 rfl) rfl
theorem q1522 : (Jvm.Cond.constantLong "LeftGlovesModel" (236 : Nat) (48 : Int64)) ∈ lw_all := lw_g (lw_at lw_m6 232 rfl) rfl
theorem q1523 : (Jvm.Cond.methodLink "LeftGlovesModel" (296 : Nat) ({ cls := "LeftGlovesModel", name := "item", desc := "()V" } : Jvm.MethodName)) ∈ lw_all := lw_g (lw_at lw_m6 233 rfl) rfl
theorem q1524 : (Jvm.Cond.privateMethod ({ cls := "LeftGlovesModel", name := "item", desc := "()V" } : Jvm.MethodName)) ∈ lw_tbl := lw_at lw_m6 234 rfl
theorem q1525 : (Jvm.Cond.instanceMethod ({ cls := "LeftGlovesModel", name := "item", desc := "()V" } : Jvm.MethodName)) ∈ lw_all := lw_g (lw_at lw_m6 235 rfl) rfl
theorem q1526 : (Jvm.Cond.code ({ cls := "LeftGlovesModel", name := "item", desc := "()V" } : Jvm.MethodName) prog_16_method_81_code (2 : Nat) (Option.none : Option Jvm.ClassFile.FieldType)) ∈ lw_all := lw_g (lw_at lw_m6 236 rfl) rfl
theorem q1527 : (Jvm.Cond.methodLink "LeftGlovesModel" (280 : Nat) ({ cls := "LeftGlovesModel", name := "kindHere", desc := "()I" } : Jvm.MethodName)) ∈ lw_all := lw_g (lw_at lw_m6 237 rfl) rfl
theorem q1528 : (Jvm.Cond.privateMethod ({ cls := "LeftGlovesModel", name := "kindHere", desc := "()I" } : Jvm.MethodName)) ∈ lw_tbl := lw_at lw_m6 238 rfl
theorem q1529 : (Jvm.Cond.instanceMethod ({ cls := "LeftGlovesModel", name := "kindHere", desc := "()I" } : Jvm.MethodName)) ∈ lw_all := lw_g (lw_at lw_m6 239 rfl) rfl
theorem q1530 : (Jvm.Cond.code ({ cls := "LeftGlovesModel", name := "kindHere", desc := "()I" } : Jvm.MethodName) prog_16_method_75_code (1 : Nat) (Option.some Jvm.ClassFile.FieldType.int)) ∈ lw_all := lw_g (lw_at lw_m7 0 rfl) rfl
theorem q1531 : (Jvm.Cond.constantLong "LeftGlovesModel" (241 : Nat) (3967817 : Int64)) ∈ lw_all := lw_g (lw_at lw_m7 1 rfl) rfl
theorem q1532 : (Jvm.Cond.methodLink "LeftGlovesModel" (243 : Nat) ({ cls := "LeftGlovesModel", name := "isWord", desc := "(J)Z" } : Jvm.MethodName)) ∈ lw_all := lw_g (lw_at lw_m7 2 rfl) rfl
theorem q1533 : (Jvm.Cond.privateMethod ({ cls := "LeftGlovesModel", name := "isWord", desc := "(J)Z" } : Jvm.MethodName)) ∈ lw_tbl := lw_at lw_m7 3 rfl
theorem q1534 : (Jvm.Cond.instanceMethod ({ cls := "LeftGlovesModel", name := "isWord", desc := "(J)Z" } : Jvm.MethodName)) ∈ lw_all := lw_g (lw_at lw_m7 4 rfl) rfl
theorem q1535 : (Jvm.Cond.code ({ cls := "LeftGlovesModel", name := "isWord", desc := "(J)Z" } : Jvm.MethodName) prog_16_method_74_code (3 : Nat) (Option.some Jvm.ClassFile.FieldType.boolean)) ∈ lw_all := lw_g (lw_at lw_m7 5 rfl) rfl
theorem q1536 : (Jvm.Cond.constantLong "LeftGlovesModel" (247 : Nat) (4393273559 : Int64)) ∈ lw_all := lw_g (lw_at lw_m7 6 rfl) rfl
theorem q1537 : (Jvm.Cond.constantLong "LeftGlovesModel" (249 : Nat) (191727149 : Int64)) ∈ lw_all := lw_g (lw_at lw_m7 7 rfl) rfl
theorem q1538 : (Jvm.Cond.constantLong "LeftGlovesModel" (251 : Nat) (237058 : Int64)) ∈ lw_all := lw_g (lw_at lw_m7 8 rfl) rfl
theorem q1539 : (Jvm.Cond.constantLong "LeftGlovesModel" (253 : Nat) (1489745 : Int64)) ∈ lw_all := lw_g (lw_at lw_m7 9 rfl) rfl
theorem q1540 : (Jvm.Cond.constantLong "LeftGlovesModel" (255 : Nat) (10497768 : Int64)) ∈ lw_all := lw_g (lw_at lw_m7 10 rfl) rfl
theorem q1541 : (Jvm.Cond.constantLong "LeftGlovesModel" (257 : Nat) (65782373 : Int64)) ∈ lw_all := lw_g (lw_at lw_m7 11 rfl) rfl
theorem q1542 : (Jvm.Cond.methodLink "LeftGlovesModel" (283 : Nat) ({ cls := "LeftGlovesModel", name := "gloveHere", desc := "(I)V" } : Jvm.MethodName)) ∈ lw_all := lw_g (lw_at lw_m7 12 rfl) rfl
theorem q1543 : (Jvm.Cond.privateMethod ({ cls := "LeftGlovesModel", name := "gloveHere", desc := "(I)V" } : Jvm.MethodName)) ∈ lw_tbl := lw_at lw_m7 13 rfl
theorem q1544 : (Jvm.Cond.instanceMethod ({ cls := "LeftGlovesModel", name := "gloveHere", desc := "(I)V" } : Jvm.MethodName)) ∈ lw_all := lw_g (lw_at lw_m7 14 rfl) rfl
theorem q1545 : (Jvm.Cond.code ({ cls := "LeftGlovesModel", name := "gloveHere", desc := "(I)V" } : Jvm.MethodName) prog_16_method_78_code (3 : Nat) (Option.none : Option Jvm.ClassFile.FieldType)) ∈ lw_all := lw_g (lw_at lw_m7 15 rfl) rfl
theorem q1546 : (Jvm.Cond.methodLink "LeftGlovesModel" (259 : Nat) ({ cls := "LeftGlovesModel", name := "wrongHere", desc := "()V" } : Jvm.MethodName)) ∈ lw_all := lw_g (lw_at lw_m7 16 rfl) rfl
theorem q1547 : (Jvm.Cond.privateMethod ({ cls := "LeftGlovesModel", name := "wrongHere", desc := "()V" } : Jvm.MethodName)) ∈ lw_tbl := lw_at lw_m7 17 rfl
theorem q1548 : (Jvm.Cond.instanceMethod ({ cls := "LeftGlovesModel", name := "wrongHere", desc := "()V" } : Jvm.MethodName)) ∈ lw_all := lw_g (lw_at lw_m7 18 rfl) rfl
theorem q1549 : (Jvm.Cond.code ({ cls := "LeftGlovesModel", name := "wrongHere", desc := "()V" } : Jvm.MethodName) prog_16_method_73_code (1 : Nat) (Option.none : Option Jvm.ClassFile.FieldType)) ∈ lw_all := lw_g (lw_at lw_m7 19 rfl) rfl
theorem q1550 : (Jvm.Cond.constantLong "LeftGlovesModel" (268 : Nat) (257 : Int64)) ∈ lw_all := lw_g (lw_at lw_m7 20 rfl) rfl
theorem q1551 : (Jvm.Cond.methodLink "LeftGlovesModel" (270 : Nat) ({ cls := "LeftGlovesModel", name := "perhaps", desc := "(JII)V" } : Jvm.MethodName)) ∈ lw_all := lw_g (lw_at lw_m7 21 rfl) rfl
theorem q1552 : (Jvm.Cond.privateMethod ({ cls := "LeftGlovesModel", name := "perhaps", desc := "(JII)V" } : Jvm.MethodName)) ∈ lw_tbl := lw_at lw_m7 22 rfl
theorem q1553 : (Jvm.Cond.instanceMethod ({ cls := "LeftGlovesModel", name := "perhaps", desc := "(JII)V" } : Jvm.MethodName)) ∈ lw_all := lw_g (lw_at lw_m7 23 rfl) rfl
theorem q1554 : (Jvm.Cond.code ({ cls := "LeftGlovesModel", name := "perhaps", desc := "(JII)V" } : Jvm.MethodName) prog_16_method_77_code (6 : Nat) (Option.none : Option Jvm.ClassFile.FieldType)) ∈ lw_all := lw_g (lw_at lw_m7 24 rfl) rfl
theorem q1555 : (Jvm.Cond.methodLink "LeftGlovesModel" (265 : Nat) ({ cls := "LeftGlovesModel", name := "numberHere", desc := "(I)I" } : Jvm.MethodName)) ∈ lw_all := lw_g (lw_at lw_m7 25 rfl) rfl
theorem q1556 : (Jvm.Cond.privateMethod ({ cls := "LeftGlovesModel", name := "numberHere", desc := "(I)I" } : Jvm.MethodName)) ∈ lw_tbl := lw_at lw_m7 26 rfl
theorem q1557 : (Jvm.Cond.instanceMethod ({ cls := "LeftGlovesModel", name := "numberHere", desc := "(I)I" } : Jvm.MethodName)) ∈ lw_all := lw_g (lw_at lw_m7 27 rfl) rfl
theorem q1558 : (Jvm.Cond.code ({ cls := "LeftGlovesModel", name := "numberHere", desc := "(I)I" } : Jvm.MethodName) prog_16_method_76_code (3 : Nat) (Option.some Jvm.ClassFile.FieldType.int)) ∈ lw_all := lw_g (lw_at lw_m7 28 rfl) rfl
theorem q1559 : (Jvm.Cond.constantLong "LeftGlovesModel" (274 : Nat) (307058 : Int64)) ∈ lw_all := lw_g (lw_at lw_m7 29 rfl) rfl
theorem q1560 : (Jvm.Cond.constantLong "LeftGlovesModel" (276 : Nat) (6132988 : Int64)) ∈ lw_all := lw_g (lw_at lw_m7 30 rfl) rfl
theorem q1561 : (Jvm.Cond.constantLong "LeftGlovesModel" (278 : Nat) (242911 : Int64)) ∈ lw_all := lw_g (lw_at lw_m7 31 rfl) rfl
theorem q1562 : (Jvm.Cond.constantLong "LeftGlovesModel" (286 : Nat) (374953 : Int64)) ∈ lw_all := lw_g (lw_at lw_m7 32 rfl) rfl
theorem q1563 : (Jvm.Cond.methodLink "LeftGlovesModel" (288 : Nat) ({ cls := "LeftGlovesModel", name := "saidHere", desc := "()V" } : Jvm.MethodName)) ∈ lw_all := lw_g (lw_at lw_m7 33 rfl) rfl
theorem q1564 : (Jvm.Cond.privateMethod ({ cls := "LeftGlovesModel", name := "saidHere", desc := "()V" } : Jvm.MethodName)) ∈ lw_tbl := lw_at lw_m7 34 rfl
theorem q1565 : (Jvm.Cond.instanceMethod ({ cls := "LeftGlovesModel", name := "saidHere", desc := "()V" } : Jvm.MethodName)) ∈ lw_all := lw_g (lw_at lw_m7 35 rfl) rfl
theorem q1566 : (Jvm.Cond.code ({ cls := "LeftGlovesModel", name := "saidHere", desc := "()V" } : Jvm.MethodName) prog_16_method_79_code (5 : Nat) (Option.none : Option Jvm.ClassFile.FieldType)) ∈ lw_all := lw_g (lw_at lw_m7 36 rfl) rfl
theorem q1567 : (Jvm.Cond.constantLong "LeftGlovesModel" (291 : Nat) (158575 : Int64)) ∈ lw_all := lw_g (lw_at lw_m7 37 rfl) rfl
theorem q1568 : (Jvm.Cond.methodLink "LeftGlovesModel" (293 : Nat) ({ cls := "LeftGlovesModel", name := "handHere", desc := "()V" } : Jvm.MethodName)) ∈ lw_all := lw_g (lw_at lw_m7 38 rfl) rfl
theorem q1569 : (Jvm.Cond.privateMethod ({ cls := "LeftGlovesModel", name := "handHere", desc := "()V" } : Jvm.MethodName)) ∈ lw_tbl := lw_at lw_m7 39 rfl
theorem q1570 : (Jvm.Cond.instanceMethod ({ cls := "LeftGlovesModel", name := "handHere", desc := "()V" } : Jvm.MethodName)) ∈ lw_all := lw_g (lw_at lw_m7 40 rfl) rfl
theorem q1571 : (Jvm.Cond.code ({ cls := "LeftGlovesModel", name := "handHere", desc := "()V" } : Jvm.MethodName) prog_16_method_80_code (3 : Nat) (Option.none : Option Jvm.ClassFile.FieldType)) ∈ lw_all := lw_g (lw_at lw_m7 41 rfl) rfl
theorem q1573 : (Jvm.Cond.instanceMethod ({ cls := "LeftGlovesModel", name := "hold", desc := "(II)I" } : Jvm.MethodName)) ∈ lw_all := lw_g (lw_at lw_m7 43 rfl) rfl
theorem q1574 : (Jvm.Cond.selects "LeftGlovesModel" ({ cls := "LeftGlovesModel", name := "hold", desc := "(II)I" } : Jvm.MethodName) ({ cls := "LeftGlovesModel", name := "hold", desc := "(II)I" } : Jvm.MethodName)) ∈ lw_all := lw_g (lw_at lw_m7 44 rfl) rfl
theorem q1575 : (Jvm.Cond.code ({ cls := "LeftGlovesModel", name := "hold", desc := "(II)I" } : Jvm.MethodName) prog_16_method_84_code (3 : Nat) (Option.some Jvm.ClassFile.FieldType.int)) ∈ lw_all := lw_g (lw_at lw_m7 45 rfl) rfl
theorem q1576 : (Jvm.Cond.constantLong "LeftGlovesModel" (302 : Nat) (9 : Int64)) ∈ lw_all := lw_g (lw_at lw_m7 46 rfl) rfl
theorem q1577 : (Jvm.Cond.constantLong "LeftGlovesModel" (304 : Nat) (-1 : Int64)) ∈ lw_all := lw_g (lw_at lw_m7 47 rfl) rfl
theorem q1579 : (Jvm.Cond.instanceMethod ({ cls := "LeftGlovesModel", name := "as", desc := "(II)I" } : Jvm.MethodName)) ∈ lw_all := lw_g (lw_at lw_m7 49 rfl) rfl
theorem q1580 : (Jvm.Cond.selects "LeftGlovesModel" ({ cls := "LeftGlovesModel", name := "as", desc := "(II)I" } : Jvm.MethodName) ({ cls := "LeftGlovesModel", name := "as", desc := "(II)I" } : Jvm.MethodName)) ∈ lw_all := lw_g (lw_at lw_m7 50 rfl) rfl
theorem q1581 : (Jvm.Cond.code ({ cls := "LeftGlovesModel", name := "as", desc := "(II)I" } : Jvm.MethodName) prog_16_method_86_code (5 : Nat) (Option.some Jvm.ClassFile.FieldType.int)) ∈ lw_all := lw_g (lw_at lw_m7 51 rfl) rfl
theorem q1582 : (Jvm.Cond.methodLink "LeftGlovesModel" (306 : Nat) ({ cls := "LeftGlovesModel", name := "above", desc := "(I)I" } : Jvm.MethodName)) ∈ lw_all := lw_g (lw_at lw_m7 52 rfl) rfl
theorem q1583 : (Jvm.Cond.static ({ cls := "LeftGlovesModel", name := "above", desc := "(I)I" } : Jvm.MethodName)) ∈ lw_all := lw_g (lw_at lw_m7 53 rfl) rfl
theorem q1584 : (Jvm.Cond.code ({ cls := "LeftGlovesModel", name := "above", desc := "(I)I" } : Jvm.MethodName) prog_16_method_85_code (1 : Nat) (Option.some Jvm.ClassFile.FieldType.int)) ∈ lw_all := lw_g (lw_at lw_m7 54 rfl) rfl
theorem q1586 : (Jvm.Cond.instanceMethod ({ cls := "LeftGlovesModel", name := "sheet", desc := "(III)I" } : Jvm.MethodName)) ∈ lw_all := lw_g (lw_at lw_m7 56 rfl) rfl
theorem q1587 : (Jvm.Cond.selects "LeftGlovesModel" ({ cls := "LeftGlovesModel", name := "sheet", desc := "(III)I" } : Jvm.MethodName) ({ cls := "LeftGlovesModel", name := "sheet", desc := "(III)I" } : Jvm.MethodName)) ∈ lw_all := lw_g (lw_at lw_m7 57 rfl) rfl
theorem q1588 : (Jvm.Cond.code ({ cls := "LeftGlovesModel", name := "sheet", desc := "(III)I" } : Jvm.MethodName) prog_16_method_88_code (5 : Nat) (Option.some Jvm.ClassFile.FieldType.int)) ∈ lw_all := lw_g (lw_at lw_m7 58 rfl) rfl
theorem q1590 : (Jvm.Cond.instanceMethod ({ cls := "LeftGlovesModel", name := "write", desc := "(III)I" } : Jvm.MethodName)) ∈ lw_all := lw_g (lw_at lw_m7 60 rfl) rfl
theorem q1591 : (Jvm.Cond.selects "LeftGlovesModel" ({ cls := "LeftGlovesModel", name := "write", desc := "(III)I" } : Jvm.MethodName) ({ cls := "LeftGlovesModel", name := "write", desc := "(III)I" } : Jvm.MethodName)) ∈ lw_all := lw_g (lw_at lw_m7 61 rfl) rfl
theorem q1592 : (Jvm.Cond.code ({ cls := "LeftGlovesModel", name := "write", desc := "(III)I" } : Jvm.MethodName) prog_16_method_90_code (5 : Nat) (Option.some Jvm.ClassFile.FieldType.int)) ∈ lw_all := lw_g (lw_at lw_m7 62 rfl) rfl
theorem q1594 : (Jvm.Cond.instanceMethod ({ cls := "LeftGlovesModel", name := "copy", desc := "(IIIII)I" } : Jvm.MethodName)) ∈ lw_all := lw_g (lw_at lw_m7 64 rfl) rfl
theorem q1595 : (Jvm.Cond.selects "LeftGlovesModel" ({ cls := "LeftGlovesModel", name := "copy", desc := "(IIIII)I" } : Jvm.MethodName) ({ cls := "LeftGlovesModel", name := "copy", desc := "(IIIII)I" } : Jvm.MethodName)) ∈ lw_all := lw_g (lw_at lw_m7 65 rfl) rfl
theorem q1596 : (Jvm.Cond.code ({ cls := "LeftGlovesModel", name := "copy", desc := "(IIIII)I" } : Jvm.MethodName) prog_16_method_91_code (7 : Nat) (Option.some Jvm.ClassFile.FieldType.int)) ∈ lw_all := lw_g (lw_at lw_m7 66 rfl) rfl
theorem q1598 : (Jvm.Cond.instanceMethod ({ cls := "LeftGlovesModel", name := "load", desc := "(I)I" } : Jvm.MethodName)) ∈ lw_all := lw_g (lw_at lw_m7 68 rfl) rfl
theorem q1599 : (Jvm.Cond.selects "LeftGlovesModel" ({ cls := "LeftGlovesModel", name := "load", desc := "(I)I" } : Jvm.MethodName) ({ cls := "LeftGlovesModel", name := "load", desc := "(I)I" } : Jvm.MethodName)) ∈ lw_all := lw_g (lw_at lw_m7 69 rfl) rfl
theorem q1600 : (Jvm.Cond.code ({ cls := "LeftGlovesModel", name := "load", desc := "(I)I" } : Jvm.MethodName) prog_16_method_92_code (4 : Nat) (Option.some Jvm.ClassFile.FieldType.int)) ∈ lw_all := lw_g (lw_at lw_m7 70 rfl) rfl
theorem q1602 : (Jvm.Cond.instanceMethod ({ cls := "LeftGlovesModel", name := "judge", desc := "(I)I" } : Jvm.MethodName)) ∈ lw_all := lw_g (lw_at lw_m7 72 rfl) rfl
theorem q1603 : (Jvm.Cond.selects "LeftGlovesModel" ({ cls := "LeftGlovesModel", name := "judge", desc := "(I)I" } : Jvm.MethodName) ({ cls := "LeftGlovesModel", name := "judge", desc := "(I)I" } : Jvm.MethodName)) ∈ lw_all := lw_g (lw_at lw_m7 73 rfl) rfl
theorem q1604 : (Jvm.Cond.code ({ cls := "LeftGlovesModel", name := "judge", desc := "(I)I" } : Jvm.MethodName) prog_16_method_93_code (4 : Nat) (Option.some Jvm.ClassFile.FieldType.int)) ∈ lw_all := lw_g (lw_at lw_m7 74 rfl) rfl
theorem q1606 : (Jvm.Cond.instanceMethod ({ cls := "LeftGlovesModel", name := "image", desc := "()I" } : Jvm.MethodName)) ∈ lw_all := lw_g (lw_at lw_m7 76 rfl) rfl
theorem q1607 : (Jvm.Cond.selects "LeftGlovesModel" ({ cls := "LeftGlovesModel", name := "image", desc := "()I" } : Jvm.MethodName) ({ cls := "LeftGlovesModel", name := "image", desc := "()I" } : Jvm.MethodName)) ∈ lw_all := lw_g (lw_at lw_m7 77 rfl) rfl
theorem q1608 : (Jvm.Cond.code ({ cls := "LeftGlovesModel", name := "image", desc := "()I" } : Jvm.MethodName) prog_16_method_94_code (1 : Nat) (Option.some Jvm.ClassFile.FieldType.int)) ∈ lw_all := lw_g (lw_at lw_m7 78 rfl) rfl
theorem q1610 : (Jvm.Cond.instanceMethod ({ cls := "LeftGlovesModel", name := "undo", desc := "()I" } : Jvm.MethodName)) ∈ lw_all := lw_g (lw_at lw_m7 80 rfl) rfl
theorem q1611 : (Jvm.Cond.selects "LeftGlovesModel" ({ cls := "LeftGlovesModel", name := "undo", desc := "()I" } : Jvm.MethodName) ({ cls := "LeftGlovesModel", name := "undo", desc := "()I" } : Jvm.MethodName)) ∈ lw_all := lw_g (lw_at lw_m7 81 rfl) rfl
theorem q1612 : (Jvm.Cond.code ({ cls := "LeftGlovesModel", name := "undo", desc := "()I" } : Jvm.MethodName) prog_16_method_95_code (1 : Nat) (Option.some Jvm.ClassFile.FieldType.int)) ∈ lw_all := lw_g (lw_at lw_m7 82 rfl) rfl
theorem q1614 : (Jvm.Cond.instanceMethod ({ cls := "LeftGlovesModel", name := "tear", desc := "()I" } : Jvm.MethodName)) ∈ lw_all := lw_g (lw_at lw_m7 84 rfl) rfl
theorem q1615 : (Jvm.Cond.selects "LeftGlovesModel" ({ cls := "LeftGlovesModel", name := "tear", desc := "()I" } : Jvm.MethodName) ({ cls := "LeftGlovesModel", name := "tear", desc := "()I" } : Jvm.MethodName)) ∈ lw_all := lw_g (lw_at lw_m7 85 rfl) rfl
theorem q1616 : (Jvm.Cond.code ({ cls := "LeftGlovesModel", name := "tear", desc := "()I" } : Jvm.MethodName) prog_16_method_96_code (2 : Nat) (Option.some Jvm.ClassFile.FieldType.int)) ∈ lw_all := lw_g (lw_at lw_m7 86 rfl) rfl
theorem q1618 : (Jvm.Cond.instanceMethod ({ cls := "LeftGlovesModel", name := "count", desc := "(I)I" } : Jvm.MethodName)) ∈ lw_all := lw_g (lw_at lw_m7 88 rfl) rfl
theorem q1619 : (Jvm.Cond.selects "LeftGlovesModel" ({ cls := "LeftGlovesModel", name := "count", desc := "(I)I" } : Jvm.MethodName) ({ cls := "LeftGlovesModel", name := "count", desc := "(I)I" } : Jvm.MethodName)) ∈ lw_all := lw_g (lw_at lw_m7 89 rfl) rfl
theorem q1620 : (Jvm.Cond.code ({ cls := "LeftGlovesModel", name := "count", desc := "(I)I" } : Jvm.MethodName) prog_16_method_98_code (2 : Nat) (Option.some Jvm.ClassFile.FieldType.int)) ∈ lw_all := lw_g (lw_at lw_m7 90 rfl) rfl
theorem q1621 : (Jvm.Cond.methodLink "LeftGlovesModel" (316 : Nat) ({ cls := "LeftGlovesModel", name := "holding", desc := "()I" } : Jvm.MethodName)) ∈ lw_all := lw_g (lw_at lw_m7 91 rfl) rfl
theorem q1622 : (Jvm.Cond.privateMethod ({ cls := "LeftGlovesModel", name := "holding", desc := "()I" } : Jvm.MethodName)) ∈ lw_tbl := lw_at lw_m7 92 rfl
theorem q1623 : (Jvm.Cond.instanceMethod ({ cls := "LeftGlovesModel", name := "holding", desc := "()I" } : Jvm.MethodName)) ∈ lw_all := lw_g (lw_at lw_m7 93 rfl) rfl
theorem q1624 : (Jvm.Cond.code ({ cls := "LeftGlovesModel", name := "holding", desc := "()I" } : Jvm.MethodName) prog_16_method_97_code (3 : Nat) (Option.some Jvm.ClassFile.FieldType.int)) ∈ lw_all := lw_g (lw_at lw_m7 94 rfl) rfl
theorem q1626 : (Jvm.Cond.instanceMethod ({ cls := "LeftGlovesModel", name := "status", desc := "(I)I" } : Jvm.MethodName)) ∈ lw_all := lw_g (lw_at lw_m7 96 rfl) rfl
theorem q1627 : (Jvm.Cond.selects "LeftGlovesModel" ({ cls := "LeftGlovesModel", name := "status", desc := "(I)I" } : Jvm.MethodName) ({ cls := "LeftGlovesModel", name := "status", desc := "(I)I" } : Jvm.MethodName)) ∈ lw_all := lw_g (lw_at lw_m7 97 rfl) rfl
theorem q1628 : (Jvm.Cond.code ({ cls := "LeftGlovesModel", name := "status", desc := "(I)I" } : Jvm.MethodName) prog_16_method_99_code (4 : Nat) (Option.some Jvm.ClassFile.FieldType.int)) ∈ lw_all := lw_g (lw_at lw_m7 98 rfl) rfl
theorem in_X13 : ∀ w ∈ wsX130, w ∈ lw_all := lw_in wsX130 [1182, 1184, 1186, 1188, 1190, 1192, 1194, 1196, 1198, 1200, 1202, 1204, 1206, 1208, 1210, 1212, 1214, 1216] (by decide +kernel) (by decide +kernel)
