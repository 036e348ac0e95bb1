/-! LeftGloves -/
set_option maxRecDepth 100000
def RX0 : String := "LeftGloves"
def TX0 : u_T := fun k => match k with
  | 0 => ("LeftGloves", "refusal", "LLeftGloves$Refusal;", true)
  | 1 => ("LeftGloves", "reader", "LLeftGloves$Reader;", true)
  | 2 => ("LeftGloves", "taped", "I", false)
  | 3 => ("LeftGloves", "d", "LLeftGloves$World;", true)
  | 4 => ("LeftGloves", "kept", "LLeftGloves$World;", true)
  | 5 => ("LeftGloves", "aside", "LLeftGloves$World;", true)
  | 6 => ("LeftGloves", "isKept", "Z", false)
  | 7 => ("LeftGloves", "gloves", "[LLeftGloves$Slot;", true)
  | 8 => ("LeftGloves", "spots", "[LLeftGloves$Slot;", true)
  | 9 => ("LeftGloves", "sheets", "[LLeftGloves$Slot;", true)
  | _ => ("LeftGloves", "findings", "[I", true)
def tyX0 : Nat → FieldType := fun k => match k with
  | 0 => .object "LeftGloves$Refusal"
  | 1 => .object "LeftGloves$Reader"
  | 2 => .int
  | 3 => .object "LeftGloves$World"
  | 4 => .object "LeftGloves$World"
  | 5 => .object "LeftGloves$World"
  | 6 => .boolean
  | 7 => .array (.object "LeftGloves$Slot")
  | 8 => .array (.object "LeftGloves$Slot")
  | 9 => .array (.object "LeftGloves$Slot")
  | _ => .array .int
abbrev wsX00 : List Cond := u_ws RX0 TX0 11
theorem nmX0 : ∀ a, a < 11 → ∀ b, b < 11 → a ≠ b → (TX0 a).2.1 ≠ (TX0 b).2.1 := by decide +kernel
theorem tyX0_ok : ∀ k, k < 11 → parseFieldDescriptor (TX0 k).2.2.1 = some (tyX0 k) := by decide +kernel
abbrev cX0_init : ByteArray := prog_1_method_19_code
def yX0_init : MethodName := ⟨RX0, "<init>", "()V"⟩
def dkwX0_init_8 : List UInt8 := [183, 0, 105, 83, 132, 1, 1, 167, 255, 235, 177]
abbrev dktX0_init_8 : List UInt8 := dkwX0_init_8 ++ []
def dkwX0_init_7 : List UInt8 := [132, 1, 1, 167, 255, 234, 3, 60, 27, 7, 162, 0, 22, 42, 180, 0, 98, 27, 187, 0, 89, 89]
abbrev dktX0_init_7 : List UInt8 := dkwX0_init_7 ++ dktX0_init_8
def dkwX0_init_6 : List UInt8 := [167, 255, 213, 3, 60, 27, 16, 10, 162, 0, 22, 42, 180, 0, 95, 27, 187, 0, 89, 89, 183, 0, 105, 83]
abbrev dktX0_init_6 : List UInt8 := dkwX0_init_6 ++ dktX0_init_7
def dkwX0_init_5 : List UInt8 := [180, 0, 91, 27, 50, 42, 27, 16, 8, 108, 27, 16, 8, 112, 182, 0, 106, 181, 0, 110, 132, 1, 1]
abbrev dktX0_init_5 : List UInt8 := dkwX0_init_5 ++ dktX0_init_6
def dkwX0_init_4 : List UInt8 := [3, 60, 27, 16, 56, 162, 0, 43, 42, 180, 0, 91, 27, 187, 0, 89, 89, 183, 0, 105, 83, 42]
abbrev dktX0_init_4 : List UInt8 := dkwX0_init_4 ++ dktX0_init_5
def dkwX0_init_3 : List UInt8 := [16, 10, 189, 0, 89, 181, 0, 95, 42, 7, 189, 0, 89, 181, 0, 98, 42, 16, 7, 188, 10, 181, 0, 101]
abbrev dktX0_init_3 : List UInt8 := dkwX0_init_3 ++ dktX0_init_4
def dkwX0_init_2 : List UInt8 := [181, 0, 83, 42, 187, 0, 76, 89, 183, 0, 78, 181, 0, 86, 42, 16, 56, 189, 0, 89, 181, 0, 91, 42]
abbrev dktX0_init_2 : List UInt8 := dkwX0_init_2 ++ dktX0_init_3
def dkwX0_init_1 : List UInt8 := [181, 0, 72, 42, 187, 0, 76, 89, 183, 0, 78, 181, 0, 79, 42, 187, 0, 76, 89, 183, 0, 78]
abbrev dktX0_init_1 : List UInt8 := dkwX0_init_1 ++ dktX0_init_2
def dkwX0_init_0 : List UInt8 := [42, 183, 0, 57, 42, 187, 0, 62, 89, 183, 0, 64, 181, 0, 65, 42, 187, 0, 69, 89, 183, 0, 71]
abbrev dktX0_init_0 : List UInt8 := dkwX0_init_0 ++ dktX0_init_1
theorem dksX0_init_0 : cX0_init.data.toList.drop 0 = dktX0_init_0 := by decide +kernel
theorem dksX0_init_1 : cX0_init.data.toList.drop 23 = dktX0_init_1 := dk_seg dksX0_init_0 23 rfl rfl
theorem dksX0_init_2 : cX0_init.data.toList.drop 45 = dktX0_init_2 := dk_seg dksX0_init_1 22 rfl rfl
theorem dksX0_init_3 : cX0_init.data.toList.drop 69 = dktX0_init_3 := dk_seg dksX0_init_2 24 rfl rfl
theorem dksX0_init_4 : cX0_init.data.toList.drop 93 = dktX0_init_4 := dk_seg dksX0_init_3 24 rfl rfl
theorem dksX0_init_5 : cX0_init.data.toList.drop 115 = dktX0_init_5 := dk_seg dksX0_init_4 22 rfl rfl
theorem dksX0_init_6 : cX0_init.data.toList.drop 138 = dktX0_init_6 := dk_seg dksX0_init_5 23 rfl rfl
theorem dksX0_init_7 : cX0_init.data.toList.drop 162 = dktX0_init_7 := dk_seg dksX0_init_6 24 rfl rfl
theorem dksX0_init_8 : cX0_init.data.toList.drop 184 = dktX0_init_8 := dk_seg dksX0_init_7 22 rfl rfl
theorem dX0_init_0 : decode cX0_init 0 = .ok (.aload_n 0, 1) := dk_42 (dk_at dksX0_init_0 0 rfl rfl)
theorem dX0_init_1 : decode cX0_init 1 = .ok (.invokespecial 57, 3) := dk_183 0 57 (dk_at dksX0_init_0 1 rfl rfl)
theorem dX0_init_4 : decode cX0_init 4 = .ok (.aload_n 0, 1) := dk_42 (dk_at dksX0_init_0 4 rfl rfl)
theorem dX0_init_5 : decode cX0_init 5 = .ok (.new 62, 3) := dk_187 0 62 (dk_at dksX0_init_0 5 rfl rfl)
theorem dX0_init_8 : decode cX0_init 8 = .ok (.dup, 1) := dk_89 (dk_at dksX0_init_0 8 rfl rfl)
theorem dX0_init_9 : decode cX0_init 9 = .ok (.invokespecial 64, 3) := dk_183 0 64 (dk_at dksX0_init_0 9 rfl rfl)
theorem dX0_init_12 : decode cX0_init 12 = .ok (.putfield 65, 3) := dk_181 0 65 (dk_at dksX0_init_0 12 rfl rfl)
theorem dX0_init_15 : decode cX0_init 15 = .ok (.aload_n 0, 1) := dk_42 (dk_at dksX0_init_0 15 rfl rfl)
theorem dX0_init_16 : decode cX0_init 16 = .ok (.new 69, 3) := dk_187 0 69 (dk_at dksX0_init_0 16 rfl rfl)
theorem dX0_init_19 : decode cX0_init 19 = .ok (.dup, 1) := dk_89 (dk_at dksX0_init_0 19 rfl rfl)
theorem dX0_init_20 : decode cX0_init 20 = .ok (.invokespecial 71, 3) := dk_183 0 71 (dk_at dksX0_init_0 20 rfl rfl)
theorem dX0_init_23 : decode cX0_init 23 = .ok (.putfield 72, 3) := dk_181 0 72 (dk_at dksX0_init_1 0 rfl rfl)
theorem dX0_init_26 : decode cX0_init 26 = .ok (.aload_n 0, 1) := dk_42 (dk_at dksX0_init_1 3 rfl rfl)
theorem dX0_init_27 : decode cX0_init 27 = .ok (.new 76, 3) := dk_187 0 76 (dk_at dksX0_init_1 4 rfl rfl)
theorem dX0_init_30 : decode cX0_init 30 = .ok (.dup, 1) := dk_89 (dk_at dksX0_init_1 7 rfl rfl)
theorem dX0_init_31 : decode cX0_init 31 = .ok (.invokespecial 78, 3) := dk_183 0 78 (dk_at dksX0_init_1 8 rfl rfl)
theorem dX0_init_34 : decode cX0_init 34 = .ok (.putfield 79, 3) := dk_181 0 79 (dk_at dksX0_init_1 11 rfl rfl)
theorem dX0_init_37 : decode cX0_init 37 = .ok (.aload_n 0, 1) := dk_42 (dk_at dksX0_init_1 14 rfl rfl)
theorem dX0_init_38 : decode cX0_init 38 = .ok (.new 76, 3) := dk_187 0 76 (dk_at dksX0_init_1 15 rfl rfl)
theorem dX0_init_41 : decode cX0_init 41 = .ok (.dup, 1) := dk_89 (dk_at dksX0_init_1 18 rfl rfl)
theorem dX0_init_42 : decode cX0_init 42 = .ok (.invokespecial 78, 3) := dk_183 0 78 (dk_at dksX0_init_1 19 rfl rfl)
theorem dX0_init_45 : decode cX0_init 45 = .ok (.putfield 83, 3) := dk_181 0 83 (dk_at dksX0_init_2 0 rfl rfl)
theorem dX0_init_48 : decode cX0_init 48 = .ok (.aload_n 0, 1) := dk_42 (dk_at dksX0_init_2 3 rfl rfl)
theorem dX0_init_49 : decode cX0_init 49 = .ok (.new 76, 3) := dk_187 0 76 (dk_at dksX0_init_2 4 rfl rfl)
theorem dX0_init_52 : decode cX0_init 52 = .ok (.dup, 1) := dk_89 (dk_at dksX0_init_2 7 rfl rfl)
theorem dX0_init_53 : decode cX0_init 53 = .ok (.invokespecial 78, 3) := dk_183 0 78 (dk_at dksX0_init_2 8 rfl rfl)
theorem dX0_init_56 : decode cX0_init 56 = .ok (.putfield 86, 3) := dk_181 0 86 (dk_at dksX0_init_2 11 rfl rfl)
theorem dX0_init_59 : decode cX0_init 59 = .ok (.aload_n 0, 1) := dk_42 (dk_at dksX0_init_2 14 rfl rfl)
theorem dX0_init_60 : decode cX0_init 60 = .ok (.bipush 56, 2) := dk_16 56 (dk_at dksX0_init_2 15 rfl rfl)
theorem dX0_init_62 : decode cX0_init 62 = .ok (.anewarray 89, 3) := dk_189 0 89 (dk_at dksX0_init_2 17 rfl rfl)
theorem dX0_init_65 : decode cX0_init 65 = .ok (.putfield 91, 3) := dk_181 0 91 (dk_at dksX0_init_2 20 rfl rfl)
theorem dX0_init_68 : decode cX0_init 68 = .ok (.aload_n 0, 1) := dk_42 (dk_at dksX0_init_2 23 rfl rfl)
theorem dX0_init_69 : decode cX0_init 69 = .ok (.bipush 10, 2) := dk_16 10 (dk_at dksX0_init_3 0 rfl rfl)
theorem dX0_init_71 : decode cX0_init 71 = .ok (.anewarray 89, 3) := dk_189 0 89 (dk_at dksX0_init_3 2 rfl rfl)
theorem dX0_init_74 : decode cX0_init 74 = .ok (.putfield 95, 3) := dk_181 0 95 (dk_at dksX0_init_3 5 rfl rfl)
theorem dX0_init_77 : decode cX0_init 77 = .ok (.aload_n 0, 1) := dk_42 (dk_at dksX0_init_3 8 rfl rfl)
theorem dX0_init_78 : decode cX0_init 78 = .ok (.iconst 4, 1) := dk_7 (dk_at dksX0_init_3 9 rfl rfl)
theorem dX0_init_79 : decode cX0_init 79 = .ok (.anewarray 89, 3) := dk_189 0 89 (dk_at dksX0_init_3 10 rfl rfl)
theorem dX0_init_82 : decode cX0_init 82 = .ok (.putfield 98, 3) := dk_181 0 98 (dk_at dksX0_init_3 13 rfl rfl)
theorem dX0_init_85 : decode cX0_init 85 = .ok (.aload_n 0, 1) := dk_42 (dk_at dksX0_init_3 16 rfl rfl)
theorem dX0_init_86 : decode cX0_init 86 = .ok (.bipush 7, 2) := dk_16 7 (dk_at dksX0_init_3 17 rfl rfl)
theorem dX0_init_88 : decode cX0_init 88 = .ok (.newarray .int, 2) := dk_188_10 (dk_at dksX0_init_3 19 rfl rfl)
theorem dX0_init_90 : decode cX0_init 90 = .ok (.putfield 101, 3) := dk_181 0 101 (dk_at dksX0_init_3 21 rfl rfl)
theorem dX0_init_93 : decode cX0_init 93 = .ok (.iconst 0, 1) := dk_3 (dk_at dksX0_init_4 0 rfl rfl)
theorem dX0_init_94 : decode cX0_init 94 = .ok (.istore_n 1, 1) := dk_60 (dk_at dksX0_init_4 1 rfl rfl)
theorem dX0_init_95 : decode cX0_init 95 = .ok (.iload_n 1, 1) := dk_27 (dk_at dksX0_init_4 2 rfl rfl)
theorem dX0_init_96 : decode cX0_init 96 = .ok (.bipush 56, 2) := dk_16 56 (dk_at dksX0_init_4 3 rfl rfl)
theorem dX0_init_98 : decode cX0_init 98 = .ok (.if_icmp .ge 43, 3) := dk_162 0 43 (dk_at dksX0_init_4 5 rfl rfl)
theorem dX0_init_101 : decode cX0_init 101 = .ok (.aload_n 0, 1) := dk_42 (dk_at dksX0_init_4 8 rfl rfl)
theorem dX0_init_102 : decode cX0_init 102 = .ok (.getfield 91, 3) := dk_180 0 91 (dk_at dksX0_init_4 9 rfl rfl)
theorem dX0_init_105 : decode cX0_init 105 = .ok (.iload_n 1, 1) := dk_27 (dk_at dksX0_init_4 12 rfl rfl)
theorem dX0_init_106 : decode cX0_init 106 = .ok (.new 89, 3) := dk_187 0 89 (dk_at dksX0_init_4 13 rfl rfl)
theorem dX0_init_109 : decode cX0_init 109 = .ok (.dup, 1) := dk_89 (dk_at dksX0_init_4 16 rfl rfl)
theorem dX0_init_110 : decode cX0_init 110 = .ok (.invokespecial 105, 3) := dk_183 0 105 (dk_at dksX0_init_4 17 rfl rfl)
theorem dX0_init_113 : decode cX0_init 113 = .ok (.aastore, 1) := dk_83 (dk_at dksX0_init_4 20 rfl rfl)
theorem dX0_init_114 : decode cX0_init 114 = .ok (.aload_n 0, 1) := dk_42 (dk_at dksX0_init_4 21 rfl rfl)
theorem dX0_init_115 : decode cX0_init 115 = .ok (.getfield 91, 3) := dk_180 0 91 (dk_at dksX0_init_5 0 rfl rfl)
theorem dX0_init_118 : decode cX0_init 118 = .ok (.iload_n 1, 1) := dk_27 (dk_at dksX0_init_5 3 rfl rfl)
theorem dX0_init_119 : decode cX0_init 119 = .ok (.aaload, 1) := dk_50 (dk_at dksX0_init_5 4 rfl rfl)
theorem dX0_init_120 : decode cX0_init 120 = .ok (.aload_n 0, 1) := dk_42 (dk_at dksX0_init_5 5 rfl rfl)
theorem dX0_init_121 : decode cX0_init 121 = .ok (.iload_n 1, 1) := dk_27 (dk_at dksX0_init_5 6 rfl rfl)
theorem dX0_init_122 : decode cX0_init 122 = .ok (.bipush 8, 2) := dk_16 8 (dk_at dksX0_init_5 7 rfl rfl)
theorem dX0_init_124 : decode cX0_init 124 = .ok (.idiv, 1) := dk_108 (dk_at dksX0_init_5 9 rfl rfl)
theorem dX0_init_125 : decode cX0_init 125 = .ok (.iload_n 1, 1) := dk_27 (dk_at dksX0_init_5 10 rfl rfl)
theorem dX0_init_126 : decode cX0_init 126 = .ok (.bipush 8, 2) := dk_16 8 (dk_at dksX0_init_5 11 rfl rfl)
theorem dX0_init_128 : decode cX0_init 128 = .ok (.irem, 1) := dk_112 (dk_at dksX0_init_5 13 rfl rfl)
theorem dX0_init_129 : decode cX0_init 129 = .ok (.invokevirtual 106, 3) := dk_182 0 106 (dk_at dksX0_init_5 14 rfl rfl)
theorem dX0_init_132 : decode cX0_init 132 = .ok (.putfield 110, 3) := dk_181 0 110 (dk_at dksX0_init_5 17 rfl rfl)
theorem dX0_init_135 : decode cX0_init 135 = .ok (.iinc 1 1, 3) := dk_132 1 1 (dk_at dksX0_init_5 20 rfl rfl)
theorem dX0_init_138 : decode cX0_init 138 = .ok (.goto (-43), 3) := dk_167 255 213 (dk_at dksX0_init_6 0 rfl rfl)
theorem dX0_init_141 : decode cX0_init 141 = .ok (.iconst 0, 1) := dk_3 (dk_at dksX0_init_6 3 rfl rfl)
theorem dX0_init_142 : decode cX0_init 142 = .ok (.istore_n 1, 1) := dk_60 (dk_at dksX0_init_6 4 rfl rfl)
theorem dX0_init_143 : decode cX0_init 143 = .ok (.iload_n 1, 1) := dk_27 (dk_at dksX0_init_6 5 rfl rfl)
theorem dX0_init_144 : decode cX0_init 144 = .ok (.bipush 10, 2) := dk_16 10 (dk_at dksX0_init_6 6 rfl rfl)
theorem dX0_init_146 : decode cX0_init 146 = .ok (.if_icmp .ge 22, 3) := dk_162 0 22 (dk_at dksX0_init_6 8 rfl rfl)
theorem dX0_init_149 : decode cX0_init 149 = .ok (.aload_n 0, 1) := dk_42 (dk_at dksX0_init_6 11 rfl rfl)
theorem dX0_init_150 : decode cX0_init 150 = .ok (.getfield 95, 3) := dk_180 0 95 (dk_at dksX0_init_6 12 rfl rfl)
theorem dX0_init_153 : decode cX0_init 153 = .ok (.iload_n 1, 1) := dk_27 (dk_at dksX0_init_6 15 rfl rfl)
theorem dX0_init_154 : decode cX0_init 154 = .ok (.new 89, 3) := dk_187 0 89 (dk_at dksX0_init_6 16 rfl rfl)
theorem dX0_init_157 : decode cX0_init 157 = .ok (.dup, 1) := dk_89 (dk_at dksX0_init_6 19 rfl rfl)
theorem dX0_init_158 : decode cX0_init 158 = .ok (.invokespecial 105, 3) := dk_183 0 105 (dk_at dksX0_init_6 20 rfl rfl)
theorem dX0_init_161 : decode cX0_init 161 = .ok (.aastore, 1) := dk_83 (dk_at dksX0_init_6 23 rfl rfl)
theorem dX0_init_162 : decode cX0_init 162 = .ok (.iinc 1 1, 3) := dk_132 1 1 (dk_at dksX0_init_7 0 rfl rfl)
theorem dX0_init_165 : decode cX0_init 165 = .ok (.goto (-22), 3) := dk_167 255 234 (dk_at dksX0_init_7 3 rfl rfl)
theorem dX0_init_168 : decode cX0_init 168 = .ok (.iconst 0, 1) := dk_3 (dk_at dksX0_init_7 6 rfl rfl)
theorem dX0_init_169 : decode cX0_init 169 = .ok (.istore_n 1, 1) := dk_60 (dk_at dksX0_init_7 7 rfl rfl)
theorem dX0_init_170 : decode cX0_init 170 = .ok (.iload_n 1, 1) := dk_27 (dk_at dksX0_init_7 8 rfl rfl)
theorem dX0_init_171 : decode cX0_init 171 = .ok (.iconst 4, 1) := dk_7 (dk_at dksX0_init_7 9 rfl rfl)
theorem dX0_init_172 : decode cX0_init 172 = .ok (.if_icmp .ge 22, 3) := dk_162 0 22 (dk_at dksX0_init_7 10 rfl rfl)
theorem dX0_init_175 : decode cX0_init 175 = .ok (.aload_n 0, 1) := dk_42 (dk_at dksX0_init_7 13 rfl rfl)
theorem dX0_init_176 : decode cX0_init 176 = .ok (.getfield 98, 3) := dk_180 0 98 (dk_at dksX0_init_7 14 rfl rfl)
theorem dX0_init_179 : decode cX0_init 179 = .ok (.iload_n 1, 1) := dk_27 (dk_at dksX0_init_7 17 rfl rfl)
theorem dX0_init_180 : decode cX0_init 180 = .ok (.new 89, 3) := dk_187 0 89 (dk_at dksX0_init_7 18 rfl rfl)
theorem dX0_init_183 : decode cX0_init 183 = .ok (.dup, 1) := dk_89 (dk_at dksX0_init_7 21 rfl rfl)
theorem dX0_init_184 : decode cX0_init 184 = .ok (.invokespecial 105, 3) := dk_183 0 105 (dk_at dksX0_init_8 0 rfl rfl)
theorem dX0_init_187 : decode cX0_init 187 = .ok (.aastore, 1) := dk_83 (dk_at dksX0_init_8 3 rfl rfl)
theorem dX0_init_188 : decode cX0_init 188 = .ok (.iinc 1 1, 3) := dk_132 1 1 (dk_at dksX0_init_8 4 rfl rfl)
theorem dX0_init_191 : decode cX0_init 191 = .ok (.goto (-21), 3) := dk_167 255 235 (dk_at dksX0_init_8 7 rfl rfl)
theorem dX0_init_194 : decode cX0_init 194 = .ok (.return_, 1) := dk_177 (dk_at dksX0_init_8 10 rfl rfl)
abbrev cX0_saying : ByteArray := prog_1_method_15_code
def yX0_saying : MethodName := ⟨RX0, "saying", "(III)I"⟩
def dkwX0_saying_0 : List UInt8 := [17, 3, 232, 26, 104, 16, 10, 27, 104, 96, 28, 96, 172]
abbrev dktX0_saying_0 : List UInt8 := dkwX0_saying_0 ++ []
theorem dksX0_saying_0 : cX0_saying.data.toList.drop 0 = dktX0_saying_0 := by decide +kernel
theorem dX0_saying_0 : decode cX0_saying 0 = .ok (.sipush 1000, 3) := dk_17 3 232 (dk_at dksX0_saying_0 0 rfl rfl)
theorem dX0_saying_3 : decode cX0_saying 3 = .ok (.iload_n 0, 1) := dk_26 (dk_at dksX0_saying_0 3 rfl rfl)
theorem dX0_saying_4 : decode cX0_saying 4 = .ok (.imul, 1) := dk_104 (dk_at dksX0_saying_0 4 rfl rfl)
theorem dX0_saying_5 : decode cX0_saying 5 = .ok (.bipush 10, 2) := dk_16 10 (dk_at dksX0_saying_0 5 rfl rfl)
theorem dX0_saying_7 : decode cX0_saying 7 = .ok (.iload_n 1, 1) := dk_27 (dk_at dksX0_saying_0 7 rfl rfl)
theorem dX0_saying_8 : decode cX0_saying 8 = .ok (.imul, 1) := dk_104 (dk_at dksX0_saying_0 8 rfl rfl)
theorem dX0_saying_9 : decode cX0_saying 9 = .ok (.iadd, 1) := dk_96 (dk_at dksX0_saying_0 9 rfl rfl)
theorem dX0_saying_10 : decode cX0_saying 10 = .ok (.iload_n 2, 1) := dk_28 (dk_at dksX0_saying_0 10 rfl rfl)
theorem dX0_saying_11 : decode cX0_saying 11 = .ok (.iadd, 1) := dk_96 (dk_at dksX0_saying_0 11 rfl rfl)
theorem dX0_saying_12 : decode cX0_saying 12 = .ok (.ireturn, 1) := dk_172 (dk_at dksX0_saying_0 12 rfl rfl)
abbrev cX0_made : ByteArray := prog_1_method_18_code
def yX0_made : MethodName := ⟨RX0, "made", "(II)LLeftGloves$Glove;"⟩
def dkwX0_made_4 : List UInt8 := [183, 0, 50, 176, 187, 0, 51, 89, 42, 28, 183, 0, 53, 176, 187, 0, 54, 89, 42, 28, 183, 0, 56, 176]
abbrev dktX0_made_4 : List UInt8 := dkwX0_made_4 ++ []
def dkwX0_made_3 : List UInt8 := [42, 28, 183, 0, 44, 176, 187, 0, 45, 89, 42, 28, 183, 0, 47, 176, 187, 0, 48, 89, 42, 28]
abbrev dktX0_made_3 : List UInt8 := dkwX0_made_3 ++ dktX0_made_4
def dkwX0_made_2 : List UInt8 := [187, 0, 33, 89, 42, 28, 183, 0, 35, 176, 187, 0, 39, 89, 42, 28, 183, 0, 41, 176, 187, 0, 42, 89]
abbrev dktX0_made_2 : List UInt8 := dkwX0_made_2 ++ dktX0_made_3
def dkwX0_made_1 : List UInt8 := [170, 0, 0, 0, 0, 0, 99, 0, 0, 0, 1, 0, 0, 0, 6, 0, 0, 0, 39, 0, 0, 0, 49, 0, 0, 0, 59, 0, 0, 0, 69, 0, 0, 0, 79, 0, 0, 0, 89]
abbrev dktX0_made_1 : List UInt8 := dkwX0_made_1 ++ dktX0_made_2
def dkwX0_made_0 : List UInt8 := [27]
abbrev dktX0_made_0 : List UInt8 := dkwX0_made_0 ++ dktX0_made_1
theorem dksX0_made_0 : cX0_made.data.toList.drop 0 = dktX0_made_0 := by decide +kernel
theorem dksX0_made_1 : cX0_made.data.toList.drop 1 = dktX0_made_1 := dk_seg dksX0_made_0 1 rfl rfl
theorem dksX0_made_2 : cX0_made.data.toList.drop 40 = dktX0_made_2 := dk_seg dksX0_made_1 39 rfl rfl
theorem dksX0_made_3 : cX0_made.data.toList.drop 64 = dktX0_made_3 := dk_seg dksX0_made_2 24 rfl rfl
theorem dksX0_made_4 : cX0_made.data.toList.drop 86 = dktX0_made_4 := dk_seg dksX0_made_3 22 rfl rfl
theorem dX0_made_0 : decode cX0_made 0 = .ok (.iload_n 1, 1) := dk_27 (dk_at dksX0_made_0 0 rfl rfl)
theorem dX0_made_1 : decode cX0_made 1 = .ok (.tableswitch 99 1 6 #[39, 49, 59, 69, 79, 89], 39) := by decide +kernel
theorem dX0_made_40 : decode cX0_made 40 = .ok (.new 33, 3) := dk_187 0 33 (dk_at dksX0_made_2 0 rfl rfl)
theorem dX0_made_43 : decode cX0_made 43 = .ok (.dup, 1) := dk_89 (dk_at dksX0_made_2 3 rfl rfl)
theorem dX0_made_44 : decode cX0_made 44 = .ok (.aload_n 0, 1) := dk_42 (dk_at dksX0_made_2 4 rfl rfl)
theorem dX0_made_45 : decode cX0_made 45 = .ok (.iload_n 2, 1) := dk_28 (dk_at dksX0_made_2 5 rfl rfl)
theorem dX0_made_46 : decode cX0_made 46 = .ok (.invokespecial 35, 3) := dk_183 0 35 (dk_at dksX0_made_2 6 rfl rfl)
theorem dX0_made_49 : decode cX0_made 49 = .ok (.areturn, 1) := dk_176 (dk_at dksX0_made_2 9 rfl rfl)
theorem dX0_made_50 : decode cX0_made 50 = .ok (.new 39, 3) := dk_187 0 39 (dk_at dksX0_made_2 10 rfl rfl)
theorem dX0_made_53 : decode cX0_made 53 = .ok (.dup, 1) := dk_89 (dk_at dksX0_made_2 13 rfl rfl)
theorem dX0_made_54 : decode cX0_made 54 = .ok (.aload_n 0, 1) := dk_42 (dk_at dksX0_made_2 14 rfl rfl)
theorem dX0_made_55 : decode cX0_made 55 = .ok (.iload_n 2, 1) := dk_28 (dk_at dksX0_made_2 15 rfl rfl)
theorem dX0_made_56 : decode cX0_made 56 = .ok (.invokespecial 41, 3) := dk_183 0 41 (dk_at dksX0_made_2 16 rfl rfl)
theorem dX0_made_59 : decode cX0_made 59 = .ok (.areturn, 1) := dk_176 (dk_at dksX0_made_2 19 rfl rfl)
theorem dX0_made_60 : decode cX0_made 60 = .ok (.new 42, 3) := dk_187 0 42 (dk_at dksX0_made_2 20 rfl rfl)
theorem dX0_made_63 : decode cX0_made 63 = .ok (.dup, 1) := dk_89 (dk_at dksX0_made_2 23 rfl rfl)
theorem dX0_made_64 : decode cX0_made 64 = .ok (.aload_n 0, 1) := dk_42 (dk_at dksX0_made_3 0 rfl rfl)
theorem dX0_made_65 : decode cX0_made 65 = .ok (.iload_n 2, 1) := dk_28 (dk_at dksX0_made_3 1 rfl rfl)
theorem dX0_made_66 : decode cX0_made 66 = .ok (.invokespecial 44, 3) := dk_183 0 44 (dk_at dksX0_made_3 2 rfl rfl)
theorem dX0_made_69 : decode cX0_made 69 = .ok (.areturn, 1) := dk_176 (dk_at dksX0_made_3 5 rfl rfl)
theorem dX0_made_70 : decode cX0_made 70 = .ok (.new 45, 3) := dk_187 0 45 (dk_at dksX0_made_3 6 rfl rfl)
theorem dX0_made_73 : decode cX0_made 73 = .ok (.dup, 1) := dk_89 (dk_at dksX0_made_3 9 rfl rfl)
theorem dX0_made_74 : decode cX0_made 74 = .ok (.aload_n 0, 1) := dk_42 (dk_at dksX0_made_3 10 rfl rfl)
theorem dX0_made_75 : decode cX0_made 75 = .ok (.iload_n 2, 1) := dk_28 (dk_at dksX0_made_3 11 rfl rfl)
theorem dX0_made_76 : decode cX0_made 76 = .ok (.invokespecial 47, 3) := dk_183 0 47 (dk_at dksX0_made_3 12 rfl rfl)
theorem dX0_made_79 : decode cX0_made 79 = .ok (.areturn, 1) := dk_176 (dk_at dksX0_made_3 15 rfl rfl)
theorem dX0_made_80 : decode cX0_made 80 = .ok (.new 48, 3) := dk_187 0 48 (dk_at dksX0_made_3 16 rfl rfl)
theorem dX0_made_83 : decode cX0_made 83 = .ok (.dup, 1) := dk_89 (dk_at dksX0_made_3 19 rfl rfl)
theorem dX0_made_84 : decode cX0_made 84 = .ok (.aload_n 0, 1) := dk_42 (dk_at dksX0_made_3 20 rfl rfl)
theorem dX0_made_85 : decode cX0_made 85 = .ok (.iload_n 2, 1) := dk_28 (dk_at dksX0_made_3 21 rfl rfl)
theorem dX0_made_86 : decode cX0_made 86 = .ok (.invokespecial 50, 3) := dk_183 0 50 (dk_at dksX0_made_4 0 rfl rfl)
theorem dX0_made_89 : decode cX0_made 89 = .ok (.areturn, 1) := dk_176 (dk_at dksX0_made_4 3 rfl rfl)
theorem dX0_made_90 : decode cX0_made 90 = .ok (.new 51, 3) := dk_187 0 51 (dk_at dksX0_made_4 4 rfl rfl)
theorem dX0_made_93 : decode cX0_made 93 = .ok (.dup, 1) := dk_89 (dk_at dksX0_made_4 7 rfl rfl)
theorem dX0_made_94 : decode cX0_made 94 = .ok (.aload_n 0, 1) := dk_42 (dk_at dksX0_made_4 8 rfl rfl)
theorem dX0_made_95 : decode cX0_made 95 = .ok (.iload_n 2, 1) := dk_28 (dk_at dksX0_made_4 9 rfl rfl)
theorem dX0_made_96 : decode cX0_made 96 = .ok (.invokespecial 53, 3) := dk_183 0 53 (dk_at dksX0_made_4 10 rfl rfl)
theorem dX0_made_99 : decode cX0_made 99 = .ok (.areturn, 1) := dk_176 (dk_at dksX0_made_4 13 rfl rfl)
theorem dX0_made_100 : decode cX0_made 100 = .ok (.new 54, 3) := dk_187 0 54 (dk_at dksX0_made_4 14 rfl rfl)
theorem dX0_made_103 : decode cX0_made 103 = .ok (.dup, 1) := dk_89 (dk_at dksX0_made_4 17 rfl rfl)
theorem dX0_made_104 : decode cX0_made 104 = .ok (.aload_n 0, 1) := dk_42 (dk_at dksX0_made_4 18 rfl rfl)
theorem dX0_made_105 : decode cX0_made 105 = .ok (.iload_n 2, 1) := dk_28 (dk_at dksX0_made_4 19 rfl rfl)
theorem dX0_made_106 : decode cX0_made 106 = .ok (.invokespecial 56, 3) := dk_183 0 56 (dk_at dksX0_made_4 20 rfl rfl)
theorem dX0_made_109 : decode cX0_made 109 = .ok (.areturn, 1) := dk_176 (dk_at dksX0_made_4 23 rfl rfl)
abbrev cX0_say : ByteArray := prog_1_method_30_code
def yX0_say : MethodName := ⟨RX0, "say", "(II)I"⟩
def dkwX0_say_1 : List UInt8 := [180, 0, 196, 27, 46, 62, 42, 180, 0, 79, 180, 0, 196, 27, 28, 79, 29, 172]
abbrev dktX0_say_1 : List UInt8 := dkwX0_say_1 ++ []
def dkwX0_say_0 : List UInt8 := [27, 184, 0, 190, 153, 0, 10, 28, 184, 0, 193, 154, 0, 9, 42, 3, 182, 0, 129, 172, 42, 180, 0, 79]
abbrev dktX0_say_0 : List UInt8 := dkwX0_say_0 ++ dktX0_say_1
theorem dksX0_say_0 : cX0_say.data.toList.drop 0 = dktX0_say_0 := by decide +kernel
theorem dksX0_say_1 : cX0_say.data.toList.drop 24 = dktX0_say_1 := dk_seg dksX0_say_0 24 rfl rfl
theorem dX0_say_0 : decode cX0_say 0 = .ok (.iload_n 1, 1) := dk_27 (dk_at dksX0_say_0 0 rfl rfl)
theorem dX0_say_1 : decode cX0_say 1 = .ok (.invokestatic 190, 3) := dk_184 0 190 (dk_at dksX0_say_0 1 rfl rfl)
theorem dX0_say_4 : decode cX0_say 4 = .ok (.ifCond .eq 10, 3) := dk_153 0 10 (dk_at dksX0_say_0 4 rfl rfl)
theorem dX0_say_7 : decode cX0_say 7 = .ok (.iload_n 2, 1) := dk_28 (dk_at dksX0_say_0 7 rfl rfl)
theorem dX0_say_8 : decode cX0_say 8 = .ok (.invokestatic 193, 3) := dk_184 0 193 (dk_at dksX0_say_0 8 rfl rfl)
theorem dX0_say_11 : decode cX0_say 11 = .ok (.ifCond .ne 9, 3) := dk_154 0 9 (dk_at dksX0_say_0 11 rfl rfl)
theorem dX0_say_14 : decode cX0_say 14 = .ok (.aload_n 0, 1) := dk_42 (dk_at dksX0_say_0 14 rfl rfl)
theorem dX0_say_15 : decode cX0_say 15 = .ok (.iconst 0, 1) := dk_3 (dk_at dksX0_say_0 15 rfl rfl)
theorem dX0_say_16 : decode cX0_say 16 = .ok (.invokevirtual 129, 3) := dk_182 0 129 (dk_at dksX0_say_0 16 rfl rfl)
theorem dX0_say_19 : decode cX0_say 19 = .ok (.ireturn, 1) := dk_172 (dk_at dksX0_say_0 19 rfl rfl)
theorem dX0_say_20 : decode cX0_say 20 = .ok (.aload_n 0, 1) := dk_42 (dk_at dksX0_say_0 20 rfl rfl)
theorem dX0_say_21 : decode cX0_say 21 = .ok (.getfield 79, 3) := dk_180 0 79 (dk_at dksX0_say_0 21 rfl rfl)
theorem dX0_say_24 : decode cX0_say 24 = .ok (.getfield 196, 3) := dk_180 0 196 (dk_at dksX0_say_1 0 rfl rfl)
theorem dX0_say_27 : decode cX0_say 27 = .ok (.iload_n 1, 1) := dk_27 (dk_at dksX0_say_1 3 rfl rfl)
theorem dX0_say_28 : decode cX0_say 28 = .ok (.iaload, 1) := dk_46 (dk_at dksX0_say_1 4 rfl rfl)
theorem dX0_say_29 : decode cX0_say 29 = .ok (.istore_n 3, 1) := dk_62 (dk_at dksX0_say_1 5 rfl rfl)
theorem dX0_say_30 : decode cX0_say 30 = .ok (.aload_n 0, 1) := dk_42 (dk_at dksX0_say_1 6 rfl rfl)
theorem dX0_say_31 : decode cX0_say 31 = .ok (.getfield 79, 3) := dk_180 0 79 (dk_at dksX0_say_1 7 rfl rfl)
theorem dX0_say_34 : decode cX0_say 34 = .ok (.getfield 196, 3) := dk_180 0 196 (dk_at dksX0_say_1 10 rfl rfl)
theorem dX0_say_37 : decode cX0_say 37 = .ok (.iload_n 1, 1) := dk_27 (dk_at dksX0_say_1 13 rfl rfl)
theorem dX0_say_38 : decode cX0_say 38 = .ok (.iload_n 2, 1) := dk_28 (dk_at dksX0_say_1 14 rfl rfl)
theorem dX0_say_39 : decode cX0_say 39 = .ok (.iastore, 1) := dk_79 (dk_at dksX0_say_1 15 rfl rfl)
theorem dX0_say_40 : decode cX0_say 40 = .ok (.iload_n 3, 1) := dk_29 (dk_at dksX0_say_1 16 rfl rfl)
theorem dX0_say_41 : decode cX0_say 41 = .ok (.ireturn, 1) := dk_172 (dk_at dksX0_say_1 17 rfl rfl)
abbrev cX0_isPlace : ByteArray := prog_1_method_11_code
def yX0_isPlace : MethodName := ⟨RX0, "isPlace", "(I)Z"⟩
def dkwX0_isPlace_0 : List UInt8 := [26, 3, 8, 184, 0, 9, 172]
abbrev dktX0_isPlace_0 : List UInt8 := dkwX0_isPlace_0 ++ []
theorem dksX0_isPlace_0 : cX0_isPlace.data.toList.drop 0 = dktX0_isPlace_0 := by decide +kernel
theorem dX0_isPlace_0 : decode cX0_isPlace 0 = .ok (.iload_n 0, 1) := dk_26 (dk_at dksX0_isPlace_0 0 rfl rfl)
theorem dX0_isPlace_1 : decode cX0_isPlace 1 = .ok (.iconst 0, 1) := dk_3 (dk_at dksX0_isPlace_0 1 rfl rfl)
theorem dX0_isPlace_2 : decode cX0_isPlace 2 = .ok (.iconst 5, 1) := dk_8 (dk_at dksX0_isPlace_0 2 rfl rfl)
theorem dX0_isPlace_3 : decode cX0_isPlace 3 = .ok (.invokestatic 9, 3) := dk_184 0 9 (dk_at dksX0_isPlace_0 3 rfl rfl)
theorem dX0_isPlace_6 : decode cX0_isPlace 6 = .ok (.ireturn, 1) := dk_172 (dk_at dksX0_isPlace_0 6 rfl rfl)
abbrev cX0_in : ByteArray := prog_1_method_1_code
def yX0_in : MethodName := ⟨RX0, "in", "(III)Z"⟩
def dkwX0_in_0 : List UInt8 := [26, 27, 161, 0, 12, 26, 28, 163, 0, 7, 4, 167, 0, 4, 3, 172]
abbrev dktX0_in_0 : List UInt8 := dkwX0_in_0 ++ []
theorem dksX0_in_0 : cX0_in.data.toList.drop 0 = dktX0_in_0 := by decide +kernel
theorem dX0_in_0 : decode cX0_in 0 = .ok (.iload_n 0, 1) := dk_26 (dk_at dksX0_in_0 0 rfl rfl)
theorem dX0_in_1 : decode cX0_in 1 = .ok (.iload_n 1, 1) := dk_27 (dk_at dksX0_in_0 1 rfl rfl)
theorem dX0_in_2 : decode cX0_in 2 = .ok (.if_icmp .lt 12, 3) := dk_161 0 12 (dk_at dksX0_in_0 2 rfl rfl)
theorem dX0_in_5 : decode cX0_in 5 = .ok (.iload_n 0, 1) := dk_26 (dk_at dksX0_in_0 5 rfl rfl)
theorem dX0_in_6 : decode cX0_in 6 = .ok (.iload_n 2, 1) := dk_28 (dk_at dksX0_in_0 6 rfl rfl)
theorem dX0_in_7 : decode cX0_in 7 = .ok (.if_icmp .gt 7, 3) := dk_163 0 7 (dk_at dksX0_in_0 7 rfl rfl)
theorem dX0_in_10 : decode cX0_in 10 = .ok (.iconst 1, 1) := dk_4 (dk_at dksX0_in_0 10 rfl rfl)
theorem dX0_in_11 : decode cX0_in 11 = .ok (.goto 4, 3) := dk_167 0 4 (dk_at dksX0_in_0 11 rfl rfl)
theorem dX0_in_14 : decode cX0_in 14 = .ok (.iconst 0, 1) := dk_3 (dk_at dksX0_in_0 14 rfl rfl)
theorem dX0_in_15 : decode cX0_in 15 = .ok (.ireturn, 1) := dk_172 (dk_at dksX0_in_0 15 rfl rfl)
abbrev cX0_isSaying : ByteArray := prog_1_method_16_code
def yX0_isSaying : MethodName := ⟨RX0, "isSaying", "(I)Z"⟩
def dkwX0_isSaying_1 : List UInt8 := [4, 167, 0, 4, 3, 172]
abbrev dktX0_isSaying_1 : List UInt8 := dkwX0_isSaying_1 ++ []
def dkwX0_isSaying_0 : List UInt8 := [26, 155, 0, 27, 26, 184, 0, 14, 184, 0, 17, 153, 0, 17, 26, 184, 0, 21, 184, 0, 24, 153, 0, 7]
abbrev dktX0_isSaying_0 : List UInt8 := dkwX0_isSaying_0 ++ dktX0_isSaying_1
theorem dksX0_isSaying_0 : cX0_isSaying.data.toList.drop 0 = dktX0_isSaying_0 := by decide +kernel
theorem dksX0_isSaying_1 : cX0_isSaying.data.toList.drop 24 = dktX0_isSaying_1 := dk_seg dksX0_isSaying_0 24 rfl rfl
theorem dX0_isSaying_0 : decode cX0_isSaying 0 = .ok (.iload_n 0, 1) := dk_26 (dk_at dksX0_isSaying_0 0 rfl rfl)
theorem dX0_isSaying_1 : decode cX0_isSaying 1 = .ok (.ifCond .lt 27, 3) := dk_155 0 27 (dk_at dksX0_isSaying_0 1 rfl rfl)
theorem dX0_isSaying_4 : decode cX0_isSaying 4 = .ok (.iload_n 0, 1) := dk_26 (dk_at dksX0_isSaying_0 4 rfl rfl)
theorem dX0_isSaying_5 : decode cX0_isSaying 5 = .ok (.invokestatic 14, 3) := dk_184 0 14 (dk_at dksX0_isSaying_0 5 rfl rfl)
theorem dX0_isSaying_8 : decode cX0_isSaying 8 = .ok (.invokestatic 17, 3) := dk_184 0 17 (dk_at dksX0_isSaying_0 8 rfl rfl)
theorem dX0_isSaying_11 : decode cX0_isSaying 11 = .ok (.ifCond .eq 17, 3) := dk_153 0 17 (dk_at dksX0_isSaying_0 11 rfl rfl)
theorem dX0_isSaying_14 : decode cX0_isSaying 14 = .ok (.iload_n 0, 1) := dk_26 (dk_at dksX0_isSaying_0 14 rfl rfl)
theorem dX0_isSaying_15 : decode cX0_isSaying 15 = .ok (.invokestatic 21, 3) := dk_184 0 21 (dk_at dksX0_isSaying_0 15 rfl rfl)
theorem dX0_isSaying_18 : decode cX0_isSaying 18 = .ok (.invokestatic 24, 3) := dk_184 0 24 (dk_at dksX0_isSaying_0 18 rfl rfl)
theorem dX0_isSaying_21 : decode cX0_isSaying 21 = .ok (.ifCond .eq 7, 3) := dk_153 0 7 (dk_at dksX0_isSaying_0 21 rfl rfl)
theorem dX0_isSaying_24 : decode cX0_isSaying 24 = .ok (.iconst 1, 1) := dk_4 (dk_at dksX0_isSaying_1 0 rfl rfl)
theorem dX0_isSaying_25 : decode cX0_isSaying 25 = .ok (.goto 4, 3) := dk_167 0 4 (dk_at dksX0_isSaying_1 1 rfl rfl)
theorem dX0_isSaying_28 : decode cX0_isSaying 28 = .ok (.iconst 0, 1) := dk_3 (dk_at dksX0_isSaying_1 4 rfl rfl)
theorem dX0_isSaying_29 : decode cX0_isSaying 29 = .ok (.ireturn, 1) := dk_172 (dk_at dksX0_isSaying_1 5 rfl rfl)
abbrev cX0_roomOf : ByteArray := prog_1_method_12_code
def yX0_roomOf : MethodName := ⟨RX0, "roomOf", "(I)I"⟩
def dkwX0_roomOf_0 : List UInt8 := [26, 17, 3, 232, 108, 172]
abbrev dktX0_roomOf_0 : List UInt8 := dkwX0_roomOf_0 ++ []
theorem dksX0_roomOf_0 : cX0_roomOf.data.toList.drop 0 = dktX0_roomOf_0 := by decide +kernel
theorem dX0_roomOf_0 : decode cX0_roomOf 0 = .ok (.iload_n 0, 1) := dk_26 (dk_at dksX0_roomOf_0 0 rfl rfl)
theorem dX0_roomOf_1 : decode cX0_roomOf 1 = .ok (.sipush 1000, 3) := dk_17 3 232 (dk_at dksX0_roomOf_0 1 rfl rfl)
theorem dX0_roomOf_4 : decode cX0_roomOf 4 = .ok (.idiv, 1) := dk_108 (dk_at dksX0_roomOf_0 4 rfl rfl)
theorem dX0_roomOf_5 : decode cX0_roomOf 5 = .ok (.ireturn, 1) := dk_172 (dk_at dksX0_roomOf_0 5 rfl rfl)
abbrev cX0_isRoom : ByteArray := prog_1_method_7_code
def yX0_isRoom : MethodName := ⟨RX0, "isRoom", "(I)Z"⟩
def dkwX0_isRoom_0 : List UInt8 := [26, 3, 8, 184, 0, 9, 172]
abbrev dktX0_isRoom_0 : List UInt8 := dkwX0_isRoom_0 ++ []
theorem dksX0_isRoom_0 : cX0_isRoom.data.toList.drop 0 = dktX0_isRoom_0 := by decide +kernel
theorem dX0_isRoom_0 : decode cX0_isRoom 0 = .ok (.iload_n 0, 1) := dk_26 (dk_at dksX0_isRoom_0 0 rfl rfl)
theorem dX0_isRoom_1 : decode cX0_isRoom 1 = .ok (.iconst 0, 1) := dk_3 (dk_at dksX0_isRoom_0 1 rfl rfl)
theorem dX0_isRoom_2 : decode cX0_isRoom 2 = .ok (.iconst 5, 1) := dk_8 (dk_at dksX0_isRoom_0 2 rfl rfl)
theorem dX0_isRoom_3 : decode cX0_isRoom 3 = .ok (.invokestatic 9, 3) := dk_184 0 9 (dk_at dksX0_isRoom_0 3 rfl rfl)
theorem dX0_isRoom_6 : decode cX0_isRoom 6 = .ok (.ireturn, 1) := dk_172 (dk_at dksX0_isRoom_0 6 rfl rfl)
abbrev cX0_topicOf : ByteArray := prog_1_method_13_code
def yX0_topicOf : MethodName := ⟨RX0, "topicOf", "(I)I"⟩
def dkwX0_topicOf_0 : List UInt8 := [26, 17, 3, 232, 112, 16, 10, 108, 172]
abbrev dktX0_topicOf_0 : List UInt8 := dkwX0_topicOf_0 ++ []
theorem dksX0_topicOf_0 : cX0_topicOf.data.toList.drop 0 = dktX0_topicOf_0 := by decide +kernel
theorem dX0_topicOf_0 : decode cX0_topicOf 0 = .ok (.iload_n 0, 1) := dk_26 (dk_at dksX0_topicOf_0 0 rfl rfl)
theorem dX0_topicOf_1 : decode cX0_topicOf 1 = .ok (.sipush 1000, 3) := dk_17 3 232 (dk_at dksX0_topicOf_0 1 rfl rfl)
theorem dX0_topicOf_4 : decode cX0_topicOf 4 = .ok (.irem, 1) := dk_112 (dk_at dksX0_topicOf_0 4 rfl rfl)
theorem dX0_topicOf_5 : decode cX0_topicOf 5 = .ok (.bipush 10, 2) := dk_16 10 (dk_at dksX0_topicOf_0 5 rfl rfl)
theorem dX0_topicOf_7 : decode cX0_topicOf 7 = .ok (.idiv, 1) := dk_108 (dk_at dksX0_topicOf_0 7 rfl rfl)
theorem dX0_topicOf_8 : decode cX0_topicOf 8 = .ok (.ireturn, 1) := dk_172 (dk_at dksX0_topicOf_0 8 rfl rfl)
abbrev cX0_isTopic : ByteArray := prog_1_method_8_code
def yX0_isTopic : MethodName := ⟨RX0, "isTopic", "(I)Z"⟩
def dkwX0_isTopic_0 : List UInt8 := [26, 3, 16, 15, 184, 0, 9, 172]
abbrev dktX0_isTopic_0 : List UInt8 := dkwX0_isTopic_0 ++ []
theorem dksX0_isTopic_0 : cX0_isTopic.data.toList.drop 0 = dktX0_isTopic_0 := by decide +kernel
theorem dX0_isTopic_0 : decode cX0_isTopic 0 = .ok (.iload_n 0, 1) := dk_26 (dk_at dksX0_isTopic_0 0 rfl rfl)
theorem dX0_isTopic_1 : decode cX0_isTopic 1 = .ok (.iconst 0, 1) := dk_3 (dk_at dksX0_isTopic_0 1 rfl rfl)
theorem dX0_isTopic_2 : decode cX0_isTopic 2 = .ok (.bipush 15, 2) := dk_16 15 (dk_at dksX0_isTopic_0 2 rfl rfl)
theorem dX0_isTopic_4 : decode cX0_isTopic 4 = .ok (.invokestatic 9, 3) := dk_184 0 9 (dk_at dksX0_isTopic_0 4 rfl rfl)
theorem dX0_isTopic_7 : decode cX0_isTopic 7 = .ok (.ireturn, 1) := dk_172 (dk_at dksX0_isTopic_0 7 rfl rfl)
abbrev cX0_finding : ByteArray := prog_1_method_21_code
def yX0_finding : MethodName := ⟨RX0, "finding", "(I)I"⟩
def dkwX0_finding_0 : List UInt8 := [42, 180, 0, 101, 27, 92, 46, 4, 96, 79, 18, 118, 27, 100, 172]
abbrev dktX0_finding_0 : List UInt8 := dkwX0_finding_0 ++ []
theorem dksX0_finding_0 : cX0_finding.data.toList.drop 0 = dktX0_finding_0 := by decide +kernel
theorem dX0_finding_0 : decode cX0_finding 0 = .ok (.aload_n 0, 1) := dk_42 (dk_at dksX0_finding_0 0 rfl rfl)
theorem dX0_finding_1 : decode cX0_finding 1 = .ok (.getfield 101, 3) := dk_180 0 101 (dk_at dksX0_finding_0 1 rfl rfl)
theorem dX0_finding_4 : decode cX0_finding 4 = .ok (.iload_n 1, 1) := dk_27 (dk_at dksX0_finding_0 4 rfl rfl)
theorem dX0_finding_5 : decode cX0_finding 5 = .ok (.dup2, 1) := dk_92 (dk_at dksX0_finding_0 5 rfl rfl)
theorem dX0_finding_6 : decode cX0_finding 6 = .ok (.iaload, 1) := dk_46 (dk_at dksX0_finding_0 6 rfl rfl)
theorem dX0_finding_7 : decode cX0_finding 7 = .ok (.iconst 1, 1) := dk_4 (dk_at dksX0_finding_0 7 rfl rfl)
theorem dX0_finding_8 : decode cX0_finding 8 = .ok (.iadd, 1) := dk_96 (dk_at dksX0_finding_0 8 rfl rfl)
theorem dX0_finding_9 : decode cX0_finding 9 = .ok (.iastore, 1) := dk_79 (dk_at dksX0_finding_0 9 rfl rfl)
theorem dX0_finding_10 : decode cX0_finding 10 = .ok (.ldc 118, 2) := dk_18 118 (dk_at dksX0_finding_0 10 rfl rfl)
theorem dX0_finding_12 : decode cX0_finding 12 = .ok (.iload_n 1, 1) := dk_27 (dk_at dksX0_finding_0 12 rfl rfl)
theorem dX0_finding_13 : decode cX0_finding 13 = .ok (.isub, 1) := dk_100 (dk_at dksX0_finding_0 13 rfl rfl)
theorem dX0_finding_14 : decode cX0_finding 14 = .ok (.ireturn, 1) := dk_172 (dk_at dksX0_finding_0 14 rfl rfl)
abbrev cX0_said : ByteArray := prog_1_method_31_code
def yX0_said : MethodName := ⟨RX0, "said", "(I)I"⟩
def dkwX0_said_1 : List UInt8 := [172]
abbrev dktX0_said_1 : List UInt8 := dkwX0_said_1 ++ []
def dkwX0_said_0 : List UInt8 := [27, 184, 0, 190, 153, 0, 15, 42, 180, 0, 79, 180, 0, 196, 27, 46, 167, 0, 8, 42, 3, 182, 0, 129]
abbrev dktX0_said_0 : List UInt8 := dkwX0_said_0 ++ dktX0_said_1
theorem dksX0_said_0 : cX0_said.data.toList.drop 0 = dktX0_said_0 := by decide +kernel
theorem dksX0_said_1 : cX0_said.data.toList.drop 24 = dktX0_said_1 := dk_seg dksX0_said_0 24 rfl rfl
theorem dX0_said_0 : decode cX0_said 0 = .ok (.iload_n 1, 1) := dk_27 (dk_at dksX0_said_0 0 rfl rfl)
theorem dX0_said_1 : decode cX0_said 1 = .ok (.invokestatic 190, 3) := dk_184 0 190 (dk_at dksX0_said_0 1 rfl rfl)
theorem dX0_said_4 : decode cX0_said 4 = .ok (.ifCond .eq 15, 3) := dk_153 0 15 (dk_at dksX0_said_0 4 rfl rfl)
theorem dX0_said_7 : decode cX0_said 7 = .ok (.aload_n 0, 1) := dk_42 (dk_at dksX0_said_0 7 rfl rfl)
theorem dX0_said_8 : decode cX0_said 8 = .ok (.getfield 79, 3) := dk_180 0 79 (dk_at dksX0_said_0 8 rfl rfl)
theorem dX0_said_11 : decode cX0_said 11 = .ok (.getfield 196, 3) := dk_180 0 196 (dk_at dksX0_said_0 11 rfl rfl)
theorem dX0_said_14 : decode cX0_said 14 = .ok (.iload_n 1, 1) := dk_27 (dk_at dksX0_said_0 14 rfl rfl)
theorem dX0_said_15 : decode cX0_said 15 = .ok (.iaload, 1) := dk_46 (dk_at dksX0_said_0 15 rfl rfl)
theorem dX0_said_16 : decode cX0_said 16 = .ok (.goto 8, 3) := dk_167 0 8 (dk_at dksX0_said_0 16 rfl rfl)
theorem dX0_said_19 : decode cX0_said 19 = .ok (.aload_n 0, 1) := dk_42 (dk_at dksX0_said_0 19 rfl rfl)
theorem dX0_said_20 : decode cX0_said 20 = .ok (.iconst 0, 1) := dk_3 (dk_at dksX0_said_0 20 rfl rfl)
theorem dX0_said_21 : decode cX0_said 21 = .ok (.invokevirtual 129, 3) := dk_182 0 129 (dk_at dksX0_said_0 21 rfl rfl)
theorem dX0_said_24 : decode cX0_said 24 = .ok (.ireturn, 1) := dk_172 (dk_at dksX0_said_1 0 rfl rfl)
abbrev cX0_room : ByteArray := prog_1_method_32_code
def yX0_room : MethodName := ⟨RX0, "room", "(II)I"⟩
def dkwX0_room_3 : List UInt8 := [27, 182, 0, 131, 182, 0, 199, 172, 42, 180, 0, 79, 27, 182, 0, 202, 172, 42, 3, 182, 0, 129, 172]
abbrev dktX0_room_3 : List UInt8 := dkwX0_room_3 ++ []
def dkwX0_room_2 : List UInt8 := [42, 180, 0, 79, 27, 182, 0, 131, 172, 42, 27, 182, 0, 149, 172, 42, 180, 0, 79, 6, 42, 180, 0, 79]
abbrev dktX0_room_2 : List UInt8 := dkwX0_room_2 ++ dktX0_room_3
def dkwX0_room_1 : List UInt8 := [170, 0, 0, 0, 0, 71, 0, 0, 0, 0, 0, 0, 0, 3, 0, 0, 0, 30, 0, 0, 0, 39, 0, 0, 0, 45, 0, 0, 0, 62]
abbrev dktX0_room_1 : List UInt8 := dkwX0_room_1 ++ dktX0_room_2
def dkwX0_room_0 : List UInt8 := [27, 184, 0, 17, 154, 0, 9, 42, 3, 182, 0, 129, 172, 28]
abbrev dktX0_room_0 : List UInt8 := dkwX0_room_0 ++ dktX0_room_1
theorem dksX0_room_0 : cX0_room.data.toList.drop 0 = dktX0_room_0 := by decide +kernel
theorem dksX0_room_1 : cX0_room.data.toList.drop 14 = dktX0_room_1 := dk_seg dksX0_room_0 14 rfl rfl
theorem dksX0_room_2 : cX0_room.data.toList.drop 44 = dktX0_room_2 := dk_seg dksX0_room_1 30 rfl rfl
theorem dksX0_room_3 : cX0_room.data.toList.drop 68 = dktX0_room_3 := dk_seg dksX0_room_2 24 rfl rfl
theorem dX0_room_0 : decode cX0_room 0 = .ok (.iload_n 1, 1) := dk_27 (dk_at dksX0_room_0 0 rfl rfl)
theorem dX0_room_1 : decode cX0_room 1 = .ok (.invokestatic 17, 3) := dk_184 0 17 (dk_at dksX0_room_0 1 rfl rfl)
theorem dX0_room_4 : decode cX0_room 4 = .ok (.ifCond .ne 9, 3) := dk_154 0 9 (dk_at dksX0_room_0 4 rfl rfl)
theorem dX0_room_7 : decode cX0_room 7 = .ok (.aload_n 0, 1) := dk_42 (dk_at dksX0_room_0 7 rfl rfl)
theorem dX0_room_8 : decode cX0_room 8 = .ok (.iconst 0, 1) := dk_3 (dk_at dksX0_room_0 8 rfl rfl)
theorem dX0_room_9 : decode cX0_room 9 = .ok (.invokevirtual 129, 3) := dk_182 0 129 (dk_at dksX0_room_0 9 rfl rfl)
theorem dX0_room_12 : decode cX0_room 12 = .ok (.ireturn, 1) := dk_172 (dk_at dksX0_room_0 12 rfl rfl)
theorem dX0_room_13 : decode cX0_room 13 = .ok (.iload_n 2, 1) := dk_28 (dk_at dksX0_room_0 13 rfl rfl)
theorem dX0_room_14 : decode cX0_room 14 = .ok (.tableswitch 71 0 3 #[30, 39, 45, 62], 30) := by decide +kernel
theorem dX0_room_44 : decode cX0_room 44 = .ok (.aload_n 0, 1) := dk_42 (dk_at dksX0_room_2 0 rfl rfl)
theorem dX0_room_45 : decode cX0_room 45 = .ok (.getfield 79, 3) := dk_180 0 79 (dk_at dksX0_room_2 1 rfl rfl)
theorem dX0_room_48 : decode cX0_room 48 = .ok (.iload_n 1, 1) := dk_27 (dk_at dksX0_room_2 4 rfl rfl)
theorem dX0_room_49 : decode cX0_room 49 = .ok (.invokevirtual 131, 3) := dk_182 0 131 (dk_at dksX0_room_2 5 rfl rfl)
theorem dX0_room_52 : decode cX0_room 52 = .ok (.ireturn, 1) := dk_172 (dk_at dksX0_room_2 8 rfl rfl)
theorem dX0_room_53 : decode cX0_room 53 = .ok (.aload_n 0, 1) := dk_42 (dk_at dksX0_room_2 9 rfl rfl)
theorem dX0_room_54 : decode cX0_room 54 = .ok (.iload_n 1, 1) := dk_27 (dk_at dksX0_room_2 10 rfl rfl)
theorem dX0_room_55 : decode cX0_room 55 = .ok (.invokevirtual 149, 3) := dk_182 0 149 (dk_at dksX0_room_2 11 rfl rfl)
theorem dX0_room_58 : decode cX0_room 58 = .ok (.ireturn, 1) := dk_172 (dk_at dksX0_room_2 14 rfl rfl)
theorem dX0_room_59 : decode cX0_room 59 = .ok (.aload_n 0, 1) := dk_42 (dk_at dksX0_room_2 15 rfl rfl)
theorem dX0_room_60 : decode cX0_room 60 = .ok (.getfield 79, 3) := dk_180 0 79 (dk_at dksX0_room_2 16 rfl rfl)
theorem dX0_room_63 : decode cX0_room 63 = .ok (.iconst 3, 1) := dk_6 (dk_at dksX0_room_2 19 rfl rfl)
theorem dX0_room_64 : decode cX0_room 64 = .ok (.aload_n 0, 1) := dk_42 (dk_at dksX0_room_2 20 rfl rfl)
theorem dX0_room_65 : decode cX0_room 65 = .ok (.getfield 79, 3) := dk_180 0 79 (dk_at dksX0_room_2 21 rfl rfl)
theorem dX0_room_68 : decode cX0_room 68 = .ok (.iload_n 1, 1) := dk_27 (dk_at dksX0_room_3 0 rfl rfl)
theorem dX0_room_69 : decode cX0_room 69 = .ok (.invokevirtual 131, 3) := dk_182 0 131 (dk_at dksX0_room_3 1 rfl rfl)
theorem dX0_room_72 : decode cX0_room 72 = .ok (.invokevirtual 199, 3) := dk_182 0 199 (dk_at dksX0_room_3 4 rfl rfl)
theorem dX0_room_75 : decode cX0_room 75 = .ok (.ireturn, 1) := dk_172 (dk_at dksX0_room_3 7 rfl rfl)
theorem dX0_room_76 : decode cX0_room 76 = .ok (.aload_n 0, 1) := dk_42 (dk_at dksX0_room_3 8 rfl rfl)
theorem dX0_room_77 : decode cX0_room 77 = .ok (.getfield 79, 3) := dk_180 0 79 (dk_at dksX0_room_3 9 rfl rfl)
theorem dX0_room_80 : decode cX0_room 80 = .ok (.iload_n 1, 1) := dk_27 (dk_at dksX0_room_3 12 rfl rfl)
theorem dX0_room_81 : decode cX0_room 81 = .ok (.invokevirtual 202, 3) := dk_182 0 202 (dk_at dksX0_room_3 13 rfl rfl)
theorem dX0_room_84 : decode cX0_room 84 = .ok (.ireturn, 1) := dk_172 (dk_at dksX0_room_3 16 rfl rfl)
theorem dX0_room_85 : decode cX0_room 85 = .ok (.aload_n 0, 1) := dk_42 (dk_at dksX0_room_3 17 rfl rfl)
theorem dX0_room_86 : decode cX0_room 86 = .ok (.iconst 0, 1) := dk_3 (dk_at dksX0_room_3 18 rfl rfl)
theorem dX0_room_87 : decode cX0_room 87 = .ok (.invokevirtual 129, 3) := dk_182 0 129 (dk_at dksX0_room_3 19 rfl rfl)
theorem dX0_room_90 : decode cX0_room 90 = .ok (.ireturn, 1) := dk_172 (dk_at dksX0_room_3 22 rfl rfl)
abbrev cX0_has : ByteArray := prog_1_method_2_code
def yX0_has : MethodName := ⟨RX0, "has", "(II)Z"⟩
def dkwX0_has_0 : List UInt8 := [26, 27, 122, 4, 126, 4, 160, 0, 7, 4, 167, 0, 4, 3, 172]
abbrev dktX0_has_0 : List UInt8 := dkwX0_has_0 ++ []
theorem dksX0_has_0 : cX0_has.data.toList.drop 0 = dktX0_has_0 := by decide +kernel
theorem dX0_has_0 : decode cX0_has 0 = .ok (.iload_n 0, 1) := dk_26 (dk_at dksX0_has_0 0 rfl rfl)
theorem dX0_has_1 : decode cX0_has 1 = .ok (.iload_n 1, 1) := dk_27 (dk_at dksX0_has_0 1 rfl rfl)
theorem dX0_has_2 : decode cX0_has 2 = .ok (.ishr, 1) := dk_122 (dk_at dksX0_has_0 2 rfl rfl)
theorem dX0_has_3 : decode cX0_has 3 = .ok (.iconst 1, 1) := dk_4 (dk_at dksX0_has_0 3 rfl rfl)
theorem dX0_has_4 : decode cX0_has 4 = .ok (.iand, 1) := dk_126 (dk_at dksX0_has_0 4 rfl rfl)
theorem dX0_has_5 : decode cX0_has 5 = .ok (.iconst 1, 1) := dk_4 (dk_at dksX0_has_0 5 rfl rfl)
theorem dX0_has_6 : decode cX0_has 6 = .ok (.if_icmp .ne 7, 3) := dk_160 0 7 (dk_at dksX0_has_0 6 rfl rfl)
theorem dX0_has_9 : decode cX0_has 9 = .ok (.iconst 1, 1) := dk_4 (dk_at dksX0_has_0 9 rfl rfl)
theorem dX0_has_10 : decode cX0_has 10 = .ok (.goto 4, 3) := dk_167 0 4 (dk_at dksX0_has_0 10 rfl rfl)
theorem dX0_has_13 : decode cX0_has 13 = .ok (.iconst 0, 1) := dk_3 (dk_at dksX0_has_0 13 rfl rfl)
theorem dX0_has_14 : decode cX0_has 14 = .ok (.ireturn, 1) := dk_172 (dk_at dksX0_has_0 14 rfl rfl)
abbrev cX0_hushedIn : ByteArray := prog_1_method_26_code
def yX0_hushedIn : MethodName := ⟨RX0, "hushedIn", "(I)I"⟩
def dkwX0_hushedIn_2 : List UInt8 := [167, 0, 4, 3, 96, 62, 132, 4, 1, 167, 255, 216, 29, 172]
abbrev dktX0_hushedIn_2 : List UInt8 := dkwX0_hushedIn_2 ++ []
def dkwX0_hushedIn_1 : List UInt8 := [162, 0, 34, 29, 28, 21, 4, 184, 0, 134, 153, 0, 15, 42, 21, 4, 182, 0, 138, 182, 0, 142]
abbrev dktX0_hushedIn_1 : List UInt8 := dkwX0_hushedIn_1 ++ dktX0_hushedIn_2
def dkwX0_hushedIn_0 : List UInt8 := [42, 180, 0, 79, 27, 182, 0, 131, 61, 3, 62, 3, 54, 4, 21, 4, 42, 180, 0, 79, 180, 0, 127]
abbrev dktX0_hushedIn_0 : List UInt8 := dkwX0_hushedIn_0 ++ dktX0_hushedIn_1
theorem dksX0_hushedIn_0 : cX0_hushedIn.data.toList.drop 0 = dktX0_hushedIn_0 := by decide +kernel
theorem dksX0_hushedIn_1 : cX0_hushedIn.data.toList.drop 23 = dktX0_hushedIn_1 := dk_seg dksX0_hushedIn_0 23 rfl rfl
theorem dksX0_hushedIn_2 : cX0_hushedIn.data.toList.drop 45 = dktX0_hushedIn_2 := dk_seg dksX0_hushedIn_1 22 rfl rfl
theorem dX0_hushedIn_0 : decode cX0_hushedIn 0 = .ok (.aload_n 0, 1) := dk_42 (dk_at dksX0_hushedIn_0 0 rfl rfl)
theorem dX0_hushedIn_1 : decode cX0_hushedIn 1 = .ok (.getfield 79, 3) := dk_180 0 79 (dk_at dksX0_hushedIn_0 1 rfl rfl)
theorem dX0_hushedIn_4 : decode cX0_hushedIn 4 = .ok (.iload_n 1, 1) := dk_27 (dk_at dksX0_hushedIn_0 4 rfl rfl)
theorem dX0_hushedIn_5 : decode cX0_hushedIn 5 = .ok (.invokevirtual 131, 3) := dk_182 0 131 (dk_at dksX0_hushedIn_0 5 rfl rfl)
theorem dX0_hushedIn_8 : decode cX0_hushedIn 8 = .ok (.istore_n 2, 1) := dk_61 (dk_at dksX0_hushedIn_0 8 rfl rfl)
theorem dX0_hushedIn_9 : decode cX0_hushedIn 9 = .ok (.iconst 0, 1) := dk_3 (dk_at dksX0_hushedIn_0 9 rfl rfl)
theorem dX0_hushedIn_10 : decode cX0_hushedIn 10 = .ok (.istore_n 3, 1) := dk_62 (dk_at dksX0_hushedIn_0 10 rfl rfl)
theorem dX0_hushedIn_11 : decode cX0_hushedIn 11 = .ok (.iconst 0, 1) := dk_3 (dk_at dksX0_hushedIn_0 11 rfl rfl)
theorem dX0_hushedIn_12 : decode cX0_hushedIn 12 = .ok (.istore 4, 2) := dk_54 4 (dk_at dksX0_hushedIn_0 12 rfl rfl)
theorem dX0_hushedIn_14 : decode cX0_hushedIn 14 = .ok (.iload 4, 2) := dk_21 4 (dk_at dksX0_hushedIn_0 14 rfl rfl)
theorem dX0_hushedIn_16 : decode cX0_hushedIn 16 = .ok (.aload_n 0, 1) := dk_42 (dk_at dksX0_hushedIn_0 16 rfl rfl)
theorem dX0_hushedIn_17 : decode cX0_hushedIn 17 = .ok (.getfield 79, 3) := dk_180 0 79 (dk_at dksX0_hushedIn_0 17 rfl rfl)
theorem dX0_hushedIn_20 : decode cX0_hushedIn 20 = .ok (.getfield 127, 3) := dk_180 0 127 (dk_at dksX0_hushedIn_0 20 rfl rfl)
theorem dX0_hushedIn_23 : decode cX0_hushedIn 23 = .ok (.if_icmp .ge 34, 3) := dk_162 0 34 (dk_at dksX0_hushedIn_1 0 rfl rfl)
theorem dX0_hushedIn_26 : decode cX0_hushedIn 26 = .ok (.iload_n 3, 1) := dk_29 (dk_at dksX0_hushedIn_1 3 rfl rfl)
theorem dX0_hushedIn_27 : decode cX0_hushedIn 27 = .ok (.iload_n 2, 1) := dk_28 (dk_at dksX0_hushedIn_1 4 rfl rfl)
theorem dX0_hushedIn_28 : decode cX0_hushedIn 28 = .ok (.iload 4, 2) := dk_21 4 (dk_at dksX0_hushedIn_1 5 rfl rfl)
theorem dX0_hushedIn_30 : decode cX0_hushedIn 30 = .ok (.invokestatic 134, 3) := dk_184 0 134 (dk_at dksX0_hushedIn_1 7 rfl rfl)
theorem dX0_hushedIn_33 : decode cX0_hushedIn 33 = .ok (.ifCond .eq 15, 3) := dk_153 0 15 (dk_at dksX0_hushedIn_1 10 rfl rfl)
theorem dX0_hushedIn_36 : decode cX0_hushedIn 36 = .ok (.aload_n 0, 1) := dk_42 (dk_at dksX0_hushedIn_1 13 rfl rfl)
theorem dX0_hushedIn_37 : decode cX0_hushedIn 37 = .ok (.iload 4, 2) := dk_21 4 (dk_at dksX0_hushedIn_1 14 rfl rfl)
theorem dX0_hushedIn_39 : decode cX0_hushedIn 39 = .ok (.invokevirtual 138, 3) := dk_182 0 138 (dk_at dksX0_hushedIn_1 16 rfl rfl)
theorem dX0_hushedIn_42 : decode cX0_hushedIn 42 = .ok (.invokevirtual 142, 3) := dk_182 0 142 (dk_at dksX0_hushedIn_1 19 rfl rfl)
theorem dX0_hushedIn_45 : decode cX0_hushedIn 45 = .ok (.goto 4, 3) := dk_167 0 4 (dk_at dksX0_hushedIn_2 0 rfl rfl)
theorem dX0_hushedIn_48 : decode cX0_hushedIn 48 = .ok (.iconst 0, 1) := dk_3 (dk_at dksX0_hushedIn_2 3 rfl rfl)
theorem dX0_hushedIn_49 : decode cX0_hushedIn 49 = .ok (.iadd, 1) := dk_96 (dk_at dksX0_hushedIn_2 4 rfl rfl)
theorem dX0_hushedIn_50 : decode cX0_hushedIn 50 = .ok (.istore_n 3, 1) := dk_62 (dk_at dksX0_hushedIn_2 5 rfl rfl)
theorem dX0_hushedIn_51 : decode cX0_hushedIn 51 = .ok (.iinc 4 1, 3) := dk_132 4 1 (dk_at dksX0_hushedIn_2 6 rfl rfl)
theorem dX0_hushedIn_54 : decode cX0_hushedIn 54 = .ok (.goto (-40), 3) := dk_167 255 216 (dk_at dksX0_hushedIn_2 9 rfl rfl)
theorem dX0_hushedIn_57 : decode cX0_hushedIn 57 = .ok (.iload_n 3, 1) := dk_29 (dk_at dksX0_hushedIn_2 12 rfl rfl)
theorem dX0_hushedIn_58 : decode cX0_hushedIn 58 = .ok (.ireturn, 1) := dk_172 (dk_at dksX0_hushedIn_2 13 rfl rfl)
abbrev cX0_gloveOf : ByteArray := prog_1_method_20_code
def yX0_gloveOf : MethodName := ⟨RX0, "gloveOf", "(I)LLeftGloves$Glove;"⟩
def dkwX0_gloveOf_1 : List UInt8 := [192, 0, 54, 176]
abbrev dktX0_gloveOf_1 : List UInt8 := dkwX0_gloveOf_1 ++ []
def dkwX0_gloveOf_0 : List UInt8 := [42, 180, 0, 91, 16, 8, 42, 180, 0, 79, 180, 0, 114, 3, 50, 27, 46, 104, 27, 96, 50, 180, 0, 110]
abbrev dktX0_gloveOf_0 : List UInt8 := dkwX0_gloveOf_0 ++ dktX0_gloveOf_1
theorem dksX0_gloveOf_0 : cX0_gloveOf.data.toList.drop 0 = dktX0_gloveOf_0 := by decide +kernel
theorem dksX0_gloveOf_1 : cX0_gloveOf.data.toList.drop 24 = dktX0_gloveOf_1 := dk_seg dksX0_gloveOf_0 24 rfl rfl
theorem dX0_gloveOf_0 : decode cX0_gloveOf 0 = .ok (.aload_n 0, 1) := dk_42 (dk_at dksX0_gloveOf_0 0 rfl rfl)
theorem dX0_gloveOf_1 : decode cX0_gloveOf 1 = .ok (.getfield 91, 3) := dk_180 0 91 (dk_at dksX0_gloveOf_0 1 rfl rfl)
theorem dX0_gloveOf_4 : decode cX0_gloveOf 4 = .ok (.bipush 8, 2) := dk_16 8 (dk_at dksX0_gloveOf_0 4 rfl rfl)
theorem dX0_gloveOf_6 : decode cX0_gloveOf 6 = .ok (.aload_n 0, 1) := dk_42 (dk_at dksX0_gloveOf_0 6 rfl rfl)
theorem dX0_gloveOf_7 : decode cX0_gloveOf 7 = .ok (.getfield 79, 3) := dk_180 0 79 (dk_at dksX0_gloveOf_0 7 rfl rfl)
theorem dX0_gloveOf_10 : decode cX0_gloveOf 10 = .ok (.getfield 114, 3) := dk_180 0 114 (dk_at dksX0_gloveOf_0 10 rfl rfl)
theorem dX0_gloveOf_13 : decode cX0_gloveOf 13 = .ok (.iconst 0, 1) := dk_3 (dk_at dksX0_gloveOf_0 13 rfl rfl)
theorem dX0_gloveOf_14 : decode cX0_gloveOf 14 = .ok (.aaload, 1) := dk_50 (dk_at dksX0_gloveOf_0 14 rfl rfl)
theorem dX0_gloveOf_15 : decode cX0_gloveOf 15 = .ok (.iload_n 1, 1) := dk_27 (dk_at dksX0_gloveOf_0 15 rfl rfl)
theorem dX0_gloveOf_16 : decode cX0_gloveOf 16 = .ok (.iaload, 1) := dk_46 (dk_at dksX0_gloveOf_0 16 rfl rfl)
theorem dX0_gloveOf_17 : decode cX0_gloveOf 17 = .ok (.imul, 1) := dk_104 (dk_at dksX0_gloveOf_0 17 rfl rfl)
theorem dX0_gloveOf_18 : decode cX0_gloveOf 18 = .ok (.iload_n 1, 1) := dk_27 (dk_at dksX0_gloveOf_0 18 rfl rfl)
theorem dX0_gloveOf_19 : decode cX0_gloveOf 19 = .ok (.iadd, 1) := dk_96 (dk_at dksX0_gloveOf_0 19 rfl rfl)
theorem dX0_gloveOf_20 : decode cX0_gloveOf 20 = .ok (.aaload, 1) := dk_50 (dk_at dksX0_gloveOf_0 20 rfl rfl)
theorem dX0_gloveOf_21 : decode cX0_gloveOf 21 = .ok (.getfield 110, 3) := dk_180 0 110 (dk_at dksX0_gloveOf_0 21 rfl rfl)
theorem dX0_gloveOf_24 : decode cX0_gloveOf 24 = .ok (.checkcast 54, 3) := dk_192 0 54 (dk_at dksX0_gloveOf_1 0 rfl rfl)
theorem dX0_gloveOf_27 : decode cX0_gloveOf 27 = .ok (.areturn, 1) := dk_176 (dk_at dksX0_gloveOf_1 3 rfl rfl)
abbrev cX0_glove : ByteArray := prog_1_method_33_code
def yX0_glove : MethodName := ⟨RX0, "glove", "(II)I"⟩
def dkwX0_glove_2 : List UInt8 := [180, 0, 79, 180, 0, 127, 4, 100, 172]
abbrev dktX0_glove_2 : List UInt8 := dkwX0_glove_2 ++ []
def dkwX0_glove_1 : List UInt8 := [180, 0, 127, 16, 8, 160, 0, 9, 42, 4, 182, 0, 129, 172, 42, 180, 0, 79, 27, 28, 182, 0, 205, 42]
abbrev dktX0_glove_1 : List UInt8 := dkwX0_glove_1 ++ dktX0_glove_2
def dkwX0_glove_0 : List UInt8 := [27, 184, 0, 27, 153, 0, 10, 28, 184, 0, 17, 154, 0, 9, 42, 3, 182, 0, 129, 172, 42, 180, 0, 79]
abbrev dktX0_glove_0 : List UInt8 := dkwX0_glove_0 ++ dktX0_glove_1
theorem dksX0_glove_0 : cX0_glove.data.toList.drop 0 = dktX0_glove_0 := by decide +kernel
theorem dksX0_glove_1 : cX0_glove.data.toList.drop 24 = dktX0_glove_1 := dk_seg dksX0_glove_0 24 rfl rfl
theorem dksX0_glove_2 : cX0_glove.data.toList.drop 48 = dktX0_glove_2 := dk_seg dksX0_glove_1 24 rfl rfl
theorem dX0_glove_0 : decode cX0_glove 0 = .ok (.iload_n 1, 1) := dk_27 (dk_at dksX0_glove_0 0 rfl rfl)
theorem dX0_glove_1 : decode cX0_glove 1 = .ok (.invokestatic 27, 3) := dk_184 0 27 (dk_at dksX0_glove_0 1 rfl rfl)
theorem dX0_glove_4 : decode cX0_glove 4 = .ok (.ifCond .eq 10, 3) := dk_153 0 10 (dk_at dksX0_glove_0 4 rfl rfl)
theorem dX0_glove_7 : decode cX0_glove 7 = .ok (.iload_n 2, 1) := dk_28 (dk_at dksX0_glove_0 7 rfl rfl)
theorem dX0_glove_8 : decode cX0_glove 8 = .ok (.invokestatic 17, 3) := dk_184 0 17 (dk_at dksX0_glove_0 8 rfl rfl)
theorem dX0_glove_11 : decode cX0_glove 11 = .ok (.ifCond .ne 9, 3) := dk_154 0 9 (dk_at dksX0_glove_0 11 rfl rfl)
theorem dX0_glove_14 : decode cX0_glove 14 = .ok (.aload_n 0, 1) := dk_42 (dk_at dksX0_glove_0 14 rfl rfl)
theorem dX0_glove_15 : decode cX0_glove 15 = .ok (.iconst 0, 1) := dk_3 (dk_at dksX0_glove_0 15 rfl rfl)
theorem dX0_glove_16 : decode cX0_glove 16 = .ok (.invokevirtual 129, 3) := dk_182 0 129 (dk_at dksX0_glove_0 16 rfl rfl)
theorem dX0_glove_19 : decode cX0_glove 19 = .ok (.ireturn, 1) := dk_172 (dk_at dksX0_glove_0 19 rfl rfl)
theorem dX0_glove_20 : decode cX0_glove 20 = .ok (.aload_n 0, 1) := dk_42 (dk_at dksX0_glove_0 20 rfl rfl)
theorem dX0_glove_21 : decode cX0_glove 21 = .ok (.getfield 79, 3) := dk_180 0 79 (dk_at dksX0_glove_0 21 rfl rfl)
theorem dX0_glove_24 : decode cX0_glove 24 = .ok (.getfield 127, 3) := dk_180 0 127 (dk_at dksX0_glove_1 0 rfl rfl)
theorem dX0_glove_27 : decode cX0_glove 27 = .ok (.bipush 8, 2) := dk_16 8 (dk_at dksX0_glove_1 3 rfl rfl)
theorem dX0_glove_29 : decode cX0_glove 29 = .ok (.if_icmp .ne 9, 3) := dk_160 0 9 (dk_at dksX0_glove_1 5 rfl rfl)
theorem dX0_glove_32 : decode cX0_glove 32 = .ok (.aload_n 0, 1) := dk_42 (dk_at dksX0_glove_1 8 rfl rfl)
theorem dX0_glove_33 : decode cX0_glove 33 = .ok (.iconst 1, 1) := dk_4 (dk_at dksX0_glove_1 9 rfl rfl)
theorem dX0_glove_34 : decode cX0_glove 34 = .ok (.invokevirtual 129, 3) := dk_182 0 129 (dk_at dksX0_glove_1 10 rfl rfl)
theorem dX0_glove_37 : decode cX0_glove 37 = .ok (.ireturn, 1) := dk_172 (dk_at dksX0_glove_1 13 rfl rfl)
theorem dX0_glove_38 : decode cX0_glove 38 = .ok (.aload_n 0, 1) := dk_42 (dk_at dksX0_glove_1 14 rfl rfl)
theorem dX0_glove_39 : decode cX0_glove 39 = .ok (.getfield 79, 3) := dk_180 0 79 (dk_at dksX0_glove_1 15 rfl rfl)
theorem dX0_glove_42 : decode cX0_glove 42 = .ok (.iload_n 1, 1) := dk_27 (dk_at dksX0_glove_1 18 rfl rfl)
theorem dX0_glove_43 : decode cX0_glove 43 = .ok (.iload_n 2, 1) := dk_28 (dk_at dksX0_glove_1 19 rfl rfl)
theorem dX0_glove_44 : decode cX0_glove 44 = .ok (.invokevirtual 205, 3) := dk_182 0 205 (dk_at dksX0_glove_1 20 rfl rfl)
theorem dX0_glove_47 : decode cX0_glove 47 = .ok (.aload_n 0, 1) := dk_42 (dk_at dksX0_glove_1 23 rfl rfl)
theorem dX0_glove_48 : decode cX0_glove 48 = .ok (.getfield 79, 3) := dk_180 0 79 (dk_at dksX0_glove_2 0 rfl rfl)
theorem dX0_glove_51 : decode cX0_glove 51 = .ok (.getfield 127, 3) := dk_180 0 127 (dk_at dksX0_glove_2 3 rfl rfl)
theorem dX0_glove_54 : decode cX0_glove 54 = .ok (.iconst 1, 1) := dk_4 (dk_at dksX0_glove_2 6 rfl rfl)
theorem dX0_glove_55 : decode cX0_glove 55 = .ok (.isub, 1) := dk_100 (dk_at dksX0_glove_2 7 rfl rfl)
theorem dX0_glove_56 : decode cX0_glove 56 = .ok (.ireturn, 1) := dk_172 (dk_at dksX0_glove_2 8 rfl rfl)
abbrev cX0_isKind : ByteArray := prog_1_method_6_code
def yX0_isKind : MethodName := ⟨RX0, "isKind", "(I)Z"⟩
def dkwX0_isKind_0 : List UInt8 := [26, 3, 16, 6, 184, 0, 9, 172]
abbrev dktX0_isKind_0 : List UInt8 := dkwX0_isKind_0 ++ []
theorem dksX0_isKind_0 : cX0_isKind.data.toList.drop 0 = dktX0_isKind_0 := by decide +kernel
theorem dX0_isKind_0 : decode cX0_isKind 0 = .ok (.iload_n 0, 1) := dk_26 (dk_at dksX0_isKind_0 0 rfl rfl)
theorem dX0_isKind_1 : decode cX0_isKind 1 = .ok (.iconst 0, 1) := dk_3 (dk_at dksX0_isKind_0 1 rfl rfl)
theorem dX0_isKind_2 : decode cX0_isKind 2 = .ok (.bipush 6, 2) := dk_16 6 (dk_at dksX0_isKind_0 2 rfl rfl)
theorem dX0_isKind_4 : decode cX0_isKind 4 = .ok (.invokestatic 9, 3) := dk_184 0 9 (dk_at dksX0_isKind_0 4 rfl rfl)
theorem dX0_isKind_7 : decode cX0_isKind 7 = .ok (.ireturn, 1) := dk_172 (dk_at dksX0_isKind_0 7 rfl rfl)
abbrev cX0_of : ByteArray := prog_1_method_34_code
def yX0_of : MethodName := ⟨RX0, "of", "(II)I"⟩
def dkwX0_of_5 : List UInt8 := [182, 0, 129, 172]
abbrev dktX0_of_5 : List UInt8 := dkwX0_of_5 ++ []
def dkwX0_of_4 : List UInt8 := [182, 0, 142, 172, 42, 27, 182, 0, 138, 182, 0, 177, 172, 42, 27, 182, 0, 138, 182, 0, 167, 172, 42, 3]
abbrev dktX0_of_4 : List UInt8 := dkwX0_of_4 ++ dktX0_of_5
def dkwX0_of_3 : List UInt8 := [42, 27, 182, 0, 138, 182, 0, 211, 172, 42, 27, 182, 0, 138, 182, 0, 158, 172, 42, 27, 182, 0, 138]
abbrev dktX0_of_3 : List UInt8 := dkwX0_of_3 ++ dktX0_of_4
def dkwX0_of_2 : List UInt8 := [170, 0, 0, 0, 0, 0, 104, 0, 0, 0, 0, 0, 0, 0, 10, 0, 0, 0, 59, 0, 0, 0, 104, 0, 0, 0, 104, 0, 0, 0, 104, 0, 0, 0, 104, 0, 0, 0, 104, 0, 0, 0, 104, 0, 0, 0, 68, 0, 0, 0, 77, 0, 0, 0, 86, 0, 0, 0, 95]
abbrev dktX0_of_2 : List UInt8 := dkwX0_of_2 ++ dktX0_of_3
def dkwX0_of_1 : List UInt8 := [42, 180, 0, 79, 180, 0, 114, 28, 50, 27, 46, 172, 28]
abbrev dktX0_of_1 : List UInt8 := dkwX0_of_1 ++ dktX0_of_2
def dkwX0_of_0 : List UInt8 := [42, 27, 182, 0, 208, 154, 0, 9, 42, 3, 182, 0, 129, 172, 28, 4, 16, 6, 184, 0, 9, 153, 0, 15]
abbrev dktX0_of_0 : List UInt8 := dkwX0_of_0 ++ dktX0_of_1
theorem dksX0_of_0 : cX0_of.data.toList.drop 0 = dktX0_of_0 := by decide +kernel
theorem dksX0_of_1 : cX0_of.data.toList.drop 24 = dktX0_of_1 := dk_seg dksX0_of_0 24 rfl rfl
theorem dksX0_of_2 : cX0_of.data.toList.drop 37 = dktX0_of_2 := dk_seg dksX0_of_1 13 rfl rfl
theorem dksX0_of_3 : cX0_of.data.toList.drop 96 = dktX0_of_3 := dk_seg dksX0_of_2 59 rfl rfl
theorem dksX0_of_4 : cX0_of.data.toList.drop 119 = dktX0_of_4 := dk_seg dksX0_of_3 23 rfl rfl
theorem dksX0_of_5 : cX0_of.data.toList.drop 143 = dktX0_of_5 := dk_seg dksX0_of_4 24 rfl rfl
theorem dX0_of_0 : decode cX0_of 0 = .ok (.aload_n 0, 1) := dk_42 (dk_at dksX0_of_0 0 rfl rfl)
theorem dX0_of_1 : decode cX0_of 1 = .ok (.iload_n 1, 1) := dk_27 (dk_at dksX0_of_0 1 rfl rfl)
theorem dX0_of_2 : decode cX0_of 2 = .ok (.invokevirtual 208, 3) := dk_182 0 208 (dk_at dksX0_of_0 2 rfl rfl)
theorem dX0_of_5 : decode cX0_of 5 = .ok (.ifCond .ne 9, 3) := dk_154 0 9 (dk_at dksX0_of_0 5 rfl rfl)
theorem dX0_of_8 : decode cX0_of 8 = .ok (.aload_n 0, 1) := dk_42 (dk_at dksX0_of_0 8 rfl rfl)
theorem dX0_of_9 : decode cX0_of 9 = .ok (.iconst 0, 1) := dk_3 (dk_at dksX0_of_0 9 rfl rfl)
theorem dX0_of_10 : decode cX0_of 10 = .ok (.invokevirtual 129, 3) := dk_182 0 129 (dk_at dksX0_of_0 10 rfl rfl)
theorem dX0_of_13 : decode cX0_of 13 = .ok (.ireturn, 1) := dk_172 (dk_at dksX0_of_0 13 rfl rfl)
theorem dX0_of_14 : decode cX0_of 14 = .ok (.iload_n 2, 1) := dk_28 (dk_at dksX0_of_0 14 rfl rfl)
theorem dX0_of_15 : decode cX0_of 15 = .ok (.iconst 1, 1) := dk_4 (dk_at dksX0_of_0 15 rfl rfl)
theorem dX0_of_16 : decode cX0_of 16 = .ok (.bipush 6, 2) := dk_16 6 (dk_at dksX0_of_0 16 rfl rfl)
theorem dX0_of_18 : decode cX0_of 18 = .ok (.invokestatic 9, 3) := dk_184 0 9 (dk_at dksX0_of_0 18 rfl rfl)
theorem dX0_of_21 : decode cX0_of 21 = .ok (.ifCond .eq 15, 3) := dk_153 0 15 (dk_at dksX0_of_0 21 rfl rfl)
theorem dX0_of_24 : decode cX0_of 24 = .ok (.aload_n 0, 1) := dk_42 (dk_at dksX0_of_1 0 rfl rfl)
theorem dX0_of_25 : decode cX0_of 25 = .ok (.getfield 79, 3) := dk_180 0 79 (dk_at dksX0_of_1 1 rfl rfl)
theorem dX0_of_28 : decode cX0_of 28 = .ok (.getfield 114, 3) := dk_180 0 114 (dk_at dksX0_of_1 4 rfl rfl)
theorem dX0_of_31 : decode cX0_of 31 = .ok (.iload_n 2, 1) := dk_28 (dk_at dksX0_of_1 7 rfl rfl)
theorem dX0_of_32 : decode cX0_of 32 = .ok (.aaload, 1) := dk_50 (dk_at dksX0_of_1 8 rfl rfl)
theorem dX0_of_33 : decode cX0_of 33 = .ok (.iload_n 1, 1) := dk_27 (dk_at dksX0_of_1 9 rfl rfl)
theorem dX0_of_34 : decode cX0_of 34 = .ok (.iaload, 1) := dk_46 (dk_at dksX0_of_1 10 rfl rfl)
theorem dX0_of_35 : decode cX0_of 35 = .ok (.ireturn, 1) := dk_172 (dk_at dksX0_of_1 11 rfl rfl)
theorem dX0_of_36 : decode cX0_of 36 = .ok (.iload_n 2, 1) := dk_28 (dk_at dksX0_of_1 12 rfl rfl)
theorem dX0_of_37 : decode cX0_of 37 = .ok (.tableswitch 104 0 10 #[59, 104, 104, 104, 104, 104, 104, 68, 77, 86, 95], 59) := by decide +kernel
theorem dX0_of_96 : decode cX0_of 96 = .ok (.aload_n 0, 1) := dk_42 (dk_at dksX0_of_3 0 rfl rfl)
theorem dX0_of_97 : decode cX0_of 97 = .ok (.iload_n 1, 1) := dk_27 (dk_at dksX0_of_3 1 rfl rfl)
theorem dX0_of_98 : decode cX0_of 98 = .ok (.invokevirtual 138, 3) := dk_182 0 138 (dk_at dksX0_of_3 2 rfl rfl)
theorem dX0_of_101 : decode cX0_of 101 = .ok (.invokevirtual 211, 3) := dk_182 0 211 (dk_at dksX0_of_3 5 rfl rfl)
theorem dX0_of_104 : decode cX0_of 104 = .ok (.ireturn, 1) := dk_172 (dk_at dksX0_of_3 8 rfl rfl)
theorem dX0_of_105 : decode cX0_of 105 = .ok (.aload_n 0, 1) := dk_42 (dk_at dksX0_of_3 9 rfl rfl)
theorem dX0_of_106 : decode cX0_of 106 = .ok (.iload_n 1, 1) := dk_27 (dk_at dksX0_of_3 10 rfl rfl)
theorem dX0_of_107 : decode cX0_of 107 = .ok (.invokevirtual 138, 3) := dk_182 0 138 (dk_at dksX0_of_3 11 rfl rfl)
theorem dX0_of_110 : decode cX0_of 110 = .ok (.invokevirtual 158, 3) := dk_182 0 158 (dk_at dksX0_of_3 14 rfl rfl)
theorem dX0_of_113 : decode cX0_of 113 = .ok (.ireturn, 1) := dk_172 (dk_at dksX0_of_3 17 rfl rfl)
theorem dX0_of_114 : decode cX0_of 114 = .ok (.aload_n 0, 1) := dk_42 (dk_at dksX0_of_3 18 rfl rfl)
theorem dX0_of_115 : decode cX0_of 115 = .ok (.iload_n 1, 1) := dk_27 (dk_at dksX0_of_3 19 rfl rfl)
theorem dX0_of_116 : decode cX0_of 116 = .ok (.invokevirtual 138, 3) := dk_182 0 138 (dk_at dksX0_of_3 20 rfl rfl)
theorem dX0_of_119 : decode cX0_of 119 = .ok (.invokevirtual 142, 3) := dk_182 0 142 (dk_at dksX0_of_4 0 rfl rfl)
theorem dX0_of_122 : decode cX0_of 122 = .ok (.ireturn, 1) := dk_172 (dk_at dksX0_of_4 3 rfl rfl)
theorem dX0_of_123 : decode cX0_of 123 = .ok (.aload_n 0, 1) := dk_42 (dk_at dksX0_of_4 4 rfl rfl)
theorem dX0_of_124 : decode cX0_of 124 = .ok (.iload_n 1, 1) := dk_27 (dk_at dksX0_of_4 5 rfl rfl)
theorem dX0_of_125 : decode cX0_of 125 = .ok (.invokevirtual 138, 3) := dk_182 0 138 (dk_at dksX0_of_4 6 rfl rfl)
theorem dX0_of_128 : decode cX0_of 128 = .ok (.invokevirtual 177, 3) := dk_182 0 177 (dk_at dksX0_of_4 9 rfl rfl)
theorem dX0_of_131 : decode cX0_of 131 = .ok (.ireturn, 1) := dk_172 (dk_at dksX0_of_4 12 rfl rfl)
theorem dX0_of_132 : decode cX0_of 132 = .ok (.aload_n 0, 1) := dk_42 (dk_at dksX0_of_4 13 rfl rfl)
theorem dX0_of_133 : decode cX0_of 133 = .ok (.iload_n 1, 1) := dk_27 (dk_at dksX0_of_4 14 rfl rfl)
theorem dX0_of_134 : decode cX0_of 134 = .ok (.invokevirtual 138, 3) := dk_182 0 138 (dk_at dksX0_of_4 15 rfl rfl)
theorem dX0_of_137 : decode cX0_of 137 = .ok (.invokevirtual 167, 3) := dk_182 0 167 (dk_at dksX0_of_4 18 rfl rfl)
theorem dX0_of_140 : decode cX0_of 140 = .ok (.ireturn, 1) := dk_172 (dk_at dksX0_of_4 21 rfl rfl)
theorem dX0_of_141 : decode cX0_of 141 = .ok (.aload_n 0, 1) := dk_42 (dk_at dksX0_of_4 22 rfl rfl)
theorem dX0_of_142 : decode cX0_of 142 = .ok (.iconst 0, 1) := dk_3 (dk_at dksX0_of_4 23 rfl rfl)
theorem dX0_of_143 : decode cX0_of 143 = .ok (.invokevirtual 129, 3) := dk_182 0 129 (dk_at dksX0_of_5 0 rfl rfl)
theorem dX0_of_146 : decode cX0_of 146 = .ok (.ireturn, 1) := dk_172 (dk_at dksX0_of_5 3 rfl rfl)
abbrev cX0_isGlove : ByteArray := prog_1_method_24_code
def yX0_isGlove : MethodName := ⟨RX0, "isGlove", "(I)Z"⟩
def dkwX0_isGlove_0 : List UInt8 := [27, 3, 42, 180, 0, 79, 180, 0, 127, 4, 100, 184, 0, 9, 172]
abbrev dktX0_isGlove_0 : List UInt8 := dkwX0_isGlove_0 ++ []
theorem dksX0_isGlove_0 : cX0_isGlove.data.toList.drop 0 = dktX0_isGlove_0 := by decide +kernel
theorem dX0_isGlove_0 : decode cX0_isGlove 0 = .ok (.iload_n 1, 1) := dk_27 (dk_at dksX0_isGlove_0 0 rfl rfl)
theorem dX0_isGlove_1 : decode cX0_isGlove 1 = .ok (.iconst 0, 1) := dk_3 (dk_at dksX0_isGlove_0 1 rfl rfl)
theorem dX0_isGlove_2 : decode cX0_isGlove 2 = .ok (.aload_n 0, 1) := dk_42 (dk_at dksX0_isGlove_0 2 rfl rfl)
theorem dX0_isGlove_3 : decode cX0_isGlove 3 = .ok (.getfield 79, 3) := dk_180 0 79 (dk_at dksX0_isGlove_0 3 rfl rfl)
theorem dX0_isGlove_6 : decode cX0_isGlove 6 = .ok (.getfield 127, 3) := dk_180 0 127 (dk_at dksX0_isGlove_0 6 rfl rfl)
theorem dX0_isGlove_9 : decode cX0_isGlove 9 = .ok (.iconst 1, 1) := dk_4 (dk_at dksX0_isGlove_0 9 rfl rfl)
theorem dX0_isGlove_10 : decode cX0_isGlove 10 = .ok (.isub, 1) := dk_100 (dk_at dksX0_isGlove_0 10 rfl rfl)
theorem dX0_isGlove_11 : decode cX0_isGlove 11 = .ok (.invokestatic 9, 3) := dk_184 0 9 (dk_at dksX0_isGlove_0 11 rfl rfl)
theorem dX0_isGlove_14 : decode cX0_isGlove 14 = .ok (.ireturn, 1) := dk_172 (dk_at dksX0_isGlove_0 14 rfl rfl)
abbrev cX0_change : ByteArray := prog_1_method_35_code
def yX0_change : MethodName := ⟨RX0, "change", "(III)I"⟩
def dkwX0_change_2 : List UInt8 := [21, 4, 172]
abbrev dktX0_change_2 : List UInt8 := dkwX0_change_2 ++ []
def dkwX0_change_1 : List UInt8 := [180, 0, 79, 180, 0, 114, 28, 50, 27, 46, 54, 4, 42, 180, 0, 79, 180, 0, 114, 28, 50, 27, 29, 79]
abbrev dktX0_change_1 : List UInt8 := dkwX0_change_1 ++ dktX0_change_2
def dkwX0_change_0 : List UInt8 := [42, 27, 182, 0, 208, 153, 0, 11, 28, 29, 184, 0, 214, 154, 0, 9, 42, 3, 182, 0, 129, 172, 42]
abbrev dktX0_change_0 : List UInt8 := dkwX0_change_0 ++ dktX0_change_1
theorem dksX0_change_0 : cX0_change.data.toList.drop 0 = dktX0_change_0 := by decide +kernel
theorem dksX0_change_1 : cX0_change.data.toList.drop 23 = dktX0_change_1 := dk_seg dksX0_change_0 23 rfl rfl
theorem dksX0_change_2 : cX0_change.data.toList.drop 47 = dktX0_change_2 := dk_seg dksX0_change_1 24 rfl rfl
theorem dX0_change_0 : decode cX0_change 0 = .ok (.aload_n 0, 1) := dk_42 (dk_at dksX0_change_0 0 rfl rfl)
theorem dX0_change_1 : decode cX0_change 1 = .ok (.iload_n 1, 1) := dk_27 (dk_at dksX0_change_0 1 rfl rfl)
theorem dX0_change_2 : decode cX0_change 2 = .ok (.invokevirtual 208, 3) := dk_182 0 208 (dk_at dksX0_change_0 2 rfl rfl)
theorem dX0_change_5 : decode cX0_change 5 = .ok (.ifCond .eq 11, 3) := dk_153 0 11 (dk_at dksX0_change_0 5 rfl rfl)
theorem dX0_change_8 : decode cX0_change 8 = .ok (.iload_n 2, 1) := dk_28 (dk_at dksX0_change_0 8 rfl rfl)
theorem dX0_change_9 : decode cX0_change 9 = .ok (.iload_n 3, 1) := dk_29 (dk_at dksX0_change_0 9 rfl rfl)
theorem dX0_change_10 : decode cX0_change 10 = .ok (.invokestatic 214, 3) := dk_184 0 214 (dk_at dksX0_change_0 10 rfl rfl)
theorem dX0_change_13 : decode cX0_change 13 = .ok (.ifCond .ne 9, 3) := dk_154 0 9 (dk_at dksX0_change_0 13 rfl rfl)
theorem dX0_change_16 : decode cX0_change 16 = .ok (.aload_n 0, 1) := dk_42 (dk_at dksX0_change_0 16 rfl rfl)
theorem dX0_change_17 : decode cX0_change 17 = .ok (.iconst 0, 1) := dk_3 (dk_at dksX0_change_0 17 rfl rfl)
theorem dX0_change_18 : decode cX0_change 18 = .ok (.invokevirtual 129, 3) := dk_182 0 129 (dk_at dksX0_change_0 18 rfl rfl)
theorem dX0_change_21 : decode cX0_change 21 = .ok (.ireturn, 1) := dk_172 (dk_at dksX0_change_0 21 rfl rfl)
theorem dX0_change_22 : decode cX0_change 22 = .ok (.aload_n 0, 1) := dk_42 (dk_at dksX0_change_0 22 rfl rfl)
theorem dX0_change_23 : decode cX0_change 23 = .ok (.getfield 79, 3) := dk_180 0 79 (dk_at dksX0_change_1 0 rfl rfl)
theorem dX0_change_26 : decode cX0_change 26 = .ok (.getfield 114, 3) := dk_180 0 114 (dk_at dksX0_change_1 3 rfl rfl)
theorem dX0_change_29 : decode cX0_change 29 = .ok (.iload_n 2, 1) := dk_28 (dk_at dksX0_change_1 6 rfl rfl)
theorem dX0_change_30 : decode cX0_change 30 = .ok (.aaload, 1) := dk_50 (dk_at dksX0_change_1 7 rfl rfl)
theorem dX0_change_31 : decode cX0_change 31 = .ok (.iload_n 1, 1) := dk_27 (dk_at dksX0_change_1 8 rfl rfl)
theorem dX0_change_32 : decode cX0_change 32 = .ok (.iaload, 1) := dk_46 (dk_at dksX0_change_1 9 rfl rfl)
theorem dX0_change_33 : decode cX0_change 33 = .ok (.istore 4, 2) := dk_54 4 (dk_at dksX0_change_1 10 rfl rfl)
theorem dX0_change_35 : decode cX0_change 35 = .ok (.aload_n 0, 1) := dk_42 (dk_at dksX0_change_1 12 rfl rfl)
theorem dX0_change_36 : decode cX0_change 36 = .ok (.getfield 79, 3) := dk_180 0 79 (dk_at dksX0_change_1 13 rfl rfl)
theorem dX0_change_39 : decode cX0_change 39 = .ok (.getfield 114, 3) := dk_180 0 114 (dk_at dksX0_change_1 16 rfl rfl)
theorem dX0_change_42 : decode cX0_change 42 = .ok (.iload_n 2, 1) := dk_28 (dk_at dksX0_change_1 19 rfl rfl)
theorem dX0_change_43 : decode cX0_change 43 = .ok (.aaload, 1) := dk_50 (dk_at dksX0_change_1 20 rfl rfl)
theorem dX0_change_44 : decode cX0_change 44 = .ok (.iload_n 1, 1) := dk_27 (dk_at dksX0_change_1 21 rfl rfl)
theorem dX0_change_45 : decode cX0_change 45 = .ok (.iload_n 3, 1) := dk_29 (dk_at dksX0_change_1 22 rfl rfl)
theorem dX0_change_46 : decode cX0_change 46 = .ok (.iastore, 1) := dk_79 (dk_at dksX0_change_1 23 rfl rfl)
theorem dX0_change_47 : decode cX0_change 47 = .ok (.iload 4, 2) := dk_21 4 (dk_at dksX0_change_2 0 rfl rfl)
theorem dX0_change_49 : decode cX0_change 49 = .ok (.ireturn, 1) := dk_172 (dk_at dksX0_change_2 2 rfl rfl)
abbrev cX0_isTold : ByteArray := prog_1_method_17_code
def yX0_isTold : MethodName := ⟨RX0, "isTold", "(II)Z"⟩
def dkwX0_isTold_3 : List UInt8 := [3, 17, 39, 15, 184, 0, 9, 172, 27, 3, 17, 39, 15, 184, 0, 9, 172, 3, 172]
abbrev dktX0_isTold_3 : List UInt8 := dkwX0_isTold_3 ++ []
def dkwX0_isTold_2 : List UInt8 := [27, 184, 0, 27, 172, 27, 184, 0, 17, 172, 27, 3, 16, 9, 184, 0, 9, 172, 27, 184, 0, 30, 172, 27]
abbrev dktX0_isTold_2 : List UInt8 := dkwX0_isTold_2 ++ dktX0_isTold_3
def dkwX0_isTold_1 : List UInt8 := [170, 0, 0, 0, 0, 0, 84, 0, 0, 0, 0, 0, 0, 0, 6, 0, 0, 0, 43, 0, 0, 0, 48, 0, 0, 0, 53, 0, 0, 0, 61, 0, 0, 0, 66, 0, 0, 0, 61, 0, 0, 0, 75]
abbrev dktX0_isTold_1 : List UInt8 := dkwX0_isTold_1 ++ dktX0_isTold_2
def dkwX0_isTold_0 : List UInt8 := [26]
abbrev dktX0_isTold_0 : List UInt8 := dkwX0_isTold_0 ++ dktX0_isTold_1
theorem dksX0_isTold_0 : cX0_isTold.data.toList.drop 0 = dktX0_isTold_0 := by decide +kernel
theorem dksX0_isTold_1 : cX0_isTold.data.toList.drop 1 = dktX0_isTold_1 := dk_seg dksX0_isTold_0 1 rfl rfl
theorem dksX0_isTold_2 : cX0_isTold.data.toList.drop 44 = dktX0_isTold_2 := dk_seg dksX0_isTold_1 43 rfl rfl
theorem dksX0_isTold_3 : cX0_isTold.data.toList.drop 68 = dktX0_isTold_3 := dk_seg dksX0_isTold_2 24 rfl rfl
theorem dX0_isTold_0 : decode cX0_isTold 0 = .ok (.iload_n 0, 1) := dk_26 (dk_at dksX0_isTold_0 0 rfl rfl)
theorem dX0_isTold_1 : decode cX0_isTold 1 = .ok (.tableswitch 84 0 6 #[43, 48, 53, 61, 66, 61, 75], 43) := by decide +kernel
theorem dX0_isTold_44 : decode cX0_isTold 44 = .ok (.iload_n 1, 1) := dk_27 (dk_at dksX0_isTold_2 0 rfl rfl)
theorem dX0_isTold_45 : decode cX0_isTold 45 = .ok (.invokestatic 27, 3) := dk_184 0 27 (dk_at dksX0_isTold_2 1 rfl rfl)
theorem dX0_isTold_48 : decode cX0_isTold 48 = .ok (.ireturn, 1) := dk_172 (dk_at dksX0_isTold_2 4 rfl rfl)
theorem dX0_isTold_49 : decode cX0_isTold 49 = .ok (.iload_n 1, 1) := dk_27 (dk_at dksX0_isTold_2 5 rfl rfl)
theorem dX0_isTold_50 : decode cX0_isTold 50 = .ok (.invokestatic 17, 3) := dk_184 0 17 (dk_at dksX0_isTold_2 6 rfl rfl)
theorem dX0_isTold_53 : decode cX0_isTold 53 = .ok (.ireturn, 1) := dk_172 (dk_at dksX0_isTold_2 9 rfl rfl)
theorem dX0_isTold_54 : decode cX0_isTold 54 = .ok (.iload_n 1, 1) := dk_27 (dk_at dksX0_isTold_2 10 rfl rfl)
theorem dX0_isTold_55 : decode cX0_isTold 55 = .ok (.iconst 0, 1) := dk_3 (dk_at dksX0_isTold_2 11 rfl rfl)
theorem dX0_isTold_56 : decode cX0_isTold 56 = .ok (.bipush 9, 2) := dk_16 9 (dk_at dksX0_isTold_2 12 rfl rfl)
theorem dX0_isTold_58 : decode cX0_isTold 58 = .ok (.invokestatic 9, 3) := dk_184 0 9 (dk_at dksX0_isTold_2 14 rfl rfl)
theorem dX0_isTold_61 : decode cX0_isTold 61 = .ok (.ireturn, 1) := dk_172 (dk_at dksX0_isTold_2 17 rfl rfl)
theorem dX0_isTold_62 : decode cX0_isTold 62 = .ok (.iload_n 1, 1) := dk_27 (dk_at dksX0_isTold_2 18 rfl rfl)
theorem dX0_isTold_63 : decode cX0_isTold 63 = .ok (.invokestatic 30, 3) := dk_184 0 30 (dk_at dksX0_isTold_2 19 rfl rfl)
theorem dX0_isTold_66 : decode cX0_isTold 66 = .ok (.ireturn, 1) := dk_172 (dk_at dksX0_isTold_2 22 rfl rfl)
theorem dX0_isTold_67 : decode cX0_isTold 67 = .ok (.iload_n 1, 1) := dk_27 (dk_at dksX0_isTold_2 23 rfl rfl)
theorem dX0_isTold_68 : decode cX0_isTold 68 = .ok (.iconst 0, 1) := dk_3 (dk_at dksX0_isTold_3 0 rfl rfl)
theorem dX0_isTold_69 : decode cX0_isTold 69 = .ok (.sipush 9999, 3) := dk_17 39 15 (dk_at dksX0_isTold_3 1 rfl rfl)
theorem dX0_isTold_72 : decode cX0_isTold 72 = .ok (.invokestatic 9, 3) := dk_184 0 9 (dk_at dksX0_isTold_3 4 rfl rfl)
theorem dX0_isTold_75 : decode cX0_isTold 75 = .ok (.ireturn, 1) := dk_172 (dk_at dksX0_isTold_3 7 rfl rfl)
theorem dX0_isTold_76 : decode cX0_isTold 76 = .ok (.iload_n 1, 1) := dk_27 (dk_at dksX0_isTold_3 8 rfl rfl)
theorem dX0_isTold_77 : decode cX0_isTold 77 = .ok (.iconst 0, 1) := dk_3 (dk_at dksX0_isTold_3 9 rfl rfl)
theorem dX0_isTold_78 : decode cX0_isTold 78 = .ok (.sipush 9999, 3) := dk_17 39 15 (dk_at dksX0_isTold_3 10 rfl rfl)
theorem dX0_isTold_81 : decode cX0_isTold 81 = .ok (.invokestatic 9, 3) := dk_184 0 9 (dk_at dksX0_isTold_3 13 rfl rfl)
theorem dX0_isTold_84 : decode cX0_isTold 84 = .ok (.ireturn, 1) := dk_172 (dk_at dksX0_isTold_3 16 rfl rfl)
theorem dX0_isTold_85 : decode cX0_isTold 85 = .ok (.iconst 0, 1) := dk_3 (dk_at dksX0_isTold_3 17 rfl rfl)
theorem dX0_isTold_86 : decode cX0_isTold 86 = .ok (.ireturn, 1) := dk_172 (dk_at dksX0_isTold_3 18 rfl rfl)
abbrev cX0_isTopics : ByteArray := prog_1_method_9_code
def yX0_isTopics : MethodName := ⟨RX0, "isTopics", "(I)Z"⟩
def dkwX0_isTopics_0 : List UInt8 := [26, 3, 18, 13, 184, 0, 9, 172]
abbrev dktX0_isTopics_0 : List UInt8 := dkwX0_isTopics_0 ++ []
theorem dksX0_isTopics_0 : cX0_isTopics.data.toList.drop 0 = dktX0_isTopics_0 := by decide +kernel
theorem dX0_isTopics_0 : decode cX0_isTopics 0 = .ok (.iload_n 0, 1) := dk_26 (dk_at dksX0_isTopics_0 0 rfl rfl)
theorem dX0_isTopics_1 : decode cX0_isTopics 1 = .ok (.iconst 0, 1) := dk_3 (dk_at dksX0_isTopics_0 1 rfl rfl)
theorem dX0_isTopics_2 : decode cX0_isTopics 2 = .ok (.ldc 13, 2) := dk_18 13 (dk_at dksX0_isTopics_0 2 rfl rfl)
theorem dX0_isTopics_4 : decode cX0_isTopics 4 = .ok (.invokestatic 9, 3) := dk_184 0 9 (dk_at dksX0_isTopics_0 4 rfl rfl)
theorem dX0_isTopics_7 : decode cX0_isTopics 7 = .ok (.ireturn, 1) := dk_172 (dk_at dksX0_isTopics_0 7 rfl rfl)
abbrev cX0_draw : ByteArray := prog_1_method_37_code
def yX0_draw : MethodName := ⟨RX0, "draw", "(I)I"⟩
def dkwX0_draw_1 : List UInt8 := [154, 0, 11, 42, 7, 182, 0, 129, 167, 0, 8, 42, 27, 182, 0, 221, 172]
abbrev dktX0_draw_1 : List UInt8 := dkwX0_draw_1 ++ []
def dkwX0_draw_0 : List UInt8 := [42, 27, 182, 0, 208, 154, 0, 9, 42, 3, 182, 0, 129, 172, 42, 27, 182, 0, 138, 182, 0, 177]
abbrev dktX0_draw_0 : List UInt8 := dkwX0_draw_0 ++ dktX0_draw_1
theorem dksX0_draw_0 : cX0_draw.data.toList.drop 0 = dktX0_draw_0 := by decide +kernel
theorem dksX0_draw_1 : cX0_draw.data.toList.drop 22 = dktX0_draw_1 := dk_seg dksX0_draw_0 22 rfl rfl
theorem dX0_draw_0 : decode cX0_draw 0 = .ok (.aload_n 0, 1) := dk_42 (dk_at dksX0_draw_0 0 rfl rfl)
theorem dX0_draw_1 : decode cX0_draw 1 = .ok (.iload_n 1, 1) := dk_27 (dk_at dksX0_draw_0 1 rfl rfl)
theorem dX0_draw_2 : decode cX0_draw 2 = .ok (.invokevirtual 208, 3) := dk_182 0 208 (dk_at dksX0_draw_0 2 rfl rfl)
theorem dX0_draw_5 : decode cX0_draw 5 = .ok (.ifCond .ne 9, 3) := dk_154 0 9 (dk_at dksX0_draw_0 5 rfl rfl)
theorem dX0_draw_8 : decode cX0_draw 8 = .ok (.aload_n 0, 1) := dk_42 (dk_at dksX0_draw_0 8 rfl rfl)
theorem dX0_draw_9 : decode cX0_draw 9 = .ok (.iconst 0, 1) := dk_3 (dk_at dksX0_draw_0 9 rfl rfl)
theorem dX0_draw_10 : decode cX0_draw 10 = .ok (.invokevirtual 129, 3) := dk_182 0 129 (dk_at dksX0_draw_0 10 rfl rfl)
theorem dX0_draw_13 : decode cX0_draw 13 = .ok (.ireturn, 1) := dk_172 (dk_at dksX0_draw_0 13 rfl rfl)
theorem dX0_draw_14 : decode cX0_draw 14 = .ok (.aload_n 0, 1) := dk_42 (dk_at dksX0_draw_0 14 rfl rfl)
theorem dX0_draw_15 : decode cX0_draw 15 = .ok (.iload_n 1, 1) := dk_27 (dk_at dksX0_draw_0 15 rfl rfl)
theorem dX0_draw_16 : decode cX0_draw 16 = .ok (.invokevirtual 138, 3) := dk_182 0 138 (dk_at dksX0_draw_0 16 rfl rfl)
theorem dX0_draw_19 : decode cX0_draw 19 = .ok (.invokevirtual 177, 3) := dk_182 0 177 (dk_at dksX0_draw_0 19 rfl rfl)
theorem dX0_draw_22 : decode cX0_draw 22 = .ok (.ifCond .ne 11, 3) := dk_154 0 11 (dk_at dksX0_draw_1 0 rfl rfl)
theorem dX0_draw_25 : decode cX0_draw 25 = .ok (.aload_n 0, 1) := dk_42 (dk_at dksX0_draw_1 3 rfl rfl)
theorem dX0_draw_26 : decode cX0_draw 26 = .ok (.iconst 4, 1) := dk_7 (dk_at dksX0_draw_1 4 rfl rfl)
theorem dX0_draw_27 : decode cX0_draw 27 = .ok (.invokevirtual 129, 3) := dk_182 0 129 (dk_at dksX0_draw_1 5 rfl rfl)
theorem dX0_draw_30 : decode cX0_draw 30 = .ok (.goto 8, 3) := dk_167 0 8 (dk_at dksX0_draw_1 8 rfl rfl)
theorem dX0_draw_33 : decode cX0_draw 33 = .ok (.aload_n 0, 1) := dk_42 (dk_at dksX0_draw_1 11 rfl rfl)
theorem dX0_draw_34 : decode cX0_draw 34 = .ok (.iload_n 1, 1) := dk_27 (dk_at dksX0_draw_1 12 rfl rfl)
theorem dX0_draw_35 : decode cX0_draw 35 = .ok (.invokevirtual 221, 3) := dk_182 0 221 (dk_at dksX0_draw_1 13 rfl rfl)
theorem dX0_draw_38 : decode cX0_draw 38 = .ok (.ireturn, 1) := dk_172 (dk_at dksX0_draw_1 16 rfl rfl)
abbrev cX0_drawnOn : ByteArray := prog_1_method_36_code
def yX0_drawnOn : MethodName := ⟨RX0, "drawnOn", "(I)I"⟩
def dkwX0_drawnOn_0 : List UInt8 := [42, 180, 0, 79, 27, 182, 0, 217, 42, 180, 0, 79, 180, 0, 114, 8, 50, 27, 46, 172]
abbrev dktX0_drawnOn_0 : List UInt8 := dkwX0_drawnOn_0 ++ []
theorem dksX0_drawnOn_0 : cX0_drawnOn.data.toList.drop 0 = dktX0_drawnOn_0 := by decide +kernel
theorem dX0_drawnOn_0 : decode cX0_drawnOn 0 = .ok (.aload_n 0, 1) := dk_42 (dk_at dksX0_drawnOn_0 0 rfl rfl)
theorem dX0_drawnOn_1 : decode cX0_drawnOn 1 = .ok (.getfield 79, 3) := dk_180 0 79 (dk_at dksX0_drawnOn_0 1 rfl rfl)
theorem dX0_drawnOn_4 : decode cX0_drawnOn 4 = .ok (.iload_n 1, 1) := dk_27 (dk_at dksX0_drawnOn_0 4 rfl rfl)
theorem dX0_drawnOn_5 : decode cX0_drawnOn 5 = .ok (.invokevirtual 217, 3) := dk_182 0 217 (dk_at dksX0_drawnOn_0 5 rfl rfl)
theorem dX0_drawnOn_8 : decode cX0_drawnOn 8 = .ok (.aload_n 0, 1) := dk_42 (dk_at dksX0_drawnOn_0 8 rfl rfl)
theorem dX0_drawnOn_9 : decode cX0_drawnOn 9 = .ok (.getfield 79, 3) := dk_180 0 79 (dk_at dksX0_drawnOn_0 9 rfl rfl)
theorem dX0_drawnOn_12 : decode cX0_drawnOn 12 = .ok (.getfield 114, 3) := dk_180 0 114 (dk_at dksX0_drawnOn_0 12 rfl rfl)
theorem dX0_drawnOn_15 : decode cX0_drawnOn 15 = .ok (.iconst 5, 1) := dk_8 (dk_at dksX0_drawnOn_0 15 rfl rfl)
theorem dX0_drawnOn_16 : decode cX0_drawnOn 16 = .ok (.aaload, 1) := dk_50 (dk_at dksX0_drawnOn_0 16 rfl rfl)
theorem dX0_drawnOn_17 : decode cX0_drawnOn 17 = .ok (.iload_n 1, 1) := dk_27 (dk_at dksX0_drawnOn_0 17 rfl rfl)
theorem dX0_drawnOn_18 : decode cX0_drawnOn 18 = .ok (.iaload, 1) := dk_46 (dk_at dksX0_drawnOn_0 18 rfl rfl)
theorem dX0_drawnOn_19 : decode cX0_drawnOn 19 = .ok (.ireturn, 1) := dk_172 (dk_at dksX0_drawnOn_0 19 rfl rfl)
abbrev cX0_who : ByteArray := prog_1_method_38_code
def yX0_who : MethodName := ⟨RX0, "who", "(II)I"⟩
def dkwX0_who_1 : List UInt8 := [154, 0, 7, 6, 167, 0, 4, 8, 182, 0, 224, 167, 0, 8, 42, 3, 182, 0, 129, 172]
abbrev dktX0_who_1 : List UInt8 := dkwX0_who_1 ++ []
def dkwX0_who_0 : List UInt8 := [27, 184, 0, 24, 153, 0, 32, 28, 3, 4, 184, 0, 9, 153, 0, 23, 42, 180, 0, 79, 27, 28]
abbrev dktX0_who_0 : List UInt8 := dkwX0_who_0 ++ dktX0_who_1
theorem dksX0_who_0 : cX0_who.data.toList.drop 0 = dktX0_who_0 := by decide +kernel
theorem dksX0_who_1 : cX0_who.data.toList.drop 22 = dktX0_who_1 := dk_seg dksX0_who_0 22 rfl rfl
theorem dX0_who_0 : decode cX0_who 0 = .ok (.iload_n 1, 1) := dk_27 (dk_at dksX0_who_0 0 rfl rfl)
theorem dX0_who_1 : decode cX0_who 1 = .ok (.invokestatic 24, 3) := dk_184 0 24 (dk_at dksX0_who_0 1 rfl rfl)
theorem dX0_who_4 : decode cX0_who 4 = .ok (.ifCond .eq 32, 3) := dk_153 0 32 (dk_at dksX0_who_0 4 rfl rfl)
theorem dX0_who_7 : decode cX0_who 7 = .ok (.iload_n 2, 1) := dk_28 (dk_at dksX0_who_0 7 rfl rfl)
theorem dX0_who_8 : decode cX0_who 8 = .ok (.iconst 0, 1) := dk_3 (dk_at dksX0_who_0 8 rfl rfl)
theorem dX0_who_9 : decode cX0_who 9 = .ok (.iconst 1, 1) := dk_4 (dk_at dksX0_who_0 9 rfl rfl)
theorem dX0_who_10 : decode cX0_who 10 = .ok (.invokestatic 9, 3) := dk_184 0 9 (dk_at dksX0_who_0 10 rfl rfl)
theorem dX0_who_13 : decode cX0_who 13 = .ok (.ifCond .eq 23, 3) := dk_153 0 23 (dk_at dksX0_who_0 13 rfl rfl)
theorem dX0_who_16 : decode cX0_who 16 = .ok (.aload_n 0, 1) := dk_42 (dk_at dksX0_who_0 16 rfl rfl)
theorem dX0_who_17 : decode cX0_who 17 = .ok (.getfield 79, 3) := dk_180 0 79 (dk_at dksX0_who_0 17 rfl rfl)
theorem dX0_who_20 : decode cX0_who 20 = .ok (.iload_n 1, 1) := dk_27 (dk_at dksX0_who_0 20 rfl rfl)
theorem dX0_who_21 : decode cX0_who 21 = .ok (.iload_n 2, 1) := dk_28 (dk_at dksX0_who_0 21 rfl rfl)
theorem dX0_who_22 : decode cX0_who 22 = .ok (.ifCond .ne 7, 3) := dk_154 0 7 (dk_at dksX0_who_1 0 rfl rfl)
theorem dX0_who_25 : decode cX0_who 25 = .ok (.iconst 3, 1) := dk_6 (dk_at dksX0_who_1 3 rfl rfl)
theorem dX0_who_26 : decode cX0_who 26 = .ok (.goto 4, 3) := dk_167 0 4 (dk_at dksX0_who_1 4 rfl rfl)
theorem dX0_who_29 : decode cX0_who 29 = .ok (.iconst 5, 1) := dk_8 (dk_at dksX0_who_1 7 rfl rfl)
theorem dX0_who_30 : decode cX0_who 30 = .ok (.invokevirtual 224, 3) := dk_182 0 224 (dk_at dksX0_who_1 8 rfl rfl)
theorem dX0_who_33 : decode cX0_who 33 = .ok (.goto 8, 3) := dk_167 0 8 (dk_at dksX0_who_1 11 rfl rfl)
theorem dX0_who_36 : decode cX0_who 36 = .ok (.aload_n 0, 1) := dk_42 (dk_at dksX0_who_1 14 rfl rfl)
theorem dX0_who_37 : decode cX0_who 37 = .ok (.iconst 0, 1) := dk_3 (dk_at dksX0_who_1 15 rfl rfl)
theorem dX0_who_38 : decode cX0_who 38 = .ok (.invokevirtual 129, 3) := dk_182 0 129 (dk_at dksX0_who_1 16 rfl rfl)
theorem dX0_who_41 : decode cX0_who 41 = .ok (.ireturn, 1) := dk_172 (dk_at dksX0_who_1 19 rfl rfl)
abbrev cX0_go : ByteArray := prog_1_method_40_code
def yX0_go : MethodName := ⟨RX0, "go", "(I)I"⟩
def dkwX0_go_1 : List UInt8 := [153, 0, 11, 42, 7, 182, 0, 129, 167, 0, 8, 42, 27, 182, 0, 235, 172]
abbrev dktX0_go_1 : List UInt8 := dkwX0_go_1 ++ []
def dkwX0_go_0 : List UInt8 := [27, 4, 16, 60, 184, 0, 9, 154, 0, 9, 42, 3, 182, 0, 129, 172, 42, 180, 0, 79, 27, 182, 0, 232]
abbrev dktX0_go_0 : List UInt8 := dkwX0_go_0 ++ dktX0_go_1
theorem dksX0_go_0 : cX0_go.data.toList.drop 0 = dktX0_go_0 := by decide +kernel
theorem dksX0_go_1 : cX0_go.data.toList.drop 24 = dktX0_go_1 := dk_seg dksX0_go_0 24 rfl rfl
theorem dX0_go_0 : decode cX0_go 0 = .ok (.iload_n 1, 1) := dk_27 (dk_at dksX0_go_0 0 rfl rfl)
theorem dX0_go_1 : decode cX0_go 1 = .ok (.iconst 1, 1) := dk_4 (dk_at dksX0_go_0 1 rfl rfl)
theorem dX0_go_2 : decode cX0_go 2 = .ok (.bipush 60, 2) := dk_16 60 (dk_at dksX0_go_0 2 rfl rfl)
theorem dX0_go_4 : decode cX0_go 4 = .ok (.invokestatic 9, 3) := dk_184 0 9 (dk_at dksX0_go_0 4 rfl rfl)
theorem dX0_go_7 : decode cX0_go 7 = .ok (.ifCond .ne 9, 3) := dk_154 0 9 (dk_at dksX0_go_0 7 rfl rfl)
theorem dX0_go_10 : decode cX0_go 10 = .ok (.aload_n 0, 1) := dk_42 (dk_at dksX0_go_0 10 rfl rfl)
theorem dX0_go_11 : decode cX0_go 11 = .ok (.iconst 0, 1) := dk_3 (dk_at dksX0_go_0 11 rfl rfl)
theorem dX0_go_12 : decode cX0_go 12 = .ok (.invokevirtual 129, 3) := dk_182 0 129 (dk_at dksX0_go_0 12 rfl rfl)
theorem dX0_go_15 : decode cX0_go 15 = .ok (.ireturn, 1) := dk_172 (dk_at dksX0_go_0 15 rfl rfl)
theorem dX0_go_16 : decode cX0_go 16 = .ok (.aload_n 0, 1) := dk_42 (dk_at dksX0_go_0 16 rfl rfl)
theorem dX0_go_17 : decode cX0_go 17 = .ok (.getfield 79, 3) := dk_180 0 79 (dk_at dksX0_go_0 17 rfl rfl)
theorem dX0_go_20 : decode cX0_go 20 = .ok (.iload_n 1, 1) := dk_27 (dk_at dksX0_go_0 20 rfl rfl)
theorem dX0_go_21 : decode cX0_go 21 = .ok (.invokevirtual 232, 3) := dk_182 0 232 (dk_at dksX0_go_0 21 rfl rfl)
theorem dX0_go_24 : decode cX0_go 24 = .ok (.ifCond .eq 11, 3) := dk_153 0 11 (dk_at dksX0_go_1 0 rfl rfl)
theorem dX0_go_27 : decode cX0_go 27 = .ok (.aload_n 0, 1) := dk_42 (dk_at dksX0_go_1 3 rfl rfl)
theorem dX0_go_28 : decode cX0_go 28 = .ok (.iconst 4, 1) := dk_7 (dk_at dksX0_go_1 4 rfl rfl)
theorem dX0_go_29 : decode cX0_go 29 = .ok (.invokevirtual 129, 3) := dk_182 0 129 (dk_at dksX0_go_1 5 rfl rfl)
theorem dX0_go_32 : decode cX0_go 32 = .ok (.goto 8, 3) := dk_167 0 8 (dk_at dksX0_go_1 8 rfl rfl)
theorem dX0_go_35 : decode cX0_go 35 = .ok (.aload_n 0, 1) := dk_42 (dk_at dksX0_go_1 11 rfl rfl)
theorem dX0_go_36 : decode cX0_go 36 = .ok (.iload_n 1, 1) := dk_27 (dk_at dksX0_go_1 12 rfl rfl)
theorem dX0_go_37 : decode cX0_go 37 = .ok (.invokevirtual 235, 3) := dk_182 0 235 (dk_at dksX0_go_1 13 rfl rfl)
theorem dX0_go_40 : decode cX0_go 40 = .ok (.ireturn, 1) := dk_172 (dk_at dksX0_go_1 16 rfl rfl)
abbrev cX0_goesOn : ByteArray := prog_1_method_39_code
def yX0_goesOn : MethodName := ⟨RX0, "goesOn", "(I)I"⟩
def dkwX0_goesOn_0 : List UInt8 := [42, 27, 182, 0, 227, 42, 180, 0, 79, 6, 42, 180, 0, 79, 182, 0, 229, 182, 0, 199, 172]
abbrev dktX0_goesOn_0 : List UInt8 := dkwX0_goesOn_0 ++ []
theorem dksX0_goesOn_0 : cX0_goesOn.data.toList.drop 0 = dktX0_goesOn_0 := by decide +kernel
theorem dX0_goesOn_0 : decode cX0_goesOn 0 = .ok (.aload_n 0, 1) := dk_42 (dk_at dksX0_goesOn_0 0 rfl rfl)
theorem dX0_goesOn_1 : decode cX0_goesOn 1 = .ok (.iload_n 1, 1) := dk_27 (dk_at dksX0_goesOn_0 1 rfl rfl)
theorem dX0_goesOn_2 : decode cX0_goesOn 2 = .ok (.invokevirtual 227, 3) := dk_182 0 227 (dk_at dksX0_goesOn_0 2 rfl rfl)
theorem dX0_goesOn_5 : decode cX0_goesOn 5 = .ok (.aload_n 0, 1) := dk_42 (dk_at dksX0_goesOn_0 5 rfl rfl)
theorem dX0_goesOn_6 : decode cX0_goesOn 6 = .ok (.getfield 79, 3) := dk_180 0 79 (dk_at dksX0_goesOn_0 6 rfl rfl)
theorem dX0_goesOn_9 : decode cX0_goesOn 9 = .ok (.iconst 3, 1) := dk_6 (dk_at dksX0_goesOn_0 9 rfl rfl)
theorem dX0_goesOn_10 : decode cX0_goesOn 10 = .ok (.aload_n 0, 1) := dk_42 (dk_at dksX0_goesOn_0 10 rfl rfl)
theorem dX0_goesOn_11 : decode cX0_goesOn 11 = .ok (.getfield 79, 3) := dk_180 0 79 (dk_at dksX0_goesOn_0 11 rfl rfl)
theorem dX0_goesOn_14 : decode cX0_goesOn 14 = .ok (.invokevirtual 229, 3) := dk_182 0 229 (dk_at dksX0_goesOn_0 14 rfl rfl)
theorem dX0_goesOn_17 : decode cX0_goesOn 17 = .ok (.invokevirtual 199, 3) := dk_182 0 199 (dk_at dksX0_goesOn_0 17 rfl rfl)
theorem dX0_goesOn_20 : decode cX0_goesOn 20 = .ok (.ireturn, 1) := dk_172 (dk_at dksX0_goesOn_0 20 rfl rfl)
abbrev cX0_passes : ByteArray := prog_1_method_29_code
def yX0_passes : MethodName := ⟨RX0, "passes", "(I)V"⟩
def dkwX0_passes_0 : List UInt8 := [3, 61, 28, 27, 162, 0, 13, 42, 182, 0, 187, 132, 2, 1, 167, 255, 244, 177]
abbrev dktX0_passes_0 : List UInt8 := dkwX0_passes_0 ++ []
theorem dksX0_passes_0 : cX0_passes.data.toList.drop 0 = dktX0_passes_0 := by decide +kernel
theorem dX0_passes_0 : decode cX0_passes 0 = .ok (.iconst 0, 1) := dk_3 (dk_at dksX0_passes_0 0 rfl rfl)
theorem dX0_passes_1 : decode cX0_passes 1 = .ok (.istore_n 2, 1) := dk_61 (dk_at dksX0_passes_0 1 rfl rfl)
theorem dX0_passes_2 : decode cX0_passes 2 = .ok (.iload_n 2, 1) := dk_28 (dk_at dksX0_passes_0 2 rfl rfl)
theorem dX0_passes_3 : decode cX0_passes 3 = .ok (.iload_n 1, 1) := dk_27 (dk_at dksX0_passes_0 3 rfl rfl)
theorem dX0_passes_4 : decode cX0_passes 4 = .ok (.if_icmp .ge 13, 3) := dk_162 0 13 (dk_at dksX0_passes_0 4 rfl rfl)
theorem dX0_passes_7 : decode cX0_passes 7 = .ok (.aload_n 0, 1) := dk_42 (dk_at dksX0_passes_0 7 rfl rfl)
theorem dX0_passes_8 : decode cX0_passes 8 = .ok (.invokevirtual 187, 3) := dk_182 0 187 (dk_at dksX0_passes_0 8 rfl rfl)
theorem dX0_passes_11 : decode cX0_passes 11 = .ok (.iinc 2 1, 3) := dk_132 2 1 (dk_at dksX0_passes_0 11 rfl rfl)
theorem dX0_passes_14 : decode cX0_passes 14 = .ok (.goto (-12), 3) := dk_167 255 244 (dk_at dksX0_passes_0 14 rfl rfl)
theorem dX0_passes_17 : decode cX0_passes 17 = .ok (.return_, 1) := dk_177 (dk_at dksX0_passes_0 17 rfl rfl)
abbrev cX0_passes_2 : ByteArray := prog_1_method_28_code
def yX0_passes_2 : MethodName := ⟨RX0, "passes", "()V"⟩
def dkwX0_passes_2_5 : List UInt8 := [180, 0, 184, 4, 96, 181, 0, 184, 177]
abbrev dktX0_passes_2_5 : List UInt8 := dkwX0_passes_2_5 ++ []
def dkwX0_passes_2_4 : List UInt8 := [29, 42, 29, 182, 0, 138, 182, 0, 177, 182, 0, 180, 132, 3, 1, 167, 255, 212, 42, 180, 0, 79, 89]
abbrev dktX0_passes_2_4 : List UInt8 := dkwX0_passes_2_4 ++ dktX0_passes_2_5
def dkwX0_passes_2_3 : List UInt8 := [180, 0, 127, 162, 0, 39, 42, 180, 0, 79, 180, 0, 174, 29, 184, 0, 134, 154, 0, 19, 42, 180, 0, 79]
abbrev dktX0_passes_2_3 : List UInt8 := dkwX0_passes_2_3 ++ dktX0_passes_2_4
def dkwX0_passes_2_2 : List UInt8 := [182, 0, 138, 182, 0, 167, 182, 0, 170, 132, 3, 1, 167, 255, 214, 3, 62, 29, 42, 180, 0, 79]
abbrev dktX0_passes_2_2 : List UInt8 := dkwX0_passes_2_2 ++ dktX0_passes_2_3
def dkwX0_passes_2_1 : List UInt8 := [162, 0, 37, 28, 29, 184, 0, 134, 153, 0, 23, 42, 180, 0, 79, 29, 27, 184, 0, 21, 42, 29]
abbrev dktX0_passes_2_1 : List UInt8 := dkwX0_passes_2_1 ++ dktX0_passes_2_2
def dkwX0_passes_2_0 : List UInt8 := [42, 180, 0, 79, 182, 0, 161, 60, 42, 27, 182, 0, 164, 61, 3, 62, 29, 42, 180, 0, 79, 180, 0, 127]
abbrev dktX0_passes_2_0 : List UInt8 := dkwX0_passes_2_0 ++ dktX0_passes_2_1
theorem dksX0_passes_2_0 : cX0_passes_2.data.toList.drop 0 = dktX0_passes_2_0 := by decide +kernel
theorem dksX0_passes_2_1 : cX0_passes_2.data.toList.drop 24 = dktX0_passes_2_1 := dk_seg dksX0_passes_2_0 24 rfl rfl
theorem dksX0_passes_2_2 : cX0_passes_2.data.toList.drop 46 = dktX0_passes_2_2 := dk_seg dksX0_passes_2_1 22 rfl rfl
theorem dksX0_passes_2_3 : cX0_passes_2.data.toList.drop 68 = dktX0_passes_2_3 := dk_seg dksX0_passes_2_2 22 rfl rfl
theorem dksX0_passes_2_4 : cX0_passes_2.data.toList.drop 92 = dktX0_passes_2_4 := dk_seg dksX0_passes_2_3 24 rfl rfl
theorem dksX0_passes_2_5 : cX0_passes_2.data.toList.drop 115 = dktX0_passes_2_5 := dk_seg dksX0_passes_2_4 23 rfl rfl
theorem dX0_passes_2_0 : decode cX0_passes_2 0 = .ok (.aload_n 0, 1) := dk_42 (dk_at dksX0_passes_2_0 0 rfl rfl)
theorem dX0_passes_2_1 : decode cX0_passes_2 1 = .ok (.getfield 79, 3) := dk_180 0 79 (dk_at dksX0_passes_2_0 1 rfl rfl)
theorem dX0_passes_2_4 : decode cX0_passes_2 4 = .ok (.invokevirtual 161, 3) := dk_182 0 161 (dk_at dksX0_passes_2_0 4 rfl rfl)
theorem dX0_passes_2_7 : decode cX0_passes_2 7 = .ok (.istore_n 1, 1) := dk_60 (dk_at dksX0_passes_2_0 7 rfl rfl)
theorem dX0_passes_2_8 : decode cX0_passes_2 8 = .ok (.aload_n 0, 1) := dk_42 (dk_at dksX0_passes_2_0 8 rfl rfl)
theorem dX0_passes_2_9 : decode cX0_passes_2 9 = .ok (.iload_n 1, 1) := dk_27 (dk_at dksX0_passes_2_0 9 rfl rfl)
theorem dX0_passes_2_10 : decode cX0_passes_2 10 = .ok (.invokevirtual 164, 3) := dk_182 0 164 (dk_at dksX0_passes_2_0 10 rfl rfl)
theorem dX0_passes_2_13 : decode cX0_passes_2 13 = .ok (.istore_n 2, 1) := dk_61 (dk_at dksX0_passes_2_0 13 rfl rfl)
theorem dX0_passes_2_14 : decode cX0_passes_2 14 = .ok (.iconst 0, 1) := dk_3 (dk_at dksX0_passes_2_0 14 rfl rfl)
theorem dX0_passes_2_15 : decode cX0_passes_2 15 = .ok (.istore_n 3, 1) := dk_62 (dk_at dksX0_passes_2_0 15 rfl rfl)
theorem dX0_passes_2_16 : decode cX0_passes_2 16 = .ok (.iload_n 3, 1) := dk_29 (dk_at dksX0_passes_2_0 16 rfl rfl)
theorem dX0_passes_2_17 : decode cX0_passes_2 17 = .ok (.aload_n 0, 1) := dk_42 (dk_at dksX0_passes_2_0 17 rfl rfl)
theorem dX0_passes_2_18 : decode cX0_passes_2 18 = .ok (.getfield 79, 3) := dk_180 0 79 (dk_at dksX0_passes_2_0 18 rfl rfl)
theorem dX0_passes_2_21 : decode cX0_passes_2 21 = .ok (.getfield 127, 3) := dk_180 0 127 (dk_at dksX0_passes_2_0 21 rfl rfl)
theorem dX0_passes_2_24 : decode cX0_passes_2 24 = .ok (.if_icmp .ge 37, 3) := dk_162 0 37 (dk_at dksX0_passes_2_1 0 rfl rfl)
theorem dX0_passes_2_27 : decode cX0_passes_2 27 = .ok (.iload_n 2, 1) := dk_28 (dk_at dksX0_passes_2_1 3 rfl rfl)
theorem dX0_passes_2_28 : decode cX0_passes_2 28 = .ok (.iload_n 3, 1) := dk_29 (dk_at dksX0_passes_2_1 4 rfl rfl)
theorem dX0_passes_2_29 : decode cX0_passes_2 29 = .ok (.invokestatic 134, 3) := dk_184 0 134 (dk_at dksX0_passes_2_1 5 rfl rfl)
theorem dX0_passes_2_32 : decode cX0_passes_2 32 = .ok (.ifCond .eq 23, 3) := dk_153 0 23 (dk_at dksX0_passes_2_1 8 rfl rfl)
theorem dX0_passes_2_35 : decode cX0_passes_2 35 = .ok (.aload_n 0, 1) := dk_42 (dk_at dksX0_passes_2_1 11 rfl rfl)
theorem dX0_passes_2_36 : decode cX0_passes_2 36 = .ok (.getfield 79, 3) := dk_180 0 79 (dk_at dksX0_passes_2_1 12 rfl rfl)
theorem dX0_passes_2_39 : decode cX0_passes_2 39 = .ok (.iload_n 3, 1) := dk_29 (dk_at dksX0_passes_2_1 15 rfl rfl)
theorem dX0_passes_2_40 : decode cX0_passes_2 40 = .ok (.iload_n 1, 1) := dk_27 (dk_at dksX0_passes_2_1 16 rfl rfl)
theorem dX0_passes_2_41 : decode cX0_passes_2 41 = .ok (.invokestatic 21, 3) := dk_184 0 21 (dk_at dksX0_passes_2_1 17 rfl rfl)
theorem dX0_passes_2_44 : decode cX0_passes_2 44 = .ok (.aload_n 0, 1) := dk_42 (dk_at dksX0_passes_2_1 20 rfl rfl)
theorem dX0_passes_2_45 : decode cX0_passes_2 45 = .ok (.iload_n 3, 1) := dk_29 (dk_at dksX0_passes_2_1 21 rfl rfl)
theorem dX0_passes_2_46 : decode cX0_passes_2 46 = .ok (.invokevirtual 138, 3) := dk_182 0 138 (dk_at dksX0_passes_2_2 0 rfl rfl)
theorem dX0_passes_2_49 : decode cX0_passes_2 49 = .ok (.invokevirtual 167, 3) := dk_182 0 167 (dk_at dksX0_passes_2_2 3 rfl rfl)
theorem dX0_passes_2_52 : decode cX0_passes_2 52 = .ok (.invokevirtual 170, 3) := dk_182 0 170 (dk_at dksX0_passes_2_2 6 rfl rfl)
theorem dX0_passes_2_55 : decode cX0_passes_2 55 = .ok (.iinc 3 1, 3) := dk_132 3 1 (dk_at dksX0_passes_2_2 9 rfl rfl)
theorem dX0_passes_2_58 : decode cX0_passes_2 58 = .ok (.goto (-42), 3) := dk_167 255 214 (dk_at dksX0_passes_2_2 12 rfl rfl)
theorem dX0_passes_2_61 : decode cX0_passes_2 61 = .ok (.iconst 0, 1) := dk_3 (dk_at dksX0_passes_2_2 15 rfl rfl)
theorem dX0_passes_2_62 : decode cX0_passes_2 62 = .ok (.istore_n 3, 1) := dk_62 (dk_at dksX0_passes_2_2 16 rfl rfl)
theorem dX0_passes_2_63 : decode cX0_passes_2 63 = .ok (.iload_n 3, 1) := dk_29 (dk_at dksX0_passes_2_2 17 rfl rfl)
theorem dX0_passes_2_64 : decode cX0_passes_2 64 = .ok (.aload_n 0, 1) := dk_42 (dk_at dksX0_passes_2_2 18 rfl rfl)
theorem dX0_passes_2_65 : decode cX0_passes_2 65 = .ok (.getfield 79, 3) := dk_180 0 79 (dk_at dksX0_passes_2_2 19 rfl rfl)
theorem dX0_passes_2_68 : decode cX0_passes_2 68 = .ok (.getfield 127, 3) := dk_180 0 127 (dk_at dksX0_passes_2_3 0 rfl rfl)
theorem dX0_passes_2_71 : decode cX0_passes_2 71 = .ok (.if_icmp .ge 39, 3) := dk_162 0 39 (dk_at dksX0_passes_2_3 3 rfl rfl)
theorem dX0_passes_2_74 : decode cX0_passes_2 74 = .ok (.aload_n 0, 1) := dk_42 (dk_at dksX0_passes_2_3 6 rfl rfl)
theorem dX0_passes_2_75 : decode cX0_passes_2 75 = .ok (.getfield 79, 3) := dk_180 0 79 (dk_at dksX0_passes_2_3 7 rfl rfl)
theorem dX0_passes_2_78 : decode cX0_passes_2 78 = .ok (.getfield 174, 3) := dk_180 0 174 (dk_at dksX0_passes_2_3 10 rfl rfl)
theorem dX0_passes_2_81 : decode cX0_passes_2 81 = .ok (.iload_n 3, 1) := dk_29 (dk_at dksX0_passes_2_3 13 rfl rfl)
theorem dX0_passes_2_82 : decode cX0_passes_2 82 = .ok (.invokestatic 134, 3) := dk_184 0 134 (dk_at dksX0_passes_2_3 14 rfl rfl)
theorem dX0_passes_2_85 : decode cX0_passes_2 85 = .ok (.ifCond .ne 19, 3) := dk_154 0 19 (dk_at dksX0_passes_2_3 17 rfl rfl)
theorem dX0_passes_2_88 : decode cX0_passes_2 88 = .ok (.aload_n 0, 1) := dk_42 (dk_at dksX0_passes_2_3 20 rfl rfl)
theorem dX0_passes_2_89 : decode cX0_passes_2 89 = .ok (.getfield 79, 3) := dk_180 0 79 (dk_at dksX0_passes_2_3 21 rfl rfl)
theorem dX0_passes_2_92 : decode cX0_passes_2 92 = .ok (.iload_n 3, 1) := dk_29 (dk_at dksX0_passes_2_4 0 rfl rfl)
theorem dX0_passes_2_93 : decode cX0_passes_2 93 = .ok (.aload_n 0, 1) := dk_42 (dk_at dksX0_passes_2_4 1 rfl rfl)
theorem dX0_passes_2_94 : decode cX0_passes_2 94 = .ok (.iload_n 3, 1) := dk_29 (dk_at dksX0_passes_2_4 2 rfl rfl)
theorem dX0_passes_2_95 : decode cX0_passes_2 95 = .ok (.invokevirtual 138, 3) := dk_182 0 138 (dk_at dksX0_passes_2_4 3 rfl rfl)
theorem dX0_passes_2_98 : decode cX0_passes_2 98 = .ok (.invokevirtual 177, 3) := dk_182 0 177 (dk_at dksX0_passes_2_4 6 rfl rfl)
theorem dX0_passes_2_101 : decode cX0_passes_2 101 = .ok (.invokevirtual 180, 3) := dk_182 0 180 (dk_at dksX0_passes_2_4 9 rfl rfl)
theorem dX0_passes_2_104 : decode cX0_passes_2 104 = .ok (.iinc 3 1, 3) := dk_132 3 1 (dk_at dksX0_passes_2_4 12 rfl rfl)
theorem dX0_passes_2_107 : decode cX0_passes_2 107 = .ok (.goto (-44), 3) := dk_167 255 212 (dk_at dksX0_passes_2_4 15 rfl rfl)
theorem dX0_passes_2_110 : decode cX0_passes_2 110 = .ok (.aload_n 0, 1) := dk_42 (dk_at dksX0_passes_2_4 18 rfl rfl)
theorem dX0_passes_2_111 : decode cX0_passes_2 111 = .ok (.getfield 79, 3) := dk_180 0 79 (dk_at dksX0_passes_2_4 19 rfl rfl)
theorem dX0_passes_2_114 : decode cX0_passes_2 114 = .ok (.dup, 1) := dk_89 (dk_at dksX0_passes_2_4 22 rfl rfl)
theorem dX0_passes_2_115 : decode cX0_passes_2 115 = .ok (.getfield 184, 3) := dk_180 0 184 (dk_at dksX0_passes_2_5 0 rfl rfl)
theorem dX0_passes_2_118 : decode cX0_passes_2 118 = .ok (.iconst 1, 1) := dk_4 (dk_at dksX0_passes_2_5 3 rfl rfl)
theorem dX0_passes_2_119 : decode cX0_passes_2 119 = .ok (.iadd, 1) := dk_96 (dk_at dksX0_passes_2_5 4 rfl rfl)
theorem dX0_passes_2_120 : decode cX0_passes_2 120 = .ok (.putfield 184, 3) := dk_181 0 184 (dk_at dksX0_passes_2_5 5 rfl rfl)
theorem dX0_passes_2_123 : decode cX0_passes_2 123 = .ok (.return_, 1) := dk_177 (dk_at dksX0_passes_2_5 8 rfl rfl)
abbrev cX0_hearers : ByteArray := prog_1_method_27_code
def yX0_hearers : MethodName := ⟨RX0, "hearers", "(I)I"⟩
def dkwX0_hearers_3 : List UInt8 := [163, 0, 10, 4, 21, 5, 120, 167, 0, 4, 3, 128, 54, 4, 132, 5, 1, 167, 255, 206, 21, 4, 172]
abbrev dktX0_hearers_3 : List UInt8 := dkwX0_hearers_3 ++ []
def dkwX0_hearers_2 : List UInt8 := [162, 0, 44, 21, 4, 29, 21, 5, 184, 0, 134, 153, 0, 23, 42, 21, 5, 182, 0, 138, 182, 0, 158, 28]
abbrev dktX0_hearers_2 : List UInt8 := dkwX0_hearers_2 ++ dktX0_hearers_3
def dkwX0_hearers_1 : List UInt8 := [184, 0, 14, 182, 0, 131, 62, 3, 54, 4, 3, 54, 5, 21, 5, 42, 180, 0, 79, 180, 0, 127]
abbrev dktX0_hearers_1 : List UInt8 := dkwX0_hearers_1 ++ dktX0_hearers_2
def dkwX0_hearers_0 : List UInt8 := [3, 27, 184, 0, 146, 42, 27, 184, 0, 14, 182, 0, 149, 100, 184, 0, 152, 61, 42, 180, 0, 79, 27]
abbrev dktX0_hearers_0 : List UInt8 := dkwX0_hearers_0 ++ dktX0_hearers_1
theorem dksX0_hearers_0 : cX0_hearers.data.toList.drop 0 = dktX0_hearers_0 := by decide +kernel
theorem dksX0_hearers_1 : cX0_hearers.data.toList.drop 23 = dktX0_hearers_1 := dk_seg dksX0_hearers_0 23 rfl rfl
theorem dksX0_hearers_2 : cX0_hearers.data.toList.drop 45 = dktX0_hearers_2 := dk_seg dksX0_hearers_1 22 rfl rfl
theorem dksX0_hearers_3 : cX0_hearers.data.toList.drop 69 = dktX0_hearers_3 := dk_seg dksX0_hearers_2 24 rfl rfl
theorem dX0_hearers_0 : decode cX0_hearers 0 = .ok (.iconst 0, 1) := dk_3 (dk_at dksX0_hearers_0 0 rfl rfl)
theorem dX0_hearers_1 : decode cX0_hearers 1 = .ok (.iload_n 1, 1) := dk_27 (dk_at dksX0_hearers_0 1 rfl rfl)
theorem dX0_hearers_2 : decode cX0_hearers 2 = .ok (.invokestatic 146, 3) := dk_184 0 146 (dk_at dksX0_hearers_0 2 rfl rfl)
theorem dX0_hearers_5 : decode cX0_hearers 5 = .ok (.aload_n 0, 1) := dk_42 (dk_at dksX0_hearers_0 5 rfl rfl)
theorem dX0_hearers_6 : decode cX0_hearers 6 = .ok (.iload_n 1, 1) := dk_27 (dk_at dksX0_hearers_0 6 rfl rfl)
theorem dX0_hearers_7 : decode cX0_hearers 7 = .ok (.invokestatic 14, 3) := dk_184 0 14 (dk_at dksX0_hearers_0 7 rfl rfl)
theorem dX0_hearers_10 : decode cX0_hearers 10 = .ok (.invokevirtual 149, 3) := dk_182 0 149 (dk_at dksX0_hearers_0 10 rfl rfl)
theorem dX0_hearers_13 : decode cX0_hearers 13 = .ok (.isub, 1) := dk_100 (dk_at dksX0_hearers_0 13 rfl rfl)
theorem dX0_hearers_14 : decode cX0_hearers 14 = .ok (.invokestatic 152, 3) := dk_184 0 152 (dk_at dksX0_hearers_0 14 rfl rfl)
theorem dX0_hearers_17 : decode cX0_hearers 17 = .ok (.istore_n 2, 1) := dk_61 (dk_at dksX0_hearers_0 17 rfl rfl)
theorem dX0_hearers_18 : decode cX0_hearers 18 = .ok (.aload_n 0, 1) := dk_42 (dk_at dksX0_hearers_0 18 rfl rfl)
theorem dX0_hearers_19 : decode cX0_hearers 19 = .ok (.getfield 79, 3) := dk_180 0 79 (dk_at dksX0_hearers_0 19 rfl rfl)
theorem dX0_hearers_22 : decode cX0_hearers 22 = .ok (.iload_n 1, 1) := dk_27 (dk_at dksX0_hearers_0 22 rfl rfl)
theorem dX0_hearers_23 : decode cX0_hearers 23 = .ok (.invokestatic 14, 3) := dk_184 0 14 (dk_at dksX0_hearers_1 0 rfl rfl)
theorem dX0_hearers_26 : decode cX0_hearers 26 = .ok (.invokevirtual 131, 3) := dk_182 0 131 (dk_at dksX0_hearers_1 3 rfl rfl)
theorem dX0_hearers_29 : decode cX0_hearers 29 = .ok (.istore_n 3, 1) := dk_62 (dk_at dksX0_hearers_1 6 rfl rfl)
theorem dX0_hearers_30 : decode cX0_hearers 30 = .ok (.iconst 0, 1) := dk_3 (dk_at dksX0_hearers_1 7 rfl rfl)
theorem dX0_hearers_31 : decode cX0_hearers 31 = .ok (.istore 4, 2) := dk_54 4 (dk_at dksX0_hearers_1 8 rfl rfl)
theorem dX0_hearers_33 : decode cX0_hearers 33 = .ok (.iconst 0, 1) := dk_3 (dk_at dksX0_hearers_1 10 rfl rfl)
theorem dX0_hearers_34 : decode cX0_hearers 34 = .ok (.istore 5, 2) := dk_54 5 (dk_at dksX0_hearers_1 11 rfl rfl)
theorem dX0_hearers_36 : decode cX0_hearers 36 = .ok (.iload 5, 2) := dk_21 5 (dk_at dksX0_hearers_1 13 rfl rfl)
theorem dX0_hearers_38 : decode cX0_hearers 38 = .ok (.aload_n 0, 1) := dk_42 (dk_at dksX0_hearers_1 15 rfl rfl)
theorem dX0_hearers_39 : decode cX0_hearers 39 = .ok (.getfield 79, 3) := dk_180 0 79 (dk_at dksX0_hearers_1 16 rfl rfl)
theorem dX0_hearers_42 : decode cX0_hearers 42 = .ok (.getfield 127, 3) := dk_180 0 127 (dk_at dksX0_hearers_1 19 rfl rfl)
theorem dX0_hearers_45 : decode cX0_hearers 45 = .ok (.if_icmp .ge 44, 3) := dk_162 0 44 (dk_at dksX0_hearers_2 0 rfl rfl)
theorem dX0_hearers_48 : decode cX0_hearers 48 = .ok (.iload 4, 2) := dk_21 4 (dk_at dksX0_hearers_2 3 rfl rfl)
theorem dX0_hearers_50 : decode cX0_hearers 50 = .ok (.iload_n 3, 1) := dk_29 (dk_at dksX0_hearers_2 5 rfl rfl)
theorem dX0_hearers_51 : decode cX0_hearers 51 = .ok (.iload 5, 2) := dk_21 5 (dk_at dksX0_hearers_2 6 rfl rfl)
theorem dX0_hearers_53 : decode cX0_hearers 53 = .ok (.invokestatic 134, 3) := dk_184 0 134 (dk_at dksX0_hearers_2 8 rfl rfl)
theorem dX0_hearers_56 : decode cX0_hearers 56 = .ok (.ifCond .eq 23, 3) := dk_153 0 23 (dk_at dksX0_hearers_2 11 rfl rfl)
theorem dX0_hearers_59 : decode cX0_hearers 59 = .ok (.aload_n 0, 1) := dk_42 (dk_at dksX0_hearers_2 14 rfl rfl)
theorem dX0_hearers_60 : decode cX0_hearers 60 = .ok (.iload 5, 2) := dk_21 5 (dk_at dksX0_hearers_2 15 rfl rfl)
theorem dX0_hearers_62 : decode cX0_hearers 62 = .ok (.invokevirtual 138, 3) := dk_182 0 138 (dk_at dksX0_hearers_2 17 rfl rfl)
theorem dX0_hearers_65 : decode cX0_hearers 65 = .ok (.invokevirtual 158, 3) := dk_182 0 158 (dk_at dksX0_hearers_2 20 rfl rfl)
theorem dX0_hearers_68 : decode cX0_hearers 68 = .ok (.iload_n 2, 1) := dk_28 (dk_at dksX0_hearers_2 23 rfl rfl)
theorem dX0_hearers_69 : decode cX0_hearers 69 = .ok (.if_icmp .gt 10, 3) := dk_163 0 10 (dk_at dksX0_hearers_3 0 rfl rfl)
theorem dX0_hearers_72 : decode cX0_hearers 72 = .ok (.iconst 1, 1) := dk_4 (dk_at dksX0_hearers_3 3 rfl rfl)
theorem dX0_hearers_73 : decode cX0_hearers 73 = .ok (.iload 5, 2) := dk_21 5 (dk_at dksX0_hearers_3 4 rfl rfl)
theorem dX0_hearers_75 : decode cX0_hearers 75 = .ok (.ishl, 1) := dk_120 (dk_at dksX0_hearers_3 6 rfl rfl)
theorem dX0_hearers_76 : decode cX0_hearers 76 = .ok (.goto 4, 3) := dk_167 0 4 (dk_at dksX0_hearers_3 7 rfl rfl)
theorem dX0_hearers_79 : decode cX0_hearers 79 = .ok (.iconst 0, 1) := dk_3 (dk_at dksX0_hearers_3 10 rfl rfl)
theorem dX0_hearers_80 : decode cX0_hearers 80 = .ok (.ior, 1) := dk_128 (dk_at dksX0_hearers_3 11 rfl rfl)
theorem dX0_hearers_81 : decode cX0_hearers 81 = .ok (.istore 4, 2) := dk_54 4 (dk_at dksX0_hearers_3 12 rfl rfl)
theorem dX0_hearers_83 : decode cX0_hearers 83 = .ok (.iinc 5 1, 3) := dk_132 5 1 (dk_at dksX0_hearers_3 14 rfl rfl)
theorem dX0_hearers_86 : decode cX0_hearers 86 = .ok (.goto (-50), 3) := dk_167 255 206 (dk_at dksX0_hearers_3 17 rfl rfl)
theorem dX0_hearers_89 : decode cX0_hearers 89 = .ok (.iload 4, 2) := dk_21 4 (dk_at dksX0_hearers_3 20 rfl rfl)
theorem dX0_hearers_91 : decode cX0_hearers 91 = .ok (.ireturn, 1) := dk_172 (dk_at dksX0_hearers_3 22 rfl rfl)
abbrev cX0_loudOf : ByteArray := prog_1_method_14_code
def yX0_loudOf : MethodName := ⟨RX0, "loudOf", "(I)I"⟩
def dkwX0_loudOf_0 : List UInt8 := [26, 16, 10, 112, 172]
abbrev dktX0_loudOf_0 : List UInt8 := dkwX0_loudOf_0 ++ []
theorem dksX0_loudOf_0 : cX0_loudOf.data.toList.drop 0 = dktX0_loudOf_0 := by decide +kernel
theorem dX0_loudOf_0 : decode cX0_loudOf 0 = .ok (.iload_n 0, 1) := dk_26 (dk_at dksX0_loudOf_0 0 rfl rfl)
theorem dX0_loudOf_1 : decode cX0_loudOf 1 = .ok (.bipush 10, 2) := dk_16 10 (dk_at dksX0_loudOf_0 1 rfl rfl)
theorem dX0_loudOf_3 : decode cX0_loudOf 3 = .ok (.irem, 1) := dk_112 (dk_at dksX0_loudOf_0 3 rfl rfl)
theorem dX0_loudOf_4 : decode cX0_loudOf 4 = .ok (.ireturn, 1) := dk_172 (dk_at dksX0_loudOf_0 4 rfl rfl)
abbrev cX0_ones : ByteArray := prog_1_method_3_code
def yX0_ones : MethodName := ⟨RX0, "ones", "(I)I"⟩
theorem dX0_ones_0 : decode cX0_ones 0 = .ok (.iload_n 0, 1) := by decide +kernel
theorem dX0_ones_1 : decode cX0_ones 1 = .ok (.invokestatic 1, 3) := by decide +kernel
theorem dX0_ones_4 : decode cX0_ones 4 = .ok (.ireturn, 1) := by decide +kernel
abbrev cX0_now : ByteArray := prog_1_method_41_code
def yX0_now : MethodName := ⟨RX0, "now", "(I)I"⟩
def dkwX0_now_6 : List UInt8 := [172]
abbrev dktX0_now_6 : List UInt8 := dkwX0_now_6 ++ []
def dkwX0_now_5 : List UInt8 := [180, 0, 79, 182, 0, 244, 172, 42, 42, 180, 0, 79, 182, 0, 161, 182, 0, 164, 172, 42, 3, 182, 0, 129]
abbrev dktX0_now_5 : List UInt8 := dkwX0_now_5 ++ dktX0_now_6
def dkwX0_now_4 : List UInt8 := [180, 0, 79, 182, 0, 229, 182, 0, 238, 2, 130, 126, 172, 42, 180, 0, 79, 182, 0, 241, 172, 42]
abbrev dktX0_now_4 : List UInt8 := dkwX0_now_4 ++ dktX0_now_5
def dkwX0_now_3 : List UInt8 := [42, 180, 0, 79, 8, 42, 180, 0, 79, 182, 0, 229, 182, 0, 199, 172, 18, 13, 42, 180, 0, 79, 42]
abbrev dktX0_now_3 : List UInt8 := dkwX0_now_3 ++ dktX0_now_4
def dkwX0_now_2 : List UInt8 := [42, 180, 0, 79, 180, 0, 184, 172, 42, 180, 0, 79, 6, 42, 180, 0, 79, 182, 0, 229, 182, 0, 199, 172]
abbrev dktX0_now_2 : List UInt8 := dkwX0_now_2 ++ dktX0_now_3
def dkwX0_now_1 : List UInt8 := [170, 0, 0, 0, 0, 0, 131, 0, 0, 0, 0, 0, 0, 0, 6, 0, 0, 0, 43, 0, 0, 0, 51, 0, 0, 0, 67, 0, 0, 0, 83, 0, 0, 0, 103, 0, 0, 0, 111, 0, 0, 0, 119]
abbrev dktX0_now_1 : List UInt8 := dkwX0_now_1 ++ dktX0_now_2
def dkwX0_now_0 : List UInt8 := [27]
abbrev dktX0_now_0 : List UInt8 := dkwX0_now_0 ++ dktX0_now_1
theorem dksX0_now_0 : cX0_now.data.toList.drop 0 = dktX0_now_0 := by decide +kernel
theorem dksX0_now_1 : cX0_now.data.toList.drop 1 = dktX0_now_1 := dk_seg dksX0_now_0 1 rfl rfl
theorem dksX0_now_2 : cX0_now.data.toList.drop 44 = dktX0_now_2 := dk_seg dksX0_now_1 43 rfl rfl
theorem dksX0_now_3 : cX0_now.data.toList.drop 68 = dktX0_now_3 := dk_seg dksX0_now_2 24 rfl rfl
theorem dksX0_now_4 : cX0_now.data.toList.drop 91 = dktX0_now_4 := dk_seg dksX0_now_3 23 rfl rfl
theorem dksX0_now_5 : cX0_now.data.toList.drop 113 = dktX0_now_5 := dk_seg dksX0_now_4 22 rfl rfl
theorem dksX0_now_6 : cX0_now.data.toList.drop 137 = dktX0_now_6 := dk_seg dksX0_now_5 24 rfl rfl
theorem dX0_now_0 : decode cX0_now 0 = .ok (.iload_n 1, 1) := dk_27 (dk_at dksX0_now_0 0 rfl rfl)
theorem dX0_now_1 : decode cX0_now 1 = .ok (.tableswitch 131 0 6 #[43, 51, 67, 83, 103, 111, 119], 43) := by decide +kernel
theorem dX0_now_44 : decode cX0_now 44 = .ok (.aload_n 0, 1) := dk_42 (dk_at dksX0_now_2 0 rfl rfl)
theorem dX0_now_45 : decode cX0_now 45 = .ok (.getfield 79, 3) := dk_180 0 79 (dk_at dksX0_now_2 1 rfl rfl)
theorem dX0_now_48 : decode cX0_now 48 = .ok (.getfield 184, 3) := dk_180 0 184 (dk_at dksX0_now_2 4 rfl rfl)
theorem dX0_now_51 : decode cX0_now 51 = .ok (.ireturn, 1) := dk_172 (dk_at dksX0_now_2 7 rfl rfl)
theorem dX0_now_52 : decode cX0_now 52 = .ok (.aload_n 0, 1) := dk_42 (dk_at dksX0_now_2 8 rfl rfl)
theorem dX0_now_53 : decode cX0_now 53 = .ok (.getfield 79, 3) := dk_180 0 79 (dk_at dksX0_now_2 9 rfl rfl)
theorem dX0_now_56 : decode cX0_now 56 = .ok (.iconst 3, 1) := dk_6 (dk_at dksX0_now_2 12 rfl rfl)
theorem dX0_now_57 : decode cX0_now 57 = .ok (.aload_n 0, 1) := dk_42 (dk_at dksX0_now_2 13 rfl rfl)
theorem dX0_now_58 : decode cX0_now 58 = .ok (.getfield 79, 3) := dk_180 0 79 (dk_at dksX0_now_2 14 rfl rfl)
theorem dX0_now_61 : decode cX0_now 61 = .ok (.invokevirtual 229, 3) := dk_182 0 229 (dk_at dksX0_now_2 17 rfl rfl)
theorem dX0_now_64 : decode cX0_now 64 = .ok (.invokevirtual 199, 3) := dk_182 0 199 (dk_at dksX0_now_2 20 rfl rfl)
theorem dX0_now_67 : decode cX0_now 67 = .ok (.ireturn, 1) := dk_172 (dk_at dksX0_now_2 23 rfl rfl)
theorem dX0_now_68 : decode cX0_now 68 = .ok (.aload_n 0, 1) := dk_42 (dk_at dksX0_now_3 0 rfl rfl)
theorem dX0_now_69 : decode cX0_now 69 = .ok (.getfield 79, 3) := dk_180 0 79 (dk_at dksX0_now_3 1 rfl rfl)
theorem dX0_now_72 : decode cX0_now 72 = .ok (.iconst 5, 1) := dk_8 (dk_at dksX0_now_3 4 rfl rfl)
theorem dX0_now_73 : decode cX0_now 73 = .ok (.aload_n 0, 1) := dk_42 (dk_at dksX0_now_3 5 rfl rfl)
theorem dX0_now_74 : decode cX0_now 74 = .ok (.getfield 79, 3) := dk_180 0 79 (dk_at dksX0_now_3 6 rfl rfl)
theorem dX0_now_77 : decode cX0_now 77 = .ok (.invokevirtual 229, 3) := dk_182 0 229 (dk_at dksX0_now_3 9 rfl rfl)
theorem dX0_now_80 : decode cX0_now 80 = .ok (.invokevirtual 199, 3) := dk_182 0 199 (dk_at dksX0_now_3 12 rfl rfl)
theorem dX0_now_83 : decode cX0_now 83 = .ok (.ireturn, 1) := dk_172 (dk_at dksX0_now_3 15 rfl rfl)
theorem dX0_now_84 : decode cX0_now 84 = .ok (.ldc 13, 2) := dk_18 13 (dk_at dksX0_now_3 16 rfl rfl)
theorem dX0_now_86 : decode cX0_now 86 = .ok (.aload_n 0, 1) := dk_42 (dk_at dksX0_now_3 18 rfl rfl)
theorem dX0_now_87 : decode cX0_now 87 = .ok (.getfield 79, 3) := dk_180 0 79 (dk_at dksX0_now_3 19 rfl rfl)
theorem dX0_now_90 : decode cX0_now 90 = .ok (.aload_n 0, 1) := dk_42 (dk_at dksX0_now_3 22 rfl rfl)
theorem dX0_now_91 : decode cX0_now 91 = .ok (.getfield 79, 3) := dk_180 0 79 (dk_at dksX0_now_4 0 rfl rfl)
theorem dX0_now_94 : decode cX0_now 94 = .ok (.invokevirtual 229, 3) := dk_182 0 229 (dk_at dksX0_now_4 3 rfl rfl)
theorem dX0_now_97 : decode cX0_now 97 = .ok (.invokevirtual 238, 3) := dk_182 0 238 (dk_at dksX0_now_4 6 rfl rfl)
theorem dX0_now_100 : decode cX0_now 100 = .ok (.iconst (-1), 1) := dk_2 (dk_at dksX0_now_4 9 rfl rfl)
theorem dX0_now_101 : decode cX0_now 101 = .ok (.ixor, 1) := dk_130 (dk_at dksX0_now_4 10 rfl rfl)
theorem dX0_now_102 : decode cX0_now 102 = .ok (.iand, 1) := dk_126 (dk_at dksX0_now_4 11 rfl rfl)
theorem dX0_now_103 : decode cX0_now 103 = .ok (.ireturn, 1) := dk_172 (dk_at dksX0_now_4 12 rfl rfl)
theorem dX0_now_104 : decode cX0_now 104 = .ok (.aload_n 0, 1) := dk_42 (dk_at dksX0_now_4 13 rfl rfl)
theorem dX0_now_105 : decode cX0_now 105 = .ok (.getfield 79, 3) := dk_180 0 79 (dk_at dksX0_now_4 14 rfl rfl)
theorem dX0_now_108 : decode cX0_now 108 = .ok (.invokevirtual 241, 3) := dk_182 0 241 (dk_at dksX0_now_4 17 rfl rfl)
theorem dX0_now_111 : decode cX0_now 111 = .ok (.ireturn, 1) := dk_172 (dk_at dksX0_now_4 20 rfl rfl)
theorem dX0_now_112 : decode cX0_now 112 = .ok (.aload_n 0, 1) := dk_42 (dk_at dksX0_now_4 21 rfl rfl)
theorem dX0_now_113 : decode cX0_now 113 = .ok (.getfield 79, 3) := dk_180 0 79 (dk_at dksX0_now_5 0 rfl rfl)
theorem dX0_now_116 : decode cX0_now 116 = .ok (.invokevirtual 244, 3) := dk_182 0 244 (dk_at dksX0_now_5 3 rfl rfl)
theorem dX0_now_119 : decode cX0_now 119 = .ok (.ireturn, 1) := dk_172 (dk_at dksX0_now_5 6 rfl rfl)
theorem dX0_now_120 : decode cX0_now 120 = .ok (.aload_n 0, 1) := dk_42 (dk_at dksX0_now_5 7 rfl rfl)
theorem dX0_now_121 : decode cX0_now 121 = .ok (.aload_n 0, 1) := dk_42 (dk_at dksX0_now_5 8 rfl rfl)
theorem dX0_now_122 : decode cX0_now 122 = .ok (.getfield 79, 3) := dk_180 0 79 (dk_at dksX0_now_5 9 rfl rfl)
theorem dX0_now_125 : decode cX0_now 125 = .ok (.invokevirtual 161, 3) := dk_182 0 161 (dk_at dksX0_now_5 12 rfl rfl)
theorem dX0_now_128 : decode cX0_now 128 = .ok (.invokevirtual 164, 3) := dk_182 0 164 (dk_at dksX0_now_5 15 rfl rfl)
theorem dX0_now_131 : decode cX0_now 131 = .ok (.ireturn, 1) := dk_172 (dk_at dksX0_now_5 18 rfl rfl)
theorem dX0_now_132 : decode cX0_now 132 = .ok (.aload_n 0, 1) := dk_42 (dk_at dksX0_now_5 19 rfl rfl)
theorem dX0_now_133 : decode cX0_now 133 = .ok (.iconst 0, 1) := dk_3 (dk_at dksX0_now_5 20 rfl rfl)
theorem dX0_now_134 : decode cX0_now 134 = .ok (.invokevirtual 129, 3) := dk_182 0 129 (dk_at dksX0_now_5 21 rfl rfl)
theorem dX0_now_137 : decode cX0_now 137 = .ok (.ireturn, 1) := dk_172 (dk_at dksX0_now_6 0 rfl rfl)
abbrev cX0_ahead : ByteArray := prog_1_method_43_code
def yX0_ahead : MethodName := ⟨RX0, "ahead", "(III)I"⟩
def dkwX0_ahead_2 : List UInt8 := [29, 182, 0, 251, 167, 0, 8, 42, 3, 182, 0, 129, 172]
abbrev dktX0_ahead_2 : List UInt8 := dkwX0_ahead_2 ++ []
def dkwX0_ahead_1 : List UInt8 := [182, 0, 208, 153, 0, 28, 21, 4, 153, 0, 23, 29, 3, 16, 100, 184, 0, 9, 153, 0, 13, 42, 27, 28]
abbrev dktX0_ahead_1 : List UInt8 := dkwX0_ahead_1 ++ dktX0_ahead_2
def dkwX0_ahead_0 : List UInt8 := [28, 4, 16, 6, 184, 0, 9, 153, 0, 12, 28, 5, 159, 0, 7, 4, 167, 0, 4, 3, 54, 4, 42, 27]
abbrev dktX0_ahead_0 : List UInt8 := dkwX0_ahead_0 ++ dktX0_ahead_1
theorem dksX0_ahead_0 : cX0_ahead.data.toList.drop 0 = dktX0_ahead_0 := by decide +kernel
theorem dksX0_ahead_1 : cX0_ahead.data.toList.drop 24 = dktX0_ahead_1 := dk_seg dksX0_ahead_0 24 rfl rfl
theorem dksX0_ahead_2 : cX0_ahead.data.toList.drop 48 = dktX0_ahead_2 := dk_seg dksX0_ahead_1 24 rfl rfl
theorem dX0_ahead_0 : decode cX0_ahead 0 = .ok (.iload_n 2, 1) := dk_28 (dk_at dksX0_ahead_0 0 rfl rfl)
theorem dX0_ahead_1 : decode cX0_ahead 1 = .ok (.iconst 1, 1) := dk_4 (dk_at dksX0_ahead_0 1 rfl rfl)
theorem dX0_ahead_2 : decode cX0_ahead 2 = .ok (.bipush 6, 2) := dk_16 6 (dk_at dksX0_ahead_0 2 rfl rfl)
theorem dX0_ahead_4 : decode cX0_ahead 4 = .ok (.invokestatic 9, 3) := dk_184 0 9 (dk_at dksX0_ahead_0 4 rfl rfl)
theorem dX0_ahead_7 : decode cX0_ahead 7 = .ok (.ifCond .eq 12, 3) := dk_153 0 12 (dk_at dksX0_ahead_0 7 rfl rfl)
theorem dX0_ahead_10 : decode cX0_ahead 10 = .ok (.iload_n 2, 1) := dk_28 (dk_at dksX0_ahead_0 10 rfl rfl)
theorem dX0_ahead_11 : decode cX0_ahead 11 = .ok (.iconst 2, 1) := dk_5 (dk_at dksX0_ahead_0 11 rfl rfl)
theorem dX0_ahead_12 : decode cX0_ahead 12 = .ok (.if_icmp .eq 7, 3) := dk_159 0 7 (dk_at dksX0_ahead_0 12 rfl rfl)
theorem dX0_ahead_15 : decode cX0_ahead 15 = .ok (.iconst 1, 1) := dk_4 (dk_at dksX0_ahead_0 15 rfl rfl)
theorem dX0_ahead_16 : decode cX0_ahead 16 = .ok (.goto 4, 3) := dk_167 0 4 (dk_at dksX0_ahead_0 16 rfl rfl)
theorem dX0_ahead_19 : decode cX0_ahead 19 = .ok (.iconst 0, 1) := dk_3 (dk_at dksX0_ahead_0 19 rfl rfl)
theorem dX0_ahead_20 : decode cX0_ahead 20 = .ok (.istore 4, 2) := dk_54 4 (dk_at dksX0_ahead_0 20 rfl rfl)
theorem dX0_ahead_22 : decode cX0_ahead 22 = .ok (.aload_n 0, 1) := dk_42 (dk_at dksX0_ahead_0 22 rfl rfl)
theorem dX0_ahead_23 : decode cX0_ahead 23 = .ok (.iload_n 1, 1) := dk_27 (dk_at dksX0_ahead_0 23 rfl rfl)
theorem dX0_ahead_24 : decode cX0_ahead 24 = .ok (.invokevirtual 208, 3) := dk_182 0 208 (dk_at dksX0_ahead_1 0 rfl rfl)
theorem dX0_ahead_27 : decode cX0_ahead 27 = .ok (.ifCond .eq 28, 3) := dk_153 0 28 (dk_at dksX0_ahead_1 3 rfl rfl)
theorem dX0_ahead_30 : decode cX0_ahead 30 = .ok (.iload 4, 2) := dk_21 4 (dk_at dksX0_ahead_1 6 rfl rfl)
theorem dX0_ahead_32 : decode cX0_ahead 32 = .ok (.ifCond .eq 23, 3) := dk_153 0 23 (dk_at dksX0_ahead_1 8 rfl rfl)
theorem dX0_ahead_35 : decode cX0_ahead 35 = .ok (.iload_n 3, 1) := dk_29 (dk_at dksX0_ahead_1 11 rfl rfl)
theorem dX0_ahead_36 : decode cX0_ahead 36 = .ok (.iconst 0, 1) := dk_3 (dk_at dksX0_ahead_1 12 rfl rfl)
theorem dX0_ahead_37 : decode cX0_ahead 37 = .ok (.bipush 100, 2) := dk_16 100 (dk_at dksX0_ahead_1 13 rfl rfl)
theorem dX0_ahead_39 : decode cX0_ahead 39 = .ok (.invokestatic 9, 3) := dk_184 0 9 (dk_at dksX0_ahead_1 15 rfl rfl)
theorem dX0_ahead_42 : decode cX0_ahead 42 = .ok (.ifCond .eq 13, 3) := dk_153 0 13 (dk_at dksX0_ahead_1 18 rfl rfl)
theorem dX0_ahead_45 : decode cX0_ahead 45 = .ok (.aload_n 0, 1) := dk_42 (dk_at dksX0_ahead_1 21 rfl rfl)
theorem dX0_ahead_46 : decode cX0_ahead 46 = .ok (.iload_n 1, 1) := dk_27 (dk_at dksX0_ahead_1 22 rfl rfl)
theorem dX0_ahead_47 : decode cX0_ahead 47 = .ok (.iload_n 2, 1) := dk_28 (dk_at dksX0_ahead_1 23 rfl rfl)
theorem dX0_ahead_48 : decode cX0_ahead 48 = .ok (.iload_n 3, 1) := dk_29 (dk_at dksX0_ahead_2 0 rfl rfl)
theorem dX0_ahead_49 : decode cX0_ahead 49 = .ok (.invokevirtual 251, 3) := dk_182 0 251 (dk_at dksX0_ahead_2 1 rfl rfl)
theorem dX0_ahead_52 : decode cX0_ahead 52 = .ok (.goto 8, 3) := dk_167 0 8 (dk_at dksX0_ahead_2 4 rfl rfl)
theorem dX0_ahead_55 : decode cX0_ahead 55 = .ok (.aload_n 0, 1) := dk_42 (dk_at dksX0_ahead_2 7 rfl rfl)
theorem dX0_ahead_56 : decode cX0_ahead 56 = .ok (.iconst 0, 1) := dk_3 (dk_at dksX0_ahead_2 8 rfl rfl)
theorem dX0_ahead_57 : decode cX0_ahead 57 = .ok (.invokevirtual 129, 3) := dk_182 0 129 (dk_at dksX0_ahead_2 9 rfl rfl)
theorem dX0_ahead_60 : decode cX0_ahead 60 = .ok (.ireturn, 1) := dk_172 (dk_at dksX0_ahead_2 12 rfl rfl)
abbrev cX0_toldBehind : ByteArray := prog_1_method_42_code
def yX0_toldBehind : MethodName := ⟨RX0, "toldBehind", "(III)I"⟩
def dkwX0_toldBehind_2 : List UInt8 := [180, 0, 79, 42, 180, 0, 86, 182, 0, 247, 25, 5, 191]
abbrev dktX0_toldBehind_2 : List UInt8 := dkwX0_toldBehind_2 ++ []
def dkwX0_toldBehind_1 : List UInt8 := [50, 27, 46, 54, 4, 42, 180, 0, 79, 42, 180, 0, 86, 182, 0, 247, 21, 4, 172, 58, 5, 42]
abbrev dktX0_toldBehind_1 : List UInt8 := dkwX0_toldBehind_1 ++ dktX0_toldBehind_2
def dkwX0_toldBehind_0 : List UInt8 := [42, 180, 0, 86, 42, 180, 0, 79, 182, 0, 247, 42, 29, 182, 0, 227, 42, 180, 0, 79, 180, 0, 114, 28]
abbrev dktX0_toldBehind_0 : List UInt8 := dkwX0_toldBehind_0 ++ dktX0_toldBehind_1
theorem dksX0_toldBehind_0 : cX0_toldBehind.data.toList.drop 0 = dktX0_toldBehind_0 := by decide +kernel
theorem dksX0_toldBehind_1 : cX0_toldBehind.data.toList.drop 24 = dktX0_toldBehind_1 := dk_seg dksX0_toldBehind_0 24 rfl rfl
theorem dksX0_toldBehind_2 : cX0_toldBehind.data.toList.drop 46 = dktX0_toldBehind_2 := dk_seg dksX0_toldBehind_1 22 rfl rfl
theorem dX0_toldBehind_0 : decode cX0_toldBehind 0 = .ok (.aload_n 0, 1) := dk_42 (dk_at dksX0_toldBehind_0 0 rfl rfl)
theorem dX0_toldBehind_1 : decode cX0_toldBehind 1 = .ok (.getfield 86, 3) := dk_180 0 86 (dk_at dksX0_toldBehind_0 1 rfl rfl)
theorem dX0_toldBehind_4 : decode cX0_toldBehind 4 = .ok (.aload_n 0, 1) := dk_42 (dk_at dksX0_toldBehind_0 4 rfl rfl)
theorem dX0_toldBehind_5 : decode cX0_toldBehind 5 = .ok (.getfield 79, 3) := dk_180 0 79 (dk_at dksX0_toldBehind_0 5 rfl rfl)
theorem dX0_toldBehind_8 : decode cX0_toldBehind 8 = .ok (.invokevirtual 247, 3) := dk_182 0 247 (dk_at dksX0_toldBehind_0 8 rfl rfl)
theorem dX0_toldBehind_11 : decode cX0_toldBehind 11 = .ok (.aload_n 0, 1) := dk_42 (dk_at dksX0_toldBehind_0 11 rfl rfl)
theorem dX0_toldBehind_12 : decode cX0_toldBehind 12 = .ok (.iload_n 3, 1) := dk_29 (dk_at dksX0_toldBehind_0 12 rfl rfl)
theorem dX0_toldBehind_13 : decode cX0_toldBehind 13 = .ok (.invokevirtual 227, 3) := dk_182 0 227 (dk_at dksX0_toldBehind_0 13 rfl rfl)
theorem dX0_toldBehind_16 : decode cX0_toldBehind 16 = .ok (.aload_n 0, 1) := dk_42 (dk_at dksX0_toldBehind_0 16 rfl rfl)
theorem dX0_toldBehind_17 : decode cX0_toldBehind 17 = .ok (.getfield 79, 3) := dk_180 0 79 (dk_at dksX0_toldBehind_0 17 rfl rfl)
theorem dX0_toldBehind_20 : decode cX0_toldBehind 20 = .ok (.getfield 114, 3) := dk_180 0 114 (dk_at dksX0_toldBehind_0 20 rfl rfl)
theorem dX0_toldBehind_23 : decode cX0_toldBehind 23 = .ok (.iload_n 2, 1) := dk_28 (dk_at dksX0_toldBehind_0 23 rfl rfl)
theorem dX0_toldBehind_24 : decode cX0_toldBehind 24 = .ok (.aaload, 1) := dk_50 (dk_at dksX0_toldBehind_1 0 rfl rfl)
theorem dX0_toldBehind_25 : decode cX0_toldBehind 25 = .ok (.iload_n 1, 1) := dk_27 (dk_at dksX0_toldBehind_1 1 rfl rfl)
theorem dX0_toldBehind_26 : decode cX0_toldBehind 26 = .ok (.iaload, 1) := dk_46 (dk_at dksX0_toldBehind_1 2 rfl rfl)
theorem dX0_toldBehind_27 : decode cX0_toldBehind 27 = .ok (.istore 4, 2) := dk_54 4 (dk_at dksX0_toldBehind_1 3 rfl rfl)
theorem dX0_toldBehind_29 : decode cX0_toldBehind 29 = .ok (.aload_n 0, 1) := dk_42 (dk_at dksX0_toldBehind_1 5 rfl rfl)
theorem dX0_toldBehind_30 : decode cX0_toldBehind 30 = .ok (.getfield 79, 3) := dk_180 0 79 (dk_at dksX0_toldBehind_1 6 rfl rfl)
theorem dX0_toldBehind_33 : decode cX0_toldBehind 33 = .ok (.aload_n 0, 1) := dk_42 (dk_at dksX0_toldBehind_1 9 rfl rfl)
theorem dX0_toldBehind_34 : decode cX0_toldBehind 34 = .ok (.getfield 86, 3) := dk_180 0 86 (dk_at dksX0_toldBehind_1 10 rfl rfl)
theorem dX0_toldBehind_37 : decode cX0_toldBehind 37 = .ok (.invokevirtual 247, 3) := dk_182 0 247 (dk_at dksX0_toldBehind_1 13 rfl rfl)
theorem dX0_toldBehind_40 : decode cX0_toldBehind 40 = .ok (.iload 4, 2) := dk_21 4 (dk_at dksX0_toldBehind_1 16 rfl rfl)
theorem dX0_toldBehind_42 : decode cX0_toldBehind 42 = .ok (.ireturn, 1) := dk_172 (dk_at dksX0_toldBehind_1 18 rfl rfl)
theorem dX0_toldBehind_43 : decode cX0_toldBehind 43 = .ok (.astore 5, 2) := dk_58 5 (dk_at dksX0_toldBehind_1 19 rfl rfl)
theorem dX0_toldBehind_45 : decode cX0_toldBehind 45 = .ok (.aload_n 0, 1) := dk_42 (dk_at dksX0_toldBehind_1 21 rfl rfl)
theorem dX0_toldBehind_46 : decode cX0_toldBehind 46 = .ok (.getfield 79, 3) := dk_180 0 79 (dk_at dksX0_toldBehind_2 0 rfl rfl)
theorem dX0_toldBehind_49 : decode cX0_toldBehind 49 = .ok (.aload_n 0, 1) := dk_42 (dk_at dksX0_toldBehind_2 3 rfl rfl)
theorem dX0_toldBehind_50 : decode cX0_toldBehind 50 = .ok (.getfield 86, 3) := dk_180 0 86 (dk_at dksX0_toldBehind_2 4 rfl rfl)
theorem dX0_toldBehind_53 : decode cX0_toldBehind 53 = .ok (.invokevirtual 247, 3) := dk_182 0 247 (dk_at dksX0_toldBehind_2 7 rfl rfl)
theorem dX0_toldBehind_56 : decode cX0_toldBehind 56 = .ok (.aload 5, 2) := dk_25 5 (dk_at dksX0_toldBehind_2 10 rfl rfl)
theorem dX0_toldBehind_58 : decode cX0_toldBehind 58 = .ok (.athrow, 1) := dk_191 (dk_at dksX0_toldBehind_2 12 rfl rfl)
abbrev cX0_hears : ByteArray := prog_1_method_45_code
def yX0_hears : MethodName := ⟨RX0, "hears", "(II)I"⟩
def dkwX0_hears_1 : List UInt8 := [182, 1, 2, 167, 0, 8, 42, 3, 182, 0, 129, 172]
abbrev dktX0_hears_1 : List UInt8 := dkwX0_hears_1 ++ []
def dkwX0_hears_0 : List UInt8 := [42, 27, 182, 0, 208, 153, 0, 23, 28, 184, 0, 24, 153, 0, 16, 42, 42, 27, 28, 182, 0, 255]
abbrev dktX0_hears_0 : List UInt8 := dkwX0_hears_0 ++ dktX0_hears_1
theorem dksX0_hears_0 : cX0_hears.data.toList.drop 0 = dktX0_hears_0 := by decide +kernel
theorem dksX0_hears_1 : cX0_hears.data.toList.drop 22 = dktX0_hears_1 := dk_seg dksX0_hears_0 22 rfl rfl
theorem dX0_hears_0 : decode cX0_hears 0 = .ok (.aload_n 0, 1) := dk_42 (dk_at dksX0_hears_0 0 rfl rfl)
theorem dX0_hears_1 : decode cX0_hears 1 = .ok (.iload_n 1, 1) := dk_27 (dk_at dksX0_hears_0 1 rfl rfl)
theorem dX0_hears_2 : decode cX0_hears 2 = .ok (.invokevirtual 208, 3) := dk_182 0 208 (dk_at dksX0_hears_0 2 rfl rfl)
theorem dX0_hears_5 : decode cX0_hears 5 = .ok (.ifCond .eq 23, 3) := dk_153 0 23 (dk_at dksX0_hears_0 5 rfl rfl)
theorem dX0_hears_8 : decode cX0_hears 8 = .ok (.iload_n 2, 1) := dk_28 (dk_at dksX0_hears_0 8 rfl rfl)
theorem dX0_hears_9 : decode cX0_hears 9 = .ok (.invokestatic 24, 3) := dk_184 0 24 (dk_at dksX0_hears_0 9 rfl rfl)
theorem dX0_hears_12 : decode cX0_hears 12 = .ok (.ifCond .eq 16, 3) := dk_153 0 16 (dk_at dksX0_hears_0 12 rfl rfl)
theorem dX0_hears_15 : decode cX0_hears 15 = .ok (.aload_n 0, 1) := dk_42 (dk_at dksX0_hears_0 15 rfl rfl)
theorem dX0_hears_16 : decode cX0_hears 16 = .ok (.aload_n 0, 1) := dk_42 (dk_at dksX0_hears_0 16 rfl rfl)
theorem dX0_hears_17 : decode cX0_hears 17 = .ok (.iload_n 1, 1) := dk_27 (dk_at dksX0_hears_0 17 rfl rfl)
theorem dX0_hears_18 : decode cX0_hears 18 = .ok (.iload_n 2, 1) := dk_28 (dk_at dksX0_hears_0 18 rfl rfl)
theorem dX0_hears_19 : decode cX0_hears 19 = .ok (.invokevirtual 255, 3) := dk_182 0 255 (dk_at dksX0_hears_0 19 rfl rfl)
theorem dX0_hears_22 : decode cX0_hears 22 = .ok (.invokevirtual 258, 3) := dk_182 1 2 (dk_at dksX0_hears_1 0 rfl rfl)
theorem dX0_hears_25 : decode cX0_hears 25 = .ok (.goto 8, 3) := dk_167 0 8 (dk_at dksX0_hears_1 3 rfl rfl)
theorem dX0_hears_28 : decode cX0_hears 28 = .ok (.aload_n 0, 1) := dk_42 (dk_at dksX0_hears_1 6 rfl rfl)
theorem dX0_hears_29 : decode cX0_hears 29 = .ok (.iconst 0, 1) := dk_3 (dk_at dksX0_hears_1 7 rfl rfl)
theorem dX0_hears_30 : decode cX0_hears 30 = .ok (.invokevirtual 129, 3) := dk_182 0 129 (dk_at dksX0_hears_1 8 rfl rfl)
theorem dX0_hears_33 : decode cX0_hears 33 = .ok (.ireturn, 1) := dk_172 (dk_at dksX0_hears_1 11 rfl rfl)
abbrev cX0_heardBehind : ByteArray := prog_1_method_44_code
def yX0_heardBehind : MethodName := ⟨RX0, "heardBehind", "(II)I"⟩
def dkwX0_heardBehind_3 : List UInt8 := [182, 0, 247, 21, 4, 172, 58, 5, 42, 180, 0, 79, 42, 180, 0, 86, 182, 0, 247, 25, 5, 191]
abbrev dktX0_heardBehind_3 : List UInt8 := dkwX0_heardBehind_3 ++ []
def dkwX0_heardBehind_2 : List UInt8 := [29, 17, 0, 200, 163, 0, 7, 29, 167, 0, 4, 2, 54, 4, 42, 180, 0, 79, 42, 180, 0, 86]
abbrev dktX0_heardBehind_2 : List UInt8 := dkwX0_heardBehind_2 ++ dktX0_heardBehind_3
def dkwX0_heardBehind_1 : List UInt8 := [180, 0, 114, 6, 50, 27, 46, 28, 184, 0, 134, 154, 0, 13, 42, 182, 0, 187, 132, 3, 1, 167, 255, 224]
abbrev dktX0_heardBehind_1 : List UInt8 := dkwX0_heardBehind_1 ++ dktX0_heardBehind_2
def dkwX0_heardBehind_0 : List UInt8 := [42, 180, 0, 86, 42, 180, 0, 79, 182, 0, 247, 3, 62, 29, 17, 0, 200, 163, 0, 31, 42, 180, 0, 79]
abbrev dktX0_heardBehind_0 : List UInt8 := dkwX0_heardBehind_0 ++ dktX0_heardBehind_1
theorem dksX0_heardBehind_0 : cX0_heardBehind.data.toList.drop 0 = dktX0_heardBehind_0 := by decide +kernel
theorem dksX0_heardBehind_1 : cX0_heardBehind.data.toList.drop 24 = dktX0_heardBehind_1 := dk_seg dksX0_heardBehind_0 24 rfl rfl
theorem dksX0_heardBehind_2 : cX0_heardBehind.data.toList.drop 48 = dktX0_heardBehind_2 := dk_seg dksX0_heardBehind_1 24 rfl rfl
theorem dksX0_heardBehind_3 : cX0_heardBehind.data.toList.drop 70 = dktX0_heardBehind_3 := dk_seg dksX0_heardBehind_2 22 rfl rfl
theorem dX0_heardBehind_0 : decode cX0_heardBehind 0 = .ok (.aload_n 0, 1) := dk_42 (dk_at dksX0_heardBehind_0 0 rfl rfl)
theorem dX0_heardBehind_1 : decode cX0_heardBehind 1 = .ok (.getfield 86, 3) := dk_180 0 86 (dk_at dksX0_heardBehind_0 1 rfl rfl)
theorem dX0_heardBehind_4 : decode cX0_heardBehind 4 = .ok (.aload_n 0, 1) := dk_42 (dk_at dksX0_heardBehind_0 4 rfl rfl)
theorem dX0_heardBehind_5 : decode cX0_heardBehind 5 = .ok (.getfield 79, 3) := dk_180 0 79 (dk_at dksX0_heardBehind_0 5 rfl rfl)
theorem dX0_heardBehind_8 : decode cX0_heardBehind 8 = .ok (.invokevirtual 247, 3) := dk_182 0 247 (dk_at dksX0_heardBehind_0 8 rfl rfl)
theorem dX0_heardBehind_11 : decode cX0_heardBehind 11 = .ok (.iconst 0, 1) := dk_3 (dk_at dksX0_heardBehind_0 11 rfl rfl)
theorem dX0_heardBehind_12 : decode cX0_heardBehind 12 = .ok (.istore_n 3, 1) := dk_62 (dk_at dksX0_heardBehind_0 12 rfl rfl)
theorem dX0_heardBehind_13 : decode cX0_heardBehind 13 = .ok (.iload_n 3, 1) := dk_29 (dk_at dksX0_heardBehind_0 13 rfl rfl)
theorem dX0_heardBehind_14 : decode cX0_heardBehind 14 = .ok (.sipush 200, 3) := dk_17 0 200 (dk_at dksX0_heardBehind_0 14 rfl rfl)
theorem dX0_heardBehind_17 : decode cX0_heardBehind 17 = .ok (.if_icmp .gt 31, 3) := dk_163 0 31 (dk_at dksX0_heardBehind_0 17 rfl rfl)
theorem dX0_heardBehind_20 : decode cX0_heardBehind 20 = .ok (.aload_n 0, 1) := dk_42 (dk_at dksX0_heardBehind_0 20 rfl rfl)
theorem dX0_heardBehind_21 : decode cX0_heardBehind 21 = .ok (.getfield 79, 3) := dk_180 0 79 (dk_at dksX0_heardBehind_0 21 rfl rfl)
theorem dX0_heardBehind_24 : decode cX0_heardBehind 24 = .ok (.getfield 114, 3) := dk_180 0 114 (dk_at dksX0_heardBehind_1 0 rfl rfl)
theorem dX0_heardBehind_27 : decode cX0_heardBehind 27 = .ok (.iconst 3, 1) := dk_6 (dk_at dksX0_heardBehind_1 3 rfl rfl)
theorem dX0_heardBehind_28 : decode cX0_heardBehind 28 = .ok (.aaload, 1) := dk_50 (dk_at dksX0_heardBehind_1 4 rfl rfl)
theorem dX0_heardBehind_29 : decode cX0_heardBehind 29 = .ok (.iload_n 1, 1) := dk_27 (dk_at dksX0_heardBehind_1 5 rfl rfl)
theorem dX0_heardBehind_30 : decode cX0_heardBehind 30 = .ok (.iaload, 1) := dk_46 (dk_at dksX0_heardBehind_1 6 rfl rfl)
theorem dX0_heardBehind_31 : decode cX0_heardBehind 31 = .ok (.iload_n 2, 1) := dk_28 (dk_at dksX0_heardBehind_1 7 rfl rfl)
theorem dX0_heardBehind_32 : decode cX0_heardBehind 32 = .ok (.invokestatic 134, 3) := dk_184 0 134 (dk_at dksX0_heardBehind_1 8 rfl rfl)
theorem dX0_heardBehind_35 : decode cX0_heardBehind 35 = .ok (.ifCond .ne 13, 3) := dk_154 0 13 (dk_at dksX0_heardBehind_1 11 rfl rfl)
theorem dX0_heardBehind_38 : decode cX0_heardBehind 38 = .ok (.aload_n 0, 1) := dk_42 (dk_at dksX0_heardBehind_1 14 rfl rfl)
theorem dX0_heardBehind_39 : decode cX0_heardBehind 39 = .ok (.invokevirtual 187, 3) := dk_182 0 187 (dk_at dksX0_heardBehind_1 15 rfl rfl)
theorem dX0_heardBehind_42 : decode cX0_heardBehind 42 = .ok (.iinc 3 1, 3) := dk_132 3 1 (dk_at dksX0_heardBehind_1 18 rfl rfl)
theorem dX0_heardBehind_45 : decode cX0_heardBehind 45 = .ok (.goto (-32), 3) := dk_167 255 224 (dk_at dksX0_heardBehind_1 21 rfl rfl)
theorem dX0_heardBehind_48 : decode cX0_heardBehind 48 = .ok (.iload_n 3, 1) := dk_29 (dk_at dksX0_heardBehind_2 0 rfl rfl)
theorem dX0_heardBehind_49 : decode cX0_heardBehind 49 = .ok (.sipush 200, 3) := dk_17 0 200 (dk_at dksX0_heardBehind_2 1 rfl rfl)
theorem dX0_heardBehind_52 : decode cX0_heardBehind 52 = .ok (.if_icmp .gt 7, 3) := dk_163 0 7 (dk_at dksX0_heardBehind_2 4 rfl rfl)
theorem dX0_heardBehind_55 : decode cX0_heardBehind 55 = .ok (.iload_n 3, 1) := dk_29 (dk_at dksX0_heardBehind_2 7 rfl rfl)
theorem dX0_heardBehind_56 : decode cX0_heardBehind 56 = .ok (.goto 4, 3) := dk_167 0 4 (dk_at dksX0_heardBehind_2 8 rfl rfl)
theorem dX0_heardBehind_59 : decode cX0_heardBehind 59 = .ok (.iconst (-1), 1) := dk_2 (dk_at dksX0_heardBehind_2 11 rfl rfl)
theorem dX0_heardBehind_60 : decode cX0_heardBehind 60 = .ok (.istore 4, 2) := dk_54 4 (dk_at dksX0_heardBehind_2 12 rfl rfl)
theorem dX0_heardBehind_62 : decode cX0_heardBehind 62 = .ok (.aload_n 0, 1) := dk_42 (dk_at dksX0_heardBehind_2 14 rfl rfl)
theorem dX0_heardBehind_63 : decode cX0_heardBehind 63 = .ok (.getfield 79, 3) := dk_180 0 79 (dk_at dksX0_heardBehind_2 15 rfl rfl)
theorem dX0_heardBehind_66 : decode cX0_heardBehind 66 = .ok (.aload_n 0, 1) := dk_42 (dk_at dksX0_heardBehind_2 18 rfl rfl)
theorem dX0_heardBehind_67 : decode cX0_heardBehind 67 = .ok (.getfield 86, 3) := dk_180 0 86 (dk_at dksX0_heardBehind_2 19 rfl rfl)
theorem dX0_heardBehind_70 : decode cX0_heardBehind 70 = .ok (.invokevirtual 247, 3) := dk_182 0 247 (dk_at dksX0_heardBehind_3 0 rfl rfl)
theorem dX0_heardBehind_73 : decode cX0_heardBehind 73 = .ok (.iload 4, 2) := dk_21 4 (dk_at dksX0_heardBehind_3 3 rfl rfl)
theorem dX0_heardBehind_75 : decode cX0_heardBehind 75 = .ok (.ireturn, 1) := dk_172 (dk_at dksX0_heardBehind_3 5 rfl rfl)
theorem dX0_heardBehind_76 : decode cX0_heardBehind 76 = .ok (.astore 5, 2) := dk_58 5 (dk_at dksX0_heardBehind_3 6 rfl rfl)
theorem dX0_heardBehind_78 : decode cX0_heardBehind 78 = .ok (.aload_n 0, 1) := dk_42 (dk_at dksX0_heardBehind_3 8 rfl rfl)
theorem dX0_heardBehind_79 : decode cX0_heardBehind 79 = .ok (.getfield 79, 3) := dk_180 0 79 (dk_at dksX0_heardBehind_3 9 rfl rfl)
theorem dX0_heardBehind_82 : decode cX0_heardBehind 82 = .ok (.aload_n 0, 1) := dk_42 (dk_at dksX0_heardBehind_3 12 rfl rfl)
theorem dX0_heardBehind_83 : decode cX0_heardBehind 83 = .ok (.getfield 86, 3) := dk_180 0 86 (dk_at dksX0_heardBehind_3 13 rfl rfl)
theorem dX0_heardBehind_86 : decode cX0_heardBehind 86 = .ok (.invokevirtual 247, 3) := dk_182 0 247 (dk_at dksX0_heardBehind_3 16 rfl rfl)
theorem dX0_heardBehind_89 : decode cX0_heardBehind 89 = .ok (.aload 5, 2) := dk_25 5 (dk_at dksX0_heardBehind_3 19 rfl rfl)
theorem dX0_heardBehind_91 : decode cX0_heardBehind 91 = .ok (.athrow, 1) := dk_191 (dk_at dksX0_heardBehind_3 21 rfl rfl)
abbrev cX0_orNone : ByteArray := prog_1_method_25_code
def yX0_orNone : MethodName := ⟨RX0, "orNone", "(I)I"⟩
def dkwX0_orNone_0 : List UInt8 := [27, 2, 160, 0, 11, 42, 6, 182, 0, 129, 167, 0, 4, 27, 172]
abbrev dktX0_orNone_0 : List UInt8 := dkwX0_orNone_0 ++ []
theorem dksX0_orNone_0 : cX0_orNone.data.toList.drop 0 = dktX0_orNone_0 := by decide +kernel
theorem dX0_orNone_0 : decode cX0_orNone 0 = .ok (.iload_n 1, 1) := dk_27 (dk_at dksX0_orNone_0 0 rfl rfl)
theorem dX0_orNone_1 : decode cX0_orNone 1 = .ok (.iconst (-1), 1) := dk_2 (dk_at dksX0_orNone_0 1 rfl rfl)
theorem dX0_orNone_2 : decode cX0_orNone 2 = .ok (.if_icmp .ne 11, 3) := dk_160 0 11 (dk_at dksX0_orNone_0 2 rfl rfl)
theorem dX0_orNone_5 : decode cX0_orNone 5 = .ok (.aload_n 0, 1) := dk_42 (dk_at dksX0_orNone_0 5 rfl rfl)
theorem dX0_orNone_6 : decode cX0_orNone 6 = .ok (.iconst 3, 1) := dk_6 (dk_at dksX0_orNone_0 6 rfl rfl)
theorem dX0_orNone_7 : decode cX0_orNone 7 = .ok (.invokevirtual 129, 3) := dk_182 0 129 (dk_at dksX0_orNone_0 7 rfl rfl)
theorem dX0_orNone_10 : decode cX0_orNone 10 = .ok (.goto 4, 3) := dk_167 0 4 (dk_at dksX0_orNone_0 10 rfl rfl)
theorem dX0_orNone_13 : decode cX0_orNone 13 = .ok (.iload_n 1, 1) := dk_27 (dk_at dksX0_orNone_0 13 rfl rfl)
theorem dX0_orNone_14 : decode cX0_orNone 14 = .ok (.ireturn, 1) := dk_172 (dk_at dksX0_orNone_0 14 rfl rfl)
abbrev cX0_wise : ByteArray := prog_1_method_47_code
def yX0_wise : MethodName := ⟨RX0, "wise", "(II)I"⟩
def dkwX0_wise_1 : List UInt8 := [182, 1, 2, 167, 0, 8, 42, 3, 182, 0, 129, 172]
abbrev dktX0_wise_1 : List UInt8 := dkwX0_wise_1 ++ []
def dkwX0_wise_0 : List UInt8 := [42, 27, 182, 0, 208, 153, 0, 23, 28, 184, 1, 8, 153, 0, 16, 42, 42, 27, 28, 182, 1, 11]
abbrev dktX0_wise_0 : List UInt8 := dkwX0_wise_0 ++ dktX0_wise_1
theorem dksX0_wise_0 : cX0_wise.data.toList.drop 0 = dktX0_wise_0 := by decide +kernel
theorem dksX0_wise_1 : cX0_wise.data.toList.drop 22 = dktX0_wise_1 := dk_seg dksX0_wise_0 22 rfl rfl
theorem dX0_wise_0 : decode cX0_wise 0 = .ok (.aload_n 0, 1) := dk_42 (dk_at dksX0_wise_0 0 rfl rfl)
theorem dX0_wise_1 : decode cX0_wise 1 = .ok (.iload_n 1, 1) := dk_27 (dk_at dksX0_wise_0 1 rfl rfl)
theorem dX0_wise_2 : decode cX0_wise 2 = .ok (.invokevirtual 208, 3) := dk_182 0 208 (dk_at dksX0_wise_0 2 rfl rfl)
theorem dX0_wise_5 : decode cX0_wise 5 = .ok (.ifCond .eq 23, 3) := dk_153 0 23 (dk_at dksX0_wise_0 5 rfl rfl)
theorem dX0_wise_8 : decode cX0_wise 8 = .ok (.iload_n 2, 1) := dk_28 (dk_at dksX0_wise_0 8 rfl rfl)
theorem dX0_wise_9 : decode cX0_wise 9 = .ok (.invokestatic 264, 3) := dk_184 1 8 (dk_at dksX0_wise_0 9 rfl rfl)
theorem dX0_wise_12 : decode cX0_wise 12 = .ok (.ifCond .eq 16, 3) := dk_153 0 16 (dk_at dksX0_wise_0 12 rfl rfl)
theorem dX0_wise_15 : decode cX0_wise 15 = .ok (.aload_n 0, 1) := dk_42 (dk_at dksX0_wise_0 15 rfl rfl)
theorem dX0_wise_16 : decode cX0_wise 16 = .ok (.aload_n 0, 1) := dk_42 (dk_at dksX0_wise_0 16 rfl rfl)
theorem dX0_wise_17 : decode cX0_wise 17 = .ok (.iload_n 1, 1) := dk_27 (dk_at dksX0_wise_0 17 rfl rfl)
theorem dX0_wise_18 : decode cX0_wise 18 = .ok (.iload_n 2, 1) := dk_28 (dk_at dksX0_wise_0 18 rfl rfl)
theorem dX0_wise_19 : decode cX0_wise 19 = .ok (.invokevirtual 267, 3) := dk_182 1 11 (dk_at dksX0_wise_0 19 rfl rfl)
theorem dX0_wise_22 : decode cX0_wise 22 = .ok (.invokevirtual 258, 3) := dk_182 1 2 (dk_at dksX0_wise_1 0 rfl rfl)
theorem dX0_wise_25 : decode cX0_wise 25 = .ok (.goto 8, 3) := dk_167 0 8 (dk_at dksX0_wise_1 3 rfl rfl)
theorem dX0_wise_28 : decode cX0_wise 28 = .ok (.aload_n 0, 1) := dk_42 (dk_at dksX0_wise_1 6 rfl rfl)
theorem dX0_wise_29 : decode cX0_wise 29 = .ok (.iconst 0, 1) := dk_3 (dk_at dksX0_wise_1 7 rfl rfl)
theorem dX0_wise_30 : decode cX0_wise 30 = .ok (.invokevirtual 129, 3) := dk_182 0 129 (dk_at dksX0_wise_1 8 rfl rfl)
theorem dX0_wise_33 : decode cX0_wise 33 = .ok (.ireturn, 1) := dk_172 (dk_at dksX0_wise_1 11 rfl rfl)
abbrev cX0_isMany : ByteArray := prog_1_method_10_code
def yX0_isMany : MethodName := ⟨RX0, "isMany", "(I)Z"⟩
def dkwX0_isMany_0 : List UInt8 := [26, 3, 16, 16, 184, 0, 9, 172]
abbrev dktX0_isMany_0 : List UInt8 := dkwX0_isMany_0 ++ []
theorem dksX0_isMany_0 : cX0_isMany.data.toList.drop 0 = dktX0_isMany_0 := by decide +kernel
theorem dX0_isMany_0 : decode cX0_isMany 0 = .ok (.iload_n 0, 1) := dk_26 (dk_at dksX0_isMany_0 0 rfl rfl)
theorem dX0_isMany_1 : decode cX0_isMany 1 = .ok (.iconst 0, 1) := dk_3 (dk_at dksX0_isMany_0 1 rfl rfl)
theorem dX0_isMany_2 : decode cX0_isMany 2 = .ok (.bipush 16, 2) := dk_16 16 (dk_at dksX0_isMany_0 2 rfl rfl)
theorem dX0_isMany_4 : decode cX0_isMany 4 = .ok (.invokestatic 9, 3) := dk_184 0 9 (dk_at dksX0_isMany_0 4 rfl rfl)
theorem dX0_isMany_7 : decode cX0_isMany 7 = .ok (.ireturn, 1) := dk_172 (dk_at dksX0_isMany_0 7 rfl rfl)
abbrev cX0_wiseBehind : ByteArray := prog_1_method_46_code
def yX0_wiseBehind : MethodName := ⟨RX0, "wiseBehind", "(II)I"⟩
def dkwX0_wiseBehind_3 : List UInt8 := [182, 0, 247, 21, 4, 172, 58, 5, 42, 180, 0, 79, 42, 180, 0, 86, 182, 0, 247, 25, 5, 191]
abbrev dktX0_wiseBehind_3 : List UInt8 := dkwX0_wiseBehind_3 ++ []
def dkwX0_wiseBehind_2 : List UInt8 := [29, 17, 0, 200, 163, 0, 7, 29, 167, 0, 4, 2, 54, 4, 42, 180, 0, 79, 42, 180, 0, 86]
abbrev dktX0_wiseBehind_2 : List UInt8 := dkwX0_wiseBehind_2 ++ dktX0_wiseBehind_3
def dkwX0_wiseBehind_1 : List UInt8 := [180, 0, 114, 8, 50, 27, 46, 184, 1, 5, 28, 162, 0, 13, 42, 182, 0, 187, 132, 3, 1, 167, 255, 224]
abbrev dktX0_wiseBehind_1 : List UInt8 := dkwX0_wiseBehind_1 ++ dktX0_wiseBehind_2
def dkwX0_wiseBehind_0 : List UInt8 := [42, 180, 0, 86, 42, 180, 0, 79, 182, 0, 247, 3, 62, 29, 17, 0, 200, 163, 0, 31, 42, 180, 0, 79]
abbrev dktX0_wiseBehind_0 : List UInt8 := dkwX0_wiseBehind_0 ++ dktX0_wiseBehind_1
theorem dksX0_wiseBehind_0 : cX0_wiseBehind.data.toList.drop 0 = dktX0_wiseBehind_0 := by decide +kernel
theorem dksX0_wiseBehind_1 : cX0_wiseBehind.data.toList.drop 24 = dktX0_wiseBehind_1 := dk_seg dksX0_wiseBehind_0 24 rfl rfl
theorem dksX0_wiseBehind_2 : cX0_wiseBehind.data.toList.drop 48 = dktX0_wiseBehind_2 := dk_seg dksX0_wiseBehind_1 24 rfl rfl
theorem dksX0_wiseBehind_3 : cX0_wiseBehind.data.toList.drop 70 = dktX0_wiseBehind_3 := dk_seg dksX0_wiseBehind_2 22 rfl rfl
theorem dX0_wiseBehind_0 : decode cX0_wiseBehind 0 = .ok (.aload_n 0, 1) := dk_42 (dk_at dksX0_wiseBehind_0 0 rfl rfl)
theorem dX0_wiseBehind_1 : decode cX0_wiseBehind 1 = .ok (.getfield 86, 3) := dk_180 0 86 (dk_at dksX0_wiseBehind_0 1 rfl rfl)
theorem dX0_wiseBehind_4 : decode cX0_wiseBehind 4 = .ok (.aload_n 0, 1) := dk_42 (dk_at dksX0_wiseBehind_0 4 rfl rfl)
theorem dX0_wiseBehind_5 : decode cX0_wiseBehind 5 = .ok (.getfield 79, 3) := dk_180 0 79 (dk_at dksX0_wiseBehind_0 5 rfl rfl)
theorem dX0_wiseBehind_8 : decode cX0_wiseBehind 8 = .ok (.invokevirtual 247, 3) := dk_182 0 247 (dk_at dksX0_wiseBehind_0 8 rfl rfl)
theorem dX0_wiseBehind_11 : decode cX0_wiseBehind 11 = .ok (.iconst 0, 1) := dk_3 (dk_at dksX0_wiseBehind_0 11 rfl rfl)
theorem dX0_wiseBehind_12 : decode cX0_wiseBehind 12 = .ok (.istore_n 3, 1) := dk_62 (dk_at dksX0_wiseBehind_0 12 rfl rfl)
theorem dX0_wiseBehind_13 : decode cX0_wiseBehind 13 = .ok (.iload_n 3, 1) := dk_29 (dk_at dksX0_wiseBehind_0 13 rfl rfl)
theorem dX0_wiseBehind_14 : decode cX0_wiseBehind 14 = .ok (.sipush 200, 3) := dk_17 0 200 (dk_at dksX0_wiseBehind_0 14 rfl rfl)
theorem dX0_wiseBehind_17 : decode cX0_wiseBehind 17 = .ok (.if_icmp .gt 31, 3) := dk_163 0 31 (dk_at dksX0_wiseBehind_0 17 rfl rfl)
theorem dX0_wiseBehind_20 : decode cX0_wiseBehind 20 = .ok (.aload_n 0, 1) := dk_42 (dk_at dksX0_wiseBehind_0 20 rfl rfl)
theorem dX0_wiseBehind_21 : decode cX0_wiseBehind 21 = .ok (.getfield 79, 3) := dk_180 0 79 (dk_at dksX0_wiseBehind_0 21 rfl rfl)
theorem dX0_wiseBehind_24 : decode cX0_wiseBehind 24 = .ok (.getfield 114, 3) := dk_180 0 114 (dk_at dksX0_wiseBehind_1 0 rfl rfl)
theorem dX0_wiseBehind_27 : decode cX0_wiseBehind 27 = .ok (.iconst 5, 1) := dk_8 (dk_at dksX0_wiseBehind_1 3 rfl rfl)
theorem dX0_wiseBehind_28 : decode cX0_wiseBehind 28 = .ok (.aaload, 1) := dk_50 (dk_at dksX0_wiseBehind_1 4 rfl rfl)
theorem dX0_wiseBehind_29 : decode cX0_wiseBehind 29 = .ok (.iload_n 1, 1) := dk_27 (dk_at dksX0_wiseBehind_1 5 rfl rfl)
theorem dX0_wiseBehind_30 : decode cX0_wiseBehind 30 = .ok (.iaload, 1) := dk_46 (dk_at dksX0_wiseBehind_1 6 rfl rfl)
theorem dX0_wiseBehind_31 : decode cX0_wiseBehind 31 = .ok (.invokestatic 261, 3) := dk_184 1 5 (dk_at dksX0_wiseBehind_1 7 rfl rfl)
theorem dX0_wiseBehind_34 : decode cX0_wiseBehind 34 = .ok (.iload_n 2, 1) := dk_28 (dk_at dksX0_wiseBehind_1 10 rfl rfl)
theorem dX0_wiseBehind_35 : decode cX0_wiseBehind 35 = .ok (.if_icmp .ge 13, 3) := dk_162 0 13 (dk_at dksX0_wiseBehind_1 11 rfl rfl)
theorem dX0_wiseBehind_38 : decode cX0_wiseBehind 38 = .ok (.aload_n 0, 1) := dk_42 (dk_at dksX0_wiseBehind_1 14 rfl rfl)
theorem dX0_wiseBehind_39 : decode cX0_wiseBehind 39 = .ok (.invokevirtual 187, 3) := dk_182 0 187 (dk_at dksX0_wiseBehind_1 15 rfl rfl)
theorem dX0_wiseBehind_42 : decode cX0_wiseBehind 42 = .ok (.iinc 3 1, 3) := dk_132 3 1 (dk_at dksX0_wiseBehind_1 18 rfl rfl)
theorem dX0_wiseBehind_45 : decode cX0_wiseBehind 45 = .ok (.goto (-32), 3) := dk_167 255 224 (dk_at dksX0_wiseBehind_1 21 rfl rfl)
theorem dX0_wiseBehind_48 : decode cX0_wiseBehind 48 = .ok (.iload_n 3, 1) := dk_29 (dk_at dksX0_wiseBehind_2 0 rfl rfl)
theorem dX0_wiseBehind_49 : decode cX0_wiseBehind 49 = .ok (.sipush 200, 3) := dk_17 0 200 (dk_at dksX0_wiseBehind_2 1 rfl rfl)
theorem dX0_wiseBehind_52 : decode cX0_wiseBehind 52 = .ok (.if_icmp .gt 7, 3) := dk_163 0 7 (dk_at dksX0_wiseBehind_2 4 rfl rfl)
theorem dX0_wiseBehind_55 : decode cX0_wiseBehind 55 = .ok (.iload_n 3, 1) := dk_29 (dk_at dksX0_wiseBehind_2 7 rfl rfl)
theorem dX0_wiseBehind_56 : decode cX0_wiseBehind 56 = .ok (.goto 4, 3) := dk_167 0 4 (dk_at dksX0_wiseBehind_2 8 rfl rfl)
theorem dX0_wiseBehind_59 : decode cX0_wiseBehind 59 = .ok (.iconst (-1), 1) := dk_2 (dk_at dksX0_wiseBehind_2 11 rfl rfl)
theorem dX0_wiseBehind_60 : decode cX0_wiseBehind 60 = .ok (.istore 4, 2) := dk_54 4 (dk_at dksX0_wiseBehind_2 12 rfl rfl)
theorem dX0_wiseBehind_62 : decode cX0_wiseBehind 62 = .ok (.aload_n 0, 1) := dk_42 (dk_at dksX0_wiseBehind_2 14 rfl rfl)
theorem dX0_wiseBehind_63 : decode cX0_wiseBehind 63 = .ok (.getfield 79, 3) := dk_180 0 79 (dk_at dksX0_wiseBehind_2 15 rfl rfl)
theorem dX0_wiseBehind_66 : decode cX0_wiseBehind 66 = .ok (.aload_n 0, 1) := dk_42 (dk_at dksX0_wiseBehind_2 18 rfl rfl)
theorem dX0_wiseBehind_67 : decode cX0_wiseBehind 67 = .ok (.getfield 86, 3) := dk_180 0 86 (dk_at dksX0_wiseBehind_2 19 rfl rfl)
theorem dX0_wiseBehind_70 : decode cX0_wiseBehind 70 = .ok (.invokevirtual 247, 3) := dk_182 0 247 (dk_at dksX0_wiseBehind_3 0 rfl rfl)
theorem dX0_wiseBehind_73 : decode cX0_wiseBehind 73 = .ok (.iload 4, 2) := dk_21 4 (dk_at dksX0_wiseBehind_3 3 rfl rfl)
theorem dX0_wiseBehind_75 : decode cX0_wiseBehind 75 = .ok (.ireturn, 1) := dk_172 (dk_at dksX0_wiseBehind_3 5 rfl rfl)
theorem dX0_wiseBehind_76 : decode cX0_wiseBehind 76 = .ok (.astore 5, 2) := dk_58 5 (dk_at dksX0_wiseBehind_3 6 rfl rfl)
theorem dX0_wiseBehind_78 : decode cX0_wiseBehind 78 = .ok (.aload_n 0, 1) := dk_42 (dk_at dksX0_wiseBehind_3 8 rfl rfl)
theorem dX0_wiseBehind_79 : decode cX0_wiseBehind 79 = .ok (.getfield 79, 3) := dk_180 0 79 (dk_at dksX0_wiseBehind_3 9 rfl rfl)
theorem dX0_wiseBehind_82 : decode cX0_wiseBehind 82 = .ok (.aload_n 0, 1) := dk_42 (dk_at dksX0_wiseBehind_3 12 rfl rfl)
theorem dX0_wiseBehind_83 : decode cX0_wiseBehind 83 = .ok (.getfield 86, 3) := dk_180 0 86 (dk_at dksX0_wiseBehind_3 13 rfl rfl)
theorem dX0_wiseBehind_86 : decode cX0_wiseBehind 86 = .ok (.invokevirtual 247, 3) := dk_182 0 247 (dk_at dksX0_wiseBehind_3 16 rfl rfl)
theorem dX0_wiseBehind_89 : decode cX0_wiseBehind 89 = .ok (.aload 5, 2) := dk_25 5 (dk_at dksX0_wiseBehind_3 19 rfl rfl)
theorem dX0_wiseBehind_91 : decode cX0_wiseBehind 91 = .ok (.athrow, 1) := dk_191 (dk_at dksX0_wiseBehind_3 21 rfl rfl)
abbrev cX0_out : ByteArray := prog_1_method_49_code
def yX0_out : MethodName := ⟨RX0, "out", "(I)I"⟩
def dkwX0_out_1 : List UInt8 := [172]
abbrev dktX0_out_1 : List UInt8 := dkwX0_out_1 ++ []
def dkwX0_out_0 : List UInt8 := [27, 184, 0, 30, 153, 0, 15, 42, 42, 27, 182, 1, 14, 182, 1, 2, 167, 0, 8, 42, 3, 182, 0, 129]
abbrev dktX0_out_0 : List UInt8 := dkwX0_out_0 ++ dktX0_out_1
theorem dksX0_out_0 : cX0_out.data.toList.drop 0 = dktX0_out_0 := by decide +kernel
theorem dksX0_out_1 : cX0_out.data.toList.drop 24 = dktX0_out_1 := dk_seg dksX0_out_0 24 rfl rfl
theorem dX0_out_0 : decode cX0_out 0 = .ok (.iload_n 1, 1) := dk_27 (dk_at dksX0_out_0 0 rfl rfl)
theorem dX0_out_1 : decode cX0_out 1 = .ok (.invokestatic 30, 3) := dk_184 0 30 (dk_at dksX0_out_0 1 rfl rfl)
theorem dX0_out_4 : decode cX0_out 4 = .ok (.ifCond .eq 15, 3) := dk_153 0 15 (dk_at dksX0_out_0 4 rfl rfl)
theorem dX0_out_7 : decode cX0_out 7 = .ok (.aload_n 0, 1) := dk_42 (dk_at dksX0_out_0 7 rfl rfl)
theorem dX0_out_8 : decode cX0_out 8 = .ok (.aload_n 0, 1) := dk_42 (dk_at dksX0_out_0 8 rfl rfl)
theorem dX0_out_9 : decode cX0_out 9 = .ok (.iload_n 1, 1) := dk_27 (dk_at dksX0_out_0 9 rfl rfl)
theorem dX0_out_10 : decode cX0_out 10 = .ok (.invokevirtual 270, 3) := dk_182 1 14 (dk_at dksX0_out_0 10 rfl rfl)
theorem dX0_out_13 : decode cX0_out 13 = .ok (.invokevirtual 258, 3) := dk_182 1 2 (dk_at dksX0_out_0 13 rfl rfl)
theorem dX0_out_16 : decode cX0_out 16 = .ok (.goto 8, 3) := dk_167 0 8 (dk_at dksX0_out_0 16 rfl rfl)
theorem dX0_out_19 : decode cX0_out 19 = .ok (.aload_n 0, 1) := dk_42 (dk_at dksX0_out_0 19 rfl rfl)
theorem dX0_out_20 : decode cX0_out 20 = .ok (.iconst 0, 1) := dk_3 (dk_at dksX0_out_0 20 rfl rfl)
theorem dX0_out_21 : decode cX0_out 21 = .ok (.invokevirtual 129, 3) := dk_182 0 129 (dk_at dksX0_out_0 21 rfl rfl)
theorem dX0_out_24 : decode cX0_out 24 = .ok (.ireturn, 1) := dk_172 (dk_at dksX0_out_1 0 rfl rfl)
abbrev cX0_outBehind : ByteArray := prog_1_method_48_code
def yX0_outBehind : MethodName := ⟨RX0, "outBehind", "(I)I"⟩
def dkwX0_outBehind_3 : List UInt8 := [180, 0, 86, 182, 0, 247, 29, 172, 58, 4, 42, 180, 0, 79, 42, 180, 0, 86, 182, 0, 247, 25, 4, 191]
abbrev dktX0_outBehind_3 : List UInt8 := dkwX0_outBehind_3 ++ []
def dkwX0_outBehind_2 : List UInt8 := [132, 2, 1, 167, 255, 221, 28, 17, 0, 200, 163, 0, 7, 28, 167, 0, 4, 2, 62, 42, 180, 0, 79, 42]
abbrev dktX0_outBehind_2 : List UInt8 := dkwX0_outBehind_2 ++ dktX0_outBehind_3
def dkwX0_outBehind_1 : List UInt8 := [180, 0, 79, 42, 180, 0, 79, 182, 0, 229, 182, 0, 238, 2, 130, 126, 153, 0, 13, 42, 182, 0, 187]
abbrev dktX0_outBehind_1 : List UInt8 := dkwX0_outBehind_1 ++ dktX0_outBehind_2
def dkwX0_outBehind_0 : List UInt8 := [42, 180, 0, 86, 42, 180, 0, 79, 182, 0, 247, 3, 61, 28, 17, 0, 200, 163, 0, 34, 27, 42]
abbrev dktX0_outBehind_0 : List UInt8 := dkwX0_outBehind_0 ++ dktX0_outBehind_1
theorem dksX0_outBehind_0 : cX0_outBehind.data.toList.drop 0 = dktX0_outBehind_0 := by decide +kernel
theorem dksX0_outBehind_1 : cX0_outBehind.data.toList.drop 22 = dktX0_outBehind_1 := dk_seg dksX0_outBehind_0 22 rfl rfl
theorem dksX0_outBehind_2 : cX0_outBehind.data.toList.drop 45 = dktX0_outBehind_2 := dk_seg dksX0_outBehind_1 23 rfl rfl
theorem dksX0_outBehind_3 : cX0_outBehind.data.toList.drop 69 = dktX0_outBehind_3 := dk_seg dksX0_outBehind_2 24 rfl rfl
theorem dX0_outBehind_0 : decode cX0_outBehind 0 = .ok (.aload_n 0, 1) := dk_42 (dk_at dksX0_outBehind_0 0 rfl rfl)
theorem dX0_outBehind_1 : decode cX0_outBehind 1 = .ok (.getfield 86, 3) := dk_180 0 86 (dk_at dksX0_outBehind_0 1 rfl rfl)
theorem dX0_outBehind_4 : decode cX0_outBehind 4 = .ok (.aload_n 0, 1) := dk_42 (dk_at dksX0_outBehind_0 4 rfl rfl)
theorem dX0_outBehind_5 : decode cX0_outBehind 5 = .ok (.getfield 79, 3) := dk_180 0 79 (dk_at dksX0_outBehind_0 5 rfl rfl)
theorem dX0_outBehind_8 : decode cX0_outBehind 8 = .ok (.invokevirtual 247, 3) := dk_182 0 247 (dk_at dksX0_outBehind_0 8 rfl rfl)
theorem dX0_outBehind_11 : decode cX0_outBehind 11 = .ok (.iconst 0, 1) := dk_3 (dk_at dksX0_outBehind_0 11 rfl rfl)
theorem dX0_outBehind_12 : decode cX0_outBehind 12 = .ok (.istore_n 2, 1) := dk_61 (dk_at dksX0_outBehind_0 12 rfl rfl)
theorem dX0_outBehind_13 : decode cX0_outBehind 13 = .ok (.iload_n 2, 1) := dk_28 (dk_at dksX0_outBehind_0 13 rfl rfl)
theorem dX0_outBehind_14 : decode cX0_outBehind 14 = .ok (.sipush 200, 3) := dk_17 0 200 (dk_at dksX0_outBehind_0 14 rfl rfl)
theorem dX0_outBehind_17 : decode cX0_outBehind 17 = .ok (.if_icmp .gt 34, 3) := dk_163 0 34 (dk_at dksX0_outBehind_0 17 rfl rfl)
theorem dX0_outBehind_20 : decode cX0_outBehind 20 = .ok (.iload_n 1, 1) := dk_27 (dk_at dksX0_outBehind_0 20 rfl rfl)
theorem dX0_outBehind_21 : decode cX0_outBehind 21 = .ok (.aload_n 0, 1) := dk_42 (dk_at dksX0_outBehind_0 21 rfl rfl)
theorem dX0_outBehind_22 : decode cX0_outBehind 22 = .ok (.getfield 79, 3) := dk_180 0 79 (dk_at dksX0_outBehind_1 0 rfl rfl)
theorem dX0_outBehind_25 : decode cX0_outBehind 25 = .ok (.aload_n 0, 1) := dk_42 (dk_at dksX0_outBehind_1 3 rfl rfl)
theorem dX0_outBehind_26 : decode cX0_outBehind 26 = .ok (.getfield 79, 3) := dk_180 0 79 (dk_at dksX0_outBehind_1 4 rfl rfl)
theorem dX0_outBehind_29 : decode cX0_outBehind 29 = .ok (.invokevirtual 229, 3) := dk_182 0 229 (dk_at dksX0_outBehind_1 7 rfl rfl)
theorem dX0_outBehind_32 : decode cX0_outBehind 32 = .ok (.invokevirtual 238, 3) := dk_182 0 238 (dk_at dksX0_outBehind_1 10 rfl rfl)
theorem dX0_outBehind_35 : decode cX0_outBehind 35 = .ok (.iconst (-1), 1) := dk_2 (dk_at dksX0_outBehind_1 13 rfl rfl)
theorem dX0_outBehind_36 : decode cX0_outBehind 36 = .ok (.ixor, 1) := dk_130 (dk_at dksX0_outBehind_1 14 rfl rfl)
theorem dX0_outBehind_37 : decode cX0_outBehind 37 = .ok (.iand, 1) := dk_126 (dk_at dksX0_outBehind_1 15 rfl rfl)
theorem dX0_outBehind_38 : decode cX0_outBehind 38 = .ok (.ifCond .eq 13, 3) := dk_153 0 13 (dk_at dksX0_outBehind_1 16 rfl rfl)
theorem dX0_outBehind_41 : decode cX0_outBehind 41 = .ok (.aload_n 0, 1) := dk_42 (dk_at dksX0_outBehind_1 19 rfl rfl)
theorem dX0_outBehind_42 : decode cX0_outBehind 42 = .ok (.invokevirtual 187, 3) := dk_182 0 187 (dk_at dksX0_outBehind_1 20 rfl rfl)
theorem dX0_outBehind_45 : decode cX0_outBehind 45 = .ok (.iinc 2 1, 3) := dk_132 2 1 (dk_at dksX0_outBehind_2 0 rfl rfl)
theorem dX0_outBehind_48 : decode cX0_outBehind 48 = .ok (.goto (-35), 3) := dk_167 255 221 (dk_at dksX0_outBehind_2 3 rfl rfl)
theorem dX0_outBehind_51 : decode cX0_outBehind 51 = .ok (.iload_n 2, 1) := dk_28 (dk_at dksX0_outBehind_2 6 rfl rfl)
theorem dX0_outBehind_52 : decode cX0_outBehind 52 = .ok (.sipush 200, 3) := dk_17 0 200 (dk_at dksX0_outBehind_2 7 rfl rfl)
theorem dX0_outBehind_55 : decode cX0_outBehind 55 = .ok (.if_icmp .gt 7, 3) := dk_163 0 7 (dk_at dksX0_outBehind_2 10 rfl rfl)
theorem dX0_outBehind_58 : decode cX0_outBehind 58 = .ok (.iload_n 2, 1) := dk_28 (dk_at dksX0_outBehind_2 13 rfl rfl)
theorem dX0_outBehind_59 : decode cX0_outBehind 59 = .ok (.goto 4, 3) := dk_167 0 4 (dk_at dksX0_outBehind_2 14 rfl rfl)
theorem dX0_outBehind_62 : decode cX0_outBehind 62 = .ok (.iconst (-1), 1) := dk_2 (dk_at dksX0_outBehind_2 17 rfl rfl)
theorem dX0_outBehind_63 : decode cX0_outBehind 63 = .ok (.istore_n 3, 1) := dk_62 (dk_at dksX0_outBehind_2 18 rfl rfl)
theorem dX0_outBehind_64 : decode cX0_outBehind 64 = .ok (.aload_n 0, 1) := dk_42 (dk_at dksX0_outBehind_2 19 rfl rfl)
theorem dX0_outBehind_65 : decode cX0_outBehind 65 = .ok (.getfield 79, 3) := dk_180 0 79 (dk_at dksX0_outBehind_2 20 rfl rfl)
theorem dX0_outBehind_68 : decode cX0_outBehind 68 = .ok (.aload_n 0, 1) := dk_42 (dk_at dksX0_outBehind_2 23 rfl rfl)
theorem dX0_outBehind_69 : decode cX0_outBehind 69 = .ok (.getfield 86, 3) := dk_180 0 86 (dk_at dksX0_outBehind_3 0 rfl rfl)
theorem dX0_outBehind_72 : decode cX0_outBehind 72 = .ok (.invokevirtual 247, 3) := dk_182 0 247 (dk_at dksX0_outBehind_3 3 rfl rfl)
theorem dX0_outBehind_75 : decode cX0_outBehind 75 = .ok (.iload_n 3, 1) := dk_29 (dk_at dksX0_outBehind_3 6 rfl rfl)
theorem dX0_outBehind_76 : decode cX0_outBehind 76 = .ok (.ireturn, 1) := dk_172 (dk_at dksX0_outBehind_3 7 rfl rfl)
theorem dX0_outBehind_77 : decode cX0_outBehind 77 = .ok (.astore 4, 2) := dk_58 4 (dk_at dksX0_outBehind_3 8 rfl rfl)
theorem dX0_outBehind_79 : decode cX0_outBehind 79 = .ok (.aload_n 0, 1) := dk_42 (dk_at dksX0_outBehind_3 10 rfl rfl)
theorem dX0_outBehind_80 : decode cX0_outBehind 80 = .ok (.getfield 79, 3) := dk_180 0 79 (dk_at dksX0_outBehind_3 11 rfl rfl)
theorem dX0_outBehind_83 : decode cX0_outBehind 83 = .ok (.aload_n 0, 1) := dk_42 (dk_at dksX0_outBehind_3 14 rfl rfl)
theorem dX0_outBehind_84 : decode cX0_outBehind 84 = .ok (.getfield 86, 3) := dk_180 0 86 (dk_at dksX0_outBehind_3 15 rfl rfl)
theorem dX0_outBehind_87 : decode cX0_outBehind 87 = .ok (.invokevirtual 247, 3) := dk_182 0 247 (dk_at dksX0_outBehind_3 18 rfl rfl)
theorem dX0_outBehind_90 : decode cX0_outBehind 90 = .ok (.aload 4, 2) := dk_25 4 (dk_at dksX0_outBehind_3 21 rfl rfl)
theorem dX0_outBehind_92 : decode cX0_outBehind 92 = .ok (.athrow, 1) := dk_191 (dk_at dksX0_outBehind_3 23 rfl rfl)
abbrev cX0_leave : ByteArray := prog_1_method_52_code
def yX0_leave : MethodName := ⟨RX0, "leave", "(II)I"⟩
def dkwX0_leave_1 : List UInt8 := [182, 0, 129, 172]
abbrev dktX0_leave_1 : List UInt8 := dkwX0_leave_1 ++ []
def dkwX0_leave_0 : List UInt8 := [42, 27, 28, 182, 1, 17, 153, 0, 15, 42, 27, 4, 16, 6, 28, 182, 1, 20, 167, 0, 8, 42, 3]
abbrev dktX0_leave_0 : List UInt8 := dkwX0_leave_0 ++ dktX0_leave_1
theorem dksX0_leave_0 : cX0_leave.data.toList.drop 0 = dktX0_leave_0 := by decide +kernel
theorem dksX0_leave_1 : cX0_leave.data.toList.drop 23 = dktX0_leave_1 := dk_seg dksX0_leave_0 23 rfl rfl
theorem dX0_leave_0 : decode cX0_leave 0 = .ok (.aload_n 0, 1) := dk_42 (dk_at dksX0_leave_0 0 rfl rfl)
theorem dX0_leave_1 : decode cX0_leave 1 = .ok (.iload_n 1, 1) := dk_27 (dk_at dksX0_leave_0 1 rfl rfl)
theorem dX0_leave_2 : decode cX0_leave 2 = .ok (.iload_n 2, 1) := dk_28 (dk_at dksX0_leave_0 2 rfl rfl)
theorem dX0_leave_3 : decode cX0_leave 3 = .ok (.invokevirtual 273, 3) := dk_182 1 17 (dk_at dksX0_leave_0 3 rfl rfl)
theorem dX0_leave_6 : decode cX0_leave 6 = .ok (.ifCond .eq 15, 3) := dk_153 0 15 (dk_at dksX0_leave_0 6 rfl rfl)
theorem dX0_leave_9 : decode cX0_leave 9 = .ok (.aload_n 0, 1) := dk_42 (dk_at dksX0_leave_0 9 rfl rfl)
theorem dX0_leave_10 : decode cX0_leave 10 = .ok (.iload_n 1, 1) := dk_27 (dk_at dksX0_leave_0 10 rfl rfl)
theorem dX0_leave_11 : decode cX0_leave 11 = .ok (.iconst 1, 1) := dk_4 (dk_at dksX0_leave_0 11 rfl rfl)
theorem dX0_leave_12 : decode cX0_leave 12 = .ok (.bipush 6, 2) := dk_16 6 (dk_at dksX0_leave_0 12 rfl rfl)
theorem dX0_leave_14 : decode cX0_leave 14 = .ok (.iload_n 2, 1) := dk_28 (dk_at dksX0_leave_0 14 rfl rfl)
theorem dX0_leave_15 : decode cX0_leave 15 = .ok (.invokevirtual 276, 3) := dk_182 1 20 (dk_at dksX0_leave_0 15 rfl rfl)
theorem dX0_leave_18 : decode cX0_leave 18 = .ok (.goto 8, 3) := dk_167 0 8 (dk_at dksX0_leave_0 18 rfl rfl)
theorem dX0_leave_21 : decode cX0_leave 21 = .ok (.aload_n 0, 1) := dk_42 (dk_at dksX0_leave_0 21 rfl rfl)
theorem dX0_leave_22 : decode cX0_leave 22 = .ok (.iconst 0, 1) := dk_3 (dk_at dksX0_leave_0 22 rfl rfl)
theorem dX0_leave_23 : decode cX0_leave 23 = .ok (.invokevirtual 129, 3) := dk_182 0 129 (dk_at dksX0_leave_1 0 rfl rfl)
theorem dX0_leave_26 : decode cX0_leave 26 = .ok (.ireturn, 1) := dk_172 (dk_at dksX0_leave_1 3 rfl rfl)
abbrev cX0_areOne : ByteArray := prog_1_method_51_code
def yX0_areOne : MethodName := ⟨RX0, "areOne", "(II)Z"⟩
def dkwX0_areOne_0 : List UInt8 := [42, 27, 182, 0, 208, 153, 0, 17, 28, 3, 16, 60, 184, 0, 9, 153, 0, 7, 4, 167, 0, 4, 3, 172]
abbrev dktX0_areOne_0 : List UInt8 := dkwX0_areOne_0 ++ []
theorem dksX0_areOne_0 : cX0_areOne.data.toList.drop 0 = dktX0_areOne_0 := by decide +kernel
theorem dX0_areOne_0 : decode cX0_areOne 0 = .ok (.aload_n 0, 1) := dk_42 (dk_at dksX0_areOne_0 0 rfl rfl)
theorem dX0_areOne_1 : decode cX0_areOne 1 = .ok (.iload_n 1, 1) := dk_27 (dk_at dksX0_areOne_0 1 rfl rfl)
theorem dX0_areOne_2 : decode cX0_areOne 2 = .ok (.invokevirtual 208, 3) := dk_182 0 208 (dk_at dksX0_areOne_0 2 rfl rfl)
theorem dX0_areOne_5 : decode cX0_areOne 5 = .ok (.ifCond .eq 17, 3) := dk_153 0 17 (dk_at dksX0_areOne_0 5 rfl rfl)
theorem dX0_areOne_8 : decode cX0_areOne 8 = .ok (.iload_n 2, 1) := dk_28 (dk_at dksX0_areOne_0 8 rfl rfl)
theorem dX0_areOne_9 : decode cX0_areOne 9 = .ok (.iconst 0, 1) := dk_3 (dk_at dksX0_areOne_0 9 rfl rfl)
theorem dX0_areOne_10 : decode cX0_areOne 10 = .ok (.bipush 60, 2) := dk_16 60 (dk_at dksX0_areOne_0 10 rfl rfl)
theorem dX0_areOne_12 : decode cX0_areOne 12 = .ok (.invokestatic 9, 3) := dk_184 0 9 (dk_at dksX0_areOne_0 12 rfl rfl)
theorem dX0_areOne_15 : decode cX0_areOne 15 = .ok (.ifCond .eq 7, 3) := dk_153 0 7 (dk_at dksX0_areOne_0 15 rfl rfl)
theorem dX0_areOne_18 : decode cX0_areOne 18 = .ok (.iconst 1, 1) := dk_4 (dk_at dksX0_areOne_0 18 rfl rfl)
theorem dX0_areOne_19 : decode cX0_areOne 19 = .ok (.goto 4, 3) := dk_167 0 4 (dk_at dksX0_areOne_0 19 rfl rfl)
theorem dX0_areOne_22 : decode cX0_areOne 22 = .ok (.iconst 0, 1) := dk_3 (dk_at dksX0_areOne_0 22 rfl rfl)
theorem dX0_areOne_23 : decode cX0_areOne 23 = .ok (.ireturn, 1) := dk_172 (dk_at dksX0_areOne_0 23 rfl rfl)
abbrev cX0_mostBy : ByteArray := prog_1_method_50_code
def yX0_mostBy : MethodName := ⟨RX0, "mostBy", "(IIII)I"⟩
def dkwX0_mostBy_4 : List UInt8 := [27, 21, 5, 79, 21, 6, 172]
abbrev dktX0_mostBy_4 : List UInt8 := dkwX0_mostBy_4 ++ []
def dkwX0_mostBy_3 : List UInt8 := [21, 7, 21, 9, 184, 0, 152, 54, 7, 132, 8, 1, 167, 255, 196, 42, 180, 0, 79, 180, 0, 114, 28, 50]
abbrev dktX0_mostBy_3 : List UInt8 := dkwX0_mostBy_3 ++ dktX0_mostBy_4
def dkwX0_mostBy_2 : List UInt8 := [182, 0, 251, 184, 1, 5, 54, 9, 21, 9, 21, 7, 164, 0, 8, 21, 8, 167, 0, 5, 21, 6, 54, 6]
abbrev dktX0_mostBy_2 : List UInt8 := dkwX0_mostBy_2 ++ dktX0_mostBy_3
def dkwX0_mostBy_1 : List UInt8 := [29, 162, 0, 60, 42, 180, 0, 79, 180, 0, 114, 28, 50, 27, 21, 8, 79, 42, 27, 8, 21, 4]
abbrev dktX0_mostBy_1 : List UInt8 := dkwX0_mostBy_1 ++ dktX0_mostBy_2
def dkwX0_mostBy_0 : List UInt8 := [42, 180, 0, 79, 180, 0, 114, 28, 50, 27, 46, 54, 5, 3, 54, 6, 2, 54, 7, 3, 54, 8, 21, 8]
abbrev dktX0_mostBy_0 : List UInt8 := dkwX0_mostBy_0 ++ dktX0_mostBy_1
theorem dksX0_mostBy_0 : cX0_mostBy.data.toList.drop 0 = dktX0_mostBy_0 := by decide +kernel
theorem dksX0_mostBy_1 : cX0_mostBy.data.toList.drop 24 = dktX0_mostBy_1 := dk_seg dksX0_mostBy_0 24 rfl rfl
theorem dksX0_mostBy_2 : cX0_mostBy.data.toList.drop 46 = dktX0_mostBy_2 := dk_seg dksX0_mostBy_1 22 rfl rfl
theorem dksX0_mostBy_3 : cX0_mostBy.data.toList.drop 70 = dktX0_mostBy_3 := dk_seg dksX0_mostBy_2 24 rfl rfl
theorem dksX0_mostBy_4 : cX0_mostBy.data.toList.drop 94 = dktX0_mostBy_4 := dk_seg dksX0_mostBy_3 24 rfl rfl
theorem dX0_mostBy_0 : decode cX0_mostBy 0 = .ok (.aload_n 0, 1) := dk_42 (dk_at dksX0_mostBy_0 0 rfl rfl)
theorem dX0_mostBy_1 : decode cX0_mostBy 1 = .ok (.getfield 79, 3) := dk_180 0 79 (dk_at dksX0_mostBy_0 1 rfl rfl)
theorem dX0_mostBy_4 : decode cX0_mostBy 4 = .ok (.getfield 114, 3) := dk_180 0 114 (dk_at dksX0_mostBy_0 4 rfl rfl)
theorem dX0_mostBy_7 : decode cX0_mostBy 7 = .ok (.iload_n 2, 1) := dk_28 (dk_at dksX0_mostBy_0 7 rfl rfl)
theorem dX0_mostBy_8 : decode cX0_mostBy 8 = .ok (.aaload, 1) := dk_50 (dk_at dksX0_mostBy_0 8 rfl rfl)
theorem dX0_mostBy_9 : decode cX0_mostBy 9 = .ok (.iload_n 1, 1) := dk_27 (dk_at dksX0_mostBy_0 9 rfl rfl)
theorem dX0_mostBy_10 : decode cX0_mostBy 10 = .ok (.iaload, 1) := dk_46 (dk_at dksX0_mostBy_0 10 rfl rfl)
theorem dX0_mostBy_11 : decode cX0_mostBy 11 = .ok (.istore 5, 2) := dk_54 5 (dk_at dksX0_mostBy_0 11 rfl rfl)
theorem dX0_mostBy_13 : decode cX0_mostBy 13 = .ok (.iconst 0, 1) := dk_3 (dk_at dksX0_mostBy_0 13 rfl rfl)
theorem dX0_mostBy_14 : decode cX0_mostBy 14 = .ok (.istore 6, 2) := dk_54 6 (dk_at dksX0_mostBy_0 14 rfl rfl)
theorem dX0_mostBy_16 : decode cX0_mostBy 16 = .ok (.iconst (-1), 1) := dk_2 (dk_at dksX0_mostBy_0 16 rfl rfl)
theorem dX0_mostBy_17 : decode cX0_mostBy 17 = .ok (.istore 7, 2) := dk_54 7 (dk_at dksX0_mostBy_0 17 rfl rfl)
theorem dX0_mostBy_19 : decode cX0_mostBy 19 = .ok (.iconst 0, 1) := dk_3 (dk_at dksX0_mostBy_0 19 rfl rfl)
theorem dX0_mostBy_20 : decode cX0_mostBy 20 = .ok (.istore 8, 2) := dk_54 8 (dk_at dksX0_mostBy_0 20 rfl rfl)
theorem dX0_mostBy_22 : decode cX0_mostBy 22 = .ok (.iload 8, 2) := dk_21 8 (dk_at dksX0_mostBy_0 22 rfl rfl)
theorem dX0_mostBy_24 : decode cX0_mostBy 24 = .ok (.iload_n 3, 1) := dk_29 (dk_at dksX0_mostBy_1 0 rfl rfl)
theorem dX0_mostBy_25 : decode cX0_mostBy 25 = .ok (.if_icmp .ge 60, 3) := dk_162 0 60 (dk_at dksX0_mostBy_1 1 rfl rfl)
theorem dX0_mostBy_28 : decode cX0_mostBy 28 = .ok (.aload_n 0, 1) := dk_42 (dk_at dksX0_mostBy_1 4 rfl rfl)
theorem dX0_mostBy_29 : decode cX0_mostBy 29 = .ok (.getfield 79, 3) := dk_180 0 79 (dk_at dksX0_mostBy_1 5 rfl rfl)
theorem dX0_mostBy_32 : decode cX0_mostBy 32 = .ok (.getfield 114, 3) := dk_180 0 114 (dk_at dksX0_mostBy_1 8 rfl rfl)
theorem dX0_mostBy_35 : decode cX0_mostBy 35 = .ok (.iload_n 2, 1) := dk_28 (dk_at dksX0_mostBy_1 11 rfl rfl)
theorem dX0_mostBy_36 : decode cX0_mostBy 36 = .ok (.aaload, 1) := dk_50 (dk_at dksX0_mostBy_1 12 rfl rfl)
theorem dX0_mostBy_37 : decode cX0_mostBy 37 = .ok (.iload_n 1, 1) := dk_27 (dk_at dksX0_mostBy_1 13 rfl rfl)
theorem dX0_mostBy_38 : decode cX0_mostBy 38 = .ok (.iload 8, 2) := dk_21 8 (dk_at dksX0_mostBy_1 14 rfl rfl)
theorem dX0_mostBy_40 : decode cX0_mostBy 40 = .ok (.iastore, 1) := dk_79 (dk_at dksX0_mostBy_1 16 rfl rfl)
theorem dX0_mostBy_41 : decode cX0_mostBy 41 = .ok (.aload_n 0, 1) := dk_42 (dk_at dksX0_mostBy_1 17 rfl rfl)
theorem dX0_mostBy_42 : decode cX0_mostBy 42 = .ok (.iload_n 1, 1) := dk_27 (dk_at dksX0_mostBy_1 18 rfl rfl)
theorem dX0_mostBy_43 : decode cX0_mostBy 43 = .ok (.iconst 5, 1) := dk_8 (dk_at dksX0_mostBy_1 19 rfl rfl)
theorem dX0_mostBy_44 : decode cX0_mostBy 44 = .ok (.iload 4, 2) := dk_21 4 (dk_at dksX0_mostBy_1 20 rfl rfl)
theorem dX0_mostBy_46 : decode cX0_mostBy 46 = .ok (.invokevirtual 251, 3) := dk_182 0 251 (dk_at dksX0_mostBy_2 0 rfl rfl)
theorem dX0_mostBy_49 : decode cX0_mostBy 49 = .ok (.invokestatic 261, 3) := dk_184 1 5 (dk_at dksX0_mostBy_2 3 rfl rfl)
theorem dX0_mostBy_52 : decode cX0_mostBy 52 = .ok (.istore 9, 2) := dk_54 9 (dk_at dksX0_mostBy_2 6 rfl rfl)
theorem dX0_mostBy_54 : decode cX0_mostBy 54 = .ok (.iload 9, 2) := dk_21 9 (dk_at dksX0_mostBy_2 8 rfl rfl)
theorem dX0_mostBy_56 : decode cX0_mostBy 56 = .ok (.iload 7, 2) := dk_21 7 (dk_at dksX0_mostBy_2 10 rfl rfl)
theorem dX0_mostBy_58 : decode cX0_mostBy 58 = .ok (.if_icmp .le 8, 3) := dk_164 0 8 (dk_at dksX0_mostBy_2 12 rfl rfl)
theorem dX0_mostBy_61 : decode cX0_mostBy 61 = .ok (.iload 8, 2) := dk_21 8 (dk_at dksX0_mostBy_2 15 rfl rfl)
theorem dX0_mostBy_63 : decode cX0_mostBy 63 = .ok (.goto 5, 3) := dk_167 0 5 (dk_at dksX0_mostBy_2 17 rfl rfl)
theorem dX0_mostBy_66 : decode cX0_mostBy 66 = .ok (.iload 6, 2) := dk_21 6 (dk_at dksX0_mostBy_2 20 rfl rfl)
theorem dX0_mostBy_68 : decode cX0_mostBy 68 = .ok (.istore 6, 2) := dk_54 6 (dk_at dksX0_mostBy_2 22 rfl rfl)
theorem dX0_mostBy_70 : decode cX0_mostBy 70 = .ok (.iload 7, 2) := dk_21 7 (dk_at dksX0_mostBy_3 0 rfl rfl)
theorem dX0_mostBy_72 : decode cX0_mostBy 72 = .ok (.iload 9, 2) := dk_21 9 (dk_at dksX0_mostBy_3 2 rfl rfl)
theorem dX0_mostBy_74 : decode cX0_mostBy 74 = .ok (.invokestatic 152, 3) := dk_184 0 152 (dk_at dksX0_mostBy_3 4 rfl rfl)
theorem dX0_mostBy_77 : decode cX0_mostBy 77 = .ok (.istore 7, 2) := dk_54 7 (dk_at dksX0_mostBy_3 7 rfl rfl)
theorem dX0_mostBy_79 : decode cX0_mostBy 79 = .ok (.iinc 8 1, 3) := dk_132 8 1 (dk_at dksX0_mostBy_3 9 rfl rfl)
theorem dX0_mostBy_82 : decode cX0_mostBy 82 = .ok (.goto (-60), 3) := dk_167 255 196 (dk_at dksX0_mostBy_3 12 rfl rfl)
theorem dX0_mostBy_85 : decode cX0_mostBy 85 = .ok (.aload_n 0, 1) := dk_42 (dk_at dksX0_mostBy_3 15 rfl rfl)
theorem dX0_mostBy_86 : decode cX0_mostBy 86 = .ok (.getfield 79, 3) := dk_180 0 79 (dk_at dksX0_mostBy_3 16 rfl rfl)
theorem dX0_mostBy_89 : decode cX0_mostBy 89 = .ok (.getfield 114, 3) := dk_180 0 114 (dk_at dksX0_mostBy_3 19 rfl rfl)
theorem dX0_mostBy_92 : decode cX0_mostBy 92 = .ok (.iload_n 2, 1) := dk_28 (dk_at dksX0_mostBy_3 22 rfl rfl)
theorem dX0_mostBy_93 : decode cX0_mostBy 93 = .ok (.aaload, 1) := dk_50 (dk_at dksX0_mostBy_3 23 rfl rfl)
theorem dX0_mostBy_94 : decode cX0_mostBy 94 = .ok (.iload_n 1, 1) := dk_27 (dk_at dksX0_mostBy_4 0 rfl rfl)
theorem dX0_mostBy_95 : decode cX0_mostBy 95 = .ok (.iload 5, 2) := dk_21 5 (dk_at dksX0_mostBy_4 1 rfl rfl)
theorem dX0_mostBy_97 : decode cX0_mostBy 97 = .ok (.iastore, 1) := dk_79 (dk_at dksX0_mostBy_4 3 rfl rfl)
theorem dX0_mostBy_98 : decode cX0_mostBy 98 = .ok (.iload 6, 2) := dk_21 6 (dk_at dksX0_mostBy_4 4 rfl rfl)
theorem dX0_mostBy_100 : decode cX0_mostBy 100 = .ok (.ireturn, 1) := dk_172 (dk_at dksX0_mostBy_4 6 rfl rfl)
abbrev cX0_openFor : ByteArray := prog_1_method_54_code
def yX0_openFor : MethodName := ⟨RX0, "openFor", "(III)I"⟩
def dkwX0_openFor_1 : List UInt8 := [182, 1, 2, 167, 0, 8, 42, 3, 182, 0, 129, 172]
abbrev dktX0_openFor_1 : List UInt8 := dkwX0_openFor_1 ++ []
def dkwX0_openFor_0 : List UInt8 := [42, 27, 29, 182, 1, 17, 153, 0, 24, 28, 184, 1, 8, 153, 0, 17, 42, 42, 27, 28, 29, 182, 1, 24]
abbrev dktX0_openFor_0 : List UInt8 := dkwX0_openFor_0 ++ dktX0_openFor_1
theorem dksX0_openFor_0 : cX0_openFor.data.toList.drop 0 = dktX0_openFor_0 := by decide +kernel
theorem dksX0_openFor_1 : cX0_openFor.data.toList.drop 24 = dktX0_openFor_1 := dk_seg dksX0_openFor_0 24 rfl rfl
theorem dX0_openFor_0 : decode cX0_openFor 0 = .ok (.aload_n 0, 1) := dk_42 (dk_at dksX0_openFor_0 0 rfl rfl)
theorem dX0_openFor_1 : decode cX0_openFor 1 = .ok (.iload_n 1, 1) := dk_27 (dk_at dksX0_openFor_0 1 rfl rfl)
theorem dX0_openFor_2 : decode cX0_openFor 2 = .ok (.iload_n 3, 1) := dk_29 (dk_at dksX0_openFor_0 2 rfl rfl)
theorem dX0_openFor_3 : decode cX0_openFor 3 = .ok (.invokevirtual 273, 3) := dk_182 1 17 (dk_at dksX0_openFor_0 3 rfl rfl)
theorem dX0_openFor_6 : decode cX0_openFor 6 = .ok (.ifCond .eq 24, 3) := dk_153 0 24 (dk_at dksX0_openFor_0 6 rfl rfl)
theorem dX0_openFor_9 : decode cX0_openFor 9 = .ok (.iload_n 2, 1) := dk_28 (dk_at dksX0_openFor_0 9 rfl rfl)
theorem dX0_openFor_10 : decode cX0_openFor 10 = .ok (.invokestatic 264, 3) := dk_184 1 8 (dk_at dksX0_openFor_0 10 rfl rfl)
theorem dX0_openFor_13 : decode cX0_openFor 13 = .ok (.ifCond .eq 17, 3) := dk_153 0 17 (dk_at dksX0_openFor_0 13 rfl rfl)
theorem dX0_openFor_16 : decode cX0_openFor 16 = .ok (.aload_n 0, 1) := dk_42 (dk_at dksX0_openFor_0 16 rfl rfl)
theorem dX0_openFor_17 : decode cX0_openFor 17 = .ok (.aload_n 0, 1) := dk_42 (dk_at dksX0_openFor_0 17 rfl rfl)
theorem dX0_openFor_18 : decode cX0_openFor 18 = .ok (.iload_n 1, 1) := dk_27 (dk_at dksX0_openFor_0 18 rfl rfl)
theorem dX0_openFor_19 : decode cX0_openFor 19 = .ok (.iload_n 2, 1) := dk_28 (dk_at dksX0_openFor_0 19 rfl rfl)
theorem dX0_openFor_20 : decode cX0_openFor 20 = .ok (.iload_n 3, 1) := dk_29 (dk_at dksX0_openFor_0 20 rfl rfl)
theorem dX0_openFor_21 : decode cX0_openFor 21 = .ok (.invokevirtual 280, 3) := dk_182 1 24 (dk_at dksX0_openFor_0 21 rfl rfl)
theorem dX0_openFor_24 : decode cX0_openFor 24 = .ok (.invokevirtual 258, 3) := dk_182 1 2 (dk_at dksX0_openFor_1 0 rfl rfl)
theorem dX0_openFor_27 : decode cX0_openFor 27 = .ok (.goto 8, 3) := dk_167 0 8 (dk_at dksX0_openFor_1 3 rfl rfl)
theorem dX0_openFor_30 : decode cX0_openFor 30 = .ok (.aload_n 0, 1) := dk_42 (dk_at dksX0_openFor_1 6 rfl rfl)
theorem dX0_openFor_31 : decode cX0_openFor 31 = .ok (.iconst 0, 1) := dk_3 (dk_at dksX0_openFor_1 7 rfl rfl)
theorem dX0_openFor_32 : decode cX0_openFor 32 = .ok (.invokevirtual 129, 3) := dk_182 0 129 (dk_at dksX0_openFor_1 8 rfl rfl)
theorem dX0_openFor_35 : decode cX0_openFor 35 = .ok (.ireturn, 1) := dk_172 (dk_at dksX0_openFor_1 11 rfl rfl)
abbrev cX0_leastOpen : ByteArray := prog_1_method_53_code
def yX0_leastOpen : MethodName := ⟨RX0, "leastOpen", "(III)I"⟩
def dkwX0_leastOpen_3 : List UInt8 := [180, 0, 79, 180, 0, 114, 5, 50, 27, 21, 4, 79, 21, 5, 172]
abbrev dktX0_leastOpen_3 : List UInt8 := dkwX0_leastOpen_3 ++ []
def dkwX0_leastOpen_2 : List UInt8 := [184, 1, 5, 28, 161, 0, 8, 21, 6, 167, 0, 5, 21, 5, 54, 5, 132, 6, 255, 167, 255, 212, 42]
abbrev dktX0_leastOpen_2 : List UInt8 := dkwX0_leastOpen_2 ++ dktX0_leastOpen_3
def dkwX0_leastOpen_1 : List UInt8 := [155, 0, 45, 42, 180, 0, 79, 180, 0, 114, 5, 50, 27, 21, 6, 79, 42, 27, 8, 29, 182, 0, 251]
abbrev dktX0_leastOpen_1 : List UInt8 := dkwX0_leastOpen_1 ++ dktX0_leastOpen_2
def dkwX0_leastOpen_0 : List UInt8 := [42, 180, 0, 79, 180, 0, 114, 5, 50, 27, 46, 54, 4, 2, 54, 5, 16, 9, 54, 6, 21, 6]
abbrev dktX0_leastOpen_0 : List UInt8 := dkwX0_leastOpen_0 ++ dktX0_leastOpen_1
theorem dksX0_leastOpen_0 : cX0_leastOpen.data.toList.drop 0 = dktX0_leastOpen_0 := by decide +kernel
theorem dksX0_leastOpen_1 : cX0_leastOpen.data.toList.drop 22 = dktX0_leastOpen_1 := dk_seg dksX0_leastOpen_0 22 rfl rfl
theorem dksX0_leastOpen_2 : cX0_leastOpen.data.toList.drop 45 = dktX0_leastOpen_2 := dk_seg dksX0_leastOpen_1 23 rfl rfl
theorem dksX0_leastOpen_3 : cX0_leastOpen.data.toList.drop 68 = dktX0_leastOpen_3 := dk_seg dksX0_leastOpen_2 23 rfl rfl
theorem dX0_leastOpen_0 : decode cX0_leastOpen 0 = .ok (.aload_n 0, 1) := dk_42 (dk_at dksX0_leastOpen_0 0 rfl rfl)
theorem dX0_leastOpen_1 : decode cX0_leastOpen 1 = .ok (.getfield 79, 3) := dk_180 0 79 (dk_at dksX0_leastOpen_0 1 rfl rfl)
theorem dX0_leastOpen_4 : decode cX0_leastOpen 4 = .ok (.getfield 114, 3) := dk_180 0 114 (dk_at dksX0_leastOpen_0 4 rfl rfl)
theorem dX0_leastOpen_7 : decode cX0_leastOpen 7 = .ok (.iconst 2, 1) := dk_5 (dk_at dksX0_leastOpen_0 7 rfl rfl)
theorem dX0_leastOpen_8 : decode cX0_leastOpen 8 = .ok (.aaload, 1) := dk_50 (dk_at dksX0_leastOpen_0 8 rfl rfl)
theorem dX0_leastOpen_9 : decode cX0_leastOpen 9 = .ok (.iload_n 1, 1) := dk_27 (dk_at dksX0_leastOpen_0 9 rfl rfl)
theorem dX0_leastOpen_10 : decode cX0_leastOpen 10 = .ok (.iaload, 1) := dk_46 (dk_at dksX0_leastOpen_0 10 rfl rfl)
theorem dX0_leastOpen_11 : decode cX0_leastOpen 11 = .ok (.istore 4, 2) := dk_54 4 (dk_at dksX0_leastOpen_0 11 rfl rfl)
theorem dX0_leastOpen_13 : decode cX0_leastOpen 13 = .ok (.iconst (-1), 1) := dk_2 (dk_at dksX0_leastOpen_0 13 rfl rfl)
theorem dX0_leastOpen_14 : decode cX0_leastOpen 14 = .ok (.istore 5, 2) := dk_54 5 (dk_at dksX0_leastOpen_0 14 rfl rfl)
theorem dX0_leastOpen_16 : decode cX0_leastOpen 16 = .ok (.bipush 9, 2) := dk_16 9 (dk_at dksX0_leastOpen_0 16 rfl rfl)
theorem dX0_leastOpen_18 : decode cX0_leastOpen 18 = .ok (.istore 6, 2) := dk_54 6 (dk_at dksX0_leastOpen_0 18 rfl rfl)
theorem dX0_leastOpen_20 : decode cX0_leastOpen 20 = .ok (.iload 6, 2) := dk_21 6 (dk_at dksX0_leastOpen_0 20 rfl rfl)
theorem dX0_leastOpen_22 : decode cX0_leastOpen 22 = .ok (.ifCond .lt 45, 3) := dk_155 0 45 (dk_at dksX0_leastOpen_1 0 rfl rfl)
theorem dX0_leastOpen_25 : decode cX0_leastOpen 25 = .ok (.aload_n 0, 1) := dk_42 (dk_at dksX0_leastOpen_1 3 rfl rfl)
theorem dX0_leastOpen_26 : decode cX0_leastOpen 26 = .ok (.getfield 79, 3) := dk_180 0 79 (dk_at dksX0_leastOpen_1 4 rfl rfl)
theorem dX0_leastOpen_29 : decode cX0_leastOpen 29 = .ok (.getfield 114, 3) := dk_180 0 114 (dk_at dksX0_leastOpen_1 7 rfl rfl)
theorem dX0_leastOpen_32 : decode cX0_leastOpen 32 = .ok (.iconst 2, 1) := dk_5 (dk_at dksX0_leastOpen_1 10 rfl rfl)
theorem dX0_leastOpen_33 : decode cX0_leastOpen 33 = .ok (.aaload, 1) := dk_50 (dk_at dksX0_leastOpen_1 11 rfl rfl)
theorem dX0_leastOpen_34 : decode cX0_leastOpen 34 = .ok (.iload_n 1, 1) := dk_27 (dk_at dksX0_leastOpen_1 12 rfl rfl)
theorem dX0_leastOpen_35 : decode cX0_leastOpen 35 = .ok (.iload 6, 2) := dk_21 6 (dk_at dksX0_leastOpen_1 13 rfl rfl)
theorem dX0_leastOpen_37 : decode cX0_leastOpen 37 = .ok (.iastore, 1) := dk_79 (dk_at dksX0_leastOpen_1 15 rfl rfl)
theorem dX0_leastOpen_38 : decode cX0_leastOpen 38 = .ok (.aload_n 0, 1) := dk_42 (dk_at dksX0_leastOpen_1 16 rfl rfl)
theorem dX0_leastOpen_39 : decode cX0_leastOpen 39 = .ok (.iload_n 1, 1) := dk_27 (dk_at dksX0_leastOpen_1 17 rfl rfl)
theorem dX0_leastOpen_40 : decode cX0_leastOpen 40 = .ok (.iconst 5, 1) := dk_8 (dk_at dksX0_leastOpen_1 18 rfl rfl)
theorem dX0_leastOpen_41 : decode cX0_leastOpen 41 = .ok (.iload_n 3, 1) := dk_29 (dk_at dksX0_leastOpen_1 19 rfl rfl)
theorem dX0_leastOpen_42 : decode cX0_leastOpen 42 = .ok (.invokevirtual 251, 3) := dk_182 0 251 (dk_at dksX0_leastOpen_1 20 rfl rfl)
theorem dX0_leastOpen_45 : decode cX0_leastOpen 45 = .ok (.invokestatic 261, 3) := dk_184 1 5 (dk_at dksX0_leastOpen_2 0 rfl rfl)
theorem dX0_leastOpen_48 : decode cX0_leastOpen 48 = .ok (.iload_n 2, 1) := dk_28 (dk_at dksX0_leastOpen_2 3 rfl rfl)
theorem dX0_leastOpen_49 : decode cX0_leastOpen 49 = .ok (.if_icmp .lt 8, 3) := dk_161 0 8 (dk_at dksX0_leastOpen_2 4 rfl rfl)
theorem dX0_leastOpen_52 : decode cX0_leastOpen 52 = .ok (.iload 6, 2) := dk_21 6 (dk_at dksX0_leastOpen_2 7 rfl rfl)
theorem dX0_leastOpen_54 : decode cX0_leastOpen 54 = .ok (.goto 5, 3) := dk_167 0 5 (dk_at dksX0_leastOpen_2 9 rfl rfl)
theorem dX0_leastOpen_57 : decode cX0_leastOpen 57 = .ok (.iload 5, 2) := dk_21 5 (dk_at dksX0_leastOpen_2 12 rfl rfl)
theorem dX0_leastOpen_59 : decode cX0_leastOpen 59 = .ok (.istore 5, 2) := dk_54 5 (dk_at dksX0_leastOpen_2 14 rfl rfl)
theorem dX0_leastOpen_61 : decode cX0_leastOpen 61 = .ok (.iinc 6 (-1), 3) := dk_132 6 255 (dk_at dksX0_leastOpen_2 16 rfl rfl)
theorem dX0_leastOpen_64 : decode cX0_leastOpen 64 = .ok (.goto (-44), 3) := dk_167 255 212 (dk_at dksX0_leastOpen_2 19 rfl rfl)
theorem dX0_leastOpen_67 : decode cX0_leastOpen 67 = .ok (.aload_n 0, 1) := dk_42 (dk_at dksX0_leastOpen_2 22 rfl rfl)
theorem dX0_leastOpen_68 : decode cX0_leastOpen 68 = .ok (.getfield 79, 3) := dk_180 0 79 (dk_at dksX0_leastOpen_3 0 rfl rfl)
theorem dX0_leastOpen_71 : decode cX0_leastOpen 71 = .ok (.getfield 114, 3) := dk_180 0 114 (dk_at dksX0_leastOpen_3 3 rfl rfl)
theorem dX0_leastOpen_74 : decode cX0_leastOpen 74 = .ok (.iconst 2, 1) := dk_5 (dk_at dksX0_leastOpen_3 6 rfl rfl)
theorem dX0_leastOpen_75 : decode cX0_leastOpen 75 = .ok (.aaload, 1) := dk_50 (dk_at dksX0_leastOpen_3 7 rfl rfl)
theorem dX0_leastOpen_76 : decode cX0_leastOpen 76 = .ok (.iload_n 1, 1) := dk_27 (dk_at dksX0_leastOpen_3 8 rfl rfl)
theorem dX0_leastOpen_77 : decode cX0_leastOpen 77 = .ok (.iload 4, 2) := dk_21 4 (dk_at dksX0_leastOpen_3 9 rfl rfl)
theorem dX0_leastOpen_79 : decode cX0_leastOpen 79 = .ok (.iastore, 1) := dk_79 (dk_at dksX0_leastOpen_3 11 rfl rfl)
theorem dX0_leastOpen_80 : decode cX0_leastOpen 80 = .ok (.iload 5, 2) := dk_21 5 (dk_at dksX0_leastOpen_3 12 rfl rfl)
theorem dX0_leastOpen_82 : decode cX0_leastOpen 82 = .ok (.ireturn, 1) := dk_172 (dk_at dksX0_leastOpen_3 14 rfl rfl)
abbrev cX0_kindFor : ByteArray := prog_1_method_55_code
def yX0_kindFor : MethodName := ⟨RX0, "kindFor", "(II)I"⟩
def dkwX0_kindFor_1 : List UInt8 := [182, 0, 129, 172]
abbrev dktX0_kindFor_1 : List UInt8 := dkwX0_kindFor_1 ++ []
def dkwX0_kindFor_0 : List UInt8 := [42, 27, 28, 182, 1, 17, 153, 0, 15, 42, 27, 3, 16, 7, 28, 182, 1, 20, 167, 0, 8, 42, 3]
abbrev dktX0_kindFor_0 : List UInt8 := dkwX0_kindFor_0 ++ dktX0_kindFor_1
theorem dksX0_kindFor_0 : cX0_kindFor.data.toList.drop 0 = dktX0_kindFor_0 := by decide +kernel
theorem dksX0_kindFor_1 : cX0_kindFor.data.toList.drop 23 = dktX0_kindFor_1 := dk_seg dksX0_kindFor_0 23 rfl rfl
theorem dX0_kindFor_0 : decode cX0_kindFor 0 = .ok (.aload_n 0, 1) := dk_42 (dk_at dksX0_kindFor_0 0 rfl rfl)
theorem dX0_kindFor_1 : decode cX0_kindFor 1 = .ok (.iload_n 1, 1) := dk_27 (dk_at dksX0_kindFor_0 1 rfl rfl)
theorem dX0_kindFor_2 : decode cX0_kindFor 2 = .ok (.iload_n 2, 1) := dk_28 (dk_at dksX0_kindFor_0 2 rfl rfl)
theorem dX0_kindFor_3 : decode cX0_kindFor 3 = .ok (.invokevirtual 273, 3) := dk_182 1 17 (dk_at dksX0_kindFor_0 3 rfl rfl)
theorem dX0_kindFor_6 : decode cX0_kindFor 6 = .ok (.ifCond .eq 15, 3) := dk_153 0 15 (dk_at dksX0_kindFor_0 6 rfl rfl)
theorem dX0_kindFor_9 : decode cX0_kindFor 9 = .ok (.aload_n 0, 1) := dk_42 (dk_at dksX0_kindFor_0 9 rfl rfl)
theorem dX0_kindFor_10 : decode cX0_kindFor 10 = .ok (.iload_n 1, 1) := dk_27 (dk_at dksX0_kindFor_0 10 rfl rfl)
theorem dX0_kindFor_11 : decode cX0_kindFor 11 = .ok (.iconst 0, 1) := dk_3 (dk_at dksX0_kindFor_0 11 rfl rfl)
theorem dX0_kindFor_12 : decode cX0_kindFor 12 = .ok (.bipush 7, 2) := dk_16 7 (dk_at dksX0_kindFor_0 12 rfl rfl)
theorem dX0_kindFor_14 : decode cX0_kindFor 14 = .ok (.iload_n 2, 1) := dk_28 (dk_at dksX0_kindFor_0 14 rfl rfl)
theorem dX0_kindFor_15 : decode cX0_kindFor 15 = .ok (.invokevirtual 276, 3) := dk_182 1 20 (dk_at dksX0_kindFor_0 15 rfl rfl)
theorem dX0_kindFor_18 : decode cX0_kindFor 18 = .ok (.goto 8, 3) := dk_167 0 8 (dk_at dksX0_kindFor_0 18 rfl rfl)
theorem dX0_kindFor_21 : decode cX0_kindFor 21 = .ok (.aload_n 0, 1) := dk_42 (dk_at dksX0_kindFor_0 21 rfl rfl)
theorem dX0_kindFor_22 : decode cX0_kindFor 22 = .ok (.iconst 0, 1) := dk_3 (dk_at dksX0_kindFor_0 22 rfl rfl)
theorem dX0_kindFor_23 : decode cX0_kindFor 23 = .ok (.invokevirtual 129, 3) := dk_182 0 129 (dk_at dksX0_kindFor_1 0 rfl rfl)
theorem dX0_kindFor_26 : decode cX0_kindFor 26 = .ok (.ireturn, 1) := dk_172 (dk_at dksX0_kindFor_1 3 rfl rfl)
abbrev cX0_lower : ByteArray := prog_1_method_57_code
def yX0_lower : MethodName := ⟨RX0, "lower", "(I)I"⟩
def dkwX0_lower_1 : List UInt8 := [167, 0, 8, 42, 3, 182, 0, 129, 172]
abbrev dktX0_lower_1 : List UInt8 := dkwX0_lower_1 ++ []
def dkwX0_lower_0 : List UInt8 := [27, 184, 0, 190, 153, 0, 23, 42, 42, 42, 180, 0, 79, 180, 0, 196, 27, 46, 182, 1, 27, 182, 1, 2]
abbrev dktX0_lower_0 : List UInt8 := dkwX0_lower_0 ++ dktX0_lower_1
theorem dksX0_lower_0 : cX0_lower.data.toList.drop 0 = dktX0_lower_0 := by decide +kernel
theorem dksX0_lower_1 : cX0_lower.data.toList.drop 24 = dktX0_lower_1 := dk_seg dksX0_lower_0 24 rfl rfl
theorem dX0_lower_0 : decode cX0_lower 0 = .ok (.iload_n 1, 1) := dk_27 (dk_at dksX0_lower_0 0 rfl rfl)
theorem dX0_lower_1 : decode cX0_lower 1 = .ok (.invokestatic 190, 3) := dk_184 0 190 (dk_at dksX0_lower_0 1 rfl rfl)
theorem dX0_lower_4 : decode cX0_lower 4 = .ok (.ifCond .eq 23, 3) := dk_153 0 23 (dk_at dksX0_lower_0 4 rfl rfl)
theorem dX0_lower_7 : decode cX0_lower 7 = .ok (.aload_n 0, 1) := dk_42 (dk_at dksX0_lower_0 7 rfl rfl)
theorem dX0_lower_8 : decode cX0_lower 8 = .ok (.aload_n 0, 1) := dk_42 (dk_at dksX0_lower_0 8 rfl rfl)
theorem dX0_lower_9 : decode cX0_lower 9 = .ok (.aload_n 0, 1) := dk_42 (dk_at dksX0_lower_0 9 rfl rfl)
theorem dX0_lower_10 : decode cX0_lower 10 = .ok (.getfield 79, 3) := dk_180 0 79 (dk_at dksX0_lower_0 10 rfl rfl)
theorem dX0_lower_13 : decode cX0_lower 13 = .ok (.getfield 196, 3) := dk_180 0 196 (dk_at dksX0_lower_0 13 rfl rfl)
theorem dX0_lower_16 : decode cX0_lower 16 = .ok (.iload_n 1, 1) := dk_27 (dk_at dksX0_lower_0 16 rfl rfl)
theorem dX0_lower_17 : decode cX0_lower 17 = .ok (.iaload, 1) := dk_46 (dk_at dksX0_lower_0 17 rfl rfl)
theorem dX0_lower_18 : decode cX0_lower 18 = .ok (.invokevirtual 283, 3) := dk_182 1 27 (dk_at dksX0_lower_0 18 rfl rfl)
theorem dX0_lower_21 : decode cX0_lower 21 = .ok (.invokevirtual 258, 3) := dk_182 1 2 (dk_at dksX0_lower_0 21 rfl rfl)
theorem dX0_lower_24 : decode cX0_lower 24 = .ok (.goto 8, 3) := dk_167 0 8 (dk_at dksX0_lower_1 0 rfl rfl)
theorem dX0_lower_27 : decode cX0_lower 27 = .ok (.aload_n 0, 1) := dk_42 (dk_at dksX0_lower_1 3 rfl rfl)
theorem dX0_lower_28 : decode cX0_lower 28 = .ok (.iconst 0, 1) := dk_3 (dk_at dksX0_lower_1 4 rfl rfl)
theorem dX0_lower_29 : decode cX0_lower 29 = .ok (.invokevirtual 129, 3) := dk_182 0 129 (dk_at dksX0_lower_1 5 rfl rfl)
theorem dX0_lower_32 : decode cX0_lower 32 = .ok (.ireturn, 1) := dk_172 (dk_at dksX0_lower_1 8 rfl rfl)
abbrev cX0_greatestUnheard : ByteArray := prog_1_method_56_code
def yX0_greatestUnheard : MethodName := ⟨RX0, "greatestUnheard", "(I)I"⟩
def dkwX0_greatestUnheard_1 : List UInt8 := [132, 2, 255, 167, 255, 234, 28, 172]
abbrev dktX0_greatestUnheard_1 : List UInt8 := dkwX0_greatestUnheard_1 ++ []
def dkwX0_greatestUnheard_0 : List UInt8 := [16, 9, 61, 28, 155, 0, 24, 42, 27, 27, 184, 0, 146, 100, 28, 96, 182, 0, 164, 153, 0, 9]
abbrev dktX0_greatestUnheard_0 : List UInt8 := dkwX0_greatestUnheard_0 ++ dktX0_greatestUnheard_1
theorem dksX0_greatestUnheard_0 : cX0_greatestUnheard.data.toList.drop 0 = dktX0_greatestUnheard_0 := by decide +kernel
theorem dksX0_greatestUnheard_1 : cX0_greatestUnheard.data.toList.drop 22 = dktX0_greatestUnheard_1 := dk_seg dksX0_greatestUnheard_0 22 rfl rfl
theorem dX0_greatestUnheard_0 : decode cX0_greatestUnheard 0 = .ok (.bipush 9, 2) := dk_16 9 (dk_at dksX0_greatestUnheard_0 0 rfl rfl)
theorem dX0_greatestUnheard_2 : decode cX0_greatestUnheard 2 = .ok (.istore_n 2, 1) := dk_61 (dk_at dksX0_greatestUnheard_0 2 rfl rfl)
theorem dX0_greatestUnheard_3 : decode cX0_greatestUnheard 3 = .ok (.iload_n 2, 1) := dk_28 (dk_at dksX0_greatestUnheard_0 3 rfl rfl)
theorem dX0_greatestUnheard_4 : decode cX0_greatestUnheard 4 = .ok (.ifCond .lt 24, 3) := dk_155 0 24 (dk_at dksX0_greatestUnheard_0 4 rfl rfl)
theorem dX0_greatestUnheard_7 : decode cX0_greatestUnheard 7 = .ok (.aload_n 0, 1) := dk_42 (dk_at dksX0_greatestUnheard_0 7 rfl rfl)
theorem dX0_greatestUnheard_8 : decode cX0_greatestUnheard 8 = .ok (.iload_n 1, 1) := dk_27 (dk_at dksX0_greatestUnheard_0 8 rfl rfl)
theorem dX0_greatestUnheard_9 : decode cX0_greatestUnheard 9 = .ok (.iload_n 1, 1) := dk_27 (dk_at dksX0_greatestUnheard_0 9 rfl rfl)
theorem dX0_greatestUnheard_10 : decode cX0_greatestUnheard 10 = .ok (.invokestatic 146, 3) := dk_184 0 146 (dk_at dksX0_greatestUnheard_0 10 rfl rfl)
theorem dX0_greatestUnheard_13 : decode cX0_greatestUnheard 13 = .ok (.isub, 1) := dk_100 (dk_at dksX0_greatestUnheard_0 13 rfl rfl)
theorem dX0_greatestUnheard_14 : decode cX0_greatestUnheard 14 = .ok (.iload_n 2, 1) := dk_28 (dk_at dksX0_greatestUnheard_0 14 rfl rfl)
theorem dX0_greatestUnheard_15 : decode cX0_greatestUnheard 15 = .ok (.iadd, 1) := dk_96 (dk_at dksX0_greatestUnheard_0 15 rfl rfl)
theorem dX0_greatestUnheard_16 : decode cX0_greatestUnheard 16 = .ok (.invokevirtual 164, 3) := dk_182 0 164 (dk_at dksX0_greatestUnheard_0 16 rfl rfl)
theorem dX0_greatestUnheard_19 : decode cX0_greatestUnheard 19 = .ok (.ifCond .eq 9, 3) := dk_153 0 9 (dk_at dksX0_greatestUnheard_0 19 rfl rfl)
theorem dX0_greatestUnheard_22 : decode cX0_greatestUnheard 22 = .ok (.iinc 2 (-1), 3) := dk_132 2 255 (dk_at dksX0_greatestUnheard_1 0 rfl rfl)
theorem dX0_greatestUnheard_25 : decode cX0_greatestUnheard 25 = .ok (.goto (-22), 3) := dk_167 255 234 (dk_at dksX0_greatestUnheard_1 3 rfl rfl)
theorem dX0_greatestUnheard_28 : decode cX0_greatestUnheard 28 = .ok (.iload_n 2, 1) := dk_28 (dk_at dksX0_greatestUnheard_1 6 rfl rfl)
theorem dX0_greatestUnheard_29 : decode cX0_greatestUnheard 29 = .ok (.ireturn, 1) := dk_172 (dk_at dksX0_greatestUnheard_1 7 rfl rfl)
abbrev cX0_cover : ByteArray := prog_1_method_59_code
def yX0_cover : MethodName := ⟨RX0, "cover", "(I)I"⟩
def dkwX0_cover_1 : List UInt8 := [172]
abbrev dktX0_cover_1 : List UInt8 := dkwX0_cover_1 ++ []
def dkwX0_cover_0 : List UInt8 := [27, 184, 0, 30, 153, 0, 15, 42, 42, 27, 182, 1, 30, 182, 1, 2, 167, 0, 8, 42, 3, 182, 0, 129]
abbrev dktX0_cover_0 : List UInt8 := dkwX0_cover_0 ++ dktX0_cover_1
theorem dksX0_cover_0 : cX0_cover.data.toList.drop 0 = dktX0_cover_0 := by decide +kernel
theorem dksX0_cover_1 : cX0_cover.data.toList.drop 24 = dktX0_cover_1 := dk_seg dksX0_cover_0 24 rfl rfl
theorem dX0_cover_0 : decode cX0_cover 0 = .ok (.iload_n 1, 1) := dk_27 (dk_at dksX0_cover_0 0 rfl rfl)
theorem dX0_cover_1 : decode cX0_cover 1 = .ok (.invokestatic 30, 3) := dk_184 0 30 (dk_at dksX0_cover_0 1 rfl rfl)
theorem dX0_cover_4 : decode cX0_cover 4 = .ok (.ifCond .eq 15, 3) := dk_153 0 15 (dk_at dksX0_cover_0 4 rfl rfl)
theorem dX0_cover_7 : decode cX0_cover 7 = .ok (.aload_n 0, 1) := dk_42 (dk_at dksX0_cover_0 7 rfl rfl)
theorem dX0_cover_8 : decode cX0_cover 8 = .ok (.aload_n 0, 1) := dk_42 (dk_at dksX0_cover_0 8 rfl rfl)
theorem dX0_cover_9 : decode cX0_cover 9 = .ok (.iload_n 1, 1) := dk_27 (dk_at dksX0_cover_0 9 rfl rfl)
theorem dX0_cover_10 : decode cX0_cover 10 = .ok (.invokevirtual 286, 3) := dk_182 1 30 (dk_at dksX0_cover_0 10 rfl rfl)
theorem dX0_cover_13 : decode cX0_cover 13 = .ok (.invokevirtual 258, 3) := dk_182 1 2 (dk_at dksX0_cover_0 13 rfl rfl)
theorem dX0_cover_16 : decode cX0_cover 16 = .ok (.goto 8, 3) := dk_167 0 8 (dk_at dksX0_cover_0 16 rfl rfl)
theorem dX0_cover_19 : decode cX0_cover 19 = .ok (.aload_n 0, 1) := dk_42 (dk_at dksX0_cover_0 19 rfl rfl)
theorem dX0_cover_20 : decode cX0_cover 20 = .ok (.iconst 0, 1) := dk_3 (dk_at dksX0_cover_0 20 rfl rfl)
theorem dX0_cover_21 : decode cX0_cover 21 = .ok (.invokevirtual 129, 3) := dk_182 0 129 (dk_at dksX0_cover_0 21 rfl rfl)
theorem dX0_cover_24 : decode cX0_cover 24 = .ok (.ireturn, 1) := dk_172 (dk_at dksX0_cover_1 0 rfl rfl)
abbrev cX0_fewestKnowing : ByteArray := prog_1_method_58_code
def yX0_fewestKnowing : MethodName := ⟨RX0, "fewestKnowing", "(I)I"⟩
def dkwX0_fewestKnowing_2 : List UInt8 := [29, 182, 0, 238, 2, 130, 126, 154, 0, 7, 29, 167, 0, 4, 28, 61, 132, 3, 1, 167, 255, 193, 28, 172]
abbrev dktX0_fewestKnowing_2 : List UInt8 := dkwX0_fewestKnowing_2 ++ []
def dkwX0_fewestKnowing_1 : List UInt8 := [28, 184, 1, 5, 162, 0, 7, 4, 167, 0, 4, 3, 54, 4, 21, 4, 153, 0, 22, 27, 42, 180, 0, 79]
abbrev dktX0_fewestKnowing_1 : List UInt8 := dkwX0_fewestKnowing_1 ++ dktX0_fewestKnowing_2
def dkwX0_fewestKnowing_0 : List UInt8 := [2, 61, 3, 62, 29, 42, 180, 0, 79, 182, 0, 229, 163, 0, 58, 28, 2, 159, 0, 14, 29, 184, 1, 5]
abbrev dktX0_fewestKnowing_0 : List UInt8 := dkwX0_fewestKnowing_0 ++ dktX0_fewestKnowing_1
theorem dksX0_fewestKnowing_0 : cX0_fewestKnowing.data.toList.drop 0 = dktX0_fewestKnowing_0 := by decide +kernel
theorem dksX0_fewestKnowing_1 : cX0_fewestKnowing.data.toList.drop 24 = dktX0_fewestKnowing_1 := dk_seg dksX0_fewestKnowing_0 24 rfl rfl
theorem dksX0_fewestKnowing_2 : cX0_fewestKnowing.data.toList.drop 48 = dktX0_fewestKnowing_2 := dk_seg dksX0_fewestKnowing_1 24 rfl rfl
theorem dX0_fewestKnowing_0 : decode cX0_fewestKnowing 0 = .ok (.iconst (-1), 1) := dk_2 (dk_at dksX0_fewestKnowing_0 0 rfl rfl)
theorem dX0_fewestKnowing_1 : decode cX0_fewestKnowing 1 = .ok (.istore_n 2, 1) := dk_61 (dk_at dksX0_fewestKnowing_0 1 rfl rfl)
theorem dX0_fewestKnowing_2 : decode cX0_fewestKnowing 2 = .ok (.iconst 0, 1) := dk_3 (dk_at dksX0_fewestKnowing_0 2 rfl rfl)
theorem dX0_fewestKnowing_3 : decode cX0_fewestKnowing 3 = .ok (.istore_n 3, 1) := dk_62 (dk_at dksX0_fewestKnowing_0 3 rfl rfl)
theorem dX0_fewestKnowing_4 : decode cX0_fewestKnowing 4 = .ok (.iload_n 3, 1) := dk_29 (dk_at dksX0_fewestKnowing_0 4 rfl rfl)
theorem dX0_fewestKnowing_5 : decode cX0_fewestKnowing 5 = .ok (.aload_n 0, 1) := dk_42 (dk_at dksX0_fewestKnowing_0 5 rfl rfl)
theorem dX0_fewestKnowing_6 : decode cX0_fewestKnowing 6 = .ok (.getfield 79, 3) := dk_180 0 79 (dk_at dksX0_fewestKnowing_0 6 rfl rfl)
theorem dX0_fewestKnowing_9 : decode cX0_fewestKnowing 9 = .ok (.invokevirtual 229, 3) := dk_182 0 229 (dk_at dksX0_fewestKnowing_0 9 rfl rfl)
theorem dX0_fewestKnowing_12 : decode cX0_fewestKnowing 12 = .ok (.if_icmp .gt 58, 3) := dk_163 0 58 (dk_at dksX0_fewestKnowing_0 12 rfl rfl)
theorem dX0_fewestKnowing_15 : decode cX0_fewestKnowing 15 = .ok (.iload_n 2, 1) := dk_28 (dk_at dksX0_fewestKnowing_0 15 rfl rfl)
theorem dX0_fewestKnowing_16 : decode cX0_fewestKnowing 16 = .ok (.iconst (-1), 1) := dk_2 (dk_at dksX0_fewestKnowing_0 16 rfl rfl)
theorem dX0_fewestKnowing_17 : decode cX0_fewestKnowing 17 = .ok (.if_icmp .eq 14, 3) := dk_159 0 14 (dk_at dksX0_fewestKnowing_0 17 rfl rfl)
theorem dX0_fewestKnowing_20 : decode cX0_fewestKnowing 20 = .ok (.iload_n 3, 1) := dk_29 (dk_at dksX0_fewestKnowing_0 20 rfl rfl)
theorem dX0_fewestKnowing_21 : decode cX0_fewestKnowing 21 = .ok (.invokestatic 261, 3) := dk_184 1 5 (dk_at dksX0_fewestKnowing_0 21 rfl rfl)
theorem dX0_fewestKnowing_24 : decode cX0_fewestKnowing 24 = .ok (.iload_n 2, 1) := dk_28 (dk_at dksX0_fewestKnowing_1 0 rfl rfl)
theorem dX0_fewestKnowing_25 : decode cX0_fewestKnowing 25 = .ok (.invokestatic 261, 3) := dk_184 1 5 (dk_at dksX0_fewestKnowing_1 1 rfl rfl)
theorem dX0_fewestKnowing_28 : decode cX0_fewestKnowing 28 = .ok (.if_icmp .ge 7, 3) := dk_162 0 7 (dk_at dksX0_fewestKnowing_1 4 rfl rfl)
theorem dX0_fewestKnowing_31 : decode cX0_fewestKnowing 31 = .ok (.iconst 1, 1) := dk_4 (dk_at dksX0_fewestKnowing_1 7 rfl rfl)
theorem dX0_fewestKnowing_32 : decode cX0_fewestKnowing 32 = .ok (.goto 4, 3) := dk_167 0 4 (dk_at dksX0_fewestKnowing_1 8 rfl rfl)
theorem dX0_fewestKnowing_35 : decode cX0_fewestKnowing 35 = .ok (.iconst 0, 1) := dk_3 (dk_at dksX0_fewestKnowing_1 11 rfl rfl)
theorem dX0_fewestKnowing_36 : decode cX0_fewestKnowing 36 = .ok (.istore 4, 2) := dk_54 4 (dk_at dksX0_fewestKnowing_1 12 rfl rfl)
theorem dX0_fewestKnowing_38 : decode cX0_fewestKnowing 38 = .ok (.iload 4, 2) := dk_21 4 (dk_at dksX0_fewestKnowing_1 14 rfl rfl)
theorem dX0_fewestKnowing_40 : decode cX0_fewestKnowing 40 = .ok (.ifCond .eq 22, 3) := dk_153 0 22 (dk_at dksX0_fewestKnowing_1 16 rfl rfl)
theorem dX0_fewestKnowing_43 : decode cX0_fewestKnowing 43 = .ok (.iload_n 1, 1) := dk_27 (dk_at dksX0_fewestKnowing_1 19 rfl rfl)
theorem dX0_fewestKnowing_44 : decode cX0_fewestKnowing 44 = .ok (.aload_n 0, 1) := dk_42 (dk_at dksX0_fewestKnowing_1 20 rfl rfl)
theorem dX0_fewestKnowing_45 : decode cX0_fewestKnowing 45 = .ok (.getfield 79, 3) := dk_180 0 79 (dk_at dksX0_fewestKnowing_1 21 rfl rfl)
theorem dX0_fewestKnowing_48 : decode cX0_fewestKnowing 48 = .ok (.iload_n 3, 1) := dk_29 (dk_at dksX0_fewestKnowing_2 0 rfl rfl)
theorem dX0_fewestKnowing_49 : decode cX0_fewestKnowing 49 = .ok (.invokevirtual 238, 3) := dk_182 0 238 (dk_at dksX0_fewestKnowing_2 1 rfl rfl)
theorem dX0_fewestKnowing_52 : decode cX0_fewestKnowing 52 = .ok (.iconst (-1), 1) := dk_2 (dk_at dksX0_fewestKnowing_2 4 rfl rfl)
theorem dX0_fewestKnowing_53 : decode cX0_fewestKnowing 53 = .ok (.ixor, 1) := dk_130 (dk_at dksX0_fewestKnowing_2 5 rfl rfl)
theorem dX0_fewestKnowing_54 : decode cX0_fewestKnowing 54 = .ok (.iand, 1) := dk_126 (dk_at dksX0_fewestKnowing_2 6 rfl rfl)
theorem dX0_fewestKnowing_55 : decode cX0_fewestKnowing 55 = .ok (.ifCond .ne 7, 3) := dk_154 0 7 (dk_at dksX0_fewestKnowing_2 7 rfl rfl)
theorem dX0_fewestKnowing_58 : decode cX0_fewestKnowing 58 = .ok (.iload_n 3, 1) := dk_29 (dk_at dksX0_fewestKnowing_2 10 rfl rfl)
theorem dX0_fewestKnowing_59 : decode cX0_fewestKnowing 59 = .ok (.goto 4, 3) := dk_167 0 4 (dk_at dksX0_fewestKnowing_2 11 rfl rfl)
theorem dX0_fewestKnowing_62 : decode cX0_fewestKnowing 62 = .ok (.iload_n 2, 1) := dk_28 (dk_at dksX0_fewestKnowing_2 14 rfl rfl)
theorem dX0_fewestKnowing_63 : decode cX0_fewestKnowing 63 = .ok (.istore_n 2, 1) := dk_61 (dk_at dksX0_fewestKnowing_2 15 rfl rfl)
theorem dX0_fewestKnowing_64 : decode cX0_fewestKnowing 64 = .ok (.iinc 3 1, 3) := dk_132 3 1 (dk_at dksX0_fewestKnowing_2 16 rfl rfl)
theorem dX0_fewestKnowing_67 : decode cX0_fewestKnowing 67 = .ok (.goto (-63), 3) := dk_167 255 193 (dk_at dksX0_fewestKnowing_2 19 rfl rfl)
theorem dX0_fewestKnowing_70 : decode cX0_fewestKnowing 70 = .ok (.iload_n 2, 1) := dk_28 (dk_at dksX0_fewestKnowing_2 22 rfl rfl)
theorem dX0_fewestKnowing_71 : decode cX0_fewestKnowing 71 = .ok (.ireturn, 1) := dk_172 (dk_at dksX0_fewestKnowing_2 23 rfl rfl)
abbrev cX0_away : ByteArray := prog_1_method_62_code
def yX0_away : MethodName := ⟨RX0, "away", "(III)I"⟩
def dkwX0_away_2 : List UInt8 := [182, 1, 2, 167, 0, 8, 42, 3, 182, 0, 129, 172]
abbrev dktX0_away_2 : List UInt8 := dkwX0_away_2 ++ []
def dkwX0_away_1 : List UInt8 := [153, 0, 7, 4, 167, 0, 4, 3, 54, 4, 21, 4, 153, 0, 17, 42, 42, 27, 28, 29, 182, 1, 36]
abbrev dktX0_away_1 : List UInt8 := dkwX0_away_1 ++ dktX0_away_2
def dkwX0_away_0 : List UInt8 := [42, 27, 182, 0, 208, 153, 0, 24, 28, 184, 0, 24, 153, 0, 17, 29, 3, 16, 20, 184, 0, 9]
abbrev dktX0_away_0 : List UInt8 := dkwX0_away_0 ++ dktX0_away_1
theorem dksX0_away_0 : cX0_away.data.toList.drop 0 = dktX0_away_0 := by decide +kernel
theorem dksX0_away_1 : cX0_away.data.toList.drop 22 = dktX0_away_1 := dk_seg dksX0_away_0 22 rfl rfl
theorem dksX0_away_2 : cX0_away.data.toList.drop 45 = dktX0_away_2 := dk_seg dksX0_away_1 23 rfl rfl
theorem dX0_away_0 : decode cX0_away 0 = .ok (.aload_n 0, 1) := dk_42 (dk_at dksX0_away_0 0 rfl rfl)
theorem dX0_away_1 : decode cX0_away 1 = .ok (.iload_n 1, 1) := dk_27 (dk_at dksX0_away_0 1 rfl rfl)
theorem dX0_away_2 : decode cX0_away 2 = .ok (.invokevirtual 208, 3) := dk_182 0 208 (dk_at dksX0_away_0 2 rfl rfl)
theorem dX0_away_5 : decode cX0_away 5 = .ok (.ifCond .eq 24, 3) := dk_153 0 24 (dk_at dksX0_away_0 5 rfl rfl)
theorem dX0_away_8 : decode cX0_away 8 = .ok (.iload_n 2, 1) := dk_28 (dk_at dksX0_away_0 8 rfl rfl)
theorem dX0_away_9 : decode cX0_away 9 = .ok (.invokestatic 24, 3) := dk_184 0 24 (dk_at dksX0_away_0 9 rfl rfl)
theorem dX0_away_12 : decode cX0_away 12 = .ok (.ifCond .eq 17, 3) := dk_153 0 17 (dk_at dksX0_away_0 12 rfl rfl)
theorem dX0_away_15 : decode cX0_away 15 = .ok (.iload_n 3, 1) := dk_29 (dk_at dksX0_away_0 15 rfl rfl)
theorem dX0_away_16 : decode cX0_away 16 = .ok (.iconst 0, 1) := dk_3 (dk_at dksX0_away_0 16 rfl rfl)
theorem dX0_away_17 : decode cX0_away 17 = .ok (.bipush 20, 2) := dk_16 20 (dk_at dksX0_away_0 17 rfl rfl)
theorem dX0_away_19 : decode cX0_away 19 = .ok (.invokestatic 9, 3) := dk_184 0 9 (dk_at dksX0_away_0 19 rfl rfl)
theorem dX0_away_22 : decode cX0_away 22 = .ok (.ifCond .eq 7, 3) := dk_153 0 7 (dk_at dksX0_away_1 0 rfl rfl)
theorem dX0_away_25 : decode cX0_away 25 = .ok (.iconst 1, 1) := dk_4 (dk_at dksX0_away_1 3 rfl rfl)
theorem dX0_away_26 : decode cX0_away 26 = .ok (.goto 4, 3) := dk_167 0 4 (dk_at dksX0_away_1 4 rfl rfl)
theorem dX0_away_29 : decode cX0_away 29 = .ok (.iconst 0, 1) := dk_3 (dk_at dksX0_away_1 7 rfl rfl)
theorem dX0_away_30 : decode cX0_away 30 = .ok (.istore 4, 2) := dk_54 4 (dk_at dksX0_away_1 8 rfl rfl)
theorem dX0_away_32 : decode cX0_away 32 = .ok (.iload 4, 2) := dk_21 4 (dk_at dksX0_away_1 10 rfl rfl)
theorem dX0_away_34 : decode cX0_away 34 = .ok (.ifCond .eq 17, 3) := dk_153 0 17 (dk_at dksX0_away_1 12 rfl rfl)
theorem dX0_away_37 : decode cX0_away 37 = .ok (.aload_n 0, 1) := dk_42 (dk_at dksX0_away_1 15 rfl rfl)
theorem dX0_away_38 : decode cX0_away 38 = .ok (.aload_n 0, 1) := dk_42 (dk_at dksX0_away_1 16 rfl rfl)
theorem dX0_away_39 : decode cX0_away 39 = .ok (.iload_n 1, 1) := dk_27 (dk_at dksX0_away_1 17 rfl rfl)
theorem dX0_away_40 : decode cX0_away 40 = .ok (.iload_n 2, 1) := dk_28 (dk_at dksX0_away_1 18 rfl rfl)
theorem dX0_away_41 : decode cX0_away 41 = .ok (.iload_n 3, 1) := dk_29 (dk_at dksX0_away_1 19 rfl rfl)
theorem dX0_away_42 : decode cX0_away 42 = .ok (.invokevirtual 292, 3) := dk_182 1 36 (dk_at dksX0_away_1 20 rfl rfl)
theorem dX0_away_45 : decode cX0_away 45 = .ok (.invokevirtual 258, 3) := dk_182 1 2 (dk_at dksX0_away_2 0 rfl rfl)
theorem dX0_away_48 : decode cX0_away 48 = .ok (.goto 8, 3) := dk_167 0 8 (dk_at dksX0_away_2 3 rfl rfl)
theorem dX0_away_51 : decode cX0_away 51 = .ok (.aload_n 0, 1) := dk_42 (dk_at dksX0_away_2 6 rfl rfl)
theorem dX0_away_52 : decode cX0_away 52 = .ok (.iconst 0, 1) := dk_3 (dk_at dksX0_away_2 7 rfl rfl)
theorem dX0_away_53 : decode cX0_away 53 = .ok (.invokevirtual 129, 3) := dk_182 0 129 (dk_at dksX0_away_2 8 rfl rfl)
theorem dX0_away_56 : decode cX0_away 56 = .ok (.ireturn, 1) := dk_172 (dk_at dksX0_away_2 11 rfl rfl)
abbrev cX0_fewestAway : ByteArray := prog_1_method_61_code
def yX0_fewestAway : MethodName := ⟨RX0, "fewestAway", "(III)I"⟩
def dkwX0_fewestAway_4 : List UInt8 := [180, 0, 79, 3, 181, 0, 174, 21, 4, 172]
abbrev dktX0_fewestAway_4 : List UInt8 := dkwX0_fewestAway_4 ++ []
def dkwX0_fewestAway_3 : List UInt8 := [182, 1, 33, 153, 0, 8, 21, 5, 167, 0, 5, 21, 4, 54, 4, 132, 5, 1, 167, 255, 173, 42]
abbrev dktX0_fewestAway_3 : List UInt8 := dkwX0_fewestAway_3 ++ dktX0_fewestAway_4
def dkwX0_fewestAway_2 : List UInt8 := [167, 0, 4, 3, 54, 6, 42, 180, 0, 79, 21, 5, 181, 0, 174, 21, 6, 153, 0, 18, 42, 27, 28, 29]
abbrev dktX0_fewestAway_2 : List UInt8 := dkwX0_fewestAway_2 ++ dktX0_fewestAway_3
def dkwX0_fewestAway_1 : List UInt8 := [154, 0, 26, 21, 4, 2, 159, 0, 16, 21, 5, 184, 1, 5, 21, 4, 184, 1, 5, 162, 0, 7, 4]
abbrev dktX0_fewestAway_1 : List UInt8 := dkwX0_fewestAway_1 ++ dktX0_fewestAway_2
def dkwX0_fewestAway_0 : List UInt8 := [2, 54, 4, 3, 54, 5, 21, 5, 42, 180, 0, 79, 182, 0, 229, 163, 0, 77, 21, 5, 27, 184, 0, 134]
abbrev dktX0_fewestAway_0 : List UInt8 := dkwX0_fewestAway_0 ++ dktX0_fewestAway_1
theorem dksX0_fewestAway_0 : cX0_fewestAway.data.toList.drop 0 = dktX0_fewestAway_0 := by decide +kernel
theorem dksX0_fewestAway_1 : cX0_fewestAway.data.toList.drop 24 = dktX0_fewestAway_1 := dk_seg dksX0_fewestAway_0 24 rfl rfl
theorem dksX0_fewestAway_2 : cX0_fewestAway.data.toList.drop 47 = dktX0_fewestAway_2 := dk_seg dksX0_fewestAway_1 23 rfl rfl
theorem dksX0_fewestAway_3 : cX0_fewestAway.data.toList.drop 71 = dktX0_fewestAway_3 := dk_seg dksX0_fewestAway_2 24 rfl rfl
theorem dksX0_fewestAway_4 : cX0_fewestAway.data.toList.drop 93 = dktX0_fewestAway_4 := dk_seg dksX0_fewestAway_3 22 rfl rfl
theorem dX0_fewestAway_0 : decode cX0_fewestAway 0 = .ok (.iconst (-1), 1) := dk_2 (dk_at dksX0_fewestAway_0 0 rfl rfl)
theorem dX0_fewestAway_1 : decode cX0_fewestAway 1 = .ok (.istore 4, 2) := dk_54 4 (dk_at dksX0_fewestAway_0 1 rfl rfl)
theorem dX0_fewestAway_3 : decode cX0_fewestAway 3 = .ok (.iconst 0, 1) := dk_3 (dk_at dksX0_fewestAway_0 3 rfl rfl)
theorem dX0_fewestAway_4 : decode cX0_fewestAway 4 = .ok (.istore 5, 2) := dk_54 5 (dk_at dksX0_fewestAway_0 4 rfl rfl)
theorem dX0_fewestAway_6 : decode cX0_fewestAway 6 = .ok (.iload 5, 2) := dk_21 5 (dk_at dksX0_fewestAway_0 6 rfl rfl)
theorem dX0_fewestAway_8 : decode cX0_fewestAway 8 = .ok (.aload_n 0, 1) := dk_42 (dk_at dksX0_fewestAway_0 8 rfl rfl)
theorem dX0_fewestAway_9 : decode cX0_fewestAway 9 = .ok (.getfield 79, 3) := dk_180 0 79 (dk_at dksX0_fewestAway_0 9 rfl rfl)
theorem dX0_fewestAway_12 : decode cX0_fewestAway 12 = .ok (.invokevirtual 229, 3) := dk_182 0 229 (dk_at dksX0_fewestAway_0 12 rfl rfl)
theorem dX0_fewestAway_15 : decode cX0_fewestAway 15 = .ok (.if_icmp .gt 77, 3) := dk_163 0 77 (dk_at dksX0_fewestAway_0 15 rfl rfl)
theorem dX0_fewestAway_18 : decode cX0_fewestAway 18 = .ok (.iload 5, 2) := dk_21 5 (dk_at dksX0_fewestAway_0 18 rfl rfl)
theorem dX0_fewestAway_20 : decode cX0_fewestAway 20 = .ok (.iload_n 1, 1) := dk_27 (dk_at dksX0_fewestAway_0 20 rfl rfl)
theorem dX0_fewestAway_21 : decode cX0_fewestAway 21 = .ok (.invokestatic 134, 3) := dk_184 0 134 (dk_at dksX0_fewestAway_0 21 rfl rfl)
theorem dX0_fewestAway_24 : decode cX0_fewestAway 24 = .ok (.ifCond .ne 26, 3) := dk_154 0 26 (dk_at dksX0_fewestAway_1 0 rfl rfl)
theorem dX0_fewestAway_27 : decode cX0_fewestAway 27 = .ok (.iload 4, 2) := dk_21 4 (dk_at dksX0_fewestAway_1 3 rfl rfl)
theorem dX0_fewestAway_29 : decode cX0_fewestAway 29 = .ok (.iconst (-1), 1) := dk_2 (dk_at dksX0_fewestAway_1 5 rfl rfl)
theorem dX0_fewestAway_30 : decode cX0_fewestAway 30 = .ok (.if_icmp .eq 16, 3) := dk_159 0 16 (dk_at dksX0_fewestAway_1 6 rfl rfl)
theorem dX0_fewestAway_33 : decode cX0_fewestAway 33 = .ok (.iload 5, 2) := dk_21 5 (dk_at dksX0_fewestAway_1 9 rfl rfl)
theorem dX0_fewestAway_35 : decode cX0_fewestAway 35 = .ok (.invokestatic 261, 3) := dk_184 1 5 (dk_at dksX0_fewestAway_1 11 rfl rfl)
theorem dX0_fewestAway_38 : decode cX0_fewestAway 38 = .ok (.iload 4, 2) := dk_21 4 (dk_at dksX0_fewestAway_1 14 rfl rfl)
theorem dX0_fewestAway_40 : decode cX0_fewestAway 40 = .ok (.invokestatic 261, 3) := dk_184 1 5 (dk_at dksX0_fewestAway_1 16 rfl rfl)
theorem dX0_fewestAway_43 : decode cX0_fewestAway 43 = .ok (.if_icmp .ge 7, 3) := dk_162 0 7 (dk_at dksX0_fewestAway_1 19 rfl rfl)
theorem dX0_fewestAway_46 : decode cX0_fewestAway 46 = .ok (.iconst 1, 1) := dk_4 (dk_at dksX0_fewestAway_1 22 rfl rfl)
theorem dX0_fewestAway_47 : decode cX0_fewestAway 47 = .ok (.goto 4, 3) := dk_167 0 4 (dk_at dksX0_fewestAway_2 0 rfl rfl)
theorem dX0_fewestAway_50 : decode cX0_fewestAway 50 = .ok (.iconst 0, 1) := dk_3 (dk_at dksX0_fewestAway_2 3 rfl rfl)
theorem dX0_fewestAway_51 : decode cX0_fewestAway 51 = .ok (.istore 6, 2) := dk_54 6 (dk_at dksX0_fewestAway_2 4 rfl rfl)
theorem dX0_fewestAway_53 : decode cX0_fewestAway 53 = .ok (.aload_n 0, 1) := dk_42 (dk_at dksX0_fewestAway_2 6 rfl rfl)
theorem dX0_fewestAway_54 : decode cX0_fewestAway 54 = .ok (.getfield 79, 3) := dk_180 0 79 (dk_at dksX0_fewestAway_2 7 rfl rfl)
theorem dX0_fewestAway_57 : decode cX0_fewestAway 57 = .ok (.iload 5, 2) := dk_21 5 (dk_at dksX0_fewestAway_2 10 rfl rfl)
theorem dX0_fewestAway_59 : decode cX0_fewestAway 59 = .ok (.putfield 174, 3) := dk_181 0 174 (dk_at dksX0_fewestAway_2 12 rfl rfl)
theorem dX0_fewestAway_62 : decode cX0_fewestAway 62 = .ok (.iload 6, 2) := dk_21 6 (dk_at dksX0_fewestAway_2 15 rfl rfl)
theorem dX0_fewestAway_64 : decode cX0_fewestAway 64 = .ok (.ifCond .eq 18, 3) := dk_153 0 18 (dk_at dksX0_fewestAway_2 17 rfl rfl)
theorem dX0_fewestAway_67 : decode cX0_fewestAway 67 = .ok (.aload_n 0, 1) := dk_42 (dk_at dksX0_fewestAway_2 20 rfl rfl)
theorem dX0_fewestAway_68 : decode cX0_fewestAway 68 = .ok (.iload_n 1, 1) := dk_27 (dk_at dksX0_fewestAway_2 21 rfl rfl)
theorem dX0_fewestAway_69 : decode cX0_fewestAway 69 = .ok (.iload_n 2, 1) := dk_28 (dk_at dksX0_fewestAway_2 22 rfl rfl)
theorem dX0_fewestAway_70 : decode cX0_fewestAway 70 = .ok (.iload_n 3, 1) := dk_29 (dk_at dksX0_fewestAway_2 23 rfl rfl)
theorem dX0_fewestAway_71 : decode cX0_fewestAway 71 = .ok (.invokevirtual 289, 3) := dk_182 1 33 (dk_at dksX0_fewestAway_3 0 rfl rfl)
theorem dX0_fewestAway_74 : decode cX0_fewestAway 74 = .ok (.ifCond .eq 8, 3) := dk_153 0 8 (dk_at dksX0_fewestAway_3 3 rfl rfl)
theorem dX0_fewestAway_77 : decode cX0_fewestAway 77 = .ok (.iload 5, 2) := dk_21 5 (dk_at dksX0_fewestAway_3 6 rfl rfl)
theorem dX0_fewestAway_79 : decode cX0_fewestAway 79 = .ok (.goto 5, 3) := dk_167 0 5 (dk_at dksX0_fewestAway_3 8 rfl rfl)
theorem dX0_fewestAway_82 : decode cX0_fewestAway 82 = .ok (.iload 4, 2) := dk_21 4 (dk_at dksX0_fewestAway_3 11 rfl rfl)
theorem dX0_fewestAway_84 : decode cX0_fewestAway 84 = .ok (.istore 4, 2) := dk_54 4 (dk_at dksX0_fewestAway_3 13 rfl rfl)
theorem dX0_fewestAway_86 : decode cX0_fewestAway 86 = .ok (.iinc 5 1, 3) := dk_132 5 1 (dk_at dksX0_fewestAway_3 15 rfl rfl)
theorem dX0_fewestAway_89 : decode cX0_fewestAway 89 = .ok (.goto (-83), 3) := dk_167 255 173 (dk_at dksX0_fewestAway_3 18 rfl rfl)
theorem dX0_fewestAway_92 : decode cX0_fewestAway 92 = .ok (.aload_n 0, 1) := dk_42 (dk_at dksX0_fewestAway_3 21 rfl rfl)
theorem dX0_fewestAway_93 : decode cX0_fewestAway 93 = .ok (.getfield 79, 3) := dk_180 0 79 (dk_at dksX0_fewestAway_4 0 rfl rfl)
theorem dX0_fewestAway_96 : decode cX0_fewestAway 96 = .ok (.iconst 0, 1) := dk_3 (dk_at dksX0_fewestAway_4 3 rfl rfl)
theorem dX0_fewestAway_97 : decode cX0_fewestAway 97 = .ok (.putfield 174, 3) := dk_181 0 174 (dk_at dksX0_fewestAway_4 4 rfl rfl)
theorem dX0_fewestAway_100 : decode cX0_fewestAway 100 = .ok (.iload 4, 2) := dk_21 4 (dk_at dksX0_fewestAway_4 7 rfl rfl)
theorem dX0_fewestAway_102 : decode cX0_fewestAway 102 = .ok (.ireturn, 1) := dk_172 (dk_at dksX0_fewestAway_4 9 rfl rfl)
abbrev cX0_doesKnowBehind : ByteArray := prog_1_method_60_code
def yX0_doesKnowBehind : MethodName := ⟨RX0, "doesKnowBehind", "(III)Z"⟩
def dkwX0_doesKnowBehind_2 : List UInt8 := [58, 5, 42, 180, 0, 79, 42, 180, 0, 86, 182, 0, 247, 25, 5, 191]
abbrev dktX0_doesKnowBehind_2 : List UInt8 := dkwX0_doesKnowBehind_2 ++ []
def dkwX0_doesKnowBehind_1 : List UInt8 := [182, 0, 238, 28, 184, 0, 134, 54, 4, 42, 180, 0, 79, 42, 180, 0, 86, 182, 0, 247, 21, 4, 172]
abbrev dktX0_doesKnowBehind_1 : List UInt8 := dkwX0_doesKnowBehind_1 ++ dktX0_doesKnowBehind_2
def dkwX0_doesKnowBehind_0 : List UInt8 := [42, 180, 0, 86, 42, 180, 0, 79, 182, 0, 247, 42, 29, 182, 0, 227, 42, 180, 0, 79, 4, 27, 120]
abbrev dktX0_doesKnowBehind_0 : List UInt8 := dkwX0_doesKnowBehind_0 ++ dktX0_doesKnowBehind_1
theorem dksX0_doesKnowBehind_0 : cX0_doesKnowBehind.data.toList.drop 0 = dktX0_doesKnowBehind_0 := by decide +kernel
theorem dksX0_doesKnowBehind_1 : cX0_doesKnowBehind.data.toList.drop 23 = dktX0_doesKnowBehind_1 := dk_seg dksX0_doesKnowBehind_0 23 rfl rfl
theorem dksX0_doesKnowBehind_2 : cX0_doesKnowBehind.data.toList.drop 46 = dktX0_doesKnowBehind_2 := dk_seg dksX0_doesKnowBehind_1 23 rfl rfl
theorem dX0_doesKnowBehind_0 : decode cX0_doesKnowBehind 0 = .ok (.aload_n 0, 1) := dk_42 (dk_at dksX0_doesKnowBehind_0 0 rfl rfl)
theorem dX0_doesKnowBehind_1 : decode cX0_doesKnowBehind 1 = .ok (.getfield 86, 3) := dk_180 0 86 (dk_at dksX0_doesKnowBehind_0 1 rfl rfl)
theorem dX0_doesKnowBehind_4 : decode cX0_doesKnowBehind 4 = .ok (.aload_n 0, 1) := dk_42 (dk_at dksX0_doesKnowBehind_0 4 rfl rfl)
theorem dX0_doesKnowBehind_5 : decode cX0_doesKnowBehind 5 = .ok (.getfield 79, 3) := dk_180 0 79 (dk_at dksX0_doesKnowBehind_0 5 rfl rfl)
theorem dX0_doesKnowBehind_8 : decode cX0_doesKnowBehind 8 = .ok (.invokevirtual 247, 3) := dk_182 0 247 (dk_at dksX0_doesKnowBehind_0 8 rfl rfl)
theorem dX0_doesKnowBehind_11 : decode cX0_doesKnowBehind 11 = .ok (.aload_n 0, 1) := dk_42 (dk_at dksX0_doesKnowBehind_0 11 rfl rfl)
theorem dX0_doesKnowBehind_12 : decode cX0_doesKnowBehind 12 = .ok (.iload_n 3, 1) := dk_29 (dk_at dksX0_doesKnowBehind_0 12 rfl rfl)
theorem dX0_doesKnowBehind_13 : decode cX0_doesKnowBehind 13 = .ok (.invokevirtual 227, 3) := dk_182 0 227 (dk_at dksX0_doesKnowBehind_0 13 rfl rfl)
theorem dX0_doesKnowBehind_16 : decode cX0_doesKnowBehind 16 = .ok (.aload_n 0, 1) := dk_42 (dk_at dksX0_doesKnowBehind_0 16 rfl rfl)
theorem dX0_doesKnowBehind_17 : decode cX0_doesKnowBehind 17 = .ok (.getfield 79, 3) := dk_180 0 79 (dk_at dksX0_doesKnowBehind_0 17 rfl rfl)
theorem dX0_doesKnowBehind_20 : decode cX0_doesKnowBehind 20 = .ok (.iconst 1, 1) := dk_4 (dk_at dksX0_doesKnowBehind_0 20 rfl rfl)
theorem dX0_doesKnowBehind_21 : decode cX0_doesKnowBehind 21 = .ok (.iload_n 1, 1) := dk_27 (dk_at dksX0_doesKnowBehind_0 21 rfl rfl)
theorem dX0_doesKnowBehind_22 : decode cX0_doesKnowBehind 22 = .ok (.ishl, 1) := dk_120 (dk_at dksX0_doesKnowBehind_0 22 rfl rfl)
theorem dX0_doesKnowBehind_23 : decode cX0_doesKnowBehind 23 = .ok (.invokevirtual 238, 3) := dk_182 0 238 (dk_at dksX0_doesKnowBehind_1 0 rfl rfl)
theorem dX0_doesKnowBehind_26 : decode cX0_doesKnowBehind 26 = .ok (.iload_n 2, 1) := dk_28 (dk_at dksX0_doesKnowBehind_1 3 rfl rfl)
theorem dX0_doesKnowBehind_27 : decode cX0_doesKnowBehind 27 = .ok (.invokestatic 134, 3) := dk_184 0 134 (dk_at dksX0_doesKnowBehind_1 4 rfl rfl)
theorem dX0_doesKnowBehind_30 : decode cX0_doesKnowBehind 30 = .ok (.istore 4, 2) := dk_54 4 (dk_at dksX0_doesKnowBehind_1 7 rfl rfl)
theorem dX0_doesKnowBehind_32 : decode cX0_doesKnowBehind 32 = .ok (.aload_n 0, 1) := dk_42 (dk_at dksX0_doesKnowBehind_1 9 rfl rfl)
theorem dX0_doesKnowBehind_33 : decode cX0_doesKnowBehind 33 = .ok (.getfield 79, 3) := dk_180 0 79 (dk_at dksX0_doesKnowBehind_1 10 rfl rfl)
theorem dX0_doesKnowBehind_36 : decode cX0_doesKnowBehind 36 = .ok (.aload_n 0, 1) := dk_42 (dk_at dksX0_doesKnowBehind_1 13 rfl rfl)
theorem dX0_doesKnowBehind_37 : decode cX0_doesKnowBehind 37 = .ok (.getfield 86, 3) := dk_180 0 86 (dk_at dksX0_doesKnowBehind_1 14 rfl rfl)
theorem dX0_doesKnowBehind_40 : decode cX0_doesKnowBehind 40 = .ok (.invokevirtual 247, 3) := dk_182 0 247 (dk_at dksX0_doesKnowBehind_1 17 rfl rfl)
theorem dX0_doesKnowBehind_43 : decode cX0_doesKnowBehind 43 = .ok (.iload 4, 2) := dk_21 4 (dk_at dksX0_doesKnowBehind_1 20 rfl rfl)
theorem dX0_doesKnowBehind_45 : decode cX0_doesKnowBehind 45 = .ok (.ireturn, 1) := dk_172 (dk_at dksX0_doesKnowBehind_1 22 rfl rfl)
theorem dX0_doesKnowBehind_46 : decode cX0_doesKnowBehind 46 = .ok (.astore 5, 2) := dk_58 5 (dk_at dksX0_doesKnowBehind_2 0 rfl rfl)
theorem dX0_doesKnowBehind_48 : decode cX0_doesKnowBehind 48 = .ok (.aload_n 0, 1) := dk_42 (dk_at dksX0_doesKnowBehind_2 2 rfl rfl)
theorem dX0_doesKnowBehind_49 : decode cX0_doesKnowBehind 49 = .ok (.getfield 79, 3) := dk_180 0 79 (dk_at dksX0_doesKnowBehind_2 3 rfl rfl)
theorem dX0_doesKnowBehind_52 : decode cX0_doesKnowBehind 52 = .ok (.aload_n 0, 1) := dk_42 (dk_at dksX0_doesKnowBehind_2 6 rfl rfl)
theorem dX0_doesKnowBehind_53 : decode cX0_doesKnowBehind 53 = .ok (.getfield 86, 3) := dk_180 0 86 (dk_at dksX0_doesKnowBehind_2 7 rfl rfl)
theorem dX0_doesKnowBehind_56 : decode cX0_doesKnowBehind 56 = .ok (.invokevirtual 247, 3) := dk_182 0 247 (dk_at dksX0_doesKnowBehind_2 10 rfl rfl)
theorem dX0_doesKnowBehind_59 : decode cX0_doesKnowBehind 59 = .ok (.aload 5, 2) := dk_25 5 (dk_at dksX0_doesKnowBehind_2 13 rfl rfl)
theorem dX0_doesKnowBehind_61 : decode cX0_doesKnowBehind 61 = .ok (.athrow, 1) := dk_191 (dk_at dksX0_doesKnowBehind_2 15 rfl rfl)
abbrev cX0_fits : ByteArray := prog_1_method_65_code
def yX0_fits : MethodName := ⟨RX0, "fits", "(II)I"⟩
def dkwX0_fits_0 : List UInt8 := [42, 27, 28, 4, 16, 6, 182, 1, 59, 172, 78, 42, 45, 180, 0, 119, 182, 0, 129, 172]
abbrev dktX0_fits_0 : List UInt8 := dkwX0_fits_0 ++ []
theorem dksX0_fits_0 : cX0_fits.data.toList.drop 0 = dktX0_fits_0 := by decide +kernel
theorem dX0_fits_0 : decode cX0_fits 0 = .ok (.aload_n 0, 1) := dk_42 (dk_at dksX0_fits_0 0 rfl rfl)
theorem dX0_fits_1 : decode cX0_fits 1 = .ok (.iload_n 1, 1) := dk_27 (dk_at dksX0_fits_0 1 rfl rfl)
theorem dX0_fits_2 : decode cX0_fits 2 = .ok (.iload_n 2, 1) := dk_28 (dk_at dksX0_fits_0 2 rfl rfl)
theorem dX0_fits_3 : decode cX0_fits 3 = .ok (.iconst 1, 1) := dk_4 (dk_at dksX0_fits_0 3 rfl rfl)
theorem dX0_fits_4 : decode cX0_fits 4 = .ok (.bipush 6, 2) := dk_16 6 (dk_at dksX0_fits_0 4 rfl rfl)
theorem dX0_fits_6 : decode cX0_fits 6 = .ok (.invokevirtual 315, 3) := dk_182 1 59 (dk_at dksX0_fits_0 6 rfl rfl)
theorem dX0_fits_9 : decode cX0_fits 9 = .ok (.ireturn, 1) := dk_172 (dk_at dksX0_fits_0 9 rfl rfl)
theorem dX0_fits_10 : decode cX0_fits 10 = .ok (.astore_n 3, 1) := dk_78 (dk_at dksX0_fits_0 10 rfl rfl)
theorem dX0_fits_11 : decode cX0_fits 11 = .ok (.aload_n 0, 1) := dk_42 (dk_at dksX0_fits_0 11 rfl rfl)
theorem dX0_fits_12 : decode cX0_fits 12 = .ok (.aload_n 3, 1) := dk_45 (dk_at dksX0_fits_0 12 rfl rfl)
theorem dX0_fits_13 : decode cX0_fits 13 = .ok (.getfield 119, 3) := dk_180 0 119 (dk_at dksX0_fits_0 13 rfl rfl)
theorem dX0_fits_16 : decode cX0_fits 16 = .ok (.invokevirtual 129, 3) := dk_182 0 129 (dk_at dksX0_fits_0 16 rfl rfl)
theorem dX0_fits_19 : decode cX0_fits 19 = .ok (.ireturn, 1) := dk_172 (dk_at dksX0_fits_0 19 rfl rfl)
abbrev cX0_allThatFit : ByteArray := prog_1_method_64_code
def yX0_allThatFit : MethodName := ⟨RX0, "allThatFit", "(IIII)I"⟩
def dkwX0_allThatFit_4 : List UInt8 := [132, 8, 1, 167, 255, 210, 42, 180, 0, 79, 180, 0, 114, 29, 50, 28, 21, 6, 79, 21, 7, 172]
abbrev dktX0_allThatFit_4 : List UInt8 := dkwX0_allThatFit_4 ++ []
def dkwX0_allThatFit_3 : List UInt8 := [21, 7, 42, 25, 5, 28, 182, 1, 55, 153, 0, 10, 4, 21, 8, 120, 167, 0, 4, 3, 128, 54, 7]
abbrev dktX0_allThatFit_3 : List UInt8 := dkwX0_allThatFit_3 ++ dktX0_allThatFit_4
def dkwX0_allThatFit_2 : List UInt8 := [3, 54, 8, 21, 8, 21, 4, 162, 0, 45, 42, 180, 0, 79, 180, 0, 114, 29, 50, 28, 21, 8, 79]
abbrev dktX0_allThatFit_2 : List UInt8 := dkwX0_allThatFit_2 ++ dktX0_allThatFit_3
def dkwX0_allThatFit_1 : List UInt8 := [28, 182, 0, 208, 3, 182, 1, 51, 42, 180, 0, 79, 180, 0, 114, 29, 50, 28, 46, 54, 6, 3, 54, 7]
abbrev dktX0_allThatFit_1 : List UInt8 := dkwX0_allThatFit_1 ++ dktX0_allThatFit_2
def dkwX0_allThatFit_0 : List UInt8 := [42, 27, 182, 1, 47, 58, 5, 42, 25, 5, 198, 0, 7, 4, 167, 0, 4, 3, 8, 182, 1, 51, 42, 42]
abbrev dktX0_allThatFit_0 : List UInt8 := dkwX0_allThatFit_0 ++ dktX0_allThatFit_1
theorem dksX0_allThatFit_0 : cX0_allThatFit.data.toList.drop 0 = dktX0_allThatFit_0 := by decide +kernel
theorem dksX0_allThatFit_1 : cX0_allThatFit.data.toList.drop 24 = dktX0_allThatFit_1 := dk_seg dksX0_allThatFit_0 24 rfl rfl
theorem dksX0_allThatFit_2 : cX0_allThatFit.data.toList.drop 48 = dktX0_allThatFit_2 := dk_seg dksX0_allThatFit_1 24 rfl rfl
theorem dksX0_allThatFit_3 : cX0_allThatFit.data.toList.drop 71 = dktX0_allThatFit_3 := dk_seg dksX0_allThatFit_2 23 rfl rfl
theorem dksX0_allThatFit_4 : cX0_allThatFit.data.toList.drop 94 = dktX0_allThatFit_4 := dk_seg dksX0_allThatFit_3 23 rfl rfl
theorem dX0_allThatFit_0 : decode cX0_allThatFit 0 = .ok (.aload_n 0, 1) := dk_42 (dk_at dksX0_allThatFit_0 0 rfl rfl)
theorem dX0_allThatFit_1 : decode cX0_allThatFit 1 = .ok (.iload_n 1, 1) := dk_27 (dk_at dksX0_allThatFit_0 1 rfl rfl)
theorem dX0_allThatFit_2 : decode cX0_allThatFit 2 = .ok (.invokevirtual 303, 3) := dk_182 1 47 (dk_at dksX0_allThatFit_0 2 rfl rfl)
theorem dX0_allThatFit_5 : decode cX0_allThatFit 5 = .ok (.astore 5, 2) := dk_58 5 (dk_at dksX0_allThatFit_0 5 rfl rfl)
theorem dX0_allThatFit_7 : decode cX0_allThatFit 7 = .ok (.aload_n 0, 1) := dk_42 (dk_at dksX0_allThatFit_0 7 rfl rfl)
theorem dX0_allThatFit_8 : decode cX0_allThatFit 8 = .ok (.aload 5, 2) := dk_25 5 (dk_at dksX0_allThatFit_0 8 rfl rfl)
theorem dX0_allThatFit_10 : decode cX0_allThatFit 10 = .ok (.ifnull 7, 3) := dk_198 0 7 (dk_at dksX0_allThatFit_0 10 rfl rfl)
theorem dX0_allThatFit_13 : decode cX0_allThatFit 13 = .ok (.iconst 1, 1) := dk_4 (dk_at dksX0_allThatFit_0 13 rfl rfl)
theorem dX0_allThatFit_14 : decode cX0_allThatFit 14 = .ok (.goto 4, 3) := dk_167 0 4 (dk_at dksX0_allThatFit_0 14 rfl rfl)
theorem dX0_allThatFit_17 : decode cX0_allThatFit 17 = .ok (.iconst 0, 1) := dk_3 (dk_at dksX0_allThatFit_0 17 rfl rfl)
theorem dX0_allThatFit_18 : decode cX0_allThatFit 18 = .ok (.iconst 5, 1) := dk_8 (dk_at dksX0_allThatFit_0 18 rfl rfl)
theorem dX0_allThatFit_19 : decode cX0_allThatFit 19 = .ok (.invokevirtual 307, 3) := dk_182 1 51 (dk_at dksX0_allThatFit_0 19 rfl rfl)
theorem dX0_allThatFit_22 : decode cX0_allThatFit 22 = .ok (.aload_n 0, 1) := dk_42 (dk_at dksX0_allThatFit_0 22 rfl rfl)
theorem dX0_allThatFit_23 : decode cX0_allThatFit 23 = .ok (.aload_n 0, 1) := dk_42 (dk_at dksX0_allThatFit_0 23 rfl rfl)
theorem dX0_allThatFit_24 : decode cX0_allThatFit 24 = .ok (.iload_n 2, 1) := dk_28 (dk_at dksX0_allThatFit_1 0 rfl rfl)
theorem dX0_allThatFit_25 : decode cX0_allThatFit 25 = .ok (.invokevirtual 208, 3) := dk_182 0 208 (dk_at dksX0_allThatFit_1 1 rfl rfl)
theorem dX0_allThatFit_28 : decode cX0_allThatFit 28 = .ok (.iconst 0, 1) := dk_3 (dk_at dksX0_allThatFit_1 4 rfl rfl)
theorem dX0_allThatFit_29 : decode cX0_allThatFit 29 = .ok (.invokevirtual 307, 3) := dk_182 1 51 (dk_at dksX0_allThatFit_1 5 rfl rfl)
theorem dX0_allThatFit_32 : decode cX0_allThatFit 32 = .ok (.aload_n 0, 1) := dk_42 (dk_at dksX0_allThatFit_1 8 rfl rfl)
theorem dX0_allThatFit_33 : decode cX0_allThatFit 33 = .ok (.getfield 79, 3) := dk_180 0 79 (dk_at dksX0_allThatFit_1 9 rfl rfl)
theorem dX0_allThatFit_36 : decode cX0_allThatFit 36 = .ok (.getfield 114, 3) := dk_180 0 114 (dk_at dksX0_allThatFit_1 12 rfl rfl)
theorem dX0_allThatFit_39 : decode cX0_allThatFit 39 = .ok (.iload_n 3, 1) := dk_29 (dk_at dksX0_allThatFit_1 15 rfl rfl)
theorem dX0_allThatFit_40 : decode cX0_allThatFit 40 = .ok (.aaload, 1) := dk_50 (dk_at dksX0_allThatFit_1 16 rfl rfl)
theorem dX0_allThatFit_41 : decode cX0_allThatFit 41 = .ok (.iload_n 2, 1) := dk_28 (dk_at dksX0_allThatFit_1 17 rfl rfl)
theorem dX0_allThatFit_42 : decode cX0_allThatFit 42 = .ok (.iaload, 1) := dk_46 (dk_at dksX0_allThatFit_1 18 rfl rfl)
theorem dX0_allThatFit_43 : decode cX0_allThatFit 43 = .ok (.istore 6, 2) := dk_54 6 (dk_at dksX0_allThatFit_1 19 rfl rfl)
theorem dX0_allThatFit_45 : decode cX0_allThatFit 45 = .ok (.iconst 0, 1) := dk_3 (dk_at dksX0_allThatFit_1 21 rfl rfl)
theorem dX0_allThatFit_46 : decode cX0_allThatFit 46 = .ok (.istore 7, 2) := dk_54 7 (dk_at dksX0_allThatFit_1 22 rfl rfl)
theorem dX0_allThatFit_48 : decode cX0_allThatFit 48 = .ok (.iconst 0, 1) := dk_3 (dk_at dksX0_allThatFit_2 0 rfl rfl)
theorem dX0_allThatFit_49 : decode cX0_allThatFit 49 = .ok (.istore 8, 2) := dk_54 8 (dk_at dksX0_allThatFit_2 1 rfl rfl)
theorem dX0_allThatFit_51 : decode cX0_allThatFit 51 = .ok (.iload 8, 2) := dk_21 8 (dk_at dksX0_allThatFit_2 3 rfl rfl)
theorem dX0_allThatFit_53 : decode cX0_allThatFit 53 = .ok (.iload 4, 2) := dk_21 4 (dk_at dksX0_allThatFit_2 5 rfl rfl)
theorem dX0_allThatFit_55 : decode cX0_allThatFit 55 = .ok (.if_icmp .ge 45, 3) := dk_162 0 45 (dk_at dksX0_allThatFit_2 7 rfl rfl)
theorem dX0_allThatFit_58 : decode cX0_allThatFit 58 = .ok (.aload_n 0, 1) := dk_42 (dk_at dksX0_allThatFit_2 10 rfl rfl)
theorem dX0_allThatFit_59 : decode cX0_allThatFit 59 = .ok (.getfield 79, 3) := dk_180 0 79 (dk_at dksX0_allThatFit_2 11 rfl rfl)
theorem dX0_allThatFit_62 : decode cX0_allThatFit 62 = .ok (.getfield 114, 3) := dk_180 0 114 (dk_at dksX0_allThatFit_2 14 rfl rfl)
theorem dX0_allThatFit_65 : decode cX0_allThatFit 65 = .ok (.iload_n 3, 1) := dk_29 (dk_at dksX0_allThatFit_2 17 rfl rfl)
theorem dX0_allThatFit_66 : decode cX0_allThatFit 66 = .ok (.aaload, 1) := dk_50 (dk_at dksX0_allThatFit_2 18 rfl rfl)
theorem dX0_allThatFit_67 : decode cX0_allThatFit 67 = .ok (.iload_n 2, 1) := dk_28 (dk_at dksX0_allThatFit_2 19 rfl rfl)
theorem dX0_allThatFit_68 : decode cX0_allThatFit 68 = .ok (.iload 8, 2) := dk_21 8 (dk_at dksX0_allThatFit_2 20 rfl rfl)
theorem dX0_allThatFit_70 : decode cX0_allThatFit 70 = .ok (.iastore, 1) := dk_79 (dk_at dksX0_allThatFit_2 22 rfl rfl)
theorem dX0_allThatFit_71 : decode cX0_allThatFit 71 = .ok (.iload 7, 2) := dk_21 7 (dk_at dksX0_allThatFit_3 0 rfl rfl)
theorem dX0_allThatFit_73 : decode cX0_allThatFit 73 = .ok (.aload_n 0, 1) := dk_42 (dk_at dksX0_allThatFit_3 2 rfl rfl)
theorem dX0_allThatFit_74 : decode cX0_allThatFit 74 = .ok (.aload 5, 2) := dk_25 5 (dk_at dksX0_allThatFit_3 3 rfl rfl)
theorem dX0_allThatFit_76 : decode cX0_allThatFit 76 = .ok (.iload_n 2, 1) := dk_28 (dk_at dksX0_allThatFit_3 5 rfl rfl)
theorem dX0_allThatFit_77 : decode cX0_allThatFit 77 = .ok (.invokevirtual 311, 3) := dk_182 1 55 (dk_at dksX0_allThatFit_3 6 rfl rfl)
theorem dX0_allThatFit_80 : decode cX0_allThatFit 80 = .ok (.ifCond .eq 10, 3) := dk_153 0 10 (dk_at dksX0_allThatFit_3 9 rfl rfl)
theorem dX0_allThatFit_83 : decode cX0_allThatFit 83 = .ok (.iconst 1, 1) := dk_4 (dk_at dksX0_allThatFit_3 12 rfl rfl)
theorem dX0_allThatFit_84 : decode cX0_allThatFit 84 = .ok (.iload 8, 2) := dk_21 8 (dk_at dksX0_allThatFit_3 13 rfl rfl)
theorem dX0_allThatFit_86 : decode cX0_allThatFit 86 = .ok (.ishl, 1) := dk_120 (dk_at dksX0_allThatFit_3 15 rfl rfl)
theorem dX0_allThatFit_87 : decode cX0_allThatFit 87 = .ok (.goto 4, 3) := dk_167 0 4 (dk_at dksX0_allThatFit_3 16 rfl rfl)
theorem dX0_allThatFit_90 : decode cX0_allThatFit 90 = .ok (.iconst 0, 1) := dk_3 (dk_at dksX0_allThatFit_3 19 rfl rfl)
theorem dX0_allThatFit_91 : decode cX0_allThatFit 91 = .ok (.ior, 1) := dk_128 (dk_at dksX0_allThatFit_3 20 rfl rfl)
theorem dX0_allThatFit_92 : decode cX0_allThatFit 92 = .ok (.istore 7, 2) := dk_54 7 (dk_at dksX0_allThatFit_3 21 rfl rfl)
theorem dX0_allThatFit_94 : decode cX0_allThatFit 94 = .ok (.iinc 8 1, 3) := dk_132 8 1 (dk_at dksX0_allThatFit_4 0 rfl rfl)
theorem dX0_allThatFit_97 : decode cX0_allThatFit 97 = .ok (.goto (-46), 3) := dk_167 255 210 (dk_at dksX0_allThatFit_4 3 rfl rfl)
theorem dX0_allThatFit_100 : decode cX0_allThatFit 100 = .ok (.aload_n 0, 1) := dk_42 (dk_at dksX0_allThatFit_4 6 rfl rfl)
theorem dX0_allThatFit_101 : decode cX0_allThatFit 101 = .ok (.getfield 79, 3) := dk_180 0 79 (dk_at dksX0_allThatFit_4 7 rfl rfl)
theorem dX0_allThatFit_104 : decode cX0_allThatFit 104 = .ok (.getfield 114, 3) := dk_180 0 114 (dk_at dksX0_allThatFit_4 10 rfl rfl)
theorem dX0_allThatFit_107 : decode cX0_allThatFit 107 = .ok (.iload_n 3, 1) := dk_29 (dk_at dksX0_allThatFit_4 13 rfl rfl)
theorem dX0_allThatFit_108 : decode cX0_allThatFit 108 = .ok (.aaload, 1) := dk_50 (dk_at dksX0_allThatFit_4 14 rfl rfl)
theorem dX0_allThatFit_109 : decode cX0_allThatFit 109 = .ok (.iload_n 2, 1) := dk_28 (dk_at dksX0_allThatFit_4 15 rfl rfl)
theorem dX0_allThatFit_110 : decode cX0_allThatFit 110 = .ok (.iload 6, 2) := dk_21 6 (dk_at dksX0_allThatFit_4 16 rfl rfl)
theorem dX0_allThatFit_112 : decode cX0_allThatFit 112 = .ok (.iastore, 1) := dk_79 (dk_at dksX0_allThatFit_4 18 rfl rfl)
theorem dX0_allThatFit_113 : decode cX0_allThatFit 113 = .ok (.iload 7, 2) := dk_21 7 (dk_at dksX0_allThatFit_4 19 rfl rfl)
theorem dX0_allThatFit_115 : decode cX0_allThatFit 115 = .ok (.ireturn, 1) := dk_172 (dk_at dksX0_allThatFit_4 21 rfl rfl)
abbrev cX0_rowAt : ByteArray := prog_1_method_81_code
def yX0_rowAt : MethodName := ⟨RX0, "rowAt", "(I)Ljava/lang/Object;"⟩
def dkwX0_rowAt_0 : List UInt8 := [42, 27, 184, 1, 115, 3, 182, 1, 51, 42, 180, 0, 98, 27, 50, 180, 0, 110, 176]
abbrev dktX0_rowAt_0 : List UInt8 := dkwX0_rowAt_0 ++ []
theorem dksX0_rowAt_0 : cX0_rowAt.data.toList.drop 0 = dktX0_rowAt_0 := by decide +kernel
theorem dX0_rowAt_0 : decode cX0_rowAt 0 = .ok (.aload_n 0, 1) := dk_42 (dk_at dksX0_rowAt_0 0 rfl rfl)
theorem dX0_rowAt_1 : decode cX0_rowAt 1 = .ok (.iload_n 1, 1) := dk_27 (dk_at dksX0_rowAt_0 1 rfl rfl)
theorem dX0_rowAt_2 : decode cX0_rowAt 2 = .ok (.invokestatic 371, 3) := dk_184 1 115 (dk_at dksX0_rowAt_0 2 rfl rfl)
theorem dX0_rowAt_5 : decode cX0_rowAt 5 = .ok (.iconst 0, 1) := dk_3 (dk_at dksX0_rowAt_0 5 rfl rfl)
theorem dX0_rowAt_6 : decode cX0_rowAt 6 = .ok (.invokevirtual 307, 3) := dk_182 1 51 (dk_at dksX0_rowAt_0 6 rfl rfl)
theorem dX0_rowAt_9 : decode cX0_rowAt 9 = .ok (.aload_n 0, 1) := dk_42 (dk_at dksX0_rowAt_0 9 rfl rfl)
theorem dX0_rowAt_10 : decode cX0_rowAt 10 = .ok (.getfield 98, 3) := dk_180 0 98 (dk_at dksX0_rowAt_0 10 rfl rfl)
theorem dX0_rowAt_13 : decode cX0_rowAt 13 = .ok (.iload_n 1, 1) := dk_27 (dk_at dksX0_rowAt_0 13 rfl rfl)
theorem dX0_rowAt_14 : decode cX0_rowAt 14 = .ok (.aaload, 1) := dk_50 (dk_at dksX0_rowAt_0 14 rfl rfl)
theorem dX0_rowAt_15 : decode cX0_rowAt 15 = .ok (.getfield 110, 3) := dk_180 0 110 (dk_at dksX0_rowAt_0 15 rfl rfl)
theorem dX0_rowAt_18 : decode cX0_rowAt 18 = .ok (.areturn, 1) := dk_176 (dk_at dksX0_rowAt_0 18 rfl rfl)
abbrev cX0_isSheet : ByteArray := prog_1_method_4_code
def yX0_isSheet : MethodName := ⟨RX0, "isSheet", "(I)Z"⟩
def dkwX0_isSheet_0 : List UInt8 := [26, 3, 6, 184, 0, 9, 172]
abbrev dktX0_isSheet_0 : List UInt8 := dkwX0_isSheet_0 ++ []
theorem dksX0_isSheet_0 : cX0_isSheet.data.toList.drop 0 = dktX0_isSheet_0 := by decide +kernel
theorem dX0_isSheet_0 : decode cX0_isSheet 0 = .ok (.iload_n 0, 1) := dk_26 (dk_at dksX0_isSheet_0 0 rfl rfl)
theorem dX0_isSheet_1 : decode cX0_isSheet 1 = .ok (.iconst 0, 1) := dk_3 (dk_at dksX0_isSheet_0 1 rfl rfl)
theorem dX0_isSheet_2 : decode cX0_isSheet 2 = .ok (.iconst 3, 1) := dk_6 (dk_at dksX0_isSheet_0 2 rfl rfl)
theorem dX0_isSheet_3 : decode cX0_isSheet 3 = .ok (.invokestatic 9, 3) := dk_184 0 9 (dk_at dksX0_isSheet_0 3 rfl rfl)
theorem dX0_isSheet_6 : decode cX0_isSheet 6 = .ok (.ireturn, 1) := dk_172 (dk_at dksX0_isSheet_0 6 rfl rfl)
abbrev cX0_need : ByteArray := prog_1_method_23_code
def yX0_need : MethodName := ⟨RX0, "need", "(ZI)V"⟩
def dkwX0_need_0 : List UInt8 := [27, 154, 0, 9, 42, 28, 182, 0, 123, 191, 177]
abbrev dktX0_need_0 : List UInt8 := dkwX0_need_0 ++ []
theorem dksX0_need_0 : cX0_need.data.toList.drop 0 = dktX0_need_0 := by decide +kernel
theorem dX0_need_0 : decode cX0_need 0 = .ok (.iload_n 1, 1) := dk_27 (dk_at dksX0_need_0 0 rfl rfl)
theorem dX0_need_1 : decode cX0_need 1 = .ok (.ifCond .ne 9, 3) := dk_154 0 9 (dk_at dksX0_need_0 1 rfl rfl)
theorem dX0_need_4 : decode cX0_need 4 = .ok (.aload_n 0, 1) := dk_42 (dk_at dksX0_need_0 4 rfl rfl)
theorem dX0_need_5 : decode cX0_need 5 = .ok (.iload_n 2, 1) := dk_28 (dk_at dksX0_need_0 5 rfl rfl)
theorem dX0_need_6 : decode cX0_need 6 = .ok (.invokevirtual 123, 3) := dk_182 0 123 (dk_at dksX0_need_0 6 rfl rfl)
theorem dX0_need_9 : decode cX0_need 9 = .ok (.athrow, 1) := dk_191 (dk_at dksX0_need_0 9 rfl rfl)
theorem dX0_need_10 : decode cX0_need 10 = .ok (.return_, 1) := dk_177 (dk_at dksX0_need_0 10 rfl rfl)
abbrev cX0_refused : ByteArray := prog_1_method_22_code
def yX0_refused : MethodName := ⟨RX0, "refused", "(I)LLeftGloves$Refusal;"⟩
def dkwX0_refused_0 : List UInt8 := [42, 180, 0, 65, 27, 181, 0, 119, 42, 180, 0, 65, 176]
abbrev dktX0_refused_0 : List UInt8 := dkwX0_refused_0 ++ []
theorem dksX0_refused_0 : cX0_refused.data.toList.drop 0 = dktX0_refused_0 := by decide +kernel
theorem dX0_refused_0 : decode cX0_refused 0 = .ok (.aload_n 0, 1) := dk_42 (dk_at dksX0_refused_0 0 rfl rfl)
theorem dX0_refused_1 : decode cX0_refused 1 = .ok (.getfield 65, 3) := dk_180 0 65 (dk_at dksX0_refused_0 1 rfl rfl)
theorem dX0_refused_4 : decode cX0_refused 4 = .ok (.iload_n 1, 1) := dk_27 (dk_at dksX0_refused_0 4 rfl rfl)
theorem dX0_refused_5 : decode cX0_refused 5 = .ok (.putfield 119, 3) := dk_181 0 119 (dk_at dksX0_refused_0 5 rfl rfl)
theorem dX0_refused_8 : decode cX0_refused 8 = .ok (.aload_n 0, 1) := dk_42 (dk_at dksX0_refused_0 8 rfl rfl)
theorem dX0_refused_9 : decode cX0_refused 9 = .ok (.getfield 65, 3) := dk_180 0 65 (dk_at dksX0_refused_0 9 rfl rfl)
theorem dX0_refused_12 : decode cX0_refused 12 = .ok (.areturn, 1) := dk_176 (dk_at dksX0_refused_0 12 rfl rfl)
abbrev cX0_wasSo : ByteArray := prog_1_method_63_code
def yX0_wasSo : MethodName := ⟨RX0, "wasSo", "(Ljava/lang/Object;I)Z"⟩
def dkwX0_wasSo_4 : List UInt8 := [58, 5, 42, 180, 0, 79, 42, 180, 0, 86, 182, 0, 247, 25, 5, 191]
abbrev dktX0_wasSo_4 : List UInt8 := dkwX0_wasSo_4 ++ []
def dkwX0_wasSo_3 : List UInt8 := [132, 4, 1, 167, 255, 200, 29, 54, 4, 42, 180, 0, 79, 42, 180, 0, 86, 182, 0, 247, 21, 4, 172]
abbrev dktX0_wasSo_3 : List UInt8 := dkwX0_wasSo_3 ++ dktX0_wasSo_4
def dkwX0_wasSo_2 : List UInt8 := [180, 0, 79, 180, 0, 114, 6, 50, 28, 46, 160, 0, 7, 4, 167, 0, 4, 3, 62, 42, 182, 0, 187]
abbrev dktX0_wasSo_2 : List UInt8 := dkwX0_wasSo_2 ++ dktX0_wasSo_3
def dkwX0_wasSo_1 : List UInt8 := [184, 1, 39, 162, 0, 49, 43, 21, 4, 184, 1, 43, 2, 159, 0, 23, 43, 21, 4, 184, 1, 43, 42]
abbrev dktX0_wasSo_1 : List UInt8 := dkwX0_wasSo_1 ++ dktX0_wasSo_2
def dkwX0_wasSo_0 : List UInt8 := [42, 180, 0, 86, 42, 180, 0, 79, 182, 0, 247, 4, 62, 3, 54, 4, 29, 153, 0, 58, 21, 4, 43]
abbrev dktX0_wasSo_0 : List UInt8 := dkwX0_wasSo_0 ++ dktX0_wasSo_1
theorem dksX0_wasSo_0 : cX0_wasSo.data.toList.drop 0 = dktX0_wasSo_0 := by decide +kernel
theorem dksX0_wasSo_1 : cX0_wasSo.data.toList.drop 23 = dktX0_wasSo_1 := dk_seg dksX0_wasSo_0 23 rfl rfl
theorem dksX0_wasSo_2 : cX0_wasSo.data.toList.drop 46 = dktX0_wasSo_2 := dk_seg dksX0_wasSo_1 23 rfl rfl
theorem dksX0_wasSo_3 : cX0_wasSo.data.toList.drop 69 = dktX0_wasSo_3 := dk_seg dksX0_wasSo_2 23 rfl rfl
theorem dksX0_wasSo_4 : cX0_wasSo.data.toList.drop 92 = dktX0_wasSo_4 := dk_seg dksX0_wasSo_3 23 rfl rfl
theorem dX0_wasSo_0 : decode cX0_wasSo 0 = .ok (.aload_n 0, 1) := dk_42 (dk_at dksX0_wasSo_0 0 rfl rfl)
theorem dX0_wasSo_1 : decode cX0_wasSo 1 = .ok (.getfield 86, 3) := dk_180 0 86 (dk_at dksX0_wasSo_0 1 rfl rfl)
theorem dX0_wasSo_4 : decode cX0_wasSo 4 = .ok (.aload_n 0, 1) := dk_42 (dk_at dksX0_wasSo_0 4 rfl rfl)
theorem dX0_wasSo_5 : decode cX0_wasSo 5 = .ok (.getfield 79, 3) := dk_180 0 79 (dk_at dksX0_wasSo_0 5 rfl rfl)
theorem dX0_wasSo_8 : decode cX0_wasSo 8 = .ok (.invokevirtual 247, 3) := dk_182 0 247 (dk_at dksX0_wasSo_0 8 rfl rfl)
theorem dX0_wasSo_11 : decode cX0_wasSo 11 = .ok (.iconst 1, 1) := dk_4 (dk_at dksX0_wasSo_0 11 rfl rfl)
theorem dX0_wasSo_12 : decode cX0_wasSo 12 = .ok (.istore_n 3, 1) := dk_62 (dk_at dksX0_wasSo_0 12 rfl rfl)
theorem dX0_wasSo_13 : decode cX0_wasSo 13 = .ok (.iconst 0, 1) := dk_3 (dk_at dksX0_wasSo_0 13 rfl rfl)
theorem dX0_wasSo_14 : decode cX0_wasSo 14 = .ok (.istore 4, 2) := dk_54 4 (dk_at dksX0_wasSo_0 14 rfl rfl)
theorem dX0_wasSo_16 : decode cX0_wasSo 16 = .ok (.iload_n 3, 1) := dk_29 (dk_at dksX0_wasSo_0 16 rfl rfl)
theorem dX0_wasSo_17 : decode cX0_wasSo 17 = .ok (.ifCond .eq 58, 3) := dk_153 0 58 (dk_at dksX0_wasSo_0 17 rfl rfl)
theorem dX0_wasSo_20 : decode cX0_wasSo 20 = .ok (.iload 4, 2) := dk_21 4 (dk_at dksX0_wasSo_0 20 rfl rfl)
theorem dX0_wasSo_22 : decode cX0_wasSo 22 = .ok (.aload_n 1, 1) := dk_43 (dk_at dksX0_wasSo_0 22 rfl rfl)
theorem dX0_wasSo_23 : decode cX0_wasSo 23 = .ok (.invokestatic 295, 3) := dk_184 1 39 (dk_at dksX0_wasSo_1 0 rfl rfl)
theorem dX0_wasSo_26 : decode cX0_wasSo 26 = .ok (.if_icmp .ge 49, 3) := dk_162 0 49 (dk_at dksX0_wasSo_1 3 rfl rfl)
theorem dX0_wasSo_29 : decode cX0_wasSo 29 = .ok (.aload_n 1, 1) := dk_43 (dk_at dksX0_wasSo_1 6 rfl rfl)
theorem dX0_wasSo_30 : decode cX0_wasSo 30 = .ok (.iload 4, 2) := dk_21 4 (dk_at dksX0_wasSo_1 7 rfl rfl)
theorem dX0_wasSo_32 : decode cX0_wasSo 32 = .ok (.invokestatic 299, 3) := dk_184 1 43 (dk_at dksX0_wasSo_1 9 rfl rfl)
theorem dX0_wasSo_35 : decode cX0_wasSo 35 = .ok (.iconst (-1), 1) := dk_2 (dk_at dksX0_wasSo_1 12 rfl rfl)
theorem dX0_wasSo_36 : decode cX0_wasSo 36 = .ok (.if_icmp .eq 23, 3) := dk_159 0 23 (dk_at dksX0_wasSo_1 13 rfl rfl)
theorem dX0_wasSo_39 : decode cX0_wasSo 39 = .ok (.aload_n 1, 1) := dk_43 (dk_at dksX0_wasSo_1 16 rfl rfl)
theorem dX0_wasSo_40 : decode cX0_wasSo 40 = .ok (.iload 4, 2) := dk_21 4 (dk_at dksX0_wasSo_1 17 rfl rfl)
theorem dX0_wasSo_42 : decode cX0_wasSo 42 = .ok (.invokestatic 299, 3) := dk_184 1 43 (dk_at dksX0_wasSo_1 19 rfl rfl)
theorem dX0_wasSo_45 : decode cX0_wasSo 45 = .ok (.aload_n 0, 1) := dk_42 (dk_at dksX0_wasSo_1 22 rfl rfl)
theorem dX0_wasSo_46 : decode cX0_wasSo 46 = .ok (.getfield 79, 3) := dk_180 0 79 (dk_at dksX0_wasSo_2 0 rfl rfl)
theorem dX0_wasSo_49 : decode cX0_wasSo 49 = .ok (.getfield 114, 3) := dk_180 0 114 (dk_at dksX0_wasSo_2 3 rfl rfl)
theorem dX0_wasSo_52 : decode cX0_wasSo 52 = .ok (.iconst 3, 1) := dk_6 (dk_at dksX0_wasSo_2 6 rfl rfl)
theorem dX0_wasSo_53 : decode cX0_wasSo 53 = .ok (.aaload, 1) := dk_50 (dk_at dksX0_wasSo_2 7 rfl rfl)
theorem dX0_wasSo_54 : decode cX0_wasSo 54 = .ok (.iload_n 2, 1) := dk_28 (dk_at dksX0_wasSo_2 8 rfl rfl)
theorem dX0_wasSo_55 : decode cX0_wasSo 55 = .ok (.iaload, 1) := dk_46 (dk_at dksX0_wasSo_2 9 rfl rfl)
theorem dX0_wasSo_56 : decode cX0_wasSo 56 = .ok (.if_icmp .ne 7, 3) := dk_160 0 7 (dk_at dksX0_wasSo_2 10 rfl rfl)
theorem dX0_wasSo_59 : decode cX0_wasSo 59 = .ok (.iconst 1, 1) := dk_4 (dk_at dksX0_wasSo_2 13 rfl rfl)
theorem dX0_wasSo_60 : decode cX0_wasSo 60 = .ok (.goto 4, 3) := dk_167 0 4 (dk_at dksX0_wasSo_2 14 rfl rfl)
theorem dX0_wasSo_63 : decode cX0_wasSo 63 = .ok (.iconst 0, 1) := dk_3 (dk_at dksX0_wasSo_2 17 rfl rfl)
theorem dX0_wasSo_64 : decode cX0_wasSo 64 = .ok (.istore_n 3, 1) := dk_62 (dk_at dksX0_wasSo_2 18 rfl rfl)
theorem dX0_wasSo_65 : decode cX0_wasSo 65 = .ok (.aload_n 0, 1) := dk_42 (dk_at dksX0_wasSo_2 19 rfl rfl)
theorem dX0_wasSo_66 : decode cX0_wasSo 66 = .ok (.invokevirtual 187, 3) := dk_182 0 187 (dk_at dksX0_wasSo_2 20 rfl rfl)
theorem dX0_wasSo_69 : decode cX0_wasSo 69 = .ok (.iinc 4 1, 3) := dk_132 4 1 (dk_at dksX0_wasSo_3 0 rfl rfl)
theorem dX0_wasSo_72 : decode cX0_wasSo 72 = .ok (.goto (-56), 3) := dk_167 255 200 (dk_at dksX0_wasSo_3 3 rfl rfl)
theorem dX0_wasSo_75 : decode cX0_wasSo 75 = .ok (.iload_n 3, 1) := dk_29 (dk_at dksX0_wasSo_3 6 rfl rfl)
theorem dX0_wasSo_76 : decode cX0_wasSo 76 = .ok (.istore 4, 2) := dk_54 4 (dk_at dksX0_wasSo_3 7 rfl rfl)
theorem dX0_wasSo_78 : decode cX0_wasSo 78 = .ok (.aload_n 0, 1) := dk_42 (dk_at dksX0_wasSo_3 9 rfl rfl)
theorem dX0_wasSo_79 : decode cX0_wasSo 79 = .ok (.getfield 79, 3) := dk_180 0 79 (dk_at dksX0_wasSo_3 10 rfl rfl)
theorem dX0_wasSo_82 : decode cX0_wasSo 82 = .ok (.aload_n 0, 1) := dk_42 (dk_at dksX0_wasSo_3 13 rfl rfl)
theorem dX0_wasSo_83 : decode cX0_wasSo 83 = .ok (.getfield 86, 3) := dk_180 0 86 (dk_at dksX0_wasSo_3 14 rfl rfl)
theorem dX0_wasSo_86 : decode cX0_wasSo 86 = .ok (.invokevirtual 247, 3) := dk_182 0 247 (dk_at dksX0_wasSo_3 17 rfl rfl)
theorem dX0_wasSo_89 : decode cX0_wasSo 89 = .ok (.iload 4, 2) := dk_21 4 (dk_at dksX0_wasSo_3 20 rfl rfl)
theorem dX0_wasSo_91 : decode cX0_wasSo 91 = .ok (.ireturn, 1) := dk_172 (dk_at dksX0_wasSo_3 22 rfl rfl)
theorem dX0_wasSo_92 : decode cX0_wasSo 92 = .ok (.astore 5, 2) := dk_58 5 (dk_at dksX0_wasSo_4 0 rfl rfl)
theorem dX0_wasSo_94 : decode cX0_wasSo 94 = .ok (.aload_n 0, 1) := dk_42 (dk_at dksX0_wasSo_4 2 rfl rfl)
theorem dX0_wasSo_95 : decode cX0_wasSo 95 = .ok (.getfield 79, 3) := dk_180 0 79 (dk_at dksX0_wasSo_4 3 rfl rfl)
theorem dX0_wasSo_98 : decode cX0_wasSo 98 = .ok (.aload_n 0, 1) := dk_42 (dk_at dksX0_wasSo_4 6 rfl rfl)
theorem dX0_wasSo_99 : decode cX0_wasSo 99 = .ok (.getfield 86, 3) := dk_180 0 86 (dk_at dksX0_wasSo_4 7 rfl rfl)
theorem dX0_wasSo_102 : decode cX0_wasSo 102 = .ok (.invokevirtual 247, 3) := dk_182 0 247 (dk_at dksX0_wasSo_4 10 rfl rfl)
theorem dX0_wasSo_105 : decode cX0_wasSo 105 = .ok (.aload 5, 2) := dk_25 5 (dk_at dksX0_wasSo_4 13 rfl rfl)
theorem dX0_wasSo_107 : decode cX0_wasSo 107 = .ok (.athrow, 1) := dk_191 (dk_at dksX0_wasSo_4 15 rfl rfl)
abbrev cX0_length : ByteArray := prog_1_method_82_code
def yX0_length : MethodName := ⟨RX0, "length", "(Ljava/lang/Object;)I"⟩
def dkwX0_length_1 : List UInt8 := [192, 1, 119, 190, 167, 0, 8, 42, 192, 1, 121, 190, 172]
abbrev dktX0_length_1 : List UInt8 := dkwX0_length_1 ++ []
def dkwX0_length_0 : List UInt8 := [42, 193, 1, 118, 153, 0, 11, 42, 192, 1, 118, 190, 167, 0, 23, 42, 193, 1, 119, 153, 0, 11, 42]
abbrev dktX0_length_0 : List UInt8 := dkwX0_length_0 ++ dktX0_length_1
theorem dksX0_length_0 : cX0_length.data.toList.drop 0 = dktX0_length_0 := by decide +kernel
theorem dksX0_length_1 : cX0_length.data.toList.drop 23 = dktX0_length_1 := dk_seg dksX0_length_0 23 rfl rfl
theorem dX0_length_0 : decode cX0_length 0 = .ok (.aload_n 0, 1) := dk_42 (dk_at dksX0_length_0 0 rfl rfl)
theorem dX0_length_1 : decode cX0_length 1 = .ok (.instanceof 374, 3) := dk_193 1 118 (dk_at dksX0_length_0 1 rfl rfl)
theorem dX0_length_4 : decode cX0_length 4 = .ok (.ifCond .eq 11, 3) := dk_153 0 11 (dk_at dksX0_length_0 4 rfl rfl)
theorem dX0_length_7 : decode cX0_length 7 = .ok (.aload_n 0, 1) := dk_42 (dk_at dksX0_length_0 7 rfl rfl)
theorem dX0_length_8 : decode cX0_length 8 = .ok (.checkcast 374, 3) := dk_192 1 118 (dk_at dksX0_length_0 8 rfl rfl)
theorem dX0_length_11 : decode cX0_length 11 = .ok (.arraylength, 1) := dk_190 (dk_at dksX0_length_0 11 rfl rfl)
theorem dX0_length_12 : decode cX0_length 12 = .ok (.goto 23, 3) := dk_167 0 23 (dk_at dksX0_length_0 12 rfl rfl)
theorem dX0_length_15 : decode cX0_length 15 = .ok (.aload_n 0, 1) := dk_42 (dk_at dksX0_length_0 15 rfl rfl)
theorem dX0_length_16 : decode cX0_length 16 = .ok (.instanceof 375, 3) := dk_193 1 119 (dk_at dksX0_length_0 16 rfl rfl)
theorem dX0_length_19 : decode cX0_length 19 = .ok (.ifCond .eq 11, 3) := dk_153 0 11 (dk_at dksX0_length_0 19 rfl rfl)
theorem dX0_length_22 : decode cX0_length 22 = .ok (.aload_n 0, 1) := dk_42 (dk_at dksX0_length_0 22 rfl rfl)
theorem dX0_length_23 : decode cX0_length 23 = .ok (.checkcast 375, 3) := dk_192 1 119 (dk_at dksX0_length_1 0 rfl rfl)
theorem dX0_length_26 : decode cX0_length 26 = .ok (.arraylength, 1) := dk_190 (dk_at dksX0_length_1 3 rfl rfl)
theorem dX0_length_27 : decode cX0_length 27 = .ok (.goto 8, 3) := dk_167 0 8 (dk_at dksX0_length_1 4 rfl rfl)
theorem dX0_length_30 : decode cX0_length 30 = .ok (.aload_n 0, 1) := dk_42 (dk_at dksX0_length_1 7 rfl rfl)
theorem dX0_length_31 : decode cX0_length 31 = .ok (.checkcast 377, 3) := dk_192 1 121 (dk_at dksX0_length_1 8 rfl rfl)
theorem dX0_length_34 : decode cX0_length 34 = .ok (.arraylength, 1) := dk_190 (dk_at dksX0_length_1 11 rfl rfl)
theorem dX0_length_35 : decode cX0_length 35 = .ok (.ireturn, 1) := dk_172 (dk_at dksX0_length_1 12 rfl rfl)
abbrev cX0_number : ByteArray := prog_1_method_83_code
def yX0_number : MethodName := ⟨RX0, "number", "(Ljava/lang/Object;I)I"⟩
def dkwX0_number_1 : List UInt8 := [192, 1, 119, 27, 53, 167, 0, 9, 42, 192, 1, 121, 27, 46, 172]
abbrev dktX0_number_1 : List UInt8 := dkwX0_number_1 ++ []
def dkwX0_number_0 : List UInt8 := [42, 193, 1, 118, 153, 0, 12, 42, 192, 1, 118, 27, 51, 167, 0, 25, 42, 193, 1, 119, 153, 0, 12, 42]
abbrev dktX0_number_0 : List UInt8 := dkwX0_number_0 ++ dktX0_number_1
theorem dksX0_number_0 : cX0_number.data.toList.drop 0 = dktX0_number_0 := by decide +kernel
theorem dksX0_number_1 : cX0_number.data.toList.drop 24 = dktX0_number_1 := dk_seg dksX0_number_0 24 rfl rfl
theorem dX0_number_0 : decode cX0_number 0 = .ok (.aload_n 0, 1) := dk_42 (dk_at dksX0_number_0 0 rfl rfl)
theorem dX0_number_1 : decode cX0_number 1 = .ok (.instanceof 374, 3) := dk_193 1 118 (dk_at dksX0_number_0 1 rfl rfl)
theorem dX0_number_4 : decode cX0_number 4 = .ok (.ifCond .eq 12, 3) := dk_153 0 12 (dk_at dksX0_number_0 4 rfl rfl)
theorem dX0_number_7 : decode cX0_number 7 = .ok (.aload_n 0, 1) := dk_42 (dk_at dksX0_number_0 7 rfl rfl)
theorem dX0_number_8 : decode cX0_number 8 = .ok (.checkcast 374, 3) := dk_192 1 118 (dk_at dksX0_number_0 8 rfl rfl)
theorem dX0_number_11 : decode cX0_number 11 = .ok (.iload_n 1, 1) := dk_27 (dk_at dksX0_number_0 11 rfl rfl)
theorem dX0_number_12 : decode cX0_number 12 = .ok (.baload, 1) := dk_51 (dk_at dksX0_number_0 12 rfl rfl)
theorem dX0_number_13 : decode cX0_number 13 = .ok (.goto 25, 3) := dk_167 0 25 (dk_at dksX0_number_0 13 rfl rfl)
theorem dX0_number_16 : decode cX0_number 16 = .ok (.aload_n 0, 1) := dk_42 (dk_at dksX0_number_0 16 rfl rfl)
theorem dX0_number_17 : decode cX0_number 17 = .ok (.instanceof 375, 3) := dk_193 1 119 (dk_at dksX0_number_0 17 rfl rfl)
theorem dX0_number_20 : decode cX0_number 20 = .ok (.ifCond .eq 12, 3) := dk_153 0 12 (dk_at dksX0_number_0 20 rfl rfl)
theorem dX0_number_23 : decode cX0_number 23 = .ok (.aload_n 0, 1) := dk_42 (dk_at dksX0_number_0 23 rfl rfl)
theorem dX0_number_24 : decode cX0_number 24 = .ok (.checkcast 375, 3) := dk_192 1 119 (dk_at dksX0_number_1 0 rfl rfl)
theorem dX0_number_27 : decode cX0_number 27 = .ok (.iload_n 1, 1) := dk_27 (dk_at dksX0_number_1 3 rfl rfl)
theorem dX0_number_28 : decode cX0_number 28 = .ok (.saload, 1) := dk_53 (dk_at dksX0_number_1 4 rfl rfl)
theorem dX0_number_29 : decode cX0_number 29 = .ok (.goto 9, 3) := dk_167 0 9 (dk_at dksX0_number_1 5 rfl rfl)
theorem dX0_number_32 : decode cX0_number 32 = .ok (.aload_n 0, 1) := dk_42 (dk_at dksX0_number_1 8 rfl rfl)
theorem dX0_number_33 : decode cX0_number 33 = .ok (.checkcast 377, 3) := dk_192 1 121 (dk_at dksX0_number_1 9 rfl rfl)
theorem dX0_number_36 : decode cX0_number 36 = .ok (.iload_n 1, 1) := dk_27 (dk_at dksX0_number_1 12 rfl rfl)
theorem dX0_number_37 : decode cX0_number 37 = .ok (.iaload, 1) := dk_46 (dk_at dksX0_number_1 13 rfl rfl)
theorem dX0_number_38 : decode cX0_number 38 = .ok (.ireturn, 1) := dk_172 (dk_at dksX0_number_1 14 rfl rfl)
abbrev cX0_kinds : ByteArray := prog_1_method_66_code
def yX0_kinds : MethodName := ⟨RX0, "kinds", "(II)I"⟩
def dkwX0_kinds_0 : List UInt8 := [42, 27, 28, 3, 16, 7, 182, 1, 59, 172, 78, 42, 45, 180, 0, 119, 182, 0, 129, 172]
abbrev dktX0_kinds_0 : List UInt8 := dkwX0_kinds_0 ++ []
theorem dksX0_kinds_0 : cX0_kinds.data.toList.drop 0 = dktX0_kinds_0 := by decide +kernel
theorem dX0_kinds_0 : decode cX0_kinds 0 = .ok (.aload_n 0, 1) := dk_42 (dk_at dksX0_kinds_0 0 rfl rfl)
theorem dX0_kinds_1 : decode cX0_kinds 1 = .ok (.iload_n 1, 1) := dk_27 (dk_at dksX0_kinds_0 1 rfl rfl)
theorem dX0_kinds_2 : decode cX0_kinds 2 = .ok (.iload_n 2, 1) := dk_28 (dk_at dksX0_kinds_0 2 rfl rfl)
theorem dX0_kinds_3 : decode cX0_kinds 3 = .ok (.iconst 0, 1) := dk_3 (dk_at dksX0_kinds_0 3 rfl rfl)
theorem dX0_kinds_4 : decode cX0_kinds 4 = .ok (.bipush 7, 2) := dk_16 7 (dk_at dksX0_kinds_0 4 rfl rfl)
theorem dX0_kinds_6 : decode cX0_kinds 6 = .ok (.invokevirtual 315, 3) := dk_182 1 59 (dk_at dksX0_kinds_0 6 rfl rfl)
theorem dX0_kinds_9 : decode cX0_kinds 9 = .ok (.ireturn, 1) := dk_172 (dk_at dksX0_kinds_0 9 rfl rfl)
theorem dX0_kinds_10 : decode cX0_kinds 10 = .ok (.astore_n 3, 1) := dk_78 (dk_at dksX0_kinds_0 10 rfl rfl)
theorem dX0_kinds_11 : decode cX0_kinds 11 = .ok (.aload_n 0, 1) := dk_42 (dk_at dksX0_kinds_0 11 rfl rfl)
theorem dX0_kinds_12 : decode cX0_kinds 12 = .ok (.aload_n 3, 1) := dk_45 (dk_at dksX0_kinds_0 12 rfl rfl)
theorem dX0_kinds_13 : decode cX0_kinds 13 = .ok (.getfield 119, 3) := dk_180 0 119 (dk_at dksX0_kinds_0 13 rfl rfl)
theorem dX0_kinds_16 : decode cX0_kinds 16 = .ok (.invokevirtual 129, 3) := dk_182 0 129 (dk_at dksX0_kinds_0 16 rfl rfl)
theorem dX0_kinds_19 : decode cX0_kinds 19 = .ok (.ireturn, 1) := dk_172 (dk_at dksX0_kinds_0 19 rfl rfl)
abbrev cX0_talk : ByteArray := prog_1_method_68_code
def yX0_talk : MethodName := ⟨RX0, "talk", "(I)I"⟩
def dkwX0_talk_1 : List UInt8 := [153, 0, 11, 42, 7, 182, 0, 129, 167, 0, 8, 42, 27, 182, 1, 68, 172]
abbrev dktX0_talk_1 : List UInt8 := dkwX0_talk_1 ++ []
def dkwX0_talk_0 : List UInt8 := [27, 4, 16, 20, 184, 0, 9, 154, 0, 9, 42, 3, 182, 0, 129, 172, 42, 180, 0, 79, 27, 182, 0, 232]
abbrev dktX0_talk_0 : List UInt8 := dkwX0_talk_0 ++ dktX0_talk_1
theorem dksX0_talk_0 : cX0_talk.data.toList.drop 0 = dktX0_talk_0 := by decide +kernel
theorem dksX0_talk_1 : cX0_talk.data.toList.drop 24 = dktX0_talk_1 := dk_seg dksX0_talk_0 24 rfl rfl
theorem dX0_talk_0 : decode cX0_talk 0 = .ok (.iload_n 1, 1) := dk_27 (dk_at dksX0_talk_0 0 rfl rfl)
theorem dX0_talk_1 : decode cX0_talk 1 = .ok (.iconst 1, 1) := dk_4 (dk_at dksX0_talk_0 1 rfl rfl)
theorem dX0_talk_2 : decode cX0_talk 2 = .ok (.bipush 20, 2) := dk_16 20 (dk_at dksX0_talk_0 2 rfl rfl)
theorem dX0_talk_4 : decode cX0_talk 4 = .ok (.invokestatic 9, 3) := dk_184 0 9 (dk_at dksX0_talk_0 4 rfl rfl)
theorem dX0_talk_7 : decode cX0_talk 7 = .ok (.ifCond .ne 9, 3) := dk_154 0 9 (dk_at dksX0_talk_0 7 rfl rfl)
theorem dX0_talk_10 : decode cX0_talk 10 = .ok (.aload_n 0, 1) := dk_42 (dk_at dksX0_talk_0 10 rfl rfl)
theorem dX0_talk_11 : decode cX0_talk 11 = .ok (.iconst 0, 1) := dk_3 (dk_at dksX0_talk_0 11 rfl rfl)
theorem dX0_talk_12 : decode cX0_talk 12 = .ok (.invokevirtual 129, 3) := dk_182 0 129 (dk_at dksX0_talk_0 12 rfl rfl)
theorem dX0_talk_15 : decode cX0_talk 15 = .ok (.ireturn, 1) := dk_172 (dk_at dksX0_talk_0 15 rfl rfl)
theorem dX0_talk_16 : decode cX0_talk 16 = .ok (.aload_n 0, 1) := dk_42 (dk_at dksX0_talk_0 16 rfl rfl)
theorem dX0_talk_17 : decode cX0_talk 17 = .ok (.getfield 79, 3) := dk_180 0 79 (dk_at dksX0_talk_0 17 rfl rfl)
theorem dX0_talk_20 : decode cX0_talk 20 = .ok (.iload_n 1, 1) := dk_27 (dk_at dksX0_talk_0 20 rfl rfl)
theorem dX0_talk_21 : decode cX0_talk 21 = .ok (.invokevirtual 232, 3) := dk_182 0 232 (dk_at dksX0_talk_0 21 rfl rfl)
theorem dX0_talk_24 : decode cX0_talk 24 = .ok (.ifCond .eq 11, 3) := dk_153 0 11 (dk_at dksX0_talk_1 0 rfl rfl)
theorem dX0_talk_27 : decode cX0_talk 27 = .ok (.aload_n 0, 1) := dk_42 (dk_at dksX0_talk_1 3 rfl rfl)
theorem dX0_talk_28 : decode cX0_talk 28 = .ok (.iconst 4, 1) := dk_7 (dk_at dksX0_talk_1 4 rfl rfl)
theorem dX0_talk_29 : decode cX0_talk 29 = .ok (.invokevirtual 129, 3) := dk_182 0 129 (dk_at dksX0_talk_1 5 rfl rfl)
theorem dX0_talk_32 : decode cX0_talk 32 = .ok (.goto 8, 3) := dk_167 0 8 (dk_at dksX0_talk_1 8 rfl rfl)
theorem dX0_talk_35 : decode cX0_talk 35 = .ok (.aload_n 0, 1) := dk_42 (dk_at dksX0_talk_1 11 rfl rfl)
theorem dX0_talk_36 : decode cX0_talk 36 = .ok (.iload_n 1, 1) := dk_27 (dk_at dksX0_talk_1 12 rfl rfl)
theorem dX0_talk_37 : decode cX0_talk 37 = .ok (.invokevirtual 324, 3) := dk_182 1 68 (dk_at dksX0_talk_1 13 rfl rfl)
theorem dX0_talk_40 : decode cX0_talk 40 = .ok (.ireturn, 1) := dk_172 (dk_at dksX0_talk_1 16 rfl rfl)
abbrev cX0_talked : ByteArray := prog_1_method_67_code
def yX0_talked : MethodName := ⟨RX0, "talked", "(I)I"⟩
def dkwX0_talked_3 : List UInt8 := [132, 2, 1, 167, 255, 187, 42, 180, 0, 79, 6, 42, 180, 0, 79, 182, 0, 229, 182, 0, 199, 172]
abbrev dktX0_talked_3 : List UInt8 := dkwX0_talked_3 ++ []
def dkwX0_talked_2 : List UInt8 := [112, 29, 21, 4, 42, 180, 0, 79, 182, 1, 62, 16, 10, 112, 184, 1, 65, 79, 42, 182, 0, 187]
abbrev dktX0_talked_2 : List UInt8 := dkwX0_talked_2 ++ dktX0_talked_3
def dkwX0_talked_1 : List UInt8 := [182, 1, 62, 16, 16, 112, 54, 4, 42, 180, 0, 79, 180, 0, 196, 42, 180, 0, 79, 180, 0, 184, 16, 6]
abbrev dktX0_talked_1 : List UInt8 := dkwX0_talked_1 ++ dktX0_talked_2
def dkwX0_talked_0 : List UInt8 := [3, 61, 28, 27, 162, 0, 70, 42, 180, 0, 79, 182, 1, 62, 16, 6, 112, 62, 42, 180, 0, 79]
abbrev dktX0_talked_0 : List UInt8 := dkwX0_talked_0 ++ dktX0_talked_1
theorem dksX0_talked_0 : cX0_talked.data.toList.drop 0 = dktX0_talked_0 := by decide +kernel
theorem dksX0_talked_1 : cX0_talked.data.toList.drop 22 = dktX0_talked_1 := dk_seg dksX0_talked_0 22 rfl rfl
theorem dksX0_talked_2 : cX0_talked.data.toList.drop 46 = dktX0_talked_2 := dk_seg dksX0_talked_1 24 rfl rfl
theorem dksX0_talked_3 : cX0_talked.data.toList.drop 68 = dktX0_talked_3 := dk_seg dksX0_talked_2 22 rfl rfl
theorem dX0_talked_0 : decode cX0_talked 0 = .ok (.iconst 0, 1) := dk_3 (dk_at dksX0_talked_0 0 rfl rfl)
theorem dX0_talked_1 : decode cX0_talked 1 = .ok (.istore_n 2, 1) := dk_61 (dk_at dksX0_talked_0 1 rfl rfl)
theorem dX0_talked_2 : decode cX0_talked 2 = .ok (.iload_n 2, 1) := dk_28 (dk_at dksX0_talked_0 2 rfl rfl)
theorem dX0_talked_3 : decode cX0_talked 3 = .ok (.iload_n 1, 1) := dk_27 (dk_at dksX0_talked_0 3 rfl rfl)
theorem dX0_talked_4 : decode cX0_talked 4 = .ok (.if_icmp .ge 70, 3) := dk_162 0 70 (dk_at dksX0_talked_0 4 rfl rfl)
theorem dX0_talked_7 : decode cX0_talked 7 = .ok (.aload_n 0, 1) := dk_42 (dk_at dksX0_talked_0 7 rfl rfl)
theorem dX0_talked_8 : decode cX0_talked 8 = .ok (.getfield 79, 3) := dk_180 0 79 (dk_at dksX0_talked_0 8 rfl rfl)
theorem dX0_talked_11 : decode cX0_talked 11 = .ok (.invokevirtual 318, 3) := dk_182 1 62 (dk_at dksX0_talked_0 11 rfl rfl)
theorem dX0_talked_14 : decode cX0_talked 14 = .ok (.bipush 6, 2) := dk_16 6 (dk_at dksX0_talked_0 14 rfl rfl)
theorem dX0_talked_16 : decode cX0_talked 16 = .ok (.irem, 1) := dk_112 (dk_at dksX0_talked_0 16 rfl rfl)
theorem dX0_talked_17 : decode cX0_talked 17 = .ok (.istore_n 3, 1) := dk_62 (dk_at dksX0_talked_0 17 rfl rfl)
theorem dX0_talked_18 : decode cX0_talked 18 = .ok (.aload_n 0, 1) := dk_42 (dk_at dksX0_talked_0 18 rfl rfl)
theorem dX0_talked_19 : decode cX0_talked 19 = .ok (.getfield 79, 3) := dk_180 0 79 (dk_at dksX0_talked_0 19 rfl rfl)
theorem dX0_talked_22 : decode cX0_talked 22 = .ok (.invokevirtual 318, 3) := dk_182 1 62 (dk_at dksX0_talked_1 0 rfl rfl)
theorem dX0_talked_25 : decode cX0_talked 25 = .ok (.bipush 16, 2) := dk_16 16 (dk_at dksX0_talked_1 3 rfl rfl)
theorem dX0_talked_27 : decode cX0_talked 27 = .ok (.irem, 1) := dk_112 (dk_at dksX0_talked_1 5 rfl rfl)
theorem dX0_talked_28 : decode cX0_talked 28 = .ok (.istore 4, 2) := dk_54 4 (dk_at dksX0_talked_1 6 rfl rfl)
theorem dX0_talked_30 : decode cX0_talked 30 = .ok (.aload_n 0, 1) := dk_42 (dk_at dksX0_talked_1 8 rfl rfl)
theorem dX0_talked_31 : decode cX0_talked 31 = .ok (.getfield 79, 3) := dk_180 0 79 (dk_at dksX0_talked_1 9 rfl rfl)
theorem dX0_talked_34 : decode cX0_talked 34 = .ok (.getfield 196, 3) := dk_180 0 196 (dk_at dksX0_talked_1 12 rfl rfl)
theorem dX0_talked_37 : decode cX0_talked 37 = .ok (.aload_n 0, 1) := dk_42 (dk_at dksX0_talked_1 15 rfl rfl)
theorem dX0_talked_38 : decode cX0_talked 38 = .ok (.getfield 79, 3) := dk_180 0 79 (dk_at dksX0_talked_1 16 rfl rfl)
theorem dX0_talked_41 : decode cX0_talked 41 = .ok (.getfield 184, 3) := dk_180 0 184 (dk_at dksX0_talked_1 19 rfl rfl)
theorem dX0_talked_44 : decode cX0_talked 44 = .ok (.bipush 6, 2) := dk_16 6 (dk_at dksX0_talked_1 22 rfl rfl)
theorem dX0_talked_46 : decode cX0_talked 46 = .ok (.irem, 1) := dk_112 (dk_at dksX0_talked_2 0 rfl rfl)
theorem dX0_talked_47 : decode cX0_talked 47 = .ok (.iload_n 3, 1) := dk_29 (dk_at dksX0_talked_2 1 rfl rfl)
theorem dX0_talked_48 : decode cX0_talked 48 = .ok (.iload 4, 2) := dk_21 4 (dk_at dksX0_talked_2 2 rfl rfl)
theorem dX0_talked_50 : decode cX0_talked 50 = .ok (.aload_n 0, 1) := dk_42 (dk_at dksX0_talked_2 4 rfl rfl)
theorem dX0_talked_51 : decode cX0_talked 51 = .ok (.getfield 79, 3) := dk_180 0 79 (dk_at dksX0_talked_2 5 rfl rfl)
theorem dX0_talked_54 : decode cX0_talked 54 = .ok (.invokevirtual 318, 3) := dk_182 1 62 (dk_at dksX0_talked_2 8 rfl rfl)
theorem dX0_talked_57 : decode cX0_talked 57 = .ok (.bipush 10, 2) := dk_16 10 (dk_at dksX0_talked_2 11 rfl rfl)
theorem dX0_talked_59 : decode cX0_talked 59 = .ok (.irem, 1) := dk_112 (dk_at dksX0_talked_2 13 rfl rfl)
theorem dX0_talked_60 : decode cX0_talked 60 = .ok (.invokestatic 321, 3) := dk_184 1 65 (dk_at dksX0_talked_2 14 rfl rfl)
theorem dX0_talked_63 : decode cX0_talked 63 = .ok (.iastore, 1) := dk_79 (dk_at dksX0_talked_2 17 rfl rfl)
theorem dX0_talked_64 : decode cX0_talked 64 = .ok (.aload_n 0, 1) := dk_42 (dk_at dksX0_talked_2 18 rfl rfl)
theorem dX0_talked_65 : decode cX0_talked 65 = .ok (.invokevirtual 187, 3) := dk_182 0 187 (dk_at dksX0_talked_2 19 rfl rfl)
theorem dX0_talked_68 : decode cX0_talked 68 = .ok (.iinc 2 1, 3) := dk_132 2 1 (dk_at dksX0_talked_3 0 rfl rfl)
theorem dX0_talked_71 : decode cX0_talked 71 = .ok (.goto (-69), 3) := dk_167 255 187 (dk_at dksX0_talked_3 3 rfl rfl)
theorem dX0_talked_74 : decode cX0_talked 74 = .ok (.aload_n 0, 1) := dk_42 (dk_at dksX0_talked_3 6 rfl rfl)
theorem dX0_talked_75 : decode cX0_talked 75 = .ok (.getfield 79, 3) := dk_180 0 79 (dk_at dksX0_talked_3 7 rfl rfl)
theorem dX0_talked_78 : decode cX0_talked 78 = .ok (.iconst 3, 1) := dk_6 (dk_at dksX0_talked_3 10 rfl rfl)
theorem dX0_talked_79 : decode cX0_talked 79 = .ok (.aload_n 0, 1) := dk_42 (dk_at dksX0_talked_3 11 rfl rfl)
theorem dX0_talked_80 : decode cX0_talked 80 = .ok (.getfield 79, 3) := dk_180 0 79 (dk_at dksX0_talked_3 12 rfl rfl)
theorem dX0_talked_83 : decode cX0_talked 83 = .ok (.invokevirtual 229, 3) := dk_182 0 229 (dk_at dksX0_talked_3 15 rfl rfl)
theorem dX0_talked_86 : decode cX0_talked 86 = .ok (.invokevirtual 199, 3) := dk_182 0 199 (dk_at dksX0_talked_3 18 rfl rfl)
theorem dX0_talked_89 : decode cX0_talked 89 = .ok (.ireturn, 1) := dk_172 (dk_at dksX0_talked_3 21 rfl rfl)
abbrev cX0_odds : ByteArray := prog_1_method_70_code
def yX0_odds : MethodName := ⟨RX0, "odds", "(III)J"⟩
def dkwX0_odds_4 : List UInt8 := [132, 9, 1, 167, 255, 239, 22, 7, 173]
abbrev dktX0_odds_4 : List UInt8 := dkwX0_odds_4 ++ []
def dkwX0_odds_3 : List UInt8 := [108, 54, 6, 10, 55, 7, 3, 54, 9, 21, 9, 28, 162, 0, 17, 22, 7, 21, 6, 133, 105, 55, 7]
abbrev dktX0_odds_3 : List UInt8 := dkwX0_odds_3 ++ dktX0_odds_4
def dkwX0_odds_2 : List UInt8 := [54, 4, 21, 4, 16, 16, 184, 1, 71, 54, 5, 29, 154, 0, 8, 21, 4, 167, 0, 5, 16, 16, 21, 5]
abbrev dktX0_odds_2 : List UInt8 := dkwX0_odds_2 ++ dktX0_odds_3
def dkwX0_odds_1 : List UInt8 := [154, 0, 10, 42, 3, 182, 0, 129, 133, 173, 42, 180, 0, 79, 180, 0, 114, 8, 50, 27, 46, 184, 1, 5]
abbrev dktX0_odds_1 : List UInt8 := dkwX0_odds_1 ++ dktX0_odds_2
def dkwX0_odds_0 : List UInt8 := [42, 27, 182, 0, 208, 153, 0, 22, 28, 3, 16, 15, 184, 0, 9, 153, 0, 12, 29, 3, 4, 184, 0, 9]
abbrev dktX0_odds_0 : List UInt8 := dkwX0_odds_0 ++ dktX0_odds_1
theorem dksX0_odds_0 : cX0_odds.data.toList.drop 0 = dktX0_odds_0 := by decide +kernel
theorem dksX0_odds_1 : cX0_odds.data.toList.drop 24 = dktX0_odds_1 := dk_seg dksX0_odds_0 24 rfl rfl
theorem dksX0_odds_2 : cX0_odds.data.toList.drop 48 = dktX0_odds_2 := dk_seg dksX0_odds_1 24 rfl rfl
theorem dksX0_odds_3 : cX0_odds.data.toList.drop 72 = dktX0_odds_3 := dk_seg dksX0_odds_2 24 rfl rfl
theorem dksX0_odds_4 : cX0_odds.data.toList.drop 95 = dktX0_odds_4 := dk_seg dksX0_odds_3 23 rfl rfl
theorem dX0_odds_0 : decode cX0_odds 0 = .ok (.aload_n 0, 1) := dk_42 (dk_at dksX0_odds_0 0 rfl rfl)
theorem dX0_odds_1 : decode cX0_odds 1 = .ok (.iload_n 1, 1) := dk_27 (dk_at dksX0_odds_0 1 rfl rfl)
theorem dX0_odds_2 : decode cX0_odds 2 = .ok (.invokevirtual 208, 3) := dk_182 0 208 (dk_at dksX0_odds_0 2 rfl rfl)
theorem dX0_odds_5 : decode cX0_odds 5 = .ok (.ifCond .eq 22, 3) := dk_153 0 22 (dk_at dksX0_odds_0 5 rfl rfl)
theorem dX0_odds_8 : decode cX0_odds 8 = .ok (.iload_n 2, 1) := dk_28 (dk_at dksX0_odds_0 8 rfl rfl)
theorem dX0_odds_9 : decode cX0_odds 9 = .ok (.iconst 0, 1) := dk_3 (dk_at dksX0_odds_0 9 rfl rfl)
theorem dX0_odds_10 : decode cX0_odds 10 = .ok (.bipush 15, 2) := dk_16 15 (dk_at dksX0_odds_0 10 rfl rfl)
theorem dX0_odds_12 : decode cX0_odds 12 = .ok (.invokestatic 9, 3) := dk_184 0 9 (dk_at dksX0_odds_0 12 rfl rfl)
theorem dX0_odds_15 : decode cX0_odds 15 = .ok (.ifCond .eq 12, 3) := dk_153 0 12 (dk_at dksX0_odds_0 15 rfl rfl)
theorem dX0_odds_18 : decode cX0_odds 18 = .ok (.iload_n 3, 1) := dk_29 (dk_at dksX0_odds_0 18 rfl rfl)
theorem dX0_odds_19 : decode cX0_odds 19 = .ok (.iconst 0, 1) := dk_3 (dk_at dksX0_odds_0 19 rfl rfl)
theorem dX0_odds_20 : decode cX0_odds 20 = .ok (.iconst 1, 1) := dk_4 (dk_at dksX0_odds_0 20 rfl rfl)
theorem dX0_odds_21 : decode cX0_odds 21 = .ok (.invokestatic 9, 3) := dk_184 0 9 (dk_at dksX0_odds_0 21 rfl rfl)
theorem dX0_odds_24 : decode cX0_odds 24 = .ok (.ifCond .ne 10, 3) := dk_154 0 10 (dk_at dksX0_odds_1 0 rfl rfl)
theorem dX0_odds_27 : decode cX0_odds 27 = .ok (.aload_n 0, 1) := dk_42 (dk_at dksX0_odds_1 3 rfl rfl)
theorem dX0_odds_28 : decode cX0_odds 28 = .ok (.iconst 0, 1) := dk_3 (dk_at dksX0_odds_1 4 rfl rfl)
theorem dX0_odds_29 : decode cX0_odds 29 = .ok (.invokevirtual 129, 3) := dk_182 0 129 (dk_at dksX0_odds_1 5 rfl rfl)
theorem dX0_odds_32 : decode cX0_odds 32 = .ok (.i2l, 1) := dk_133 (dk_at dksX0_odds_1 8 rfl rfl)
theorem dX0_odds_33 : decode cX0_odds 33 = .ok (.lreturn, 1) := dk_173 (dk_at dksX0_odds_1 9 rfl rfl)
theorem dX0_odds_34 : decode cX0_odds 34 = .ok (.aload_n 0, 1) := dk_42 (dk_at dksX0_odds_1 10 rfl rfl)
theorem dX0_odds_35 : decode cX0_odds 35 = .ok (.getfield 79, 3) := dk_180 0 79 (dk_at dksX0_odds_1 11 rfl rfl)
theorem dX0_odds_38 : decode cX0_odds 38 = .ok (.getfield 114, 3) := dk_180 0 114 (dk_at dksX0_odds_1 14 rfl rfl)
theorem dX0_odds_41 : decode cX0_odds 41 = .ok (.iconst 5, 1) := dk_8 (dk_at dksX0_odds_1 17 rfl rfl)
theorem dX0_odds_42 : decode cX0_odds 42 = .ok (.aaload, 1) := dk_50 (dk_at dksX0_odds_1 18 rfl rfl)
theorem dX0_odds_43 : decode cX0_odds 43 = .ok (.iload_n 1, 1) := dk_27 (dk_at dksX0_odds_1 19 rfl rfl)
theorem dX0_odds_44 : decode cX0_odds 44 = .ok (.iaload, 1) := dk_46 (dk_at dksX0_odds_1 20 rfl rfl)
theorem dX0_odds_45 : decode cX0_odds 45 = .ok (.invokestatic 261, 3) := dk_184 1 5 (dk_at dksX0_odds_1 21 rfl rfl)
theorem dX0_odds_48 : decode cX0_odds 48 = .ok (.istore 4, 2) := dk_54 4 (dk_at dksX0_odds_2 0 rfl rfl)
theorem dX0_odds_50 : decode cX0_odds 50 = .ok (.iload 4, 2) := dk_21 4 (dk_at dksX0_odds_2 2 rfl rfl)
theorem dX0_odds_52 : decode cX0_odds 52 = .ok (.bipush 16, 2) := dk_16 16 (dk_at dksX0_odds_2 4 rfl rfl)
theorem dX0_odds_54 : decode cX0_odds 54 = .ok (.invokestatic 327, 3) := dk_184 1 71 (dk_at dksX0_odds_2 6 rfl rfl)
theorem dX0_odds_57 : decode cX0_odds 57 = .ok (.istore 5, 2) := dk_54 5 (dk_at dksX0_odds_2 9 rfl rfl)
theorem dX0_odds_59 : decode cX0_odds 59 = .ok (.iload_n 3, 1) := dk_29 (dk_at dksX0_odds_2 11 rfl rfl)
theorem dX0_odds_60 : decode cX0_odds 60 = .ok (.ifCond .ne 8, 3) := dk_154 0 8 (dk_at dksX0_odds_2 12 rfl rfl)
theorem dX0_odds_63 : decode cX0_odds 63 = .ok (.iload 4, 2) := dk_21 4 (dk_at dksX0_odds_2 15 rfl rfl)
theorem dX0_odds_65 : decode cX0_odds 65 = .ok (.goto 5, 3) := dk_167 0 5 (dk_at dksX0_odds_2 17 rfl rfl)
theorem dX0_odds_68 : decode cX0_odds 68 = .ok (.bipush 16, 2) := dk_16 16 (dk_at dksX0_odds_2 20 rfl rfl)
theorem dX0_odds_70 : decode cX0_odds 70 = .ok (.iload 5, 2) := dk_21 5 (dk_at dksX0_odds_2 22 rfl rfl)
theorem dX0_odds_72 : decode cX0_odds 72 = .ok (.idiv, 1) := dk_108 (dk_at dksX0_odds_3 0 rfl rfl)
theorem dX0_odds_73 : decode cX0_odds 73 = .ok (.istore 6, 2) := dk_54 6 (dk_at dksX0_odds_3 1 rfl rfl)
theorem dX0_odds_75 : decode cX0_odds 75 = .ok (.lconst 1, 1) := dk_10 (dk_at dksX0_odds_3 3 rfl rfl)
theorem dX0_odds_76 : decode cX0_odds 76 = .ok (.lstore 7, 2) := dk_55 7 (dk_at dksX0_odds_3 4 rfl rfl)
theorem dX0_odds_78 : decode cX0_odds 78 = .ok (.iconst 0, 1) := dk_3 (dk_at dksX0_odds_3 6 rfl rfl)
theorem dX0_odds_79 : decode cX0_odds 79 = .ok (.istore 9, 2) := dk_54 9 (dk_at dksX0_odds_3 7 rfl rfl)
theorem dX0_odds_81 : decode cX0_odds 81 = .ok (.iload 9, 2) := dk_21 9 (dk_at dksX0_odds_3 9 rfl rfl)
theorem dX0_odds_83 : decode cX0_odds 83 = .ok (.iload_n 2, 1) := dk_28 (dk_at dksX0_odds_3 11 rfl rfl)
theorem dX0_odds_84 : decode cX0_odds 84 = .ok (.if_icmp .ge 17, 3) := dk_162 0 17 (dk_at dksX0_odds_3 12 rfl rfl)
theorem dX0_odds_87 : decode cX0_odds 87 = .ok (.lload 7, 2) := dk_22 7 (dk_at dksX0_odds_3 15 rfl rfl)
theorem dX0_odds_89 : decode cX0_odds 89 = .ok (.iload 6, 2) := dk_21 6 (dk_at dksX0_odds_3 17 rfl rfl)
theorem dX0_odds_91 : decode cX0_odds 91 = .ok (.i2l, 1) := dk_133 (dk_at dksX0_odds_3 19 rfl rfl)
theorem dX0_odds_92 : decode cX0_odds 92 = .ok (.lmul, 1) := dk_105 (dk_at dksX0_odds_3 20 rfl rfl)
theorem dX0_odds_93 : decode cX0_odds 93 = .ok (.lstore 7, 2) := dk_55 7 (dk_at dksX0_odds_3 21 rfl rfl)
theorem dX0_odds_95 : decode cX0_odds 95 = .ok (.iinc 9 1, 3) := dk_132 9 1 (dk_at dksX0_odds_4 0 rfl rfl)
theorem dX0_odds_98 : decode cX0_odds 98 = .ok (.goto (-17), 3) := dk_167 255 239 (dk_at dksX0_odds_4 3 rfl rfl)
theorem dX0_odds_101 : decode cX0_odds 101 = .ok (.lload 7, 2) := dk_22 7 (dk_at dksX0_odds_4 6 rfl rfl)
theorem dX0_odds_103 : decode cX0_odds 103 = .ok (.lreturn, 1) := dk_173 (dk_at dksX0_odds_4 8 rfl rfl)
abbrev cX0_divisor : ByteArray := prog_1_method_69_code
def yX0_divisor : MethodName := ⟨RX0, "divisor", "(II)I"⟩
def dkwX0_divisor_0 : List UInt8 := [26, 61, 27, 62, 29, 153, 0, 16, 28, 29, 112, 54, 4, 29, 61, 21, 4, 62, 167, 255, 242, 28, 172]
abbrev dktX0_divisor_0 : List UInt8 := dkwX0_divisor_0 ++ []
theorem dksX0_divisor_0 : cX0_divisor.data.toList.drop 0 = dktX0_divisor_0 := by decide +kernel
theorem dX0_divisor_0 : decode cX0_divisor 0 = .ok (.iload_n 0, 1) := dk_26 (dk_at dksX0_divisor_0 0 rfl rfl)
theorem dX0_divisor_1 : decode cX0_divisor 1 = .ok (.istore_n 2, 1) := dk_61 (dk_at dksX0_divisor_0 1 rfl rfl)
theorem dX0_divisor_2 : decode cX0_divisor 2 = .ok (.iload_n 1, 1) := dk_27 (dk_at dksX0_divisor_0 2 rfl rfl)
theorem dX0_divisor_3 : decode cX0_divisor 3 = .ok (.istore_n 3, 1) := dk_62 (dk_at dksX0_divisor_0 3 rfl rfl)
theorem dX0_divisor_4 : decode cX0_divisor 4 = .ok (.iload_n 3, 1) := dk_29 (dk_at dksX0_divisor_0 4 rfl rfl)
theorem dX0_divisor_5 : decode cX0_divisor 5 = .ok (.ifCond .eq 16, 3) := dk_153 0 16 (dk_at dksX0_divisor_0 5 rfl rfl)
theorem dX0_divisor_8 : decode cX0_divisor 8 = .ok (.iload_n 2, 1) := dk_28 (dk_at dksX0_divisor_0 8 rfl rfl)
theorem dX0_divisor_9 : decode cX0_divisor 9 = .ok (.iload_n 3, 1) := dk_29 (dk_at dksX0_divisor_0 9 rfl rfl)
theorem dX0_divisor_10 : decode cX0_divisor 10 = .ok (.irem, 1) := dk_112 (dk_at dksX0_divisor_0 10 rfl rfl)
theorem dX0_divisor_11 : decode cX0_divisor 11 = .ok (.istore 4, 2) := dk_54 4 (dk_at dksX0_divisor_0 11 rfl rfl)
theorem dX0_divisor_13 : decode cX0_divisor 13 = .ok (.iload_n 3, 1) := dk_29 (dk_at dksX0_divisor_0 13 rfl rfl)
theorem dX0_divisor_14 : decode cX0_divisor 14 = .ok (.istore_n 2, 1) := dk_61 (dk_at dksX0_divisor_0 14 rfl rfl)
theorem dX0_divisor_15 : decode cX0_divisor 15 = .ok (.iload 4, 2) := dk_21 4 (dk_at dksX0_divisor_0 15 rfl rfl)
theorem dX0_divisor_17 : decode cX0_divisor 17 = .ok (.istore_n 3, 1) := dk_62 (dk_at dksX0_divisor_0 17 rfl rfl)
theorem dX0_divisor_18 : decode cX0_divisor 18 = .ok (.goto (-14), 3) := dk_167 255 242 (dk_at dksX0_divisor_0 18 rfl rfl)
theorem dX0_divisor_21 : decode cX0_divisor 21 = .ok (.iload_n 2, 1) := dk_28 (dk_at dksX0_divisor_0 21 rfl rfl)
theorem dX0_divisor_22 : decode cX0_divisor 22 = .ok (.ireturn, 1) := dk_172 (dk_at dksX0_divisor_0 22 rfl rfl)
abbrev cX0_seed : ByteArray := prog_1_method_71_code
def yX0_seed : MethodName := ⟨RX0, "seed", "(I)I"⟩
def dkwX0_seed_0 : List UInt8 := [42, 180, 0, 79, 180, 1, 74, 61, 42, 180, 0, 79, 27, 181, 1, 74, 28, 172]
abbrev dktX0_seed_0 : List UInt8 := dkwX0_seed_0 ++ []
theorem dksX0_seed_0 : cX0_seed.data.toList.drop 0 = dktX0_seed_0 := by decide +kernel
theorem dX0_seed_0 : decode cX0_seed 0 = .ok (.aload_n 0, 1) := dk_42 (dk_at dksX0_seed_0 0 rfl rfl)
theorem dX0_seed_1 : decode cX0_seed 1 = .ok (.getfield 79, 3) := dk_180 0 79 (dk_at dksX0_seed_0 1 rfl rfl)
theorem dX0_seed_4 : decode cX0_seed 4 = .ok (.getfield 330, 3) := dk_180 1 74 (dk_at dksX0_seed_0 4 rfl rfl)
theorem dX0_seed_7 : decode cX0_seed 7 = .ok (.istore_n 2, 1) := dk_61 (dk_at dksX0_seed_0 7 rfl rfl)
theorem dX0_seed_8 : decode cX0_seed 8 = .ok (.aload_n 0, 1) := dk_42 (dk_at dksX0_seed_0 8 rfl rfl)
theorem dX0_seed_9 : decode cX0_seed 9 = .ok (.getfield 79, 3) := dk_180 0 79 (dk_at dksX0_seed_0 9 rfl rfl)
theorem dX0_seed_12 : decode cX0_seed 12 = .ok (.iload_n 1, 1) := dk_27 (dk_at dksX0_seed_0 12 rfl rfl)
theorem dX0_seed_13 : decode cX0_seed 13 = .ok (.putfield 330, 3) := dk_181 1 74 (dk_at dksX0_seed_0 13 rfl rfl)
theorem dX0_seed_16 : decode cX0_seed 16 = .ok (.iload_n 2, 1) := dk_28 (dk_at dksX0_seed_0 16 rfl rfl)
theorem dX0_seed_17 : decode cX0_seed 17 = .ok (.ireturn, 1) := dk_172 (dk_at dksX0_seed_0 17 rfl rfl)
abbrev cX0_feed : ByteArray := prog_1_method_72_code
def yX0_feed : MethodName := ⟨RX0, "feed", "(II)I"⟩
def dkwX0_feed_3 : List UInt8 := [132, 3, 255, 167, 255, 220, 42, 180, 1, 77, 172]
abbrev dktX0_feed_3 : List UInt8 := dkwX0_feed_3 ++ []
def dkwX0_feed_2 : List UInt8 := [42, 180, 1, 77, 27, 16, 8, 29, 104, 122, 145, 84, 42, 89, 180, 1, 77, 4, 96, 181, 1, 77]
abbrev dktX0_feed_2 : List UInt8 := dkwX0_feed_2 ++ dktX0_feed_3
def dkwX0_feed_1 : List UInt8 := [164, 0, 9, 42, 4, 182, 0, 129, 172, 28, 4, 100, 62, 29, 155, 0, 38, 42, 180, 0, 72, 180, 1, 80]
abbrev dktX0_feed_1 : List UInt8 := dkwX0_feed_1 ++ dktX0_feed_2
def dkwX0_feed_0 : List UInt8 := [28, 4, 7, 184, 0, 9, 154, 0, 9, 42, 3, 182, 0, 129, 172, 42, 180, 1, 77, 28, 96, 16, 120]
abbrev dktX0_feed_0 : List UInt8 := dkwX0_feed_0 ++ dktX0_feed_1
theorem dksX0_feed_0 : cX0_feed.data.toList.drop 0 = dktX0_feed_0 := by decide +kernel
theorem dksX0_feed_1 : cX0_feed.data.toList.drop 23 = dktX0_feed_1 := dk_seg dksX0_feed_0 23 rfl rfl
theorem dksX0_feed_2 : cX0_feed.data.toList.drop 47 = dktX0_feed_2 := dk_seg dksX0_feed_1 24 rfl rfl
theorem dksX0_feed_3 : cX0_feed.data.toList.drop 69 = dktX0_feed_3 := dk_seg dksX0_feed_2 22 rfl rfl
theorem dX0_feed_0 : decode cX0_feed 0 = .ok (.iload_n 2, 1) := dk_28 (dk_at dksX0_feed_0 0 rfl rfl)
theorem dX0_feed_1 : decode cX0_feed 1 = .ok (.iconst 1, 1) := dk_4 (dk_at dksX0_feed_0 1 rfl rfl)
theorem dX0_feed_2 : decode cX0_feed 2 = .ok (.iconst 4, 1) := dk_7 (dk_at dksX0_feed_0 2 rfl rfl)
theorem dX0_feed_3 : decode cX0_feed 3 = .ok (.invokestatic 9, 3) := dk_184 0 9 (dk_at dksX0_feed_0 3 rfl rfl)
theorem dX0_feed_6 : decode cX0_feed 6 = .ok (.ifCond .ne 9, 3) := dk_154 0 9 (dk_at dksX0_feed_0 6 rfl rfl)
theorem dX0_feed_9 : decode cX0_feed 9 = .ok (.aload_n 0, 1) := dk_42 (dk_at dksX0_feed_0 9 rfl rfl)
theorem dX0_feed_10 : decode cX0_feed 10 = .ok (.iconst 0, 1) := dk_3 (dk_at dksX0_feed_0 10 rfl rfl)
theorem dX0_feed_11 : decode cX0_feed 11 = .ok (.invokevirtual 129, 3) := dk_182 0 129 (dk_at dksX0_feed_0 11 rfl rfl)
theorem dX0_feed_14 : decode cX0_feed 14 = .ok (.ireturn, 1) := dk_172 (dk_at dksX0_feed_0 14 rfl rfl)
theorem dX0_feed_15 : decode cX0_feed 15 = .ok (.aload_n 0, 1) := dk_42 (dk_at dksX0_feed_0 15 rfl rfl)
theorem dX0_feed_16 : decode cX0_feed 16 = .ok (.getfield 333, 3) := dk_180 1 77 (dk_at dksX0_feed_0 16 rfl rfl)
theorem dX0_feed_19 : decode cX0_feed 19 = .ok (.iload_n 2, 1) := dk_28 (dk_at dksX0_feed_0 19 rfl rfl)
theorem dX0_feed_20 : decode cX0_feed 20 = .ok (.iadd, 1) := dk_96 (dk_at dksX0_feed_0 20 rfl rfl)
theorem dX0_feed_21 : decode cX0_feed 21 = .ok (.bipush 120, 2) := dk_16 120 (dk_at dksX0_feed_0 21 rfl rfl)
theorem dX0_feed_23 : decode cX0_feed 23 = .ok (.if_icmp .le 9, 3) := dk_164 0 9 (dk_at dksX0_feed_1 0 rfl rfl)
theorem dX0_feed_26 : decode cX0_feed 26 = .ok (.aload_n 0, 1) := dk_42 (dk_at dksX0_feed_1 3 rfl rfl)
theorem dX0_feed_27 : decode cX0_feed 27 = .ok (.iconst 1, 1) := dk_4 (dk_at dksX0_feed_1 4 rfl rfl)
theorem dX0_feed_28 : decode cX0_feed 28 = .ok (.invokevirtual 129, 3) := dk_182 0 129 (dk_at dksX0_feed_1 5 rfl rfl)
theorem dX0_feed_31 : decode cX0_feed 31 = .ok (.ireturn, 1) := dk_172 (dk_at dksX0_feed_1 8 rfl rfl)
theorem dX0_feed_32 : decode cX0_feed 32 = .ok (.iload_n 2, 1) := dk_28 (dk_at dksX0_feed_1 9 rfl rfl)
theorem dX0_feed_33 : decode cX0_feed 33 = .ok (.iconst 1, 1) := dk_4 (dk_at dksX0_feed_1 10 rfl rfl)
theorem dX0_feed_34 : decode cX0_feed 34 = .ok (.isub, 1) := dk_100 (dk_at dksX0_feed_1 11 rfl rfl)
theorem dX0_feed_35 : decode cX0_feed 35 = .ok (.istore_n 3, 1) := dk_62 (dk_at dksX0_feed_1 12 rfl rfl)
theorem dX0_feed_36 : decode cX0_feed 36 = .ok (.iload_n 3, 1) := dk_29 (dk_at dksX0_feed_1 13 rfl rfl)
theorem dX0_feed_37 : decode cX0_feed 37 = .ok (.ifCond .lt 38, 3) := dk_155 0 38 (dk_at dksX0_feed_1 14 rfl rfl)
theorem dX0_feed_40 : decode cX0_feed 40 = .ok (.aload_n 0, 1) := dk_42 (dk_at dksX0_feed_1 17 rfl rfl)
theorem dX0_feed_41 : decode cX0_feed 41 = .ok (.getfield 72, 3) := dk_180 0 72 (dk_at dksX0_feed_1 18 rfl rfl)
theorem dX0_feed_44 : decode cX0_feed 44 = .ok (.getfield 336, 3) := dk_180 1 80 (dk_at dksX0_feed_1 21 rfl rfl)
theorem dX0_feed_47 : decode cX0_feed 47 = .ok (.aload_n 0, 1) := dk_42 (dk_at dksX0_feed_2 0 rfl rfl)
theorem dX0_feed_48 : decode cX0_feed 48 = .ok (.getfield 333, 3) := dk_180 1 77 (dk_at dksX0_feed_2 1 rfl rfl)
theorem dX0_feed_51 : decode cX0_feed 51 = .ok (.iload_n 1, 1) := dk_27 (dk_at dksX0_feed_2 4 rfl rfl)
theorem dX0_feed_52 : decode cX0_feed 52 = .ok (.bipush 8, 2) := dk_16 8 (dk_at dksX0_feed_2 5 rfl rfl)
theorem dX0_feed_54 : decode cX0_feed 54 = .ok (.iload_n 3, 1) := dk_29 (dk_at dksX0_feed_2 7 rfl rfl)
theorem dX0_feed_55 : decode cX0_feed 55 = .ok (.imul, 1) := dk_104 (dk_at dksX0_feed_2 8 rfl rfl)
theorem dX0_feed_56 : decode cX0_feed 56 = .ok (.ishr, 1) := dk_122 (dk_at dksX0_feed_2 9 rfl rfl)
theorem dX0_feed_57 : decode cX0_feed 57 = .ok (.i2b, 1) := dk_145 (dk_at dksX0_feed_2 10 rfl rfl)
theorem dX0_feed_58 : decode cX0_feed 58 = .ok (.bastore, 1) := dk_84 (dk_at dksX0_feed_2 11 rfl rfl)
theorem dX0_feed_59 : decode cX0_feed 59 = .ok (.aload_n 0, 1) := dk_42 (dk_at dksX0_feed_2 12 rfl rfl)
theorem dX0_feed_60 : decode cX0_feed 60 = .ok (.dup, 1) := dk_89 (dk_at dksX0_feed_2 13 rfl rfl)
theorem dX0_feed_61 : decode cX0_feed 61 = .ok (.getfield 333, 3) := dk_180 1 77 (dk_at dksX0_feed_2 14 rfl rfl)
theorem dX0_feed_64 : decode cX0_feed 64 = .ok (.iconst 1, 1) := dk_4 (dk_at dksX0_feed_2 17 rfl rfl)
theorem dX0_feed_65 : decode cX0_feed 65 = .ok (.iadd, 1) := dk_96 (dk_at dksX0_feed_2 18 rfl rfl)
theorem dX0_feed_66 : decode cX0_feed 66 = .ok (.putfield 333, 3) := dk_181 1 77 (dk_at dksX0_feed_2 19 rfl rfl)
theorem dX0_feed_69 : decode cX0_feed 69 = .ok (.iinc 3 (-1), 3) := dk_132 3 255 (dk_at dksX0_feed_3 0 rfl rfl)
theorem dX0_feed_72 : decode cX0_feed 72 = .ok (.goto (-36), 3) := dk_167 255 220 (dk_at dksX0_feed_3 3 rfl rfl)
theorem dX0_feed_75 : decode cX0_feed 75 = .ok (.aload_n 0, 1) := dk_42 (dk_at dksX0_feed_3 6 rfl rfl)
theorem dX0_feed_76 : decode cX0_feed 76 = .ok (.getfield 333, 3) := dk_180 1 77 (dk_at dksX0_feed_3 7 rfl rfl)
theorem dX0_feed_79 : decode cX0_feed 79 = .ok (.ireturn, 1) := dk_172 (dk_at dksX0_feed_3 10 rfl rfl)
abbrev cX0_wipe : ByteArray := prog_1_method_73_code
def yX0_wipe : MethodName := ⟨RX0, "wipe", "()I"⟩
def dkwX0_wipe_0 : List UInt8 := [42, 180, 1, 77, 60, 42, 3, 181, 1, 77, 27, 172]
abbrev dktX0_wipe_0 : List UInt8 := dkwX0_wipe_0 ++ []
theorem dksX0_wipe_0 : cX0_wipe.data.toList.drop 0 = dktX0_wipe_0 := by decide +kernel
theorem dX0_wipe_0 : decode cX0_wipe 0 = .ok (.aload_n 0, 1) := dk_42 (dk_at dksX0_wipe_0 0 rfl rfl)
theorem dX0_wipe_1 : decode cX0_wipe 1 = .ok (.getfield 333, 3) := dk_180 1 77 (dk_at dksX0_wipe_0 1 rfl rfl)
theorem dX0_wipe_4 : decode cX0_wipe 4 = .ok (.istore_n 1, 1) := dk_60 (dk_at dksX0_wipe_0 4 rfl rfl)
theorem dX0_wipe_5 : decode cX0_wipe 5 = .ok (.aload_n 0, 1) := dk_42 (dk_at dksX0_wipe_0 5 rfl rfl)
theorem dX0_wipe_6 : decode cX0_wipe 6 = .ok (.iconst 0, 1) := dk_3 (dk_at dksX0_wipe_0 6 rfl rfl)
theorem dX0_wipe_7 : decode cX0_wipe 7 = .ok (.putfield 333, 3) := dk_181 1 77 (dk_at dksX0_wipe_0 7 rfl rfl)
theorem dX0_wipe_10 : decode cX0_wipe 10 = .ok (.iload_n 1, 1) := dk_27 (dk_at dksX0_wipe_0 10 rfl rfl)
theorem dX0_wipe_11 : decode cX0_wipe 11 = .ok (.ireturn, 1) := dk_172 (dk_at dksX0_wipe_0 11 rfl rfl)
abbrev cX0_text : ByteArray := prog_1_method_74_code
def yX0_text : MethodName := ⟨RX0, "text", "()I"⟩
def dkwX0_text_2 : List UInt8 := [180, 1, 86, 182, 0, 247, 27, 172, 76, 2, 42, 180, 0, 72, 180, 1, 94, 100, 172]
abbrev dktX0_text_2 : List UInt8 := dkwX0_text_2 ++ []
def dkwX0_text_1 : List UInt8 := [180, 0, 79, 182, 0, 247, 42, 180, 0, 72, 182, 1, 89, 60, 42, 180, 0, 79, 42, 180, 0, 72]
abbrev dktX0_text_1 : List UInt8 := dkwX0_text_1 ++ dktX0_text_2
def dkwX0_text_0 : List UInt8 := [42, 180, 0, 72, 42, 180, 1, 77, 181, 1, 84, 42, 3, 181, 1, 77, 42, 180, 0, 72, 180, 1, 86, 42]
abbrev dktX0_text_0 : List UInt8 := dkwX0_text_0 ++ dktX0_text_1
theorem dksX0_text_0 : cX0_text.data.toList.drop 0 = dktX0_text_0 := by decide +kernel
theorem dksX0_text_1 : cX0_text.data.toList.drop 24 = dktX0_text_1 := dk_seg dksX0_text_0 24 rfl rfl
theorem dksX0_text_2 : cX0_text.data.toList.drop 46 = dktX0_text_2 := dk_seg dksX0_text_1 22 rfl rfl
theorem dX0_text_0 : decode cX0_text 0 = .ok (.aload_n 0, 1) := dk_42 (dk_at dksX0_text_0 0 rfl rfl)
theorem dX0_text_1 : decode cX0_text 1 = .ok (.getfield 72, 3) := dk_180 0 72 (dk_at dksX0_text_0 1 rfl rfl)
theorem dX0_text_4 : decode cX0_text 4 = .ok (.aload_n 0, 1) := dk_42 (dk_at dksX0_text_0 4 rfl rfl)
theorem dX0_text_5 : decode cX0_text 5 = .ok (.getfield 333, 3) := dk_180 1 77 (dk_at dksX0_text_0 5 rfl rfl)
theorem dX0_text_8 : decode cX0_text 8 = .ok (.putfield 340, 3) := dk_181 1 84 (dk_at dksX0_text_0 8 rfl rfl)
theorem dX0_text_11 : decode cX0_text 11 = .ok (.aload_n 0, 1) := dk_42 (dk_at dksX0_text_0 11 rfl rfl)
theorem dX0_text_12 : decode cX0_text 12 = .ok (.iconst 0, 1) := dk_3 (dk_at dksX0_text_0 12 rfl rfl)
theorem dX0_text_13 : decode cX0_text 13 = .ok (.putfield 333, 3) := dk_181 1 77 (dk_at dksX0_text_0 13 rfl rfl)
theorem dX0_text_16 : decode cX0_text 16 = .ok (.aload_n 0, 1) := dk_42 (dk_at dksX0_text_0 16 rfl rfl)
theorem dX0_text_17 : decode cX0_text 17 = .ok (.getfield 72, 3) := dk_180 0 72 (dk_at dksX0_text_0 17 rfl rfl)
theorem dX0_text_20 : decode cX0_text 20 = .ok (.getfield 342, 3) := dk_180 1 86 (dk_at dksX0_text_0 20 rfl rfl)
theorem dX0_text_23 : decode cX0_text 23 = .ok (.aload_n 0, 1) := dk_42 (dk_at dksX0_text_0 23 rfl rfl)
theorem dX0_text_24 : decode cX0_text 24 = .ok (.getfield 79, 3) := dk_180 0 79 (dk_at dksX0_text_1 0 rfl rfl)
theorem dX0_text_27 : decode cX0_text 27 = .ok (.invokevirtual 247, 3) := dk_182 0 247 (dk_at dksX0_text_1 3 rfl rfl)
theorem dX0_text_30 : decode cX0_text 30 = .ok (.aload_n 0, 1) := dk_42 (dk_at dksX0_text_1 6 rfl rfl)
theorem dX0_text_31 : decode cX0_text 31 = .ok (.getfield 72, 3) := dk_180 0 72 (dk_at dksX0_text_1 7 rfl rfl)
theorem dX0_text_34 : decode cX0_text 34 = .ok (.invokevirtual 345, 3) := dk_182 1 89 (dk_at dksX0_text_1 10 rfl rfl)
theorem dX0_text_37 : decode cX0_text 37 = .ok (.istore_n 1, 1) := dk_60 (dk_at dksX0_text_1 13 rfl rfl)
theorem dX0_text_38 : decode cX0_text 38 = .ok (.aload_n 0, 1) := dk_42 (dk_at dksX0_text_1 14 rfl rfl)
theorem dX0_text_39 : decode cX0_text 39 = .ok (.getfield 79, 3) := dk_180 0 79 (dk_at dksX0_text_1 15 rfl rfl)
theorem dX0_text_42 : decode cX0_text 42 = .ok (.aload_n 0, 1) := dk_42 (dk_at dksX0_text_1 18 rfl rfl)
theorem dX0_text_43 : decode cX0_text 43 = .ok (.getfield 72, 3) := dk_180 0 72 (dk_at dksX0_text_1 19 rfl rfl)
theorem dX0_text_46 : decode cX0_text 46 = .ok (.getfield 342, 3) := dk_180 1 86 (dk_at dksX0_text_2 0 rfl rfl)
theorem dX0_text_49 : decode cX0_text 49 = .ok (.invokevirtual 247, 3) := dk_182 0 247 (dk_at dksX0_text_2 3 rfl rfl)
theorem dX0_text_52 : decode cX0_text 52 = .ok (.iload_n 1, 1) := dk_27 (dk_at dksX0_text_2 6 rfl rfl)
theorem dX0_text_53 : decode cX0_text 53 = .ok (.ireturn, 1) := dk_172 (dk_at dksX0_text_2 7 rfl rfl)
theorem dX0_text_54 : decode cX0_text 54 = .ok (.astore_n 1, 1) := dk_76 (dk_at dksX0_text_2 8 rfl rfl)
theorem dX0_text_55 : decode cX0_text 55 = .ok (.iconst (-1), 1) := dk_2 (dk_at dksX0_text_2 9 rfl rfl)
theorem dX0_text_56 : decode cX0_text 56 = .ok (.aload_n 0, 1) := dk_42 (dk_at dksX0_text_2 10 rfl rfl)
theorem dX0_text_57 : decode cX0_text 57 = .ok (.getfield 72, 3) := dk_180 0 72 (dk_at dksX0_text_2 11 rfl rfl)
theorem dX0_text_60 : decode cX0_text 60 = .ok (.getfield 350, 3) := dk_180 1 94 (dk_at dksX0_text_2 14 rfl rfl)
theorem dX0_text_63 : decode cX0_text 63 = .ok (.isub, 1) := dk_100 (dk_at dksX0_text_2 17 rfl rfl)
theorem dX0_text_64 : decode cX0_text 64 = .ok (.ireturn, 1) := dk_172 (dk_at dksX0_text_2 18 rfl rfl)
abbrev cX0_hold : ByteArray := prog_1_method_77_code
def yX0_hold : MethodName := ⟨RX0, "hold", "(II)I"⟩
def dkwX0_hold_1 : List UInt8 := [182, 0, 129, 172, 42, 180, 0, 79, 180, 1, 97, 27, 28, 79, 4, 172]
abbrev dktX0_hold_1 : List UInt8 := dkwX0_hold_1 ++ []
def dkwX0_hold_0 : List UInt8 := [27, 184, 1, 100, 153, 0, 16, 28, 2, 159, 0, 17, 42, 28, 182, 0, 208, 154, 0, 9, 42, 3]
abbrev dktX0_hold_0 : List UInt8 := dkwX0_hold_0 ++ dktX0_hold_1
theorem dksX0_hold_0 : cX0_hold.data.toList.drop 0 = dktX0_hold_0 := by decide +kernel
theorem dksX0_hold_1 : cX0_hold.data.toList.drop 22 = dktX0_hold_1 := dk_seg dksX0_hold_0 22 rfl rfl
theorem dX0_hold_0 : decode cX0_hold 0 = .ok (.iload_n 1, 1) := dk_27 (dk_at dksX0_hold_0 0 rfl rfl)
theorem dX0_hold_1 : decode cX0_hold 1 = .ok (.invokestatic 356, 3) := dk_184 1 100 (dk_at dksX0_hold_0 1 rfl rfl)
theorem dX0_hold_4 : decode cX0_hold 4 = .ok (.ifCond .eq 16, 3) := dk_153 0 16 (dk_at dksX0_hold_0 4 rfl rfl)
theorem dX0_hold_7 : decode cX0_hold 7 = .ok (.iload_n 2, 1) := dk_28 (dk_at dksX0_hold_0 7 rfl rfl)
theorem dX0_hold_8 : decode cX0_hold 8 = .ok (.iconst (-1), 1) := dk_2 (dk_at dksX0_hold_0 8 rfl rfl)
theorem dX0_hold_9 : decode cX0_hold 9 = .ok (.if_icmp .eq 17, 3) := dk_159 0 17 (dk_at dksX0_hold_0 9 rfl rfl)
theorem dX0_hold_12 : decode cX0_hold 12 = .ok (.aload_n 0, 1) := dk_42 (dk_at dksX0_hold_0 12 rfl rfl)
theorem dX0_hold_13 : decode cX0_hold 13 = .ok (.iload_n 2, 1) := dk_28 (dk_at dksX0_hold_0 13 rfl rfl)
theorem dX0_hold_14 : decode cX0_hold 14 = .ok (.invokevirtual 208, 3) := dk_182 0 208 (dk_at dksX0_hold_0 14 rfl rfl)
theorem dX0_hold_17 : decode cX0_hold 17 = .ok (.ifCond .ne 9, 3) := dk_154 0 9 (dk_at dksX0_hold_0 17 rfl rfl)
theorem dX0_hold_20 : decode cX0_hold 20 = .ok (.aload_n 0, 1) := dk_42 (dk_at dksX0_hold_0 20 rfl rfl)
theorem dX0_hold_21 : decode cX0_hold 21 = .ok (.iconst 0, 1) := dk_3 (dk_at dksX0_hold_0 21 rfl rfl)
theorem dX0_hold_22 : decode cX0_hold 22 = .ok (.invokevirtual 129, 3) := dk_182 0 129 (dk_at dksX0_hold_1 0 rfl rfl)
theorem dX0_hold_25 : decode cX0_hold 25 = .ok (.ireturn, 1) := dk_172 (dk_at dksX0_hold_1 3 rfl rfl)
theorem dX0_hold_26 : decode cX0_hold 26 = .ok (.aload_n 0, 1) := dk_42 (dk_at dksX0_hold_1 4 rfl rfl)
theorem dX0_hold_27 : decode cX0_hold 27 = .ok (.getfield 79, 3) := dk_180 0 79 (dk_at dksX0_hold_1 5 rfl rfl)
theorem dX0_hold_30 : decode cX0_hold 30 = .ok (.getfield 353, 3) := dk_180 1 97 (dk_at dksX0_hold_1 8 rfl rfl)
theorem dX0_hold_33 : decode cX0_hold 33 = .ok (.iload_n 1, 1) := dk_27 (dk_at dksX0_hold_1 11 rfl rfl)
theorem dX0_hold_34 : decode cX0_hold 34 = .ok (.iload_n 2, 1) := dk_28 (dk_at dksX0_hold_1 12 rfl rfl)
theorem dX0_hold_35 : decode cX0_hold 35 = .ok (.iastore, 1) := dk_79 (dk_at dksX0_hold_1 13 rfl rfl)
theorem dX0_hold_36 : decode cX0_hold 36 = .ok (.iconst 1, 1) := dk_4 (dk_at dksX0_hold_1 14 rfl rfl)
theorem dX0_hold_37 : decode cX0_hold 37 = .ok (.ireturn, 1) := dk_172 (dk_at dksX0_hold_1 15 rfl rfl)
abbrev cX0_isSpot : ByteArray := prog_1_method_5_code
def yX0_isSpot : MethodName := ⟨RX0, "isSpot", "(I)Z"⟩
def dkwX0_isSpot_0 : List UInt8 := [26, 3, 16, 9, 184, 0, 9, 172]
abbrev dktX0_isSpot_0 : List UInt8 := dkwX0_isSpot_0 ++ []
theorem dksX0_isSpot_0 : cX0_isSpot.data.toList.drop 0 = dktX0_isSpot_0 := by decide +kernel
theorem dX0_isSpot_0 : decode cX0_isSpot 0 = .ok (.iload_n 0, 1) := dk_26 (dk_at dksX0_isSpot_0 0 rfl rfl)
theorem dX0_isSpot_1 : decode cX0_isSpot 1 = .ok (.iconst 0, 1) := dk_3 (dk_at dksX0_isSpot_0 1 rfl rfl)
theorem dX0_isSpot_2 : decode cX0_isSpot 2 = .ok (.bipush 9, 2) := dk_16 9 (dk_at dksX0_isSpot_0 2 rfl rfl)
theorem dX0_isSpot_4 : decode cX0_isSpot 4 = .ok (.invokestatic 9, 3) := dk_184 0 9 (dk_at dksX0_isSpot_0 4 rfl rfl)
theorem dX0_isSpot_7 : decode cX0_isSpot 7 = .ok (.ireturn, 1) := dk_172 (dk_at dksX0_isSpot_0 7 rfl rfl)
abbrev cX0_as : ByteArray := prog_1_method_79_code
def yX0_as : MethodName := ⟨RX0, "as", "(II)I"⟩
def dkwX0_as_3 : List UInt8 := [184, 1, 109, 180, 1, 113, 167, 0, 8, 42, 5, 182, 0, 129, 172]
abbrev dktX0_as_3 : List UInt8 := dkwX0_as_3 ++ []
def dkwX0_as_2 : List UInt8 := [192, 0, 54, 28, 182, 1, 106, 153, 0, 7, 4, 167, 0, 4, 3, 54, 4, 21, 4, 153, 0, 14, 45, 28]
abbrev dktX0_as_2 : List UInt8 := dkwX0_as_2 ++ dktX0_as_3
def dkwX0_as_1 : List UInt8 := [182, 1, 103, 78, 45, 199, 0, 9, 42, 8, 182, 0, 129, 172, 45, 193, 0, 54, 153, 0, 18, 45]
abbrev dktX0_as_1 : List UInt8 := dkwX0_as_1 ++ dktX0_as_2
def dkwX0_as_0 : List UInt8 := [27, 184, 1, 100, 153, 0, 10, 28, 184, 0, 27, 154, 0, 9, 42, 3, 182, 0, 129, 172, 42, 27]
abbrev dktX0_as_0 : List UInt8 := dkwX0_as_0 ++ dktX0_as_1
theorem dksX0_as_0 : cX0_as.data.toList.drop 0 = dktX0_as_0 := by decide +kernel
theorem dksX0_as_1 : cX0_as.data.toList.drop 22 = dktX0_as_1 := dk_seg dksX0_as_0 22 rfl rfl
theorem dksX0_as_2 : cX0_as.data.toList.drop 44 = dktX0_as_2 := dk_seg dksX0_as_1 22 rfl rfl
theorem dksX0_as_3 : cX0_as.data.toList.drop 68 = dktX0_as_3 := dk_seg dksX0_as_2 24 rfl rfl
theorem dX0_as_0 : decode cX0_as 0 = .ok (.iload_n 1, 1) := dk_27 (dk_at dksX0_as_0 0 rfl rfl)
theorem dX0_as_1 : decode cX0_as 1 = .ok (.invokestatic 356, 3) := dk_184 1 100 (dk_at dksX0_as_0 1 rfl rfl)
theorem dX0_as_4 : decode cX0_as 4 = .ok (.ifCond .eq 10, 3) := dk_153 0 10 (dk_at dksX0_as_0 4 rfl rfl)
theorem dX0_as_7 : decode cX0_as 7 = .ok (.iload_n 2, 1) := dk_28 (dk_at dksX0_as_0 7 rfl rfl)
theorem dX0_as_8 : decode cX0_as 8 = .ok (.invokestatic 27, 3) := dk_184 0 27 (dk_at dksX0_as_0 8 rfl rfl)
theorem dX0_as_11 : decode cX0_as 11 = .ok (.ifCond .ne 9, 3) := dk_154 0 9 (dk_at dksX0_as_0 11 rfl rfl)
theorem dX0_as_14 : decode cX0_as 14 = .ok (.aload_n 0, 1) := dk_42 (dk_at dksX0_as_0 14 rfl rfl)
theorem dX0_as_15 : decode cX0_as 15 = .ok (.iconst 0, 1) := dk_3 (dk_at dksX0_as_0 15 rfl rfl)
theorem dX0_as_16 : decode cX0_as 16 = .ok (.invokevirtual 129, 3) := dk_182 0 129 (dk_at dksX0_as_0 16 rfl rfl)
theorem dX0_as_19 : decode cX0_as 19 = .ok (.ireturn, 1) := dk_172 (dk_at dksX0_as_0 19 rfl rfl)
theorem dX0_as_20 : decode cX0_as 20 = .ok (.aload_n 0, 1) := dk_42 (dk_at dksX0_as_0 20 rfl rfl)
theorem dX0_as_21 : decode cX0_as 21 = .ok (.iload_n 1, 1) := dk_27 (dk_at dksX0_as_0 21 rfl rfl)
theorem dX0_as_22 : decode cX0_as 22 = .ok (.invokevirtual 359, 3) := dk_182 1 103 (dk_at dksX0_as_1 0 rfl rfl)
theorem dX0_as_25 : decode cX0_as 25 = .ok (.astore_n 3, 1) := dk_78 (dk_at dksX0_as_1 3 rfl rfl)
theorem dX0_as_26 : decode cX0_as 26 = .ok (.aload_n 3, 1) := dk_45 (dk_at dksX0_as_1 4 rfl rfl)
theorem dX0_as_27 : decode cX0_as 27 = .ok (.ifnonnull 9, 3) := dk_199 0 9 (dk_at dksX0_as_1 5 rfl rfl)
theorem dX0_as_30 : decode cX0_as 30 = .ok (.aload_n 0, 1) := dk_42 (dk_at dksX0_as_1 8 rfl rfl)
theorem dX0_as_31 : decode cX0_as 31 = .ok (.iconst 5, 1) := dk_8 (dk_at dksX0_as_1 9 rfl rfl)
theorem dX0_as_32 : decode cX0_as 32 = .ok (.invokevirtual 129, 3) := dk_182 0 129 (dk_at dksX0_as_1 10 rfl rfl)
theorem dX0_as_35 : decode cX0_as 35 = .ok (.ireturn, 1) := dk_172 (dk_at dksX0_as_1 13 rfl rfl)
theorem dX0_as_36 : decode cX0_as 36 = .ok (.aload_n 3, 1) := dk_45 (dk_at dksX0_as_1 14 rfl rfl)
theorem dX0_as_37 : decode cX0_as 37 = .ok (.instanceof 54, 3) := dk_193 0 54 (dk_at dksX0_as_1 15 rfl rfl)
theorem dX0_as_40 : decode cX0_as 40 = .ok (.ifCond .eq 18, 3) := dk_153 0 18 (dk_at dksX0_as_1 18 rfl rfl)
theorem dX0_as_43 : decode cX0_as 43 = .ok (.aload_n 3, 1) := dk_45 (dk_at dksX0_as_1 21 rfl rfl)
theorem dX0_as_44 : decode cX0_as 44 = .ok (.checkcast 54, 3) := dk_192 0 54 (dk_at dksX0_as_2 0 rfl rfl)
theorem dX0_as_47 : decode cX0_as 47 = .ok (.iload_n 2, 1) := dk_28 (dk_at dksX0_as_2 3 rfl rfl)
theorem dX0_as_48 : decode cX0_as 48 = .ok (.invokevirtual 362, 3) := dk_182 1 106 (dk_at dksX0_as_2 4 rfl rfl)
theorem dX0_as_51 : decode cX0_as 51 = .ok (.ifCond .eq 7, 3) := dk_153 0 7 (dk_at dksX0_as_2 7 rfl rfl)
theorem dX0_as_54 : decode cX0_as 54 = .ok (.iconst 1, 1) := dk_4 (dk_at dksX0_as_2 10 rfl rfl)
theorem dX0_as_55 : decode cX0_as 55 = .ok (.goto 4, 3) := dk_167 0 4 (dk_at dksX0_as_2 11 rfl rfl)
theorem dX0_as_58 : decode cX0_as 58 = .ok (.iconst 0, 1) := dk_3 (dk_at dksX0_as_2 14 rfl rfl)
theorem dX0_as_59 : decode cX0_as 59 = .ok (.istore 4, 2) := dk_54 4 (dk_at dksX0_as_2 15 rfl rfl)
theorem dX0_as_61 : decode cX0_as 61 = .ok (.iload 4, 2) := dk_21 4 (dk_at dksX0_as_2 17 rfl rfl)
theorem dX0_as_63 : decode cX0_as 63 = .ok (.ifCond .eq 14, 3) := dk_153 0 14 (dk_at dksX0_as_2 19 rfl rfl)
theorem dX0_as_66 : decode cX0_as 66 = .ok (.aload_n 3, 1) := dk_45 (dk_at dksX0_as_2 22 rfl rfl)
theorem dX0_as_67 : decode cX0_as 67 = .ok (.iload_n 2, 1) := dk_28 (dk_at dksX0_as_2 23 rfl rfl)
theorem dX0_as_68 : decode cX0_as 68 = .ok (.invokestatic 365, 3) := dk_184 1 109 (dk_at dksX0_as_3 0 rfl rfl)
theorem dX0_as_71 : decode cX0_as 71 = .ok (.getfield 369, 3) := dk_180 1 113 (dk_at dksX0_as_3 3 rfl rfl)
theorem dX0_as_74 : decode cX0_as 74 = .ok (.goto 8, 3) := dk_167 0 8 (dk_at dksX0_as_3 6 rfl rfl)
theorem dX0_as_77 : decode cX0_as 77 = .ok (.aload_n 0, 1) := dk_42 (dk_at dksX0_as_3 9 rfl rfl)
theorem dX0_as_78 : decode cX0_as 78 = .ok (.iconst 2, 1) := dk_5 (dk_at dksX0_as_3 10 rfl rfl)
theorem dX0_as_79 : decode cX0_as 79 = .ok (.invokevirtual 129, 3) := dk_182 0 129 (dk_at dksX0_as_3 11 rfl rfl)
theorem dX0_as_82 : decode cX0_as 82 = .ok (.ireturn, 1) := dk_172 (dk_at dksX0_as_3 14 rfl rfl)
abbrev cX0_thingAt : ByteArray := prog_1_method_75_code
def yX0_thingAt : MethodName := ⟨RX0, "thingAt", "(I)Ljava/lang/Object;"⟩
def dkwX0_thingAt_1 : List UInt8 := [167, 0, 8, 42, 28, 182, 0, 138, 181, 0, 110, 42, 180, 0, 95, 27, 50, 180, 0, 110, 176]
abbrev dktX0_thingAt_1 : List UInt8 := dkwX0_thingAt_1 ++ []
def dkwX0_thingAt_0 : List UInt8 := [42, 180, 0, 79, 180, 1, 97, 27, 46, 61, 42, 180, 0, 95, 27, 50, 28, 2, 160, 0, 7, 1]
abbrev dktX0_thingAt_0 : List UInt8 := dkwX0_thingAt_0 ++ dktX0_thingAt_1
theorem dksX0_thingAt_0 : cX0_thingAt.data.toList.drop 0 = dktX0_thingAt_0 := by decide +kernel
theorem dksX0_thingAt_1 : cX0_thingAt.data.toList.drop 22 = dktX0_thingAt_1 := dk_seg dksX0_thingAt_0 22 rfl rfl
theorem dX0_thingAt_0 : decode cX0_thingAt 0 = .ok (.aload_n 0, 1) := dk_42 (dk_at dksX0_thingAt_0 0 rfl rfl)
theorem dX0_thingAt_1 : decode cX0_thingAt 1 = .ok (.getfield 79, 3) := dk_180 0 79 (dk_at dksX0_thingAt_0 1 rfl rfl)
theorem dX0_thingAt_4 : decode cX0_thingAt 4 = .ok (.getfield 353, 3) := dk_180 1 97 (dk_at dksX0_thingAt_0 4 rfl rfl)
theorem dX0_thingAt_7 : decode cX0_thingAt 7 = .ok (.iload_n 1, 1) := dk_27 (dk_at dksX0_thingAt_0 7 rfl rfl)
theorem dX0_thingAt_8 : decode cX0_thingAt 8 = .ok (.iaload, 1) := dk_46 (dk_at dksX0_thingAt_0 8 rfl rfl)
theorem dX0_thingAt_9 : decode cX0_thingAt 9 = .ok (.istore_n 2, 1) := dk_61 (dk_at dksX0_thingAt_0 9 rfl rfl)
theorem dX0_thingAt_10 : decode cX0_thingAt 10 = .ok (.aload_n 0, 1) := dk_42 (dk_at dksX0_thingAt_0 10 rfl rfl)
theorem dX0_thingAt_11 : decode cX0_thingAt 11 = .ok (.getfield 95, 3) := dk_180 0 95 (dk_at dksX0_thingAt_0 11 rfl rfl)
theorem dX0_thingAt_14 : decode cX0_thingAt 14 = .ok (.iload_n 1, 1) := dk_27 (dk_at dksX0_thingAt_0 14 rfl rfl)
theorem dX0_thingAt_15 : decode cX0_thingAt 15 = .ok (.aaload, 1) := dk_50 (dk_at dksX0_thingAt_0 15 rfl rfl)
theorem dX0_thingAt_16 : decode cX0_thingAt 16 = .ok (.iload_n 2, 1) := dk_28 (dk_at dksX0_thingAt_0 16 rfl rfl)
theorem dX0_thingAt_17 : decode cX0_thingAt 17 = .ok (.iconst (-1), 1) := dk_2 (dk_at dksX0_thingAt_0 17 rfl rfl)
theorem dX0_thingAt_18 : decode cX0_thingAt 18 = .ok (.if_icmp .ne 7, 3) := dk_160 0 7 (dk_at dksX0_thingAt_0 18 rfl rfl)
theorem dX0_thingAt_21 : decode cX0_thingAt 21 = .ok (.aconst_null, 1) := dk_1 (dk_at dksX0_thingAt_0 21 rfl rfl)
theorem dX0_thingAt_22 : decode cX0_thingAt 22 = .ok (.goto 8, 3) := dk_167 0 8 (dk_at dksX0_thingAt_1 0 rfl rfl)
theorem dX0_thingAt_25 : decode cX0_thingAt 25 = .ok (.aload_n 0, 1) := dk_42 (dk_at dksX0_thingAt_1 3 rfl rfl)
theorem dX0_thingAt_26 : decode cX0_thingAt 26 = .ok (.iload_n 2, 1) := dk_28 (dk_at dksX0_thingAt_1 4 rfl rfl)
theorem dX0_thingAt_27 : decode cX0_thingAt 27 = .ok (.invokevirtual 138, 3) := dk_182 0 138 (dk_at dksX0_thingAt_1 5 rfl rfl)
theorem dX0_thingAt_30 : decode cX0_thingAt 30 = .ok (.putfield 110, 3) := dk_181 0 110 (dk_at dksX0_thingAt_1 8 rfl rfl)
theorem dX0_thingAt_33 : decode cX0_thingAt 33 = .ok (.aload_n 0, 1) := dk_42 (dk_at dksX0_thingAt_1 11 rfl rfl)
theorem dX0_thingAt_34 : decode cX0_thingAt 34 = .ok (.getfield 95, 3) := dk_180 0 95 (dk_at dksX0_thingAt_1 12 rfl rfl)
theorem dX0_thingAt_37 : decode cX0_thingAt 37 = .ok (.iload_n 1, 1) := dk_27 (dk_at dksX0_thingAt_1 15 rfl rfl)
theorem dX0_thingAt_38 : decode cX0_thingAt 38 = .ok (.aaload, 1) := dk_50 (dk_at dksX0_thingAt_1 16 rfl rfl)
theorem dX0_thingAt_39 : decode cX0_thingAt 39 = .ok (.getfield 110, 3) := dk_180 0 110 (dk_at dksX0_thingAt_1 17 rfl rfl)
theorem dX0_thingAt_42 : decode cX0_thingAt 42 = .ok (.areturn, 1) := dk_176 (dk_at dksX0_thingAt_1 20 rfl rfl)
abbrev cX0_cast : ByteArray := prog_1_method_78_code
def yX0_cast : MethodName := ⟨RX0, "cast", "(Ljava/lang/Object;I)LLeftGloves$Glove;"⟩
def dkwX0_cast_3 : List UInt8 := [176, 42, 192, 0, 51, 176, 42, 192, 0, 54, 176]
abbrev dktX0_cast_3 : List UInt8 := dkwX0_cast_3 ++ []
def dkwX0_cast_2 : List UInt8 := [42, 192, 0, 33, 176, 42, 192, 0, 39, 176, 42, 192, 0, 42, 176, 42, 192, 0, 45, 176, 42, 192, 0, 48]
abbrev dktX0_cast_2 : List UInt8 := dkwX0_cast_2 ++ dktX0_cast_3
def dkwX0_cast_1 : List UInt8 := [170, 0, 0, 0, 0, 0, 69, 0, 0, 0, 1, 0, 0, 0, 6, 0, 0, 0, 39, 0, 0, 0, 44, 0, 0, 0, 49, 0, 0, 0, 54, 0, 0, 0, 59, 0, 0, 0, 64]
abbrev dktX0_cast_1 : List UInt8 := dkwX0_cast_1 ++ dktX0_cast_2
def dkwX0_cast_0 : List UInt8 := [27]
abbrev dktX0_cast_0 : List UInt8 := dkwX0_cast_0 ++ dktX0_cast_1
theorem dksX0_cast_0 : cX0_cast.data.toList.drop 0 = dktX0_cast_0 := by decide +kernel
theorem dksX0_cast_1 : cX0_cast.data.toList.drop 1 = dktX0_cast_1 := dk_seg dksX0_cast_0 1 rfl rfl
theorem dksX0_cast_2 : cX0_cast.data.toList.drop 40 = dktX0_cast_2 := dk_seg dksX0_cast_1 39 rfl rfl
theorem dksX0_cast_3 : cX0_cast.data.toList.drop 64 = dktX0_cast_3 := dk_seg dksX0_cast_2 24 rfl rfl
theorem dX0_cast_0 : decode cX0_cast 0 = .ok (.iload_n 1, 1) := dk_27 (dk_at dksX0_cast_0 0 rfl rfl)
theorem dX0_cast_1 : decode cX0_cast 1 = .ok (.tableswitch 69 1 6 #[39, 44, 49, 54, 59, 64], 39) := by decide +kernel
theorem dX0_cast_40 : decode cX0_cast 40 = .ok (.aload_n 0, 1) := dk_42 (dk_at dksX0_cast_2 0 rfl rfl)
theorem dX0_cast_41 : decode cX0_cast 41 = .ok (.checkcast 33, 3) := dk_192 0 33 (dk_at dksX0_cast_2 1 rfl rfl)
theorem dX0_cast_44 : decode cX0_cast 44 = .ok (.areturn, 1) := dk_176 (dk_at dksX0_cast_2 4 rfl rfl)
theorem dX0_cast_45 : decode cX0_cast 45 = .ok (.aload_n 0, 1) := dk_42 (dk_at dksX0_cast_2 5 rfl rfl)
theorem dX0_cast_46 : decode cX0_cast 46 = .ok (.checkcast 39, 3) := dk_192 0 39 (dk_at dksX0_cast_2 6 rfl rfl)
theorem dX0_cast_49 : decode cX0_cast 49 = .ok (.areturn, 1) := dk_176 (dk_at dksX0_cast_2 9 rfl rfl)
theorem dX0_cast_50 : decode cX0_cast 50 = .ok (.aload_n 0, 1) := dk_42 (dk_at dksX0_cast_2 10 rfl rfl)
theorem dX0_cast_51 : decode cX0_cast 51 = .ok (.checkcast 42, 3) := dk_192 0 42 (dk_at dksX0_cast_2 11 rfl rfl)
theorem dX0_cast_54 : decode cX0_cast 54 = .ok (.areturn, 1) := dk_176 (dk_at dksX0_cast_2 14 rfl rfl)
theorem dX0_cast_55 : decode cX0_cast 55 = .ok (.aload_n 0, 1) := dk_42 (dk_at dksX0_cast_2 15 rfl rfl)
theorem dX0_cast_56 : decode cX0_cast 56 = .ok (.checkcast 45, 3) := dk_192 0 45 (dk_at dksX0_cast_2 16 rfl rfl)
theorem dX0_cast_59 : decode cX0_cast 59 = .ok (.areturn, 1) := dk_176 (dk_at dksX0_cast_2 19 rfl rfl)
theorem dX0_cast_60 : decode cX0_cast 60 = .ok (.aload_n 0, 1) := dk_42 (dk_at dksX0_cast_2 20 rfl rfl)
theorem dX0_cast_61 : decode cX0_cast 61 = .ok (.checkcast 48, 3) := dk_192 0 48 (dk_at dksX0_cast_2 21 rfl rfl)
theorem dX0_cast_64 : decode cX0_cast 64 = .ok (.areturn, 1) := dk_176 (dk_at dksX0_cast_3 0 rfl rfl)
theorem dX0_cast_65 : decode cX0_cast 65 = .ok (.aload_n 0, 1) := dk_42 (dk_at dksX0_cast_3 1 rfl rfl)
theorem dX0_cast_66 : decode cX0_cast 66 = .ok (.checkcast 51, 3) := dk_192 0 51 (dk_at dksX0_cast_3 2 rfl rfl)
theorem dX0_cast_69 : decode cX0_cast 69 = .ok (.areturn, 1) := dk_176 (dk_at dksX0_cast_3 5 rfl rfl)
theorem dX0_cast_70 : decode cX0_cast 70 = .ok (.aload_n 0, 1) := dk_42 (dk_at dksX0_cast_3 6 rfl rfl)
theorem dX0_cast_71 : decode cX0_cast 71 = .ok (.checkcast 54, 3) := dk_192 0 54 (dk_at dksX0_cast_3 7 rfl rfl)
theorem dX0_cast_74 : decode cX0_cast 74 = .ok (.areturn, 1) := dk_176 (dk_at dksX0_cast_3 10 rfl rfl)
abbrev cX0_sheet : ByteArray := prog_1_method_80_code
def yX0_sheet : MethodName := ⟨RX0, "sheet", "(III)I"⟩
def dkwX0_sheet_4 : List UInt8 := [167, 0, 6, 29, 188, 10, 181, 0, 110, 28, 154, 0, 7, 3, 167, 0, 4, 29, 172]
abbrev dktX0_sheet_4 : List UInt8 := dkwX0_sheet_4 ++ []
def dkwX0_sheet_3 : List UInt8 := [167, 0, 30, 28, 16, 8, 160, 0, 9, 29, 188, 8, 167, 0, 18, 28, 16, 16, 160, 0, 9, 29, 188, 9]
abbrev dktX0_sheet_3 : List UInt8 := dkwX0_sheet_3 ++ dktX0_sheet_4
def dkwX0_sheet_2 : List UInt8 := [156, 0, 8, 16, 6, 167, 0, 4, 3, 182, 0, 129, 172, 42, 180, 0, 98, 27, 50, 28, 154, 0, 7, 1]
abbrev dktX0_sheet_2 : List UInt8 := dkwX0_sheet_2 ++ dktX0_sheet_3
def dkwX0_sheet_1 : List UInt8 := [16, 32, 159, 0, 9, 42, 3, 182, 0, 129, 172, 29, 155, 0, 9, 29, 16, 40, 164, 0, 18, 42, 29]
abbrev dktX0_sheet_1 : List UInt8 := dkwX0_sheet_1 ++ dktX0_sheet_2
def dkwX0_sheet_0 : List UInt8 := [27, 184, 1, 115, 153, 0, 25, 28, 153, 0, 27, 28, 16, 8, 159, 0, 21, 28, 16, 16, 159, 0, 15, 28]
abbrev dktX0_sheet_0 : List UInt8 := dkwX0_sheet_0 ++ dktX0_sheet_1
theorem dksX0_sheet_0 : cX0_sheet.data.toList.drop 0 = dktX0_sheet_0 := by decide +kernel
theorem dksX0_sheet_1 : cX0_sheet.data.toList.drop 24 = dktX0_sheet_1 := dk_seg dksX0_sheet_0 24 rfl rfl
theorem dksX0_sheet_2 : cX0_sheet.data.toList.drop 47 = dktX0_sheet_2 := dk_seg dksX0_sheet_1 23 rfl rfl
theorem dksX0_sheet_3 : cX0_sheet.data.toList.drop 71 = dktX0_sheet_3 := dk_seg dksX0_sheet_2 24 rfl rfl
theorem dksX0_sheet_4 : cX0_sheet.data.toList.drop 95 = dktX0_sheet_4 := dk_seg dksX0_sheet_3 24 rfl rfl
theorem dX0_sheet_0 : decode cX0_sheet 0 = .ok (.iload_n 1, 1) := dk_27 (dk_at dksX0_sheet_0 0 rfl rfl)
theorem dX0_sheet_1 : decode cX0_sheet 1 = .ok (.invokestatic 371, 3) := dk_184 1 115 (dk_at dksX0_sheet_0 1 rfl rfl)
theorem dX0_sheet_4 : decode cX0_sheet 4 = .ok (.ifCond .eq 25, 3) := dk_153 0 25 (dk_at dksX0_sheet_0 4 rfl rfl)
theorem dX0_sheet_7 : decode cX0_sheet 7 = .ok (.iload_n 2, 1) := dk_28 (dk_at dksX0_sheet_0 7 rfl rfl)
theorem dX0_sheet_8 : decode cX0_sheet 8 = .ok (.ifCond .eq 27, 3) := dk_153 0 27 (dk_at dksX0_sheet_0 8 rfl rfl)
theorem dX0_sheet_11 : decode cX0_sheet 11 = .ok (.iload_n 2, 1) := dk_28 (dk_at dksX0_sheet_0 11 rfl rfl)
theorem dX0_sheet_12 : decode cX0_sheet 12 = .ok (.bipush 8, 2) := dk_16 8 (dk_at dksX0_sheet_0 12 rfl rfl)
theorem dX0_sheet_14 : decode cX0_sheet 14 = .ok (.if_icmp .eq 21, 3) := dk_159 0 21 (dk_at dksX0_sheet_0 14 rfl rfl)
theorem dX0_sheet_17 : decode cX0_sheet 17 = .ok (.iload_n 2, 1) := dk_28 (dk_at dksX0_sheet_0 17 rfl rfl)
theorem dX0_sheet_18 : decode cX0_sheet 18 = .ok (.bipush 16, 2) := dk_16 16 (dk_at dksX0_sheet_0 18 rfl rfl)
theorem dX0_sheet_20 : decode cX0_sheet 20 = .ok (.if_icmp .eq 15, 3) := dk_159 0 15 (dk_at dksX0_sheet_0 20 rfl rfl)
theorem dX0_sheet_23 : decode cX0_sheet 23 = .ok (.iload_n 2, 1) := dk_28 (dk_at dksX0_sheet_0 23 rfl rfl)
theorem dX0_sheet_24 : decode cX0_sheet 24 = .ok (.bipush 32, 2) := dk_16 32 (dk_at dksX0_sheet_1 0 rfl rfl)
theorem dX0_sheet_26 : decode cX0_sheet 26 = .ok (.if_icmp .eq 9, 3) := dk_159 0 9 (dk_at dksX0_sheet_1 2 rfl rfl)
theorem dX0_sheet_29 : decode cX0_sheet 29 = .ok (.aload_n 0, 1) := dk_42 (dk_at dksX0_sheet_1 5 rfl rfl)
theorem dX0_sheet_30 : decode cX0_sheet 30 = .ok (.iconst 0, 1) := dk_3 (dk_at dksX0_sheet_1 6 rfl rfl)
theorem dX0_sheet_31 : decode cX0_sheet 31 = .ok (.invokevirtual 129, 3) := dk_182 0 129 (dk_at dksX0_sheet_1 7 rfl rfl)
theorem dX0_sheet_34 : decode cX0_sheet 34 = .ok (.ireturn, 1) := dk_172 (dk_at dksX0_sheet_1 10 rfl rfl)
theorem dX0_sheet_35 : decode cX0_sheet 35 = .ok (.iload_n 3, 1) := dk_29 (dk_at dksX0_sheet_1 11 rfl rfl)
theorem dX0_sheet_36 : decode cX0_sheet 36 = .ok (.ifCond .lt 9, 3) := dk_155 0 9 (dk_at dksX0_sheet_1 12 rfl rfl)
theorem dX0_sheet_39 : decode cX0_sheet 39 = .ok (.iload_n 3, 1) := dk_29 (dk_at dksX0_sheet_1 15 rfl rfl)
theorem dX0_sheet_40 : decode cX0_sheet 40 = .ok (.bipush 40, 2) := dk_16 40 (dk_at dksX0_sheet_1 16 rfl rfl)
theorem dX0_sheet_42 : decode cX0_sheet 42 = .ok (.if_icmp .le 18, 3) := dk_164 0 18 (dk_at dksX0_sheet_1 18 rfl rfl)
theorem dX0_sheet_45 : decode cX0_sheet 45 = .ok (.aload_n 0, 1) := dk_42 (dk_at dksX0_sheet_1 21 rfl rfl)
theorem dX0_sheet_46 : decode cX0_sheet 46 = .ok (.iload_n 3, 1) := dk_29 (dk_at dksX0_sheet_1 22 rfl rfl)
theorem dX0_sheet_47 : decode cX0_sheet 47 = .ok (.ifCond .ge 8, 3) := dk_156 0 8 (dk_at dksX0_sheet_2 0 rfl rfl)
theorem dX0_sheet_50 : decode cX0_sheet 50 = .ok (.bipush 6, 2) := dk_16 6 (dk_at dksX0_sheet_2 3 rfl rfl)
theorem dX0_sheet_52 : decode cX0_sheet 52 = .ok (.goto 4, 3) := dk_167 0 4 (dk_at dksX0_sheet_2 5 rfl rfl)
theorem dX0_sheet_55 : decode cX0_sheet 55 = .ok (.iconst 0, 1) := dk_3 (dk_at dksX0_sheet_2 8 rfl rfl)
theorem dX0_sheet_56 : decode cX0_sheet 56 = .ok (.invokevirtual 129, 3) := dk_182 0 129 (dk_at dksX0_sheet_2 9 rfl rfl)
theorem dX0_sheet_59 : decode cX0_sheet 59 = .ok (.ireturn, 1) := dk_172 (dk_at dksX0_sheet_2 12 rfl rfl)
theorem dX0_sheet_60 : decode cX0_sheet 60 = .ok (.aload_n 0, 1) := dk_42 (dk_at dksX0_sheet_2 13 rfl rfl)
theorem dX0_sheet_61 : decode cX0_sheet 61 = .ok (.getfield 98, 3) := dk_180 0 98 (dk_at dksX0_sheet_2 14 rfl rfl)
theorem dX0_sheet_64 : decode cX0_sheet 64 = .ok (.iload_n 1, 1) := dk_27 (dk_at dksX0_sheet_2 17 rfl rfl)
theorem dX0_sheet_65 : decode cX0_sheet 65 = .ok (.aaload, 1) := dk_50 (dk_at dksX0_sheet_2 18 rfl rfl)
theorem dX0_sheet_66 : decode cX0_sheet 66 = .ok (.iload_n 2, 1) := dk_28 (dk_at dksX0_sheet_2 19 rfl rfl)
theorem dX0_sheet_67 : decode cX0_sheet 67 = .ok (.ifCond .ne 7, 3) := dk_154 0 7 (dk_at dksX0_sheet_2 20 rfl rfl)
theorem dX0_sheet_70 : decode cX0_sheet 70 = .ok (.aconst_null, 1) := dk_1 (dk_at dksX0_sheet_2 23 rfl rfl)
theorem dX0_sheet_71 : decode cX0_sheet 71 = .ok (.goto 30, 3) := dk_167 0 30 (dk_at dksX0_sheet_3 0 rfl rfl)
theorem dX0_sheet_74 : decode cX0_sheet 74 = .ok (.iload_n 2, 1) := dk_28 (dk_at dksX0_sheet_3 3 rfl rfl)
theorem dX0_sheet_75 : decode cX0_sheet 75 = .ok (.bipush 8, 2) := dk_16 8 (dk_at dksX0_sheet_3 4 rfl rfl)
theorem dX0_sheet_77 : decode cX0_sheet 77 = .ok (.if_icmp .ne 9, 3) := dk_160 0 9 (dk_at dksX0_sheet_3 6 rfl rfl)
theorem dX0_sheet_80 : decode cX0_sheet 80 = .ok (.iload_n 3, 1) := dk_29 (dk_at dksX0_sheet_3 9 rfl rfl)
theorem dX0_sheet_81 : decode cX0_sheet 81 = .ok (.newarray .byte, 2) := dk_188_8 (dk_at dksX0_sheet_3 10 rfl rfl)
theorem dX0_sheet_83 : decode cX0_sheet 83 = .ok (.goto 18, 3) := dk_167 0 18 (dk_at dksX0_sheet_3 12 rfl rfl)
theorem dX0_sheet_86 : decode cX0_sheet 86 = .ok (.iload_n 2, 1) := dk_28 (dk_at dksX0_sheet_3 15 rfl rfl)
theorem dX0_sheet_87 : decode cX0_sheet 87 = .ok (.bipush 16, 2) := dk_16 16 (dk_at dksX0_sheet_3 16 rfl rfl)
theorem dX0_sheet_89 : decode cX0_sheet 89 = .ok (.if_icmp .ne 9, 3) := dk_160 0 9 (dk_at dksX0_sheet_3 18 rfl rfl)
theorem dX0_sheet_92 : decode cX0_sheet 92 = .ok (.iload_n 3, 1) := dk_29 (dk_at dksX0_sheet_3 21 rfl rfl)
theorem dX0_sheet_93 : decode cX0_sheet 93 = .ok (.newarray .short, 2) := dk_188_9 (dk_at dksX0_sheet_3 22 rfl rfl)
theorem dX0_sheet_95 : decode cX0_sheet 95 = .ok (.goto 6, 3) := dk_167 0 6 (dk_at dksX0_sheet_4 0 rfl rfl)
theorem dX0_sheet_98 : decode cX0_sheet 98 = .ok (.iload_n 3, 1) := dk_29 (dk_at dksX0_sheet_4 3 rfl rfl)
theorem dX0_sheet_99 : decode cX0_sheet 99 = .ok (.newarray .int, 2) := dk_188_10 (dk_at dksX0_sheet_4 4 rfl rfl)
theorem dX0_sheet_101 : decode cX0_sheet 101 = .ok (.putfield 110, 3) := dk_181 0 110 (dk_at dksX0_sheet_4 6 rfl rfl)
theorem dX0_sheet_104 : decode cX0_sheet 104 = .ok (.iload_n 2, 1) := dk_28 (dk_at dksX0_sheet_4 9 rfl rfl)
theorem dX0_sheet_105 : decode cX0_sheet 105 = .ok (.ifCond .ne 7, 3) := dk_154 0 7 (dk_at dksX0_sheet_4 10 rfl rfl)
theorem dX0_sheet_108 : decode cX0_sheet 108 = .ok (.iconst 0, 1) := dk_3 (dk_at dksX0_sheet_4 13 rfl rfl)
theorem dX0_sheet_109 : decode cX0_sheet 109 = .ok (.goto 4, 3) := dk_167 0 4 (dk_at dksX0_sheet_4 14 rfl rfl)
theorem dX0_sheet_112 : decode cX0_sheet 112 = .ok (.iload_n 3, 1) := dk_29 (dk_at dksX0_sheet_4 17 rfl rfl)
theorem dX0_sheet_113 : decode cX0_sheet 113 = .ok (.ireturn, 1) := dk_172 (dk_at dksX0_sheet_4 18 rfl rfl)
abbrev cX0_write : ByteArray := prog_1_method_86_code
def yX0_write : MethodName := ⟨RX0, "write", "(III)I"⟩
def dkwX0_write_2 : List UInt8 := [58, 4, 42, 25, 4, 180, 0, 119, 182, 0, 129, 172]
abbrev dktX0_write_2 : List UInt8 := dkwX0_write_2 ++ []
def dkwX0_write_1 : List UInt8 := [3, 25, 4, 184, 1, 39, 4, 100, 184, 0, 9, 3, 182, 1, 51, 25, 4, 28, 29, 184, 1, 122, 4, 172]
abbrev dktX0_write_1 : List UInt8 := dkwX0_write_1 ++ dktX0_write_2
def dkwX0_write_0 : List UInt8 := [42, 27, 182, 1, 47, 58, 4, 42, 25, 4, 198, 0, 7, 4, 167, 0, 4, 3, 8, 182, 1, 51, 42, 28]
abbrev dktX0_write_0 : List UInt8 := dkwX0_write_0 ++ dktX0_write_1
theorem dksX0_write_0 : cX0_write.data.toList.drop 0 = dktX0_write_0 := by decide +kernel
theorem dksX0_write_1 : cX0_write.data.toList.drop 24 = dktX0_write_1 := dk_seg dksX0_write_0 24 rfl rfl
theorem dksX0_write_2 : cX0_write.data.toList.drop 48 = dktX0_write_2 := dk_seg dksX0_write_1 24 rfl rfl
theorem dX0_write_0 : decode cX0_write 0 = .ok (.aload_n 0, 1) := dk_42 (dk_at dksX0_write_0 0 rfl rfl)
theorem dX0_write_1 : decode cX0_write 1 = .ok (.iload_n 1, 1) := dk_27 (dk_at dksX0_write_0 1 rfl rfl)
theorem dX0_write_2 : decode cX0_write 2 = .ok (.invokevirtual 303, 3) := dk_182 1 47 (dk_at dksX0_write_0 2 rfl rfl)
theorem dX0_write_5 : decode cX0_write 5 = .ok (.astore 4, 2) := dk_58 4 (dk_at dksX0_write_0 5 rfl rfl)
theorem dX0_write_7 : decode cX0_write 7 = .ok (.aload_n 0, 1) := dk_42 (dk_at dksX0_write_0 7 rfl rfl)
theorem dX0_write_8 : decode cX0_write 8 = .ok (.aload 4, 2) := dk_25 4 (dk_at dksX0_write_0 8 rfl rfl)
theorem dX0_write_10 : decode cX0_write 10 = .ok (.ifnull 7, 3) := dk_198 0 7 (dk_at dksX0_write_0 10 rfl rfl)
theorem dX0_write_13 : decode cX0_write 13 = .ok (.iconst 1, 1) := dk_4 (dk_at dksX0_write_0 13 rfl rfl)
theorem dX0_write_14 : decode cX0_write 14 = .ok (.goto 4, 3) := dk_167 0 4 (dk_at dksX0_write_0 14 rfl rfl)
theorem dX0_write_17 : decode cX0_write 17 = .ok (.iconst 0, 1) := dk_3 (dk_at dksX0_write_0 17 rfl rfl)
theorem dX0_write_18 : decode cX0_write 18 = .ok (.iconst 5, 1) := dk_8 (dk_at dksX0_write_0 18 rfl rfl)
theorem dX0_write_19 : decode cX0_write 19 = .ok (.invokevirtual 307, 3) := dk_182 1 51 (dk_at dksX0_write_0 19 rfl rfl)
theorem dX0_write_22 : decode cX0_write 22 = .ok (.aload_n 0, 1) := dk_42 (dk_at dksX0_write_0 22 rfl rfl)
theorem dX0_write_23 : decode cX0_write 23 = .ok (.iload_n 2, 1) := dk_28 (dk_at dksX0_write_0 23 rfl rfl)
theorem dX0_write_24 : decode cX0_write 24 = .ok (.iconst 0, 1) := dk_3 (dk_at dksX0_write_1 0 rfl rfl)
theorem dX0_write_25 : decode cX0_write 25 = .ok (.aload 4, 2) := dk_25 4 (dk_at dksX0_write_1 1 rfl rfl)
theorem dX0_write_27 : decode cX0_write 27 = .ok (.invokestatic 295, 3) := dk_184 1 39 (dk_at dksX0_write_1 3 rfl rfl)
theorem dX0_write_30 : decode cX0_write 30 = .ok (.iconst 1, 1) := dk_4 (dk_at dksX0_write_1 6 rfl rfl)
theorem dX0_write_31 : decode cX0_write 31 = .ok (.isub, 1) := dk_100 (dk_at dksX0_write_1 7 rfl rfl)
theorem dX0_write_32 : decode cX0_write 32 = .ok (.invokestatic 9, 3) := dk_184 0 9 (dk_at dksX0_write_1 8 rfl rfl)
theorem dX0_write_35 : decode cX0_write 35 = .ok (.iconst 0, 1) := dk_3 (dk_at dksX0_write_1 11 rfl rfl)
theorem dX0_write_36 : decode cX0_write 36 = .ok (.invokevirtual 307, 3) := dk_182 1 51 (dk_at dksX0_write_1 12 rfl rfl)
theorem dX0_write_39 : decode cX0_write 39 = .ok (.aload 4, 2) := dk_25 4 (dk_at dksX0_write_1 15 rfl rfl)
theorem dX0_write_41 : decode cX0_write 41 = .ok (.iload_n 2, 1) := dk_28 (dk_at dksX0_write_1 17 rfl rfl)
theorem dX0_write_42 : decode cX0_write 42 = .ok (.iload_n 3, 1) := dk_29 (dk_at dksX0_write_1 18 rfl rfl)
theorem dX0_write_43 : decode cX0_write 43 = .ok (.invokestatic 378, 3) := dk_184 1 122 (dk_at dksX0_write_1 19 rfl rfl)
theorem dX0_write_46 : decode cX0_write 46 = .ok (.iconst 1, 1) := dk_4 (dk_at dksX0_write_1 22 rfl rfl)
theorem dX0_write_47 : decode cX0_write 47 = .ok (.ireturn, 1) := dk_172 (dk_at dksX0_write_1 23 rfl rfl)
theorem dX0_write_48 : decode cX0_write 48 = .ok (.astore 4, 2) := dk_58 4 (dk_at dksX0_write_2 0 rfl rfl)
theorem dX0_write_50 : decode cX0_write 50 = .ok (.aload_n 0, 1) := dk_42 (dk_at dksX0_write_2 2 rfl rfl)
theorem dX0_write_51 : decode cX0_write 51 = .ok (.aload 4, 2) := dk_25 4 (dk_at dksX0_write_2 3 rfl rfl)
theorem dX0_write_53 : decode cX0_write 53 = .ok (.getfield 119, 3) := dk_180 0 119 (dk_at dksX0_write_2 5 rfl rfl)
theorem dX0_write_56 : decode cX0_write 56 = .ok (.invokevirtual 129, 3) := dk_182 0 129 (dk_at dksX0_write_2 8 rfl rfl)
theorem dX0_write_59 : decode cX0_write 59 = .ok (.ireturn, 1) := dk_172 (dk_at dksX0_write_2 11 rfl rfl)
abbrev cX0_lay : ByteArray := prog_1_method_85_code
def yX0_lay : MethodName := ⟨RX0, "lay", "(Ljava/lang/Object;II)V"⟩
def dkwX0_lay_1 : List UInt8 := [153, 0, 14, 42, 192, 1, 119, 27, 28, 147, 86, 167, 0, 10, 42, 192, 1, 121, 27, 28, 79, 177]
abbrev dktX0_lay_1 : List UInt8 := dkwX0_lay_1 ++ []
def dkwX0_lay_0 : List UInt8 := [42, 193, 1, 118, 153, 0, 14, 42, 192, 1, 118, 27, 28, 145, 84, 167, 0, 28, 42, 193, 1, 119]
abbrev dktX0_lay_0 : List UInt8 := dkwX0_lay_0 ++ dktX0_lay_1
theorem dksX0_lay_0 : cX0_lay.data.toList.drop 0 = dktX0_lay_0 := by decide +kernel
theorem dksX0_lay_1 : cX0_lay.data.toList.drop 22 = dktX0_lay_1 := dk_seg dksX0_lay_0 22 rfl rfl
theorem dX0_lay_0 : decode cX0_lay 0 = .ok (.aload_n 0, 1) := dk_42 (dk_at dksX0_lay_0 0 rfl rfl)
theorem dX0_lay_1 : decode cX0_lay 1 = .ok (.instanceof 374, 3) := dk_193 1 118 (dk_at dksX0_lay_0 1 rfl rfl)
theorem dX0_lay_4 : decode cX0_lay 4 = .ok (.ifCond .eq 14, 3) := dk_153 0 14 (dk_at dksX0_lay_0 4 rfl rfl)
theorem dX0_lay_7 : decode cX0_lay 7 = .ok (.aload_n 0, 1) := dk_42 (dk_at dksX0_lay_0 7 rfl rfl)
theorem dX0_lay_8 : decode cX0_lay 8 = .ok (.checkcast 374, 3) := dk_192 1 118 (dk_at dksX0_lay_0 8 rfl rfl)
theorem dX0_lay_11 : decode cX0_lay 11 = .ok (.iload_n 1, 1) := dk_27 (dk_at dksX0_lay_0 11 rfl rfl)
theorem dX0_lay_12 : decode cX0_lay 12 = .ok (.iload_n 2, 1) := dk_28 (dk_at dksX0_lay_0 12 rfl rfl)
theorem dX0_lay_13 : decode cX0_lay 13 = .ok (.i2b, 1) := dk_145 (dk_at dksX0_lay_0 13 rfl rfl)
theorem dX0_lay_14 : decode cX0_lay 14 = .ok (.bastore, 1) := dk_84 (dk_at dksX0_lay_0 14 rfl rfl)
theorem dX0_lay_15 : decode cX0_lay 15 = .ok (.goto 28, 3) := dk_167 0 28 (dk_at dksX0_lay_0 15 rfl rfl)
theorem dX0_lay_18 : decode cX0_lay 18 = .ok (.aload_n 0, 1) := dk_42 (dk_at dksX0_lay_0 18 rfl rfl)
theorem dX0_lay_19 : decode cX0_lay 19 = .ok (.instanceof 375, 3) := dk_193 1 119 (dk_at dksX0_lay_0 19 rfl rfl)
theorem dX0_lay_22 : decode cX0_lay 22 = .ok (.ifCond .eq 14, 3) := dk_153 0 14 (dk_at dksX0_lay_1 0 rfl rfl)
theorem dX0_lay_25 : decode cX0_lay 25 = .ok (.aload_n 0, 1) := dk_42 (dk_at dksX0_lay_1 3 rfl rfl)
theorem dX0_lay_26 : decode cX0_lay 26 = .ok (.checkcast 375, 3) := dk_192 1 119 (dk_at dksX0_lay_1 4 rfl rfl)
theorem dX0_lay_29 : decode cX0_lay 29 = .ok (.iload_n 1, 1) := dk_27 (dk_at dksX0_lay_1 7 rfl rfl)
theorem dX0_lay_30 : decode cX0_lay 30 = .ok (.iload_n 2, 1) := dk_28 (dk_at dksX0_lay_1 8 rfl rfl)
theorem dX0_lay_31 : decode cX0_lay 31 = .ok (.i2s, 1) := dk_147 (dk_at dksX0_lay_1 9 rfl rfl)
theorem dX0_lay_32 : decode cX0_lay 32 = .ok (.sastore, 1) := dk_86 (dk_at dksX0_lay_1 10 rfl rfl)
theorem dX0_lay_33 : decode cX0_lay 33 = .ok (.goto 10, 3) := dk_167 0 10 (dk_at dksX0_lay_1 11 rfl rfl)
theorem dX0_lay_36 : decode cX0_lay 36 = .ok (.aload_n 0, 1) := dk_42 (dk_at dksX0_lay_1 14 rfl rfl)
theorem dX0_lay_37 : decode cX0_lay 37 = .ok (.checkcast 377, 3) := dk_192 1 121 (dk_at dksX0_lay_1 15 rfl rfl)
theorem dX0_lay_40 : decode cX0_lay 40 = .ok (.iload_n 1, 1) := dk_27 (dk_at dksX0_lay_1 18 rfl rfl)
theorem dX0_lay_41 : decode cX0_lay 41 = .ok (.iload_n 2, 1) := dk_28 (dk_at dksX0_lay_1 19 rfl rfl)
theorem dX0_lay_42 : decode cX0_lay 42 = .ok (.iastore, 1) := dk_79 (dk_at dksX0_lay_1 20 rfl rfl)
theorem dX0_lay_43 : decode cX0_lay 43 = .ok (.return_, 1) := dk_177 (dk_at dksX0_lay_1 21 rfl rfl)
abbrev cX0_copy : ByteArray := prog_1_method_88_code
def yX0_copy : MethodName := ⟨RX0, "copy", "(IIIII)I"⟩
def dkwX0_copy_5 : List UInt8 := [184, 1, 135, 21, 5, 172, 58, 6, 42, 25, 6, 180, 0, 119, 182, 0, 129, 172]
abbrev dktX0_copy_5 : List UInt8 := dkwX0_copy_5 ++ []
def dkwX0_copy_4 : List UInt8 := [100, 163, 0, 7, 4, 167, 0, 4, 3, 3, 182, 1, 51, 25, 6, 28, 25, 7, 21, 4, 21, 5]
abbrev dktX0_copy_4 : List UInt8 := dkwX0_copy_4 ++ dktX0_copy_5
def dkwX0_copy_3 : List UInt8 := [155, 0, 32, 28, 25, 6, 184, 1, 39, 21, 5, 100, 163, 0, 20, 21, 4, 25, 7, 184, 1, 39, 21, 5]
abbrev dktX0_copy_3 : List UInt8 := dkwX0_copy_3 ++ dktX0_copy_4
def dkwX0_copy_2 : List UInt8 := [160, 0, 7, 4, 167, 0, 4, 3, 5, 182, 1, 51, 42, 21, 5, 155, 0, 41, 28, 155, 0, 37, 21, 4]
abbrev dktX0_copy_2 : List UInt8 := dkwX0_copy_2 ++ dktX0_copy_3
def dkwX0_copy_1 : List UInt8 := [198, 0, 7, 4, 167, 0, 4, 3, 8, 182, 1, 51, 42, 25, 6, 184, 1, 132, 25, 7, 184, 1, 132]
abbrev dktX0_copy_1 : List UInt8 := dkwX0_copy_1 ++ dktX0_copy_2
def dkwX0_copy_0 : List UInt8 := [42, 27, 182, 1, 47, 58, 6, 42, 29, 182, 1, 47, 58, 7, 42, 25, 6, 198, 0, 12, 25, 7]
abbrev dktX0_copy_0 : List UInt8 := dkwX0_copy_0 ++ dktX0_copy_1
theorem dksX0_copy_0 : cX0_copy.data.toList.drop 0 = dktX0_copy_0 := by decide +kernel
theorem dksX0_copy_1 : cX0_copy.data.toList.drop 22 = dktX0_copy_1 := dk_seg dksX0_copy_0 22 rfl rfl
theorem dksX0_copy_2 : cX0_copy.data.toList.drop 45 = dktX0_copy_2 := dk_seg dksX0_copy_1 23 rfl rfl
theorem dksX0_copy_3 : cX0_copy.data.toList.drop 69 = dktX0_copy_3 := dk_seg dksX0_copy_2 24 rfl rfl
theorem dksX0_copy_4 : cX0_copy.data.toList.drop 93 = dktX0_copy_4 := dk_seg dksX0_copy_3 24 rfl rfl
theorem dksX0_copy_5 : cX0_copy.data.toList.drop 115 = dktX0_copy_5 := dk_seg dksX0_copy_4 22 rfl rfl
theorem dX0_copy_0 : decode cX0_copy 0 = .ok (.aload_n 0, 1) := dk_42 (dk_at dksX0_copy_0 0 rfl rfl)
theorem dX0_copy_1 : decode cX0_copy 1 = .ok (.iload_n 1, 1) := dk_27 (dk_at dksX0_copy_0 1 rfl rfl)
theorem dX0_copy_2 : decode cX0_copy 2 = .ok (.invokevirtual 303, 3) := dk_182 1 47 (dk_at dksX0_copy_0 2 rfl rfl)
theorem dX0_copy_5 : decode cX0_copy 5 = .ok (.astore 6, 2) := dk_58 6 (dk_at dksX0_copy_0 5 rfl rfl)
theorem dX0_copy_7 : decode cX0_copy 7 = .ok (.aload_n 0, 1) := dk_42 (dk_at dksX0_copy_0 7 rfl rfl)
theorem dX0_copy_8 : decode cX0_copy 8 = .ok (.iload_n 3, 1) := dk_29 (dk_at dksX0_copy_0 8 rfl rfl)
theorem dX0_copy_9 : decode cX0_copy 9 = .ok (.invokevirtual 303, 3) := dk_182 1 47 (dk_at dksX0_copy_0 9 rfl rfl)
theorem dX0_copy_12 : decode cX0_copy 12 = .ok (.astore 7, 2) := dk_58 7 (dk_at dksX0_copy_0 12 rfl rfl)
theorem dX0_copy_14 : decode cX0_copy 14 = .ok (.aload_n 0, 1) := dk_42 (dk_at dksX0_copy_0 14 rfl rfl)
theorem dX0_copy_15 : decode cX0_copy 15 = .ok (.aload 6, 2) := dk_25 6 (dk_at dksX0_copy_0 15 rfl rfl)
theorem dX0_copy_17 : decode cX0_copy 17 = .ok (.ifnull 12, 3) := dk_198 0 12 (dk_at dksX0_copy_0 17 rfl rfl)
theorem dX0_copy_20 : decode cX0_copy 20 = .ok (.aload 7, 2) := dk_25 7 (dk_at dksX0_copy_0 20 rfl rfl)
theorem dX0_copy_22 : decode cX0_copy 22 = .ok (.ifnull 7, 3) := dk_198 0 7 (dk_at dksX0_copy_1 0 rfl rfl)
theorem dX0_copy_25 : decode cX0_copy 25 = .ok (.iconst 1, 1) := dk_4 (dk_at dksX0_copy_1 3 rfl rfl)
theorem dX0_copy_26 : decode cX0_copy 26 = .ok (.goto 4, 3) := dk_167 0 4 (dk_at dksX0_copy_1 4 rfl rfl)
theorem dX0_copy_29 : decode cX0_copy 29 = .ok (.iconst 0, 1) := dk_3 (dk_at dksX0_copy_1 7 rfl rfl)
theorem dX0_copy_30 : decode cX0_copy 30 = .ok (.iconst 5, 1) := dk_8 (dk_at dksX0_copy_1 8 rfl rfl)
theorem dX0_copy_31 : decode cX0_copy 31 = .ok (.invokevirtual 307, 3) := dk_182 1 51 (dk_at dksX0_copy_1 9 rfl rfl)
theorem dX0_copy_34 : decode cX0_copy 34 = .ok (.aload_n 0, 1) := dk_42 (dk_at dksX0_copy_1 12 rfl rfl)
theorem dX0_copy_35 : decode cX0_copy 35 = .ok (.aload 6, 2) := dk_25 6 (dk_at dksX0_copy_1 13 rfl rfl)
theorem dX0_copy_37 : decode cX0_copy 37 = .ok (.invokestatic 388, 3) := dk_184 1 132 (dk_at dksX0_copy_1 15 rfl rfl)
theorem dX0_copy_40 : decode cX0_copy 40 = .ok (.aload 7, 2) := dk_25 7 (dk_at dksX0_copy_1 18 rfl rfl)
theorem dX0_copy_42 : decode cX0_copy 42 = .ok (.invokestatic 388, 3) := dk_184 1 132 (dk_at dksX0_copy_1 20 rfl rfl)
theorem dX0_copy_45 : decode cX0_copy 45 = .ok (.if_icmp .ne 7, 3) := dk_160 0 7 (dk_at dksX0_copy_2 0 rfl rfl)
theorem dX0_copy_48 : decode cX0_copy 48 = .ok (.iconst 1, 1) := dk_4 (dk_at dksX0_copy_2 3 rfl rfl)
theorem dX0_copy_49 : decode cX0_copy 49 = .ok (.goto 4, 3) := dk_167 0 4 (dk_at dksX0_copy_2 4 rfl rfl)
theorem dX0_copy_52 : decode cX0_copy 52 = .ok (.iconst 0, 1) := dk_3 (dk_at dksX0_copy_2 7 rfl rfl)
theorem dX0_copy_53 : decode cX0_copy 53 = .ok (.iconst 2, 1) := dk_5 (dk_at dksX0_copy_2 8 rfl rfl)
theorem dX0_copy_54 : decode cX0_copy 54 = .ok (.invokevirtual 307, 3) := dk_182 1 51 (dk_at dksX0_copy_2 9 rfl rfl)
theorem dX0_copy_57 : decode cX0_copy 57 = .ok (.aload_n 0, 1) := dk_42 (dk_at dksX0_copy_2 12 rfl rfl)
theorem dX0_copy_58 : decode cX0_copy 58 = .ok (.iload 5, 2) := dk_21 5 (dk_at dksX0_copy_2 13 rfl rfl)
theorem dX0_copy_60 : decode cX0_copy 60 = .ok (.ifCond .lt 41, 3) := dk_155 0 41 (dk_at dksX0_copy_2 15 rfl rfl)
theorem dX0_copy_63 : decode cX0_copy 63 = .ok (.iload_n 2, 1) := dk_28 (dk_at dksX0_copy_2 18 rfl rfl)
theorem dX0_copy_64 : decode cX0_copy 64 = .ok (.ifCond .lt 37, 3) := dk_155 0 37 (dk_at dksX0_copy_2 19 rfl rfl)
theorem dX0_copy_67 : decode cX0_copy 67 = .ok (.iload 4, 2) := dk_21 4 (dk_at dksX0_copy_2 22 rfl rfl)
theorem dX0_copy_69 : decode cX0_copy 69 = .ok (.ifCond .lt 32, 3) := dk_155 0 32 (dk_at dksX0_copy_3 0 rfl rfl)
theorem dX0_copy_72 : decode cX0_copy 72 = .ok (.iload_n 2, 1) := dk_28 (dk_at dksX0_copy_3 3 rfl rfl)
theorem dX0_copy_73 : decode cX0_copy 73 = .ok (.aload 6, 2) := dk_25 6 (dk_at dksX0_copy_3 4 rfl rfl)
theorem dX0_copy_75 : decode cX0_copy 75 = .ok (.invokestatic 295, 3) := dk_184 1 39 (dk_at dksX0_copy_3 6 rfl rfl)
theorem dX0_copy_78 : decode cX0_copy 78 = .ok (.iload 5, 2) := dk_21 5 (dk_at dksX0_copy_3 9 rfl rfl)
theorem dX0_copy_80 : decode cX0_copy 80 = .ok (.isub, 1) := dk_100 (dk_at dksX0_copy_3 11 rfl rfl)
theorem dX0_copy_81 : decode cX0_copy 81 = .ok (.if_icmp .gt 20, 3) := dk_163 0 20 (dk_at dksX0_copy_3 12 rfl rfl)
theorem dX0_copy_84 : decode cX0_copy 84 = .ok (.iload 4, 2) := dk_21 4 (dk_at dksX0_copy_3 15 rfl rfl)
theorem dX0_copy_86 : decode cX0_copy 86 = .ok (.aload 7, 2) := dk_25 7 (dk_at dksX0_copy_3 17 rfl rfl)
theorem dX0_copy_88 : decode cX0_copy 88 = .ok (.invokestatic 295, 3) := dk_184 1 39 (dk_at dksX0_copy_3 19 rfl rfl)
theorem dX0_copy_91 : decode cX0_copy 91 = .ok (.iload 5, 2) := dk_21 5 (dk_at dksX0_copy_3 22 rfl rfl)
theorem dX0_copy_93 : decode cX0_copy 93 = .ok (.isub, 1) := dk_100 (dk_at dksX0_copy_4 0 rfl rfl)
theorem dX0_copy_94 : decode cX0_copy 94 = .ok (.if_icmp .gt 7, 3) := dk_163 0 7 (dk_at dksX0_copy_4 1 rfl rfl)
theorem dX0_copy_97 : decode cX0_copy 97 = .ok (.iconst 1, 1) := dk_4 (dk_at dksX0_copy_4 4 rfl rfl)
theorem dX0_copy_98 : decode cX0_copy 98 = .ok (.goto 4, 3) := dk_167 0 4 (dk_at dksX0_copy_4 5 rfl rfl)
theorem dX0_copy_101 : decode cX0_copy 101 = .ok (.iconst 0, 1) := dk_3 (dk_at dksX0_copy_4 8 rfl rfl)
theorem dX0_copy_102 : decode cX0_copy 102 = .ok (.iconst 0, 1) := dk_3 (dk_at dksX0_copy_4 9 rfl rfl)
theorem dX0_copy_103 : decode cX0_copy 103 = .ok (.invokevirtual 307, 3) := dk_182 1 51 (dk_at dksX0_copy_4 10 rfl rfl)
theorem dX0_copy_106 : decode cX0_copy 106 = .ok (.aload 6, 2) := dk_25 6 (dk_at dksX0_copy_4 13 rfl rfl)
theorem dX0_copy_108 : decode cX0_copy 108 = .ok (.iload_n 2, 1) := dk_28 (dk_at dksX0_copy_4 15 rfl rfl)
theorem dX0_copy_109 : decode cX0_copy 109 = .ok (.aload 7, 2) := dk_25 7 (dk_at dksX0_copy_4 16 rfl rfl)
theorem dX0_copy_111 : decode cX0_copy 111 = .ok (.iload 4, 2) := dk_21 4 (dk_at dksX0_copy_4 18 rfl rfl)
theorem dX0_copy_113 : decode cX0_copy 113 = .ok (.iload 5, 2) := dk_21 5 (dk_at dksX0_copy_4 20 rfl rfl)
theorem dX0_copy_115 : decode cX0_copy 115 = .ok (.invokestatic 391, 3) := dk_184 1 135 (dk_at dksX0_copy_5 0 rfl rfl)
theorem dX0_copy_118 : decode cX0_copy 118 = .ok (.iload 5, 2) := dk_21 5 (dk_at dksX0_copy_5 3 rfl rfl)
theorem dX0_copy_120 : decode cX0_copy 120 = .ok (.ireturn, 1) := dk_172 (dk_at dksX0_copy_5 5 rfl rfl)
theorem dX0_copy_121 : decode cX0_copy 121 = .ok (.astore 6, 2) := dk_58 6 (dk_at dksX0_copy_5 6 rfl rfl)
theorem dX0_copy_123 : decode cX0_copy 123 = .ok (.aload_n 0, 1) := dk_42 (dk_at dksX0_copy_5 8 rfl rfl)
theorem dX0_copy_124 : decode cX0_copy 124 = .ok (.aload 6, 2) := dk_25 6 (dk_at dksX0_copy_5 9 rfl rfl)
theorem dX0_copy_126 : decode cX0_copy 126 = .ok (.getfield 119, 3) := dk_180 0 119 (dk_at dksX0_copy_5 11 rfl rfl)
theorem dX0_copy_129 : decode cX0_copy 129 = .ok (.invokevirtual 129, 3) := dk_182 0 129 (dk_at dksX0_copy_5 14 rfl rfl)
theorem dX0_copy_132 : decode cX0_copy 132 = .ok (.ireturn, 1) := dk_172 (dk_at dksX0_copy_5 17 rfl rfl)
abbrev cX0_widthOf : ByteArray := prog_1_method_84_code
def yX0_widthOf : MethodName := ⟨RX0, "widthOf", "(Ljava/lang/Object;)I"⟩
def dkwX0_widthOf_1 : List UInt8 := [16, 32, 172]
abbrev dktX0_widthOf_1 : List UInt8 := dkwX0_widthOf_1 ++ []
def dkwX0_widthOf_0 : List UInt8 := [42, 193, 1, 118, 153, 0, 8, 16, 8, 167, 0, 17, 42, 193, 1, 119, 153, 0, 8, 16, 16, 167, 0, 5]
abbrev dktX0_widthOf_0 : List UInt8 := dkwX0_widthOf_0 ++ dktX0_widthOf_1
theorem dksX0_widthOf_0 : cX0_widthOf.data.toList.drop 0 = dktX0_widthOf_0 := by decide +kernel
theorem dksX0_widthOf_1 : cX0_widthOf.data.toList.drop 24 = dktX0_widthOf_1 := dk_seg dksX0_widthOf_0 24 rfl rfl
theorem dX0_widthOf_0 : decode cX0_widthOf 0 = .ok (.aload_n 0, 1) := dk_42 (dk_at dksX0_widthOf_0 0 rfl rfl)
theorem dX0_widthOf_1 : decode cX0_widthOf 1 = .ok (.instanceof 374, 3) := dk_193 1 118 (dk_at dksX0_widthOf_0 1 rfl rfl)
theorem dX0_widthOf_4 : decode cX0_widthOf 4 = .ok (.ifCond .eq 8, 3) := dk_153 0 8 (dk_at dksX0_widthOf_0 4 rfl rfl)
theorem dX0_widthOf_7 : decode cX0_widthOf 7 = .ok (.bipush 8, 2) := dk_16 8 (dk_at dksX0_widthOf_0 7 rfl rfl)
theorem dX0_widthOf_9 : decode cX0_widthOf 9 = .ok (.goto 17, 3) := dk_167 0 17 (dk_at dksX0_widthOf_0 9 rfl rfl)
theorem dX0_widthOf_12 : decode cX0_widthOf 12 = .ok (.aload_n 0, 1) := dk_42 (dk_at dksX0_widthOf_0 12 rfl rfl)
theorem dX0_widthOf_13 : decode cX0_widthOf 13 = .ok (.instanceof 375, 3) := dk_193 1 119 (dk_at dksX0_widthOf_0 13 rfl rfl)
theorem dX0_widthOf_16 : decode cX0_widthOf 16 = .ok (.ifCond .eq 8, 3) := dk_153 0 8 (dk_at dksX0_widthOf_0 16 rfl rfl)
theorem dX0_widthOf_19 : decode cX0_widthOf 19 = .ok (.bipush 16, 2) := dk_16 16 (dk_at dksX0_widthOf_0 19 rfl rfl)
theorem dX0_widthOf_21 : decode cX0_widthOf 21 = .ok (.goto 5, 3) := dk_167 0 5 (dk_at dksX0_widthOf_0 21 rfl rfl)
theorem dX0_widthOf_24 : decode cX0_widthOf 24 = .ok (.bipush 32, 2) := dk_16 32 (dk_at dksX0_widthOf_1 0 rfl rfl)
theorem dX0_widthOf_26 : decode cX0_widthOf 26 = .ok (.ireturn, 1) := dk_172 (dk_at dksX0_widthOf_1 2 rfl rfl)
abbrev cX0_slide : ByteArray := prog_1_method_87_code
def yX0_slide : MethodName := ⟨RX0, "slide", "(Ljava/lang/Object;ILjava/lang/Object;II)V"⟩
def dkwX0_slide_2 : List UInt8 := [184, 1, 126, 167, 0, 18, 42, 192, 1, 121, 27, 44, 192, 1, 121, 29, 21, 4, 184, 1, 126, 177]
abbrev dktX0_slide_2 : List UInt8 := dkwX0_slide_2 ++ []
def dkwX0_slide_1 : List UInt8 := [167, 0, 43, 42, 193, 1, 119, 153, 0, 21, 42, 192, 1, 119, 27, 44, 192, 1, 119, 29, 21, 4]
abbrev dktX0_slide_1 : List UInt8 := dkwX0_slide_1 ++ dktX0_slide_2
def dkwX0_slide_0 : List UInt8 := [42, 193, 1, 118, 153, 0, 21, 42, 192, 1, 118, 27, 44, 192, 1, 118, 29, 21, 4, 184, 1, 126]
abbrev dktX0_slide_0 : List UInt8 := dkwX0_slide_0 ++ dktX0_slide_1
theorem dksX0_slide_0 : cX0_slide.data.toList.drop 0 = dktX0_slide_0 := by decide +kernel
theorem dksX0_slide_1 : cX0_slide.data.toList.drop 22 = dktX0_slide_1 := dk_seg dksX0_slide_0 22 rfl rfl
theorem dksX0_slide_2 : cX0_slide.data.toList.drop 44 = dktX0_slide_2 := dk_seg dksX0_slide_1 22 rfl rfl
theorem dX0_slide_0 : decode cX0_slide 0 = .ok (.aload_n 0, 1) := dk_42 (dk_at dksX0_slide_0 0 rfl rfl)
theorem dX0_slide_1 : decode cX0_slide 1 = .ok (.instanceof 374, 3) := dk_193 1 118 (dk_at dksX0_slide_0 1 rfl rfl)
theorem dX0_slide_4 : decode cX0_slide 4 = .ok (.ifCond .eq 21, 3) := dk_153 0 21 (dk_at dksX0_slide_0 4 rfl rfl)
theorem dX0_slide_7 : decode cX0_slide 7 = .ok (.aload_n 0, 1) := dk_42 (dk_at dksX0_slide_0 7 rfl rfl)
theorem dX0_slide_8 : decode cX0_slide 8 = .ok (.checkcast 374, 3) := dk_192 1 118 (dk_at dksX0_slide_0 8 rfl rfl)
theorem dX0_slide_11 : decode cX0_slide 11 = .ok (.iload_n 1, 1) := dk_27 (dk_at dksX0_slide_0 11 rfl rfl)
theorem dX0_slide_12 : decode cX0_slide 12 = .ok (.aload_n 2, 1) := dk_44 (dk_at dksX0_slide_0 12 rfl rfl)
theorem dX0_slide_13 : decode cX0_slide 13 = .ok (.checkcast 374, 3) := dk_192 1 118 (dk_at dksX0_slide_0 13 rfl rfl)
theorem dX0_slide_16 : decode cX0_slide 16 = .ok (.iload_n 3, 1) := dk_29 (dk_at dksX0_slide_0 16 rfl rfl)
theorem dX0_slide_17 : decode cX0_slide 17 = .ok (.iload 4, 2) := dk_21 4 (dk_at dksX0_slide_0 17 rfl rfl)
theorem dX0_slide_19 : decode cX0_slide 19 = .ok (.invokestatic 382, 3) := dk_184 1 126 (dk_at dksX0_slide_0 19 rfl rfl)
theorem dX0_slide_22 : decode cX0_slide 22 = .ok (.goto 43, 3) := dk_167 0 43 (dk_at dksX0_slide_1 0 rfl rfl)
theorem dX0_slide_25 : decode cX0_slide 25 = .ok (.aload_n 0, 1) := dk_42 (dk_at dksX0_slide_1 3 rfl rfl)
theorem dX0_slide_26 : decode cX0_slide 26 = .ok (.instanceof 375, 3) := dk_193 1 119 (dk_at dksX0_slide_1 4 rfl rfl)
theorem dX0_slide_29 : decode cX0_slide 29 = .ok (.ifCond .eq 21, 3) := dk_153 0 21 (dk_at dksX0_slide_1 7 rfl rfl)
theorem dX0_slide_32 : decode cX0_slide 32 = .ok (.aload_n 0, 1) := dk_42 (dk_at dksX0_slide_1 10 rfl rfl)
theorem dX0_slide_33 : decode cX0_slide 33 = .ok (.checkcast 375, 3) := dk_192 1 119 (dk_at dksX0_slide_1 11 rfl rfl)
theorem dX0_slide_36 : decode cX0_slide 36 = .ok (.iload_n 1, 1) := dk_27 (dk_at dksX0_slide_1 14 rfl rfl)
theorem dX0_slide_37 : decode cX0_slide 37 = .ok (.aload_n 2, 1) := dk_44 (dk_at dksX0_slide_1 15 rfl rfl)
theorem dX0_slide_38 : decode cX0_slide 38 = .ok (.checkcast 375, 3) := dk_192 1 119 (dk_at dksX0_slide_1 16 rfl rfl)
theorem dX0_slide_41 : decode cX0_slide 41 = .ok (.iload_n 3, 1) := dk_29 (dk_at dksX0_slide_1 19 rfl rfl)
theorem dX0_slide_42 : decode cX0_slide 42 = .ok (.iload 4, 2) := dk_21 4 (dk_at dksX0_slide_1 20 rfl rfl)
theorem dX0_slide_44 : decode cX0_slide 44 = .ok (.invokestatic 382, 3) := dk_184 1 126 (dk_at dksX0_slide_2 0 rfl rfl)
theorem dX0_slide_47 : decode cX0_slide 47 = .ok (.goto 18, 3) := dk_167 0 18 (dk_at dksX0_slide_2 3 rfl rfl)
theorem dX0_slide_50 : decode cX0_slide 50 = .ok (.aload_n 0, 1) := dk_42 (dk_at dksX0_slide_2 6 rfl rfl)
theorem dX0_slide_51 : decode cX0_slide 51 = .ok (.checkcast 377, 3) := dk_192 1 121 (dk_at dksX0_slide_2 7 rfl rfl)
theorem dX0_slide_54 : decode cX0_slide 54 = .ok (.iload_n 1, 1) := dk_27 (dk_at dksX0_slide_2 10 rfl rfl)
theorem dX0_slide_55 : decode cX0_slide 55 = .ok (.aload_n 2, 1) := dk_44 (dk_at dksX0_slide_2 11 rfl rfl)
theorem dX0_slide_56 : decode cX0_slide 56 = .ok (.checkcast 377, 3) := dk_192 1 121 (dk_at dksX0_slide_2 12 rfl rfl)
theorem dX0_slide_59 : decode cX0_slide 59 = .ok (.iload_n 3, 1) := dk_29 (dk_at dksX0_slide_2 15 rfl rfl)
theorem dX0_slide_60 : decode cX0_slide 60 = .ok (.iload 4, 2) := dk_21 4 (dk_at dksX0_slide_2 16 rfl rfl)
theorem dX0_slide_62 : decode cX0_slide 62 = .ok (.invokestatic 382, 3) := dk_184 1 126 (dk_at dksX0_slide_2 18 rfl rfl)
theorem dX0_slide_65 : decode cX0_slide 65 = .ok (.return_, 1) := dk_177 (dk_at dksX0_slide_2 21 rfl rfl)
abbrev cX0_load : ByteArray := prog_1_method_90_code
def yX0_load : MethodName := ⟨RX0, "load", "(I)I"⟩
def dkwX0_load_1 : List UInt8 := [182, 1, 138, 172, 77, 42, 44, 180, 0, 119, 182, 0, 129, 172]
abbrev dktX0_load_1 : List UInt8 := dkwX0_load_1 ++ []
def dkwX0_load_0 : List UInt8 := [42, 27, 182, 1, 47, 77, 42, 44, 198, 0, 7, 4, 167, 0, 4, 3, 8, 182, 1, 51, 42, 44]
abbrev dktX0_load_0 : List UInt8 := dkwX0_load_0 ++ dktX0_load_1
theorem dksX0_load_0 : cX0_load.data.toList.drop 0 = dktX0_load_0 := by decide +kernel
theorem dksX0_load_1 : cX0_load.data.toList.drop 22 = dktX0_load_1 := dk_seg dksX0_load_0 22 rfl rfl
theorem dX0_load_0 : decode cX0_load 0 = .ok (.aload_n 0, 1) := dk_42 (dk_at dksX0_load_0 0 rfl rfl)
theorem dX0_load_1 : decode cX0_load 1 = .ok (.iload_n 1, 1) := dk_27 (dk_at dksX0_load_0 1 rfl rfl)
theorem dX0_load_2 : decode cX0_load 2 = .ok (.invokevirtual 303, 3) := dk_182 1 47 (dk_at dksX0_load_0 2 rfl rfl)
theorem dX0_load_5 : decode cX0_load 5 = .ok (.astore_n 2, 1) := dk_77 (dk_at dksX0_load_0 5 rfl rfl)
theorem dX0_load_6 : decode cX0_load 6 = .ok (.aload_n 0, 1) := dk_42 (dk_at dksX0_load_0 6 rfl rfl)
theorem dX0_load_7 : decode cX0_load 7 = .ok (.aload_n 2, 1) := dk_44 (dk_at dksX0_load_0 7 rfl rfl)
theorem dX0_load_8 : decode cX0_load 8 = .ok (.ifnull 7, 3) := dk_198 0 7 (dk_at dksX0_load_0 8 rfl rfl)
theorem dX0_load_11 : decode cX0_load 11 = .ok (.iconst 1, 1) := dk_4 (dk_at dksX0_load_0 11 rfl rfl)
theorem dX0_load_12 : decode cX0_load 12 = .ok (.goto 4, 3) := dk_167 0 4 (dk_at dksX0_load_0 12 rfl rfl)
theorem dX0_load_15 : decode cX0_load 15 = .ok (.iconst 0, 1) := dk_3 (dk_at dksX0_load_0 15 rfl rfl)
theorem dX0_load_16 : decode cX0_load 16 = .ok (.iconst 5, 1) := dk_8 (dk_at dksX0_load_0 16 rfl rfl)
theorem dX0_load_17 : decode cX0_load 17 = .ok (.invokevirtual 307, 3) := dk_182 1 51 (dk_at dksX0_load_0 17 rfl rfl)
theorem dX0_load_20 : decode cX0_load 20 = .ok (.aload_n 0, 1) := dk_42 (dk_at dksX0_load_0 20 rfl rfl)
theorem dX0_load_21 : decode cX0_load 21 = .ok (.aload_n 2, 1) := dk_44 (dk_at dksX0_load_0 21 rfl rfl)
theorem dX0_load_22 : decode cX0_load 22 = .ok (.invokevirtual 394, 3) := dk_182 1 138 (dk_at dksX0_load_1 0 rfl rfl)
theorem dX0_load_25 : decode cX0_load 25 = .ok (.ireturn, 1) := dk_172 (dk_at dksX0_load_1 3 rfl rfl)
theorem dX0_load_26 : decode cX0_load 26 = .ok (.astore_n 2, 1) := dk_77 (dk_at dksX0_load_1 4 rfl rfl)
theorem dX0_load_27 : decode cX0_load 27 = .ok (.aload_n 0, 1) := dk_42 (dk_at dksX0_load_1 5 rfl rfl)
theorem dX0_load_28 : decode cX0_load 28 = .ok (.aload_n 2, 1) := dk_44 (dk_at dksX0_load_1 6 rfl rfl)
theorem dX0_load_29 : decode cX0_load 29 = .ok (.getfield 119, 3) := dk_180 0 119 (dk_at dksX0_load_1 7 rfl rfl)
theorem dX0_load_32 : decode cX0_load 32 = .ok (.invokevirtual 129, 3) := dk_182 0 129 (dk_at dksX0_load_1 10 rfl rfl)
theorem dX0_load_35 : decode cX0_load 35 = .ok (.ireturn, 1) := dk_172 (dk_at dksX0_load_1 13 rfl rfl)
abbrev cX0_loads : ByteArray := prog_1_method_89_code
def yX0_loads : MethodName := ⟨RX0, "loads", "(Ljava/lang/Object;)I"⟩
def dkwX0_loads_2 : List UInt8 := [167, 255, 213, 28, 172]
abbrev dktX0_loads_2 : List UInt8 := dkwX0_loads_2 ++ []
def dkwX0_loads_1 : List UInt8 := [184, 0, 193, 153, 0, 23, 42, 180, 0, 79, 180, 0, 196, 28, 43, 28, 184, 1, 43, 79, 132, 2, 1]
abbrev dktX0_loads_1 : List UInt8 := dkwX0_loads_1 ++ dktX0_loads_2
def dkwX0_loads_0 : List UInt8 := [3, 61, 28, 43, 184, 1, 39, 162, 0, 41, 28, 184, 0, 190, 153, 0, 34, 43, 28, 184, 1, 43]
abbrev dktX0_loads_0 : List UInt8 := dkwX0_loads_0 ++ dktX0_loads_1
theorem dksX0_loads_0 : cX0_loads.data.toList.drop 0 = dktX0_loads_0 := by decide +kernel
theorem dksX0_loads_1 : cX0_loads.data.toList.drop 22 = dktX0_loads_1 := dk_seg dksX0_loads_0 22 rfl rfl
theorem dksX0_loads_2 : cX0_loads.data.toList.drop 45 = dktX0_loads_2 := dk_seg dksX0_loads_1 23 rfl rfl
theorem dX0_loads_0 : decode cX0_loads 0 = .ok (.iconst 0, 1) := dk_3 (dk_at dksX0_loads_0 0 rfl rfl)
theorem dX0_loads_1 : decode cX0_loads 1 = .ok (.istore_n 2, 1) := dk_61 (dk_at dksX0_loads_0 1 rfl rfl)
theorem dX0_loads_2 : decode cX0_loads 2 = .ok (.iload_n 2, 1) := dk_28 (dk_at dksX0_loads_0 2 rfl rfl)
theorem dX0_loads_3 : decode cX0_loads 3 = .ok (.aload_n 1, 1) := dk_43 (dk_at dksX0_loads_0 3 rfl rfl)
theorem dX0_loads_4 : decode cX0_loads 4 = .ok (.invokestatic 295, 3) := dk_184 1 39 (dk_at dksX0_loads_0 4 rfl rfl)
theorem dX0_loads_7 : decode cX0_loads 7 = .ok (.if_icmp .ge 41, 3) := dk_162 0 41 (dk_at dksX0_loads_0 7 rfl rfl)
theorem dX0_loads_10 : decode cX0_loads 10 = .ok (.iload_n 2, 1) := dk_28 (dk_at dksX0_loads_0 10 rfl rfl)
theorem dX0_loads_11 : decode cX0_loads 11 = .ok (.invokestatic 190, 3) := dk_184 0 190 (dk_at dksX0_loads_0 11 rfl rfl)
theorem dX0_loads_14 : decode cX0_loads 14 = .ok (.ifCond .eq 34, 3) := dk_153 0 34 (dk_at dksX0_loads_0 14 rfl rfl)
theorem dX0_loads_17 : decode cX0_loads 17 = .ok (.aload_n 1, 1) := dk_43 (dk_at dksX0_loads_0 17 rfl rfl)
theorem dX0_loads_18 : decode cX0_loads 18 = .ok (.iload_n 2, 1) := dk_28 (dk_at dksX0_loads_0 18 rfl rfl)
theorem dX0_loads_19 : decode cX0_loads 19 = .ok (.invokestatic 299, 3) := dk_184 1 43 (dk_at dksX0_loads_0 19 rfl rfl)
theorem dX0_loads_22 : decode cX0_loads 22 = .ok (.invokestatic 193, 3) := dk_184 0 193 (dk_at dksX0_loads_1 0 rfl rfl)
theorem dX0_loads_25 : decode cX0_loads 25 = .ok (.ifCond .eq 23, 3) := dk_153 0 23 (dk_at dksX0_loads_1 3 rfl rfl)
theorem dX0_loads_28 : decode cX0_loads 28 = .ok (.aload_n 0, 1) := dk_42 (dk_at dksX0_loads_1 6 rfl rfl)
theorem dX0_loads_29 : decode cX0_loads 29 = .ok (.getfield 79, 3) := dk_180 0 79 (dk_at dksX0_loads_1 7 rfl rfl)
theorem dX0_loads_32 : decode cX0_loads 32 = .ok (.getfield 196, 3) := dk_180 0 196 (dk_at dksX0_loads_1 10 rfl rfl)
theorem dX0_loads_35 : decode cX0_loads 35 = .ok (.iload_n 2, 1) := dk_28 (dk_at dksX0_loads_1 13 rfl rfl)
theorem dX0_loads_36 : decode cX0_loads 36 = .ok (.aload_n 1, 1) := dk_43 (dk_at dksX0_loads_1 14 rfl rfl)
theorem dX0_loads_37 : decode cX0_loads 37 = .ok (.iload_n 2, 1) := dk_28 (dk_at dksX0_loads_1 15 rfl rfl)
theorem dX0_loads_38 : decode cX0_loads 38 = .ok (.invokestatic 299, 3) := dk_184 1 43 (dk_at dksX0_loads_1 16 rfl rfl)
theorem dX0_loads_41 : decode cX0_loads 41 = .ok (.iastore, 1) := dk_79 (dk_at dksX0_loads_1 19 rfl rfl)
theorem dX0_loads_42 : decode cX0_loads 42 = .ok (.iinc 2 1, 3) := dk_132 2 1 (dk_at dksX0_loads_1 20 rfl rfl)
theorem dX0_loads_45 : decode cX0_loads 45 = .ok (.goto (-43), 3) := dk_167 255 213 (dk_at dksX0_loads_2 0 rfl rfl)
theorem dX0_loads_48 : decode cX0_loads 48 = .ok (.iload_n 2, 1) := dk_28 (dk_at dksX0_loads_2 3 rfl rfl)
theorem dX0_loads_49 : decode cX0_loads 49 = .ok (.ireturn, 1) := dk_172 (dk_at dksX0_loads_2 4 rfl rfl)
abbrev cX0_judge : ByteArray := prog_1_method_91_code
def yX0_judge : MethodName := ⟨RX0, "judge", "(I)I"⟩
def dkwX0_judge_3 : List UInt8 := [3, 167, 0, 6, 4, 29, 96, 172, 77, 42, 44, 180, 0, 119, 182, 0, 129, 172]
abbrev dktX0_judge_3 : List UInt8 := dkwX0_judge_3 ++ []
def dkwX0_judge_2 : List UInt8 := [180, 0, 114, 8, 50, 29, 46, 160, 0, 9, 132, 3, 1, 167, 255, 218, 29, 44, 184, 1, 39, 160, 0, 7]
abbrev dktX0_judge_2 : List UInt8 := dkwX0_judge_2 ++ dktX0_judge_3
def dkwX0_judge_1 : List UInt8 := [184, 1, 39, 162, 0, 36, 42, 29, 182, 0, 208, 153, 0, 28, 44, 29, 184, 1, 43, 42, 180, 0, 79]
abbrev dktX0_judge_1 : List UInt8 := dkwX0_judge_1 ++ dktX0_judge_2
def dkwX0_judge_0 : List UInt8 := [42, 27, 182, 1, 47, 77, 42, 44, 198, 0, 7, 4, 167, 0, 4, 3, 8, 182, 1, 51, 3, 62, 29, 44]
abbrev dktX0_judge_0 : List UInt8 := dkwX0_judge_0 ++ dktX0_judge_1
theorem dksX0_judge_0 : cX0_judge.data.toList.drop 0 = dktX0_judge_0 := by decide +kernel
theorem dksX0_judge_1 : cX0_judge.data.toList.drop 24 = dktX0_judge_1 := dk_seg dksX0_judge_0 24 rfl rfl
theorem dksX0_judge_2 : cX0_judge.data.toList.drop 47 = dktX0_judge_2 := dk_seg dksX0_judge_1 23 rfl rfl
theorem dksX0_judge_3 : cX0_judge.data.toList.drop 71 = dktX0_judge_3 := dk_seg dksX0_judge_2 24 rfl rfl
theorem dX0_judge_0 : decode cX0_judge 0 = .ok (.aload_n 0, 1) := dk_42 (dk_at dksX0_judge_0 0 rfl rfl)
theorem dX0_judge_1 : decode cX0_judge 1 = .ok (.iload_n 1, 1) := dk_27 (dk_at dksX0_judge_0 1 rfl rfl)
theorem dX0_judge_2 : decode cX0_judge 2 = .ok (.invokevirtual 303, 3) := dk_182 1 47 (dk_at dksX0_judge_0 2 rfl rfl)
theorem dX0_judge_5 : decode cX0_judge 5 = .ok (.astore_n 2, 1) := dk_77 (dk_at dksX0_judge_0 5 rfl rfl)
theorem dX0_judge_6 : decode cX0_judge 6 = .ok (.aload_n 0, 1) := dk_42 (dk_at dksX0_judge_0 6 rfl rfl)
theorem dX0_judge_7 : decode cX0_judge 7 = .ok (.aload_n 2, 1) := dk_44 (dk_at dksX0_judge_0 7 rfl rfl)
theorem dX0_judge_8 : decode cX0_judge 8 = .ok (.ifnull 7, 3) := dk_198 0 7 (dk_at dksX0_judge_0 8 rfl rfl)
theorem dX0_judge_11 : decode cX0_judge 11 = .ok (.iconst 1, 1) := dk_4 (dk_at dksX0_judge_0 11 rfl rfl)
theorem dX0_judge_12 : decode cX0_judge 12 = .ok (.goto 4, 3) := dk_167 0 4 (dk_at dksX0_judge_0 12 rfl rfl)
theorem dX0_judge_15 : decode cX0_judge 15 = .ok (.iconst 0, 1) := dk_3 (dk_at dksX0_judge_0 15 rfl rfl)
theorem dX0_judge_16 : decode cX0_judge 16 = .ok (.iconst 5, 1) := dk_8 (dk_at dksX0_judge_0 16 rfl rfl)
theorem dX0_judge_17 : decode cX0_judge 17 = .ok (.invokevirtual 307, 3) := dk_182 1 51 (dk_at dksX0_judge_0 17 rfl rfl)
theorem dX0_judge_20 : decode cX0_judge 20 = .ok (.iconst 0, 1) := dk_3 (dk_at dksX0_judge_0 20 rfl rfl)
theorem dX0_judge_21 : decode cX0_judge 21 = .ok (.istore_n 3, 1) := dk_62 (dk_at dksX0_judge_0 21 rfl rfl)
theorem dX0_judge_22 : decode cX0_judge 22 = .ok (.iload_n 3, 1) := dk_29 (dk_at dksX0_judge_0 22 rfl rfl)
theorem dX0_judge_23 : decode cX0_judge 23 = .ok (.aload_n 2, 1) := dk_44 (dk_at dksX0_judge_0 23 rfl rfl)
theorem dX0_judge_24 : decode cX0_judge 24 = .ok (.invokestatic 295, 3) := dk_184 1 39 (dk_at dksX0_judge_1 0 rfl rfl)
theorem dX0_judge_27 : decode cX0_judge 27 = .ok (.if_icmp .ge 36, 3) := dk_162 0 36 (dk_at dksX0_judge_1 3 rfl rfl)
theorem dX0_judge_30 : decode cX0_judge 30 = .ok (.aload_n 0, 1) := dk_42 (dk_at dksX0_judge_1 6 rfl rfl)
theorem dX0_judge_31 : decode cX0_judge 31 = .ok (.iload_n 3, 1) := dk_29 (dk_at dksX0_judge_1 7 rfl rfl)
theorem dX0_judge_32 : decode cX0_judge 32 = .ok (.invokevirtual 208, 3) := dk_182 0 208 (dk_at dksX0_judge_1 8 rfl rfl)
theorem dX0_judge_35 : decode cX0_judge 35 = .ok (.ifCond .eq 28, 3) := dk_153 0 28 (dk_at dksX0_judge_1 11 rfl rfl)
theorem dX0_judge_38 : decode cX0_judge 38 = .ok (.aload_n 2, 1) := dk_44 (dk_at dksX0_judge_1 14 rfl rfl)
theorem dX0_judge_39 : decode cX0_judge 39 = .ok (.iload_n 3, 1) := dk_29 (dk_at dksX0_judge_1 15 rfl rfl)
theorem dX0_judge_40 : decode cX0_judge 40 = .ok (.invokestatic 299, 3) := dk_184 1 43 (dk_at dksX0_judge_1 16 rfl rfl)
theorem dX0_judge_43 : decode cX0_judge 43 = .ok (.aload_n 0, 1) := dk_42 (dk_at dksX0_judge_1 19 rfl rfl)
theorem dX0_judge_44 : decode cX0_judge 44 = .ok (.getfield 79, 3) := dk_180 0 79 (dk_at dksX0_judge_1 20 rfl rfl)
theorem dX0_judge_47 : decode cX0_judge 47 = .ok (.getfield 114, 3) := dk_180 0 114 (dk_at dksX0_judge_2 0 rfl rfl)
theorem dX0_judge_50 : decode cX0_judge 50 = .ok (.iconst 5, 1) := dk_8 (dk_at dksX0_judge_2 3 rfl rfl)
theorem dX0_judge_51 : decode cX0_judge 51 = .ok (.aaload, 1) := dk_50 (dk_at dksX0_judge_2 4 rfl rfl)
theorem dX0_judge_52 : decode cX0_judge 52 = .ok (.iload_n 3, 1) := dk_29 (dk_at dksX0_judge_2 5 rfl rfl)
theorem dX0_judge_53 : decode cX0_judge 53 = .ok (.iaload, 1) := dk_46 (dk_at dksX0_judge_2 6 rfl rfl)
theorem dX0_judge_54 : decode cX0_judge 54 = .ok (.if_icmp .ne 9, 3) := dk_160 0 9 (dk_at dksX0_judge_2 7 rfl rfl)
theorem dX0_judge_57 : decode cX0_judge 57 = .ok (.iinc 3 1, 3) := dk_132 3 1 (dk_at dksX0_judge_2 10 rfl rfl)
theorem dX0_judge_60 : decode cX0_judge 60 = .ok (.goto (-38), 3) := dk_167 255 218 (dk_at dksX0_judge_2 13 rfl rfl)
theorem dX0_judge_63 : decode cX0_judge 63 = .ok (.iload_n 3, 1) := dk_29 (dk_at dksX0_judge_2 16 rfl rfl)
theorem dX0_judge_64 : decode cX0_judge 64 = .ok (.aload_n 2, 1) := dk_44 (dk_at dksX0_judge_2 17 rfl rfl)
theorem dX0_judge_65 : decode cX0_judge 65 = .ok (.invokestatic 295, 3) := dk_184 1 39 (dk_at dksX0_judge_2 18 rfl rfl)
theorem dX0_judge_68 : decode cX0_judge 68 = .ok (.if_icmp .ne 7, 3) := dk_160 0 7 (dk_at dksX0_judge_2 21 rfl rfl)
theorem dX0_judge_71 : decode cX0_judge 71 = .ok (.iconst 0, 1) := dk_3 (dk_at dksX0_judge_3 0 rfl rfl)
theorem dX0_judge_72 : decode cX0_judge 72 = .ok (.goto 6, 3) := dk_167 0 6 (dk_at dksX0_judge_3 1 rfl rfl)
theorem dX0_judge_75 : decode cX0_judge 75 = .ok (.iconst 1, 1) := dk_4 (dk_at dksX0_judge_3 4 rfl rfl)
theorem dX0_judge_76 : decode cX0_judge 76 = .ok (.iload_n 3, 1) := dk_29 (dk_at dksX0_judge_3 5 rfl rfl)
theorem dX0_judge_77 : decode cX0_judge 77 = .ok (.iadd, 1) := dk_96 (dk_at dksX0_judge_3 6 rfl rfl)
theorem dX0_judge_78 : decode cX0_judge 78 = .ok (.ireturn, 1) := dk_172 (dk_at dksX0_judge_3 7 rfl rfl)
theorem dX0_judge_79 : decode cX0_judge 79 = .ok (.astore_n 2, 1) := dk_77 (dk_at dksX0_judge_3 8 rfl rfl)
theorem dX0_judge_80 : decode cX0_judge 80 = .ok (.aload_n 0, 1) := dk_42 (dk_at dksX0_judge_3 9 rfl rfl)
theorem dX0_judge_81 : decode cX0_judge 81 = .ok (.aload_n 2, 1) := dk_44 (dk_at dksX0_judge_3 10 rfl rfl)
theorem dX0_judge_82 : decode cX0_judge 82 = .ok (.getfield 119, 3) := dk_180 0 119 (dk_at dksX0_judge_3 11 rfl rfl)
theorem dX0_judge_85 : decode cX0_judge 85 = .ok (.invokevirtual 129, 3) := dk_182 0 129 (dk_at dksX0_judge_3 14 rfl rfl)
theorem dX0_judge_88 : decode cX0_judge 88 = .ok (.ireturn, 1) := dk_172 (dk_at dksX0_judge_3 17 rfl rfl)
abbrev cX0_image : ByteArray := prog_1_method_92_code
def yX0_image : MethodName := ⟨RX0, "image", "()I"⟩
def dkwX0_image_0 : List UInt8 := [42, 180, 0, 83, 42, 180, 0, 79, 182, 0, 247, 42, 4, 181, 1, 141, 4, 172]
abbrev dktX0_image_0 : List UInt8 := dkwX0_image_0 ++ []
theorem dksX0_image_0 : cX0_image.data.toList.drop 0 = dktX0_image_0 := by decide +kernel
theorem dX0_image_0 : decode cX0_image 0 = .ok (.aload_n 0, 1) := dk_42 (dk_at dksX0_image_0 0 rfl rfl)
theorem dX0_image_1 : decode cX0_image 1 = .ok (.getfield 83, 3) := dk_180 0 83 (dk_at dksX0_image_0 1 rfl rfl)
theorem dX0_image_4 : decode cX0_image 4 = .ok (.aload_n 0, 1) := dk_42 (dk_at dksX0_image_0 4 rfl rfl)
theorem dX0_image_5 : decode cX0_image 5 = .ok (.getfield 79, 3) := dk_180 0 79 (dk_at dksX0_image_0 5 rfl rfl)
theorem dX0_image_8 : decode cX0_image 8 = .ok (.invokevirtual 247, 3) := dk_182 0 247 (dk_at dksX0_image_0 8 rfl rfl)
theorem dX0_image_11 : decode cX0_image 11 = .ok (.aload_n 0, 1) := dk_42 (dk_at dksX0_image_0 11 rfl rfl)
theorem dX0_image_12 : decode cX0_image 12 = .ok (.iconst 1, 1) := dk_4 (dk_at dksX0_image_0 12 rfl rfl)
theorem dX0_image_13 : decode cX0_image 13 = .ok (.putfield 397, 3) := dk_181 1 141 (dk_at dksX0_image_0 13 rfl rfl)
theorem dX0_image_16 : decode cX0_image 16 = .ok (.iconst 1, 1) := dk_4 (dk_at dksX0_image_0 16 rfl rfl)
theorem dX0_image_17 : decode cX0_image 17 = .ok (.ireturn, 1) := dk_172 (dk_at dksX0_image_0 17 rfl rfl)
abbrev cX0_undo : ByteArray := prog_1_method_93_code
def yX0_undo : MethodName := ⟨RX0, "undo", "()I"⟩
def dkwX0_undo_1 : List UInt8 := [42, 180, 0, 79, 180, 0, 184, 172]
abbrev dktX0_undo_1 : List UInt8 := dkwX0_undo_1 ++ []
def dkwX0_undo_0 : List UInt8 := [42, 180, 1, 141, 154, 0, 9, 42, 6, 182, 0, 129, 172, 42, 180, 0, 79, 42, 180, 0, 83, 182, 0, 247]
abbrev dktX0_undo_0 : List UInt8 := dkwX0_undo_0 ++ dktX0_undo_1
theorem dksX0_undo_0 : cX0_undo.data.toList.drop 0 = dktX0_undo_0 := by decide +kernel
theorem dksX0_undo_1 : cX0_undo.data.toList.drop 24 = dktX0_undo_1 := dk_seg dksX0_undo_0 24 rfl rfl
theorem dX0_undo_0 : decode cX0_undo 0 = .ok (.aload_n 0, 1) := dk_42 (dk_at dksX0_undo_0 0 rfl rfl)
theorem dX0_undo_1 : decode cX0_undo 1 = .ok (.getfield 397, 3) := dk_180 1 141 (dk_at dksX0_undo_0 1 rfl rfl)
theorem dX0_undo_4 : decode cX0_undo 4 = .ok (.ifCond .ne 9, 3) := dk_154 0 9 (dk_at dksX0_undo_0 4 rfl rfl)
theorem dX0_undo_7 : decode cX0_undo 7 = .ok (.aload_n 0, 1) := dk_42 (dk_at dksX0_undo_0 7 rfl rfl)
theorem dX0_undo_8 : decode cX0_undo 8 = .ok (.iconst 3, 1) := dk_6 (dk_at dksX0_undo_0 8 rfl rfl)
theorem dX0_undo_9 : decode cX0_undo 9 = .ok (.invokevirtual 129, 3) := dk_182 0 129 (dk_at dksX0_undo_0 9 rfl rfl)
theorem dX0_undo_12 : decode cX0_undo 12 = .ok (.ireturn, 1) := dk_172 (dk_at dksX0_undo_0 12 rfl rfl)
theorem dX0_undo_13 : decode cX0_undo 13 = .ok (.aload_n 0, 1) := dk_42 (dk_at dksX0_undo_0 13 rfl rfl)
theorem dX0_undo_14 : decode cX0_undo 14 = .ok (.getfield 79, 3) := dk_180 0 79 (dk_at dksX0_undo_0 14 rfl rfl)
theorem dX0_undo_17 : decode cX0_undo 17 = .ok (.aload_n 0, 1) := dk_42 (dk_at dksX0_undo_0 17 rfl rfl)
theorem dX0_undo_18 : decode cX0_undo 18 = .ok (.getfield 83, 3) := dk_180 0 83 (dk_at dksX0_undo_0 18 rfl rfl)
theorem dX0_undo_21 : decode cX0_undo 21 = .ok (.invokevirtual 247, 3) := dk_182 0 247 (dk_at dksX0_undo_0 21 rfl rfl)
theorem dX0_undo_24 : decode cX0_undo 24 = .ok (.aload_n 0, 1) := dk_42 (dk_at dksX0_undo_1 0 rfl rfl)
theorem dX0_undo_25 : decode cX0_undo 25 = .ok (.getfield 79, 3) := dk_180 0 79 (dk_at dksX0_undo_1 1 rfl rfl)
theorem dX0_undo_28 : decode cX0_undo 28 = .ok (.getfield 184, 3) := dk_180 0 184 (dk_at dksX0_undo_1 4 rfl rfl)
theorem dX0_undo_31 : decode cX0_undo 31 = .ok (.ireturn, 1) := dk_172 (dk_at dksX0_undo_1 7 rfl rfl)
abbrev cX0_tear : ByteArray := prog_1_method_94_code
def yX0_tear : MethodName := ⟨RX0, "tear", "()I"⟩
def dkwX0_tear_0 : List UInt8 := [42, 180, 1, 141, 153, 0, 7, 4, 167, 0, 4, 3, 60, 42, 3, 181, 1, 141, 27, 172]
abbrev dktX0_tear_0 : List UInt8 := dkwX0_tear_0 ++ []
theorem dksX0_tear_0 : cX0_tear.data.toList.drop 0 = dktX0_tear_0 := by decide +kernel
theorem dX0_tear_0 : decode cX0_tear 0 = .ok (.aload_n 0, 1) := dk_42 (dk_at dksX0_tear_0 0 rfl rfl)
theorem dX0_tear_1 : decode cX0_tear 1 = .ok (.getfield 397, 3) := dk_180 1 141 (dk_at dksX0_tear_0 1 rfl rfl)
theorem dX0_tear_4 : decode cX0_tear 4 = .ok (.ifCond .eq 7, 3) := dk_153 0 7 (dk_at dksX0_tear_0 4 rfl rfl)
theorem dX0_tear_7 : decode cX0_tear 7 = .ok (.iconst 1, 1) := dk_4 (dk_at dksX0_tear_0 7 rfl rfl)
theorem dX0_tear_8 : decode cX0_tear 8 = .ok (.goto 4, 3) := dk_167 0 4 (dk_at dksX0_tear_0 8 rfl rfl)
theorem dX0_tear_11 : decode cX0_tear 11 = .ok (.iconst 0, 1) := dk_3 (dk_at dksX0_tear_0 11 rfl rfl)
theorem dX0_tear_12 : decode cX0_tear 12 = .ok (.istore_n 1, 1) := dk_60 (dk_at dksX0_tear_0 12 rfl rfl)
theorem dX0_tear_13 : decode cX0_tear 13 = .ok (.aload_n 0, 1) := dk_42 (dk_at dksX0_tear_0 13 rfl rfl)
theorem dX0_tear_14 : decode cX0_tear 14 = .ok (.iconst 0, 1) := dk_3 (dk_at dksX0_tear_0 14 rfl rfl)
theorem dX0_tear_15 : decode cX0_tear 15 = .ok (.putfield 397, 3) := dk_181 1 141 (dk_at dksX0_tear_0 15 rfl rfl)
theorem dX0_tear_18 : decode cX0_tear 18 = .ok (.iload_n 1, 1) := dk_27 (dk_at dksX0_tear_0 18 rfl rfl)
theorem dX0_tear_19 : decode cX0_tear 19 = .ok (.ireturn, 1) := dk_172 (dk_at dksX0_tear_0 19 rfl rfl)
abbrev cX0_count : ByteArray := prog_1_method_95_code
def yX0_count : MethodName := ⟨RX0, "count", "(I)I"⟩
def dkwX0_count_5 : List UInt8 := [180, 0, 79, 180, 1, 74, 172, 42, 182, 1, 145, 172, 42, 3, 182, 0, 129, 172]
abbrev dktX0_count_5 : List UInt8 := dkwX0_count_5 ++ []
def dkwX0_count_4 : List UInt8 := [182, 0, 229, 182, 0, 199, 184, 1, 5, 172, 42, 180, 0, 79, 182, 0, 241, 172, 42, 180, 1, 77, 172, 42]
abbrev dktX0_count_4 : List UInt8 := dkwX0_count_4 ++ dktX0_count_5
def dkwX0_count_3 : List UInt8 := [180, 0, 79, 182, 0, 229, 182, 0, 199, 184, 1, 5, 172, 42, 180, 0, 79, 8, 42, 180, 0, 79]
abbrev dktX0_count_3 : List UInt8 := dkwX0_count_3 ++ dktX0_count_4
def dkwX0_count_2 : List UInt8 := [42, 180, 0, 79, 180, 0, 184, 172, 42, 180, 0, 79, 180, 0, 127, 172, 42, 180, 0, 79, 6, 42]
abbrev dktX0_count_2 : List UInt8 := dkwX0_count_2 ++ dktX0_count_3
def dkwX0_count_1 : List UInt8 := [170, 0, 0, 0, 0, 0, 127, 0, 0, 0, 0, 0, 0, 0, 7, 0, 0, 0, 47, 0, 0, 0, 55, 0, 0, 0, 63, 0, 0, 0, 82, 0, 0, 0, 101, 0, 0, 0, 109, 0, 0, 0, 114, 0, 0, 0, 122]
abbrev dktX0_count_1 : List UInt8 := dkwX0_count_1 ++ dktX0_count_2
def dkwX0_count_0 : List UInt8 := [27]
abbrev dktX0_count_0 : List UInt8 := dkwX0_count_0 ++ dktX0_count_1
theorem dksX0_count_0 : cX0_count.data.toList.drop 0 = dktX0_count_0 := by decide +kernel
theorem dksX0_count_1 : cX0_count.data.toList.drop 1 = dktX0_count_1 := dk_seg dksX0_count_0 1 rfl rfl
theorem dksX0_count_2 : cX0_count.data.toList.drop 48 = dktX0_count_2 := dk_seg dksX0_count_1 47 rfl rfl
theorem dksX0_count_3 : cX0_count.data.toList.drop 70 = dktX0_count_3 := dk_seg dksX0_count_2 22 rfl rfl
theorem dksX0_count_4 : cX0_count.data.toList.drop 92 = dktX0_count_4 := dk_seg dksX0_count_3 22 rfl rfl
theorem dksX0_count_5 : cX0_count.data.toList.drop 116 = dktX0_count_5 := dk_seg dksX0_count_4 24 rfl rfl
theorem dX0_count_0 : decode cX0_count 0 = .ok (.iload_n 1, 1) := dk_27 (dk_at dksX0_count_0 0 rfl rfl)
theorem dX0_count_1 : decode cX0_count 1 = .ok (.tableswitch 127 0 7 #[47, 55, 63, 82, 101, 109, 114, 122], 47) := by decide +kernel
theorem dX0_count_48 : decode cX0_count 48 = .ok (.aload_n 0, 1) := dk_42 (dk_at dksX0_count_2 0 rfl rfl)
theorem dX0_count_49 : decode cX0_count 49 = .ok (.getfield 79, 3) := dk_180 0 79 (dk_at dksX0_count_2 1 rfl rfl)
theorem dX0_count_52 : decode cX0_count 52 = .ok (.getfield 184, 3) := dk_180 0 184 (dk_at dksX0_count_2 4 rfl rfl)
theorem dX0_count_55 : decode cX0_count 55 = .ok (.ireturn, 1) := dk_172 (dk_at dksX0_count_2 7 rfl rfl)
theorem dX0_count_56 : decode cX0_count 56 = .ok (.aload_n 0, 1) := dk_42 (dk_at dksX0_count_2 8 rfl rfl)
theorem dX0_count_57 : decode cX0_count 57 = .ok (.getfield 79, 3) := dk_180 0 79 (dk_at dksX0_count_2 9 rfl rfl)
theorem dX0_count_60 : decode cX0_count 60 = .ok (.getfield 127, 3) := dk_180 0 127 (dk_at dksX0_count_2 12 rfl rfl)
theorem dX0_count_63 : decode cX0_count 63 = .ok (.ireturn, 1) := dk_172 (dk_at dksX0_count_2 15 rfl rfl)
theorem dX0_count_64 : decode cX0_count 64 = .ok (.aload_n 0, 1) := dk_42 (dk_at dksX0_count_2 16 rfl rfl)
theorem dX0_count_65 : decode cX0_count 65 = .ok (.getfield 79, 3) := dk_180 0 79 (dk_at dksX0_count_2 17 rfl rfl)
theorem dX0_count_68 : decode cX0_count 68 = .ok (.iconst 3, 1) := dk_6 (dk_at dksX0_count_2 20 rfl rfl)
theorem dX0_count_69 : decode cX0_count 69 = .ok (.aload_n 0, 1) := dk_42 (dk_at dksX0_count_2 21 rfl rfl)
theorem dX0_count_70 : decode cX0_count 70 = .ok (.getfield 79, 3) := dk_180 0 79 (dk_at dksX0_count_3 0 rfl rfl)
theorem dX0_count_73 : decode cX0_count 73 = .ok (.invokevirtual 229, 3) := dk_182 0 229 (dk_at dksX0_count_3 3 rfl rfl)
theorem dX0_count_76 : decode cX0_count 76 = .ok (.invokevirtual 199, 3) := dk_182 0 199 (dk_at dksX0_count_3 6 rfl rfl)
theorem dX0_count_79 : decode cX0_count 79 = .ok (.invokestatic 261, 3) := dk_184 1 5 (dk_at dksX0_count_3 9 rfl rfl)
theorem dX0_count_82 : decode cX0_count 82 = .ok (.ireturn, 1) := dk_172 (dk_at dksX0_count_3 12 rfl rfl)
theorem dX0_count_83 : decode cX0_count 83 = .ok (.aload_n 0, 1) := dk_42 (dk_at dksX0_count_3 13 rfl rfl)
theorem dX0_count_84 : decode cX0_count 84 = .ok (.getfield 79, 3) := dk_180 0 79 (dk_at dksX0_count_3 14 rfl rfl)
theorem dX0_count_87 : decode cX0_count 87 = .ok (.iconst 5, 1) := dk_8 (dk_at dksX0_count_3 17 rfl rfl)
theorem dX0_count_88 : decode cX0_count 88 = .ok (.aload_n 0, 1) := dk_42 (dk_at dksX0_count_3 18 rfl rfl)
theorem dX0_count_89 : decode cX0_count 89 = .ok (.getfield 79, 3) := dk_180 0 79 (dk_at dksX0_count_3 19 rfl rfl)
theorem dX0_count_92 : decode cX0_count 92 = .ok (.invokevirtual 229, 3) := dk_182 0 229 (dk_at dksX0_count_4 0 rfl rfl)
theorem dX0_count_95 : decode cX0_count 95 = .ok (.invokevirtual 199, 3) := dk_182 0 199 (dk_at dksX0_count_4 3 rfl rfl)
theorem dX0_count_98 : decode cX0_count 98 = .ok (.invokestatic 261, 3) := dk_184 1 5 (dk_at dksX0_count_4 6 rfl rfl)
theorem dX0_count_101 : decode cX0_count 101 = .ok (.ireturn, 1) := dk_172 (dk_at dksX0_count_4 9 rfl rfl)
theorem dX0_count_102 : decode cX0_count 102 = .ok (.aload_n 0, 1) := dk_42 (dk_at dksX0_count_4 10 rfl rfl)
theorem dX0_count_103 : decode cX0_count 103 = .ok (.getfield 79, 3) := dk_180 0 79 (dk_at dksX0_count_4 11 rfl rfl)
theorem dX0_count_106 : decode cX0_count 106 = .ok (.invokevirtual 241, 3) := dk_182 0 241 (dk_at dksX0_count_4 14 rfl rfl)
theorem dX0_count_109 : decode cX0_count 109 = .ok (.ireturn, 1) := dk_172 (dk_at dksX0_count_4 17 rfl rfl)
theorem dX0_count_110 : decode cX0_count 110 = .ok (.aload_n 0, 1) := dk_42 (dk_at dksX0_count_4 18 rfl rfl)
theorem dX0_count_111 : decode cX0_count 111 = .ok (.getfield 333, 3) := dk_180 1 77 (dk_at dksX0_count_4 19 rfl rfl)
theorem dX0_count_114 : decode cX0_count 114 = .ok (.ireturn, 1) := dk_172 (dk_at dksX0_count_4 22 rfl rfl)
theorem dX0_count_115 : decode cX0_count 115 = .ok (.aload_n 0, 1) := dk_42 (dk_at dksX0_count_4 23 rfl rfl)
theorem dX0_count_116 : decode cX0_count 116 = .ok (.getfield 79, 3) := dk_180 0 79 (dk_at dksX0_count_5 0 rfl rfl)
theorem dX0_count_119 : decode cX0_count 119 = .ok (.getfield 330, 3) := dk_180 1 74 (dk_at dksX0_count_5 3 rfl rfl)
theorem dX0_count_122 : decode cX0_count 122 = .ok (.ireturn, 1) := dk_172 (dk_at dksX0_count_5 6 rfl rfl)
theorem dX0_count_123 : decode cX0_count 123 = .ok (.aload_n 0, 1) := dk_42 (dk_at dksX0_count_5 7 rfl rfl)
theorem dX0_count_124 : decode cX0_count 124 = .ok (.invokevirtual 401, 3) := dk_182 1 145 (dk_at dksX0_count_5 8 rfl rfl)
theorem dX0_count_127 : decode cX0_count 127 = .ok (.ireturn, 1) := dk_172 (dk_at dksX0_count_5 11 rfl rfl)
theorem dX0_count_128 : decode cX0_count 128 = .ok (.aload_n 0, 1) := dk_42 (dk_at dksX0_count_5 12 rfl rfl)
theorem dX0_count_129 : decode cX0_count 129 = .ok (.iconst 0, 1) := dk_3 (dk_at dksX0_count_5 13 rfl rfl)
theorem dX0_count_130 : decode cX0_count 130 = .ok (.invokevirtual 129, 3) := dk_182 0 129 (dk_at dksX0_count_5 14 rfl rfl)
theorem dX0_count_133 : decode cX0_count 133 = .ok (.ireturn, 1) := dk_172 (dk_at dksX0_count_5 17 rfl rfl)
abbrev cX0_holding : ByteArray := prog_1_method_76_code
def yX0_holding : MethodName := ⟨RX0, "holding", "()I"⟩
def dkwX0_holding_2 : List UInt8 := [167, 255, 227, 27, 172]
abbrev dktX0_holding_2 : List UInt8 := dkwX0_holding_2 ++ []
def dkwX0_holding_1 : List UInt8 := [21, 4, 46, 54, 5, 27, 21, 5, 2, 160, 0, 7, 3, 167, 0, 4, 4, 96, 60, 132, 4, 1]
abbrev dktX0_holding_1 : List UInt8 := dkwX0_holding_1 ++ dktX0_holding_2
def dkwX0_holding_0 : List UInt8 := [3, 60, 42, 180, 0, 79, 180, 1, 97, 77, 44, 190, 62, 3, 54, 4, 21, 4, 29, 162, 0, 29, 44]
abbrev dktX0_holding_0 : List UInt8 := dkwX0_holding_0 ++ dktX0_holding_1
theorem dksX0_holding_0 : cX0_holding.data.toList.drop 0 = dktX0_holding_0 := by decide +kernel
theorem dksX0_holding_1 : cX0_holding.data.toList.drop 23 = dktX0_holding_1 := dk_seg dksX0_holding_0 23 rfl rfl
theorem dksX0_holding_2 : cX0_holding.data.toList.drop 45 = dktX0_holding_2 := dk_seg dksX0_holding_1 22 rfl rfl
theorem dX0_holding_0 : decode cX0_holding 0 = .ok (.iconst 0, 1) := dk_3 (dk_at dksX0_holding_0 0 rfl rfl)
theorem dX0_holding_1 : decode cX0_holding 1 = .ok (.istore_n 1, 1) := dk_60 (dk_at dksX0_holding_0 1 rfl rfl)
theorem dX0_holding_2 : decode cX0_holding 2 = .ok (.aload_n 0, 1) := dk_42 (dk_at dksX0_holding_0 2 rfl rfl)
theorem dX0_holding_3 : decode cX0_holding 3 = .ok (.getfield 79, 3) := dk_180 0 79 (dk_at dksX0_holding_0 3 rfl rfl)
theorem dX0_holding_6 : decode cX0_holding 6 = .ok (.getfield 353, 3) := dk_180 1 97 (dk_at dksX0_holding_0 6 rfl rfl)
theorem dX0_holding_9 : decode cX0_holding 9 = .ok (.astore_n 2, 1) := dk_77 (dk_at dksX0_holding_0 9 rfl rfl)
theorem dX0_holding_10 : decode cX0_holding 10 = .ok (.aload_n 2, 1) := dk_44 (dk_at dksX0_holding_0 10 rfl rfl)
theorem dX0_holding_11 : decode cX0_holding 11 = .ok (.arraylength, 1) := dk_190 (dk_at dksX0_holding_0 11 rfl rfl)
theorem dX0_holding_12 : decode cX0_holding 12 = .ok (.istore_n 3, 1) := dk_62 (dk_at dksX0_holding_0 12 rfl rfl)
theorem dX0_holding_13 : decode cX0_holding 13 = .ok (.iconst 0, 1) := dk_3 (dk_at dksX0_holding_0 13 rfl rfl)
theorem dX0_holding_14 : decode cX0_holding 14 = .ok (.istore 4, 2) := dk_54 4 (dk_at dksX0_holding_0 14 rfl rfl)
theorem dX0_holding_16 : decode cX0_holding 16 = .ok (.iload 4, 2) := dk_21 4 (dk_at dksX0_holding_0 16 rfl rfl)
theorem dX0_holding_18 : decode cX0_holding 18 = .ok (.iload_n 3, 1) := dk_29 (dk_at dksX0_holding_0 18 rfl rfl)
theorem dX0_holding_19 : decode cX0_holding 19 = .ok (.if_icmp .ge 29, 3) := dk_162 0 29 (dk_at dksX0_holding_0 19 rfl rfl)
theorem dX0_holding_22 : decode cX0_holding 22 = .ok (.aload_n 2, 1) := dk_44 (dk_at dksX0_holding_0 22 rfl rfl)
theorem dX0_holding_23 : decode cX0_holding 23 = .ok (.iload 4, 2) := dk_21 4 (dk_at dksX0_holding_1 0 rfl rfl)
theorem dX0_holding_25 : decode cX0_holding 25 = .ok (.iaload, 1) := dk_46 (dk_at dksX0_holding_1 2 rfl rfl)
theorem dX0_holding_26 : decode cX0_holding 26 = .ok (.istore 5, 2) := dk_54 5 (dk_at dksX0_holding_1 3 rfl rfl)
theorem dX0_holding_28 : decode cX0_holding 28 = .ok (.iload_n 1, 1) := dk_27 (dk_at dksX0_holding_1 5 rfl rfl)
theorem dX0_holding_29 : decode cX0_holding 29 = .ok (.iload 5, 2) := dk_21 5 (dk_at dksX0_holding_1 6 rfl rfl)
theorem dX0_holding_31 : decode cX0_holding 31 = .ok (.iconst (-1), 1) := dk_2 (dk_at dksX0_holding_1 8 rfl rfl)
theorem dX0_holding_32 : decode cX0_holding 32 = .ok (.if_icmp .ne 7, 3) := dk_160 0 7 (dk_at dksX0_holding_1 9 rfl rfl)
theorem dX0_holding_35 : decode cX0_holding 35 = .ok (.iconst 0, 1) := dk_3 (dk_at dksX0_holding_1 12 rfl rfl)
theorem dX0_holding_36 : decode cX0_holding 36 = .ok (.goto 4, 3) := dk_167 0 4 (dk_at dksX0_holding_1 13 rfl rfl)
theorem dX0_holding_39 : decode cX0_holding 39 = .ok (.iconst 1, 1) := dk_4 (dk_at dksX0_holding_1 16 rfl rfl)
theorem dX0_holding_40 : decode cX0_holding 40 = .ok (.iadd, 1) := dk_96 (dk_at dksX0_holding_1 17 rfl rfl)
theorem dX0_holding_41 : decode cX0_holding 41 = .ok (.istore_n 1, 1) := dk_60 (dk_at dksX0_holding_1 18 rfl rfl)
theorem dX0_holding_42 : decode cX0_holding 42 = .ok (.iinc 4 1, 3) := dk_132 4 1 (dk_at dksX0_holding_1 19 rfl rfl)
theorem dX0_holding_45 : decode cX0_holding 45 = .ok (.goto (-29), 3) := dk_167 255 227 (dk_at dksX0_holding_2 0 rfl rfl)
theorem dX0_holding_48 : decode cX0_holding 48 = .ok (.iload_n 1, 1) := dk_27 (dk_at dksX0_holding_2 3 rfl rfl)
theorem dX0_holding_49 : decode cX0_holding 49 = .ok (.ireturn, 1) := dk_172 (dk_at dksX0_holding_2 4 rfl rfl)
abbrev cX0_status : ByteArray := prog_1_method_96_code
def yX0_status : MethodName := ⟨RX0, "status", "(I)I"⟩
def dkwX0_status_2 : List UInt8 := [167, 0, 4, 3, 96, 61, 132, 3, 1, 167, 255, 221, 28, 172]
abbrev dktX0_status_2 : List UInt8 := dkwX0_status_2 ++ []
def dkwX0_status_1 : List UInt8 := [180, 0, 101, 190, 162, 0, 32, 28, 27, 2, 159, 0, 8, 27, 29, 160, 0, 12, 42, 180, 0, 101, 29, 46]
abbrev dktX0_status_1 : List UInt8 := dkwX0_status_1 ++ dktX0_status_2
def dkwX0_status_0 : List UInt8 := [27, 2, 16, 6, 184, 0, 9, 154, 0, 9, 42, 3, 182, 0, 129, 172, 3, 61, 3, 62, 29, 42]
abbrev dktX0_status_0 : List UInt8 := dkwX0_status_0 ++ dktX0_status_1
theorem dksX0_status_0 : cX0_status.data.toList.drop 0 = dktX0_status_0 := by decide +kernel
theorem dksX0_status_1 : cX0_status.data.toList.drop 22 = dktX0_status_1 := dk_seg dksX0_status_0 22 rfl rfl
theorem dksX0_status_2 : cX0_status.data.toList.drop 46 = dktX0_status_2 := dk_seg dksX0_status_1 24 rfl rfl
theorem dX0_status_0 : decode cX0_status 0 = .ok (.iload_n 1, 1) := dk_27 (dk_at dksX0_status_0 0 rfl rfl)
theorem dX0_status_1 : decode cX0_status 1 = .ok (.iconst (-1), 1) := dk_2 (dk_at dksX0_status_0 1 rfl rfl)
theorem dX0_status_2 : decode cX0_status 2 = .ok (.bipush 6, 2) := dk_16 6 (dk_at dksX0_status_0 2 rfl rfl)
theorem dX0_status_4 : decode cX0_status 4 = .ok (.invokestatic 9, 3) := dk_184 0 9 (dk_at dksX0_status_0 4 rfl rfl)
theorem dX0_status_7 : decode cX0_status 7 = .ok (.ifCond .ne 9, 3) := dk_154 0 9 (dk_at dksX0_status_0 7 rfl rfl)
theorem dX0_status_10 : decode cX0_status 10 = .ok (.aload_n 0, 1) := dk_42 (dk_at dksX0_status_0 10 rfl rfl)
theorem dX0_status_11 : decode cX0_status 11 = .ok (.iconst 0, 1) := dk_3 (dk_at dksX0_status_0 11 rfl rfl)
theorem dX0_status_12 : decode cX0_status 12 = .ok (.invokevirtual 129, 3) := dk_182 0 129 (dk_at dksX0_status_0 12 rfl rfl)
theorem dX0_status_15 : decode cX0_status 15 = .ok (.ireturn, 1) := dk_172 (dk_at dksX0_status_0 15 rfl rfl)
theorem dX0_status_16 : decode cX0_status 16 = .ok (.iconst 0, 1) := dk_3 (dk_at dksX0_status_0 16 rfl rfl)
theorem dX0_status_17 : decode cX0_status 17 = .ok (.istore_n 2, 1) := dk_61 (dk_at dksX0_status_0 17 rfl rfl)
theorem dX0_status_18 : decode cX0_status 18 = .ok (.iconst 0, 1) := dk_3 (dk_at dksX0_status_0 18 rfl rfl)
theorem dX0_status_19 : decode cX0_status 19 = .ok (.istore_n 3, 1) := dk_62 (dk_at dksX0_status_0 19 rfl rfl)
theorem dX0_status_20 : decode cX0_status 20 = .ok (.iload_n 3, 1) := dk_29 (dk_at dksX0_status_0 20 rfl rfl)
theorem dX0_status_21 : decode cX0_status 21 = .ok (.aload_n 0, 1) := dk_42 (dk_at dksX0_status_0 21 rfl rfl)
theorem dX0_status_22 : decode cX0_status 22 = .ok (.getfield 101, 3) := dk_180 0 101 (dk_at dksX0_status_1 0 rfl rfl)
theorem dX0_status_25 : decode cX0_status 25 = .ok (.arraylength, 1) := dk_190 (dk_at dksX0_status_1 3 rfl rfl)
theorem dX0_status_26 : decode cX0_status 26 = .ok (.if_icmp .ge 32, 3) := dk_162 0 32 (dk_at dksX0_status_1 4 rfl rfl)
theorem dX0_status_29 : decode cX0_status 29 = .ok (.iload_n 2, 1) := dk_28 (dk_at dksX0_status_1 7 rfl rfl)
theorem dX0_status_30 : decode cX0_status 30 = .ok (.iload_n 1, 1) := dk_27 (dk_at dksX0_status_1 8 rfl rfl)
theorem dX0_status_31 : decode cX0_status 31 = .ok (.iconst (-1), 1) := dk_2 (dk_at dksX0_status_1 9 rfl rfl)
theorem dX0_status_32 : decode cX0_status 32 = .ok (.if_icmp .eq 8, 3) := dk_159 0 8 (dk_at dksX0_status_1 10 rfl rfl)
theorem dX0_status_35 : decode cX0_status 35 = .ok (.iload_n 1, 1) := dk_27 (dk_at dksX0_status_1 13 rfl rfl)
theorem dX0_status_36 : decode cX0_status 36 = .ok (.iload_n 3, 1) := dk_29 (dk_at dksX0_status_1 14 rfl rfl)
theorem dX0_status_37 : decode cX0_status 37 = .ok (.if_icmp .ne 12, 3) := dk_160 0 12 (dk_at dksX0_status_1 15 rfl rfl)
theorem dX0_status_40 : decode cX0_status 40 = .ok (.aload_n 0, 1) := dk_42 (dk_at dksX0_status_1 18 rfl rfl)
theorem dX0_status_41 : decode cX0_status 41 = .ok (.getfield 101, 3) := dk_180 0 101 (dk_at dksX0_status_1 19 rfl rfl)
theorem dX0_status_44 : decode cX0_status 44 = .ok (.iload_n 3, 1) := dk_29 (dk_at dksX0_status_1 22 rfl rfl)
theorem dX0_status_45 : decode cX0_status 45 = .ok (.iaload, 1) := dk_46 (dk_at dksX0_status_1 23 rfl rfl)
theorem dX0_status_46 : decode cX0_status 46 = .ok (.goto 4, 3) := dk_167 0 4 (dk_at dksX0_status_2 0 rfl rfl)
theorem dX0_status_49 : decode cX0_status 49 = .ok (.iconst 0, 1) := dk_3 (dk_at dksX0_status_2 3 rfl rfl)
theorem dX0_status_50 : decode cX0_status 50 = .ok (.iadd, 1) := dk_96 (dk_at dksX0_status_2 4 rfl rfl)
theorem dX0_status_51 : decode cX0_status 51 = .ok (.istore_n 2, 1) := dk_61 (dk_at dksX0_status_2 5 rfl rfl)
theorem dX0_status_52 : decode cX0_status 52 = .ok (.iinc 3 1, 3) := dk_132 3 1 (dk_at dksX0_status_2 6 rfl rfl)
theorem dX0_status_55 : decode cX0_status 55 = .ok (.goto (-35), 3) := dk_167 255 221 (dk_at dksX0_status_2 9 rfl rfl)
theorem dX0_status_58 : decode cX0_status 58 = .ok (.iload_n 2, 1) := dk_28 (dk_at dksX0_status_2 12 rfl rfl)
theorem dX0_status_59 : decode cX0_status 59 = .ok (.ireturn, 1) := dk_172 (dk_at dksX0_status_2 13 rfl rfl)
theorem q91 : (Jvm.Cond.initialized "LeftGloves") ∈ lw_all := lw_g (lw_at lw_m1 1 rfl) rfl
theorem q116 : (Jvm.Cond.instantiable "LeftGloves" (11 : Nat)) ∈ lw_all := lw_g (lw_at lw_m1 26 rfl) rfl
theorem q118 : (Jvm.Cond.instanceMethod ({ cls := "LeftGloves", name := "<init>", desc := "()V" } : Jvm.MethodName)) ∈ lw_all := lw_g (lw_at lw_m1 28 rfl) rfl
theorem q119 : (Jvm.Cond.code ({ cls := "LeftGloves", name := "<init>", desc := "()V" } : Jvm.MethodName) prog_1_method_19_code (2 : Nat) (Option.none : Option Jvm.ClassFile.FieldType)) ∈ lw_all := lw_g (lw_at lw_m1 29 rfl) rfl
theorem q120 : (Jvm.Cond.methodLink "LeftGloves" (57 : Nat) ({ cls := "java/lang/Object", name := "<init>", desc := "()V" } : Jvm.MethodName)) ∈ lw_all := lw_g (lw_at lw_m1 30 rfl) rfl
theorem q123 : (Jvm.Cond.classLink "LeftGloves" (62 : Nat) "LeftGloves$Refusal") ∈ lw_all := lw_g (lw_at lw_m1 33 rfl) rfl
theorem q163 : (Jvm.Cond.methodLink "LeftGloves" (64 : Nat) ({ cls := "LeftGloves$Refusal", name := "<init>", desc := "()V" } : Jvm.MethodName)) ∈ lw_all := lw_g (lw_at lw_m1 73 rfl) rfl
theorem q175 : (Jvm.Cond.fieldLinkNest "LeftGloves" (119 : Nat) "LeftGloves$Refusal" "finding" "I" "LeftGloves") ∈ lw_tbl := lw_at lw_m1 85 rfl
theorem q191 : (Jvm.Cond.classLink "LeftGloves" (69 : Nat) "LeftGloves$Reader") ∈ lw_all := lw_g (lw_at lw_m1 101 rfl) rfl
theorem q193 : (Jvm.Cond.methodLinkNest "LeftGloves" (71 : Nat) ({ cls := "LeftGloves$Reader", name := "<init>", desc := "()V" } : Jvm.MethodName) "LeftGloves") ∈ lw_tbl := lw_at lw_m1 103 rfl
theorem q221 : (Jvm.Cond.static ({ cls := "LeftGloves", name := "saying", desc := "(III)I" } : Jvm.MethodName)) ∈ lw_all := lw_g (lw_at lw_m1 131 rfl) rfl
theorem q222 : (Jvm.Cond.code ({ cls := "LeftGloves", name := "saying", desc := "(III)I" } : Jvm.MethodName) prog_1_method_15_code (3 : Nat) (Option.some Jvm.ClassFile.FieldType.int)) ∈ lw_all := lw_g (lw_at lw_m1 132 rfl) rfl
theorem q225 : (Jvm.Cond.fieldLinkNest "LeftGloves" (196 : Nat) "LeftGloves$World" "list" "[I" "LeftGloves") ∈ lw_tbl := lw_at lw_m1 135 rfl
theorem q228 : (Jvm.Cond.fieldLinkNest "LeftGloves" (127 : Nat) "LeftGloves$World" "gloves" "I" "LeftGloves") ∈ lw_tbl := lw_at lw_m1 138 rfl
theorem q232 : (Jvm.Cond.fieldLinkNest "LeftGloves" (114 : Nat) "LeftGloves$World" "glove" "[[I" "LeftGloves") ∈ lw_tbl := lw_at lw_m1 142 rfl
theorem q234 : (Jvm.Cond.fieldLinkNest "LeftGloves" (174 : Nat) "LeftGloves$World" "gone" "I" "LeftGloves") ∈ lw_tbl := lw_at lw_m1 144 rfl
theorem q236 : (Jvm.Cond.fieldLinkNest "LeftGloves" (184 : Nat) "LeftGloves$World" "day" "I" "LeftGloves") ∈ lw_tbl := lw_at lw_m1 146 rfl
theorem q238 : (Jvm.Cond.fieldLinkNest "LeftGloves" (330 : Nat) "LeftGloves$World" "z" "I" "LeftGloves") ∈ lw_tbl := lw_at lw_m1 148 rfl
theorem q240 : (Jvm.Cond.fieldLinkNest "LeftGloves" (353 : Nat) "LeftGloves$World" "holds" "[I" "LeftGloves") ∈ lw_tbl := lw_at lw_m1 150 rfl
theorem q260 : (Jvm.Cond.fieldLinkNest "LeftGloves" (336 : Nat) "LeftGloves$Reader" "tape" "[B" "LeftGloves") ∈ lw_tbl := lw_at lw_m1 170 rfl
theorem q262 : (Jvm.Cond.fieldLinkNest "LeftGloves" (342 : Nat) "LeftGloves$Reader" "told" "LLeftGloves$World;" "LeftGloves") ∈ lw_tbl := lw_at lw_m1 172 rfl
theorem q264 : (Jvm.Cond.fieldLinkNest "LeftGloves" (340 : Nat) "LeftGloves$Reader" "length" "I" "LeftGloves") ∈ lw_tbl := lw_at lw_m1 174 rfl
theorem q267 : (Jvm.Cond.fieldLinkNest "LeftGloves" (350 : Nat) "LeftGloves$Reader" "begin" "I" "LeftGloves") ∈ lw_tbl := lw_at lw_m1 177 rfl
theorem q287 : (Jvm.Cond.classLink "LeftGloves" (76 : Nat) "LeftGloves$World") ∈ lw_all := lw_g (lw_at lw_m1 197 rfl) rfl
theorem q288 : (Jvm.Cond.methodLink "LeftGloves" (78 : Nat) ({ cls := "LeftGloves$World", name := "<init>", desc := "()V" } : Jvm.MethodName)) ∈ lw_all := lw_g (lw_at lw_m1 198 rfl) rfl
theorem q289 : (Jvm.Cond.classLink "LeftGloves" (89 : Nat) "LeftGloves$Slot") ∈ lw_all := lw_g (lw_at lw_m1 199 rfl) rfl
theorem q292 : (Jvm.Cond.methodLinkNest "LeftGloves" (105 : Nat) ({ cls := "LeftGloves$Slot", name := "<init>", desc := "()V" } : Jvm.MethodName) "LeftGloves") ∈ lw_tbl := lw_at lw_m1 202 rfl
theorem q296 : (Jvm.Cond.fieldLinkNest "LeftGloves" (110 : Nat) "LeftGloves$Slot" "thing" "Ljava/lang/Object;" "LeftGloves") ∈ lw_tbl := lw_at lw_m1 206 rfl
theorem q300 : (Jvm.Cond.methodLink "LeftGloves" (106 : Nat) ({ cls := "LeftGloves", name := "made", desc := "(II)LLeftGloves$Glove;" } : Jvm.MethodName)) ∈ lw_all := lw_g (lw_at lw_m1 210 rfl) rfl
theorem q301 : (Jvm.Cond.privateMethod ({ cls := "LeftGloves", name := "made", desc := "(II)LLeftGloves$Glove;" } : Jvm.MethodName)) ∈ lw_tbl := lw_at lw_m1 211 rfl
theorem q302 : (Jvm.Cond.instanceMethod ({ cls := "LeftGloves", name := "made", desc := "(II)LLeftGloves$Glove;" } : Jvm.MethodName)) ∈ lw_all := lw_g (lw_at lw_m1 212 rfl) rfl
theorem q303 : (Jvm.Cond.code ({ cls := "LeftGloves", name := "made", desc := "(II)LLeftGloves$Glove;" } : Jvm.MethodName) prog_1_method_18_code (3 : Nat) (Option.some (Jvm.ClassFile.FieldType.object "LeftGloves$Glove"))) ∈ lw_all := lw_g (lw_at lw_m1 213 rfl) rfl
theorem q304 : (Jvm.Cond.classLink "LeftGloves" (33 : Nat) "LeftGloves$Kidskin") ∈ lw_all := lw_g (lw_at lw_m1 214 rfl) rfl
theorem q306 : (Jvm.Cond.methodLink "LeftGloves" (35 : Nat) ({ cls := "LeftGloves$Kidskin", name := "<init>", desc := "(LLeftGloves;I)V" } : Jvm.MethodName)) ∈ lw_all := lw_g (lw_at lw_m1 216 rfl) rfl
theorem q317 : (Jvm.Cond.fieldLink "LeftGloves" (369 : Nat) "LeftGloves$Glove" "number" "I") ∈ lw_all := lw_g (lw_at lw_m1 227 rfl) rfl
theorem q326 : (Jvm.Cond.classLink "LeftGloves" (39 : Nat) "LeftGloves$Mitten") ∈ lw_all := lw_g (lw_at lw_m1 236 rfl) rfl
theorem q328 : (Jvm.Cond.methodLink "LeftGloves" (41 : Nat) ({ cls := "LeftGloves$Mitten", name := "<init>", desc := "(LLeftGloves;I)V" } : Jvm.MethodName)) ∈ lw_all := lw_g (lw_at lw_m1 238 rfl) rfl
theorem q338 : (Jvm.Cond.classLink "LeftGloves" (42 : Nat) "LeftGloves$Lady") ∈ lw_all := lw_g (lw_at lw_m2 8 rfl) rfl
theorem q340 : (Jvm.Cond.methodLink "LeftGloves" (44 : Nat) ({ cls := "LeftGloves$Lady", name := "<init>", desc := "(LLeftGloves;I)V" } : Jvm.MethodName)) ∈ lw_all := lw_g (lw_at lw_m2 10 rfl) rfl
theorem q351 : (Jvm.Cond.classLink "LeftGloves" (45 : Nat) "LeftGloves$Burnt") ∈ lw_all := lw_g (lw_at lw_m2 21 rfl) rfl
theorem q353 : (Jvm.Cond.methodLink "LeftGloves" (47 : Nat) ({ cls := "LeftGloves$Burnt", name := "<init>", desc := "(LLeftGloves;I)V" } : Jvm.MethodName)) ∈ lw_all := lw_g (lw_at lw_m2 23 rfl) rfl
theorem q365 : (Jvm.Cond.classLink "LeftGloves" (48 : Nat) "LeftGloves$Stiff") ∈ lw_all := lw_g (lw_at lw_m2 35 rfl) rfl
theorem q367 : (Jvm.Cond.methodLink "LeftGloves" (50 : Nat) ({ cls := "LeftGloves$Stiff", name := "<init>", desc := "(LLeftGloves;I)V" } : Jvm.MethodName)) ∈ lw_all := lw_g (lw_at lw_m2 37 rfl) rfl
theorem q377 : (Jvm.Cond.classLink "LeftGloves" (51 : Nat) "LeftGloves$Double") ∈ lw_all := lw_g (lw_at lw_m2 47 rfl) rfl
theorem q379 : (Jvm.Cond.methodLink "LeftGloves" (53 : Nat) ({ cls := "LeftGloves$Double", name := "<init>", desc := "(LLeftGloves;I)V" } : Jvm.MethodName)) ∈ lw_all := lw_g (lw_at lw_m2 49 rfl) rfl
theorem q390 : (Jvm.Cond.classLink "LeftGloves" (54 : Nat) "LeftGloves$Glove") ∈ lw_all := lw_g (lw_at lw_m2 60 rfl) rfl
theorem q392 : (Jvm.Cond.methodLink "LeftGloves" (56 : Nat) ({ cls := "LeftGloves$Glove", name := "<init>", desc := "(LLeftGloves;I)V" } : Jvm.MethodName)) ∈ lw_all := lw_g (lw_at lw_m2 62 rfl) rfl
theorem q396 : (Jvm.Cond.fieldLink "LeftGloves" (65 : Nat) "LeftGloves" "refusal" "LLeftGloves$Refusal;") ∈ lw_all := lw_g (lw_at lw_m2 66 rfl) rfl
theorem q397 : (Jvm.Cond.fieldLink "LeftGloves" (72 : Nat) "LeftGloves" "reader" "LLeftGloves$Reader;") ∈ lw_all := lw_g (lw_at lw_m2 67 rfl) rfl
theorem q398 : (Jvm.Cond.fieldLink "LeftGloves" (333 : Nat) "LeftGloves" "taped" "I") ∈ lw_all := lw_g (lw_at lw_m2 68 rfl) rfl
theorem q401 : (Jvm.Cond.fieldLink "LeftGloves" (79 : Nat) "LeftGloves" "d" "LLeftGloves$World;") ∈ lw_all := lw_g (lw_at lw_m2 71 rfl) rfl
theorem q402 : (Jvm.Cond.fieldLink "LeftGloves" (83 : Nat) "LeftGloves" "kept" "LLeftGloves$World;") ∈ lw_all := lw_g (lw_at lw_m2 72 rfl) rfl
theorem q403 : (Jvm.Cond.fieldLink "LeftGloves" (86 : Nat) "LeftGloves" "aside" "LLeftGloves$World;") ∈ lw_all := lw_g (lw_at lw_m2 73 rfl) rfl
theorem q404 : (Jvm.Cond.fieldLink "LeftGloves" (397 : Nat) "LeftGloves" "isKept" "Z") ∈ lw_all := lw_g (lw_at lw_m2 74 rfl) rfl
theorem q405 : (Jvm.Cond.fieldLink "LeftGloves" (91 : Nat) "LeftGloves" "gloves" "[LLeftGloves$Slot;") ∈ lw_all := lw_g (lw_at lw_m2 75 rfl) rfl
theorem q406 : (Jvm.Cond.fieldLink "LeftGloves" (95 : Nat) "LeftGloves" "spots" "[LLeftGloves$Slot;") ∈ lw_all := lw_g (lw_at lw_m2 76 rfl) rfl
theorem q407 : (Jvm.Cond.fieldLink "LeftGloves" (98 : Nat) "LeftGloves" "sheets" "[LLeftGloves$Slot;") ∈ lw_all := lw_g (lw_at lw_m2 77 rfl) rfl
theorem q408 : (Jvm.Cond.fieldLink "LeftGloves" (101 : Nat) "LeftGloves" "findings" "[I") ∈ lw_all := lw_g (lw_at lw_m2 78 rfl) rfl
theorem q409 : (Jvm.Cond.laysFinal "LeftGloves" "LeftGloves" "refusal" "LLeftGloves$Refusal;") ∈ lw_all := lw_g (lw_at lw_m2 79 rfl) rfl
theorem q410 : (Jvm.Cond.soleField "LeftGloves" "refusal") ∈ lw_all := lw_g (lw_at lw_m2 80 rfl) rfl
theorem q411 : (Jvm.Cond.laysFinal "LeftGloves" "LeftGloves" "reader" "LLeftGloves$Reader;") ∈ lw_all := lw_g (lw_at lw_m2 81 rfl) rfl
theorem q412 : (Jvm.Cond.soleField "LeftGloves" "reader") ∈ lw_all := lw_g (lw_at lw_m2 82 rfl) rfl
theorem q413 : (Jvm.Cond.lays "LeftGloves" "LeftGloves" "taped" "I") ∈ lw_all := lw_g (lw_at lw_m2 83 rfl) rfl
theorem q414 : (Jvm.Cond.soleField "LeftGloves" "taped") ∈ lw_all := lw_g (lw_at lw_m2 84 rfl) rfl
theorem q415 : (Jvm.Cond.laysFinal "LeftGloves" "LeftGloves" "d" "LLeftGloves$World;") ∈ lw_all := lw_g (lw_at lw_m2 85 rfl) rfl
theorem q416 : (Jvm.Cond.soleField "LeftGloves" "d") ∈ lw_all := lw_g (lw_at lw_m2 86 rfl) rfl
theorem q417 : (Jvm.Cond.laysFinal "LeftGloves" "LeftGloves" "kept" "LLeftGloves$World;") ∈ lw_all := lw_g (lw_at lw_m2 87 rfl) rfl
theorem q418 : (Jvm.Cond.soleField "LeftGloves" "kept") ∈ lw_all := lw_g (lw_at lw_m2 88 rfl) rfl
theorem q419 : (Jvm.Cond.laysFinal "LeftGloves" "LeftGloves" "aside" "LLeftGloves$World;") ∈ lw_all := lw_g (lw_at lw_m2 89 rfl) rfl
theorem q420 : (Jvm.Cond.soleField "LeftGloves" "aside") ∈ lw_all := lw_g (lw_at lw_m2 90 rfl) rfl
theorem q421 : (Jvm.Cond.lays "LeftGloves" "LeftGloves" "isKept" "Z") ∈ lw_all := lw_g (lw_at lw_m2 91 rfl) rfl
theorem q422 : (Jvm.Cond.soleField "LeftGloves" "isKept") ∈ lw_all := lw_g (lw_at lw_m2 92 rfl) rfl
theorem q423 : (Jvm.Cond.laysFinal "LeftGloves" "LeftGloves" "gloves" "[LLeftGloves$Slot;") ∈ lw_all := lw_g (lw_at lw_m2 93 rfl) rfl
theorem q424 : (Jvm.Cond.soleField "LeftGloves" "gloves") ∈ lw_all := lw_g (lw_at lw_m2 94 rfl) rfl
theorem q425 : (Jvm.Cond.laysFinal "LeftGloves" "LeftGloves" "spots" "[LLeftGloves$Slot;") ∈ lw_all := lw_g (lw_at lw_m2 95 rfl) rfl
theorem q426 : (Jvm.Cond.soleField "LeftGloves" "spots") ∈ lw_all := lw_g (lw_at lw_m2 96 rfl) rfl
theorem q427 : (Jvm.Cond.laysFinal "LeftGloves" "LeftGloves" "sheets" "[LLeftGloves$Slot;") ∈ lw_all := lw_g (lw_at lw_m2 97 rfl) rfl
theorem q428 : (Jvm.Cond.soleField "LeftGloves" "sheets") ∈ lw_all := lw_g (lw_at lw_m2 98 rfl) rfl
theorem q429 : (Jvm.Cond.laysFinal "LeftGloves" "LeftGloves" "findings" "[I") ∈ lw_all := lw_g (lw_at lw_m2 99 rfl) rfl
theorem q430 : (Jvm.Cond.soleField "LeftGloves" "findings") ∈ lw_all := lw_g (lw_at lw_m2 100 rfl) rfl
theorem q431 : (Jvm.Cond.superclass "LeftGloves" "java/lang/Object") ∈ lw_all := lw_g (lw_at lw_m2 101 rfl) rfl
theorem q433 : (Jvm.Cond.instanceMethod ({ cls := "LeftGloves", name := "say", desc := "(II)I" } : Jvm.MethodName)) ∈ lw_all := lw_g (lw_at lw_m2 103 rfl) rfl
theorem q434 : (Jvm.Cond.selects "LeftGloves" ({ cls := "LeftGloves", name := "say", desc := "(II)I" } : Jvm.MethodName) ({ cls := "LeftGloves", name := "say", desc := "(II)I" } : Jvm.MethodName)) ∈ lw_all := lw_g (lw_at lw_m2 104 rfl) rfl
theorem q435 : (Jvm.Cond.code ({ cls := "LeftGloves", name := "say", desc := "(II)I" } : Jvm.MethodName) prog_1_method_30_code (4 : Nat) (Option.some Jvm.ClassFile.FieldType.int)) ∈ lw_all := lw_g (lw_at lw_m2 105 rfl) rfl
theorem q436 : (Jvm.Cond.methodLink "LeftGloves" (190 : Nat) ({ cls := "LeftGloves", name := "isPlace", desc := "(I)Z" } : Jvm.MethodName)) ∈ lw_all := lw_g (lw_at lw_m2 106 rfl) rfl
theorem q437 : (Jvm.Cond.static ({ cls := "LeftGloves", name := "isPlace", desc := "(I)Z" } : Jvm.MethodName)) ∈ lw_all := lw_g (lw_at lw_m2 107 rfl) rfl
theorem q438 : (Jvm.Cond.code ({ cls := "LeftGloves", name := "isPlace", desc := "(I)Z" } : Jvm.MethodName) prog_1_method_11_code (1 : Nat) (Option.some Jvm.ClassFile.FieldType.boolean)) ∈ lw_all := lw_g (lw_at lw_m2 108 rfl) rfl
theorem q439 : (Jvm.Cond.methodLink "LeftGloves" (9 : Nat) ({ cls := "LeftGloves", name := "in", desc := "(III)Z" } : Jvm.MethodName)) ∈ lw_all := lw_g (lw_at lw_m2 109 rfl) rfl
theorem q440 : (Jvm.Cond.static ({ cls := "LeftGloves", name := "in", desc := "(III)Z" } : Jvm.MethodName)) ∈ lw_all := lw_g (lw_at lw_m2 110 rfl) rfl
theorem q441 : (Jvm.Cond.code ({ cls := "LeftGloves", name := "in", desc := "(III)Z" } : Jvm.MethodName) prog_1_method_1_code (3 : Nat) (Option.some Jvm.ClassFile.FieldType.boolean)) ∈ lw_all := lw_g (lw_at lw_m2 111 rfl) rfl
theorem q442 : (Jvm.Cond.methodLink "LeftGloves" (193 : Nat) ({ cls := "LeftGloves", name := "isSaying", desc := "(I)Z" } : Jvm.MethodName)) ∈ lw_all := lw_g (lw_at lw_m2 112 rfl) rfl
theorem q443 : (Jvm.Cond.static ({ cls := "LeftGloves", name := "isSaying", desc := "(I)Z" } : Jvm.MethodName)) ∈ lw_all := lw_g (lw_at lw_m2 113 rfl) rfl
theorem q444 : (Jvm.Cond.code ({ cls := "LeftGloves", name := "isSaying", desc := "(I)Z" } : Jvm.MethodName) prog_1_method_16_code (1 : Nat) (Option.some Jvm.ClassFile.FieldType.boolean)) ∈ lw_all := lw_g (lw_at lw_m2 114 rfl) rfl
theorem q445 : (Jvm.Cond.methodLink "LeftGloves" (14 : Nat) ({ cls := "LeftGloves", name := "roomOf", desc := "(I)I" } : Jvm.MethodName)) ∈ lw_all := lw_g (lw_at lw_m2 115 rfl) rfl
theorem q446 : (Jvm.Cond.static ({ cls := "LeftGloves", name := "roomOf", desc := "(I)I" } : Jvm.MethodName)) ∈ lw_all := lw_g (lw_at lw_m2 116 rfl) rfl
theorem q447 : (Jvm.Cond.code ({ cls := "LeftGloves", name := "roomOf", desc := "(I)I" } : Jvm.MethodName) prog_1_method_12_code (1 : Nat) (Option.some Jvm.ClassFile.FieldType.int)) ∈ lw_all := lw_g (lw_at lw_m2 117 rfl) rfl
theorem q448 : (Jvm.Cond.methodLink "LeftGloves" (17 : Nat) ({ cls := "LeftGloves", name := "isRoom", desc := "(I)Z" } : Jvm.MethodName)) ∈ lw_all := lw_g (lw_at lw_m2 118 rfl) rfl
theorem q449 : (Jvm.Cond.static ({ cls := "LeftGloves", name := "isRoom", desc := "(I)Z" } : Jvm.MethodName)) ∈ lw_all := lw_g (lw_at lw_m2 119 rfl) rfl
theorem q450 : (Jvm.Cond.code ({ cls := "LeftGloves", name := "isRoom", desc := "(I)Z" } : Jvm.MethodName) prog_1_method_7_code (1 : Nat) (Option.some Jvm.ClassFile.FieldType.boolean)) ∈ lw_all := lw_g (lw_at lw_m2 120 rfl) rfl
theorem q451 : (Jvm.Cond.methodLink "LeftGloves" (21 : Nat) ({ cls := "LeftGloves", name := "topicOf", desc := "(I)I" } : Jvm.MethodName)) ∈ lw_all := lw_g (lw_at lw_m2 121 rfl) rfl
theorem q452 : (Jvm.Cond.static ({ cls := "LeftGloves", name := "topicOf", desc := "(I)I" } : Jvm.MethodName)) ∈ lw_all := lw_g (lw_at lw_m2 122 rfl) rfl
theorem q453 : (Jvm.Cond.code ({ cls := "LeftGloves", name := "topicOf", desc := "(I)I" } : Jvm.MethodName) prog_1_method_13_code (1 : Nat) (Option.some Jvm.ClassFile.FieldType.int)) ∈ lw_all := lw_g (lw_at lw_m2 123 rfl) rfl
theorem q454 : (Jvm.Cond.methodLink "LeftGloves" (24 : Nat) ({ cls := "LeftGloves", name := "isTopic", desc := "(I)Z" } : Jvm.MethodName)) ∈ lw_all := lw_g (lw_at lw_m2 124 rfl) rfl
theorem q455 : (Jvm.Cond.static ({ cls := "LeftGloves", name := "isTopic", desc := "(I)Z" } : Jvm.MethodName)) ∈ lw_all := lw_g (lw_at lw_m2 125 rfl) rfl
theorem q456 : (Jvm.Cond.code ({ cls := "LeftGloves", name := "isTopic", desc := "(I)Z" } : Jvm.MethodName) prog_1_method_8_code (1 : Nat) (Option.some Jvm.ClassFile.FieldType.boolean)) ∈ lw_all := lw_g (lw_at lw_m2 126 rfl) rfl
theorem q457 : (Jvm.Cond.methodLink "LeftGloves" (129 : Nat) ({ cls := "LeftGloves", name := "finding", desc := "(I)I" } : Jvm.MethodName)) ∈ lw_all := lw_g (lw_at lw_m2 127 rfl) rfl
theorem q458 : (Jvm.Cond.privateMethod ({ cls := "LeftGloves", name := "finding", desc := "(I)I" } : Jvm.MethodName)) ∈ lw_tbl := lw_at lw_m2 128 rfl
theorem q459 : (Jvm.Cond.instanceMethod ({ cls := "LeftGloves", name := "finding", desc := "(I)I" } : Jvm.MethodName)) ∈ lw_all := lw_g (lw_at lw_m2 129 rfl) rfl
theorem q460 : (Jvm.Cond.code ({ cls := "LeftGloves", name := "finding", desc := "(I)I" } : Jvm.MethodName) prog_1_method_21_code (2 : Nat) (Option.some Jvm.ClassFile.FieldType.int)) ∈ lw_all := lw_g (lw_at lw_m2 130 rfl) rfl
theorem q461 : (Jvm.Cond.constant "LeftGloves" (118 : Nat) (-1000001 : Int32)) ∈ lw_all := lw_g (lw_at lw_m2 131 rfl) rfl
theorem q463 : (Jvm.Cond.instanceMethod ({ cls := "LeftGloves", name := "said", desc := "(I)I" } : Jvm.MethodName)) ∈ lw_all := lw_g (lw_at lw_m2 133 rfl) rfl
theorem q464 : (Jvm.Cond.selects "LeftGloves" ({ cls := "LeftGloves", name := "said", desc := "(I)I" } : Jvm.MethodName) ({ cls := "LeftGloves", name := "said", desc := "(I)I" } : Jvm.MethodName)) ∈ lw_all := lw_g (lw_at lw_m2 134 rfl) rfl
theorem q465 : (Jvm.Cond.code ({ cls := "LeftGloves", name := "said", desc := "(I)I" } : Jvm.MethodName) prog_1_method_31_code (2 : Nat) (Option.some Jvm.ClassFile.FieldType.int)) ∈ lw_all := lw_g (lw_at lw_m2 135 rfl) rfl
theorem q467 : (Jvm.Cond.instanceMethod ({ cls := "LeftGloves", name := "room", desc := "(II)I" } : Jvm.MethodName)) ∈ lw_all := lw_g (lw_at lw_m2 137 rfl) rfl
theorem q468 : (Jvm.Cond.selects "LeftGloves" ({ cls := "LeftGloves", name := "room", desc := "(II)I" } : Jvm.MethodName) ({ cls := "LeftGloves", name := "room", desc := "(II)I" } : Jvm.MethodName)) ∈ lw_all := lw_g (lw_at lw_m2 138 rfl) rfl
theorem q469 : (Jvm.Cond.code ({ cls := "LeftGloves", name := "room", desc := "(II)I" } : Jvm.MethodName) prog_1_method_32_code (3 : Nat) (Option.some Jvm.ClassFile.FieldType.int)) ∈ lw_all := lw_g (lw_at lw_m2 139 rfl) rfl
theorem q470 : (Jvm.Cond.methodLink "LeftGloves" (131 : Nat) ({ cls := "LeftGloves$World", name := "whatIsIn", desc := "(I)I" } : Jvm.MethodName)) ∈ lw_all := lw_g (lw_at lw_m2 140 rfl) rfl
theorem q475 : (Jvm.Cond.static ({ cls := "LeftGloves", name := "has", desc := "(II)Z" } : Jvm.MethodName)) ∈ lw_all := lw_g (lw_at lw_m2 145 rfl) rfl
theorem q476 : (Jvm.Cond.code ({ cls := "LeftGloves", name := "has", desc := "(II)Z" } : Jvm.MethodName) prog_1_method_2_code (2 : Nat) (Option.some Jvm.ClassFile.FieldType.boolean)) ∈ lw_all := lw_g (lw_at lw_m2 146 rfl) rfl
theorem q477 : (Jvm.Cond.methodLink "LeftGloves" (149 : Nat) ({ cls := "LeftGloves", name := "hushedIn", desc := "(I)I" } : Jvm.MethodName)) ∈ lw_all := lw_g (lw_at lw_m2 147 rfl) rfl
theorem q478 : (Jvm.Cond.privateMethod ({ cls := "LeftGloves", name := "hushedIn", desc := "(I)I" } : Jvm.MethodName)) ∈ lw_tbl := lw_at lw_m2 148 rfl
theorem q479 : (Jvm.Cond.instanceMethod ({ cls := "LeftGloves", name := "hushedIn", desc := "(I)I" } : Jvm.MethodName)) ∈ lw_all := lw_g (lw_at lw_m2 149 rfl) rfl
theorem q480 : (Jvm.Cond.code ({ cls := "LeftGloves", name := "hushedIn", desc := "(I)I" } : Jvm.MethodName) prog_1_method_26_code (5 : Nat) (Option.some Jvm.ClassFile.FieldType.int)) ∈ lw_all := lw_g (lw_at lw_m2 150 rfl) rfl
theorem q481 : (Jvm.Cond.methodLink "LeftGloves" (134 : Nat) ({ cls := "LeftGloves", name := "has", desc := "(II)Z" } : Jvm.MethodName)) ∈ lw_all := lw_g (lw_at lw_m2 151 rfl) rfl
theorem q482 : (Jvm.Cond.methodLink "LeftGloves" (138 : Nat) ({ cls := "LeftGloves", name := "gloveOf", desc := "(I)LLeftGloves$Glove;" } : Jvm.MethodName)) ∈ lw_all := lw_g (lw_at lw_m2 152 rfl) rfl
theorem q483 : (Jvm.Cond.privateMethod ({ cls := "LeftGloves", name := "gloveOf", desc := "(I)LLeftGloves$Glove;" } : Jvm.MethodName)) ∈ lw_tbl := lw_at lw_m2 153 rfl
theorem q484 : (Jvm.Cond.instanceMethod ({ cls := "LeftGloves", name := "gloveOf", desc := "(I)LLeftGloves$Glove;" } : Jvm.MethodName)) ∈ lw_all := lw_g (lw_at lw_m2 154 rfl) rfl
theorem q485 : (Jvm.Cond.code ({ cls := "LeftGloves", name := "gloveOf", desc := "(I)LLeftGloves$Glove;" } : Jvm.MethodName) prog_1_method_20_code (2 : Nat) (Option.some (Jvm.ClassFile.FieldType.object "LeftGloves$Glove"))) ∈ lw_all := lw_g (lw_at lw_m2 155 rfl) rfl
theorem q486 : (Jvm.Cond.methodLink "LeftGloves" (142 : Nat) ({ cls := "LeftGloves$Glove", name := "hushes", desc := "()I" } : Jvm.MethodName)) ∈ lw_all := lw_g (lw_at lw_m2 156 rfl) rfl
theorem q518 : (Jvm.Cond.methodLink "LeftGloves" (199 : Nat) ({ cls := "LeftGloves$World", name := "known", desc := "(II)I" } : Jvm.MethodName)) ∈ lw_all := lw_g (lw_at lw_m2 188 rfl) rfl
theorem q522 : (Jvm.Cond.methodLink "LeftGloves" (202 : Nat) ({ cls := "LeftGloves$World", name := "saidIn", desc := "(I)I" } : Jvm.MethodName)) ∈ lw_all := lw_g (lw_at lw_m2 192 rfl) rfl
theorem q529 : (Jvm.Cond.instanceMethod ({ cls := "LeftGloves", name := "glove", desc := "(II)I" } : Jvm.MethodName)) ∈ lw_all := lw_g (lw_at lw_m2 199 rfl) rfl
theorem q530 : (Jvm.Cond.selects "LeftGloves" ({ cls := "LeftGloves", name := "glove", desc := "(II)I" } : Jvm.MethodName) ({ cls := "LeftGloves", name := "glove", desc := "(II)I" } : Jvm.MethodName)) ∈ lw_all := lw_g (lw_at lw_m2 200 rfl) rfl
theorem q531 : (Jvm.Cond.code ({ cls := "LeftGloves", name := "glove", desc := "(II)I" } : Jvm.MethodName) prog_1_method_33_code (3 : Nat) (Option.some Jvm.ClassFile.FieldType.int)) ∈ lw_all := lw_g (lw_at lw_m2 201 rfl) rfl
theorem q532 : (Jvm.Cond.methodLink "LeftGloves" (27 : Nat) ({ cls := "LeftGloves", name := "isKind", desc := "(I)Z" } : Jvm.MethodName)) ∈ lw_all := lw_g (lw_at lw_m2 202 rfl) rfl
theorem q533 : (Jvm.Cond.static ({ cls := "LeftGloves", name := "isKind", desc := "(I)Z" } : Jvm.MethodName)) ∈ lw_all := lw_g (lw_at lw_m2 203 rfl) rfl
theorem q534 : (Jvm.Cond.code ({ cls := "LeftGloves", name := "isKind", desc := "(I)Z" } : Jvm.MethodName) prog_1_method_6_code (1 : Nat) (Option.some Jvm.ClassFile.FieldType.boolean)) ∈ lw_all := lw_g (lw_at lw_m2 204 rfl) rfl
theorem q535 : (Jvm.Cond.methodLink "LeftGloves" (205 : Nat) ({ cls := "LeftGloves$World", name := "add", desc := "(II)V" } : Jvm.MethodName)) ∈ lw_all := lw_g (lw_at lw_m2 205 rfl) rfl
theorem q540 : (Jvm.Cond.instanceMethod ({ cls := "LeftGloves", name := "of", desc := "(II)I" } : Jvm.MethodName)) ∈ lw_all := lw_g (lw_at lw_m2 210 rfl) rfl
theorem q541 : (Jvm.Cond.selects "LeftGloves" ({ cls := "LeftGloves", name := "of", desc := "(II)I" } : Jvm.MethodName) ({ cls := "LeftGloves", name := "of", desc := "(II)I" } : Jvm.MethodName)) ∈ lw_all := lw_g (lw_at lw_m2 211 rfl) rfl
theorem q542 : (Jvm.Cond.code ({ cls := "LeftGloves", name := "of", desc := "(II)I" } : Jvm.MethodName) prog_1_method_34_code (3 : Nat) (Option.some Jvm.ClassFile.FieldType.int)) ∈ lw_all := lw_g (lw_at lw_m2 212 rfl) rfl
theorem q543 : (Jvm.Cond.methodLink "LeftGloves" (208 : Nat) ({ cls := "LeftGloves", name := "isGlove", desc := "(I)Z" } : Jvm.MethodName)) ∈ lw_all := lw_g (lw_at lw_m2 213 rfl) rfl
theorem q544 : (Jvm.Cond.privateMethod ({ cls := "LeftGloves", name := "isGlove", desc := "(I)Z" } : Jvm.MethodName)) ∈ lw_tbl := lw_at lw_m2 214 rfl
theorem q545 : (Jvm.Cond.instanceMethod ({ cls := "LeftGloves", name := "isGlove", desc := "(I)Z" } : Jvm.MethodName)) ∈ lw_all := lw_g (lw_at lw_m2 215 rfl) rfl
theorem q546 : (Jvm.Cond.code ({ cls := "LeftGloves", name := "isGlove", desc := "(I)Z" } : Jvm.MethodName) prog_1_method_24_code (2 : Nat) (Option.some Jvm.ClassFile.FieldType.boolean)) ∈ lw_all := lw_g (lw_at lw_m2 216 rfl) rfl
theorem q547 : (Jvm.Cond.methodLink "LeftGloves" (211 : Nat) ({ cls := "LeftGloves$Glove", name := "kind", desc := "()I" } : Jvm.MethodName)) ∈ lw_all := lw_g (lw_at lw_m2 217 rfl) rfl
theorem q576 : (Jvm.Cond.methodLink "LeftGloves" (158 : Nat) ({ cls := "LeftGloves$Glove", name := "needs", desc := "()I" } : Jvm.MethodName)) ∈ lw_all := lw_g (lw_at lw_m3 6 rfl) rfl
theorem q612 : (Jvm.Cond.methodLink "LeftGloves" (177 : Nat) ({ cls := "LeftGloves$Glove", name := "stays", desc := "()I" } : Jvm.MethodName)) ∈ lw_all := lw_g (lw_at lw_m3 42 rfl) rfl
theorem q633 : (Jvm.Cond.methodLink "LeftGloves" (167 : Nat) ({ cls := "LeftGloves$Glove", name := "keeps", desc := "()I" } : Jvm.MethodName)) ∈ lw_all := lw_g (lw_at lw_m3 63 rfl) rfl
theorem q663 : (Jvm.Cond.instanceMethod ({ cls := "LeftGloves", name := "change", desc := "(III)I" } : Jvm.MethodName)) ∈ lw_all := lw_g (lw_at lw_m3 93 rfl) rfl
theorem q664 : (Jvm.Cond.selects "LeftGloves" ({ cls := "LeftGloves", name := "change", desc := "(III)I" } : Jvm.MethodName) ({ cls := "LeftGloves", name := "change", desc := "(III)I" } : Jvm.MethodName)) ∈ lw_all := lw_g (lw_at lw_m3 94 rfl) rfl
theorem q665 : (Jvm.Cond.code ({ cls := "LeftGloves", name := "change", desc := "(III)I" } : Jvm.MethodName) prog_1_method_35_code (5 : Nat) (Option.some Jvm.ClassFile.FieldType.int)) ∈ lw_all := lw_g (lw_at lw_m3 95 rfl) rfl
theorem q666 : (Jvm.Cond.methodLink "LeftGloves" (214 : Nat) ({ cls := "LeftGloves", name := "isTold", desc := "(II)Z" } : Jvm.MethodName)) ∈ lw_all := lw_g (lw_at lw_m3 96 rfl) rfl
theorem q667 : (Jvm.Cond.static ({ cls := "LeftGloves", name := "isTold", desc := "(II)Z" } : Jvm.MethodName)) ∈ lw_all := lw_g (lw_at lw_m3 97 rfl) rfl
theorem q668 : (Jvm.Cond.code ({ cls := "LeftGloves", name := "isTold", desc := "(II)Z" } : Jvm.MethodName) prog_1_method_17_code (2 : Nat) (Option.some Jvm.ClassFile.FieldType.boolean)) ∈ lw_all := lw_g (lw_at lw_m3 98 rfl) rfl
theorem q669 : (Jvm.Cond.methodLink "LeftGloves" (30 : Nat) ({ cls := "LeftGloves", name := "isTopics", desc := "(I)Z" } : Jvm.MethodName)) ∈ lw_all := lw_g (lw_at lw_m3 99 rfl) rfl
theorem q670 : (Jvm.Cond.static ({ cls := "LeftGloves", name := "isTopics", desc := "(I)Z" } : Jvm.MethodName)) ∈ lw_all := lw_g (lw_at lw_m3 100 rfl) rfl
theorem q671 : (Jvm.Cond.code ({ cls := "LeftGloves", name := "isTopics", desc := "(I)Z" } : Jvm.MethodName) prog_1_method_9_code (1 : Nat) (Option.some Jvm.ClassFile.FieldType.boolean)) ∈ lw_all := lw_g (lw_at lw_m3 101 rfl) rfl
theorem q672 : (Jvm.Cond.constant "LeftGloves" (13 : Nat) (65535 : Int32)) ∈ lw_all := lw_g (lw_at lw_m3 102 rfl) rfl
theorem q674 : (Jvm.Cond.instanceMethod ({ cls := "LeftGloves", name := "draw", desc := "(I)I" } : Jvm.MethodName)) ∈ lw_all := lw_g (lw_at lw_m3 104 rfl) rfl
theorem q675 : (Jvm.Cond.selects "LeftGloves" ({ cls := "LeftGloves", name := "draw", desc := "(I)I" } : Jvm.MethodName) ({ cls := "LeftGloves", name := "draw", desc := "(I)I" } : Jvm.MethodName)) ∈ lw_all := lw_g (lw_at lw_m3 105 rfl) rfl
theorem q676 : (Jvm.Cond.code ({ cls := "LeftGloves", name := "draw", desc := "(I)I" } : Jvm.MethodName) prog_1_method_37_code (2 : Nat) (Option.some Jvm.ClassFile.FieldType.int)) ∈ lw_all := lw_g (lw_at lw_m3 106 rfl) rfl
theorem q677 : (Jvm.Cond.methodLink "LeftGloves" (221 : Nat) ({ cls := "LeftGloves", name := "drawnOn", desc := "(I)I" } : Jvm.MethodName)) ∈ lw_all := lw_g (lw_at lw_m3 107 rfl) rfl
theorem q678 : (Jvm.Cond.privateMethod ({ cls := "LeftGloves", name := "drawnOn", desc := "(I)I" } : Jvm.MethodName)) ∈ lw_tbl := lw_at lw_m3 108 rfl
theorem q679 : (Jvm.Cond.instanceMethod ({ cls := "LeftGloves", name := "drawnOn", desc := "(I)I" } : Jvm.MethodName)) ∈ lw_all := lw_g (lw_at lw_m3 109 rfl) rfl
theorem q680 : (Jvm.Cond.code ({ cls := "LeftGloves", name := "drawnOn", desc := "(I)I" } : Jvm.MethodName) prog_1_method_36_code (2 : Nat) (Option.some Jvm.ClassFile.FieldType.int)) ∈ lw_all := lw_g (lw_at lw_m3 110 rfl) rfl
theorem q681 : (Jvm.Cond.methodLink "LeftGloves" (217 : Nat) ({ cls := "LeftGloves$World", name := "isDrawn", desc := "(I)V" } : Jvm.MethodName)) ∈ lw_all := lw_g (lw_at lw_m3 111 rfl) rfl
theorem q689 : (Jvm.Cond.instanceMethod ({ cls := "LeftGloves", name := "who", desc := "(II)I" } : Jvm.MethodName)) ∈ lw_all := lw_g (lw_at lw_m3 119 rfl) rfl
theorem q690 : (Jvm.Cond.selects "LeftGloves" ({ cls := "LeftGloves", name := "who", desc := "(II)I" } : Jvm.MethodName) ({ cls := "LeftGloves", name := "who", desc := "(II)I" } : Jvm.MethodName)) ∈ lw_all := lw_g (lw_at lw_m3 120 rfl) rfl
theorem q691 : (Jvm.Cond.code ({ cls := "LeftGloves", name := "who", desc := "(II)I" } : Jvm.MethodName) prog_1_method_38_code (3 : Nat) (Option.some Jvm.ClassFile.FieldType.int)) ∈ lw_all := lw_g (lw_at lw_m3 121 rfl) rfl
theorem q692 : (Jvm.Cond.methodLink "LeftGloves" (224 : Nat) ({ cls := "LeftGloves$World", name := "whoKnows", desc := "(II)I" } : Jvm.MethodName)) ∈ lw_all := lw_g (lw_at lw_m3 122 rfl) rfl
theorem q697 : (Jvm.Cond.instanceMethod ({ cls := "LeftGloves", name := "go", desc := "(I)I" } : Jvm.MethodName)) ∈ lw_all := lw_g (lw_at lw_m3 127 rfl) rfl
theorem q698 : (Jvm.Cond.selects "LeftGloves" ({ cls := "LeftGloves", name := "go", desc := "(I)I" } : Jvm.MethodName) ({ cls := "LeftGloves", name := "go", desc := "(I)I" } : Jvm.MethodName)) ∈ lw_all := lw_g (lw_at lw_m3 128 rfl) rfl
theorem q699 : (Jvm.Cond.code ({ cls := "LeftGloves", name := "go", desc := "(I)I" } : Jvm.MethodName) prog_1_method_40_code (2 : Nat) (Option.some Jvm.ClassFile.FieldType.int)) ∈ lw_all := lw_g (lw_at lw_m3 129 rfl) rfl
theorem q700 : (Jvm.Cond.methodLink "LeftGloves" (232 : Nat) ({ cls := "LeftGloves$World", name := "isLate", desc := "(I)Z" } : Jvm.MethodName)) ∈ lw_all := lw_g (lw_at lw_m3 130 rfl) rfl
theorem q705 : (Jvm.Cond.methodLink "LeftGloves" (235 : Nat) ({ cls := "LeftGloves", name := "goesOn", desc := "(I)I" } : Jvm.MethodName)) ∈ lw_all := lw_g (lw_at lw_m3 135 rfl) rfl
theorem q706 : (Jvm.Cond.privateMethod ({ cls := "LeftGloves", name := "goesOn", desc := "(I)I" } : Jvm.MethodName)) ∈ lw_tbl := lw_at lw_m3 136 rfl
theorem q707 : (Jvm.Cond.instanceMethod ({ cls := "LeftGloves", name := "goesOn", desc := "(I)I" } : Jvm.MethodName)) ∈ lw_all := lw_g (lw_at lw_m3 137 rfl) rfl
theorem q708 : (Jvm.Cond.code ({ cls := "LeftGloves", name := "goesOn", desc := "(I)I" } : Jvm.MethodName) prog_1_method_39_code (2 : Nat) (Option.some Jvm.ClassFile.FieldType.int)) ∈ lw_all := lw_g (lw_at lw_m3 138 rfl) rfl
theorem q709 : (Jvm.Cond.methodLink "LeftGloves" (227 : Nat) ({ cls := "LeftGloves", name := "passes", desc := "(I)V" } : Jvm.MethodName)) ∈ lw_all := lw_g (lw_at lw_m3 139 rfl) rfl
theorem q710 : (Jvm.Cond.privateMethod ({ cls := "LeftGloves", name := "passes", desc := "(I)V" } : Jvm.MethodName)) ∈ lw_tbl := lw_at lw_m3 140 rfl
theorem q711 : (Jvm.Cond.instanceMethod ({ cls := "LeftGloves", name := "passes", desc := "(I)V" } : Jvm.MethodName)) ∈ lw_all := lw_g (lw_at lw_m3 141 rfl) rfl
theorem q712 : (Jvm.Cond.code ({ cls := "LeftGloves", name := "passes", desc := "(I)V" } : Jvm.MethodName) prog_1_method_29_code (3 : Nat) (Option.none : Option Jvm.ClassFile.FieldType)) ∈ lw_all := lw_g (lw_at lw_m3 142 rfl) rfl
theorem q713 : (Jvm.Cond.methodLink "LeftGloves" (187 : Nat) ({ cls := "LeftGloves", name := "passes", desc := "()V" } : Jvm.MethodName)) ∈ lw_all := lw_g (lw_at lw_m3 143 rfl) rfl
theorem q714 : (Jvm.Cond.privateMethod ({ cls := "LeftGloves", name := "passes", desc := "()V" } : Jvm.MethodName)) ∈ lw_tbl := lw_at lw_m3 144 rfl
theorem q715 : (Jvm.Cond.instanceMethod ({ cls := "LeftGloves", name := "passes", desc := "()V" } : Jvm.MethodName)) ∈ lw_all := lw_g (lw_at lw_m3 145 rfl) rfl
theorem q716 : (Jvm.Cond.code ({ cls := "LeftGloves", name := "passes", desc := "()V" } : Jvm.MethodName) prog_1_method_28_code (4 : Nat) (Option.none : Option Jvm.ClassFile.FieldType)) ∈ lw_all := lw_g (lw_at lw_m3 146 rfl) rfl
theorem q717 : (Jvm.Cond.methodLink "LeftGloves" (161 : Nat) ({ cls := "LeftGloves$World", name := "now", desc := "()I" } : Jvm.MethodName)) ∈ lw_all := lw_g (lw_at lw_m3 147 rfl) rfl
theorem q721 : (Jvm.Cond.methodLink "LeftGloves" (164 : Nat) ({ cls := "LeftGloves", name := "hearers", desc := "(I)I" } : Jvm.MethodName)) ∈ lw_all := lw_g (lw_at lw_m3 151 rfl) rfl
theorem q722 : (Jvm.Cond.privateMethod ({ cls := "LeftGloves", name := "hearers", desc := "(I)I" } : Jvm.MethodName)) ∈ lw_tbl := lw_at lw_m3 152 rfl
theorem q723 : (Jvm.Cond.instanceMethod ({ cls := "LeftGloves", name := "hearers", desc := "(I)I" } : Jvm.MethodName)) ∈ lw_all := lw_g (lw_at lw_m3 153 rfl) rfl
theorem q724 : (Jvm.Cond.code ({ cls := "LeftGloves", name := "hearers", desc := "(I)I" } : Jvm.MethodName) prog_1_method_27_code (6 : Nat) (Option.some Jvm.ClassFile.FieldType.int)) ∈ lw_all := lw_g (lw_at lw_m3 154 rfl) rfl
theorem q725 : (Jvm.Cond.methodLink "LeftGloves" (146 : Nat) ({ cls := "LeftGloves", name := "loudOf", desc := "(I)I" } : Jvm.MethodName)) ∈ lw_all := lw_g (lw_at lw_m3 155 rfl) rfl
theorem q726 : (Jvm.Cond.static ({ cls := "LeftGloves", name := "loudOf", desc := "(I)I" } : Jvm.MethodName)) ∈ lw_all := lw_g (lw_at lw_m3 156 rfl) rfl
theorem q727 : (Jvm.Cond.code ({ cls := "LeftGloves", name := "loudOf", desc := "(I)I" } : Jvm.MethodName) prog_1_method_14_code (1 : Nat) (Option.some Jvm.ClassFile.FieldType.int)) ∈ lw_all := lw_g (lw_at lw_m3 157 rfl) rfl
theorem q728 : (Jvm.Cond.methodLink "LeftGloves" (152 : Nat) ({ cls := "java/lang/Math", name := "max", desc := "(II)I" } : Jvm.MethodName)) ∈ lw_all := lw_g (lw_at lw_m3 158 rfl) rfl
theorem q729 : (Jvm.Cond.methodLink "LeftGloves" (170 : Nat) ({ cls := "LeftGloves$World", name := "learns", desc := "(III)V" } : Jvm.MethodName)) ∈ lw_all := lw_g (lw_at lw_m3 159 rfl) rfl
theorem q734 : (Jvm.Cond.static ({ cls := "LeftGloves", name := "ones", desc := "(I)I" } : Jvm.MethodName)) ∈ lw_all := lw_g (lw_at lw_m3 164 rfl) rfl
theorem q735 : (Jvm.Cond.code ({ cls := "LeftGloves", name := "ones", desc := "(I)I" } : Jvm.MethodName) prog_1_method_3_code (1 : Nat) (Option.some Jvm.ClassFile.FieldType.int)) ∈ lw_all := lw_g (lw_at lw_m3 165 rfl) rfl
theorem q736 : (Jvm.Cond.methodLink "LeftGloves" (1 : Nat) ({ cls := "java/lang/Integer", name := "bitCount", desc := "(I)I" } : Jvm.MethodName)) ∈ lw_all := lw_g (lw_at lw_m3 166 rfl) rfl
theorem q742 : (Jvm.Cond.methodLink "LeftGloves" (180 : Nat) ({ cls := "LeftGloves$World", name := "lies", desc := "(II)V" } : Jvm.MethodName)) ∈ lw_all := lw_g (lw_at lw_m3 172 rfl) rfl
theorem q747 : (Jvm.Cond.methodLink "LeftGloves" (229 : Nat) ({ cls := "LeftGloves$World", name := "all", desc := "()I" } : Jvm.MethodName)) ∈ lw_all := lw_g (lw_at lw_m3 177 rfl) rfl
theorem q752 : (Jvm.Cond.instanceMethod ({ cls := "LeftGloves", name := "now", desc := "(I)I" } : Jvm.MethodName)) ∈ lw_all := lw_g (lw_at lw_m3 182 rfl) rfl
theorem q753 : (Jvm.Cond.selects "LeftGloves" ({ cls := "LeftGloves", name := "now", desc := "(I)I" } : Jvm.MethodName) ({ cls := "LeftGloves", name := "now", desc := "(I)I" } : Jvm.MethodName)) ∈ lw_all := lw_g (lw_at lw_m3 183 rfl) rfl
theorem q754 : (Jvm.Cond.code ({ cls := "LeftGloves", name := "now", desc := "(I)I" } : Jvm.MethodName) prog_1_method_41_code (2 : Nat) (Option.some Jvm.ClassFile.FieldType.int)) ∈ lw_all := lw_g (lw_at lw_m3 184 rfl) rfl
theorem q755 : (Jvm.Cond.methodLink "LeftGloves" (238 : Nat) ({ cls := "LeftGloves$World", name := "knownBoth", desc := "(I)I" } : Jvm.MethodName)) ∈ lw_all := lw_g (lw_at lw_m3 185 rfl) rfl
theorem q760 : (Jvm.Cond.methodLink "LeftGloves" (241 : Nat) ({ cls := "LeftGloves$World", name := "drawnInAll", desc := "()I" } : Jvm.MethodName)) ∈ lw_all := lw_g (lw_at lw_m3 190 rfl) rfl
theorem q764 : (Jvm.Cond.methodLink "LeftGloves" (244 : Nat) ({ cls := "LeftGloves$World", name := "wisest", desc := "()I" } : Jvm.MethodName)) ∈ lw_all := lw_g (lw_at lw_m3 194 rfl) rfl
theorem q769 : (Jvm.Cond.instanceMethod ({ cls := "LeftGloves", name := "ahead", desc := "(III)I" } : Jvm.MethodName)) ∈ lw_all := lw_g (lw_at lw_m3 199 rfl) rfl
theorem q770 : (Jvm.Cond.selects "LeftGloves" ({ cls := "LeftGloves", name := "ahead", desc := "(III)I" } : Jvm.MethodName) ({ cls := "LeftGloves", name := "ahead", desc := "(III)I" } : Jvm.MethodName)) ∈ lw_all := lw_g (lw_at lw_m3 200 rfl) rfl
theorem q771 : (Jvm.Cond.code ({ cls := "LeftGloves", name := "ahead", desc := "(III)I" } : Jvm.MethodName) prog_1_method_43_code (5 : Nat) (Option.some Jvm.ClassFile.FieldType.int)) ∈ lw_all := lw_g (lw_at lw_m3 201 rfl) rfl
theorem q772 : (Jvm.Cond.methodLink "LeftGloves" (251 : Nat) ({ cls := "LeftGloves", name := "toldBehind", desc := "(III)I" } : Jvm.MethodName)) ∈ lw_all := lw_g (lw_at lw_m3 202 rfl) rfl
theorem q773 : (Jvm.Cond.privateMethod ({ cls := "LeftGloves", name := "toldBehind", desc := "(III)I" } : Jvm.MethodName)) ∈ lw_tbl := lw_at lw_m3 203 rfl
theorem q774 : (Jvm.Cond.instanceMethod ({ cls := "LeftGloves", name := "toldBehind", desc := "(III)I" } : Jvm.MethodName)) ∈ lw_all := lw_g (lw_at lw_m3 204 rfl) rfl
theorem q775 : (Jvm.Cond.codeWith ({ cls := "LeftGloves", name := "toldBehind", desc := "(III)I" } : Jvm.MethodName) prog_1_method_42_code (6 : Nat) (Option.some Jvm.ClassFile.FieldType.int) [((11 : Nat), (29 : Nat), (43 : Nat), (0 : Nat)), ((43 : Nat), (45 : Nat), (43 : Nat), (0 : Nat))]) ∈ lw_all := lw_g (lw_at lw_m3 205 rfl) rfl
theorem q776 : (Jvm.Cond.methodLink "LeftGloves" (247 : Nat) ({ cls := "LeftGloves$World", name := "become", desc := "(LLeftGloves$World;)V" } : Jvm.MethodName)) ∈ lw_all := lw_g (lw_at lw_m3 206 rfl) rfl
theorem q787 : (Jvm.Cond.instanceMethod ({ cls := "LeftGloves", name := "hears", desc := "(II)I" } : Jvm.MethodName)) ∈ lw_all := lw_g (lw_at lw_m3 217 rfl) rfl
theorem q788 : (Jvm.Cond.selects "LeftGloves" ({ cls := "LeftGloves", name := "hears", desc := "(II)I" } : Jvm.MethodName) ({ cls := "LeftGloves", name := "hears", desc := "(II)I" } : Jvm.MethodName)) ∈ lw_all := lw_g (lw_at lw_m3 218 rfl) rfl
theorem q789 : (Jvm.Cond.code ({ cls := "LeftGloves", name := "hears", desc := "(II)I" } : Jvm.MethodName) prog_1_method_45_code (3 : Nat) (Option.some Jvm.ClassFile.FieldType.int)) ∈ lw_all := lw_g (lw_at lw_m3 219 rfl) rfl
theorem q790 : (Jvm.Cond.methodLink "LeftGloves" (255 : Nat) ({ cls := "LeftGloves", name := "heardBehind", desc := "(II)I" } : Jvm.MethodName)) ∈ lw_all := lw_g (lw_at lw_m3 220 rfl) rfl
theorem q791 : (Jvm.Cond.privateMethod ({ cls := "LeftGloves", name := "heardBehind", desc := "(II)I" } : Jvm.MethodName)) ∈ lw_tbl := lw_at lw_m3 221 rfl
theorem q792 : (Jvm.Cond.instanceMethod ({ cls := "LeftGloves", name := "heardBehind", desc := "(II)I" } : Jvm.MethodName)) ∈ lw_all := lw_g (lw_at lw_m3 222 rfl) rfl
theorem q793 : (Jvm.Cond.codeWith ({ cls := "LeftGloves", name := "heardBehind", desc := "(II)I" } : Jvm.MethodName) prog_1_method_44_code (6 : Nat) (Option.some Jvm.ClassFile.FieldType.int) [((11 : Nat), (62 : Nat), (76 : Nat), (0 : Nat)), ((76 : Nat), (78 : Nat), (76 : Nat), (0 : Nat))]) ∈ lw_all := lw_g (lw_at lw_m3 223 rfl) rfl
theorem q794 : (Jvm.Cond.methodLink "LeftGloves" (258 : Nat) ({ cls := "LeftGloves", name := "orNone", desc := "(I)I" } : Jvm.MethodName)) ∈ lw_all := lw_g (lw_at lw_m3 224 rfl) rfl
theorem q795 : (Jvm.Cond.privateMethod ({ cls := "LeftGloves", name := "orNone", desc := "(I)I" } : Jvm.MethodName)) ∈ lw_tbl := lw_at lw_m3 225 rfl
theorem q796 : (Jvm.Cond.instanceMethod ({ cls := "LeftGloves", name := "orNone", desc := "(I)I" } : Jvm.MethodName)) ∈ lw_all := lw_g (lw_at lw_m3 226 rfl) rfl
theorem q797 : (Jvm.Cond.code ({ cls := "LeftGloves", name := "orNone", desc := "(I)I" } : Jvm.MethodName) prog_1_method_25_code (2 : Nat) (Option.some Jvm.ClassFile.FieldType.int)) ∈ lw_all := lw_g (lw_at lw_m3 227 rfl) rfl
theorem q799 : (Jvm.Cond.instanceMethod ({ cls := "LeftGloves", name := "wise", desc := "(II)I" } : Jvm.MethodName)) ∈ lw_all := lw_g (lw_at lw_m3 229 rfl) rfl
theorem q800 : (Jvm.Cond.selects "LeftGloves" ({ cls := "LeftGloves", name := "wise", desc := "(II)I" } : Jvm.MethodName) ({ cls := "LeftGloves", name := "wise", desc := "(II)I" } : Jvm.MethodName)) ∈ lw_all := lw_g (lw_at lw_m3 230 rfl) rfl
theorem q801 : (Jvm.Cond.code ({ cls := "LeftGloves", name := "wise", desc := "(II)I" } : Jvm.MethodName) prog_1_method_47_code (3 : Nat) (Option.some Jvm.ClassFile.FieldType.int)) ∈ lw_all := lw_g (lw_at lw_m3 231 rfl) rfl
theorem q802 : (Jvm.Cond.methodLink "LeftGloves" (264 : Nat) ({ cls := "LeftGloves", name := "isMany", desc := "(I)Z" } : Jvm.MethodName)) ∈ lw_all := lw_g (lw_at lw_m3 232 rfl) rfl
theorem q803 : (Jvm.Cond.static ({ cls := "LeftGloves", name := "isMany", desc := "(I)Z" } : Jvm.MethodName)) ∈ lw_all := lw_g (lw_at lw_m3 233 rfl) rfl
theorem q804 : (Jvm.Cond.code ({ cls := "LeftGloves", name := "isMany", desc := "(I)Z" } : Jvm.MethodName) prog_1_method_10_code (1 : Nat) (Option.some Jvm.ClassFile.FieldType.boolean)) ∈ lw_all := lw_g (lw_at lw_m3 234 rfl) rfl
theorem q805 : (Jvm.Cond.methodLink "LeftGloves" (267 : Nat) ({ cls := "LeftGloves", name := "wiseBehind", desc := "(II)I" } : Jvm.MethodName)) ∈ lw_all := lw_g (lw_at lw_m3 235 rfl) rfl
theorem q806 : (Jvm.Cond.privateMethod ({ cls := "LeftGloves", name := "wiseBehind", desc := "(II)I" } : Jvm.MethodName)) ∈ lw_tbl := lw_at lw_m3 236 rfl
theorem q807 : (Jvm.Cond.instanceMethod ({ cls := "LeftGloves", name := "wiseBehind", desc := "(II)I" } : Jvm.MethodName)) ∈ lw_all := lw_g (lw_at lw_m3 237 rfl) rfl
theorem q808 : (Jvm.Cond.codeWith ({ cls := "LeftGloves", name := "wiseBehind", desc := "(II)I" } : Jvm.MethodName) prog_1_method_46_code (6 : Nat) (Option.some Jvm.ClassFile.FieldType.int) [((11 : Nat), (62 : Nat), (76 : Nat), (0 : Nat)), ((76 : Nat), (78 : Nat), (76 : Nat), (0 : Nat))]) ∈ lw_all := lw_g (lw_at lw_m3 238 rfl) rfl
theorem q809 : (Jvm.Cond.methodLink "LeftGloves" (261 : Nat) ({ cls := "LeftGloves", name := "ones", desc := "(I)I" } : Jvm.MethodName)) ∈ lw_all := lw_g (lw_at lw_m3 239 rfl) rfl
theorem q811 : (Jvm.Cond.instanceMethod ({ cls := "LeftGloves", name := "out", desc := "(I)I" } : Jvm.MethodName)) ∈ lw_all := lw_g (lw_at lw_m4 1 rfl) rfl
theorem q812 : (Jvm.Cond.selects "LeftGloves" ({ cls := "LeftGloves", name := "out", desc := "(I)I" } : Jvm.MethodName) ({ cls := "LeftGloves", name := "out", desc := "(I)I" } : Jvm.MethodName)) ∈ lw_all := lw_g (lw_at lw_m4 2 rfl) rfl
theorem q813 : (Jvm.Cond.code ({ cls := "LeftGloves", name := "out", desc := "(I)I" } : Jvm.MethodName) prog_1_method_49_code (2 : Nat) (Option.some Jvm.ClassFile.FieldType.int)) ∈ lw_all := lw_g (lw_at lw_m4 3 rfl) rfl
theorem q814 : (Jvm.Cond.methodLink "LeftGloves" (270 : Nat) ({ cls := "LeftGloves", name := "outBehind", desc := "(I)I" } : Jvm.MethodName)) ∈ lw_all := lw_g (lw_at lw_m4 4 rfl) rfl
theorem q815 : (Jvm.Cond.privateMethod ({ cls := "LeftGloves", name := "outBehind", desc := "(I)I" } : Jvm.MethodName)) ∈ lw_tbl := lw_at lw_m4 5 rfl
theorem q816 : (Jvm.Cond.instanceMethod ({ cls := "LeftGloves", name := "outBehind", desc := "(I)I" } : Jvm.MethodName)) ∈ lw_all := lw_g (lw_at lw_m4 6 rfl) rfl
theorem q817 : (Jvm.Cond.codeWith ({ cls := "LeftGloves", name := "outBehind", desc := "(I)I" } : Jvm.MethodName) prog_1_method_48_code (5 : Nat) (Option.some Jvm.ClassFile.FieldType.int) [((11 : Nat), (64 : Nat), (77 : Nat), (0 : Nat)), ((77 : Nat), (79 : Nat), (77 : Nat), (0 : Nat))]) ∈ lw_all := lw_g (lw_at lw_m4 7 rfl) rfl
theorem q819 : (Jvm.Cond.instanceMethod ({ cls := "LeftGloves", name := "leave", desc := "(II)I" } : Jvm.MethodName)) ∈ lw_all := lw_g (lw_at lw_m4 9 rfl) rfl
theorem q820 : (Jvm.Cond.selects "LeftGloves" ({ cls := "LeftGloves", name := "leave", desc := "(II)I" } : Jvm.MethodName) ({ cls := "LeftGloves", name := "leave", desc := "(II)I" } : Jvm.MethodName)) ∈ lw_all := lw_g (lw_at lw_m4 10 rfl) rfl
theorem q821 : (Jvm.Cond.code ({ cls := "LeftGloves", name := "leave", desc := "(II)I" } : Jvm.MethodName) prog_1_method_52_code (3 : Nat) (Option.some Jvm.ClassFile.FieldType.int)) ∈ lw_all := lw_g (lw_at lw_m4 11 rfl) rfl
theorem q822 : (Jvm.Cond.methodLink "LeftGloves" (273 : Nat) ({ cls := "LeftGloves", name := "areOne", desc := "(II)Z" } : Jvm.MethodName)) ∈ lw_all := lw_g (lw_at lw_m4 12 rfl) rfl
theorem q823 : (Jvm.Cond.privateMethod ({ cls := "LeftGloves", name := "areOne", desc := "(II)Z" } : Jvm.MethodName)) ∈ lw_tbl := lw_at lw_m4 13 rfl
theorem q824 : (Jvm.Cond.instanceMethod ({ cls := "LeftGloves", name := "areOne", desc := "(II)Z" } : Jvm.MethodName)) ∈ lw_all := lw_g (lw_at lw_m4 14 rfl) rfl
theorem q825 : (Jvm.Cond.code ({ cls := "LeftGloves", name := "areOne", desc := "(II)Z" } : Jvm.MethodName) prog_1_method_51_code (3 : Nat) (Option.some Jvm.ClassFile.FieldType.boolean)) ∈ lw_all := lw_g (lw_at lw_m4 15 rfl) rfl
theorem q826 : (Jvm.Cond.methodLink "LeftGloves" (276 : Nat) ({ cls := "LeftGloves", name := "mostBy", desc := "(IIII)I" } : Jvm.MethodName)) ∈ lw_all := lw_g (lw_at lw_m4 16 rfl) rfl
theorem q827 : (Jvm.Cond.privateMethod ({ cls := "LeftGloves", name := "mostBy", desc := "(IIII)I" } : Jvm.MethodName)) ∈ lw_tbl := lw_at lw_m4 17 rfl
theorem q828 : (Jvm.Cond.instanceMethod ({ cls := "LeftGloves", name := "mostBy", desc := "(IIII)I" } : Jvm.MethodName)) ∈ lw_all := lw_g (lw_at lw_m4 18 rfl) rfl
theorem q829 : (Jvm.Cond.code ({ cls := "LeftGloves", name := "mostBy", desc := "(IIII)I" } : Jvm.MethodName) prog_1_method_50_code (10 : Nat) (Option.some Jvm.ClassFile.FieldType.int)) ∈ lw_all := lw_g (lw_at lw_m4 19 rfl) rfl
theorem q831 : (Jvm.Cond.instanceMethod ({ cls := "LeftGloves", name := "openFor", desc := "(III)I" } : Jvm.MethodName)) ∈ lw_all := lw_g (lw_at lw_m4 21 rfl) rfl
theorem q832 : (Jvm.Cond.selects "LeftGloves" ({ cls := "LeftGloves", name := "openFor", desc := "(III)I" } : Jvm.MethodName) ({ cls := "LeftGloves", name := "openFor", desc := "(III)I" } : Jvm.MethodName)) ∈ lw_all := lw_g (lw_at lw_m4 22 rfl) rfl
theorem q833 : (Jvm.Cond.code ({ cls := "LeftGloves", name := "openFor", desc := "(III)I" } : Jvm.MethodName) prog_1_method_54_code (4 : Nat) (Option.some Jvm.ClassFile.FieldType.int)) ∈ lw_all := lw_g (lw_at lw_m4 23 rfl) rfl
theorem q834 : (Jvm.Cond.methodLink "LeftGloves" (280 : Nat) ({ cls := "LeftGloves", name := "leastOpen", desc := "(III)I" } : Jvm.MethodName)) ∈ lw_all := lw_g (lw_at lw_m4 24 rfl) rfl
theorem q835 : (Jvm.Cond.privateMethod ({ cls := "LeftGloves", name := "leastOpen", desc := "(III)I" } : Jvm.MethodName)) ∈ lw_tbl := lw_at lw_m4 25 rfl
theorem q836 : (Jvm.Cond.instanceMethod ({ cls := "LeftGloves", name := "leastOpen", desc := "(III)I" } : Jvm.MethodName)) ∈ lw_all := lw_g (lw_at lw_m4 26 rfl) rfl
theorem q837 : (Jvm.Cond.code ({ cls := "LeftGloves", name := "leastOpen", desc := "(III)I" } : Jvm.MethodName) prog_1_method_53_code (7 : Nat) (Option.some Jvm.ClassFile.FieldType.int)) ∈ lw_all := lw_g (lw_at lw_m4 27 rfl) rfl
theorem q839 : (Jvm.Cond.instanceMethod ({ cls := "LeftGloves", name := "kindFor", desc := "(II)I" } : Jvm.MethodName)) ∈ lw_all := lw_g (lw_at lw_m4 29 rfl) rfl
theorem q840 : (Jvm.Cond.selects "LeftGloves" ({ cls := "LeftGloves", name := "kindFor", desc := "(II)I" } : Jvm.MethodName) ({ cls := "LeftGloves", name := "kindFor", desc := "(II)I" } : Jvm.MethodName)) ∈ lw_all := lw_g (lw_at lw_m4 30 rfl) rfl
theorem q841 : (Jvm.Cond.code ({ cls := "LeftGloves", name := "kindFor", desc := "(II)I" } : Jvm.MethodName) prog_1_method_55_code (3 : Nat) (Option.some Jvm.ClassFile.FieldType.int)) ∈ lw_all := lw_g (lw_at lw_m4 31 rfl) rfl
theorem q843 : (Jvm.Cond.instanceMethod ({ cls := "LeftGloves", name := "lower", desc := "(I)I" } : Jvm.MethodName)) ∈ lw_all := lw_g (lw_at lw_m4 33 rfl) rfl
theorem q844 : (Jvm.Cond.selects "LeftGloves" ({ cls := "LeftGloves", name := "lower", desc := "(I)I" } : Jvm.MethodName) ({ cls := "LeftGloves", name := "lower", desc := "(I)I" } : Jvm.MethodName)) ∈ lw_all := lw_g (lw_at lw_m4 34 rfl) rfl
theorem q845 : (Jvm.Cond.code ({ cls := "LeftGloves", name := "lower", desc := "(I)I" } : Jvm.MethodName) prog_1_method_57_code (2 : Nat) (Option.some Jvm.ClassFile.FieldType.int)) ∈ lw_all := lw_g (lw_at lw_m4 35 rfl) rfl
theorem q846 : (Jvm.Cond.methodLink "LeftGloves" (283 : Nat) ({ cls := "LeftGloves", name := "greatestUnheard", desc := "(I)I" } : Jvm.MethodName)) ∈ lw_all := lw_g (lw_at lw_m4 36 rfl) rfl
theorem q847 : (Jvm.Cond.privateMethod ({ cls := "LeftGloves", name := "greatestUnheard", desc := "(I)I" } : Jvm.MethodName)) ∈ lw_tbl := lw_at lw_m4 37 rfl
theorem q848 : (Jvm.Cond.instanceMethod ({ cls := "LeftGloves", name := "greatestUnheard", desc := "(I)I" } : Jvm.MethodName)) ∈ lw_all := lw_g (lw_at lw_m4 38 rfl) rfl
theorem q849 : (Jvm.Cond.code ({ cls := "LeftGloves", name := "greatestUnheard", desc := "(I)I" } : Jvm.MethodName) prog_1_method_56_code (3 : Nat) (Option.some Jvm.ClassFile.FieldType.int)) ∈ lw_all := lw_g (lw_at lw_m4 39 rfl) rfl
theorem q851 : (Jvm.Cond.instanceMethod ({ cls := "LeftGloves", name := "cover", desc := "(I)I" } : Jvm.MethodName)) ∈ lw_all := lw_g (lw_at lw_m4 41 rfl) rfl
theorem q852 : (Jvm.Cond.selects "LeftGloves" ({ cls := "LeftGloves", name := "cover", desc := "(I)I" } : Jvm.MethodName) ({ cls := "LeftGloves", name := "cover", desc := "(I)I" } : Jvm.MethodName)) ∈ lw_all := lw_g (lw_at lw_m4 42 rfl) rfl
theorem q853 : (Jvm.Cond.code ({ cls := "LeftGloves", name := "cover", desc := "(I)I" } : Jvm.MethodName) prog_1_method_59_code (2 : Nat) (Option.some Jvm.ClassFile.FieldType.int)) ∈ lw_all := lw_g (lw_at lw_m4 43 rfl) rfl
theorem q854 : (Jvm.Cond.methodLink "LeftGloves" (286 : Nat) ({ cls := "LeftGloves", name := "fewestKnowing", desc := "(I)I" } : Jvm.MethodName)) ∈ lw_all := lw_g (lw_at lw_m4 44 rfl) rfl
theorem q855 : (Jvm.Cond.privateMethod ({ cls := "LeftGloves", name := "fewestKnowing", desc := "(I)I" } : Jvm.MethodName)) ∈ lw_tbl := lw_at lw_m4 45 rfl
theorem q856 : (Jvm.Cond.instanceMethod ({ cls := "LeftGloves", name := "fewestKnowing", desc := "(I)I" } : Jvm.MethodName)) ∈ lw_all := lw_g (lw_at lw_m4 46 rfl) rfl
theorem q857 : (Jvm.Cond.code ({ cls := "LeftGloves", name := "fewestKnowing", desc := "(I)I" } : Jvm.MethodName) prog_1_method_58_code (5 : Nat) (Option.some Jvm.ClassFile.FieldType.int)) ∈ lw_all := lw_g (lw_at lw_m4 47 rfl) rfl
theorem q859 : (Jvm.Cond.instanceMethod ({ cls := "LeftGloves", name := "away", desc := "(III)I" } : Jvm.MethodName)) ∈ lw_all := lw_g (lw_at lw_m4 49 rfl) rfl
theorem q860 : (Jvm.Cond.selects "LeftGloves" ({ cls := "LeftGloves", name := "away", desc := "(III)I" } : Jvm.MethodName) ({ cls := "LeftGloves", name := "away", desc := "(III)I" } : Jvm.MethodName)) ∈ lw_all := lw_g (lw_at lw_m4 50 rfl) rfl
theorem q861 : (Jvm.Cond.code ({ cls := "LeftGloves", name := "away", desc := "(III)I" } : Jvm.MethodName) prog_1_method_62_code (5 : Nat) (Option.some Jvm.ClassFile.FieldType.int)) ∈ lw_all := lw_g (lw_at lw_m4 51 rfl) rfl
theorem q862 : (Jvm.Cond.methodLink "LeftGloves" (292 : Nat) ({ cls := "LeftGloves", name := "fewestAway", desc := "(III)I" } : Jvm.MethodName)) ∈ lw_all := lw_g (lw_at lw_m4 52 rfl) rfl
theorem q863 : (Jvm.Cond.privateMethod ({ cls := "LeftGloves", name := "fewestAway", desc := "(III)I" } : Jvm.MethodName)) ∈ lw_tbl := lw_at lw_m4 53 rfl
theorem q864 : (Jvm.Cond.instanceMethod ({ cls := "LeftGloves", name := "fewestAway", desc := "(III)I" } : Jvm.MethodName)) ∈ lw_all := lw_g (lw_at lw_m4 54 rfl) rfl
theorem q865 : (Jvm.Cond.code ({ cls := "LeftGloves", name := "fewestAway", desc := "(III)I" } : Jvm.MethodName) prog_1_method_61_code (7 : Nat) (Option.some Jvm.ClassFile.FieldType.int)) ∈ lw_all := lw_g (lw_at lw_m4 55 rfl) rfl
theorem q866 : (Jvm.Cond.methodLink "LeftGloves" (289 : Nat) ({ cls := "LeftGloves", name := "doesKnowBehind", desc := "(III)Z" } : Jvm.MethodName)) ∈ lw_all := lw_g (lw_at lw_m4 56 rfl) rfl
theorem q867 : (Jvm.Cond.privateMethod ({ cls := "LeftGloves", name := "doesKnowBehind", desc := "(III)Z" } : Jvm.MethodName)) ∈ lw_tbl := lw_at lw_m4 57 rfl
theorem q868 : (Jvm.Cond.instanceMethod ({ cls := "LeftGloves", name := "doesKnowBehind", desc := "(III)Z" } : Jvm.MethodName)) ∈ lw_all := lw_g (lw_at lw_m4 58 rfl) rfl
theorem q869 : (Jvm.Cond.codeWith ({ cls := "LeftGloves", name := "doesKnowBehind", desc := "(III)Z" } : Jvm.MethodName) prog_1_method_60_code (6 : Nat) (Option.some Jvm.ClassFile.FieldType.boolean) [((11 : Nat), (32 : Nat), (46 : Nat), (0 : Nat)), ((46 : Nat), (48 : Nat), (46 : Nat), (0 : Nat))]) ∈ lw_all := lw_g (lw_at lw_m4 59 rfl) rfl
theorem q871 : (Jvm.Cond.instanceMethod ({ cls := "LeftGloves", name := "fits", desc := "(II)I" } : Jvm.MethodName)) ∈ lw_all := lw_g (lw_at lw_m4 61 rfl) rfl
theorem q872 : (Jvm.Cond.selects "LeftGloves" ({ cls := "LeftGloves", name := "fits", desc := "(II)I" } : Jvm.MethodName) ({ cls := "LeftGloves", name := "fits", desc := "(II)I" } : Jvm.MethodName)) ∈ lw_all := lw_g (lw_at lw_m4 62 rfl) rfl
theorem q873 : (Jvm.Cond.codeWith ({ cls := "LeftGloves", name := "fits", desc := "(II)I" } : Jvm.MethodName) prog_1_method_65_code (4 : Nat) (Option.some Jvm.ClassFile.FieldType.int) [((0 : Nat), (9 : Nat), (10 : Nat), (62 : Nat))]) ∈ lw_all := lw_g (lw_at lw_m4 63 rfl) rfl
theorem q874 : (Jvm.Cond.methodLink "LeftGloves" (315 : Nat) ({ cls := "LeftGloves", name := "allThatFit", desc := "(IIII)I" } : Jvm.MethodName)) ∈ lw_all := lw_g (lw_at lw_m4 64 rfl) rfl
theorem q875 : (Jvm.Cond.privateMethod ({ cls := "LeftGloves", name := "allThatFit", desc := "(IIII)I" } : Jvm.MethodName)) ∈ lw_tbl := lw_at lw_m4 65 rfl
theorem q876 : (Jvm.Cond.instanceMethod ({ cls := "LeftGloves", name := "allThatFit", desc := "(IIII)I" } : Jvm.MethodName)) ∈ lw_all := lw_g (lw_at lw_m4 66 rfl) rfl
theorem q877 : (Jvm.Cond.code ({ cls := "LeftGloves", name := "allThatFit", desc := "(IIII)I" } : Jvm.MethodName) prog_1_method_64_code (9 : Nat) (Option.some Jvm.ClassFile.FieldType.int)) ∈ lw_all := lw_g (lw_at lw_m4 67 rfl) rfl
theorem q878 : (Jvm.Cond.methodLink "LeftGloves" (303 : Nat) ({ cls := "LeftGloves", name := "rowAt", desc := "(I)Ljava/lang/Object;" } : Jvm.MethodName)) ∈ lw_all := lw_g (lw_at lw_m4 68 rfl) rfl
theorem q879 : (Jvm.Cond.privateMethod ({ cls := "LeftGloves", name := "rowAt", desc := "(I)Ljava/lang/Object;" } : Jvm.MethodName)) ∈ lw_tbl := lw_at lw_m4 69 rfl
theorem q880 : (Jvm.Cond.instanceMethod ({ cls := "LeftGloves", name := "rowAt", desc := "(I)Ljava/lang/Object;" } : Jvm.MethodName)) ∈ lw_all := lw_g (lw_at lw_m4 70 rfl) rfl
theorem q881 : (Jvm.Cond.code ({ cls := "LeftGloves", name := "rowAt", desc := "(I)Ljava/lang/Object;" } : Jvm.MethodName) prog_1_method_81_code (2 : Nat) (Option.some (Jvm.ClassFile.FieldType.object "java/lang/Object"))) ∈ lw_all := lw_g (lw_at lw_m4 71 rfl) rfl
theorem q882 : (Jvm.Cond.methodLink "LeftGloves" (371 : Nat) ({ cls := "LeftGloves", name := "isSheet", desc := "(I)Z" } : Jvm.MethodName)) ∈ lw_all := lw_g (lw_at lw_m4 72 rfl) rfl
theorem q883 : (Jvm.Cond.static ({ cls := "LeftGloves", name := "isSheet", desc := "(I)Z" } : Jvm.MethodName)) ∈ lw_all := lw_g (lw_at lw_m4 73 rfl) rfl
theorem q884 : (Jvm.Cond.code ({ cls := "LeftGloves", name := "isSheet", desc := "(I)Z" } : Jvm.MethodName) prog_1_method_4_code (1 : Nat) (Option.some Jvm.ClassFile.FieldType.boolean)) ∈ lw_all := lw_g (lw_at lw_m4 74 rfl) rfl
theorem q885 : (Jvm.Cond.methodLink "LeftGloves" (307 : Nat) ({ cls := "LeftGloves", name := "need", desc := "(ZI)V" } : Jvm.MethodName)) ∈ lw_all := lw_g (lw_at lw_m4 75 rfl) rfl
theorem q886 : (Jvm.Cond.privateMethod ({ cls := "LeftGloves", name := "need", desc := "(ZI)V" } : Jvm.MethodName)) ∈ lw_tbl := lw_at lw_m4 76 rfl
theorem q887 : (Jvm.Cond.instanceMethod ({ cls := "LeftGloves", name := "need", desc := "(ZI)V" } : Jvm.MethodName)) ∈ lw_all := lw_g (lw_at lw_m4 77 rfl) rfl
theorem q888 : (Jvm.Cond.code ({ cls := "LeftGloves", name := "need", desc := "(ZI)V" } : Jvm.MethodName) prog_1_method_23_code (3 : Nat) (Option.none : Option Jvm.ClassFile.FieldType)) ∈ lw_all := lw_g (lw_at lw_m4 78 rfl) rfl
theorem q889 : (Jvm.Cond.methodLink "LeftGloves" (123 : Nat) ({ cls := "LeftGloves", name := "refused", desc := "(I)LLeftGloves$Refusal;" } : Jvm.MethodName)) ∈ lw_all := lw_g (lw_at lw_m4 79 rfl) rfl
theorem q890 : (Jvm.Cond.privateMethod ({ cls := "LeftGloves", name := "refused", desc := "(I)LLeftGloves$Refusal;" } : Jvm.MethodName)) ∈ lw_tbl := lw_at lw_m4 80 rfl
theorem q891 : (Jvm.Cond.instanceMethod ({ cls := "LeftGloves", name := "refused", desc := "(I)LLeftGloves$Refusal;" } : Jvm.MethodName)) ∈ lw_all := lw_g (lw_at lw_m4 81 rfl) rfl
theorem q892 : (Jvm.Cond.code ({ cls := "LeftGloves", name := "refused", desc := "(I)LLeftGloves$Refusal;" } : Jvm.MethodName) prog_1_method_22_code (2 : Nat) (Option.some (Jvm.ClassFile.FieldType.object "LeftGloves$Refusal"))) ∈ lw_all := lw_g (lw_at lw_m4 82 rfl) rfl
theorem q893 : (Jvm.Cond.methodLink "LeftGloves" (311 : Nat) ({ cls := "LeftGloves", name := "wasSo", desc := "(Ljava/lang/Object;I)Z" } : Jvm.MethodName)) ∈ lw_all := lw_g (lw_at lw_m4 83 rfl) rfl
theorem q894 : (Jvm.Cond.privateMethod ({ cls := "LeftGloves", name := "wasSo", desc := "(Ljava/lang/Object;I)Z" } : Jvm.MethodName)) ∈ lw_tbl := lw_at lw_m4 84 rfl
theorem q895 : (Jvm.Cond.instanceMethod ({ cls := "LeftGloves", name := "wasSo", desc := "(Ljava/lang/Object;I)Z" } : Jvm.MethodName)) ∈ lw_all := lw_g (lw_at lw_m4 85 rfl) rfl
theorem q896 : (Jvm.Cond.codeWith ({ cls := "LeftGloves", name := "wasSo", desc := "(Ljava/lang/Object;I)Z" } : Jvm.MethodName) prog_1_method_63_code (6 : Nat) (Option.some Jvm.ClassFile.FieldType.boolean) [((11 : Nat), (78 : Nat), (92 : Nat), (0 : Nat)), ((92 : Nat), (94 : Nat), (92 : Nat), (0 : Nat))]) ∈ lw_all := lw_g (lw_at lw_m4 86 rfl) rfl
theorem q897 : (Jvm.Cond.methodLink "LeftGloves" (295 : Nat) ({ cls := "LeftGloves", name := "length", desc := "(Ljava/lang/Object;)I" } : Jvm.MethodName)) ∈ lw_all := lw_g (lw_at lw_m4 87 rfl) rfl
theorem q898 : (Jvm.Cond.static ({ cls := "LeftGloves", name := "length", desc := "(Ljava/lang/Object;)I" } : Jvm.MethodName)) ∈ lw_all := lw_g (lw_at lw_m4 88 rfl) rfl
theorem q899 : (Jvm.Cond.code ({ cls := "LeftGloves", name := "length", desc := "(Ljava/lang/Object;)I" } : Jvm.MethodName) prog_1_method_82_code (1 : Nat) (Option.some Jvm.ClassFile.FieldType.int)) ∈ lw_all := lw_g (lw_at lw_m4 89 rfl) rfl
theorem q900 : (Jvm.Cond.classLink "LeftGloves" (374 : Nat) "[B") ∈ lw_all := lw_g (lw_at lw_m4 90 rfl) rfl
theorem q901 : (Jvm.Cond.classLink "LeftGloves" (375 : Nat) "[S") ∈ lw_all := lw_g (lw_at lw_m4 91 rfl) rfl
theorem q902 : (Jvm.Cond.classLink "LeftGloves" (377 : Nat) "[I") ∈ lw_all := lw_g (lw_at lw_m4 92 rfl) rfl
theorem q903 : (Jvm.Cond.methodLink "LeftGloves" (299 : Nat) ({ cls := "LeftGloves", name := "number", desc := "(Ljava/lang/Object;I)I" } : Jvm.MethodName)) ∈ lw_all := lw_g (lw_at lw_m4 93 rfl) rfl
theorem q904 : (Jvm.Cond.static ({ cls := "LeftGloves", name := "number", desc := "(Ljava/lang/Object;I)I" } : Jvm.MethodName)) ∈ lw_all := lw_g (lw_at lw_m4 94 rfl) rfl
theorem q905 : (Jvm.Cond.code ({ cls := "LeftGloves", name := "number", desc := "(Ljava/lang/Object;I)I" } : Jvm.MethodName) prog_1_method_83_code (2 : Nat) (Option.some Jvm.ClassFile.FieldType.int)) ∈ lw_all := lw_g (lw_at lw_m4 95 rfl) rfl
theorem q907 : (Jvm.Cond.instanceMethod ({ cls := "LeftGloves", name := "kinds", desc := "(II)I" } : Jvm.MethodName)) ∈ lw_all := lw_g (lw_at lw_m4 97 rfl) rfl
theorem q908 : (Jvm.Cond.selects "LeftGloves" ({ cls := "LeftGloves", name := "kinds", desc := "(II)I" } : Jvm.MethodName) ({ cls := "LeftGloves", name := "kinds", desc := "(II)I" } : Jvm.MethodName)) ∈ lw_all := lw_g (lw_at lw_m4 98 rfl) rfl
theorem q909 : (Jvm.Cond.codeWith ({ cls := "LeftGloves", name := "kinds", desc := "(II)I" } : Jvm.MethodName) prog_1_method_66_code (4 : Nat) (Option.some Jvm.ClassFile.FieldType.int) [((0 : Nat), (9 : Nat), (10 : Nat), (62 : Nat))]) ∈ lw_all := lw_g (lw_at lw_m4 99 rfl) rfl
theorem q911 : (Jvm.Cond.instanceMethod ({ cls := "LeftGloves", name := "talk", desc := "(I)I" } : Jvm.MethodName)) ∈ lw_all := lw_g (lw_at lw_m4 101 rfl) rfl
theorem q912 : (Jvm.Cond.selects "LeftGloves" ({ cls := "LeftGloves", name := "talk", desc := "(I)I" } : Jvm.MethodName) ({ cls := "LeftGloves", name := "talk", desc := "(I)I" } : Jvm.MethodName)) ∈ lw_all := lw_g (lw_at lw_m4 102 rfl) rfl
theorem q913 : (Jvm.Cond.code ({ cls := "LeftGloves", name := "talk", desc := "(I)I" } : Jvm.MethodName) prog_1_method_68_code (2 : Nat) (Option.some Jvm.ClassFile.FieldType.int)) ∈ lw_all := lw_g (lw_at lw_m4 103 rfl) rfl
theorem q914 : (Jvm.Cond.methodLink "LeftGloves" (324 : Nat) ({ cls := "LeftGloves", name := "talked", desc := "(I)I" } : Jvm.MethodName)) ∈ lw_all := lw_g (lw_at lw_m4 104 rfl) rfl
theorem q915 : (Jvm.Cond.privateMethod ({ cls := "LeftGloves", name := "talked", desc := "(I)I" } : Jvm.MethodName)) ∈ lw_tbl := lw_at lw_m4 105 rfl
theorem q916 : (Jvm.Cond.instanceMethod ({ cls := "LeftGloves", name := "talked", desc := "(I)I" } : Jvm.MethodName)) ∈ lw_all := lw_g (lw_at lw_m4 106 rfl) rfl
theorem q917 : (Jvm.Cond.code ({ cls := "LeftGloves", name := "talked", desc := "(I)I" } : Jvm.MethodName) prog_1_method_67_code (5 : Nat) (Option.some Jvm.ClassFile.FieldType.int)) ∈ lw_all := lw_g (lw_at lw_m4 107 rfl) rfl
theorem q918 : (Jvm.Cond.methodLink "LeftGloves" (318 : Nat) ({ cls := "LeftGloves$World", name := "draw", desc := "()I" } : Jvm.MethodName)) ∈ lw_all := lw_g (lw_at lw_m4 108 rfl) rfl
theorem q923 : (Jvm.Cond.methodLink "LeftGloves" (321 : Nat) ({ cls := "LeftGloves", name := "saying", desc := "(III)I" } : Jvm.MethodName)) ∈ lw_all := lw_g (lw_at lw_m4 113 rfl) rfl
theorem q925 : (Jvm.Cond.instanceMethod ({ cls := "LeftGloves", name := "odds", desc := "(III)J" } : Jvm.MethodName)) ∈ lw_all := lw_g (lw_at lw_m4 115 rfl) rfl
theorem q926 : (Jvm.Cond.selects "LeftGloves" ({ cls := "LeftGloves", name := "odds", desc := "(III)J" } : Jvm.MethodName) ({ cls := "LeftGloves", name := "odds", desc := "(III)J" } : Jvm.MethodName)) ∈ lw_all := lw_g (lw_at lw_m4 116 rfl) rfl
theorem q927 : (Jvm.Cond.code ({ cls := "LeftGloves", name := "odds", desc := "(III)J" } : Jvm.MethodName) prog_1_method_70_code (10 : Nat) (Option.some Jvm.ClassFile.FieldType.long)) ∈ lw_all := lw_g (lw_at lw_m4 117 rfl) rfl
theorem q928 : (Jvm.Cond.methodLink "LeftGloves" (327 : Nat) ({ cls := "LeftGloves", name := "divisor", desc := "(II)I" } : Jvm.MethodName)) ∈ lw_all := lw_g (lw_at lw_m4 118 rfl) rfl
theorem q929 : (Jvm.Cond.static ({ cls := "LeftGloves", name := "divisor", desc := "(II)I" } : Jvm.MethodName)) ∈ lw_all := lw_g (lw_at lw_m4 119 rfl) rfl
theorem q930 : (Jvm.Cond.code ({ cls := "LeftGloves", name := "divisor", desc := "(II)I" } : Jvm.MethodName) prog_1_method_69_code (5 : Nat) (Option.some Jvm.ClassFile.FieldType.int)) ∈ lw_all := lw_g (lw_at lw_m4 120 rfl) rfl
theorem q932 : (Jvm.Cond.instanceMethod ({ cls := "LeftGloves", name := "seed", desc := "(I)I" } : Jvm.MethodName)) ∈ lw_all := lw_g (lw_at lw_m4 122 rfl) rfl
theorem q933 : (Jvm.Cond.selects "LeftGloves" ({ cls := "LeftGloves", name := "seed", desc := "(I)I" } : Jvm.MethodName) ({ cls := "LeftGloves", name := "seed", desc := "(I)I" } : Jvm.MethodName)) ∈ lw_all := lw_g (lw_at lw_m4 123 rfl) rfl
theorem q934 : (Jvm.Cond.code ({ cls := "LeftGloves", name := "seed", desc := "(I)I" } : Jvm.MethodName) prog_1_method_71_code (3 : Nat) (Option.some Jvm.ClassFile.FieldType.int)) ∈ lw_all := lw_g (lw_at lw_m4 124 rfl) rfl
theorem q936 : (Jvm.Cond.instanceMethod ({ cls := "LeftGloves", name := "feed", desc := "(II)I" } : Jvm.MethodName)) ∈ lw_all := lw_g (lw_at lw_m4 126 rfl) rfl
theorem q937 : (Jvm.Cond.selects "LeftGloves" ({ cls := "LeftGloves", name := "feed", desc := "(II)I" } : Jvm.MethodName) ({ cls := "LeftGloves", name := "feed", desc := "(II)I" } : Jvm.MethodName)) ∈ lw_all := lw_g (lw_at lw_m4 127 rfl) rfl
theorem q938 : (Jvm.Cond.code ({ cls := "LeftGloves", name := "feed", desc := "(II)I" } : Jvm.MethodName) prog_1_method_72_code (4 : Nat) (Option.some Jvm.ClassFile.FieldType.int)) ∈ lw_all := lw_g (lw_at lw_m4 128 rfl) rfl
theorem q940 : (Jvm.Cond.instanceMethod ({ cls := "LeftGloves", name := "wipe", desc := "()I" } : Jvm.MethodName)) ∈ lw_all := lw_g (lw_at lw_m4 130 rfl) rfl
theorem q941 : (Jvm.Cond.selects "LeftGloves" ({ cls := "LeftGloves", name := "wipe", desc := "()I" } : Jvm.MethodName) ({ cls := "LeftGloves", name := "wipe", desc := "()I" } : Jvm.MethodName)) ∈ lw_all := lw_g (lw_at lw_m4 131 rfl) rfl
theorem q942 : (Jvm.Cond.code ({ cls := "LeftGloves", name := "wipe", desc := "()I" } : Jvm.MethodName) prog_1_method_73_code (2 : Nat) (Option.some Jvm.ClassFile.FieldType.int)) ∈ lw_all := lw_g (lw_at lw_m4 132 rfl) rfl
theorem q944 : (Jvm.Cond.instanceMethod ({ cls := "LeftGloves", name := "text", desc := "()I" } : Jvm.MethodName)) ∈ lw_all := lw_g (lw_at lw_m4 134 rfl) rfl
theorem q945 : (Jvm.Cond.selects "LeftGloves" ({ cls := "LeftGloves", name := "text", desc := "()I" } : Jvm.MethodName) ({ cls := "LeftGloves", name := "text", desc := "()I" } : Jvm.MethodName)) ∈ lw_all := lw_g (lw_at lw_m4 135 rfl) rfl
theorem q946 : (Jvm.Cond.codeWith ({ cls := "LeftGloves", name := "text", desc := "()I" } : Jvm.MethodName) prog_1_method_74_code (2 : Nat) (Option.some Jvm.ClassFile.FieldType.int) [((30 : Nat), (53 : Nat), (54 : Nat), (348 : Nat))]) ∈ lw_all := lw_g (lw_at lw_m4 136 rfl) rfl
theorem q947 : (Jvm.Cond.classLink "LeftGloves" (348 : Nat) "LeftGloves$Wrong") ∈ lw_all := lw_g (lw_at lw_m4 137 rfl) rfl
theorem q948 : (Jvm.Cond.methodLink "LeftGloves" (345 : Nat) ({ cls := "LeftGloves$Reader", name := "whole", desc := "()I" } : Jvm.MethodName)) ∈ lw_all := lw_g (lw_at lw_m4 138 rfl) rfl
theorem q1061 : (Jvm.Cond.instanceMethod ({ cls := "LeftGloves", name := "hold", desc := "(II)I" } : Jvm.MethodName)) ∈ lw_all := lw_g (lw_at lw_m5 11 rfl) rfl
theorem q1062 : (Jvm.Cond.selects "LeftGloves" ({ cls := "LeftGloves", name := "hold", desc := "(II)I" } : Jvm.MethodName) ({ cls := "LeftGloves", name := "hold", desc := "(II)I" } : Jvm.MethodName)) ∈ lw_all := lw_g (lw_at lw_m5 12 rfl) rfl
theorem q1063 : (Jvm.Cond.code ({ cls := "LeftGloves", name := "hold", desc := "(II)I" } : Jvm.MethodName) prog_1_method_77_code (3 : Nat) (Option.some Jvm.ClassFile.FieldType.int)) ∈ lw_all := lw_g (lw_at lw_m5 13 rfl) rfl
theorem q1064 : (Jvm.Cond.methodLink "LeftGloves" (356 : Nat) ({ cls := "LeftGloves", name := "isSpot", desc := "(I)Z" } : Jvm.MethodName)) ∈ lw_all := lw_g (lw_at lw_m5 14 rfl) rfl
theorem q1065 : (Jvm.Cond.static ({ cls := "LeftGloves", name := "isSpot", desc := "(I)Z" } : Jvm.MethodName)) ∈ lw_all := lw_g (lw_at lw_m5 15 rfl) rfl
theorem q1066 : (Jvm.Cond.code ({ cls := "LeftGloves", name := "isSpot", desc := "(I)Z" } : Jvm.MethodName) prog_1_method_5_code (1 : Nat) (Option.some Jvm.ClassFile.FieldType.boolean)) ∈ lw_all := lw_g (lw_at lw_m5 16 rfl) rfl
theorem q1068 : (Jvm.Cond.instanceMethod ({ cls := "LeftGloves", name := "as", desc := "(II)I" } : Jvm.MethodName)) ∈ lw_all := lw_g (lw_at lw_m5 18 rfl) rfl
theorem q1069 : (Jvm.Cond.selects "LeftGloves" ({ cls := "LeftGloves", name := "as", desc := "(II)I" } : Jvm.MethodName) ({ cls := "LeftGloves", name := "as", desc := "(II)I" } : Jvm.MethodName)) ∈ lw_all := lw_g (lw_at lw_m5 19 rfl) rfl
theorem q1070 : (Jvm.Cond.code ({ cls := "LeftGloves", name := "as", desc := "(II)I" } : Jvm.MethodName) prog_1_method_79_code (5 : Nat) (Option.some Jvm.ClassFile.FieldType.int)) ∈ lw_all := lw_g (lw_at lw_m5 20 rfl) rfl
theorem q1071 : (Jvm.Cond.methodLink "LeftGloves" (359 : Nat) ({ cls := "LeftGloves", name := "thingAt", desc := "(I)Ljava/lang/Object;" } : Jvm.MethodName)) ∈ lw_all := lw_g (lw_at lw_m5 21 rfl) rfl
theorem q1072 : (Jvm.Cond.privateMethod ({ cls := "LeftGloves", name := "thingAt", desc := "(I)Ljava/lang/Object;" } : Jvm.MethodName)) ∈ lw_tbl := lw_at lw_m5 22 rfl
theorem q1073 : (Jvm.Cond.instanceMethod ({ cls := "LeftGloves", name := "thingAt", desc := "(I)Ljava/lang/Object;" } : Jvm.MethodName)) ∈ lw_all := lw_g (lw_at lw_m5 23 rfl) rfl
theorem q1074 : (Jvm.Cond.code ({ cls := "LeftGloves", name := "thingAt", desc := "(I)Ljava/lang/Object;" } : Jvm.MethodName) prog_1_method_75_code (3 : Nat) (Option.some (Jvm.ClassFile.FieldType.object "java/lang/Object"))) ∈ lw_all := lw_g (lw_at lw_m5 24 rfl) rfl
theorem q1075 : (Jvm.Cond.methodLink "LeftGloves" (362 : Nat) ({ cls := "LeftGloves$Glove", name := "isUnder", desc := "(I)Z" } : Jvm.MethodName)) ∈ lw_all := lw_g (lw_at lw_m5 25 rfl) rfl
theorem q1096 : (Jvm.Cond.methodLink "LeftGloves" (365 : Nat) ({ cls := "LeftGloves", name := "cast", desc := "(Ljava/lang/Object;I)LLeftGloves$Glove;" } : Jvm.MethodName)) ∈ lw_all := lw_g (lw_at lw_m5 46 rfl) rfl
theorem q1097 : (Jvm.Cond.static ({ cls := "LeftGloves", name := "cast", desc := "(Ljava/lang/Object;I)LLeftGloves$Glove;" } : Jvm.MethodName)) ∈ lw_all := lw_g (lw_at lw_m5 47 rfl) rfl
theorem q1098 : (Jvm.Cond.code ({ cls := "LeftGloves", name := "cast", desc := "(Ljava/lang/Object;I)LLeftGloves$Glove;" } : Jvm.MethodName) prog_1_method_78_code (2 : Nat) (Option.some (Jvm.ClassFile.FieldType.object "LeftGloves$Glove"))) ∈ lw_all := lw_g (lw_at lw_m5 48 rfl) rfl
theorem q1100 : (Jvm.Cond.instanceMethod ({ cls := "LeftGloves", name := "sheet", desc := "(III)I" } : Jvm.MethodName)) ∈ lw_all := lw_g (lw_at lw_m5 50 rfl) rfl
theorem q1101 : (Jvm.Cond.selects "LeftGloves" ({ cls := "LeftGloves", name := "sheet", desc := "(III)I" } : Jvm.MethodName) ({ cls := "LeftGloves", name := "sheet", desc := "(III)I" } : Jvm.MethodName)) ∈ lw_all := lw_g (lw_at lw_m5 51 rfl) rfl
theorem q1102 : (Jvm.Cond.code ({ cls := "LeftGloves", name := "sheet", desc := "(III)I" } : Jvm.MethodName) prog_1_method_80_code (4 : Nat) (Option.some Jvm.ClassFile.FieldType.int)) ∈ lw_all := lw_g (lw_at lw_m5 52 rfl) rfl
theorem q1105 : (Jvm.Cond.instanceMethod ({ cls := "LeftGloves", name := "write", desc := "(III)I" } : Jvm.MethodName)) ∈ lw_all := lw_g (lw_at lw_m5 55 rfl) rfl
theorem q1106 : (Jvm.Cond.selects "LeftGloves" ({ cls := "LeftGloves", name := "write", desc := "(III)I" } : Jvm.MethodName) ({ cls := "LeftGloves", name := "write", desc := "(III)I" } : Jvm.MethodName)) ∈ lw_all := lw_g (lw_at lw_m5 56 rfl) rfl
theorem q1107 : (Jvm.Cond.codeWith ({ cls := "LeftGloves", name := "write", desc := "(III)I" } : Jvm.MethodName) prog_1_method_86_code (5 : Nat) (Option.some Jvm.ClassFile.FieldType.int) [((0 : Nat), (47 : Nat), (48 : Nat), (62 : Nat))]) ∈ lw_all := lw_g (lw_at lw_m5 57 rfl) rfl
theorem q1108 : (Jvm.Cond.methodLink "LeftGloves" (378 : Nat) ({ cls := "LeftGloves", name := "lay", desc := "(Ljava/lang/Object;II)V" } : Jvm.MethodName)) ∈ lw_all := lw_g (lw_at lw_m5 58 rfl) rfl
theorem q1109 : (Jvm.Cond.static ({ cls := "LeftGloves", name := "lay", desc := "(Ljava/lang/Object;II)V" } : Jvm.MethodName)) ∈ lw_all := lw_g (lw_at lw_m5 59 rfl) rfl
theorem q1110 : (Jvm.Cond.code ({ cls := "LeftGloves", name := "lay", desc := "(Ljava/lang/Object;II)V" } : Jvm.MethodName) prog_1_method_85_code (3 : Nat) (Option.none : Option Jvm.ClassFile.FieldType)) ∈ lw_all := lw_g (lw_at lw_m5 60 rfl) rfl
theorem q1112 : (Jvm.Cond.instanceMethod ({ cls := "LeftGloves", name := "copy", desc := "(IIIII)I" } : Jvm.MethodName)) ∈ lw_all := lw_g (lw_at lw_m5 62 rfl) rfl
theorem q1113 : (Jvm.Cond.selects "LeftGloves" ({ cls := "LeftGloves", name := "copy", desc := "(IIIII)I" } : Jvm.MethodName) ({ cls := "LeftGloves", name := "copy", desc := "(IIIII)I" } : Jvm.MethodName)) ∈ lw_all := lw_g (lw_at lw_m5 63 rfl) rfl
theorem q1114 : (Jvm.Cond.codeWith ({ cls := "LeftGloves", name := "copy", desc := "(IIIII)I" } : Jvm.MethodName) prog_1_method_88_code (8 : Nat) (Option.some Jvm.ClassFile.FieldType.int) [((0 : Nat), (120 : Nat), (121 : Nat), (62 : Nat))]) ∈ lw_all := lw_g (lw_at lw_m5 64 rfl) rfl
theorem q1115 : (Jvm.Cond.methodLink "LeftGloves" (388 : Nat) ({ cls := "LeftGloves", name := "widthOf", desc := "(Ljava/lang/Object;)I" } : Jvm.MethodName)) ∈ lw_all := lw_g (lw_at lw_m5 65 rfl) rfl
theorem q1116 : (Jvm.Cond.static ({ cls := "LeftGloves", name := "widthOf", desc := "(Ljava/lang/Object;)I" } : Jvm.MethodName)) ∈ lw_all := lw_g (lw_at lw_m5 66 rfl) rfl
theorem q1117 : (Jvm.Cond.code ({ cls := "LeftGloves", name := "widthOf", desc := "(Ljava/lang/Object;)I" } : Jvm.MethodName) prog_1_method_84_code (1 : Nat) (Option.some Jvm.ClassFile.FieldType.int)) ∈ lw_all := lw_g (lw_at lw_m5 67 rfl) rfl
theorem q1118 : (Jvm.Cond.methodLink "LeftGloves" (391 : Nat) ({ cls := "LeftGloves", name := "slide", desc := "(Ljava/lang/Object;ILjava/lang/Object;II)V" } : Jvm.MethodName)) ∈ lw_all := lw_g (lw_at lw_m5 68 rfl) rfl
theorem q1119 : (Jvm.Cond.static ({ cls := "LeftGloves", name := "slide", desc := "(Ljava/lang/Object;ILjava/lang/Object;II)V" } : Jvm.MethodName)) ∈ lw_all := lw_g (lw_at lw_m5 69 rfl) rfl
theorem q1120 : (Jvm.Cond.code ({ cls := "LeftGloves", name := "slide", desc := "(Ljava/lang/Object;ILjava/lang/Object;II)V" } : Jvm.MethodName) prog_1_method_87_code (5 : Nat) (Option.none : Option Jvm.ClassFile.FieldType)) ∈ lw_all := lw_g (lw_at lw_m5 70 rfl) rfl
theorem q1121 : (Jvm.Cond.methodLink "LeftGloves" (382 : Nat) ({ cls := "java/lang/System", name := "arraycopy", desc := "(Ljava/lang/Object;ILjava/lang/Object;II)V" } : Jvm.MethodName)) ∈ lw_all := lw_g (lw_at lw_m5 71 rfl) rfl
theorem q1123 : (Jvm.Cond.instanceMethod ({ cls := "LeftGloves", name := "load", desc := "(I)I" } : Jvm.MethodName)) ∈ lw_all := lw_g (lw_at lw_m5 73 rfl) rfl
theorem q1124 : (Jvm.Cond.selects "LeftGloves" ({ cls := "LeftGloves", name := "load", desc := "(I)I" } : Jvm.MethodName) ({ cls := "LeftGloves", name := "load", desc := "(I)I" } : Jvm.MethodName)) ∈ lw_all := lw_g (lw_at lw_m5 74 rfl) rfl
theorem q1125 : (Jvm.Cond.codeWith ({ cls := "LeftGloves", name := "load", desc := "(I)I" } : Jvm.MethodName) prog_1_method_90_code (3 : Nat) (Option.some Jvm.ClassFile.FieldType.int) [((0 : Nat), (25 : Nat), (26 : Nat), (62 : Nat))]) ∈ lw_all := lw_g (lw_at lw_m5 75 rfl) rfl
theorem q1126 : (Jvm.Cond.methodLink "LeftGloves" (394 : Nat) ({ cls := "LeftGloves", name := "loads", desc := "(Ljava/lang/Object;)I" } : Jvm.MethodName)) ∈ lw_all := lw_g (lw_at lw_m5 76 rfl) rfl
theorem q1127 : (Jvm.Cond.privateMethod ({ cls := "LeftGloves", name := "loads", desc := "(Ljava/lang/Object;)I" } : Jvm.MethodName)) ∈ lw_tbl := lw_at lw_m5 77 rfl
theorem q1128 : (Jvm.Cond.instanceMethod ({ cls := "LeftGloves", name := "loads", desc := "(Ljava/lang/Object;)I" } : Jvm.MethodName)) ∈ lw_all := lw_g (lw_at lw_m5 78 rfl) rfl
theorem q1129 : (Jvm.Cond.code ({ cls := "LeftGloves", name := "loads", desc := "(Ljava/lang/Object;)I" } : Jvm.MethodName) prog_1_method_89_code (3 : Nat) (Option.some Jvm.ClassFile.FieldType.int)) ∈ lw_all := lw_g (lw_at lw_m5 79 rfl) rfl
theorem q1131 : (Jvm.Cond.instanceMethod ({ cls := "LeftGloves", name := "judge", desc := "(I)I" } : Jvm.MethodName)) ∈ lw_all := lw_g (lw_at lw_m5 81 rfl) rfl
theorem q1132 : (Jvm.Cond.selects "LeftGloves" ({ cls := "LeftGloves", name := "judge", desc := "(I)I" } : Jvm.MethodName) ({ cls := "LeftGloves", name := "judge", desc := "(I)I" } : Jvm.MethodName)) ∈ lw_all := lw_g (lw_at lw_m5 82 rfl) rfl
theorem q1133 : (Jvm.Cond.codeWith ({ cls := "LeftGloves", name := "judge", desc := "(I)I" } : Jvm.MethodName) prog_1_method_91_code (4 : Nat) (Option.some Jvm.ClassFile.FieldType.int) [((0 : Nat), (78 : Nat), (79 : Nat), (62 : Nat))]) ∈ lw_all := lw_g (lw_at lw_m5 83 rfl) rfl
theorem q1135 : (Jvm.Cond.instanceMethod ({ cls := "LeftGloves", name := "image", desc := "()I" } : Jvm.MethodName)) ∈ lw_all := lw_g (lw_at lw_m5 85 rfl) rfl
theorem q1136 : (Jvm.Cond.selects "LeftGloves" ({ cls := "LeftGloves", name := "image", desc := "()I" } : Jvm.MethodName) ({ cls := "LeftGloves", name := "image", desc := "()I" } : Jvm.MethodName)) ∈ lw_all := lw_g (lw_at lw_m5 86 rfl) rfl
theorem q1137 : (Jvm.Cond.code ({ cls := "LeftGloves", name := "image", desc := "()I" } : Jvm.MethodName) prog_1_method_92_code (1 : Nat) (Option.some Jvm.ClassFile.FieldType.int)) ∈ lw_all := lw_g (lw_at lw_m5 87 rfl) rfl
theorem q1139 : (Jvm.Cond.instanceMethod ({ cls := "LeftGloves", name := "undo", desc := "()I" } : Jvm.MethodName)) ∈ lw_all := lw_g (lw_at lw_m5 89 rfl) rfl
theorem q1140 : (Jvm.Cond.selects "LeftGloves" ({ cls := "LeftGloves", name := "undo", desc := "()I" } : Jvm.MethodName) ({ cls := "LeftGloves", name := "undo", desc := "()I" } : Jvm.MethodName)) ∈ lw_all := lw_g (lw_at lw_m5 90 rfl) rfl
theorem q1141 : (Jvm.Cond.code ({ cls := "LeftGloves", name := "undo", desc := "()I" } : Jvm.MethodName) prog_1_method_93_code (1 : Nat) (Option.some Jvm.ClassFile.FieldType.int)) ∈ lw_all := lw_g (lw_at lw_m5 91 rfl) rfl
theorem q1143 : (Jvm.Cond.instanceMethod ({ cls := "LeftGloves", name := "tear", desc := "()I" } : Jvm.MethodName)) ∈ lw_all := lw_g (lw_at lw_m5 93 rfl) rfl
theorem q1144 : (Jvm.Cond.selects "LeftGloves" ({ cls := "LeftGloves", name := "tear", desc := "()I" } : Jvm.MethodName) ({ cls := "LeftGloves", name := "tear", desc := "()I" } : Jvm.MethodName)) ∈ lw_all := lw_g (lw_at lw_m5 94 rfl) rfl
theorem q1145 : (Jvm.Cond.code ({ cls := "LeftGloves", name := "tear", desc := "()I" } : Jvm.MethodName) prog_1_method_94_code (2 : Nat) (Option.some Jvm.ClassFile.FieldType.int)) ∈ lw_all := lw_g (lw_at lw_m5 95 rfl) rfl
theorem q1147 : (Jvm.Cond.instanceMethod ({ cls := "LeftGloves", name := "count", desc := "(I)I" } : Jvm.MethodName)) ∈ lw_all := lw_g (lw_at lw_m5 97 rfl) rfl
theorem q1148 : (Jvm.Cond.selects "LeftGloves" ({ cls := "LeftGloves", name := "count", desc := "(I)I" } : Jvm.MethodName) ({ cls := "LeftGloves", name := "count", desc := "(I)I" } : Jvm.MethodName)) ∈ lw_all := lw_g (lw_at lw_m5 98 rfl) rfl
theorem q1149 : (Jvm.Cond.code ({ cls := "LeftGloves", name := "count", desc := "(I)I" } : Jvm.MethodName) prog_1_method_95_code (2 : Nat) (Option.some Jvm.ClassFile.FieldType.int)) ∈ lw_all := lw_g (lw_at lw_m5 99 rfl) rfl
theorem q1150 : (Jvm.Cond.methodLink "LeftGloves" (401 : Nat) ({ cls := "LeftGloves", name := "holding", desc := "()I" } : Jvm.MethodName)) ∈ lw_all := lw_g (lw_at lw_m5 100 rfl) rfl
theorem q1151 : (Jvm.Cond.privateMethod ({ cls := "LeftGloves", name := "holding", desc := "()I" } : Jvm.MethodName)) ∈ lw_tbl := lw_at lw_m5 101 rfl
theorem q1152 : (Jvm.Cond.instanceMethod ({ cls := "LeftGloves", name := "holding", desc := "()I" } : Jvm.MethodName)) ∈ lw_all := lw_g (lw_at lw_m5 102 rfl) rfl
theorem q1153 : (Jvm.Cond.code ({ cls := "LeftGloves", name := "holding", desc := "()I" } : Jvm.MethodName) prog_1_method_76_code (6 : Nat) (Option.some Jvm.ClassFile.FieldType.int)) ∈ lw_all := lw_g (lw_at lw_m5 103 rfl) rfl
theorem q1155 : (Jvm.Cond.instanceMethod ({ cls := "LeftGloves", name := "status", desc := "(I)I" } : Jvm.MethodName)) ∈ lw_all := lw_g (lw_at lw_m5 105 rfl) rfl
theorem q1156 : (Jvm.Cond.selects "LeftGloves" ({ cls := "LeftGloves", name := "status", desc := "(I)I" } : Jvm.MethodName) ({ cls := "LeftGloves", name := "status", desc := "(I)I" } : Jvm.MethodName)) ∈ lw_all := lw_g (lw_at lw_m5 106 rfl) rfl
theorem q1157 : (Jvm.Cond.code ({ cls := "LeftGloves", name := "status", desc := "(I)I" } : Jvm.MethodName) prog_1_method_96_code (4 : Nat) (Option.some Jvm.ClassFile.FieldType.int)) ∈ lw_all := lw_g (lw_at lw_m5 107 rfl) rfl
theorem in_X0 : ∀ w ∈ wsX00, w ∈ lw_all := lw_in wsX00 [409, 411, 413, 415, 417, 419, 421, 423, 425, 427, 429] (by decide +kernel) (by decide +kernel)
