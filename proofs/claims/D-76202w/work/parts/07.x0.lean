/-! ThunderCasks -/
set_option maxRecDepth 100000
def RX0 : String := "ThunderCasks"
def TX0 : u_T := fun k => match k with
  | 0 => ("ThunderCasks", "refusal", "LThunderCasks$Refusal;", true)
  | 1 => ("ThunderCasks", "reader", "LThunderCasks$Reader;", true)
  | 2 => ("ThunderCasks", "taped", "I", false)
  | 3 => ("ThunderCasks", "d", "LThunderCasks$World;", true)
  | 4 => ("ThunderCasks", "kept", "LThunderCasks$World;", true)
  | 5 => ("ThunderCasks", "aside", "LThunderCasks$World;", true)
  | 6 => ("ThunderCasks", "isKept", "Z", false)
  | 7 => ("ThunderCasks", "casks", "[LThunderCasks$Slot;", true)
  | 8 => ("ThunderCasks", "spots", "[LThunderCasks$Slot;", true)
  | 9 => ("ThunderCasks", "sheets", "[LThunderCasks$Slot;", true)
  | 10 => ("ThunderCasks", "findings", "[I", true)
  | _ => ("ThunderCasks", "firstFit", "I", false)
def tyX0 : Nat → FieldType := fun k => match k with
  | 0 => .object "ThunderCasks$Refusal"
  | 1 => .object "ThunderCasks$Reader"
  | 2 => .int
  | 3 => .object "ThunderCasks$World"
  | 4 => .object "ThunderCasks$World"
  | 5 => .object "ThunderCasks$World"
  | 6 => .boolean
  | 7 => .array (.object "ThunderCasks$Slot")
  | 8 => .array (.object "ThunderCasks$Slot")
  | 9 => .array (.object "ThunderCasks$Slot")
  | 10 => .array .int
  | _ => .int
abbrev wsX00 : List Cond := u_ws RX0 TX0 12
theorem nmX0 : ∀ a, a < 12 → ∀ b, b < 12 → a ≠ b → (TX0 a).2.1 ≠ (TX0 b).2.1 := by decide +kernel
theorem tyX0_ok : ∀ k, k < 12 → parseFieldDescriptor (TX0 k).2.2.1 = some (tyX0 k) := by decide +kernel
abbrev cX0_init : ByteArray := prog_1_method_12_code
def yX0_init : MethodName := ⟨RX0, "<init>", "()V"⟩
def dkwX0_init_8 : List UInt8 := [183, 0, 92, 83, 132, 1, 1, 167, 255, 235, 177]
abbrev dktX0_init_8 : List UInt8 := dkwX0_init_8 ++ []
def dkwX0_init_7 : List UInt8 := [132, 1, 1, 167, 255, 234, 3, 60, 27, 7, 162, 0, 22, 42, 180, 0, 85, 27, 187, 0, 76, 89]
abbrev dktX0_init_7 : List UInt8 := dkwX0_init_7 ++ dktX0_init_8
def dkwX0_init_6 : List UInt8 := [167, 255, 213, 3, 60, 27, 16, 10, 162, 0, 22, 42, 180, 0, 82, 27, 187, 0, 76, 89, 183, 0, 92, 83]
abbrev dktX0_init_6 : List UInt8 := dkwX0_init_6 ++ dktX0_init_7
def dkwX0_init_5 : List UInt8 := [180, 0, 78, 27, 50, 42, 27, 16, 8, 108, 27, 16, 8, 112, 182, 0, 93, 181, 0, 97, 132, 1, 1]
abbrev dktX0_init_5 : List UInt8 := dkwX0_init_5 ++ dktX0_init_6
def dkwX0_init_4 : List UInt8 := [3, 60, 27, 16, 56, 162, 0, 43, 42, 180, 0, 78, 27, 187, 0, 76, 89, 183, 0, 92, 83, 42]
abbrev dktX0_init_4 : List UInt8 := dkwX0_init_4 ++ dktX0_init_5
def dkwX0_init_3 : List UInt8 := [16, 10, 189, 0, 76, 181, 0, 82, 42, 7, 189, 0, 76, 181, 0, 85, 42, 16, 7, 188, 10, 181, 0, 88]
abbrev dktX0_init_3 : List UInt8 := dkwX0_init_3 ++ dktX0_init_4
def dkwX0_init_2 : List UInt8 := [181, 0, 70, 42, 187, 0, 63, 89, 183, 0, 65, 181, 0, 73, 42, 16, 56, 189, 0, 76, 181, 0, 78, 42]
abbrev dktX0_init_2 : List UInt8 := dkwX0_init_2 ++ dktX0_init_3
def dkwX0_init_1 : List UInt8 := [181, 0, 59, 42, 187, 0, 63, 89, 183, 0, 65, 181, 0, 66, 42, 187, 0, 63, 89, 183, 0, 65]
abbrev dktX0_init_1 : List UInt8 := dkwX0_init_1 ++ dktX0_init_2
def dkwX0_init_0 : List UInt8 := [42, 183, 0, 44, 42, 187, 0, 49, 89, 183, 0, 51, 181, 0, 52, 42, 187, 0, 56, 89, 183, 0, 58]
abbrev dktX0_init_0 : List UInt8 := dkwX0_init_0 ++ dktX0_init_1
theorem dksX0_init_0 : cX0_init.data.toList.drop 0 = dktX0_init_0 := by decide +kernel
theorem dksX0_init_1 : cX0_init.data.toList.drop 23 = dktX0_init_1 := dk_seg dksX0_init_0 23 rfl rfl
theorem dksX0_init_2 : cX0_init.data.toList.drop 45 = dktX0_init_2 := dk_seg dksX0_init_1 22 rfl rfl
theorem dksX0_init_3 : cX0_init.data.toList.drop 69 = dktX0_init_3 := dk_seg dksX0_init_2 24 rfl rfl
theorem dksX0_init_4 : cX0_init.data.toList.drop 93 = dktX0_init_4 := dk_seg dksX0_init_3 24 rfl rfl
theorem dksX0_init_5 : cX0_init.data.toList.drop 115 = dktX0_init_5 := dk_seg dksX0_init_4 22 rfl rfl
theorem dksX0_init_6 : cX0_init.data.toList.drop 138 = dktX0_init_6 := dk_seg dksX0_init_5 23 rfl rfl
theorem dksX0_init_7 : cX0_init.data.toList.drop 162 = dktX0_init_7 := dk_seg dksX0_init_6 24 rfl rfl
theorem dksX0_init_8 : cX0_init.data.toList.drop 184 = dktX0_init_8 := dk_seg dksX0_init_7 22 rfl rfl
theorem dX0_init_0 : decode cX0_init 0 = .ok (.aload_n 0, 1) := dk_42 (dk_at dksX0_init_0 0 rfl rfl)
theorem dX0_init_1 : decode cX0_init 1 = .ok (.invokespecial 44, 3) := dk_183 0 44 (dk_at dksX0_init_0 1 rfl rfl)
theorem dX0_init_4 : decode cX0_init 4 = .ok (.aload_n 0, 1) := dk_42 (dk_at dksX0_init_0 4 rfl rfl)
theorem dX0_init_5 : decode cX0_init 5 = .ok (.new 49, 3) := dk_187 0 49 (dk_at dksX0_init_0 5 rfl rfl)
theorem dX0_init_8 : decode cX0_init 8 = .ok (.dup, 1) := dk_89 (dk_at dksX0_init_0 8 rfl rfl)
theorem dX0_init_9 : decode cX0_init 9 = .ok (.invokespecial 51, 3) := dk_183 0 51 (dk_at dksX0_init_0 9 rfl rfl)
theorem dX0_init_12 : decode cX0_init 12 = .ok (.putfield 52, 3) := dk_181 0 52 (dk_at dksX0_init_0 12 rfl rfl)
theorem dX0_init_15 : decode cX0_init 15 = .ok (.aload_n 0, 1) := dk_42 (dk_at dksX0_init_0 15 rfl rfl)
theorem dX0_init_16 : decode cX0_init 16 = .ok (.new 56, 3) := dk_187 0 56 (dk_at dksX0_init_0 16 rfl rfl)
theorem dX0_init_19 : decode cX0_init 19 = .ok (.dup, 1) := dk_89 (dk_at dksX0_init_0 19 rfl rfl)
theorem dX0_init_20 : decode cX0_init 20 = .ok (.invokespecial 58, 3) := dk_183 0 58 (dk_at dksX0_init_0 20 rfl rfl)
theorem dX0_init_23 : decode cX0_init 23 = .ok (.putfield 59, 3) := dk_181 0 59 (dk_at dksX0_init_1 0 rfl rfl)
theorem dX0_init_26 : decode cX0_init 26 = .ok (.aload_n 0, 1) := dk_42 (dk_at dksX0_init_1 3 rfl rfl)
theorem dX0_init_27 : decode cX0_init 27 = .ok (.new 63, 3) := dk_187 0 63 (dk_at dksX0_init_1 4 rfl rfl)
theorem dX0_init_30 : decode cX0_init 30 = .ok (.dup, 1) := dk_89 (dk_at dksX0_init_1 7 rfl rfl)
theorem dX0_init_31 : decode cX0_init 31 = .ok (.invokespecial 65, 3) := dk_183 0 65 (dk_at dksX0_init_1 8 rfl rfl)
theorem dX0_init_34 : decode cX0_init 34 = .ok (.putfield 66, 3) := dk_181 0 66 (dk_at dksX0_init_1 11 rfl rfl)
theorem dX0_init_37 : decode cX0_init 37 = .ok (.aload_n 0, 1) := dk_42 (dk_at dksX0_init_1 14 rfl rfl)
theorem dX0_init_38 : decode cX0_init 38 = .ok (.new 63, 3) := dk_187 0 63 (dk_at dksX0_init_1 15 rfl rfl)
theorem dX0_init_41 : decode cX0_init 41 = .ok (.dup, 1) := dk_89 (dk_at dksX0_init_1 18 rfl rfl)
theorem dX0_init_42 : decode cX0_init 42 = .ok (.invokespecial 65, 3) := dk_183 0 65 (dk_at dksX0_init_1 19 rfl rfl)
theorem dX0_init_45 : decode cX0_init 45 = .ok (.putfield 70, 3) := dk_181 0 70 (dk_at dksX0_init_2 0 rfl rfl)
theorem dX0_init_48 : decode cX0_init 48 = .ok (.aload_n 0, 1) := dk_42 (dk_at dksX0_init_2 3 rfl rfl)
theorem dX0_init_49 : decode cX0_init 49 = .ok (.new 63, 3) := dk_187 0 63 (dk_at dksX0_init_2 4 rfl rfl)
theorem dX0_init_52 : decode cX0_init 52 = .ok (.dup, 1) := dk_89 (dk_at dksX0_init_2 7 rfl rfl)
theorem dX0_init_53 : decode cX0_init 53 = .ok (.invokespecial 65, 3) := dk_183 0 65 (dk_at dksX0_init_2 8 rfl rfl)
theorem dX0_init_56 : decode cX0_init 56 = .ok (.putfield 73, 3) := dk_181 0 73 (dk_at dksX0_init_2 11 rfl rfl)
theorem dX0_init_59 : decode cX0_init 59 = .ok (.aload_n 0, 1) := dk_42 (dk_at dksX0_init_2 14 rfl rfl)
theorem dX0_init_60 : decode cX0_init 60 = .ok (.bipush 56, 2) := dk_16 56 (dk_at dksX0_init_2 15 rfl rfl)
theorem dX0_init_62 : decode cX0_init 62 = .ok (.anewarray 76, 3) := dk_189 0 76 (dk_at dksX0_init_2 17 rfl rfl)
theorem dX0_init_65 : decode cX0_init 65 = .ok (.putfield 78, 3) := dk_181 0 78 (dk_at dksX0_init_2 20 rfl rfl)
theorem dX0_init_68 : decode cX0_init 68 = .ok (.aload_n 0, 1) := dk_42 (dk_at dksX0_init_2 23 rfl rfl)
theorem dX0_init_69 : decode cX0_init 69 = .ok (.bipush 10, 2) := dk_16 10 (dk_at dksX0_init_3 0 rfl rfl)
theorem dX0_init_71 : decode cX0_init 71 = .ok (.anewarray 76, 3) := dk_189 0 76 (dk_at dksX0_init_3 2 rfl rfl)
theorem dX0_init_74 : decode cX0_init 74 = .ok (.putfield 82, 3) := dk_181 0 82 (dk_at dksX0_init_3 5 rfl rfl)
theorem dX0_init_77 : decode cX0_init 77 = .ok (.aload_n 0, 1) := dk_42 (dk_at dksX0_init_3 8 rfl rfl)
theorem dX0_init_78 : decode cX0_init 78 = .ok (.iconst 4, 1) := dk_7 (dk_at dksX0_init_3 9 rfl rfl)
theorem dX0_init_79 : decode cX0_init 79 = .ok (.anewarray 76, 3) := dk_189 0 76 (dk_at dksX0_init_3 10 rfl rfl)
theorem dX0_init_82 : decode cX0_init 82 = .ok (.putfield 85, 3) := dk_181 0 85 (dk_at dksX0_init_3 13 rfl rfl)
theorem dX0_init_85 : decode cX0_init 85 = .ok (.aload_n 0, 1) := dk_42 (dk_at dksX0_init_3 16 rfl rfl)
theorem dX0_init_86 : decode cX0_init 86 = .ok (.bipush 7, 2) := dk_16 7 (dk_at dksX0_init_3 17 rfl rfl)
theorem dX0_init_88 : decode cX0_init 88 = .ok (.newarray .int, 2) := dk_188_10 (dk_at dksX0_init_3 19 rfl rfl)
theorem dX0_init_90 : decode cX0_init 90 = .ok (.putfield 88, 3) := dk_181 0 88 (dk_at dksX0_init_3 21 rfl rfl)
theorem dX0_init_93 : decode cX0_init 93 = .ok (.iconst 0, 1) := dk_3 (dk_at dksX0_init_4 0 rfl rfl)
theorem dX0_init_94 : decode cX0_init 94 = .ok (.istore_n 1, 1) := dk_60 (dk_at dksX0_init_4 1 rfl rfl)
theorem dX0_init_95 : decode cX0_init 95 = .ok (.iload_n 1, 1) := dk_27 (dk_at dksX0_init_4 2 rfl rfl)
theorem dX0_init_96 : decode cX0_init 96 = .ok (.bipush 56, 2) := dk_16 56 (dk_at dksX0_init_4 3 rfl rfl)
theorem dX0_init_98 : decode cX0_init 98 = .ok (.if_icmp .ge 43, 3) := dk_162 0 43 (dk_at dksX0_init_4 5 rfl rfl)
theorem dX0_init_101 : decode cX0_init 101 = .ok (.aload_n 0, 1) := dk_42 (dk_at dksX0_init_4 8 rfl rfl)
theorem dX0_init_102 : decode cX0_init 102 = .ok (.getfield 78, 3) := dk_180 0 78 (dk_at dksX0_init_4 9 rfl rfl)
theorem dX0_init_105 : decode cX0_init 105 = .ok (.iload_n 1, 1) := dk_27 (dk_at dksX0_init_4 12 rfl rfl)
theorem dX0_init_106 : decode cX0_init 106 = .ok (.new 76, 3) := dk_187 0 76 (dk_at dksX0_init_4 13 rfl rfl)
theorem dX0_init_109 : decode cX0_init 109 = .ok (.dup, 1) := dk_89 (dk_at dksX0_init_4 16 rfl rfl)
theorem dX0_init_110 : decode cX0_init 110 = .ok (.invokespecial 92, 3) := dk_183 0 92 (dk_at dksX0_init_4 17 rfl rfl)
theorem dX0_init_113 : decode cX0_init 113 = .ok (.aastore, 1) := dk_83 (dk_at dksX0_init_4 20 rfl rfl)
theorem dX0_init_114 : decode cX0_init 114 = .ok (.aload_n 0, 1) := dk_42 (dk_at dksX0_init_4 21 rfl rfl)
theorem dX0_init_115 : decode cX0_init 115 = .ok (.getfield 78, 3) := dk_180 0 78 (dk_at dksX0_init_5 0 rfl rfl)
theorem dX0_init_118 : decode cX0_init 118 = .ok (.iload_n 1, 1) := dk_27 (dk_at dksX0_init_5 3 rfl rfl)
theorem dX0_init_119 : decode cX0_init 119 = .ok (.aaload, 1) := dk_50 (dk_at dksX0_init_5 4 rfl rfl)
theorem dX0_init_120 : decode cX0_init 120 = .ok (.aload_n 0, 1) := dk_42 (dk_at dksX0_init_5 5 rfl rfl)
theorem dX0_init_121 : decode cX0_init 121 = .ok (.iload_n 1, 1) := dk_27 (dk_at dksX0_init_5 6 rfl rfl)
theorem dX0_init_122 : decode cX0_init 122 = .ok (.bipush 8, 2) := dk_16 8 (dk_at dksX0_init_5 7 rfl rfl)
theorem dX0_init_124 : decode cX0_init 124 = .ok (.idiv, 1) := dk_108 (dk_at dksX0_init_5 9 rfl rfl)
theorem dX0_init_125 : decode cX0_init 125 = .ok (.iload_n 1, 1) := dk_27 (dk_at dksX0_init_5 10 rfl rfl)
theorem dX0_init_126 : decode cX0_init 126 = .ok (.bipush 8, 2) := dk_16 8 (dk_at dksX0_init_5 11 rfl rfl)
theorem dX0_init_128 : decode cX0_init 128 = .ok (.irem, 1) := dk_112 (dk_at dksX0_init_5 13 rfl rfl)
theorem dX0_init_129 : decode cX0_init 129 = .ok (.invokevirtual 93, 3) := dk_182 0 93 (dk_at dksX0_init_5 14 rfl rfl)
theorem dX0_init_132 : decode cX0_init 132 = .ok (.putfield 97, 3) := dk_181 0 97 (dk_at dksX0_init_5 17 rfl rfl)
theorem dX0_init_135 : decode cX0_init 135 = .ok (.iinc 1 1, 3) := dk_132 1 1 (dk_at dksX0_init_5 20 rfl rfl)
theorem dX0_init_138 : decode cX0_init 138 = .ok (.goto (-43), 3) := dk_167 255 213 (dk_at dksX0_init_6 0 rfl rfl)
theorem dX0_init_141 : decode cX0_init 141 = .ok (.iconst 0, 1) := dk_3 (dk_at dksX0_init_6 3 rfl rfl)
theorem dX0_init_142 : decode cX0_init 142 = .ok (.istore_n 1, 1) := dk_60 (dk_at dksX0_init_6 4 rfl rfl)
theorem dX0_init_143 : decode cX0_init 143 = .ok (.iload_n 1, 1) := dk_27 (dk_at dksX0_init_6 5 rfl rfl)
theorem dX0_init_144 : decode cX0_init 144 = .ok (.bipush 10, 2) := dk_16 10 (dk_at dksX0_init_6 6 rfl rfl)
theorem dX0_init_146 : decode cX0_init 146 = .ok (.if_icmp .ge 22, 3) := dk_162 0 22 (dk_at dksX0_init_6 8 rfl rfl)
theorem dX0_init_149 : decode cX0_init 149 = .ok (.aload_n 0, 1) := dk_42 (dk_at dksX0_init_6 11 rfl rfl)
theorem dX0_init_150 : decode cX0_init 150 = .ok (.getfield 82, 3) := dk_180 0 82 (dk_at dksX0_init_6 12 rfl rfl)
theorem dX0_init_153 : decode cX0_init 153 = .ok (.iload_n 1, 1) := dk_27 (dk_at dksX0_init_6 15 rfl rfl)
theorem dX0_init_154 : decode cX0_init 154 = .ok (.new 76, 3) := dk_187 0 76 (dk_at dksX0_init_6 16 rfl rfl)
theorem dX0_init_157 : decode cX0_init 157 = .ok (.dup, 1) := dk_89 (dk_at dksX0_init_6 19 rfl rfl)
theorem dX0_init_158 : decode cX0_init 158 = .ok (.invokespecial 92, 3) := dk_183 0 92 (dk_at dksX0_init_6 20 rfl rfl)
theorem dX0_init_161 : decode cX0_init 161 = .ok (.aastore, 1) := dk_83 (dk_at dksX0_init_6 23 rfl rfl)
theorem dX0_init_162 : decode cX0_init 162 = .ok (.iinc 1 1, 3) := dk_132 1 1 (dk_at dksX0_init_7 0 rfl rfl)
theorem dX0_init_165 : decode cX0_init 165 = .ok (.goto (-22), 3) := dk_167 255 234 (dk_at dksX0_init_7 3 rfl rfl)
theorem dX0_init_168 : decode cX0_init 168 = .ok (.iconst 0, 1) := dk_3 (dk_at dksX0_init_7 6 rfl rfl)
theorem dX0_init_169 : decode cX0_init 169 = .ok (.istore_n 1, 1) := dk_60 (dk_at dksX0_init_7 7 rfl rfl)
theorem dX0_init_170 : decode cX0_init 170 = .ok (.iload_n 1, 1) := dk_27 (dk_at dksX0_init_7 8 rfl rfl)
theorem dX0_init_171 : decode cX0_init 171 = .ok (.iconst 4, 1) := dk_7 (dk_at dksX0_init_7 9 rfl rfl)
theorem dX0_init_172 : decode cX0_init 172 = .ok (.if_icmp .ge 22, 3) := dk_162 0 22 (dk_at dksX0_init_7 10 rfl rfl)
theorem dX0_init_175 : decode cX0_init 175 = .ok (.aload_n 0, 1) := dk_42 (dk_at dksX0_init_7 13 rfl rfl)
theorem dX0_init_176 : decode cX0_init 176 = .ok (.getfield 85, 3) := dk_180 0 85 (dk_at dksX0_init_7 14 rfl rfl)
theorem dX0_init_179 : decode cX0_init 179 = .ok (.iload_n 1, 1) := dk_27 (dk_at dksX0_init_7 17 rfl rfl)
theorem dX0_init_180 : decode cX0_init 180 = .ok (.new 76, 3) := dk_187 0 76 (dk_at dksX0_init_7 18 rfl rfl)
theorem dX0_init_183 : decode cX0_init 183 = .ok (.dup, 1) := dk_89 (dk_at dksX0_init_7 21 rfl rfl)
theorem dX0_init_184 : decode cX0_init 184 = .ok (.invokespecial 92, 3) := dk_183 0 92 (dk_at dksX0_init_8 0 rfl rfl)
theorem dX0_init_187 : decode cX0_init 187 = .ok (.aastore, 1) := dk_83 (dk_at dksX0_init_8 3 rfl rfl)
theorem dX0_init_188 : decode cX0_init 188 = .ok (.iinc 1 1, 3) := dk_132 1 1 (dk_at dksX0_init_8 4 rfl rfl)
theorem dX0_init_191 : decode cX0_init 191 = .ok (.goto (-21), 3) := dk_167 255 235 (dk_at dksX0_init_8 7 rfl rfl)
theorem dX0_init_194 : decode cX0_init 194 = .ok (.return_, 1) := dk_177 (dk_at dksX0_init_8 10 rfl rfl)
abbrev cX0_made : ByteArray := prog_1_method_11_code
def yX0_made : MethodName := ⟨RX0, "made", "(II)LThunderCasks$Cask;"⟩
def dkwX0_made_4 : List UInt8 := [183, 0, 37, 176, 187, 0, 38, 89, 42, 28, 183, 0, 40, 176, 187, 0, 41, 89, 42, 28, 183, 0, 43, 176]
abbrev dktX0_made_4 : List UInt8 := dkwX0_made_4 ++ []
def dkwX0_made_3 : List UInt8 := [42, 28, 183, 0, 31, 176, 187, 0, 32, 89, 42, 28, 183, 0, 34, 176, 187, 0, 35, 89, 42, 28]
abbrev dktX0_made_3 : List UInt8 := dkwX0_made_3 ++ dktX0_made_4
def dkwX0_made_2 : List UInt8 := [187, 0, 20, 89, 42, 28, 183, 0, 22, 176, 187, 0, 26, 89, 42, 28, 183, 0, 28, 176, 187, 0, 29, 89]
abbrev dktX0_made_2 : List UInt8 := dkwX0_made_2 ++ dktX0_made_3
def dkwX0_made_1 : List UInt8 := [170, 0, 0, 0, 0, 0, 99, 0, 0, 0, 1, 0, 0, 0, 6, 0, 0, 0, 39, 0, 0, 0, 49, 0, 0, 0, 59, 0, 0, 0, 69, 0, 0, 0, 79, 0, 0, 0, 89]
abbrev dktX0_made_1 : List UInt8 := dkwX0_made_1 ++ dktX0_made_2
def dkwX0_made_0 : List UInt8 := [27]
abbrev dktX0_made_0 : List UInt8 := dkwX0_made_0 ++ dktX0_made_1
theorem dksX0_made_0 : cX0_made.data.toList.drop 0 = dktX0_made_0 := by decide +kernel
theorem dksX0_made_1 : cX0_made.data.toList.drop 1 = dktX0_made_1 := dk_seg dksX0_made_0 1 rfl rfl
theorem dksX0_made_2 : cX0_made.data.toList.drop 40 = dktX0_made_2 := dk_seg dksX0_made_1 39 rfl rfl
theorem dksX0_made_3 : cX0_made.data.toList.drop 64 = dktX0_made_3 := dk_seg dksX0_made_2 24 rfl rfl
theorem dksX0_made_4 : cX0_made.data.toList.drop 86 = dktX0_made_4 := dk_seg dksX0_made_3 22 rfl rfl
theorem dX0_made_0 : decode cX0_made 0 = .ok (.iload_n 1, 1) := dk_27 (dk_at dksX0_made_0 0 rfl rfl)
theorem dX0_made_1 : decode cX0_made 1 = .ok (.tableswitch 99 1 6 #[39, 49, 59, 69, 79, 89], 39) := by decide +kernel
theorem dX0_made_40 : decode cX0_made 40 = .ok (.new 20, 3) := dk_187 0 20 (dk_at dksX0_made_2 0 rfl rfl)
theorem dX0_made_43 : decode cX0_made 43 = .ok (.dup, 1) := dk_89 (dk_at dksX0_made_2 3 rfl rfl)
theorem dX0_made_44 : decode cX0_made 44 = .ok (.aload_n 0, 1) := dk_42 (dk_at dksX0_made_2 4 rfl rfl)
theorem dX0_made_45 : decode cX0_made 45 = .ok (.iload_n 2, 1) := dk_28 (dk_at dksX0_made_2 5 rfl rfl)
theorem dX0_made_46 : decode cX0_made 46 = .ok (.invokespecial 22, 3) := dk_183 0 22 (dk_at dksX0_made_2 6 rfl rfl)
theorem dX0_made_49 : decode cX0_made 49 = .ok (.areturn, 1) := dk_176 (dk_at dksX0_made_2 9 rfl rfl)
theorem dX0_made_50 : decode cX0_made 50 = .ok (.new 26, 3) := dk_187 0 26 (dk_at dksX0_made_2 10 rfl rfl)
theorem dX0_made_53 : decode cX0_made 53 = .ok (.dup, 1) := dk_89 (dk_at dksX0_made_2 13 rfl rfl)
theorem dX0_made_54 : decode cX0_made 54 = .ok (.aload_n 0, 1) := dk_42 (dk_at dksX0_made_2 14 rfl rfl)
theorem dX0_made_55 : decode cX0_made 55 = .ok (.iload_n 2, 1) := dk_28 (dk_at dksX0_made_2 15 rfl rfl)
theorem dX0_made_56 : decode cX0_made 56 = .ok (.invokespecial 28, 3) := dk_183 0 28 (dk_at dksX0_made_2 16 rfl rfl)
theorem dX0_made_59 : decode cX0_made 59 = .ok (.areturn, 1) := dk_176 (dk_at dksX0_made_2 19 rfl rfl)
theorem dX0_made_60 : decode cX0_made 60 = .ok (.new 29, 3) := dk_187 0 29 (dk_at dksX0_made_2 20 rfl rfl)
theorem dX0_made_63 : decode cX0_made 63 = .ok (.dup, 1) := dk_89 (dk_at dksX0_made_2 23 rfl rfl)
theorem dX0_made_64 : decode cX0_made 64 = .ok (.aload_n 0, 1) := dk_42 (dk_at dksX0_made_3 0 rfl rfl)
theorem dX0_made_65 : decode cX0_made 65 = .ok (.iload_n 2, 1) := dk_28 (dk_at dksX0_made_3 1 rfl rfl)
theorem dX0_made_66 : decode cX0_made 66 = .ok (.invokespecial 31, 3) := dk_183 0 31 (dk_at dksX0_made_3 2 rfl rfl)
theorem dX0_made_69 : decode cX0_made 69 = .ok (.areturn, 1) := dk_176 (dk_at dksX0_made_3 5 rfl rfl)
theorem dX0_made_70 : decode cX0_made 70 = .ok (.new 32, 3) := dk_187 0 32 (dk_at dksX0_made_3 6 rfl rfl)
theorem dX0_made_73 : decode cX0_made 73 = .ok (.dup, 1) := dk_89 (dk_at dksX0_made_3 9 rfl rfl)
theorem dX0_made_74 : decode cX0_made 74 = .ok (.aload_n 0, 1) := dk_42 (dk_at dksX0_made_3 10 rfl rfl)
theorem dX0_made_75 : decode cX0_made 75 = .ok (.iload_n 2, 1) := dk_28 (dk_at dksX0_made_3 11 rfl rfl)
theorem dX0_made_76 : decode cX0_made 76 = .ok (.invokespecial 34, 3) := dk_183 0 34 (dk_at dksX0_made_3 12 rfl rfl)
theorem dX0_made_79 : decode cX0_made 79 = .ok (.areturn, 1) := dk_176 (dk_at dksX0_made_3 15 rfl rfl)
theorem dX0_made_80 : decode cX0_made 80 = .ok (.new 35, 3) := dk_187 0 35 (dk_at dksX0_made_3 16 rfl rfl)
theorem dX0_made_83 : decode cX0_made 83 = .ok (.dup, 1) := dk_89 (dk_at dksX0_made_3 19 rfl rfl)
theorem dX0_made_84 : decode cX0_made 84 = .ok (.aload_n 0, 1) := dk_42 (dk_at dksX0_made_3 20 rfl rfl)
theorem dX0_made_85 : decode cX0_made 85 = .ok (.iload_n 2, 1) := dk_28 (dk_at dksX0_made_3 21 rfl rfl)
theorem dX0_made_86 : decode cX0_made 86 = .ok (.invokespecial 37, 3) := dk_183 0 37 (dk_at dksX0_made_4 0 rfl rfl)
theorem dX0_made_89 : decode cX0_made 89 = .ok (.areturn, 1) := dk_176 (dk_at dksX0_made_4 3 rfl rfl)
theorem dX0_made_90 : decode cX0_made 90 = .ok (.new 38, 3) := dk_187 0 38 (dk_at dksX0_made_4 4 rfl rfl)
theorem dX0_made_93 : decode cX0_made 93 = .ok (.dup, 1) := dk_89 (dk_at dksX0_made_4 7 rfl rfl)
theorem dX0_made_94 : decode cX0_made 94 = .ok (.aload_n 0, 1) := dk_42 (dk_at dksX0_made_4 8 rfl rfl)
theorem dX0_made_95 : decode cX0_made 95 = .ok (.iload_n 2, 1) := dk_28 (dk_at dksX0_made_4 9 rfl rfl)
theorem dX0_made_96 : decode cX0_made 96 = .ok (.invokespecial 40, 3) := dk_183 0 40 (dk_at dksX0_made_4 10 rfl rfl)
theorem dX0_made_99 : decode cX0_made 99 = .ok (.areturn, 1) := dk_176 (dk_at dksX0_made_4 13 rfl rfl)
theorem dX0_made_100 : decode cX0_made 100 = .ok (.new 41, 3) := dk_187 0 41 (dk_at dksX0_made_4 14 rfl rfl)
theorem dX0_made_103 : decode cX0_made 103 = .ok (.dup, 1) := dk_89 (dk_at dksX0_made_4 17 rfl rfl)
theorem dX0_made_104 : decode cX0_made 104 = .ok (.aload_n 0, 1) := dk_42 (dk_at dksX0_made_4 18 rfl rfl)
theorem dX0_made_105 : decode cX0_made 105 = .ok (.iload_n 2, 1) := dk_28 (dk_at dksX0_made_4 19 rfl rfl)
theorem dX0_made_106 : decode cX0_made 106 = .ok (.invokespecial 43, 3) := dk_183 0 43 (dk_at dksX0_made_4 20 rfl rfl)
theorem dX0_made_109 : decode cX0_made 109 = .ok (.areturn, 1) := dk_176 (dk_at dksX0_made_4 23 rfl rfl)
abbrev cX0_frost : ByteArray := prog_1_method_24_code
def yX0_frost : MethodName := ⟨RX0, "frost", "(II)I"⟩
def dkwX0_frost_1 : List UInt8 := [180, 0, 66, 180, 0, 159, 27, 46, 62, 42, 180, 0, 66, 180, 0, 159, 27, 28, 79, 29, 172]
abbrev dktX0_frost_1 : List UInt8 := dkwX0_frost_1 ++ []
def dkwX0_frost_0 : List UInt8 := [27, 184, 0, 17, 153, 0, 13, 28, 3, 16, 9, 184, 0, 9, 154, 0, 9, 42, 3, 182, 0, 116, 172, 42]
abbrev dktX0_frost_0 : List UInt8 := dkwX0_frost_0 ++ dktX0_frost_1
theorem dksX0_frost_0 : cX0_frost.data.toList.drop 0 = dktX0_frost_0 := by decide +kernel
theorem dksX0_frost_1 : cX0_frost.data.toList.drop 24 = dktX0_frost_1 := dk_seg dksX0_frost_0 24 rfl rfl
theorem dX0_frost_0 : decode cX0_frost 0 = .ok (.iload_n 1, 1) := dk_27 (dk_at dksX0_frost_0 0 rfl rfl)
theorem dX0_frost_1 : decode cX0_frost 1 = .ok (.invokestatic 17, 3) := dk_184 0 17 (dk_at dksX0_frost_0 1 rfl rfl)
theorem dX0_frost_4 : decode cX0_frost 4 = .ok (.ifCond .eq 13, 3) := dk_153 0 13 (dk_at dksX0_frost_0 4 rfl rfl)
theorem dX0_frost_7 : decode cX0_frost 7 = .ok (.iload_n 2, 1) := dk_28 (dk_at dksX0_frost_0 7 rfl rfl)
theorem dX0_frost_8 : decode cX0_frost 8 = .ok (.iconst 0, 1) := dk_3 (dk_at dksX0_frost_0 8 rfl rfl)
theorem dX0_frost_9 : decode cX0_frost 9 = .ok (.bipush 9, 2) := dk_16 9 (dk_at dksX0_frost_0 9 rfl rfl)
theorem dX0_frost_11 : decode cX0_frost 11 = .ok (.invokestatic 9, 3) := dk_184 0 9 (dk_at dksX0_frost_0 11 rfl rfl)
theorem dX0_frost_14 : decode cX0_frost 14 = .ok (.ifCond .ne 9, 3) := dk_154 0 9 (dk_at dksX0_frost_0 14 rfl rfl)
theorem dX0_frost_17 : decode cX0_frost 17 = .ok (.aload_n 0, 1) := dk_42 (dk_at dksX0_frost_0 17 rfl rfl)
theorem dX0_frost_18 : decode cX0_frost 18 = .ok (.iconst 0, 1) := dk_3 (dk_at dksX0_frost_0 18 rfl rfl)
theorem dX0_frost_19 : decode cX0_frost 19 = .ok (.invokevirtual 116, 3) := dk_182 0 116 (dk_at dksX0_frost_0 19 rfl rfl)
theorem dX0_frost_22 : decode cX0_frost 22 = .ok (.ireturn, 1) := dk_172 (dk_at dksX0_frost_0 22 rfl rfl)
theorem dX0_frost_23 : decode cX0_frost 23 = .ok (.aload_n 0, 1) := dk_42 (dk_at dksX0_frost_0 23 rfl rfl)
theorem dX0_frost_24 : decode cX0_frost 24 = .ok (.getfield 66, 3) := dk_180 0 66 (dk_at dksX0_frost_1 0 rfl rfl)
theorem dX0_frost_27 : decode cX0_frost 27 = .ok (.getfield 159, 3) := dk_180 0 159 (dk_at dksX0_frost_1 3 rfl rfl)
theorem dX0_frost_30 : decode cX0_frost 30 = .ok (.iload_n 1, 1) := dk_27 (dk_at dksX0_frost_1 6 rfl rfl)
theorem dX0_frost_31 : decode cX0_frost 31 = .ok (.iaload, 1) := dk_46 (dk_at dksX0_frost_1 7 rfl rfl)
theorem dX0_frost_32 : decode cX0_frost 32 = .ok (.istore_n 3, 1) := dk_62 (dk_at dksX0_frost_1 8 rfl rfl)
theorem dX0_frost_33 : decode cX0_frost 33 = .ok (.aload_n 0, 1) := dk_42 (dk_at dksX0_frost_1 9 rfl rfl)
theorem dX0_frost_34 : decode cX0_frost 34 = .ok (.getfield 66, 3) := dk_180 0 66 (dk_at dksX0_frost_1 10 rfl rfl)
theorem dX0_frost_37 : decode cX0_frost 37 = .ok (.getfield 159, 3) := dk_180 0 159 (dk_at dksX0_frost_1 13 rfl rfl)
theorem dX0_frost_40 : decode cX0_frost 40 = .ok (.iload_n 1, 1) := dk_27 (dk_at dksX0_frost_1 16 rfl rfl)
theorem dX0_frost_41 : decode cX0_frost 41 = .ok (.iload_n 2, 1) := dk_28 (dk_at dksX0_frost_1 17 rfl rfl)
theorem dX0_frost_42 : decode cX0_frost 42 = .ok (.iastore, 1) := dk_79 (dk_at dksX0_frost_1 18 rfl rfl)
theorem dX0_frost_43 : decode cX0_frost 43 = .ok (.iload_n 3, 1) := dk_29 (dk_at dksX0_frost_1 19 rfl rfl)
theorem dX0_frost_44 : decode cX0_frost 44 = .ok (.ireturn, 1) := dk_172 (dk_at dksX0_frost_1 20 rfl rfl)
abbrev cX0_isCellar : ByteArray := prog_1_method_7_code
def yX0_isCellar : MethodName := ⟨RX0, "isCellar", "(I)Z"⟩
def dkwX0_isCellar_0 : List UInt8 := [26, 3, 8, 184, 0, 9, 172]
abbrev dktX0_isCellar_0 : List UInt8 := dkwX0_isCellar_0 ++ []
theorem dksX0_isCellar_0 : cX0_isCellar.data.toList.drop 0 = dktX0_isCellar_0 := by decide +kernel
theorem dX0_isCellar_0 : decode cX0_isCellar 0 = .ok (.iload_n 0, 1) := dk_26 (dk_at dksX0_isCellar_0 0 rfl rfl)
theorem dX0_isCellar_1 : decode cX0_isCellar 1 = .ok (.iconst 0, 1) := dk_3 (dk_at dksX0_isCellar_0 1 rfl rfl)
theorem dX0_isCellar_2 : decode cX0_isCellar 2 = .ok (.iconst 5, 1) := dk_8 (dk_at dksX0_isCellar_0 2 rfl rfl)
theorem dX0_isCellar_3 : decode cX0_isCellar 3 = .ok (.invokestatic 9, 3) := dk_184 0 9 (dk_at dksX0_isCellar_0 3 rfl rfl)
theorem dX0_isCellar_6 : decode cX0_isCellar 6 = .ok (.ireturn, 1) := dk_172 (dk_at dksX0_isCellar_0 6 rfl rfl)
abbrev cX0_in : ByteArray := prog_1_method_1_code
def yX0_in : MethodName := ⟨RX0, "in", "(III)Z"⟩
def dkwX0_in_0 : List UInt8 := [26, 27, 161, 0, 12, 26, 28, 163, 0, 7, 4, 167, 0, 4, 3, 172]
abbrev dktX0_in_0 : List UInt8 := dkwX0_in_0 ++ []
theorem dksX0_in_0 : cX0_in.data.toList.drop 0 = dktX0_in_0 := by decide +kernel
theorem dX0_in_0 : decode cX0_in 0 = .ok (.iload_n 0, 1) := dk_26 (dk_at dksX0_in_0 0 rfl rfl)
theorem dX0_in_1 : decode cX0_in 1 = .ok (.iload_n 1, 1) := dk_27 (dk_at dksX0_in_0 1 rfl rfl)
theorem dX0_in_2 : decode cX0_in 2 = .ok (.if_icmp .lt 12, 3) := dk_161 0 12 (dk_at dksX0_in_0 2 rfl rfl)
theorem dX0_in_5 : decode cX0_in 5 = .ok (.iload_n 0, 1) := dk_26 (dk_at dksX0_in_0 5 rfl rfl)
theorem dX0_in_6 : decode cX0_in 6 = .ok (.iload_n 2, 1) := dk_28 (dk_at dksX0_in_0 6 rfl rfl)
theorem dX0_in_7 : decode cX0_in 7 = .ok (.if_icmp .gt 7, 3) := dk_163 0 7 (dk_at dksX0_in_0 7 rfl rfl)
theorem dX0_in_10 : decode cX0_in 10 = .ok (.iconst 1, 1) := dk_4 (dk_at dksX0_in_0 10 rfl rfl)
theorem dX0_in_11 : decode cX0_in 11 = .ok (.goto 4, 3) := dk_167 0 4 (dk_at dksX0_in_0 11 rfl rfl)
theorem dX0_in_14 : decode cX0_in 14 = .ok (.iconst 0, 1) := dk_3 (dk_at dksX0_in_0 14 rfl rfl)
theorem dX0_in_15 : decode cX0_in 15 = .ok (.ireturn, 1) := dk_172 (dk_at dksX0_in_0 15 rfl rfl)
abbrev cX0_finding : ByteArray := prog_1_method_14_code
def yX0_finding : MethodName := ⟨RX0, "finding", "(I)I"⟩
def dkwX0_finding_0 : List UInt8 := [42, 180, 0, 88, 27, 92, 46, 4, 96, 79, 18, 105, 27, 100, 172]
abbrev dktX0_finding_0 : List UInt8 := dkwX0_finding_0 ++ []
theorem dksX0_finding_0 : cX0_finding.data.toList.drop 0 = dktX0_finding_0 := by decide +kernel
theorem dX0_finding_0 : decode cX0_finding 0 = .ok (.aload_n 0, 1) := dk_42 (dk_at dksX0_finding_0 0 rfl rfl)
theorem dX0_finding_1 : decode cX0_finding 1 = .ok (.getfield 88, 3) := dk_180 0 88 (dk_at dksX0_finding_0 1 rfl rfl)
theorem dX0_finding_4 : decode cX0_finding 4 = .ok (.iload_n 1, 1) := dk_27 (dk_at dksX0_finding_0 4 rfl rfl)
theorem dX0_finding_5 : decode cX0_finding 5 = .ok (.dup2, 1) := dk_92 (dk_at dksX0_finding_0 5 rfl rfl)
theorem dX0_finding_6 : decode cX0_finding 6 = .ok (.iaload, 1) := dk_46 (dk_at dksX0_finding_0 6 rfl rfl)
theorem dX0_finding_7 : decode cX0_finding 7 = .ok (.iconst 1, 1) := dk_4 (dk_at dksX0_finding_0 7 rfl rfl)
theorem dX0_finding_8 : decode cX0_finding 8 = .ok (.iadd, 1) := dk_96 (dk_at dksX0_finding_0 8 rfl rfl)
theorem dX0_finding_9 : decode cX0_finding 9 = .ok (.iastore, 1) := dk_79 (dk_at dksX0_finding_0 9 rfl rfl)
theorem dX0_finding_10 : decode cX0_finding 10 = .ok (.ldc 105, 2) := dk_18 105 (dk_at dksX0_finding_0 10 rfl rfl)
theorem dX0_finding_12 : decode cX0_finding 12 = .ok (.iload_n 1, 1) := dk_27 (dk_at dksX0_finding_0 12 rfl rfl)
theorem dX0_finding_13 : decode cX0_finding 13 = .ok (.isub, 1) := dk_100 (dk_at dksX0_finding_0 13 rfl rfl)
theorem dX0_finding_14 : decode cX0_finding 14 = .ok (.ireturn, 1) := dk_172 (dk_at dksX0_finding_0 14 rfl rfl)
abbrev cX0_cellar : ByteArray := prog_1_method_25_code
def yX0_cellar : MethodName := ⟨RX0, "cellar", "(II)I"⟩
def dkwX0_cellar_3 : List UInt8 := [27, 182, 0, 165, 172, 42, 180, 0, 66, 27, 182, 0, 168, 172, 42, 3, 182, 0, 116, 172]
abbrev dktX0_cellar_3 : List UInt8 := dkwX0_cellar_3 ++ []
def dkwX0_cellar_2 : List UInt8 := [42, 180, 0, 66, 180, 0, 159, 27, 46, 172, 42, 180, 0, 66, 180, 0, 162, 27, 46, 172, 42, 180, 0, 66]
abbrev dktX0_cellar_2 : List UInt8 := dkwX0_cellar_2 ++ dktX0_cellar_3
def dkwX0_cellar_1 : List UInt8 := [170, 0, 0, 0, 0, 68, 0, 0, 0, 0, 0, 0, 0, 3, 0, 0, 0, 30, 0, 0, 0, 40, 0, 0, 0, 50, 0, 0, 0, 59]
abbrev dktX0_cellar_1 : List UInt8 := dkwX0_cellar_1 ++ dktX0_cellar_2
def dkwX0_cellar_0 : List UInt8 := [27, 184, 0, 17, 154, 0, 9, 42, 3, 182, 0, 116, 172, 28]
abbrev dktX0_cellar_0 : List UInt8 := dkwX0_cellar_0 ++ dktX0_cellar_1
theorem dksX0_cellar_0 : cX0_cellar.data.toList.drop 0 = dktX0_cellar_0 := by decide +kernel
theorem dksX0_cellar_1 : cX0_cellar.data.toList.drop 14 = dktX0_cellar_1 := dk_seg dksX0_cellar_0 14 rfl rfl
theorem dksX0_cellar_2 : cX0_cellar.data.toList.drop 44 = dktX0_cellar_2 := dk_seg dksX0_cellar_1 30 rfl rfl
theorem dksX0_cellar_3 : cX0_cellar.data.toList.drop 68 = dktX0_cellar_3 := dk_seg dksX0_cellar_2 24 rfl rfl
theorem dX0_cellar_0 : decode cX0_cellar 0 = .ok (.iload_n 1, 1) := dk_27 (dk_at dksX0_cellar_0 0 rfl rfl)
theorem dX0_cellar_1 : decode cX0_cellar 1 = .ok (.invokestatic 17, 3) := dk_184 0 17 (dk_at dksX0_cellar_0 1 rfl rfl)
theorem dX0_cellar_4 : decode cX0_cellar 4 = .ok (.ifCond .ne 9, 3) := dk_154 0 9 (dk_at dksX0_cellar_0 4 rfl rfl)
theorem dX0_cellar_7 : decode cX0_cellar 7 = .ok (.aload_n 0, 1) := dk_42 (dk_at dksX0_cellar_0 7 rfl rfl)
theorem dX0_cellar_8 : decode cX0_cellar 8 = .ok (.iconst 0, 1) := dk_3 (dk_at dksX0_cellar_0 8 rfl rfl)
theorem dX0_cellar_9 : decode cX0_cellar 9 = .ok (.invokevirtual 116, 3) := dk_182 0 116 (dk_at dksX0_cellar_0 9 rfl rfl)
theorem dX0_cellar_12 : decode cX0_cellar 12 = .ok (.ireturn, 1) := dk_172 (dk_at dksX0_cellar_0 12 rfl rfl)
theorem dX0_cellar_13 : decode cX0_cellar 13 = .ok (.iload_n 2, 1) := dk_28 (dk_at dksX0_cellar_0 13 rfl rfl)
theorem dX0_cellar_14 : decode cX0_cellar 14 = .ok (.tableswitch 68 0 3 #[30, 40, 50, 59], 30) := by decide +kernel
theorem dX0_cellar_44 : decode cX0_cellar 44 = .ok (.aload_n 0, 1) := dk_42 (dk_at dksX0_cellar_2 0 rfl rfl)
theorem dX0_cellar_45 : decode cX0_cellar 45 = .ok (.getfield 66, 3) := dk_180 0 66 (dk_at dksX0_cellar_2 1 rfl rfl)
theorem dX0_cellar_48 : decode cX0_cellar 48 = .ok (.getfield 159, 3) := dk_180 0 159 (dk_at dksX0_cellar_2 4 rfl rfl)
theorem dX0_cellar_51 : decode cX0_cellar 51 = .ok (.iload_n 1, 1) := dk_27 (dk_at dksX0_cellar_2 7 rfl rfl)
theorem dX0_cellar_52 : decode cX0_cellar 52 = .ok (.iaload, 1) := dk_46 (dk_at dksX0_cellar_2 8 rfl rfl)
theorem dX0_cellar_53 : decode cX0_cellar 53 = .ok (.ireturn, 1) := dk_172 (dk_at dksX0_cellar_2 9 rfl rfl)
theorem dX0_cellar_54 : decode cX0_cellar 54 = .ok (.aload_n 0, 1) := dk_42 (dk_at dksX0_cellar_2 10 rfl rfl)
theorem dX0_cellar_55 : decode cX0_cellar 55 = .ok (.getfield 66, 3) := dk_180 0 66 (dk_at dksX0_cellar_2 11 rfl rfl)
theorem dX0_cellar_58 : decode cX0_cellar 58 = .ok (.getfield 162, 3) := dk_180 0 162 (dk_at dksX0_cellar_2 14 rfl rfl)
theorem dX0_cellar_61 : decode cX0_cellar 61 = .ok (.iload_n 1, 1) := dk_27 (dk_at dksX0_cellar_2 17 rfl rfl)
theorem dX0_cellar_62 : decode cX0_cellar 62 = .ok (.iaload, 1) := dk_46 (dk_at dksX0_cellar_2 18 rfl rfl)
theorem dX0_cellar_63 : decode cX0_cellar 63 = .ok (.ireturn, 1) := dk_172 (dk_at dksX0_cellar_2 19 rfl rfl)
theorem dX0_cellar_64 : decode cX0_cellar 64 = .ok (.aload_n 0, 1) := dk_42 (dk_at dksX0_cellar_2 20 rfl rfl)
theorem dX0_cellar_65 : decode cX0_cellar 65 = .ok (.getfield 66, 3) := dk_180 0 66 (dk_at dksX0_cellar_2 21 rfl rfl)
theorem dX0_cellar_68 : decode cX0_cellar 68 = .ok (.iload_n 1, 1) := dk_27 (dk_at dksX0_cellar_3 0 rfl rfl)
theorem dX0_cellar_69 : decode cX0_cellar 69 = .ok (.invokevirtual 165, 3) := dk_182 0 165 (dk_at dksX0_cellar_3 1 rfl rfl)
theorem dX0_cellar_72 : decode cX0_cellar 72 = .ok (.ireturn, 1) := dk_172 (dk_at dksX0_cellar_3 4 rfl rfl)
theorem dX0_cellar_73 : decode cX0_cellar 73 = .ok (.aload_n 0, 1) := dk_42 (dk_at dksX0_cellar_3 5 rfl rfl)
theorem dX0_cellar_74 : decode cX0_cellar 74 = .ok (.getfield 66, 3) := dk_180 0 66 (dk_at dksX0_cellar_3 6 rfl rfl)
theorem dX0_cellar_77 : decode cX0_cellar 77 = .ok (.iload_n 1, 1) := dk_27 (dk_at dksX0_cellar_3 9 rfl rfl)
theorem dX0_cellar_78 : decode cX0_cellar 78 = .ok (.invokevirtual 168, 3) := dk_182 0 168 (dk_at dksX0_cellar_3 10 rfl rfl)
theorem dX0_cellar_81 : decode cX0_cellar 81 = .ok (.ireturn, 1) := dk_172 (dk_at dksX0_cellar_3 13 rfl rfl)
theorem dX0_cellar_82 : decode cX0_cellar 82 = .ok (.aload_n 0, 1) := dk_42 (dk_at dksX0_cellar_3 14 rfl rfl)
theorem dX0_cellar_83 : decode cX0_cellar 83 = .ok (.iconst 0, 1) := dk_3 (dk_at dksX0_cellar_3 15 rfl rfl)
theorem dX0_cellar_84 : decode cX0_cellar 84 = .ok (.invokevirtual 116, 3) := dk_182 0 116 (dk_at dksX0_cellar_3 16 rfl rfl)
theorem dX0_cellar_87 : decode cX0_cellar 87 = .ok (.ireturn, 1) := dk_172 (dk_at dksX0_cellar_3 19 rfl rfl)
abbrev cX0_storm : ByteArray := prog_1_method_26_code
def yX0_storm : MethodName := ⟨RX0, "storm", "(II)I"⟩
def dkwX0_storm_1 : List UInt8 := [180, 0, 162, 27, 46, 62, 42, 180, 0, 66, 180, 0, 162, 27, 28, 79, 29, 172]
abbrev dktX0_storm_1 : List UInt8 := dkwX0_storm_1 ++ []
def dkwX0_storm_0 : List UInt8 := [27, 184, 0, 17, 153, 0, 10, 28, 184, 0, 171, 154, 0, 9, 42, 3, 182, 0, 116, 172, 42, 180, 0, 66]
abbrev dktX0_storm_0 : List UInt8 := dkwX0_storm_0 ++ dktX0_storm_1
theorem dksX0_storm_0 : cX0_storm.data.toList.drop 0 = dktX0_storm_0 := by decide +kernel
theorem dksX0_storm_1 : cX0_storm.data.toList.drop 24 = dktX0_storm_1 := dk_seg dksX0_storm_0 24 rfl rfl
theorem dX0_storm_0 : decode cX0_storm 0 = .ok (.iload_n 1, 1) := dk_27 (dk_at dksX0_storm_0 0 rfl rfl)
theorem dX0_storm_1 : decode cX0_storm 1 = .ok (.invokestatic 17, 3) := dk_184 0 17 (dk_at dksX0_storm_0 1 rfl rfl)
theorem dX0_storm_4 : decode cX0_storm 4 = .ok (.ifCond .eq 10, 3) := dk_153 0 10 (dk_at dksX0_storm_0 4 rfl rfl)
theorem dX0_storm_7 : decode cX0_storm 7 = .ok (.iload_n 2, 1) := dk_28 (dk_at dksX0_storm_0 7 rfl rfl)
theorem dX0_storm_8 : decode cX0_storm 8 = .ok (.invokestatic 171, 3) := dk_184 0 171 (dk_at dksX0_storm_0 8 rfl rfl)
theorem dX0_storm_11 : decode cX0_storm 11 = .ok (.ifCond .ne 9, 3) := dk_154 0 9 (dk_at dksX0_storm_0 11 rfl rfl)
theorem dX0_storm_14 : decode cX0_storm 14 = .ok (.aload_n 0, 1) := dk_42 (dk_at dksX0_storm_0 14 rfl rfl)
theorem dX0_storm_15 : decode cX0_storm 15 = .ok (.iconst 0, 1) := dk_3 (dk_at dksX0_storm_0 15 rfl rfl)
theorem dX0_storm_16 : decode cX0_storm 16 = .ok (.invokevirtual 116, 3) := dk_182 0 116 (dk_at dksX0_storm_0 16 rfl rfl)
theorem dX0_storm_19 : decode cX0_storm 19 = .ok (.ireturn, 1) := dk_172 (dk_at dksX0_storm_0 19 rfl rfl)
theorem dX0_storm_20 : decode cX0_storm 20 = .ok (.aload_n 0, 1) := dk_42 (dk_at dksX0_storm_0 20 rfl rfl)
theorem dX0_storm_21 : decode cX0_storm 21 = .ok (.getfield 66, 3) := dk_180 0 66 (dk_at dksX0_storm_0 21 rfl rfl)
theorem dX0_storm_24 : decode cX0_storm 24 = .ok (.getfield 162, 3) := dk_180 0 162 (dk_at dksX0_storm_1 0 rfl rfl)
theorem dX0_storm_27 : decode cX0_storm 27 = .ok (.iload_n 1, 1) := dk_27 (dk_at dksX0_storm_1 3 rfl rfl)
theorem dX0_storm_28 : decode cX0_storm 28 = .ok (.iaload, 1) := dk_46 (dk_at dksX0_storm_1 4 rfl rfl)
theorem dX0_storm_29 : decode cX0_storm 29 = .ok (.istore_n 3, 1) := dk_62 (dk_at dksX0_storm_1 5 rfl rfl)
theorem dX0_storm_30 : decode cX0_storm 30 = .ok (.aload_n 0, 1) := dk_42 (dk_at dksX0_storm_1 6 rfl rfl)
theorem dX0_storm_31 : decode cX0_storm 31 = .ok (.getfield 66, 3) := dk_180 0 66 (dk_at dksX0_storm_1 7 rfl rfl)
theorem dX0_storm_34 : decode cX0_storm 34 = .ok (.getfield 162, 3) := dk_180 0 162 (dk_at dksX0_storm_1 10 rfl rfl)
theorem dX0_storm_37 : decode cX0_storm 37 = .ok (.iload_n 1, 1) := dk_27 (dk_at dksX0_storm_1 13 rfl rfl)
theorem dX0_storm_38 : decode cX0_storm 38 = .ok (.iload_n 2, 1) := dk_28 (dk_at dksX0_storm_1 14 rfl rfl)
theorem dX0_storm_39 : decode cX0_storm 39 = .ok (.iastore, 1) := dk_79 (dk_at dksX0_storm_1 15 rfl rfl)
theorem dX0_storm_40 : decode cX0_storm 40 = .ok (.iload_n 3, 1) := dk_29 (dk_at dksX0_storm_1 16 rfl rfl)
theorem dX0_storm_41 : decode cX0_storm 41 = .ok (.ireturn, 1) := dk_172 (dk_at dksX0_storm_1 17 rfl rfl)
abbrev cX0_isStorm : ByteArray := prog_1_method_8_code
def yX0_isStorm : MethodName := ⟨RX0, "isStorm", "(I)Z"⟩
def dkwX0_isStorm_0 : List UInt8 := [26, 3, 16, 99, 184, 0, 9, 172]
abbrev dktX0_isStorm_0 : List UInt8 := dkwX0_isStorm_0 ++ []
theorem dksX0_isStorm_0 : cX0_isStorm.data.toList.drop 0 = dktX0_isStorm_0 := by decide +kernel
theorem dX0_isStorm_0 : decode cX0_isStorm 0 = .ok (.iload_n 0, 1) := dk_26 (dk_at dksX0_isStorm_0 0 rfl rfl)
theorem dX0_isStorm_1 : decode cX0_isStorm 1 = .ok (.iconst 0, 1) := dk_3 (dk_at dksX0_isStorm_0 1 rfl rfl)
theorem dX0_isStorm_2 : decode cX0_isStorm 2 = .ok (.bipush 99, 2) := dk_16 99 (dk_at dksX0_isStorm_0 2 rfl rfl)
theorem dX0_isStorm_4 : decode cX0_isStorm 4 = .ok (.invokestatic 9, 3) := dk_184 0 9 (dk_at dksX0_isStorm_0 4 rfl rfl)
theorem dX0_isStorm_7 : decode cX0_isStorm 7 = .ok (.ireturn, 1) := dk_172 (dk_at dksX0_isStorm_0 7 rfl rfl)
abbrev cX0_cask : ByteArray := prog_1_method_27_code
def yX0_cask : MethodName := ⟨RX0, "cask", "(II)I"⟩
def dkwX0_cask_2 : List UInt8 := [180, 0, 66, 180, 0, 114, 4, 100, 172]
abbrev dktX0_cask_2 : List UInt8 := dkwX0_cask_2 ++ []
def dkwX0_cask_1 : List UInt8 := [180, 0, 114, 16, 8, 160, 0, 9, 42, 4, 182, 0, 116, 172, 42, 180, 0, 66, 27, 28, 182, 0, 174, 42]
abbrev dktX0_cask_1 : List UInt8 := dkwX0_cask_1 ++ dktX0_cask_2
def dkwX0_cask_0 : List UInt8 := [27, 184, 0, 13, 153, 0, 10, 28, 184, 0, 17, 154, 0, 9, 42, 3, 182, 0, 116, 172, 42, 180, 0, 66]
abbrev dktX0_cask_0 : List UInt8 := dkwX0_cask_0 ++ dktX0_cask_1
theorem dksX0_cask_0 : cX0_cask.data.toList.drop 0 = dktX0_cask_0 := by decide +kernel
theorem dksX0_cask_1 : cX0_cask.data.toList.drop 24 = dktX0_cask_1 := dk_seg dksX0_cask_0 24 rfl rfl
theorem dksX0_cask_2 : cX0_cask.data.toList.drop 48 = dktX0_cask_2 := dk_seg dksX0_cask_1 24 rfl rfl
theorem dX0_cask_0 : decode cX0_cask 0 = .ok (.iload_n 1, 1) := dk_27 (dk_at dksX0_cask_0 0 rfl rfl)
theorem dX0_cask_1 : decode cX0_cask 1 = .ok (.invokestatic 13, 3) := dk_184 0 13 (dk_at dksX0_cask_0 1 rfl rfl)
theorem dX0_cask_4 : decode cX0_cask 4 = .ok (.ifCond .eq 10, 3) := dk_153 0 10 (dk_at dksX0_cask_0 4 rfl rfl)
theorem dX0_cask_7 : decode cX0_cask 7 = .ok (.iload_n 2, 1) := dk_28 (dk_at dksX0_cask_0 7 rfl rfl)
theorem dX0_cask_8 : decode cX0_cask 8 = .ok (.invokestatic 17, 3) := dk_184 0 17 (dk_at dksX0_cask_0 8 rfl rfl)
theorem dX0_cask_11 : decode cX0_cask 11 = .ok (.ifCond .ne 9, 3) := dk_154 0 9 (dk_at dksX0_cask_0 11 rfl rfl)
theorem dX0_cask_14 : decode cX0_cask 14 = .ok (.aload_n 0, 1) := dk_42 (dk_at dksX0_cask_0 14 rfl rfl)
theorem dX0_cask_15 : decode cX0_cask 15 = .ok (.iconst 0, 1) := dk_3 (dk_at dksX0_cask_0 15 rfl rfl)
theorem dX0_cask_16 : decode cX0_cask 16 = .ok (.invokevirtual 116, 3) := dk_182 0 116 (dk_at dksX0_cask_0 16 rfl rfl)
theorem dX0_cask_19 : decode cX0_cask 19 = .ok (.ireturn, 1) := dk_172 (dk_at dksX0_cask_0 19 rfl rfl)
theorem dX0_cask_20 : decode cX0_cask 20 = .ok (.aload_n 0, 1) := dk_42 (dk_at dksX0_cask_0 20 rfl rfl)
theorem dX0_cask_21 : decode cX0_cask 21 = .ok (.getfield 66, 3) := dk_180 0 66 (dk_at dksX0_cask_0 21 rfl rfl)
theorem dX0_cask_24 : decode cX0_cask 24 = .ok (.getfield 114, 3) := dk_180 0 114 (dk_at dksX0_cask_1 0 rfl rfl)
theorem dX0_cask_27 : decode cX0_cask 27 = .ok (.bipush 8, 2) := dk_16 8 (dk_at dksX0_cask_1 3 rfl rfl)
theorem dX0_cask_29 : decode cX0_cask 29 = .ok (.if_icmp .ne 9, 3) := dk_160 0 9 (dk_at dksX0_cask_1 5 rfl rfl)
theorem dX0_cask_32 : decode cX0_cask 32 = .ok (.aload_n 0, 1) := dk_42 (dk_at dksX0_cask_1 8 rfl rfl)
theorem dX0_cask_33 : decode cX0_cask 33 = .ok (.iconst 1, 1) := dk_4 (dk_at dksX0_cask_1 9 rfl rfl)
theorem dX0_cask_34 : decode cX0_cask 34 = .ok (.invokevirtual 116, 3) := dk_182 0 116 (dk_at dksX0_cask_1 10 rfl rfl)
theorem dX0_cask_37 : decode cX0_cask 37 = .ok (.ireturn, 1) := dk_172 (dk_at dksX0_cask_1 13 rfl rfl)
theorem dX0_cask_38 : decode cX0_cask 38 = .ok (.aload_n 0, 1) := dk_42 (dk_at dksX0_cask_1 14 rfl rfl)
theorem dX0_cask_39 : decode cX0_cask 39 = .ok (.getfield 66, 3) := dk_180 0 66 (dk_at dksX0_cask_1 15 rfl rfl)
theorem dX0_cask_42 : decode cX0_cask 42 = .ok (.iload_n 1, 1) := dk_27 (dk_at dksX0_cask_1 18 rfl rfl)
theorem dX0_cask_43 : decode cX0_cask 43 = .ok (.iload_n 2, 1) := dk_28 (dk_at dksX0_cask_1 19 rfl rfl)
theorem dX0_cask_44 : decode cX0_cask 44 = .ok (.invokevirtual 174, 3) := dk_182 0 174 (dk_at dksX0_cask_1 20 rfl rfl)
theorem dX0_cask_47 : decode cX0_cask 47 = .ok (.aload_n 0, 1) := dk_42 (dk_at dksX0_cask_1 23 rfl rfl)
theorem dX0_cask_48 : decode cX0_cask 48 = .ok (.getfield 66, 3) := dk_180 0 66 (dk_at dksX0_cask_2 0 rfl rfl)
theorem dX0_cask_51 : decode cX0_cask 51 = .ok (.getfield 114, 3) := dk_180 0 114 (dk_at dksX0_cask_2 3 rfl rfl)
theorem dX0_cask_54 : decode cX0_cask 54 = .ok (.iconst 1, 1) := dk_4 (dk_at dksX0_cask_2 6 rfl rfl)
theorem dX0_cask_55 : decode cX0_cask 55 = .ok (.isub, 1) := dk_100 (dk_at dksX0_cask_2 7 rfl rfl)
theorem dX0_cask_56 : decode cX0_cask 56 = .ok (.ireturn, 1) := dk_172 (dk_at dksX0_cask_2 8 rfl rfl)
abbrev cX0_isKind : ByteArray := prog_1_method_6_code
def yX0_isKind : MethodName := ⟨RX0, "isKind", "(I)Z"⟩
def dkwX0_isKind_0 : List UInt8 := [26, 3, 16, 6, 184, 0, 9, 172]
abbrev dktX0_isKind_0 : List UInt8 := dkwX0_isKind_0 ++ []
theorem dksX0_isKind_0 : cX0_isKind.data.toList.drop 0 = dktX0_isKind_0 := by decide +kernel
theorem dX0_isKind_0 : decode cX0_isKind 0 = .ok (.iload_n 0, 1) := dk_26 (dk_at dksX0_isKind_0 0 rfl rfl)
theorem dX0_isKind_1 : decode cX0_isKind 1 = .ok (.iconst 0, 1) := dk_3 (dk_at dksX0_isKind_0 1 rfl rfl)
theorem dX0_isKind_2 : decode cX0_isKind 2 = .ok (.bipush 6, 2) := dk_16 6 (dk_at dksX0_isKind_0 2 rfl rfl)
theorem dX0_isKind_4 : decode cX0_isKind 4 = .ok (.invokestatic 9, 3) := dk_184 0 9 (dk_at dksX0_isKind_0 4 rfl rfl)
theorem dX0_isKind_7 : decode cX0_isKind 7 = .ok (.ireturn, 1) := dk_172 (dk_at dksX0_isKind_0 7 rfl rfl)
abbrev cX0_of : ByteArray := prog_1_method_28_code
def yX0_of : MethodName := ⟨RX0, "of", "(II)I"⟩
def dkwX0_of_4 : List UInt8 := [182, 0, 137, 172, 42, 27, 182, 0, 118, 182, 0, 184, 172, 42, 3, 182, 0, 116, 172]
abbrev dktX0_of_4 : List UInt8 := dkwX0_of_4 ++ []
def dkwX0_of_3 : List UInt8 := [42, 27, 182, 0, 118, 182, 0, 180, 172, 42, 27, 182, 0, 118, 182, 0, 183, 172, 42, 27, 182, 0, 118]
abbrev dktX0_of_3 : List UInt8 := dkwX0_of_3 ++ dktX0_of_4
def dkwX0_of_2 : List UInt8 := [170, 0, 0, 0, 0, 0, 91, 0, 0, 0, 0, 0, 0, 0, 9, 0, 0, 0, 55, 0, 0, 0, 91, 0, 0, 0, 91, 0, 0, 0, 91, 0, 0, 0, 91, 0, 0, 0, 91, 0, 0, 0, 91, 0, 0, 0, 64, 0, 0, 0, 73, 0, 0, 0, 82]
abbrev dktX0_of_2 : List UInt8 := dkwX0_of_2 ++ dktX0_of_3
def dkwX0_of_1 : List UInt8 := [42, 180, 0, 66, 180, 0, 101, 28, 50, 27, 46, 172, 28]
abbrev dktX0_of_1 : List UInt8 := dkwX0_of_1 ++ dktX0_of_2
def dkwX0_of_0 : List UInt8 := [42, 27, 182, 0, 177, 154, 0, 9, 42, 3, 182, 0, 116, 172, 28, 4, 16, 6, 184, 0, 9, 153, 0, 15]
abbrev dktX0_of_0 : List UInt8 := dkwX0_of_0 ++ dktX0_of_1
theorem dksX0_of_0 : cX0_of.data.toList.drop 0 = dktX0_of_0 := by decide +kernel
theorem dksX0_of_1 : cX0_of.data.toList.drop 24 = dktX0_of_1 := dk_seg dksX0_of_0 24 rfl rfl
theorem dksX0_of_2 : cX0_of.data.toList.drop 37 = dktX0_of_2 := dk_seg dksX0_of_1 13 rfl rfl
theorem dksX0_of_3 : cX0_of.data.toList.drop 92 = dktX0_of_3 := dk_seg dksX0_of_2 55 rfl rfl
theorem dksX0_of_4 : cX0_of.data.toList.drop 115 = dktX0_of_4 := dk_seg dksX0_of_3 23 rfl rfl
theorem dX0_of_0 : decode cX0_of 0 = .ok (.aload_n 0, 1) := dk_42 (dk_at dksX0_of_0 0 rfl rfl)
theorem dX0_of_1 : decode cX0_of 1 = .ok (.iload_n 1, 1) := dk_27 (dk_at dksX0_of_0 1 rfl rfl)
theorem dX0_of_2 : decode cX0_of 2 = .ok (.invokevirtual 177, 3) := dk_182 0 177 (dk_at dksX0_of_0 2 rfl rfl)
theorem dX0_of_5 : decode cX0_of 5 = .ok (.ifCond .ne 9, 3) := dk_154 0 9 (dk_at dksX0_of_0 5 rfl rfl)
theorem dX0_of_8 : decode cX0_of 8 = .ok (.aload_n 0, 1) := dk_42 (dk_at dksX0_of_0 8 rfl rfl)
theorem dX0_of_9 : decode cX0_of 9 = .ok (.iconst 0, 1) := dk_3 (dk_at dksX0_of_0 9 rfl rfl)
theorem dX0_of_10 : decode cX0_of 10 = .ok (.invokevirtual 116, 3) := dk_182 0 116 (dk_at dksX0_of_0 10 rfl rfl)
theorem dX0_of_13 : decode cX0_of 13 = .ok (.ireturn, 1) := dk_172 (dk_at dksX0_of_0 13 rfl rfl)
theorem dX0_of_14 : decode cX0_of 14 = .ok (.iload_n 2, 1) := dk_28 (dk_at dksX0_of_0 14 rfl rfl)
theorem dX0_of_15 : decode cX0_of 15 = .ok (.iconst 1, 1) := dk_4 (dk_at dksX0_of_0 15 rfl rfl)
theorem dX0_of_16 : decode cX0_of 16 = .ok (.bipush 6, 2) := dk_16 6 (dk_at dksX0_of_0 16 rfl rfl)
theorem dX0_of_18 : decode cX0_of 18 = .ok (.invokestatic 9, 3) := dk_184 0 9 (dk_at dksX0_of_0 18 rfl rfl)
theorem dX0_of_21 : decode cX0_of 21 = .ok (.ifCond .eq 15, 3) := dk_153 0 15 (dk_at dksX0_of_0 21 rfl rfl)
theorem dX0_of_24 : decode cX0_of 24 = .ok (.aload_n 0, 1) := dk_42 (dk_at dksX0_of_1 0 rfl rfl)
theorem dX0_of_25 : decode cX0_of 25 = .ok (.getfield 66, 3) := dk_180 0 66 (dk_at dksX0_of_1 1 rfl rfl)
theorem dX0_of_28 : decode cX0_of 28 = .ok (.getfield 101, 3) := dk_180 0 101 (dk_at dksX0_of_1 4 rfl rfl)
theorem dX0_of_31 : decode cX0_of 31 = .ok (.iload_n 2, 1) := dk_28 (dk_at dksX0_of_1 7 rfl rfl)
theorem dX0_of_32 : decode cX0_of 32 = .ok (.aaload, 1) := dk_50 (dk_at dksX0_of_1 8 rfl rfl)
theorem dX0_of_33 : decode cX0_of 33 = .ok (.iload_n 1, 1) := dk_27 (dk_at dksX0_of_1 9 rfl rfl)
theorem dX0_of_34 : decode cX0_of 34 = .ok (.iaload, 1) := dk_46 (dk_at dksX0_of_1 10 rfl rfl)
theorem dX0_of_35 : decode cX0_of 35 = .ok (.ireturn, 1) := dk_172 (dk_at dksX0_of_1 11 rfl rfl)
theorem dX0_of_36 : decode cX0_of 36 = .ok (.iload_n 2, 1) := dk_28 (dk_at dksX0_of_1 12 rfl rfl)
theorem dX0_of_37 : decode cX0_of 37 = .ok (.tableswitch 91 0 9 #[55, 91, 91, 91, 91, 91, 91, 64, 73, 82], 55) := by decide +kernel
theorem dX0_of_92 : decode cX0_of 92 = .ok (.aload_n 0, 1) := dk_42 (dk_at dksX0_of_3 0 rfl rfl)
theorem dX0_of_93 : decode cX0_of 93 = .ok (.iload_n 1, 1) := dk_27 (dk_at dksX0_of_3 1 rfl rfl)
theorem dX0_of_94 : decode cX0_of 94 = .ok (.invokevirtual 118, 3) := dk_182 0 118 (dk_at dksX0_of_3 2 rfl rfl)
theorem dX0_of_97 : decode cX0_of 97 = .ok (.invokevirtual 180, 3) := dk_182 0 180 (dk_at dksX0_of_3 5 rfl rfl)
theorem dX0_of_100 : decode cX0_of 100 = .ok (.ireturn, 1) := dk_172 (dk_at dksX0_of_3 8 rfl rfl)
theorem dX0_of_101 : decode cX0_of 101 = .ok (.aload_n 0, 1) := dk_42 (dk_at dksX0_of_3 9 rfl rfl)
theorem dX0_of_102 : decode cX0_of 102 = .ok (.iload_n 1, 1) := dk_27 (dk_at dksX0_of_3 10 rfl rfl)
theorem dX0_of_103 : decode cX0_of 103 = .ok (.invokevirtual 118, 3) := dk_182 0 118 (dk_at dksX0_of_3 11 rfl rfl)
theorem dX0_of_106 : decode cX0_of 106 = .ok (.invokevirtual 183, 3) := dk_182 0 183 (dk_at dksX0_of_3 14 rfl rfl)
theorem dX0_of_109 : decode cX0_of 109 = .ok (.ireturn, 1) := dk_172 (dk_at dksX0_of_3 17 rfl rfl)
theorem dX0_of_110 : decode cX0_of 110 = .ok (.aload_n 0, 1) := dk_42 (dk_at dksX0_of_3 18 rfl rfl)
theorem dX0_of_111 : decode cX0_of 111 = .ok (.iload_n 1, 1) := dk_27 (dk_at dksX0_of_3 19 rfl rfl)
theorem dX0_of_112 : decode cX0_of 112 = .ok (.invokevirtual 118, 3) := dk_182 0 118 (dk_at dksX0_of_3 20 rfl rfl)
theorem dX0_of_115 : decode cX0_of 115 = .ok (.invokevirtual 137, 3) := dk_182 0 137 (dk_at dksX0_of_4 0 rfl rfl)
theorem dX0_of_118 : decode cX0_of 118 = .ok (.ireturn, 1) := dk_172 (dk_at dksX0_of_4 3 rfl rfl)
theorem dX0_of_119 : decode cX0_of 119 = .ok (.aload_n 0, 1) := dk_42 (dk_at dksX0_of_4 4 rfl rfl)
theorem dX0_of_120 : decode cX0_of 120 = .ok (.iload_n 1, 1) := dk_27 (dk_at dksX0_of_4 5 rfl rfl)
theorem dX0_of_121 : decode cX0_of 121 = .ok (.invokevirtual 118, 3) := dk_182 0 118 (dk_at dksX0_of_4 6 rfl rfl)
theorem dX0_of_124 : decode cX0_of 124 = .ok (.invokevirtual 184, 3) := dk_182 0 184 (dk_at dksX0_of_4 9 rfl rfl)
theorem dX0_of_127 : decode cX0_of 127 = .ok (.ireturn, 1) := dk_172 (dk_at dksX0_of_4 12 rfl rfl)
theorem dX0_of_128 : decode cX0_of 128 = .ok (.aload_n 0, 1) := dk_42 (dk_at dksX0_of_4 13 rfl rfl)
theorem dX0_of_129 : decode cX0_of 129 = .ok (.iconst 0, 1) := dk_3 (dk_at dksX0_of_4 14 rfl rfl)
theorem dX0_of_130 : decode cX0_of 130 = .ok (.invokevirtual 116, 3) := dk_182 0 116 (dk_at dksX0_of_4 15 rfl rfl)
theorem dX0_of_133 : decode cX0_of 133 = .ok (.ireturn, 1) := dk_172 (dk_at dksX0_of_4 18 rfl rfl)
abbrev cX0_isCask : ByteArray := prog_1_method_17_code
def yX0_isCask : MethodName := ⟨RX0, "isCask", "(I)Z"⟩
def dkwX0_isCask_0 : List UInt8 := [27, 3, 42, 180, 0, 66, 180, 0, 114, 4, 100, 184, 0, 9, 172]
abbrev dktX0_isCask_0 : List UInt8 := dkwX0_isCask_0 ++ []
theorem dksX0_isCask_0 : cX0_isCask.data.toList.drop 0 = dktX0_isCask_0 := by decide +kernel
theorem dX0_isCask_0 : decode cX0_isCask 0 = .ok (.iload_n 1, 1) := dk_27 (dk_at dksX0_isCask_0 0 rfl rfl)
theorem dX0_isCask_1 : decode cX0_isCask 1 = .ok (.iconst 0, 1) := dk_3 (dk_at dksX0_isCask_0 1 rfl rfl)
theorem dX0_isCask_2 : decode cX0_isCask 2 = .ok (.aload_n 0, 1) := dk_42 (dk_at dksX0_isCask_0 2 rfl rfl)
theorem dX0_isCask_3 : decode cX0_isCask 3 = .ok (.getfield 66, 3) := dk_180 0 66 (dk_at dksX0_isCask_0 3 rfl rfl)
theorem dX0_isCask_6 : decode cX0_isCask 6 = .ok (.getfield 114, 3) := dk_180 0 114 (dk_at dksX0_isCask_0 6 rfl rfl)
theorem dX0_isCask_9 : decode cX0_isCask 9 = .ok (.iconst 1, 1) := dk_4 (dk_at dksX0_isCask_0 9 rfl rfl)
theorem dX0_isCask_10 : decode cX0_isCask 10 = .ok (.isub, 1) := dk_100 (dk_at dksX0_isCask_0 10 rfl rfl)
theorem dX0_isCask_11 : decode cX0_isCask 11 = .ok (.invokestatic 9, 3) := dk_184 0 9 (dk_at dksX0_isCask_0 11 rfl rfl)
theorem dX0_isCask_14 : decode cX0_isCask 14 = .ok (.ireturn, 1) := dk_172 (dk_at dksX0_isCask_0 14 rfl rfl)
abbrev cX0_caskOf : ByteArray := prog_1_method_13_code
def yX0_caskOf : MethodName := ⟨RX0, "caskOf", "(I)LThunderCasks$Cask;"⟩
def dkwX0_caskOf_1 : List UInt8 := [192, 0, 41, 176]
abbrev dktX0_caskOf_1 : List UInt8 := dkwX0_caskOf_1 ++ []
def dkwX0_caskOf_0 : List UInt8 := [42, 180, 0, 78, 16, 8, 42, 180, 0, 66, 180, 0, 101, 3, 50, 27, 46, 104, 27, 96, 50, 180, 0, 97]
abbrev dktX0_caskOf_0 : List UInt8 := dkwX0_caskOf_0 ++ dktX0_caskOf_1
theorem dksX0_caskOf_0 : cX0_caskOf.data.toList.drop 0 = dktX0_caskOf_0 := by decide +kernel
theorem dksX0_caskOf_1 : cX0_caskOf.data.toList.drop 24 = dktX0_caskOf_1 := dk_seg dksX0_caskOf_0 24 rfl rfl
theorem dX0_caskOf_0 : decode cX0_caskOf 0 = .ok (.aload_n 0, 1) := dk_42 (dk_at dksX0_caskOf_0 0 rfl rfl)
theorem dX0_caskOf_1 : decode cX0_caskOf 1 = .ok (.getfield 78, 3) := dk_180 0 78 (dk_at dksX0_caskOf_0 1 rfl rfl)
theorem dX0_caskOf_4 : decode cX0_caskOf 4 = .ok (.bipush 8, 2) := dk_16 8 (dk_at dksX0_caskOf_0 4 rfl rfl)
theorem dX0_caskOf_6 : decode cX0_caskOf 6 = .ok (.aload_n 0, 1) := dk_42 (dk_at dksX0_caskOf_0 6 rfl rfl)
theorem dX0_caskOf_7 : decode cX0_caskOf 7 = .ok (.getfield 66, 3) := dk_180 0 66 (dk_at dksX0_caskOf_0 7 rfl rfl)
theorem dX0_caskOf_10 : decode cX0_caskOf 10 = .ok (.getfield 101, 3) := dk_180 0 101 (dk_at dksX0_caskOf_0 10 rfl rfl)
theorem dX0_caskOf_13 : decode cX0_caskOf 13 = .ok (.iconst 0, 1) := dk_3 (dk_at dksX0_caskOf_0 13 rfl rfl)
theorem dX0_caskOf_14 : decode cX0_caskOf 14 = .ok (.aaload, 1) := dk_50 (dk_at dksX0_caskOf_0 14 rfl rfl)
theorem dX0_caskOf_15 : decode cX0_caskOf 15 = .ok (.iload_n 1, 1) := dk_27 (dk_at dksX0_caskOf_0 15 rfl rfl)
theorem dX0_caskOf_16 : decode cX0_caskOf 16 = .ok (.iaload, 1) := dk_46 (dk_at dksX0_caskOf_0 16 rfl rfl)
theorem dX0_caskOf_17 : decode cX0_caskOf 17 = .ok (.imul, 1) := dk_104 (dk_at dksX0_caskOf_0 17 rfl rfl)
theorem dX0_caskOf_18 : decode cX0_caskOf 18 = .ok (.iload_n 1, 1) := dk_27 (dk_at dksX0_caskOf_0 18 rfl rfl)
theorem dX0_caskOf_19 : decode cX0_caskOf 19 = .ok (.iadd, 1) := dk_96 (dk_at dksX0_caskOf_0 19 rfl rfl)
theorem dX0_caskOf_20 : decode cX0_caskOf 20 = .ok (.aaload, 1) := dk_50 (dk_at dksX0_caskOf_0 20 rfl rfl)
theorem dX0_caskOf_21 : decode cX0_caskOf 21 = .ok (.getfield 97, 3) := dk_180 0 97 (dk_at dksX0_caskOf_0 21 rfl rfl)
theorem dX0_caskOf_24 : decode cX0_caskOf 24 = .ok (.checkcast 41, 3) := dk_192 0 41 (dk_at dksX0_caskOf_1 0 rfl rfl)
theorem dX0_caskOf_27 : decode cX0_caskOf 27 = .ok (.areturn, 1) := dk_176 (dk_at dksX0_caskOf_1 3 rfl rfl)
abbrev cX0_ones : ByteArray := prog_1_method_3_code
def yX0_ones : MethodName := ⟨RX0, "ones", "(I)I"⟩
theorem dX0_ones_0 : decode cX0_ones 0 = .ok (.iload_n 0, 1) := by decide +kernel
theorem dX0_ones_1 : decode cX0_ones 1 = .ok (.invokestatic 1, 3) := by decide +kernel
theorem dX0_ones_4 : decode cX0_ones 4 = .ok (.ireturn, 1) := by decide +kernel
abbrev cX0_change : ByteArray := prog_1_method_29_code
def yX0_change : MethodName := ⟨RX0, "change", "(III)I"⟩
def dkwX0_change_2 : List UInt8 := [21, 4, 172]
abbrev dktX0_change_2 : List UInt8 := dkwX0_change_2 ++ []
def dkwX0_change_1 : List UInt8 := [180, 0, 66, 180, 0, 101, 28, 50, 27, 46, 54, 4, 42, 180, 0, 66, 180, 0, 101, 28, 50, 27, 29, 79]
abbrev dktX0_change_1 : List UInt8 := dkwX0_change_1 ++ dktX0_change_2
def dkwX0_change_0 : List UInt8 := [42, 27, 182, 0, 177, 153, 0, 11, 28, 29, 184, 0, 185, 154, 0, 9, 42, 3, 182, 0, 116, 172, 42]
abbrev dktX0_change_0 : List UInt8 := dkwX0_change_0 ++ dktX0_change_1
theorem dksX0_change_0 : cX0_change.data.toList.drop 0 = dktX0_change_0 := by decide +kernel
theorem dksX0_change_1 : cX0_change.data.toList.drop 23 = dktX0_change_1 := dk_seg dksX0_change_0 23 rfl rfl
theorem dksX0_change_2 : cX0_change.data.toList.drop 47 = dktX0_change_2 := dk_seg dksX0_change_1 24 rfl rfl
theorem dX0_change_0 : decode cX0_change 0 = .ok (.aload_n 0, 1) := dk_42 (dk_at dksX0_change_0 0 rfl rfl)
theorem dX0_change_1 : decode cX0_change 1 = .ok (.iload_n 1, 1) := dk_27 (dk_at dksX0_change_0 1 rfl rfl)
theorem dX0_change_2 : decode cX0_change 2 = .ok (.invokevirtual 177, 3) := dk_182 0 177 (dk_at dksX0_change_0 2 rfl rfl)
theorem dX0_change_5 : decode cX0_change 5 = .ok (.ifCond .eq 11, 3) := dk_153 0 11 (dk_at dksX0_change_0 5 rfl rfl)
theorem dX0_change_8 : decode cX0_change 8 = .ok (.iload_n 2, 1) := dk_28 (dk_at dksX0_change_0 8 rfl rfl)
theorem dX0_change_9 : decode cX0_change 9 = .ok (.iload_n 3, 1) := dk_29 (dk_at dksX0_change_0 9 rfl rfl)
theorem dX0_change_10 : decode cX0_change 10 = .ok (.invokestatic 185, 3) := dk_184 0 185 (dk_at dksX0_change_0 10 rfl rfl)
theorem dX0_change_13 : decode cX0_change 13 = .ok (.ifCond .ne 9, 3) := dk_154 0 9 (dk_at dksX0_change_0 13 rfl rfl)
theorem dX0_change_16 : decode cX0_change 16 = .ok (.aload_n 0, 1) := dk_42 (dk_at dksX0_change_0 16 rfl rfl)
theorem dX0_change_17 : decode cX0_change 17 = .ok (.iconst 0, 1) := dk_3 (dk_at dksX0_change_0 17 rfl rfl)
theorem dX0_change_18 : decode cX0_change 18 = .ok (.invokevirtual 116, 3) := dk_182 0 116 (dk_at dksX0_change_0 18 rfl rfl)
theorem dX0_change_21 : decode cX0_change 21 = .ok (.ireturn, 1) := dk_172 (dk_at dksX0_change_0 21 rfl rfl)
theorem dX0_change_22 : decode cX0_change 22 = .ok (.aload_n 0, 1) := dk_42 (dk_at dksX0_change_0 22 rfl rfl)
theorem dX0_change_23 : decode cX0_change 23 = .ok (.getfield 66, 3) := dk_180 0 66 (dk_at dksX0_change_1 0 rfl rfl)
theorem dX0_change_26 : decode cX0_change 26 = .ok (.getfield 101, 3) := dk_180 0 101 (dk_at dksX0_change_1 3 rfl rfl)
theorem dX0_change_29 : decode cX0_change 29 = .ok (.iload_n 2, 1) := dk_28 (dk_at dksX0_change_1 6 rfl rfl)
theorem dX0_change_30 : decode cX0_change 30 = .ok (.aaload, 1) := dk_50 (dk_at dksX0_change_1 7 rfl rfl)
theorem dX0_change_31 : decode cX0_change 31 = .ok (.iload_n 1, 1) := dk_27 (dk_at dksX0_change_1 8 rfl rfl)
theorem dX0_change_32 : decode cX0_change 32 = .ok (.iaload, 1) := dk_46 (dk_at dksX0_change_1 9 rfl rfl)
theorem dX0_change_33 : decode cX0_change 33 = .ok (.istore 4, 2) := dk_54 4 (dk_at dksX0_change_1 10 rfl rfl)
theorem dX0_change_35 : decode cX0_change 35 = .ok (.aload_n 0, 1) := dk_42 (dk_at dksX0_change_1 12 rfl rfl)
theorem dX0_change_36 : decode cX0_change 36 = .ok (.getfield 66, 3) := dk_180 0 66 (dk_at dksX0_change_1 13 rfl rfl)
theorem dX0_change_39 : decode cX0_change 39 = .ok (.getfield 101, 3) := dk_180 0 101 (dk_at dksX0_change_1 16 rfl rfl)
theorem dX0_change_42 : decode cX0_change 42 = .ok (.iload_n 2, 1) := dk_28 (dk_at dksX0_change_1 19 rfl rfl)
theorem dX0_change_43 : decode cX0_change 43 = .ok (.aaload, 1) := dk_50 (dk_at dksX0_change_1 20 rfl rfl)
theorem dX0_change_44 : decode cX0_change 44 = .ok (.iload_n 1, 1) := dk_27 (dk_at dksX0_change_1 21 rfl rfl)
theorem dX0_change_45 : decode cX0_change 45 = .ok (.iload_n 3, 1) := dk_29 (dk_at dksX0_change_1 22 rfl rfl)
theorem dX0_change_46 : decode cX0_change 46 = .ok (.iastore, 1) := dk_79 (dk_at dksX0_change_1 23 rfl rfl)
theorem dX0_change_47 : decode cX0_change 47 = .ok (.iload 4, 2) := dk_21 4 (dk_at dksX0_change_2 0 rfl rfl)
theorem dX0_change_49 : decode cX0_change 49 = .ok (.ireturn, 1) := dk_172 (dk_at dksX0_change_2 2 rfl rfl)
abbrev cX0_isTold : ByteArray := prog_1_method_10_code
def yX0_isTold : MethodName := ⟨RX0, "isTold", "(II)Z"⟩
def dkwX0_isTold_4 : List UInt8 := [17, 3, 231, 184, 0, 9, 172, 3, 172]
abbrev dktX0_isTold_4 : List UInt8 := dkwX0_isTold_4 ++ []
def dkwX0_isTold_3 : List UInt8 := [184, 0, 9, 172, 27, 3, 17, 3, 231, 184, 0, 9, 172, 27, 3, 17, 3, 231, 184, 0, 9, 172, 27, 3]
abbrev dktX0_isTold_3 : List UInt8 := dkwX0_isTold_3 ++ dktX0_isTold_4
def dkwX0_isTold_2 : List UInt8 := [27, 184, 0, 13, 172, 27, 184, 0, 17, 172, 27, 3, 17, 3, 231, 184, 0, 9, 172, 27, 3, 16, 11]
abbrev dktX0_isTold_2 : List UInt8 := dkwX0_isTold_2 ++ dktX0_isTold_3
def dkwX0_isTold_1 : List UInt8 := [170, 0, 0, 0, 0, 0, 97, 0, 0, 0, 0, 0, 0, 0, 6, 0, 0, 0, 43, 0, 0, 0, 48, 0, 0, 0, 53, 0, 0, 0, 62, 0, 0, 0, 70, 0, 0, 0, 79, 0, 0, 0, 88]
abbrev dktX0_isTold_1 : List UInt8 := dkwX0_isTold_1 ++ dktX0_isTold_2
def dkwX0_isTold_0 : List UInt8 := [26]
abbrev dktX0_isTold_0 : List UInt8 := dkwX0_isTold_0 ++ dktX0_isTold_1
theorem dksX0_isTold_0 : cX0_isTold.data.toList.drop 0 = dktX0_isTold_0 := by decide +kernel
theorem dksX0_isTold_1 : cX0_isTold.data.toList.drop 1 = dktX0_isTold_1 := dk_seg dksX0_isTold_0 1 rfl rfl
theorem dksX0_isTold_2 : cX0_isTold.data.toList.drop 44 = dktX0_isTold_2 := dk_seg dksX0_isTold_1 43 rfl rfl
theorem dksX0_isTold_3 : cX0_isTold.data.toList.drop 67 = dktX0_isTold_3 := dk_seg dksX0_isTold_2 23 rfl rfl
theorem dksX0_isTold_4 : cX0_isTold.data.toList.drop 91 = dktX0_isTold_4 := dk_seg dksX0_isTold_3 24 rfl rfl
theorem dX0_isTold_0 : decode cX0_isTold 0 = .ok (.iload_n 0, 1) := dk_26 (dk_at dksX0_isTold_0 0 rfl rfl)
theorem dX0_isTold_1 : decode cX0_isTold 1 = .ok (.tableswitch 97 0 6 #[43, 48, 53, 62, 70, 79, 88], 43) := by decide +kernel
theorem dX0_isTold_44 : decode cX0_isTold 44 = .ok (.iload_n 1, 1) := dk_27 (dk_at dksX0_isTold_2 0 rfl rfl)
theorem dX0_isTold_45 : decode cX0_isTold 45 = .ok (.invokestatic 13, 3) := dk_184 0 13 (dk_at dksX0_isTold_2 1 rfl rfl)
theorem dX0_isTold_48 : decode cX0_isTold 48 = .ok (.ireturn, 1) := dk_172 (dk_at dksX0_isTold_2 4 rfl rfl)
theorem dX0_isTold_49 : decode cX0_isTold 49 = .ok (.iload_n 1, 1) := dk_27 (dk_at dksX0_isTold_2 5 rfl rfl)
theorem dX0_isTold_50 : decode cX0_isTold 50 = .ok (.invokestatic 17, 3) := dk_184 0 17 (dk_at dksX0_isTold_2 6 rfl rfl)
theorem dX0_isTold_53 : decode cX0_isTold 53 = .ok (.ireturn, 1) := dk_172 (dk_at dksX0_isTold_2 9 rfl rfl)
theorem dX0_isTold_54 : decode cX0_isTold 54 = .ok (.iload_n 1, 1) := dk_27 (dk_at dksX0_isTold_2 10 rfl rfl)
theorem dX0_isTold_55 : decode cX0_isTold 55 = .ok (.iconst 0, 1) := dk_3 (dk_at dksX0_isTold_2 11 rfl rfl)
theorem dX0_isTold_56 : decode cX0_isTold 56 = .ok (.sipush 999, 3) := dk_17 3 231 (dk_at dksX0_isTold_2 12 rfl rfl)
theorem dX0_isTold_59 : decode cX0_isTold 59 = .ok (.invokestatic 9, 3) := dk_184 0 9 (dk_at dksX0_isTold_2 15 rfl rfl)
theorem dX0_isTold_62 : decode cX0_isTold 62 = .ok (.ireturn, 1) := dk_172 (dk_at dksX0_isTold_2 18 rfl rfl)
theorem dX0_isTold_63 : decode cX0_isTold 63 = .ok (.iload_n 1, 1) := dk_27 (dk_at dksX0_isTold_2 19 rfl rfl)
theorem dX0_isTold_64 : decode cX0_isTold 64 = .ok (.iconst 0, 1) := dk_3 (dk_at dksX0_isTold_2 20 rfl rfl)
theorem dX0_isTold_65 : decode cX0_isTold 65 = .ok (.bipush 11, 2) := dk_16 11 (dk_at dksX0_isTold_2 21 rfl rfl)
theorem dX0_isTold_67 : decode cX0_isTold 67 = .ok (.invokestatic 9, 3) := dk_184 0 9 (dk_at dksX0_isTold_3 0 rfl rfl)
theorem dX0_isTold_70 : decode cX0_isTold 70 = .ok (.ireturn, 1) := dk_172 (dk_at dksX0_isTold_3 3 rfl rfl)
theorem dX0_isTold_71 : decode cX0_isTold 71 = .ok (.iload_n 1, 1) := dk_27 (dk_at dksX0_isTold_3 4 rfl rfl)
theorem dX0_isTold_72 : decode cX0_isTold 72 = .ok (.iconst 0, 1) := dk_3 (dk_at dksX0_isTold_3 5 rfl rfl)
theorem dX0_isTold_73 : decode cX0_isTold 73 = .ok (.sipush 999, 3) := dk_17 3 231 (dk_at dksX0_isTold_3 6 rfl rfl)
theorem dX0_isTold_76 : decode cX0_isTold 76 = .ok (.invokestatic 9, 3) := dk_184 0 9 (dk_at dksX0_isTold_3 9 rfl rfl)
theorem dX0_isTold_79 : decode cX0_isTold 79 = .ok (.ireturn, 1) := dk_172 (dk_at dksX0_isTold_3 12 rfl rfl)
theorem dX0_isTold_80 : decode cX0_isTold 80 = .ok (.iload_n 1, 1) := dk_27 (dk_at dksX0_isTold_3 13 rfl rfl)
theorem dX0_isTold_81 : decode cX0_isTold 81 = .ok (.iconst 0, 1) := dk_3 (dk_at dksX0_isTold_3 14 rfl rfl)
theorem dX0_isTold_82 : decode cX0_isTold 82 = .ok (.sipush 999, 3) := dk_17 3 231 (dk_at dksX0_isTold_3 15 rfl rfl)
theorem dX0_isTold_85 : decode cX0_isTold 85 = .ok (.invokestatic 9, 3) := dk_184 0 9 (dk_at dksX0_isTold_3 18 rfl rfl)
theorem dX0_isTold_88 : decode cX0_isTold 88 = .ok (.ireturn, 1) := dk_172 (dk_at dksX0_isTold_3 21 rfl rfl)
theorem dX0_isTold_89 : decode cX0_isTold 89 = .ok (.iload_n 1, 1) := dk_27 (dk_at dksX0_isTold_3 22 rfl rfl)
theorem dX0_isTold_90 : decode cX0_isTold 90 = .ok (.iconst 0, 1) := dk_3 (dk_at dksX0_isTold_3 23 rfl rfl)
theorem dX0_isTold_91 : decode cX0_isTold 91 = .ok (.sipush 999, 3) := dk_17 3 231 (dk_at dksX0_isTold_4 0 rfl rfl)
theorem dX0_isTold_94 : decode cX0_isTold 94 = .ok (.invokestatic 9, 3) := dk_184 0 9 (dk_at dksX0_isTold_4 3 rfl rfl)
theorem dX0_isTold_97 : decode cX0_isTold 97 = .ok (.ireturn, 1) := dk_172 (dk_at dksX0_isTold_4 6 rfl rfl)
theorem dX0_isTold_98 : decode cX0_isTold 98 = .ok (.iconst 0, 1) := dk_3 (dk_at dksX0_isTold_4 7 rfl rfl)
theorem dX0_isTold_99 : decode cX0_isTold 99 = .ok (.ireturn, 1) := dk_172 (dk_at dksX0_isTold_4 8 rfl rfl)
abbrev cX0_sell : ByteArray := prog_1_method_30_code
def yX0_sell : MethodName := ⟨RX0, "sell", "(I)I"⟩
def dkwX0_sell_1 : List UInt8 := [27, 182, 0, 192, 28, 172]
abbrev dktX0_sell_1 : List UInt8 := dkwX0_sell_1 ++ []
def dkwX0_sell_0 : List UInt8 := [42, 27, 182, 0, 177, 154, 0, 9, 42, 3, 182, 0, 116, 172, 42, 27, 182, 0, 189, 61, 42, 180, 0, 66]
abbrev dktX0_sell_0 : List UInt8 := dkwX0_sell_0 ++ dktX0_sell_1
theorem dksX0_sell_0 : cX0_sell.data.toList.drop 0 = dktX0_sell_0 := by decide +kernel
theorem dksX0_sell_1 : cX0_sell.data.toList.drop 24 = dktX0_sell_1 := dk_seg dksX0_sell_0 24 rfl rfl
theorem dX0_sell_0 : decode cX0_sell 0 = .ok (.aload_n 0, 1) := dk_42 (dk_at dksX0_sell_0 0 rfl rfl)
theorem dX0_sell_1 : decode cX0_sell 1 = .ok (.iload_n 1, 1) := dk_27 (dk_at dksX0_sell_0 1 rfl rfl)
theorem dX0_sell_2 : decode cX0_sell 2 = .ok (.invokevirtual 177, 3) := dk_182 0 177 (dk_at dksX0_sell_0 2 rfl rfl)
theorem dX0_sell_5 : decode cX0_sell 5 = .ok (.ifCond .ne 9, 3) := dk_154 0 9 (dk_at dksX0_sell_0 5 rfl rfl)
theorem dX0_sell_8 : decode cX0_sell 8 = .ok (.aload_n 0, 1) := dk_42 (dk_at dksX0_sell_0 8 rfl rfl)
theorem dX0_sell_9 : decode cX0_sell 9 = .ok (.iconst 0, 1) := dk_3 (dk_at dksX0_sell_0 9 rfl rfl)
theorem dX0_sell_10 : decode cX0_sell 10 = .ok (.invokevirtual 116, 3) := dk_182 0 116 (dk_at dksX0_sell_0 10 rfl rfl)
theorem dX0_sell_13 : decode cX0_sell 13 = .ok (.ireturn, 1) := dk_172 (dk_at dksX0_sell_0 13 rfl rfl)
theorem dX0_sell_14 : decode cX0_sell 14 = .ok (.aload_n 0, 1) := dk_42 (dk_at dksX0_sell_0 14 rfl rfl)
theorem dX0_sell_15 : decode cX0_sell 15 = .ok (.iload_n 1, 1) := dk_27 (dk_at dksX0_sell_0 15 rfl rfl)
theorem dX0_sell_16 : decode cX0_sell 16 = .ok (.invokevirtual 189, 3) := dk_182 0 189 (dk_at dksX0_sell_0 16 rfl rfl)
theorem dX0_sell_19 : decode cX0_sell 19 = .ok (.istore_n 2, 1) := dk_61 (dk_at dksX0_sell_0 19 rfl rfl)
theorem dX0_sell_20 : decode cX0_sell 20 = .ok (.aload_n 0, 1) := dk_42 (dk_at dksX0_sell_0 20 rfl rfl)
theorem dX0_sell_21 : decode cX0_sell 21 = .ok (.getfield 66, 3) := dk_180 0 66 (dk_at dksX0_sell_0 21 rfl rfl)
theorem dX0_sell_24 : decode cX0_sell 24 = .ok (.iload_n 1, 1) := dk_27 (dk_at dksX0_sell_1 0 rfl rfl)
theorem dX0_sell_25 : decode cX0_sell 25 = .ok (.invokevirtual 192, 3) := dk_182 0 192 (dk_at dksX0_sell_1 1 rfl rfl)
theorem dX0_sell_28 : decode cX0_sell 28 = .ok (.iload_n 2, 1) := dk_28 (dk_at dksX0_sell_1 4 rfl rfl)
theorem dX0_sell_29 : decode cX0_sell 29 = .ok (.ireturn, 1) := dk_172 (dk_at dksX0_sell_1 5 rfl rfl)
abbrev cX0_loudOf : ByteArray := prog_1_method_19_code
def yX0_loudOf : MethodName := ⟨RX0, "loudOf", "(I)I"⟩
def dkwX0_loudOf_0 : List UInt8 := [42, 27, 182, 0, 118, 77, 44, 185, 0, 122, 1, 0, 172]
abbrev dktX0_loudOf_0 : List UInt8 := dkwX0_loudOf_0 ++ []
theorem dksX0_loudOf_0 : cX0_loudOf.data.toList.drop 0 = dktX0_loudOf_0 := by decide +kernel
theorem dX0_loudOf_0 : decode cX0_loudOf 0 = .ok (.aload_n 0, 1) := dk_42 (dk_at dksX0_loudOf_0 0 rfl rfl)
theorem dX0_loudOf_1 : decode cX0_loudOf 1 = .ok (.iload_n 1, 1) := dk_27 (dk_at dksX0_loudOf_0 1 rfl rfl)
theorem dX0_loudOf_2 : decode cX0_loudOf 2 = .ok (.invokevirtual 118, 3) := dk_182 0 118 (dk_at dksX0_loudOf_0 2 rfl rfl)
theorem dX0_loudOf_5 : decode cX0_loudOf 5 = .ok (.astore_n 2, 1) := dk_77 (dk_at dksX0_loudOf_0 5 rfl rfl)
theorem dX0_loudOf_6 : decode cX0_loudOf 6 = .ok (.aload_n 2, 1) := dk_44 (dk_at dksX0_loudOf_0 6 rfl rfl)
theorem dX0_loudOf_7 : decode cX0_loudOf 7 = .ok (.invokeinterface 122 1, 5) := by decide +kernel
theorem dX0_loudOf_12 : decode cX0_loudOf 12 = .ok (.ireturn, 1) := dk_172 (dk_at dksX0_loudOf_0 12 rfl rfl)
abbrev cX0_go : ByteArray := prog_1_method_32_code
def yX0_go : MethodName := ⟨RX0, "go", "(I)I"⟩
def dkwX0_go_1 : List UInt8 := [153, 0, 11, 42, 7, 182, 0, 116, 167, 0, 8, 42, 27, 182, 0, 203, 172]
abbrev dktX0_go_1 : List UInt8 := dkwX0_go_1 ++ []
def dkwX0_go_0 : List UInt8 := [27, 4, 16, 60, 184, 0, 9, 154, 0, 9, 42, 3, 182, 0, 116, 172, 42, 180, 0, 66, 27, 182, 0, 200]
abbrev dktX0_go_0 : List UInt8 := dkwX0_go_0 ++ dktX0_go_1
theorem dksX0_go_0 : cX0_go.data.toList.drop 0 = dktX0_go_0 := by decide +kernel
theorem dksX0_go_1 : cX0_go.data.toList.drop 24 = dktX0_go_1 := dk_seg dksX0_go_0 24 rfl rfl
theorem dX0_go_0 : decode cX0_go 0 = .ok (.iload_n 1, 1) := dk_27 (dk_at dksX0_go_0 0 rfl rfl)
theorem dX0_go_1 : decode cX0_go 1 = .ok (.iconst 1, 1) := dk_4 (dk_at dksX0_go_0 1 rfl rfl)
theorem dX0_go_2 : decode cX0_go 2 = .ok (.bipush 60, 2) := dk_16 60 (dk_at dksX0_go_0 2 rfl rfl)
theorem dX0_go_4 : decode cX0_go 4 = .ok (.invokestatic 9, 3) := dk_184 0 9 (dk_at dksX0_go_0 4 rfl rfl)
theorem dX0_go_7 : decode cX0_go 7 = .ok (.ifCond .ne 9, 3) := dk_154 0 9 (dk_at dksX0_go_0 7 rfl rfl)
theorem dX0_go_10 : decode cX0_go 10 = .ok (.aload_n 0, 1) := dk_42 (dk_at dksX0_go_0 10 rfl rfl)
theorem dX0_go_11 : decode cX0_go 11 = .ok (.iconst 0, 1) := dk_3 (dk_at dksX0_go_0 11 rfl rfl)
theorem dX0_go_12 : decode cX0_go 12 = .ok (.invokevirtual 116, 3) := dk_182 0 116 (dk_at dksX0_go_0 12 rfl rfl)
theorem dX0_go_15 : decode cX0_go 15 = .ok (.ireturn, 1) := dk_172 (dk_at dksX0_go_0 15 rfl rfl)
theorem dX0_go_16 : decode cX0_go 16 = .ok (.aload_n 0, 1) := dk_42 (dk_at dksX0_go_0 16 rfl rfl)
theorem dX0_go_17 : decode cX0_go 17 = .ok (.getfield 66, 3) := dk_180 0 66 (dk_at dksX0_go_0 17 rfl rfl)
theorem dX0_go_20 : decode cX0_go 20 = .ok (.iload_n 1, 1) := dk_27 (dk_at dksX0_go_0 20 rfl rfl)
theorem dX0_go_21 : decode cX0_go 21 = .ok (.invokevirtual 200, 3) := dk_182 0 200 (dk_at dksX0_go_0 21 rfl rfl)
theorem dX0_go_24 : decode cX0_go 24 = .ok (.ifCond .eq 11, 3) := dk_153 0 11 (dk_at dksX0_go_1 0 rfl rfl)
theorem dX0_go_27 : decode cX0_go 27 = .ok (.aload_n 0, 1) := dk_42 (dk_at dksX0_go_1 3 rfl rfl)
theorem dX0_go_28 : decode cX0_go 28 = .ok (.iconst 4, 1) := dk_7 (dk_at dksX0_go_1 4 rfl rfl)
theorem dX0_go_29 : decode cX0_go 29 = .ok (.invokevirtual 116, 3) := dk_182 0 116 (dk_at dksX0_go_1 5 rfl rfl)
theorem dX0_go_32 : decode cX0_go 32 = .ok (.goto 8, 3) := dk_167 0 8 (dk_at dksX0_go_1 8 rfl rfl)
theorem dX0_go_35 : decode cX0_go 35 = .ok (.aload_n 0, 1) := dk_42 (dk_at dksX0_go_1 11 rfl rfl)
theorem dX0_go_36 : decode cX0_go 36 = .ok (.iload_n 1, 1) := dk_27 (dk_at dksX0_go_1 12 rfl rfl)
theorem dX0_go_37 : decode cX0_go 37 = .ok (.invokevirtual 203, 3) := dk_182 0 203 (dk_at dksX0_go_1 13 rfl rfl)
theorem dX0_go_40 : decode cX0_go 40 = .ok (.ireturn, 1) := dk_172 (dk_at dksX0_go_1 16 rfl rfl)
abbrev cX0_goesOn : ByteArray := prog_1_method_31_code
def yX0_goesOn : MethodName := ⟨RX0, "goesOn", "(I)I"⟩
def dkwX0_goesOn_0 : List UInt8 := [42, 27, 182, 0, 195, 42, 180, 0, 66, 180, 0, 197, 172]
abbrev dktX0_goesOn_0 : List UInt8 := dkwX0_goesOn_0 ++ []
theorem dksX0_goesOn_0 : cX0_goesOn.data.toList.drop 0 = dktX0_goesOn_0 := by decide +kernel
theorem dX0_goesOn_0 : decode cX0_goesOn 0 = .ok (.aload_n 0, 1) := dk_42 (dk_at dksX0_goesOn_0 0 rfl rfl)
theorem dX0_goesOn_1 : decode cX0_goesOn 1 = .ok (.iload_n 1, 1) := dk_27 (dk_at dksX0_goesOn_0 1 rfl rfl)
theorem dX0_goesOn_2 : decode cX0_goesOn 2 = .ok (.invokevirtual 195, 3) := dk_182 0 195 (dk_at dksX0_goesOn_0 2 rfl rfl)
theorem dX0_goesOn_5 : decode cX0_goesOn 5 = .ok (.aload_n 0, 1) := dk_42 (dk_at dksX0_goesOn_0 5 rfl rfl)
theorem dX0_goesOn_6 : decode cX0_goesOn 6 = .ok (.getfield 66, 3) := dk_180 0 66 (dk_at dksX0_goesOn_0 6 rfl rfl)
theorem dX0_goesOn_9 : decode cX0_goesOn 9 = .ok (.getfield 197, 3) := dk_180 0 197 (dk_at dksX0_goesOn_0 9 rfl rfl)
theorem dX0_goesOn_12 : decode cX0_goesOn 12 = .ok (.ireturn, 1) := dk_172 (dk_at dksX0_goesOn_0 12 rfl rfl)
abbrev cX0_passes : ByteArray := prog_1_method_23_code
def yX0_passes : MethodName := ⟨RX0, "passes", "(I)V"⟩
def dkwX0_passes_0 : List UInt8 := [3, 61, 28, 27, 162, 0, 13, 42, 182, 0, 156, 132, 2, 1, 167, 255, 244, 177]
abbrev dktX0_passes_0 : List UInt8 := dkwX0_passes_0 ++ []
theorem dksX0_passes_0 : cX0_passes.data.toList.drop 0 = dktX0_passes_0 := by decide +kernel
theorem dX0_passes_0 : decode cX0_passes 0 = .ok (.iconst 0, 1) := dk_3 (dk_at dksX0_passes_0 0 rfl rfl)
theorem dX0_passes_1 : decode cX0_passes 1 = .ok (.istore_n 2, 1) := dk_61 (dk_at dksX0_passes_0 1 rfl rfl)
theorem dX0_passes_2 : decode cX0_passes 2 = .ok (.iload_n 2, 1) := dk_28 (dk_at dksX0_passes_0 2 rfl rfl)
theorem dX0_passes_3 : decode cX0_passes 3 = .ok (.iload_n 1, 1) := dk_27 (dk_at dksX0_passes_0 3 rfl rfl)
theorem dX0_passes_4 : decode cX0_passes 4 = .ok (.if_icmp .ge 13, 3) := dk_162 0 13 (dk_at dksX0_passes_0 4 rfl rfl)
theorem dX0_passes_7 : decode cX0_passes 7 = .ok (.aload_n 0, 1) := dk_42 (dk_at dksX0_passes_0 7 rfl rfl)
theorem dX0_passes_8 : decode cX0_passes 8 = .ok (.invokevirtual 156, 3) := dk_182 0 156 (dk_at dksX0_passes_0 8 rfl rfl)
theorem dX0_passes_11 : decode cX0_passes 11 = .ok (.iinc 2 1, 3) := dk_132 2 1 (dk_at dksX0_passes_0 11 rfl rfl)
theorem dX0_passes_14 : decode cX0_passes 14 = .ok (.goto (-12), 3) := dk_167 255 244 (dk_at dksX0_passes_0 14 rfl rfl)
theorem dX0_passes_17 : decode cX0_passes 17 = .ok (.return_, 1) := dk_177 (dk_at dksX0_passes_0 17 rfl rfl)
abbrev cX0_passes_2 : ByteArray := prog_1_method_22_code
def yX0_passes_2 : MethodName := ⟨RX0, "passes", "()V"⟩
def dkwX0_passes_2_4 : List UInt8 := [180, 0, 153, 4, 96, 181, 0, 153, 177]
abbrev dktX0_passes_2_4 : List UInt8 := dkwX0_passes_2_4 ++ []
def dkwX0_passes_2_3 : List UInt8 := [180, 0, 66, 27, 182, 0, 149, 42, 182, 0, 146, 60, 132, 2, 1, 167, 255, 229, 42, 180, 0, 66, 89]
abbrev dktX0_passes_2_3 : List UInt8 := dkwX0_passes_2_3 ++ dktX0_passes_2_4
def dkwX0_passes_2_2 : List UInt8 := [182, 0, 143, 42, 182, 0, 146, 60, 3, 61, 28, 16, 8, 162, 0, 27, 27, 2, 159, 0, 22, 42]
abbrev dktX0_passes_2_2 : List UInt8 := dkwX0_passes_2_2 ++ dktX0_passes_2_3
def dkwX0_passes_2_1 : List UInt8 := [27, 42, 27, 182, 0, 118, 182, 0, 137, 182, 0, 140, 132, 1, 1, 167, 255, 226, 42, 180, 0, 66]
abbrev dktX0_passes_2_1 : List UInt8 := dkwX0_passes_2_1 ++ dktX0_passes_2_2
def dkwX0_passes_2_0 : List UInt8 := [42, 180, 0, 66, 182, 0, 134, 3, 60, 27, 42, 180, 0, 66, 180, 0, 114, 162, 0, 25, 42, 180, 0, 66]
abbrev dktX0_passes_2_0 : List UInt8 := dkwX0_passes_2_0 ++ dktX0_passes_2_1
theorem dksX0_passes_2_0 : cX0_passes_2.data.toList.drop 0 = dktX0_passes_2_0 := by decide +kernel
theorem dksX0_passes_2_1 : cX0_passes_2.data.toList.drop 24 = dktX0_passes_2_1 := dk_seg dksX0_passes_2_0 24 rfl rfl
theorem dksX0_passes_2_2 : cX0_passes_2.data.toList.drop 46 = dktX0_passes_2_2 := dk_seg dksX0_passes_2_1 22 rfl rfl
theorem dksX0_passes_2_3 : cX0_passes_2.data.toList.drop 68 = dktX0_passes_2_3 := dk_seg dksX0_passes_2_2 22 rfl rfl
theorem dksX0_passes_2_4 : cX0_passes_2.data.toList.drop 91 = dktX0_passes_2_4 := dk_seg dksX0_passes_2_3 23 rfl rfl
theorem dX0_passes_2_0 : decode cX0_passes_2 0 = .ok (.aload_n 0, 1) := dk_42 (dk_at dksX0_passes_2_0 0 rfl rfl)
theorem dX0_passes_2_1 : decode cX0_passes_2 1 = .ok (.getfield 66, 3) := dk_180 0 66 (dk_at dksX0_passes_2_0 1 rfl rfl)
theorem dX0_passes_2_4 : decode cX0_passes_2 4 = .ok (.invokevirtual 134, 3) := dk_182 0 134 (dk_at dksX0_passes_2_0 4 rfl rfl)
theorem dX0_passes_2_7 : decode cX0_passes_2 7 = .ok (.iconst 0, 1) := dk_3 (dk_at dksX0_passes_2_0 7 rfl rfl)
theorem dX0_passes_2_8 : decode cX0_passes_2 8 = .ok (.istore_n 1, 1) := dk_60 (dk_at dksX0_passes_2_0 8 rfl rfl)
theorem dX0_passes_2_9 : decode cX0_passes_2 9 = .ok (.iload_n 1, 1) := dk_27 (dk_at dksX0_passes_2_0 9 rfl rfl)
theorem dX0_passes_2_10 : decode cX0_passes_2 10 = .ok (.aload_n 0, 1) := dk_42 (dk_at dksX0_passes_2_0 10 rfl rfl)
theorem dX0_passes_2_11 : decode cX0_passes_2 11 = .ok (.getfield 66, 3) := dk_180 0 66 (dk_at dksX0_passes_2_0 11 rfl rfl)
theorem dX0_passes_2_14 : decode cX0_passes_2 14 = .ok (.getfield 114, 3) := dk_180 0 114 (dk_at dksX0_passes_2_0 14 rfl rfl)
theorem dX0_passes_2_17 : decode cX0_passes_2 17 = .ok (.if_icmp .ge 25, 3) := dk_162 0 25 (dk_at dksX0_passes_2_0 17 rfl rfl)
theorem dX0_passes_2_20 : decode cX0_passes_2 20 = .ok (.aload_n 0, 1) := dk_42 (dk_at dksX0_passes_2_0 20 rfl rfl)
theorem dX0_passes_2_21 : decode cX0_passes_2 21 = .ok (.getfield 66, 3) := dk_180 0 66 (dk_at dksX0_passes_2_0 21 rfl rfl)
theorem dX0_passes_2_24 : decode cX0_passes_2 24 = .ok (.iload_n 1, 1) := dk_27 (dk_at dksX0_passes_2_1 0 rfl rfl)
theorem dX0_passes_2_25 : decode cX0_passes_2 25 = .ok (.aload_n 0, 1) := dk_42 (dk_at dksX0_passes_2_1 1 rfl rfl)
theorem dX0_passes_2_26 : decode cX0_passes_2 26 = .ok (.iload_n 1, 1) := dk_27 (dk_at dksX0_passes_2_1 2 rfl rfl)
theorem dX0_passes_2_27 : decode cX0_passes_2 27 = .ok (.invokevirtual 118, 3) := dk_182 0 118 (dk_at dksX0_passes_2_1 3 rfl rfl)
theorem dX0_passes_2_30 : decode cX0_passes_2 30 = .ok (.invokevirtual 137, 3) := dk_182 0 137 (dk_at dksX0_passes_2_1 6 rfl rfl)
theorem dX0_passes_2_33 : decode cX0_passes_2 33 = .ok (.invokevirtual 140, 3) := dk_182 0 140 (dk_at dksX0_passes_2_1 9 rfl rfl)
theorem dX0_passes_2_36 : decode cX0_passes_2 36 = .ok (.iinc 1 1, 3) := dk_132 1 1 (dk_at dksX0_passes_2_1 12 rfl rfl)
theorem dX0_passes_2_39 : decode cX0_passes_2 39 = .ok (.goto (-30), 3) := dk_167 255 226 (dk_at dksX0_passes_2_1 15 rfl rfl)
theorem dX0_passes_2_42 : decode cX0_passes_2 42 = .ok (.aload_n 0, 1) := dk_42 (dk_at dksX0_passes_2_1 18 rfl rfl)
theorem dX0_passes_2_43 : decode cX0_passes_2 43 = .ok (.getfield 66, 3) := dk_180 0 66 (dk_at dksX0_passes_2_1 19 rfl rfl)
theorem dX0_passes_2_46 : decode cX0_passes_2 46 = .ok (.invokevirtual 143, 3) := dk_182 0 143 (dk_at dksX0_passes_2_2 0 rfl rfl)
theorem dX0_passes_2_49 : decode cX0_passes_2 49 = .ok (.aload_n 0, 1) := dk_42 (dk_at dksX0_passes_2_2 3 rfl rfl)
theorem dX0_passes_2_50 : decode cX0_passes_2 50 = .ok (.invokevirtual 146, 3) := dk_182 0 146 (dk_at dksX0_passes_2_2 4 rfl rfl)
theorem dX0_passes_2_53 : decode cX0_passes_2 53 = .ok (.istore_n 1, 1) := dk_60 (dk_at dksX0_passes_2_2 7 rfl rfl)
theorem dX0_passes_2_54 : decode cX0_passes_2 54 = .ok (.iconst 0, 1) := dk_3 (dk_at dksX0_passes_2_2 8 rfl rfl)
theorem dX0_passes_2_55 : decode cX0_passes_2 55 = .ok (.istore_n 2, 1) := dk_61 (dk_at dksX0_passes_2_2 9 rfl rfl)
theorem dX0_passes_2_56 : decode cX0_passes_2 56 = .ok (.iload_n 2, 1) := dk_28 (dk_at dksX0_passes_2_2 10 rfl rfl)
theorem dX0_passes_2_57 : decode cX0_passes_2 57 = .ok (.bipush 8, 2) := dk_16 8 (dk_at dksX0_passes_2_2 11 rfl rfl)
theorem dX0_passes_2_59 : decode cX0_passes_2 59 = .ok (.if_icmp .ge 27, 3) := dk_162 0 27 (dk_at dksX0_passes_2_2 13 rfl rfl)
theorem dX0_passes_2_62 : decode cX0_passes_2 62 = .ok (.iload_n 1, 1) := dk_27 (dk_at dksX0_passes_2_2 16 rfl rfl)
theorem dX0_passes_2_63 : decode cX0_passes_2 63 = .ok (.iconst (-1), 1) := dk_2 (dk_at dksX0_passes_2_2 17 rfl rfl)
theorem dX0_passes_2_64 : decode cX0_passes_2 64 = .ok (.if_icmp .eq 22, 3) := dk_159 0 22 (dk_at dksX0_passes_2_2 18 rfl rfl)
theorem dX0_passes_2_67 : decode cX0_passes_2 67 = .ok (.aload_n 0, 1) := dk_42 (dk_at dksX0_passes_2_2 21 rfl rfl)
theorem dX0_passes_2_68 : decode cX0_passes_2 68 = .ok (.getfield 66, 3) := dk_180 0 66 (dk_at dksX0_passes_2_3 0 rfl rfl)
theorem dX0_passes_2_71 : decode cX0_passes_2 71 = .ok (.iload_n 1, 1) := dk_27 (dk_at dksX0_passes_2_3 3 rfl rfl)
theorem dX0_passes_2_72 : decode cX0_passes_2 72 = .ok (.invokevirtual 149, 3) := dk_182 0 149 (dk_at dksX0_passes_2_3 4 rfl rfl)
theorem dX0_passes_2_75 : decode cX0_passes_2 75 = .ok (.aload_n 0, 1) := dk_42 (dk_at dksX0_passes_2_3 7 rfl rfl)
theorem dX0_passes_2_76 : decode cX0_passes_2 76 = .ok (.invokevirtual 146, 3) := dk_182 0 146 (dk_at dksX0_passes_2_3 8 rfl rfl)
theorem dX0_passes_2_79 : decode cX0_passes_2 79 = .ok (.istore_n 1, 1) := dk_60 (dk_at dksX0_passes_2_3 11 rfl rfl)
theorem dX0_passes_2_80 : decode cX0_passes_2 80 = .ok (.iinc 2 1, 3) := dk_132 2 1 (dk_at dksX0_passes_2_3 12 rfl rfl)
theorem dX0_passes_2_83 : decode cX0_passes_2 83 = .ok (.goto (-27), 3) := dk_167 255 229 (dk_at dksX0_passes_2_3 15 rfl rfl)
theorem dX0_passes_2_86 : decode cX0_passes_2 86 = .ok (.aload_n 0, 1) := dk_42 (dk_at dksX0_passes_2_3 18 rfl rfl)
theorem dX0_passes_2_87 : decode cX0_passes_2 87 = .ok (.getfield 66, 3) := dk_180 0 66 (dk_at dksX0_passes_2_3 19 rfl rfl)
theorem dX0_passes_2_90 : decode cX0_passes_2 90 = .ok (.dup, 1) := dk_89 (dk_at dksX0_passes_2_3 22 rfl rfl)
theorem dX0_passes_2_91 : decode cX0_passes_2 91 = .ok (.getfield 153, 3) := dk_180 0 153 (dk_at dksX0_passes_2_4 0 rfl rfl)
theorem dX0_passes_2_94 : decode cX0_passes_2 94 = .ok (.iconst 1, 1) := dk_4 (dk_at dksX0_passes_2_4 3 rfl rfl)
theorem dX0_passes_2_95 : decode cX0_passes_2 95 = .ok (.iadd, 1) := dk_96 (dk_at dksX0_passes_2_4 4 rfl rfl)
theorem dX0_passes_2_96 : decode cX0_passes_2 96 = .ok (.putfield 153, 3) := dk_181 0 153 (dk_at dksX0_passes_2_4 5 rfl rfl)
theorem dX0_passes_2_99 : decode cX0_passes_2 99 = .ok (.return_, 1) := dk_177 (dk_at dksX0_passes_2_4 8 rfl rfl)
abbrev cX0_nextToBurst : ByteArray := prog_1_method_21_code
def yX0_nextToBurst : MethodName := ⟨RX0, "nextToBurst", "()I"⟩
def dkwX0_nextToBurst_1 : List UInt8 := [167, 255, 234, 27, 42, 180, 0, 66, 180, 0, 114, 162, 0, 7, 27, 167, 0, 4, 2, 172]
abbrev dktX0_nextToBurst_1 : List UInt8 := dkwX0_nextToBurst_1 ++ []
def dkwX0_nextToBurst_0 : List UInt8 := [3, 60, 27, 42, 180, 0, 66, 180, 0, 114, 162, 0, 17, 42, 27, 182, 0, 131, 154, 0, 9, 132, 1, 1]
abbrev dktX0_nextToBurst_0 : List UInt8 := dkwX0_nextToBurst_0 ++ dktX0_nextToBurst_1
theorem dksX0_nextToBurst_0 : cX0_nextToBurst.data.toList.drop 0 = dktX0_nextToBurst_0 := by decide +kernel
theorem dksX0_nextToBurst_1 : cX0_nextToBurst.data.toList.drop 24 = dktX0_nextToBurst_1 := dk_seg dksX0_nextToBurst_0 24 rfl rfl
theorem dX0_nextToBurst_0 : decode cX0_nextToBurst 0 = .ok (.iconst 0, 1) := dk_3 (dk_at dksX0_nextToBurst_0 0 rfl rfl)
theorem dX0_nextToBurst_1 : decode cX0_nextToBurst 1 = .ok (.istore_n 1, 1) := dk_60 (dk_at dksX0_nextToBurst_0 1 rfl rfl)
theorem dX0_nextToBurst_2 : decode cX0_nextToBurst 2 = .ok (.iload_n 1, 1) := dk_27 (dk_at dksX0_nextToBurst_0 2 rfl rfl)
theorem dX0_nextToBurst_3 : decode cX0_nextToBurst 3 = .ok (.aload_n 0, 1) := dk_42 (dk_at dksX0_nextToBurst_0 3 rfl rfl)
theorem dX0_nextToBurst_4 : decode cX0_nextToBurst 4 = .ok (.getfield 66, 3) := dk_180 0 66 (dk_at dksX0_nextToBurst_0 4 rfl rfl)
theorem dX0_nextToBurst_7 : decode cX0_nextToBurst 7 = .ok (.getfield 114, 3) := dk_180 0 114 (dk_at dksX0_nextToBurst_0 7 rfl rfl)
theorem dX0_nextToBurst_10 : decode cX0_nextToBurst 10 = .ok (.if_icmp .ge 17, 3) := dk_162 0 17 (dk_at dksX0_nextToBurst_0 10 rfl rfl)
theorem dX0_nextToBurst_13 : decode cX0_nextToBurst 13 = .ok (.aload_n 0, 1) := dk_42 (dk_at dksX0_nextToBurst_0 13 rfl rfl)
theorem dX0_nextToBurst_14 : decode cX0_nextToBurst 14 = .ok (.iload_n 1, 1) := dk_27 (dk_at dksX0_nextToBurst_0 14 rfl rfl)
theorem dX0_nextToBurst_15 : decode cX0_nextToBurst 15 = .ok (.invokevirtual 131, 3) := dk_182 0 131 (dk_at dksX0_nextToBurst_0 15 rfl rfl)
theorem dX0_nextToBurst_18 : decode cX0_nextToBurst 18 = .ok (.ifCond .ne 9, 3) := dk_154 0 9 (dk_at dksX0_nextToBurst_0 18 rfl rfl)
theorem dX0_nextToBurst_21 : decode cX0_nextToBurst 21 = .ok (.iinc 1 1, 3) := dk_132 1 1 (dk_at dksX0_nextToBurst_0 21 rfl rfl)
theorem dX0_nextToBurst_24 : decode cX0_nextToBurst 24 = .ok (.goto (-22), 3) := dk_167 255 234 (dk_at dksX0_nextToBurst_1 0 rfl rfl)
theorem dX0_nextToBurst_27 : decode cX0_nextToBurst 27 = .ok (.iload_n 1, 1) := dk_27 (dk_at dksX0_nextToBurst_1 3 rfl rfl)
theorem dX0_nextToBurst_28 : decode cX0_nextToBurst 28 = .ok (.aload_n 0, 1) := dk_42 (dk_at dksX0_nextToBurst_1 4 rfl rfl)
theorem dX0_nextToBurst_29 : decode cX0_nextToBurst 29 = .ok (.getfield 66, 3) := dk_180 0 66 (dk_at dksX0_nextToBurst_1 5 rfl rfl)
theorem dX0_nextToBurst_32 : decode cX0_nextToBurst 32 = .ok (.getfield 114, 3) := dk_180 0 114 (dk_at dksX0_nextToBurst_1 8 rfl rfl)
theorem dX0_nextToBurst_35 : decode cX0_nextToBurst 35 = .ok (.if_icmp .ge 7, 3) := dk_162 0 7 (dk_at dksX0_nextToBurst_1 11 rfl rfl)
theorem dX0_nextToBurst_38 : decode cX0_nextToBurst 38 = .ok (.iload_n 1, 1) := dk_27 (dk_at dksX0_nextToBurst_1 14 rfl rfl)
theorem dX0_nextToBurst_39 : decode cX0_nextToBurst 39 = .ok (.goto 4, 3) := dk_167 0 4 (dk_at dksX0_nextToBurst_1 15 rfl rfl)
theorem dX0_nextToBurst_42 : decode cX0_nextToBurst 42 = .ok (.iconst (-1), 1) := dk_2 (dk_at dksX0_nextToBurst_1 18 rfl rfl)
theorem dX0_nextToBurst_43 : decode cX0_nextToBurst 43 = .ok (.ireturn, 1) := dk_172 (dk_at dksX0_nextToBurst_1 19 rfl rfl)
abbrev cX0_isTooLoud : ByteArray := prog_1_method_20_code
def yX0_isTooLoud : MethodName := ⟨RX0, "isTooLoud", "(I)Z"⟩
def dkwX0_isTooLoud_1 : List UInt8 := [167, 0, 4, 3, 172]
abbrev dktX0_isTooLoud_1 : List UInt8 := dkwX0_isTooLoud_1 ++ []
def dkwX0_isTooLoud_0 : List UInt8 := [42, 27, 182, 0, 118, 77, 44, 185, 0, 122, 1, 0, 44, 185, 0, 128, 1, 0, 164, 0, 7, 4]
abbrev dktX0_isTooLoud_0 : List UInt8 := dkwX0_isTooLoud_0 ++ dktX0_isTooLoud_1
theorem dksX0_isTooLoud_0 : cX0_isTooLoud.data.toList.drop 0 = dktX0_isTooLoud_0 := by decide +kernel
theorem dksX0_isTooLoud_1 : cX0_isTooLoud.data.toList.drop 22 = dktX0_isTooLoud_1 := dk_seg dksX0_isTooLoud_0 22 rfl rfl
theorem dX0_isTooLoud_0 : decode cX0_isTooLoud 0 = .ok (.aload_n 0, 1) := dk_42 (dk_at dksX0_isTooLoud_0 0 rfl rfl)
theorem dX0_isTooLoud_1 : decode cX0_isTooLoud 1 = .ok (.iload_n 1, 1) := dk_27 (dk_at dksX0_isTooLoud_0 1 rfl rfl)
theorem dX0_isTooLoud_2 : decode cX0_isTooLoud 2 = .ok (.invokevirtual 118, 3) := dk_182 0 118 (dk_at dksX0_isTooLoud_0 2 rfl rfl)
theorem dX0_isTooLoud_5 : decode cX0_isTooLoud 5 = .ok (.astore_n 2, 1) := dk_77 (dk_at dksX0_isTooLoud_0 5 rfl rfl)
theorem dX0_isTooLoud_6 : decode cX0_isTooLoud 6 = .ok (.aload_n 2, 1) := dk_44 (dk_at dksX0_isTooLoud_0 6 rfl rfl)
theorem dX0_isTooLoud_7 : decode cX0_isTooLoud 7 = .ok (.invokeinterface 122 1, 5) := by decide +kernel
theorem dX0_isTooLoud_12 : decode cX0_isTooLoud 12 = .ok (.aload_n 2, 1) := dk_44 (dk_at dksX0_isTooLoud_0 12 rfl rfl)
theorem dX0_isTooLoud_13 : decode cX0_isTooLoud 13 = .ok (.invokeinterface 128 1, 5) := by decide +kernel
theorem dX0_isTooLoud_18 : decode cX0_isTooLoud 18 = .ok (.if_icmp .le 7, 3) := dk_164 0 7 (dk_at dksX0_isTooLoud_0 18 rfl rfl)
theorem dX0_isTooLoud_21 : decode cX0_isTooLoud 21 = .ok (.iconst 1, 1) := dk_4 (dk_at dksX0_isTooLoud_0 21 rfl rfl)
theorem dX0_isTooLoud_22 : decode cX0_isTooLoud 22 = .ok (.goto 4, 3) := dk_167 0 4 (dk_at dksX0_isTooLoud_1 0 rfl rfl)
theorem dX0_isTooLoud_25 : decode cX0_isTooLoud 25 = .ok (.iconst 0, 1) := dk_3 (dk_at dksX0_isTooLoud_1 3 rfl rfl)
theorem dX0_isTooLoud_26 : decode cX0_isTooLoud 26 = .ok (.ireturn, 1) := dk_172 (dk_at dksX0_isTooLoud_1 4 rfl rfl)
abbrev cX0_now : ByteArray := prog_1_method_36_code
def yX0_now : MethodName := ⟨RX0, "now", "(I)I"⟩
def dkwX0_now_4 : List UInt8 := [180, 0, 66, 182, 0, 224, 172, 42, 3, 182, 0, 116, 172]
abbrev dktX0_now_4 : List UInt8 := dkwX0_now_4 ++ []
def dkwX0_now_3 : List UInt8 := [172, 42, 42, 180, 0, 66, 182, 0, 212, 182, 0, 215, 172, 42, 182, 0, 218, 172, 42, 182, 0, 221, 172, 42]
abbrev dktX0_now_3 : List UInt8 := dkwX0_now_3 ++ dktX0_now_4
def dkwX0_now_2 : List UInt8 := [42, 180, 0, 66, 180, 0, 153, 172, 42, 180, 0, 66, 180, 0, 197, 172, 42, 180, 0, 66, 5, 182, 0, 209]
abbrev dktX0_now_2 : List UInt8 := dkwX0_now_2 ++ dktX0_now_3
def dkwX0_now_1 : List UInt8 := [170, 0, 0, 0, 0, 0, 98, 0, 0, 0, 0, 0, 0, 0, 6, 0, 0, 0, 43, 0, 0, 0, 51, 0, 0, 0, 59, 0, 0, 0, 68, 0, 0, 0, 80, 0, 0, 0, 85, 0, 0, 0, 90]
abbrev dktX0_now_1 : List UInt8 := dkwX0_now_1 ++ dktX0_now_2
def dkwX0_now_0 : List UInt8 := [27]
abbrev dktX0_now_0 : List UInt8 := dkwX0_now_0 ++ dktX0_now_1
theorem dksX0_now_0 : cX0_now.data.toList.drop 0 = dktX0_now_0 := by decide +kernel
theorem dksX0_now_1 : cX0_now.data.toList.drop 1 = dktX0_now_1 := dk_seg dksX0_now_0 1 rfl rfl
theorem dksX0_now_2 : cX0_now.data.toList.drop 44 = dktX0_now_2 := dk_seg dksX0_now_1 43 rfl rfl
theorem dksX0_now_3 : cX0_now.data.toList.drop 68 = dktX0_now_3 := dk_seg dksX0_now_2 24 rfl rfl
theorem dksX0_now_4 : cX0_now.data.toList.drop 92 = dktX0_now_4 := dk_seg dksX0_now_3 24 rfl rfl
theorem dX0_now_0 : decode cX0_now 0 = .ok (.iload_n 1, 1) := dk_27 (dk_at dksX0_now_0 0 rfl rfl)
theorem dX0_now_1 : decode cX0_now 1 = .ok (.tableswitch 98 0 6 #[43, 51, 59, 68, 80, 85, 90], 43) := by decide +kernel
theorem dX0_now_44 : decode cX0_now 44 = .ok (.aload_n 0, 1) := dk_42 (dk_at dksX0_now_2 0 rfl rfl)
theorem dX0_now_45 : decode cX0_now 45 = .ok (.getfield 66, 3) := dk_180 0 66 (dk_at dksX0_now_2 1 rfl rfl)
theorem dX0_now_48 : decode cX0_now 48 = .ok (.getfield 153, 3) := dk_180 0 153 (dk_at dksX0_now_2 4 rfl rfl)
theorem dX0_now_51 : decode cX0_now 51 = .ok (.ireturn, 1) := dk_172 (dk_at dksX0_now_2 7 rfl rfl)
theorem dX0_now_52 : decode cX0_now 52 = .ok (.aload_n 0, 1) := dk_42 (dk_at dksX0_now_2 8 rfl rfl)
theorem dX0_now_53 : decode cX0_now 53 = .ok (.getfield 66, 3) := dk_180 0 66 (dk_at dksX0_now_2 9 rfl rfl)
theorem dX0_now_56 : decode cX0_now 56 = .ok (.getfield 197, 3) := dk_180 0 197 (dk_at dksX0_now_2 12 rfl rfl)
theorem dX0_now_59 : decode cX0_now 59 = .ok (.ireturn, 1) := dk_172 (dk_at dksX0_now_2 15 rfl rfl)
theorem dX0_now_60 : decode cX0_now 60 = .ok (.aload_n 0, 1) := dk_42 (dk_at dksX0_now_2 16 rfl rfl)
theorem dX0_now_61 : decode cX0_now 61 = .ok (.getfield 66, 3) := dk_180 0 66 (dk_at dksX0_now_2 17 rfl rfl)
theorem dX0_now_64 : decode cX0_now 64 = .ok (.iconst 2, 1) := dk_5 (dk_at dksX0_now_2 20 rfl rfl)
theorem dX0_now_65 : decode cX0_now 65 = .ok (.invokevirtual 209, 3) := dk_182 0 209 (dk_at dksX0_now_2 21 rfl rfl)
theorem dX0_now_68 : decode cX0_now 68 = .ok (.ireturn, 1) := dk_172 (dk_at dksX0_now_3 0 rfl rfl)
theorem dX0_now_69 : decode cX0_now 69 = .ok (.aload_n 0, 1) := dk_42 (dk_at dksX0_now_3 1 rfl rfl)
theorem dX0_now_70 : decode cX0_now 70 = .ok (.aload_n 0, 1) := dk_42 (dk_at dksX0_now_3 2 rfl rfl)
theorem dX0_now_71 : decode cX0_now 71 = .ok (.getfield 66, 3) := dk_180 0 66 (dk_at dksX0_now_3 3 rfl rfl)
theorem dX0_now_74 : decode cX0_now 74 = .ok (.invokevirtual 212, 3) := dk_182 0 212 (dk_at dksX0_now_3 6 rfl rfl)
theorem dX0_now_77 : decode cX0_now 77 = .ok (.invokevirtual 215, 3) := dk_182 0 215 (dk_at dksX0_now_3 9 rfl rfl)
theorem dX0_now_80 : decode cX0_now 80 = .ok (.ireturn, 1) := dk_172 (dk_at dksX0_now_3 12 rfl rfl)
theorem dX0_now_81 : decode cX0_now 81 = .ok (.aload_n 0, 1) := dk_42 (dk_at dksX0_now_3 13 rfl rfl)
theorem dX0_now_82 : decode cX0_now 82 = .ok (.invokevirtual 218, 3) := dk_182 0 218 (dk_at dksX0_now_3 14 rfl rfl)
theorem dX0_now_85 : decode cX0_now 85 = .ok (.ireturn, 1) := dk_172 (dk_at dksX0_now_3 17 rfl rfl)
theorem dX0_now_86 : decode cX0_now 86 = .ok (.aload_n 0, 1) := dk_42 (dk_at dksX0_now_3 18 rfl rfl)
theorem dX0_now_87 : decode cX0_now 87 = .ok (.invokevirtual 221, 3) := dk_182 0 221 (dk_at dksX0_now_3 19 rfl rfl)
theorem dX0_now_90 : decode cX0_now 90 = .ok (.ireturn, 1) := dk_172 (dk_at dksX0_now_3 22 rfl rfl)
theorem dX0_now_91 : decode cX0_now 91 = .ok (.aload_n 0, 1) := dk_42 (dk_at dksX0_now_3 23 rfl rfl)
theorem dX0_now_92 : decode cX0_now 92 = .ok (.getfield 66, 3) := dk_180 0 66 (dk_at dksX0_now_4 0 rfl rfl)
theorem dX0_now_95 : decode cX0_now 95 = .ok (.invokevirtual 224, 3) := dk_182 0 224 (dk_at dksX0_now_4 3 rfl rfl)
theorem dX0_now_98 : decode cX0_now 98 = .ok (.ireturn, 1) := dk_172 (dk_at dksX0_now_4 6 rfl rfl)
theorem dX0_now_99 : decode cX0_now 99 = .ok (.aload_n 0, 1) := dk_42 (dk_at dksX0_now_4 7 rfl rfl)
theorem dX0_now_100 : decode cX0_now 100 = .ok (.iconst 0, 1) := dk_3 (dk_at dksX0_now_4 8 rfl rfl)
theorem dX0_now_101 : decode cX0_now 101 = .ok (.invokevirtual 116, 3) := dk_182 0 116 (dk_at dksX0_now_4 9 rfl rfl)
theorem dX0_now_104 : decode cX0_now 104 = .ok (.ireturn, 1) := dk_172 (dk_at dksX0_now_4 12 rfl rfl)
abbrev cX0_blendOf : ByteArray := prog_1_method_33_code
def yX0_blendOf : MethodName := ⟨RX0, "blendOf", "(I)I"⟩
def dkwX0_blendOf_1 : List UInt8 := [42, 29, 182, 0, 189, 167, 0, 4, 3, 96, 61, 132, 3, 1, 167, 255, 222, 28, 172]
abbrev dktX0_blendOf_1 : List UInt8 := dkwX0_blendOf_1 ++ []
def dkwX0_blendOf_0 : List UInt8 := [3, 61, 3, 62, 29, 42, 180, 0, 66, 180, 0, 114, 162, 0, 29, 28, 27, 29, 184, 0, 206, 153, 0, 11]
abbrev dktX0_blendOf_0 : List UInt8 := dkwX0_blendOf_0 ++ dktX0_blendOf_1
theorem dksX0_blendOf_0 : cX0_blendOf.data.toList.drop 0 = dktX0_blendOf_0 := by decide +kernel
theorem dksX0_blendOf_1 : cX0_blendOf.data.toList.drop 24 = dktX0_blendOf_1 := dk_seg dksX0_blendOf_0 24 rfl rfl
theorem dX0_blendOf_0 : decode cX0_blendOf 0 = .ok (.iconst 0, 1) := dk_3 (dk_at dksX0_blendOf_0 0 rfl rfl)
theorem dX0_blendOf_1 : decode cX0_blendOf 1 = .ok (.istore_n 2, 1) := dk_61 (dk_at dksX0_blendOf_0 1 rfl rfl)
theorem dX0_blendOf_2 : decode cX0_blendOf 2 = .ok (.iconst 0, 1) := dk_3 (dk_at dksX0_blendOf_0 2 rfl rfl)
theorem dX0_blendOf_3 : decode cX0_blendOf 3 = .ok (.istore_n 3, 1) := dk_62 (dk_at dksX0_blendOf_0 3 rfl rfl)
theorem dX0_blendOf_4 : decode cX0_blendOf 4 = .ok (.iload_n 3, 1) := dk_29 (dk_at dksX0_blendOf_0 4 rfl rfl)
theorem dX0_blendOf_5 : decode cX0_blendOf 5 = .ok (.aload_n 0, 1) := dk_42 (dk_at dksX0_blendOf_0 5 rfl rfl)
theorem dX0_blendOf_6 : decode cX0_blendOf 6 = .ok (.getfield 66, 3) := dk_180 0 66 (dk_at dksX0_blendOf_0 6 rfl rfl)
theorem dX0_blendOf_9 : decode cX0_blendOf 9 = .ok (.getfield 114, 3) := dk_180 0 114 (dk_at dksX0_blendOf_0 9 rfl rfl)
theorem dX0_blendOf_12 : decode cX0_blendOf 12 = .ok (.if_icmp .ge 29, 3) := dk_162 0 29 (dk_at dksX0_blendOf_0 12 rfl rfl)
theorem dX0_blendOf_15 : decode cX0_blendOf 15 = .ok (.iload_n 2, 1) := dk_28 (dk_at dksX0_blendOf_0 15 rfl rfl)
theorem dX0_blendOf_16 : decode cX0_blendOf 16 = .ok (.iload_n 1, 1) := dk_27 (dk_at dksX0_blendOf_0 16 rfl rfl)
theorem dX0_blendOf_17 : decode cX0_blendOf 17 = .ok (.iload_n 3, 1) := dk_29 (dk_at dksX0_blendOf_0 17 rfl rfl)
theorem dX0_blendOf_18 : decode cX0_blendOf 18 = .ok (.invokestatic 206, 3) := dk_184 0 206 (dk_at dksX0_blendOf_0 18 rfl rfl)
theorem dX0_blendOf_21 : decode cX0_blendOf 21 = .ok (.ifCond .eq 11, 3) := dk_153 0 11 (dk_at dksX0_blendOf_0 21 rfl rfl)
theorem dX0_blendOf_24 : decode cX0_blendOf 24 = .ok (.aload_n 0, 1) := dk_42 (dk_at dksX0_blendOf_1 0 rfl rfl)
theorem dX0_blendOf_25 : decode cX0_blendOf 25 = .ok (.iload_n 3, 1) := dk_29 (dk_at dksX0_blendOf_1 1 rfl rfl)
theorem dX0_blendOf_26 : decode cX0_blendOf 26 = .ok (.invokevirtual 189, 3) := dk_182 0 189 (dk_at dksX0_blendOf_1 2 rfl rfl)
theorem dX0_blendOf_29 : decode cX0_blendOf 29 = .ok (.goto 4, 3) := dk_167 0 4 (dk_at dksX0_blendOf_1 5 rfl rfl)
theorem dX0_blendOf_32 : decode cX0_blendOf 32 = .ok (.iconst 0, 1) := dk_3 (dk_at dksX0_blendOf_1 8 rfl rfl)
theorem dX0_blendOf_33 : decode cX0_blendOf 33 = .ok (.iadd, 1) := dk_96 (dk_at dksX0_blendOf_1 9 rfl rfl)
theorem dX0_blendOf_34 : decode cX0_blendOf 34 = .ok (.istore_n 2, 1) := dk_61 (dk_at dksX0_blendOf_1 10 rfl rfl)
theorem dX0_blendOf_35 : decode cX0_blendOf 35 = .ok (.iinc 3 1, 3) := dk_132 3 1 (dk_at dksX0_blendOf_1 11 rfl rfl)
theorem dX0_blendOf_38 : decode cX0_blendOf 38 = .ok (.goto (-34), 3) := dk_167 255 222 (dk_at dksX0_blendOf_1 14 rfl rfl)
theorem dX0_blendOf_41 : decode cX0_blendOf 41 = .ok (.iload_n 2, 1) := dk_28 (dk_at dksX0_blendOf_1 17 rfl rfl)
theorem dX0_blendOf_42 : decode cX0_blendOf 42 = .ok (.ireturn, 1) := dk_172 (dk_at dksX0_blendOf_1 18 rfl rfl)
abbrev cX0_has : ByteArray := prog_1_method_2_code
def yX0_has : MethodName := ⟨RX0, "has", "(II)Z"⟩
def dkwX0_has_0 : List UInt8 := [26, 27, 122, 4, 126, 4, 160, 0, 7, 4, 167, 0, 4, 3, 172]
abbrev dktX0_has_0 : List UInt8 := dkwX0_has_0 ++ []
theorem dksX0_has_0 : cX0_has.data.toList.drop 0 = dktX0_has_0 := by decide +kernel
theorem dX0_has_0 : decode cX0_has 0 = .ok (.iload_n 0, 1) := dk_26 (dk_at dksX0_has_0 0 rfl rfl)
theorem dX0_has_1 : decode cX0_has 1 = .ok (.iload_n 1, 1) := dk_27 (dk_at dksX0_has_0 1 rfl rfl)
theorem dX0_has_2 : decode cX0_has 2 = .ok (.ishr, 1) := dk_122 (dk_at dksX0_has_0 2 rfl rfl)
theorem dX0_has_3 : decode cX0_has 3 = .ok (.iconst 1, 1) := dk_4 (dk_at dksX0_has_0 3 rfl rfl)
theorem dX0_has_4 : decode cX0_has 4 = .ok (.iand, 1) := dk_126 (dk_at dksX0_has_0 4 rfl rfl)
theorem dX0_has_5 : decode cX0_has 5 = .ok (.iconst 1, 1) := dk_4 (dk_at dksX0_has_0 5 rfl rfl)
theorem dX0_has_6 : decode cX0_has 6 = .ok (.if_icmp .ne 7, 3) := dk_160 0 7 (dk_at dksX0_has_0 6 rfl rfl)
theorem dX0_has_9 : decode cX0_has 9 = .ok (.iconst 1, 1) := dk_4 (dk_at dksX0_has_0 9 rfl rfl)
theorem dX0_has_10 : decode cX0_has 10 = .ok (.goto 4, 3) := dk_167 0 4 (dk_at dksX0_has_0 10 rfl rfl)
theorem dX0_has_13 : decode cX0_has 13 = .ok (.iconst 0, 1) := dk_3 (dk_at dksX0_has_0 13 rfl rfl)
theorem dX0_has_14 : decode cX0_has 14 = .ok (.ireturn, 1) := dk_172 (dk_at dksX0_has_0 14 rfl rfl)
abbrev cX0_tooLoud : ByteArray := prog_1_method_34_code
def yX0_tooLoud : MethodName := ⟨RX0, "tooLoud", "()I"⟩
def dkwX0_tooLoud_1 : List UInt8 := [4, 28, 120, 167, 0, 4, 3, 128, 60, 132, 2, 1, 167, 255, 224, 27, 172]
abbrev dktX0_tooLoud_1 : List UInt8 := dkwX0_tooLoud_1 ++ []
def dkwX0_tooLoud_0 : List UInt8 := [3, 60, 3, 61, 28, 42, 180, 0, 66, 180, 0, 114, 162, 0, 27, 27, 42, 28, 182, 0, 131, 153, 0, 9]
abbrev dktX0_tooLoud_0 : List UInt8 := dkwX0_tooLoud_0 ++ dktX0_tooLoud_1
theorem dksX0_tooLoud_0 : cX0_tooLoud.data.toList.drop 0 = dktX0_tooLoud_0 := by decide +kernel
theorem dksX0_tooLoud_1 : cX0_tooLoud.data.toList.drop 24 = dktX0_tooLoud_1 := dk_seg dksX0_tooLoud_0 24 rfl rfl
theorem dX0_tooLoud_0 : decode cX0_tooLoud 0 = .ok (.iconst 0, 1) := dk_3 (dk_at dksX0_tooLoud_0 0 rfl rfl)
theorem dX0_tooLoud_1 : decode cX0_tooLoud 1 = .ok (.istore_n 1, 1) := dk_60 (dk_at dksX0_tooLoud_0 1 rfl rfl)
theorem dX0_tooLoud_2 : decode cX0_tooLoud 2 = .ok (.iconst 0, 1) := dk_3 (dk_at dksX0_tooLoud_0 2 rfl rfl)
theorem dX0_tooLoud_3 : decode cX0_tooLoud 3 = .ok (.istore_n 2, 1) := dk_61 (dk_at dksX0_tooLoud_0 3 rfl rfl)
theorem dX0_tooLoud_4 : decode cX0_tooLoud 4 = .ok (.iload_n 2, 1) := dk_28 (dk_at dksX0_tooLoud_0 4 rfl rfl)
theorem dX0_tooLoud_5 : decode cX0_tooLoud 5 = .ok (.aload_n 0, 1) := dk_42 (dk_at dksX0_tooLoud_0 5 rfl rfl)
theorem dX0_tooLoud_6 : decode cX0_tooLoud 6 = .ok (.getfield 66, 3) := dk_180 0 66 (dk_at dksX0_tooLoud_0 6 rfl rfl)
theorem dX0_tooLoud_9 : decode cX0_tooLoud 9 = .ok (.getfield 114, 3) := dk_180 0 114 (dk_at dksX0_tooLoud_0 9 rfl rfl)
theorem dX0_tooLoud_12 : decode cX0_tooLoud 12 = .ok (.if_icmp .ge 27, 3) := dk_162 0 27 (dk_at dksX0_tooLoud_0 12 rfl rfl)
theorem dX0_tooLoud_15 : decode cX0_tooLoud 15 = .ok (.iload_n 1, 1) := dk_27 (dk_at dksX0_tooLoud_0 15 rfl rfl)
theorem dX0_tooLoud_16 : decode cX0_tooLoud 16 = .ok (.aload_n 0, 1) := dk_42 (dk_at dksX0_tooLoud_0 16 rfl rfl)
theorem dX0_tooLoud_17 : decode cX0_tooLoud 17 = .ok (.iload_n 2, 1) := dk_28 (dk_at dksX0_tooLoud_0 17 rfl rfl)
theorem dX0_tooLoud_18 : decode cX0_tooLoud 18 = .ok (.invokevirtual 131, 3) := dk_182 0 131 (dk_at dksX0_tooLoud_0 18 rfl rfl)
theorem dX0_tooLoud_21 : decode cX0_tooLoud 21 = .ok (.ifCond .eq 9, 3) := dk_153 0 9 (dk_at dksX0_tooLoud_0 21 rfl rfl)
theorem dX0_tooLoud_24 : decode cX0_tooLoud 24 = .ok (.iconst 1, 1) := dk_4 (dk_at dksX0_tooLoud_1 0 rfl rfl)
theorem dX0_tooLoud_25 : decode cX0_tooLoud 25 = .ok (.iload_n 2, 1) := dk_28 (dk_at dksX0_tooLoud_1 1 rfl rfl)
theorem dX0_tooLoud_26 : decode cX0_tooLoud 26 = .ok (.ishl, 1) := dk_120 (dk_at dksX0_tooLoud_1 2 rfl rfl)
theorem dX0_tooLoud_27 : decode cX0_tooLoud 27 = .ok (.goto 4, 3) := dk_167 0 4 (dk_at dksX0_tooLoud_1 3 rfl rfl)
theorem dX0_tooLoud_30 : decode cX0_tooLoud 30 = .ok (.iconst 0, 1) := dk_3 (dk_at dksX0_tooLoud_1 6 rfl rfl)
theorem dX0_tooLoud_31 : decode cX0_tooLoud 31 = .ok (.ior, 1) := dk_128 (dk_at dksX0_tooLoud_1 7 rfl rfl)
theorem dX0_tooLoud_32 : decode cX0_tooLoud 32 = .ok (.istore_n 1, 1) := dk_60 (dk_at dksX0_tooLoud_1 8 rfl rfl)
theorem dX0_tooLoud_33 : decode cX0_tooLoud 33 = .ok (.iinc 2 1, 3) := dk_132 2 1 (dk_at dksX0_tooLoud_1 9 rfl rfl)
theorem dX0_tooLoud_36 : decode cX0_tooLoud 36 = .ok (.goto (-32), 3) := dk_167 255 224 (dk_at dksX0_tooLoud_1 12 rfl rfl)
theorem dX0_tooLoud_39 : decode cX0_tooLoud 39 = .ok (.iload_n 1, 1) := dk_27 (dk_at dksX0_tooLoud_1 15 rfl rfl)
theorem dX0_tooLoud_40 : decode cX0_tooLoud 40 = .ok (.ireturn, 1) := dk_172 (dk_at dksX0_tooLoud_1 16 rfl rfl)
abbrev cX0_loudest : ByteArray := prog_1_method_35_code
def yX0_loudest : MethodName := ⟨RX0, "loudest", "()I"⟩
def dkwX0_loudest_2 : List UInt8 := [172]
abbrev dktX0_loudest_2 : List UInt8 := dkwX0_loudest_2 ++ []
def dkwX0_loudest_1 : List UInt8 := [182, 0, 189, 42, 27, 182, 0, 189, 164, 0, 7, 28, 167, 0, 4, 27, 60, 132, 2, 1, 167, 255, 218, 27]
abbrev dktX0_loudest_1 : List UInt8 := dkwX0_loudest_1 ++ dktX0_loudest_2
def dkwX0_loudest_0 : List UInt8 := [2, 60, 3, 61, 28, 42, 180, 0, 66, 180, 0, 114, 162, 0, 33, 27, 2, 159, 0, 16, 42, 28]
abbrev dktX0_loudest_0 : List UInt8 := dkwX0_loudest_0 ++ dktX0_loudest_1
theorem dksX0_loudest_0 : cX0_loudest.data.toList.drop 0 = dktX0_loudest_0 := by decide +kernel
theorem dksX0_loudest_1 : cX0_loudest.data.toList.drop 22 = dktX0_loudest_1 := dk_seg dksX0_loudest_0 22 rfl rfl
theorem dksX0_loudest_2 : cX0_loudest.data.toList.drop 46 = dktX0_loudest_2 := dk_seg dksX0_loudest_1 24 rfl rfl
theorem dX0_loudest_0 : decode cX0_loudest 0 = .ok (.iconst (-1), 1) := dk_2 (dk_at dksX0_loudest_0 0 rfl rfl)
theorem dX0_loudest_1 : decode cX0_loudest 1 = .ok (.istore_n 1, 1) := dk_60 (dk_at dksX0_loudest_0 1 rfl rfl)
theorem dX0_loudest_2 : decode cX0_loudest 2 = .ok (.iconst 0, 1) := dk_3 (dk_at dksX0_loudest_0 2 rfl rfl)
theorem dX0_loudest_3 : decode cX0_loudest 3 = .ok (.istore_n 2, 1) := dk_61 (dk_at dksX0_loudest_0 3 rfl rfl)
theorem dX0_loudest_4 : decode cX0_loudest 4 = .ok (.iload_n 2, 1) := dk_28 (dk_at dksX0_loudest_0 4 rfl rfl)
theorem dX0_loudest_5 : decode cX0_loudest 5 = .ok (.aload_n 0, 1) := dk_42 (dk_at dksX0_loudest_0 5 rfl rfl)
theorem dX0_loudest_6 : decode cX0_loudest 6 = .ok (.getfield 66, 3) := dk_180 0 66 (dk_at dksX0_loudest_0 6 rfl rfl)
theorem dX0_loudest_9 : decode cX0_loudest 9 = .ok (.getfield 114, 3) := dk_180 0 114 (dk_at dksX0_loudest_0 9 rfl rfl)
theorem dX0_loudest_12 : decode cX0_loudest 12 = .ok (.if_icmp .ge 33, 3) := dk_162 0 33 (dk_at dksX0_loudest_0 12 rfl rfl)
theorem dX0_loudest_15 : decode cX0_loudest 15 = .ok (.iload_n 1, 1) := dk_27 (dk_at dksX0_loudest_0 15 rfl rfl)
theorem dX0_loudest_16 : decode cX0_loudest 16 = .ok (.iconst (-1), 1) := dk_2 (dk_at dksX0_loudest_0 16 rfl rfl)
theorem dX0_loudest_17 : decode cX0_loudest 17 = .ok (.if_icmp .eq 16, 3) := dk_159 0 16 (dk_at dksX0_loudest_0 17 rfl rfl)
theorem dX0_loudest_20 : decode cX0_loudest 20 = .ok (.aload_n 0, 1) := dk_42 (dk_at dksX0_loudest_0 20 rfl rfl)
theorem dX0_loudest_21 : decode cX0_loudest 21 = .ok (.iload_n 2, 1) := dk_28 (dk_at dksX0_loudest_0 21 rfl rfl)
theorem dX0_loudest_22 : decode cX0_loudest 22 = .ok (.invokevirtual 189, 3) := dk_182 0 189 (dk_at dksX0_loudest_1 0 rfl rfl)
theorem dX0_loudest_25 : decode cX0_loudest 25 = .ok (.aload_n 0, 1) := dk_42 (dk_at dksX0_loudest_1 3 rfl rfl)
theorem dX0_loudest_26 : decode cX0_loudest 26 = .ok (.iload_n 1, 1) := dk_27 (dk_at dksX0_loudest_1 4 rfl rfl)
theorem dX0_loudest_27 : decode cX0_loudest 27 = .ok (.invokevirtual 189, 3) := dk_182 0 189 (dk_at dksX0_loudest_1 5 rfl rfl)
theorem dX0_loudest_30 : decode cX0_loudest 30 = .ok (.if_icmp .le 7, 3) := dk_164 0 7 (dk_at dksX0_loudest_1 8 rfl rfl)
theorem dX0_loudest_33 : decode cX0_loudest 33 = .ok (.iload_n 2, 1) := dk_28 (dk_at dksX0_loudest_1 11 rfl rfl)
theorem dX0_loudest_34 : decode cX0_loudest 34 = .ok (.goto 4, 3) := dk_167 0 4 (dk_at dksX0_loudest_1 12 rfl rfl)
theorem dX0_loudest_37 : decode cX0_loudest 37 = .ok (.iload_n 1, 1) := dk_27 (dk_at dksX0_loudest_1 15 rfl rfl)
theorem dX0_loudest_38 : decode cX0_loudest 38 = .ok (.istore_n 1, 1) := dk_60 (dk_at dksX0_loudest_1 16 rfl rfl)
theorem dX0_loudest_39 : decode cX0_loudest 39 = .ok (.iinc 2 1, 3) := dk_132 2 1 (dk_at dksX0_loudest_1 17 rfl rfl)
theorem dX0_loudest_42 : decode cX0_loudest 42 = .ok (.goto (-38), 3) := dk_167 255 218 (dk_at dksX0_loudest_1 20 rfl rfl)
theorem dX0_loudest_45 : decode cX0_loudest 45 = .ok (.iload_n 1, 1) := dk_27 (dk_at dksX0_loudest_1 23 rfl rfl)
theorem dX0_loudest_46 : decode cX0_loudest 46 = .ok (.ireturn, 1) := dk_172 (dk_at dksX0_loudest_2 0 rfl rfl)
abbrev cX0_ahead : ByteArray := prog_1_method_39_code
def yX0_ahead : MethodName := ⟨RX0, "ahead", "(III)I"⟩
def dkwX0_ahead_2 : List UInt8 := [184, 0, 9, 153, 0, 13, 42, 27, 28, 29, 182, 0, 235, 167, 0, 8, 42, 3, 182, 0, 116, 172]
abbrev dktX0_ahead_2 : List UInt8 := dkwX0_ahead_2 ++ []
def dkwX0_ahead_1 : List UInt8 := [167, 0, 4, 3, 54, 4, 42, 27, 182, 0, 177, 153, 0, 28, 21, 4, 153, 0, 23, 29, 3, 16, 100]
abbrev dktX0_ahead_1 : List UInt8 := dkwX0_ahead_1 ++ dktX0_ahead_2
def dkwX0_ahead_0 : List UInt8 := [28, 5, 159, 0, 20, 28, 8, 159, 0, 15, 28, 16, 6, 159, 0, 9, 28, 16, 7, 160, 0, 7, 4]
abbrev dktX0_ahead_0 : List UInt8 := dkwX0_ahead_0 ++ dktX0_ahead_1
theorem dksX0_ahead_0 : cX0_ahead.data.toList.drop 0 = dktX0_ahead_0 := by decide +kernel
theorem dksX0_ahead_1 : cX0_ahead.data.toList.drop 23 = dktX0_ahead_1 := dk_seg dksX0_ahead_0 23 rfl rfl
theorem dksX0_ahead_2 : cX0_ahead.data.toList.drop 46 = dktX0_ahead_2 := dk_seg dksX0_ahead_1 23 rfl rfl
theorem dX0_ahead_0 : decode cX0_ahead 0 = .ok (.iload_n 2, 1) := dk_28 (dk_at dksX0_ahead_0 0 rfl rfl)
theorem dX0_ahead_1 : decode cX0_ahead 1 = .ok (.iconst 2, 1) := dk_5 (dk_at dksX0_ahead_0 1 rfl rfl)
theorem dX0_ahead_2 : decode cX0_ahead 2 = .ok (.if_icmp .eq 20, 3) := dk_159 0 20 (dk_at dksX0_ahead_0 2 rfl rfl)
theorem dX0_ahead_5 : decode cX0_ahead 5 = .ok (.iload_n 2, 1) := dk_28 (dk_at dksX0_ahead_0 5 rfl rfl)
theorem dX0_ahead_6 : decode cX0_ahead 6 = .ok (.iconst 5, 1) := dk_8 (dk_at dksX0_ahead_0 6 rfl rfl)
theorem dX0_ahead_7 : decode cX0_ahead 7 = .ok (.if_icmp .eq 15, 3) := dk_159 0 15 (dk_at dksX0_ahead_0 7 rfl rfl)
theorem dX0_ahead_10 : decode cX0_ahead 10 = .ok (.iload_n 2, 1) := dk_28 (dk_at dksX0_ahead_0 10 rfl rfl)
theorem dX0_ahead_11 : decode cX0_ahead 11 = .ok (.bipush 6, 2) := dk_16 6 (dk_at dksX0_ahead_0 11 rfl rfl)
theorem dX0_ahead_13 : decode cX0_ahead 13 = .ok (.if_icmp .eq 9, 3) := dk_159 0 9 (dk_at dksX0_ahead_0 13 rfl rfl)
theorem dX0_ahead_16 : decode cX0_ahead 16 = .ok (.iload_n 2, 1) := dk_28 (dk_at dksX0_ahead_0 16 rfl rfl)
theorem dX0_ahead_17 : decode cX0_ahead 17 = .ok (.bipush 7, 2) := dk_16 7 (dk_at dksX0_ahead_0 17 rfl rfl)
theorem dX0_ahead_19 : decode cX0_ahead 19 = .ok (.if_icmp .ne 7, 3) := dk_160 0 7 (dk_at dksX0_ahead_0 19 rfl rfl)
theorem dX0_ahead_22 : decode cX0_ahead 22 = .ok (.iconst 1, 1) := dk_4 (dk_at dksX0_ahead_0 22 rfl rfl)
theorem dX0_ahead_23 : decode cX0_ahead 23 = .ok (.goto 4, 3) := dk_167 0 4 (dk_at dksX0_ahead_1 0 rfl rfl)
theorem dX0_ahead_26 : decode cX0_ahead 26 = .ok (.iconst 0, 1) := dk_3 (dk_at dksX0_ahead_1 3 rfl rfl)
theorem dX0_ahead_27 : decode cX0_ahead 27 = .ok (.istore 4, 2) := dk_54 4 (dk_at dksX0_ahead_1 4 rfl rfl)
theorem dX0_ahead_29 : decode cX0_ahead 29 = .ok (.aload_n 0, 1) := dk_42 (dk_at dksX0_ahead_1 6 rfl rfl)
theorem dX0_ahead_30 : decode cX0_ahead 30 = .ok (.iload_n 1, 1) := dk_27 (dk_at dksX0_ahead_1 7 rfl rfl)
theorem dX0_ahead_31 : decode cX0_ahead 31 = .ok (.invokevirtual 177, 3) := dk_182 0 177 (dk_at dksX0_ahead_1 8 rfl rfl)
theorem dX0_ahead_34 : decode cX0_ahead 34 = .ok (.ifCond .eq 28, 3) := dk_153 0 28 (dk_at dksX0_ahead_1 11 rfl rfl)
theorem dX0_ahead_37 : decode cX0_ahead 37 = .ok (.iload 4, 2) := dk_21 4 (dk_at dksX0_ahead_1 14 rfl rfl)
theorem dX0_ahead_39 : decode cX0_ahead 39 = .ok (.ifCond .eq 23, 3) := dk_153 0 23 (dk_at dksX0_ahead_1 16 rfl rfl)
theorem dX0_ahead_42 : decode cX0_ahead 42 = .ok (.iload_n 3, 1) := dk_29 (dk_at dksX0_ahead_1 19 rfl rfl)
theorem dX0_ahead_43 : decode cX0_ahead 43 = .ok (.iconst 0, 1) := dk_3 (dk_at dksX0_ahead_1 20 rfl rfl)
theorem dX0_ahead_44 : decode cX0_ahead 44 = .ok (.bipush 100, 2) := dk_16 100 (dk_at dksX0_ahead_1 21 rfl rfl)
theorem dX0_ahead_46 : decode cX0_ahead 46 = .ok (.invokestatic 9, 3) := dk_184 0 9 (dk_at dksX0_ahead_2 0 rfl rfl)
theorem dX0_ahead_49 : decode cX0_ahead 49 = .ok (.ifCond .eq 13, 3) := dk_153 0 13 (dk_at dksX0_ahead_2 3 rfl rfl)
theorem dX0_ahead_52 : decode cX0_ahead 52 = .ok (.aload_n 0, 1) := dk_42 (dk_at dksX0_ahead_2 6 rfl rfl)
theorem dX0_ahead_53 : decode cX0_ahead 53 = .ok (.iload_n 1, 1) := dk_27 (dk_at dksX0_ahead_2 7 rfl rfl)
theorem dX0_ahead_54 : decode cX0_ahead 54 = .ok (.iload_n 2, 1) := dk_28 (dk_at dksX0_ahead_2 8 rfl rfl)
theorem dX0_ahead_55 : decode cX0_ahead 55 = .ok (.iload_n 3, 1) := dk_29 (dk_at dksX0_ahead_2 9 rfl rfl)
theorem dX0_ahead_56 : decode cX0_ahead 56 = .ok (.invokevirtual 235, 3) := dk_182 0 235 (dk_at dksX0_ahead_2 10 rfl rfl)
theorem dX0_ahead_59 : decode cX0_ahead 59 = .ok (.goto 8, 3) := dk_167 0 8 (dk_at dksX0_ahead_2 13 rfl rfl)
theorem dX0_ahead_62 : decode cX0_ahead 62 = .ok (.aload_n 0, 1) := dk_42 (dk_at dksX0_ahead_2 16 rfl rfl)
theorem dX0_ahead_63 : decode cX0_ahead 63 = .ok (.iconst 0, 1) := dk_3 (dk_at dksX0_ahead_2 17 rfl rfl)
theorem dX0_ahead_64 : decode cX0_ahead 64 = .ok (.invokevirtual 116, 3) := dk_182 0 116 (dk_at dksX0_ahead_2 18 rfl rfl)
theorem dX0_ahead_67 : decode cX0_ahead 67 = .ok (.ireturn, 1) := dk_172 (dk_at dksX0_ahead_2 21 rfl rfl)
abbrev cX0_toldBehind : ByteArray := prog_1_method_38_code
def yX0_toldBehind : MethodName := ⟨RX0, "toldBehind", "(III)I"⟩
def dkwX0_toldBehind_2 : List UInt8 := [182, 0, 227, 25, 5, 191]
abbrev dktX0_toldBehind_2 : List UInt8 := dkwX0_toldBehind_2 ++ []
def dkwX0_toldBehind_1 : List UInt8 := [42, 180, 0, 66, 42, 180, 0, 73, 182, 0, 227, 21, 4, 172, 58, 5, 42, 180, 0, 66, 42, 180, 0, 73]
abbrev dktX0_toldBehind_1 : List UInt8 := dkwX0_toldBehind_1 ++ dktX0_toldBehind_2
def dkwX0_toldBehind_0 : List UInt8 := [42, 180, 0, 73, 42, 180, 0, 66, 182, 0, 227, 42, 29, 182, 0, 195, 42, 27, 28, 182, 0, 231, 54, 4]
abbrev dktX0_toldBehind_0 : List UInt8 := dkwX0_toldBehind_0 ++ dktX0_toldBehind_1
theorem dksX0_toldBehind_0 : cX0_toldBehind.data.toList.drop 0 = dktX0_toldBehind_0 := by decide +kernel
theorem dksX0_toldBehind_1 : cX0_toldBehind.data.toList.drop 24 = dktX0_toldBehind_1 := dk_seg dksX0_toldBehind_0 24 rfl rfl
theorem dksX0_toldBehind_2 : cX0_toldBehind.data.toList.drop 48 = dktX0_toldBehind_2 := dk_seg dksX0_toldBehind_1 24 rfl rfl
theorem dX0_toldBehind_0 : decode cX0_toldBehind 0 = .ok (.aload_n 0, 1) := dk_42 (dk_at dksX0_toldBehind_0 0 rfl rfl)
theorem dX0_toldBehind_1 : decode cX0_toldBehind 1 = .ok (.getfield 73, 3) := dk_180 0 73 (dk_at dksX0_toldBehind_0 1 rfl rfl)
theorem dX0_toldBehind_4 : decode cX0_toldBehind 4 = .ok (.aload_n 0, 1) := dk_42 (dk_at dksX0_toldBehind_0 4 rfl rfl)
theorem dX0_toldBehind_5 : decode cX0_toldBehind 5 = .ok (.getfield 66, 3) := dk_180 0 66 (dk_at dksX0_toldBehind_0 5 rfl rfl)
theorem dX0_toldBehind_8 : decode cX0_toldBehind 8 = .ok (.invokevirtual 227, 3) := dk_182 0 227 (dk_at dksX0_toldBehind_0 8 rfl rfl)
theorem dX0_toldBehind_11 : decode cX0_toldBehind 11 = .ok (.aload_n 0, 1) := dk_42 (dk_at dksX0_toldBehind_0 11 rfl rfl)
theorem dX0_toldBehind_12 : decode cX0_toldBehind 12 = .ok (.iload_n 3, 1) := dk_29 (dk_at dksX0_toldBehind_0 12 rfl rfl)
theorem dX0_toldBehind_13 : decode cX0_toldBehind 13 = .ok (.invokevirtual 195, 3) := dk_182 0 195 (dk_at dksX0_toldBehind_0 13 rfl rfl)
theorem dX0_toldBehind_16 : decode cX0_toldBehind 16 = .ok (.aload_n 0, 1) := dk_42 (dk_at dksX0_toldBehind_0 16 rfl rfl)
theorem dX0_toldBehind_17 : decode cX0_toldBehind 17 = .ok (.iload_n 1, 1) := dk_27 (dk_at dksX0_toldBehind_0 17 rfl rfl)
theorem dX0_toldBehind_18 : decode cX0_toldBehind 18 = .ok (.iload_n 2, 1) := dk_28 (dk_at dksX0_toldBehind_0 18 rfl rfl)
theorem dX0_toldBehind_19 : decode cX0_toldBehind 19 = .ok (.invokevirtual 231, 3) := dk_182 0 231 (dk_at dksX0_toldBehind_0 19 rfl rfl)
theorem dX0_toldBehind_22 : decode cX0_toldBehind 22 = .ok (.istore 4, 2) := dk_54 4 (dk_at dksX0_toldBehind_0 22 rfl rfl)
theorem dX0_toldBehind_24 : decode cX0_toldBehind 24 = .ok (.aload_n 0, 1) := dk_42 (dk_at dksX0_toldBehind_1 0 rfl rfl)
theorem dX0_toldBehind_25 : decode cX0_toldBehind 25 = .ok (.getfield 66, 3) := dk_180 0 66 (dk_at dksX0_toldBehind_1 1 rfl rfl)
theorem dX0_toldBehind_28 : decode cX0_toldBehind 28 = .ok (.aload_n 0, 1) := dk_42 (dk_at dksX0_toldBehind_1 4 rfl rfl)
theorem dX0_toldBehind_29 : decode cX0_toldBehind 29 = .ok (.getfield 73, 3) := dk_180 0 73 (dk_at dksX0_toldBehind_1 5 rfl rfl)
theorem dX0_toldBehind_32 : decode cX0_toldBehind 32 = .ok (.invokevirtual 227, 3) := dk_182 0 227 (dk_at dksX0_toldBehind_1 8 rfl rfl)
theorem dX0_toldBehind_35 : decode cX0_toldBehind 35 = .ok (.iload 4, 2) := dk_21 4 (dk_at dksX0_toldBehind_1 11 rfl rfl)
theorem dX0_toldBehind_37 : decode cX0_toldBehind 37 = .ok (.ireturn, 1) := dk_172 (dk_at dksX0_toldBehind_1 13 rfl rfl)
theorem dX0_toldBehind_38 : decode cX0_toldBehind 38 = .ok (.astore 5, 2) := dk_58 5 (dk_at dksX0_toldBehind_1 14 rfl rfl)
theorem dX0_toldBehind_40 : decode cX0_toldBehind 40 = .ok (.aload_n 0, 1) := dk_42 (dk_at dksX0_toldBehind_1 16 rfl rfl)
theorem dX0_toldBehind_41 : decode cX0_toldBehind 41 = .ok (.getfield 66, 3) := dk_180 0 66 (dk_at dksX0_toldBehind_1 17 rfl rfl)
theorem dX0_toldBehind_44 : decode cX0_toldBehind 44 = .ok (.aload_n 0, 1) := dk_42 (dk_at dksX0_toldBehind_1 20 rfl rfl)
theorem dX0_toldBehind_45 : decode cX0_toldBehind 45 = .ok (.getfield 73, 3) := dk_180 0 73 (dk_at dksX0_toldBehind_1 21 rfl rfl)
theorem dX0_toldBehind_48 : decode cX0_toldBehind 48 = .ok (.invokevirtual 227, 3) := dk_182 0 227 (dk_at dksX0_toldBehind_2 0 rfl rfl)
theorem dX0_toldBehind_51 : decode cX0_toldBehind 51 = .ok (.aload 5, 2) := dk_25 5 (dk_at dksX0_toldBehind_2 3 rfl rfl)
theorem dX0_toldBehind_53 : decode cX0_toldBehind 53 = .ok (.athrow, 1) := dk_191 (dk_at dksX0_toldBehind_2 5 rfl rfl)
abbrev cX0_toldOf : ByteArray := prog_1_method_37_code
def yX0_toldOf : MethodName := ⟨RX0, "toldOf", "(II)I"⟩
def dkwX0_toldOf_1 : List UInt8 := [46, 172]
abbrev dktX0_toldOf_1 : List UInt8 := dkwX0_toldOf_1 ++ []
def dkwX0_toldOf_0 : List UInt8 := [28, 16, 7, 160, 0, 11, 42, 27, 182, 0, 189, 167, 0, 14, 42, 180, 0, 66, 180, 0, 101, 28, 50, 27]
abbrev dktX0_toldOf_0 : List UInt8 := dkwX0_toldOf_0 ++ dktX0_toldOf_1
theorem dksX0_toldOf_0 : cX0_toldOf.data.toList.drop 0 = dktX0_toldOf_0 := by decide +kernel
theorem dksX0_toldOf_1 : cX0_toldOf.data.toList.drop 24 = dktX0_toldOf_1 := dk_seg dksX0_toldOf_0 24 rfl rfl
theorem dX0_toldOf_0 : decode cX0_toldOf 0 = .ok (.iload_n 2, 1) := dk_28 (dk_at dksX0_toldOf_0 0 rfl rfl)
theorem dX0_toldOf_1 : decode cX0_toldOf 1 = .ok (.bipush 7, 2) := dk_16 7 (dk_at dksX0_toldOf_0 1 rfl rfl)
theorem dX0_toldOf_3 : decode cX0_toldOf 3 = .ok (.if_icmp .ne 11, 3) := dk_160 0 11 (dk_at dksX0_toldOf_0 3 rfl rfl)
theorem dX0_toldOf_6 : decode cX0_toldOf 6 = .ok (.aload_n 0, 1) := dk_42 (dk_at dksX0_toldOf_0 6 rfl rfl)
theorem dX0_toldOf_7 : decode cX0_toldOf 7 = .ok (.iload_n 1, 1) := dk_27 (dk_at dksX0_toldOf_0 7 rfl rfl)
theorem dX0_toldOf_8 : decode cX0_toldOf 8 = .ok (.invokevirtual 189, 3) := dk_182 0 189 (dk_at dksX0_toldOf_0 8 rfl rfl)
theorem dX0_toldOf_11 : decode cX0_toldOf 11 = .ok (.goto 14, 3) := dk_167 0 14 (dk_at dksX0_toldOf_0 11 rfl rfl)
theorem dX0_toldOf_14 : decode cX0_toldOf 14 = .ok (.aload_n 0, 1) := dk_42 (dk_at dksX0_toldOf_0 14 rfl rfl)
theorem dX0_toldOf_15 : decode cX0_toldOf 15 = .ok (.getfield 66, 3) := dk_180 0 66 (dk_at dksX0_toldOf_0 15 rfl rfl)
theorem dX0_toldOf_18 : decode cX0_toldOf 18 = .ok (.getfield 101, 3) := dk_180 0 101 (dk_at dksX0_toldOf_0 18 rfl rfl)
theorem dX0_toldOf_21 : decode cX0_toldOf 21 = .ok (.iload_n 2, 1) := dk_28 (dk_at dksX0_toldOf_0 21 rfl rfl)
theorem dX0_toldOf_22 : decode cX0_toldOf 22 = .ok (.aaload, 1) := dk_50 (dk_at dksX0_toldOf_0 22 rfl rfl)
theorem dX0_toldOf_23 : decode cX0_toldOf 23 = .ok (.iload_n 1, 1) := dk_27 (dk_at dksX0_toldOf_0 23 rfl rfl)
theorem dX0_toldOf_24 : decode cX0_toldOf 24 = .ok (.iaload, 1) := dk_46 (dk_at dksX0_toldOf_1 0 rfl rfl)
theorem dX0_toldOf_25 : decode cX0_toldOf 25 = .ok (.ireturn, 1) := dk_172 (dk_at dksX0_toldOf_1 1 rfl rfl)
abbrev cX0_claps : ByteArray := prog_1_method_41_code
def yX0_claps : MethodName := ⟨RX0, "claps", "(I)I"⟩
def dkwX0_claps_0 : List UInt8 := [27, 3, 16, 100, 184, 0, 9, 153, 0, 11, 42, 27, 182, 0, 239, 167, 0, 8, 42, 3, 182, 0, 116, 172]
abbrev dktX0_claps_0 : List UInt8 := dkwX0_claps_0 ++ []
theorem dksX0_claps_0 : cX0_claps.data.toList.drop 0 = dktX0_claps_0 := by decide +kernel
theorem dX0_claps_0 : decode cX0_claps 0 = .ok (.iload_n 1, 1) := dk_27 (dk_at dksX0_claps_0 0 rfl rfl)
theorem dX0_claps_1 : decode cX0_claps 1 = .ok (.iconst 0, 1) := dk_3 (dk_at dksX0_claps_0 1 rfl rfl)
theorem dX0_claps_2 : decode cX0_claps 2 = .ok (.bipush 100, 2) := dk_16 100 (dk_at dksX0_claps_0 2 rfl rfl)
theorem dX0_claps_4 : decode cX0_claps 4 = .ok (.invokestatic 9, 3) := dk_184 0 9 (dk_at dksX0_claps_0 4 rfl rfl)
theorem dX0_claps_7 : decode cX0_claps 7 = .ok (.ifCond .eq 11, 3) := dk_153 0 11 (dk_at dksX0_claps_0 7 rfl rfl)
theorem dX0_claps_10 : decode cX0_claps 10 = .ok (.aload_n 0, 1) := dk_42 (dk_at dksX0_claps_0 10 rfl rfl)
theorem dX0_claps_11 : decode cX0_claps 11 = .ok (.iload_n 1, 1) := dk_27 (dk_at dksX0_claps_0 11 rfl rfl)
theorem dX0_claps_12 : decode cX0_claps 12 = .ok (.invokevirtual 239, 3) := dk_182 0 239 (dk_at dksX0_claps_0 12 rfl rfl)
theorem dX0_claps_15 : decode cX0_claps 15 = .ok (.goto 8, 3) := dk_167 0 8 (dk_at dksX0_claps_0 15 rfl rfl)
theorem dX0_claps_18 : decode cX0_claps 18 = .ok (.aload_n 0, 1) := dk_42 (dk_at dksX0_claps_0 18 rfl rfl)
theorem dX0_claps_19 : decode cX0_claps 19 = .ok (.iconst 0, 1) := dk_3 (dk_at dksX0_claps_0 19 rfl rfl)
theorem dX0_claps_20 : decode cX0_claps 20 = .ok (.invokevirtual 116, 3) := dk_182 0 116 (dk_at dksX0_claps_0 20 rfl rfl)
theorem dX0_claps_23 : decode cX0_claps 23 = .ok (.ireturn, 1) := dk_172 (dk_at dksX0_claps_0 23 rfl rfl)
abbrev cX0_clapsBehind : ByteArray := prog_1_method_40_code
def yX0_clapsBehind : MethodName := ⟨RX0, "clapsBehind", "(I)I"⟩
def dkwX0_clapsBehind_1 : List UInt8 := [180, 0, 73, 182, 0, 227, 28, 172, 78, 42, 180, 0, 66, 42, 180, 0, 73, 182, 0, 227, 45, 191]
abbrev dktX0_clapsBehind_1 : List UInt8 := dkwX0_clapsBehind_1 ++ []
def dkwX0_clapsBehind_0 : List UInt8 := [42, 180, 0, 73, 42, 180, 0, 66, 182, 0, 227, 42, 27, 182, 0, 203, 61, 42, 180, 0, 66, 42]
abbrev dktX0_clapsBehind_0 : List UInt8 := dkwX0_clapsBehind_0 ++ dktX0_clapsBehind_1
theorem dksX0_clapsBehind_0 : cX0_clapsBehind.data.toList.drop 0 = dktX0_clapsBehind_0 := by decide +kernel
theorem dksX0_clapsBehind_1 : cX0_clapsBehind.data.toList.drop 22 = dktX0_clapsBehind_1 := dk_seg dksX0_clapsBehind_0 22 rfl rfl
theorem dX0_clapsBehind_0 : decode cX0_clapsBehind 0 = .ok (.aload_n 0, 1) := dk_42 (dk_at dksX0_clapsBehind_0 0 rfl rfl)
theorem dX0_clapsBehind_1 : decode cX0_clapsBehind 1 = .ok (.getfield 73, 3) := dk_180 0 73 (dk_at dksX0_clapsBehind_0 1 rfl rfl)
theorem dX0_clapsBehind_4 : decode cX0_clapsBehind 4 = .ok (.aload_n 0, 1) := dk_42 (dk_at dksX0_clapsBehind_0 4 rfl rfl)
theorem dX0_clapsBehind_5 : decode cX0_clapsBehind 5 = .ok (.getfield 66, 3) := dk_180 0 66 (dk_at dksX0_clapsBehind_0 5 rfl rfl)
theorem dX0_clapsBehind_8 : decode cX0_clapsBehind 8 = .ok (.invokevirtual 227, 3) := dk_182 0 227 (dk_at dksX0_clapsBehind_0 8 rfl rfl)
theorem dX0_clapsBehind_11 : decode cX0_clapsBehind 11 = .ok (.aload_n 0, 1) := dk_42 (dk_at dksX0_clapsBehind_0 11 rfl rfl)
theorem dX0_clapsBehind_12 : decode cX0_clapsBehind 12 = .ok (.iload_n 1, 1) := dk_27 (dk_at dksX0_clapsBehind_0 12 rfl rfl)
theorem dX0_clapsBehind_13 : decode cX0_clapsBehind 13 = .ok (.invokevirtual 203, 3) := dk_182 0 203 (dk_at dksX0_clapsBehind_0 13 rfl rfl)
theorem dX0_clapsBehind_16 : decode cX0_clapsBehind 16 = .ok (.istore_n 2, 1) := dk_61 (dk_at dksX0_clapsBehind_0 16 rfl rfl)
theorem dX0_clapsBehind_17 : decode cX0_clapsBehind 17 = .ok (.aload_n 0, 1) := dk_42 (dk_at dksX0_clapsBehind_0 17 rfl rfl)
theorem dX0_clapsBehind_18 : decode cX0_clapsBehind 18 = .ok (.getfield 66, 3) := dk_180 0 66 (dk_at dksX0_clapsBehind_0 18 rfl rfl)
theorem dX0_clapsBehind_21 : decode cX0_clapsBehind 21 = .ok (.aload_n 0, 1) := dk_42 (dk_at dksX0_clapsBehind_0 21 rfl rfl)
theorem dX0_clapsBehind_22 : decode cX0_clapsBehind 22 = .ok (.getfield 73, 3) := dk_180 0 73 (dk_at dksX0_clapsBehind_1 0 rfl rfl)
theorem dX0_clapsBehind_25 : decode cX0_clapsBehind 25 = .ok (.invokevirtual 227, 3) := dk_182 0 227 (dk_at dksX0_clapsBehind_1 3 rfl rfl)
theorem dX0_clapsBehind_28 : decode cX0_clapsBehind 28 = .ok (.iload_n 2, 1) := dk_28 (dk_at dksX0_clapsBehind_1 6 rfl rfl)
theorem dX0_clapsBehind_29 : decode cX0_clapsBehind 29 = .ok (.ireturn, 1) := dk_172 (dk_at dksX0_clapsBehind_1 7 rfl rfl)
theorem dX0_clapsBehind_30 : decode cX0_clapsBehind 30 = .ok (.astore_n 3, 1) := dk_78 (dk_at dksX0_clapsBehind_1 8 rfl rfl)
theorem dX0_clapsBehind_31 : decode cX0_clapsBehind 31 = .ok (.aload_n 0, 1) := dk_42 (dk_at dksX0_clapsBehind_1 9 rfl rfl)
theorem dX0_clapsBehind_32 : decode cX0_clapsBehind 32 = .ok (.getfield 66, 3) := dk_180 0 66 (dk_at dksX0_clapsBehind_1 10 rfl rfl)
theorem dX0_clapsBehind_35 : decode cX0_clapsBehind 35 = .ok (.aload_n 0, 1) := dk_42 (dk_at dksX0_clapsBehind_1 13 rfl rfl)
theorem dX0_clapsBehind_36 : decode cX0_clapsBehind 36 = .ok (.getfield 73, 3) := dk_180 0 73 (dk_at dksX0_clapsBehind_1 14 rfl rfl)
theorem dX0_clapsBehind_39 : decode cX0_clapsBehind 39 = .ok (.invokevirtual 227, 3) := dk_182 0 227 (dk_at dksX0_clapsBehind_1 17 rfl rfl)
theorem dX0_clapsBehind_42 : decode cX0_clapsBehind 42 = .ok (.aload_n 3, 1) := dk_45 (dk_at dksX0_clapsBehind_1 20 rfl rfl)
theorem dX0_clapsBehind_43 : decode cX0_clapsBehind 43 = .ok (.athrow, 1) := dk_191 (dk_at dksX0_clapsBehind_1 21 rfl rfl)
abbrev cX0_bursts : ByteArray := prog_1_method_43_code
def yX0_bursts : MethodName := ⟨RX0, "bursts", "(I)I"⟩
def dkwX0_bursts_1 : List UInt8 := [182, 0, 116, 172]
abbrev dktX0_bursts_1 : List UInt8 := dkwX0_bursts_1 ++ []
def dkwX0_bursts_0 : List UInt8 := [42, 27, 182, 0, 177, 153, 0, 15, 42, 42, 27, 182, 0, 242, 182, 0, 245, 167, 0, 8, 42, 3]
abbrev dktX0_bursts_0 : List UInt8 := dkwX0_bursts_0 ++ dktX0_bursts_1
theorem dksX0_bursts_0 : cX0_bursts.data.toList.drop 0 = dktX0_bursts_0 := by decide +kernel
theorem dksX0_bursts_1 : cX0_bursts.data.toList.drop 22 = dktX0_bursts_1 := dk_seg dksX0_bursts_0 22 rfl rfl
theorem dX0_bursts_0 : decode cX0_bursts 0 = .ok (.aload_n 0, 1) := dk_42 (dk_at dksX0_bursts_0 0 rfl rfl)
theorem dX0_bursts_1 : decode cX0_bursts 1 = .ok (.iload_n 1, 1) := dk_27 (dk_at dksX0_bursts_0 1 rfl rfl)
theorem dX0_bursts_2 : decode cX0_bursts 2 = .ok (.invokevirtual 177, 3) := dk_182 0 177 (dk_at dksX0_bursts_0 2 rfl rfl)
theorem dX0_bursts_5 : decode cX0_bursts 5 = .ok (.ifCond .eq 15, 3) := dk_153 0 15 (dk_at dksX0_bursts_0 5 rfl rfl)
theorem dX0_bursts_8 : decode cX0_bursts 8 = .ok (.aload_n 0, 1) := dk_42 (dk_at dksX0_bursts_0 8 rfl rfl)
theorem dX0_bursts_9 : decode cX0_bursts 9 = .ok (.aload_n 0, 1) := dk_42 (dk_at dksX0_bursts_0 9 rfl rfl)
theorem dX0_bursts_10 : decode cX0_bursts 10 = .ok (.iload_n 1, 1) := dk_27 (dk_at dksX0_bursts_0 10 rfl rfl)
theorem dX0_bursts_11 : decode cX0_bursts 11 = .ok (.invokevirtual 242, 3) := dk_182 0 242 (dk_at dksX0_bursts_0 11 rfl rfl)
theorem dX0_bursts_14 : decode cX0_bursts 14 = .ok (.invokevirtual 245, 3) := dk_182 0 245 (dk_at dksX0_bursts_0 14 rfl rfl)
theorem dX0_bursts_17 : decode cX0_bursts 17 = .ok (.goto 8, 3) := dk_167 0 8 (dk_at dksX0_bursts_0 17 rfl rfl)
theorem dX0_bursts_20 : decode cX0_bursts 20 = .ok (.aload_n 0, 1) := dk_42 (dk_at dksX0_bursts_0 20 rfl rfl)
theorem dX0_bursts_21 : decode cX0_bursts 21 = .ok (.iconst 0, 1) := dk_3 (dk_at dksX0_bursts_0 21 rfl rfl)
theorem dX0_bursts_22 : decode cX0_bursts 22 = .ok (.invokevirtual 116, 3) := dk_182 0 116 (dk_at dksX0_bursts_1 0 rfl rfl)
theorem dX0_bursts_25 : decode cX0_bursts 25 = .ok (.ireturn, 1) := dk_172 (dk_at dksX0_bursts_1 3 rfl rfl)
abbrev cX0_burstBehind : ByteArray := prog_1_method_42_code
def yX0_burstBehind : MethodName := ⟨RX0, "burstBehind", "(I)I"⟩
def dkwX0_burstBehind_4 : List UInt8 := [182, 0, 227, 25, 5, 191]
abbrev dktX0_burstBehind_4 : List UInt8 := dkwX0_burstBehind_4 ++ []
def dkwX0_burstBehind_3 : List UInt8 := [180, 0, 66, 42, 180, 0, 73, 182, 0, 227, 21, 4, 172, 58, 5, 42, 180, 0, 66, 42, 180, 0, 73]
abbrev dktX0_burstBehind_3 : List UInt8 := dkwX0_burstBehind_3 ++ dktX0_burstBehind_4
def dkwX0_burstBehind_2 : List UInt8 := [42, 182, 0, 156, 132, 3, 1, 167, 255, 227, 29, 16, 100, 163, 0, 7, 29, 167, 0, 4, 2, 54, 4, 42]
abbrev dktX0_burstBehind_2 : List UInt8 := dkwX0_burstBehind_2 ++ dktX0_burstBehind_3
def dkwX0_burstBehind_1 : List UInt8 := [3, 62, 29, 16, 100, 163, 0, 29, 42, 180, 0, 66, 180, 0, 101, 16, 6, 50, 27, 46, 28, 160, 0, 13]
abbrev dktX0_burstBehind_1 : List UInt8 := dkwX0_burstBehind_1 ++ dktX0_burstBehind_2
def dkwX0_burstBehind_0 : List UInt8 := [42, 180, 0, 73, 42, 180, 0, 66, 182, 0, 227, 42, 180, 0, 66, 180, 0, 101, 16, 6, 50, 27, 46, 61]
abbrev dktX0_burstBehind_0 : List UInt8 := dkwX0_burstBehind_0 ++ dktX0_burstBehind_1
theorem dksX0_burstBehind_0 : cX0_burstBehind.data.toList.drop 0 = dktX0_burstBehind_0 := by decide +kernel
theorem dksX0_burstBehind_1 : cX0_burstBehind.data.toList.drop 24 = dktX0_burstBehind_1 := dk_seg dksX0_burstBehind_0 24 rfl rfl
theorem dksX0_burstBehind_2 : cX0_burstBehind.data.toList.drop 48 = dktX0_burstBehind_2 := dk_seg dksX0_burstBehind_1 24 rfl rfl
theorem dksX0_burstBehind_3 : cX0_burstBehind.data.toList.drop 72 = dktX0_burstBehind_3 := dk_seg dksX0_burstBehind_2 24 rfl rfl
theorem dksX0_burstBehind_4 : cX0_burstBehind.data.toList.drop 95 = dktX0_burstBehind_4 := dk_seg dksX0_burstBehind_3 23 rfl rfl
theorem dX0_burstBehind_0 : decode cX0_burstBehind 0 = .ok (.aload_n 0, 1) := dk_42 (dk_at dksX0_burstBehind_0 0 rfl rfl)
theorem dX0_burstBehind_1 : decode cX0_burstBehind 1 = .ok (.getfield 73, 3) := dk_180 0 73 (dk_at dksX0_burstBehind_0 1 rfl rfl)
theorem dX0_burstBehind_4 : decode cX0_burstBehind 4 = .ok (.aload_n 0, 1) := dk_42 (dk_at dksX0_burstBehind_0 4 rfl rfl)
theorem dX0_burstBehind_5 : decode cX0_burstBehind 5 = .ok (.getfield 66, 3) := dk_180 0 66 (dk_at dksX0_burstBehind_0 5 rfl rfl)
theorem dX0_burstBehind_8 : decode cX0_burstBehind 8 = .ok (.invokevirtual 227, 3) := dk_182 0 227 (dk_at dksX0_burstBehind_0 8 rfl rfl)
theorem dX0_burstBehind_11 : decode cX0_burstBehind 11 = .ok (.aload_n 0, 1) := dk_42 (dk_at dksX0_burstBehind_0 11 rfl rfl)
theorem dX0_burstBehind_12 : decode cX0_burstBehind 12 = .ok (.getfield 66, 3) := dk_180 0 66 (dk_at dksX0_burstBehind_0 12 rfl rfl)
theorem dX0_burstBehind_15 : decode cX0_burstBehind 15 = .ok (.getfield 101, 3) := dk_180 0 101 (dk_at dksX0_burstBehind_0 15 rfl rfl)
theorem dX0_burstBehind_18 : decode cX0_burstBehind 18 = .ok (.bipush 6, 2) := dk_16 6 (dk_at dksX0_burstBehind_0 18 rfl rfl)
theorem dX0_burstBehind_20 : decode cX0_burstBehind 20 = .ok (.aaload, 1) := dk_50 (dk_at dksX0_burstBehind_0 20 rfl rfl)
theorem dX0_burstBehind_21 : decode cX0_burstBehind 21 = .ok (.iload_n 1, 1) := dk_27 (dk_at dksX0_burstBehind_0 21 rfl rfl)
theorem dX0_burstBehind_22 : decode cX0_burstBehind 22 = .ok (.iaload, 1) := dk_46 (dk_at dksX0_burstBehind_0 22 rfl rfl)
theorem dX0_burstBehind_23 : decode cX0_burstBehind 23 = .ok (.istore_n 2, 1) := dk_61 (dk_at dksX0_burstBehind_0 23 rfl rfl)
theorem dX0_burstBehind_24 : decode cX0_burstBehind 24 = .ok (.iconst 0, 1) := dk_3 (dk_at dksX0_burstBehind_1 0 rfl rfl)
theorem dX0_burstBehind_25 : decode cX0_burstBehind 25 = .ok (.istore_n 3, 1) := dk_62 (dk_at dksX0_burstBehind_1 1 rfl rfl)
theorem dX0_burstBehind_26 : decode cX0_burstBehind 26 = .ok (.iload_n 3, 1) := dk_29 (dk_at dksX0_burstBehind_1 2 rfl rfl)
theorem dX0_burstBehind_27 : decode cX0_burstBehind 27 = .ok (.bipush 100, 2) := dk_16 100 (dk_at dksX0_burstBehind_1 3 rfl rfl)
theorem dX0_burstBehind_29 : decode cX0_burstBehind 29 = .ok (.if_icmp .gt 29, 3) := dk_163 0 29 (dk_at dksX0_burstBehind_1 5 rfl rfl)
theorem dX0_burstBehind_32 : decode cX0_burstBehind 32 = .ok (.aload_n 0, 1) := dk_42 (dk_at dksX0_burstBehind_1 8 rfl rfl)
theorem dX0_burstBehind_33 : decode cX0_burstBehind 33 = .ok (.getfield 66, 3) := dk_180 0 66 (dk_at dksX0_burstBehind_1 9 rfl rfl)
theorem dX0_burstBehind_36 : decode cX0_burstBehind 36 = .ok (.getfield 101, 3) := dk_180 0 101 (dk_at dksX0_burstBehind_1 12 rfl rfl)
theorem dX0_burstBehind_39 : decode cX0_burstBehind 39 = .ok (.bipush 6, 2) := dk_16 6 (dk_at dksX0_burstBehind_1 15 rfl rfl)
theorem dX0_burstBehind_41 : decode cX0_burstBehind 41 = .ok (.aaload, 1) := dk_50 (dk_at dksX0_burstBehind_1 17 rfl rfl)
theorem dX0_burstBehind_42 : decode cX0_burstBehind 42 = .ok (.iload_n 1, 1) := dk_27 (dk_at dksX0_burstBehind_1 18 rfl rfl)
theorem dX0_burstBehind_43 : decode cX0_burstBehind 43 = .ok (.iaload, 1) := dk_46 (dk_at dksX0_burstBehind_1 19 rfl rfl)
theorem dX0_burstBehind_44 : decode cX0_burstBehind 44 = .ok (.iload_n 2, 1) := dk_28 (dk_at dksX0_burstBehind_1 20 rfl rfl)
theorem dX0_burstBehind_45 : decode cX0_burstBehind 45 = .ok (.if_icmp .ne 13, 3) := dk_160 0 13 (dk_at dksX0_burstBehind_1 21 rfl rfl)
theorem dX0_burstBehind_48 : decode cX0_burstBehind 48 = .ok (.aload_n 0, 1) := dk_42 (dk_at dksX0_burstBehind_2 0 rfl rfl)
theorem dX0_burstBehind_49 : decode cX0_burstBehind 49 = .ok (.invokevirtual 156, 3) := dk_182 0 156 (dk_at dksX0_burstBehind_2 1 rfl rfl)
theorem dX0_burstBehind_52 : decode cX0_burstBehind 52 = .ok (.iinc 3 1, 3) := dk_132 3 1 (dk_at dksX0_burstBehind_2 4 rfl rfl)
theorem dX0_burstBehind_55 : decode cX0_burstBehind 55 = .ok (.goto (-29), 3) := dk_167 255 227 (dk_at dksX0_burstBehind_2 7 rfl rfl)
theorem dX0_burstBehind_58 : decode cX0_burstBehind 58 = .ok (.iload_n 3, 1) := dk_29 (dk_at dksX0_burstBehind_2 10 rfl rfl)
theorem dX0_burstBehind_59 : decode cX0_burstBehind 59 = .ok (.bipush 100, 2) := dk_16 100 (dk_at dksX0_burstBehind_2 11 rfl rfl)
theorem dX0_burstBehind_61 : decode cX0_burstBehind 61 = .ok (.if_icmp .gt 7, 3) := dk_163 0 7 (dk_at dksX0_burstBehind_2 13 rfl rfl)
theorem dX0_burstBehind_64 : decode cX0_burstBehind 64 = .ok (.iload_n 3, 1) := dk_29 (dk_at dksX0_burstBehind_2 16 rfl rfl)
theorem dX0_burstBehind_65 : decode cX0_burstBehind 65 = .ok (.goto 4, 3) := dk_167 0 4 (dk_at dksX0_burstBehind_2 17 rfl rfl)
theorem dX0_burstBehind_68 : decode cX0_burstBehind 68 = .ok (.iconst (-1), 1) := dk_2 (dk_at dksX0_burstBehind_2 20 rfl rfl)
theorem dX0_burstBehind_69 : decode cX0_burstBehind 69 = .ok (.istore 4, 2) := dk_54 4 (dk_at dksX0_burstBehind_2 21 rfl rfl)
theorem dX0_burstBehind_71 : decode cX0_burstBehind 71 = .ok (.aload_n 0, 1) := dk_42 (dk_at dksX0_burstBehind_2 23 rfl rfl)
theorem dX0_burstBehind_72 : decode cX0_burstBehind 72 = .ok (.getfield 66, 3) := dk_180 0 66 (dk_at dksX0_burstBehind_3 0 rfl rfl)
theorem dX0_burstBehind_75 : decode cX0_burstBehind 75 = .ok (.aload_n 0, 1) := dk_42 (dk_at dksX0_burstBehind_3 3 rfl rfl)
theorem dX0_burstBehind_76 : decode cX0_burstBehind 76 = .ok (.getfield 73, 3) := dk_180 0 73 (dk_at dksX0_burstBehind_3 4 rfl rfl)
theorem dX0_burstBehind_79 : decode cX0_burstBehind 79 = .ok (.invokevirtual 227, 3) := dk_182 0 227 (dk_at dksX0_burstBehind_3 7 rfl rfl)
theorem dX0_burstBehind_82 : decode cX0_burstBehind 82 = .ok (.iload 4, 2) := dk_21 4 (dk_at dksX0_burstBehind_3 10 rfl rfl)
theorem dX0_burstBehind_84 : decode cX0_burstBehind 84 = .ok (.ireturn, 1) := dk_172 (dk_at dksX0_burstBehind_3 12 rfl rfl)
theorem dX0_burstBehind_85 : decode cX0_burstBehind 85 = .ok (.astore 5, 2) := dk_58 5 (dk_at dksX0_burstBehind_3 13 rfl rfl)
theorem dX0_burstBehind_87 : decode cX0_burstBehind 87 = .ok (.aload_n 0, 1) := dk_42 (dk_at dksX0_burstBehind_3 15 rfl rfl)
theorem dX0_burstBehind_88 : decode cX0_burstBehind 88 = .ok (.getfield 66, 3) := dk_180 0 66 (dk_at dksX0_burstBehind_3 16 rfl rfl)
theorem dX0_burstBehind_91 : decode cX0_burstBehind 91 = .ok (.aload_n 0, 1) := dk_42 (dk_at dksX0_burstBehind_3 19 rfl rfl)
theorem dX0_burstBehind_92 : decode cX0_burstBehind 92 = .ok (.getfield 73, 3) := dk_180 0 73 (dk_at dksX0_burstBehind_3 20 rfl rfl)
theorem dX0_burstBehind_95 : decode cX0_burstBehind 95 = .ok (.invokevirtual 227, 3) := dk_182 0 227 (dk_at dksX0_burstBehind_4 0 rfl rfl)
theorem dX0_burstBehind_98 : decode cX0_burstBehind 98 = .ok (.aload 5, 2) := dk_25 5 (dk_at dksX0_burstBehind_4 3 rfl rfl)
theorem dX0_burstBehind_100 : decode cX0_burstBehind 100 = .ok (.athrow, 1) := dk_191 (dk_at dksX0_burstBehind_4 5 rfl rfl)
abbrev cX0_orNone : ByteArray := prog_1_method_18_code
def yX0_orNone : MethodName := ⟨RX0, "orNone", "(I)I"⟩
def dkwX0_orNone_0 : List UInt8 := [27, 2, 160, 0, 11, 42, 6, 182, 0, 116, 167, 0, 4, 27, 172]
abbrev dktX0_orNone_0 : List UInt8 := dkwX0_orNone_0 ++ []
theorem dksX0_orNone_0 : cX0_orNone.data.toList.drop 0 = dktX0_orNone_0 := by decide +kernel
theorem dX0_orNone_0 : decode cX0_orNone 0 = .ok (.iload_n 1, 1) := dk_27 (dk_at dksX0_orNone_0 0 rfl rfl)
theorem dX0_orNone_1 : decode cX0_orNone 1 = .ok (.iconst (-1), 1) := dk_2 (dk_at dksX0_orNone_0 1 rfl rfl)
theorem dX0_orNone_2 : decode cX0_orNone 2 = .ok (.if_icmp .ne 11, 3) := dk_160 0 11 (dk_at dksX0_orNone_0 2 rfl rfl)
theorem dX0_orNone_5 : decode cX0_orNone 5 = .ok (.aload_n 0, 1) := dk_42 (dk_at dksX0_orNone_0 5 rfl rfl)
theorem dX0_orNone_6 : decode cX0_orNone 6 = .ok (.iconst 3, 1) := dk_6 (dk_at dksX0_orNone_0 6 rfl rfl)
theorem dX0_orNone_7 : decode cX0_orNone 7 = .ok (.invokevirtual 116, 3) := dk_182 0 116 (dk_at dksX0_orNone_0 7 rfl rfl)
theorem dX0_orNone_10 : decode cX0_orNone 10 = .ok (.goto 4, 3) := dk_167 0 4 (dk_at dksX0_orNone_0 10 rfl rfl)
theorem dX0_orNone_13 : decode cX0_orNone 13 = .ok (.iload_n 1, 1) := dk_27 (dk_at dksX0_orNone_0 13 rfl rfl)
theorem dX0_orNone_14 : decode cX0_orNone 14 = .ok (.ireturn, 1) := dk_172 (dk_at dksX0_orNone_0 14 rfl rfl)
abbrev cX0_when : ByteArray := prog_1_method_45_code
def yX0_when : MethodName := ⟨RX0, "when", "(II)I"⟩
def dkwX0_when_1 : List UInt8 := [182, 0, 248, 182, 0, 245, 167, 0, 8, 42, 3, 182, 0, 116, 172]
abbrev dktX0_when_1 : List UInt8 := dkwX0_when_1 ++ []
def dkwX0_when_0 : List UInt8 := [42, 27, 182, 0, 177, 153, 0, 27, 28, 3, 17, 7, 208, 184, 0, 9, 153, 0, 16, 42, 42, 27, 28]
abbrev dktX0_when_0 : List UInt8 := dkwX0_when_0 ++ dktX0_when_1
theorem dksX0_when_0 : cX0_when.data.toList.drop 0 = dktX0_when_0 := by decide +kernel
theorem dksX0_when_1 : cX0_when.data.toList.drop 23 = dktX0_when_1 := dk_seg dksX0_when_0 23 rfl rfl
theorem dX0_when_0 : decode cX0_when 0 = .ok (.aload_n 0, 1) := dk_42 (dk_at dksX0_when_0 0 rfl rfl)
theorem dX0_when_1 : decode cX0_when 1 = .ok (.iload_n 1, 1) := dk_27 (dk_at dksX0_when_0 1 rfl rfl)
theorem dX0_when_2 : decode cX0_when 2 = .ok (.invokevirtual 177, 3) := dk_182 0 177 (dk_at dksX0_when_0 2 rfl rfl)
theorem dX0_when_5 : decode cX0_when 5 = .ok (.ifCond .eq 27, 3) := dk_153 0 27 (dk_at dksX0_when_0 5 rfl rfl)
theorem dX0_when_8 : decode cX0_when 8 = .ok (.iload_n 2, 1) := dk_28 (dk_at dksX0_when_0 8 rfl rfl)
theorem dX0_when_9 : decode cX0_when 9 = .ok (.iconst 0, 1) := dk_3 (dk_at dksX0_when_0 9 rfl rfl)
theorem dX0_when_10 : decode cX0_when 10 = .ok (.sipush 2000, 3) := dk_17 7 208 (dk_at dksX0_when_0 10 rfl rfl)
theorem dX0_when_13 : decode cX0_when 13 = .ok (.invokestatic 9, 3) := dk_184 0 9 (dk_at dksX0_when_0 13 rfl rfl)
theorem dX0_when_16 : decode cX0_when 16 = .ok (.ifCond .eq 16, 3) := dk_153 0 16 (dk_at dksX0_when_0 16 rfl rfl)
theorem dX0_when_19 : decode cX0_when 19 = .ok (.aload_n 0, 1) := dk_42 (dk_at dksX0_when_0 19 rfl rfl)
theorem dX0_when_20 : decode cX0_when 20 = .ok (.aload_n 0, 1) := dk_42 (dk_at dksX0_when_0 20 rfl rfl)
theorem dX0_when_21 : decode cX0_when 21 = .ok (.iload_n 1, 1) := dk_27 (dk_at dksX0_when_0 21 rfl rfl)
theorem dX0_when_22 : decode cX0_when 22 = .ok (.iload_n 2, 1) := dk_28 (dk_at dksX0_when_0 22 rfl rfl)
theorem dX0_when_23 : decode cX0_when 23 = .ok (.invokevirtual 248, 3) := dk_182 0 248 (dk_at dksX0_when_1 0 rfl rfl)
theorem dX0_when_26 : decode cX0_when 26 = .ok (.invokevirtual 245, 3) := dk_182 0 245 (dk_at dksX0_when_1 3 rfl rfl)
theorem dX0_when_29 : decode cX0_when 29 = .ok (.goto 8, 3) := dk_167 0 8 (dk_at dksX0_when_1 6 rfl rfl)
theorem dX0_when_32 : decode cX0_when 32 = .ok (.aload_n 0, 1) := dk_42 (dk_at dksX0_when_1 9 rfl rfl)
theorem dX0_when_33 : decode cX0_when 33 = .ok (.iconst 0, 1) := dk_3 (dk_at dksX0_when_1 10 rfl rfl)
theorem dX0_when_34 : decode cX0_when 34 = .ok (.invokevirtual 116, 3) := dk_182 0 116 (dk_at dksX0_when_1 11 rfl rfl)
theorem dX0_when_37 : decode cX0_when 37 = .ok (.ireturn, 1) := dk_172 (dk_at dksX0_when_1 14 rfl rfl)
abbrev cX0_loudBehind : ByteArray := prog_1_method_44_code
def yX0_loudBehind : MethodName := ⟨RX0, "loudBehind", "(II)I"⟩
def dkwX0_loudBehind_3 : List UInt8 := [180, 0, 73, 182, 0, 227, 25, 5, 191]
abbrev dktX0_loudBehind_3 : List UInt8 := dkwX0_loudBehind_3 ++ []
def dkwX0_loudBehind_2 : List UInt8 := [2, 54, 4, 42, 180, 0, 66, 42, 180, 0, 73, 182, 0, 227, 21, 4, 172, 58, 5, 42, 180, 0, 66, 42]
abbrev dktX0_loudBehind_2 : List UInt8 := dkwX0_loudBehind_2 ++ dktX0_loudBehind_3
def dkwX0_loudBehind_1 : List UInt8 := [28, 162, 0, 13, 42, 182, 0, 156, 132, 3, 1, 167, 255, 234, 29, 16, 100, 163, 0, 7, 29, 167, 0, 4]
abbrev dktX0_loudBehind_1 : List UInt8 := dkwX0_loudBehind_1 ++ dktX0_loudBehind_2
def dkwX0_loudBehind_0 : List UInt8 := [42, 180, 0, 73, 42, 180, 0, 66, 182, 0, 227, 3, 62, 29, 16, 100, 163, 0, 22, 42, 27, 182, 0, 189]
abbrev dktX0_loudBehind_0 : List UInt8 := dkwX0_loudBehind_0 ++ dktX0_loudBehind_1
theorem dksX0_loudBehind_0 : cX0_loudBehind.data.toList.drop 0 = dktX0_loudBehind_0 := by decide +kernel
theorem dksX0_loudBehind_1 : cX0_loudBehind.data.toList.drop 24 = dktX0_loudBehind_1 := dk_seg dksX0_loudBehind_0 24 rfl rfl
theorem dksX0_loudBehind_2 : cX0_loudBehind.data.toList.drop 48 = dktX0_loudBehind_2 := dk_seg dksX0_loudBehind_1 24 rfl rfl
theorem dksX0_loudBehind_3 : cX0_loudBehind.data.toList.drop 72 = dktX0_loudBehind_3 := dk_seg dksX0_loudBehind_2 24 rfl rfl
theorem dX0_loudBehind_0 : decode cX0_loudBehind 0 = .ok (.aload_n 0, 1) := dk_42 (dk_at dksX0_loudBehind_0 0 rfl rfl)
theorem dX0_loudBehind_1 : decode cX0_loudBehind 1 = .ok (.getfield 73, 3) := dk_180 0 73 (dk_at dksX0_loudBehind_0 1 rfl rfl)
theorem dX0_loudBehind_4 : decode cX0_loudBehind 4 = .ok (.aload_n 0, 1) := dk_42 (dk_at dksX0_loudBehind_0 4 rfl rfl)
theorem dX0_loudBehind_5 : decode cX0_loudBehind 5 = .ok (.getfield 66, 3) := dk_180 0 66 (dk_at dksX0_loudBehind_0 5 rfl rfl)
theorem dX0_loudBehind_8 : decode cX0_loudBehind 8 = .ok (.invokevirtual 227, 3) := dk_182 0 227 (dk_at dksX0_loudBehind_0 8 rfl rfl)
theorem dX0_loudBehind_11 : decode cX0_loudBehind 11 = .ok (.iconst 0, 1) := dk_3 (dk_at dksX0_loudBehind_0 11 rfl rfl)
theorem dX0_loudBehind_12 : decode cX0_loudBehind 12 = .ok (.istore_n 3, 1) := dk_62 (dk_at dksX0_loudBehind_0 12 rfl rfl)
theorem dX0_loudBehind_13 : decode cX0_loudBehind 13 = .ok (.iload_n 3, 1) := dk_29 (dk_at dksX0_loudBehind_0 13 rfl rfl)
theorem dX0_loudBehind_14 : decode cX0_loudBehind 14 = .ok (.bipush 100, 2) := dk_16 100 (dk_at dksX0_loudBehind_0 14 rfl rfl)
theorem dX0_loudBehind_16 : decode cX0_loudBehind 16 = .ok (.if_icmp .gt 22, 3) := dk_163 0 22 (dk_at dksX0_loudBehind_0 16 rfl rfl)
theorem dX0_loudBehind_19 : decode cX0_loudBehind 19 = .ok (.aload_n 0, 1) := dk_42 (dk_at dksX0_loudBehind_0 19 rfl rfl)
theorem dX0_loudBehind_20 : decode cX0_loudBehind 20 = .ok (.iload_n 1, 1) := dk_27 (dk_at dksX0_loudBehind_0 20 rfl rfl)
theorem dX0_loudBehind_21 : decode cX0_loudBehind 21 = .ok (.invokevirtual 189, 3) := dk_182 0 189 (dk_at dksX0_loudBehind_0 21 rfl rfl)
theorem dX0_loudBehind_24 : decode cX0_loudBehind 24 = .ok (.iload_n 2, 1) := dk_28 (dk_at dksX0_loudBehind_1 0 rfl rfl)
theorem dX0_loudBehind_25 : decode cX0_loudBehind 25 = .ok (.if_icmp .ge 13, 3) := dk_162 0 13 (dk_at dksX0_loudBehind_1 1 rfl rfl)
theorem dX0_loudBehind_28 : decode cX0_loudBehind 28 = .ok (.aload_n 0, 1) := dk_42 (dk_at dksX0_loudBehind_1 4 rfl rfl)
theorem dX0_loudBehind_29 : decode cX0_loudBehind 29 = .ok (.invokevirtual 156, 3) := dk_182 0 156 (dk_at dksX0_loudBehind_1 5 rfl rfl)
theorem dX0_loudBehind_32 : decode cX0_loudBehind 32 = .ok (.iinc 3 1, 3) := dk_132 3 1 (dk_at dksX0_loudBehind_1 8 rfl rfl)
theorem dX0_loudBehind_35 : decode cX0_loudBehind 35 = .ok (.goto (-22), 3) := dk_167 255 234 (dk_at dksX0_loudBehind_1 11 rfl rfl)
theorem dX0_loudBehind_38 : decode cX0_loudBehind 38 = .ok (.iload_n 3, 1) := dk_29 (dk_at dksX0_loudBehind_1 14 rfl rfl)
theorem dX0_loudBehind_39 : decode cX0_loudBehind 39 = .ok (.bipush 100, 2) := dk_16 100 (dk_at dksX0_loudBehind_1 15 rfl rfl)
theorem dX0_loudBehind_41 : decode cX0_loudBehind 41 = .ok (.if_icmp .gt 7, 3) := dk_163 0 7 (dk_at dksX0_loudBehind_1 17 rfl rfl)
theorem dX0_loudBehind_44 : decode cX0_loudBehind 44 = .ok (.iload_n 3, 1) := dk_29 (dk_at dksX0_loudBehind_1 20 rfl rfl)
theorem dX0_loudBehind_45 : decode cX0_loudBehind 45 = .ok (.goto 4, 3) := dk_167 0 4 (dk_at dksX0_loudBehind_1 21 rfl rfl)
theorem dX0_loudBehind_48 : decode cX0_loudBehind 48 = .ok (.iconst (-1), 1) := dk_2 (dk_at dksX0_loudBehind_2 0 rfl rfl)
theorem dX0_loudBehind_49 : decode cX0_loudBehind 49 = .ok (.istore 4, 2) := dk_54 4 (dk_at dksX0_loudBehind_2 1 rfl rfl)
theorem dX0_loudBehind_51 : decode cX0_loudBehind 51 = .ok (.aload_n 0, 1) := dk_42 (dk_at dksX0_loudBehind_2 3 rfl rfl)
theorem dX0_loudBehind_52 : decode cX0_loudBehind 52 = .ok (.getfield 66, 3) := dk_180 0 66 (dk_at dksX0_loudBehind_2 4 rfl rfl)
theorem dX0_loudBehind_55 : decode cX0_loudBehind 55 = .ok (.aload_n 0, 1) := dk_42 (dk_at dksX0_loudBehind_2 7 rfl rfl)
theorem dX0_loudBehind_56 : decode cX0_loudBehind 56 = .ok (.getfield 73, 3) := dk_180 0 73 (dk_at dksX0_loudBehind_2 8 rfl rfl)
theorem dX0_loudBehind_59 : decode cX0_loudBehind 59 = .ok (.invokevirtual 227, 3) := dk_182 0 227 (dk_at dksX0_loudBehind_2 11 rfl rfl)
theorem dX0_loudBehind_62 : decode cX0_loudBehind 62 = .ok (.iload 4, 2) := dk_21 4 (dk_at dksX0_loudBehind_2 14 rfl rfl)
theorem dX0_loudBehind_64 : decode cX0_loudBehind 64 = .ok (.ireturn, 1) := dk_172 (dk_at dksX0_loudBehind_2 16 rfl rfl)
theorem dX0_loudBehind_65 : decode cX0_loudBehind 65 = .ok (.astore 5, 2) := dk_58 5 (dk_at dksX0_loudBehind_2 17 rfl rfl)
theorem dX0_loudBehind_67 : decode cX0_loudBehind 67 = .ok (.aload_n 0, 1) := dk_42 (dk_at dksX0_loudBehind_2 19 rfl rfl)
theorem dX0_loudBehind_68 : decode cX0_loudBehind 68 = .ok (.getfield 66, 3) := dk_180 0 66 (dk_at dksX0_loudBehind_2 20 rfl rfl)
theorem dX0_loudBehind_71 : decode cX0_loudBehind 71 = .ok (.aload_n 0, 1) := dk_42 (dk_at dksX0_loudBehind_2 23 rfl rfl)
theorem dX0_loudBehind_72 : decode cX0_loudBehind 72 = .ok (.getfield 73, 3) := dk_180 0 73 (dk_at dksX0_loudBehind_3 0 rfl rfl)
theorem dX0_loudBehind_75 : decode cX0_loudBehind 75 = .ok (.invokevirtual 227, 3) := dk_182 0 227 (dk_at dksX0_loudBehind_3 3 rfl rfl)
theorem dX0_loudBehind_78 : decode cX0_loudBehind 78 = .ok (.aload 5, 2) := dk_25 5 (dk_at dksX0_loudBehind_3 6 rfl rfl)
theorem dX0_loudBehind_80 : decode cX0_loudBehind 80 = .ok (.athrow, 1) := dk_191 (dk_at dksX0_loudBehind_3 8 rfl rfl)
abbrev cX0_chain : ByteArray := prog_1_method_47_code
def yX0_chain : MethodName := ⟨RX0, "chain", "(I)I"⟩
def dkwX0_chain_0 : List UInt8 := [27, 3, 16, 60, 184, 0, 9, 153, 0, 11, 42, 27, 182, 0, 251, 167, 0, 8, 42, 3, 182, 0, 116, 172]
abbrev dktX0_chain_0 : List UInt8 := dkwX0_chain_0 ++ []
theorem dksX0_chain_0 : cX0_chain.data.toList.drop 0 = dktX0_chain_0 := by decide +kernel
theorem dX0_chain_0 : decode cX0_chain 0 = .ok (.iload_n 1, 1) := dk_27 (dk_at dksX0_chain_0 0 rfl rfl)
theorem dX0_chain_1 : decode cX0_chain 1 = .ok (.iconst 0, 1) := dk_3 (dk_at dksX0_chain_0 1 rfl rfl)
theorem dX0_chain_2 : decode cX0_chain 2 = .ok (.bipush 60, 2) := dk_16 60 (dk_at dksX0_chain_0 2 rfl rfl)
theorem dX0_chain_4 : decode cX0_chain 4 = .ok (.invokestatic 9, 3) := dk_184 0 9 (dk_at dksX0_chain_0 4 rfl rfl)
theorem dX0_chain_7 : decode cX0_chain 7 = .ok (.ifCond .eq 11, 3) := dk_153 0 11 (dk_at dksX0_chain_0 7 rfl rfl)
theorem dX0_chain_10 : decode cX0_chain 10 = .ok (.aload_n 0, 1) := dk_42 (dk_at dksX0_chain_0 10 rfl rfl)
theorem dX0_chain_11 : decode cX0_chain 11 = .ok (.iload_n 1, 1) := dk_27 (dk_at dksX0_chain_0 11 rfl rfl)
theorem dX0_chain_12 : decode cX0_chain 12 = .ok (.invokevirtual 251, 3) := dk_182 0 251 (dk_at dksX0_chain_0 12 rfl rfl)
theorem dX0_chain_15 : decode cX0_chain 15 = .ok (.goto 8, 3) := dk_167 0 8 (dk_at dksX0_chain_0 15 rfl rfl)
theorem dX0_chain_18 : decode cX0_chain 18 = .ok (.aload_n 0, 1) := dk_42 (dk_at dksX0_chain_0 18 rfl rfl)
theorem dX0_chain_19 : decode cX0_chain 19 = .ok (.iconst 0, 1) := dk_3 (dk_at dksX0_chain_0 19 rfl rfl)
theorem dX0_chain_20 : decode cX0_chain 20 = .ok (.invokevirtual 116, 3) := dk_182 0 116 (dk_at dksX0_chain_0 20 rfl rfl)
theorem dX0_chain_23 : decode cX0_chain 23 = .ok (.ireturn, 1) := dk_172 (dk_at dksX0_chain_0 23 rfl rfl)
abbrev cX0_burstOnes : ByteArray := prog_1_method_46_code
def yX0_burstOnes : MethodName := ⟨RX0, "burstOnes", "(I)I"⟩
def dkwX0_burstOnes_4 : List UInt8 := [180, 0, 66, 42, 180, 0, 73, 182, 0, 227, 25, 4, 191]
abbrev dktX0_burstOnes_4 : List UInt8 := dkwX0_burstOnes_4 ++ []
def dkwX0_burstOnes_3 : List UInt8 := [132, 3, 1, 167, 255, 205, 28, 62, 42, 180, 0, 66, 42, 180, 0, 73, 182, 0, 227, 29, 172, 58, 4, 42]
abbrev dktX0_burstOnes_3 : List UInt8 := dkwX0_burstOnes_3 ++ dktX0_burstOnes_4
def dkwX0_burstOnes_2 : List UInt8 := [180, 0, 73, 180, 0, 101, 16, 6, 50, 29, 46, 164, 0, 9, 4, 29, 120, 167, 0, 4, 3, 128, 61]
abbrev dktX0_burstOnes_2 : List UInt8 := dkwX0_burstOnes_2 ++ dktX0_burstOnes_3
def dkwX0_burstOnes_1 : List UInt8 := [180, 0, 66, 180, 0, 114, 162, 0, 46, 28, 42, 180, 0, 66, 180, 0, 101, 16, 6, 50, 29, 46, 42]
abbrev dktX0_burstOnes_1 : List UInt8 := dkwX0_burstOnes_1 ++ dktX0_burstOnes_2
def dkwX0_burstOnes_0 : List UInt8 := [42, 180, 0, 73, 42, 180, 0, 66, 182, 0, 227, 42, 27, 182, 0, 195, 3, 61, 3, 62, 29, 42]
abbrev dktX0_burstOnes_0 : List UInt8 := dkwX0_burstOnes_0 ++ dktX0_burstOnes_1
theorem dksX0_burstOnes_0 : cX0_burstOnes.data.toList.drop 0 = dktX0_burstOnes_0 := by decide +kernel
theorem dksX0_burstOnes_1 : cX0_burstOnes.data.toList.drop 22 = dktX0_burstOnes_1 := dk_seg dksX0_burstOnes_0 22 rfl rfl
theorem dksX0_burstOnes_2 : cX0_burstOnes.data.toList.drop 45 = dktX0_burstOnes_2 := dk_seg dksX0_burstOnes_1 23 rfl rfl
theorem dksX0_burstOnes_3 : cX0_burstOnes.data.toList.drop 68 = dktX0_burstOnes_3 := dk_seg dksX0_burstOnes_2 23 rfl rfl
theorem dksX0_burstOnes_4 : cX0_burstOnes.data.toList.drop 92 = dktX0_burstOnes_4 := dk_seg dksX0_burstOnes_3 24 rfl rfl
theorem dX0_burstOnes_0 : decode cX0_burstOnes 0 = .ok (.aload_n 0, 1) := dk_42 (dk_at dksX0_burstOnes_0 0 rfl rfl)
theorem dX0_burstOnes_1 : decode cX0_burstOnes 1 = .ok (.getfield 73, 3) := dk_180 0 73 (dk_at dksX0_burstOnes_0 1 rfl rfl)
theorem dX0_burstOnes_4 : decode cX0_burstOnes 4 = .ok (.aload_n 0, 1) := dk_42 (dk_at dksX0_burstOnes_0 4 rfl rfl)
theorem dX0_burstOnes_5 : decode cX0_burstOnes 5 = .ok (.getfield 66, 3) := dk_180 0 66 (dk_at dksX0_burstOnes_0 5 rfl rfl)
theorem dX0_burstOnes_8 : decode cX0_burstOnes 8 = .ok (.invokevirtual 227, 3) := dk_182 0 227 (dk_at dksX0_burstOnes_0 8 rfl rfl)
theorem dX0_burstOnes_11 : decode cX0_burstOnes 11 = .ok (.aload_n 0, 1) := dk_42 (dk_at dksX0_burstOnes_0 11 rfl rfl)
theorem dX0_burstOnes_12 : decode cX0_burstOnes 12 = .ok (.iload_n 1, 1) := dk_27 (dk_at dksX0_burstOnes_0 12 rfl rfl)
theorem dX0_burstOnes_13 : decode cX0_burstOnes 13 = .ok (.invokevirtual 195, 3) := dk_182 0 195 (dk_at dksX0_burstOnes_0 13 rfl rfl)
theorem dX0_burstOnes_16 : decode cX0_burstOnes 16 = .ok (.iconst 0, 1) := dk_3 (dk_at dksX0_burstOnes_0 16 rfl rfl)
theorem dX0_burstOnes_17 : decode cX0_burstOnes 17 = .ok (.istore_n 2, 1) := dk_61 (dk_at dksX0_burstOnes_0 17 rfl rfl)
theorem dX0_burstOnes_18 : decode cX0_burstOnes 18 = .ok (.iconst 0, 1) := dk_3 (dk_at dksX0_burstOnes_0 18 rfl rfl)
theorem dX0_burstOnes_19 : decode cX0_burstOnes 19 = .ok (.istore_n 3, 1) := dk_62 (dk_at dksX0_burstOnes_0 19 rfl rfl)
theorem dX0_burstOnes_20 : decode cX0_burstOnes 20 = .ok (.iload_n 3, 1) := dk_29 (dk_at dksX0_burstOnes_0 20 rfl rfl)
theorem dX0_burstOnes_21 : decode cX0_burstOnes 21 = .ok (.aload_n 0, 1) := dk_42 (dk_at dksX0_burstOnes_0 21 rfl rfl)
theorem dX0_burstOnes_22 : decode cX0_burstOnes 22 = .ok (.getfield 66, 3) := dk_180 0 66 (dk_at dksX0_burstOnes_1 0 rfl rfl)
theorem dX0_burstOnes_25 : decode cX0_burstOnes 25 = .ok (.getfield 114, 3) := dk_180 0 114 (dk_at dksX0_burstOnes_1 3 rfl rfl)
theorem dX0_burstOnes_28 : decode cX0_burstOnes 28 = .ok (.if_icmp .ge 46, 3) := dk_162 0 46 (dk_at dksX0_burstOnes_1 6 rfl rfl)
theorem dX0_burstOnes_31 : decode cX0_burstOnes 31 = .ok (.iload_n 2, 1) := dk_28 (dk_at dksX0_burstOnes_1 9 rfl rfl)
theorem dX0_burstOnes_32 : decode cX0_burstOnes 32 = .ok (.aload_n 0, 1) := dk_42 (dk_at dksX0_burstOnes_1 10 rfl rfl)
theorem dX0_burstOnes_33 : decode cX0_burstOnes 33 = .ok (.getfield 66, 3) := dk_180 0 66 (dk_at dksX0_burstOnes_1 11 rfl rfl)
theorem dX0_burstOnes_36 : decode cX0_burstOnes 36 = .ok (.getfield 101, 3) := dk_180 0 101 (dk_at dksX0_burstOnes_1 14 rfl rfl)
theorem dX0_burstOnes_39 : decode cX0_burstOnes 39 = .ok (.bipush 6, 2) := dk_16 6 (dk_at dksX0_burstOnes_1 17 rfl rfl)
theorem dX0_burstOnes_41 : decode cX0_burstOnes 41 = .ok (.aaload, 1) := dk_50 (dk_at dksX0_burstOnes_1 19 rfl rfl)
theorem dX0_burstOnes_42 : decode cX0_burstOnes 42 = .ok (.iload_n 3, 1) := dk_29 (dk_at dksX0_burstOnes_1 20 rfl rfl)
theorem dX0_burstOnes_43 : decode cX0_burstOnes 43 = .ok (.iaload, 1) := dk_46 (dk_at dksX0_burstOnes_1 21 rfl rfl)
theorem dX0_burstOnes_44 : decode cX0_burstOnes 44 = .ok (.aload_n 0, 1) := dk_42 (dk_at dksX0_burstOnes_1 22 rfl rfl)
theorem dX0_burstOnes_45 : decode cX0_burstOnes 45 = .ok (.getfield 73, 3) := dk_180 0 73 (dk_at dksX0_burstOnes_2 0 rfl rfl)
theorem dX0_burstOnes_48 : decode cX0_burstOnes 48 = .ok (.getfield 101, 3) := dk_180 0 101 (dk_at dksX0_burstOnes_2 3 rfl rfl)
theorem dX0_burstOnes_51 : decode cX0_burstOnes 51 = .ok (.bipush 6, 2) := dk_16 6 (dk_at dksX0_burstOnes_2 6 rfl rfl)
theorem dX0_burstOnes_53 : decode cX0_burstOnes 53 = .ok (.aaload, 1) := dk_50 (dk_at dksX0_burstOnes_2 8 rfl rfl)
theorem dX0_burstOnes_54 : decode cX0_burstOnes 54 = .ok (.iload_n 3, 1) := dk_29 (dk_at dksX0_burstOnes_2 9 rfl rfl)
theorem dX0_burstOnes_55 : decode cX0_burstOnes 55 = .ok (.iaload, 1) := dk_46 (dk_at dksX0_burstOnes_2 10 rfl rfl)
theorem dX0_burstOnes_56 : decode cX0_burstOnes 56 = .ok (.if_icmp .le 9, 3) := dk_164 0 9 (dk_at dksX0_burstOnes_2 11 rfl rfl)
theorem dX0_burstOnes_59 : decode cX0_burstOnes 59 = .ok (.iconst 1, 1) := dk_4 (dk_at dksX0_burstOnes_2 14 rfl rfl)
theorem dX0_burstOnes_60 : decode cX0_burstOnes 60 = .ok (.iload_n 3, 1) := dk_29 (dk_at dksX0_burstOnes_2 15 rfl rfl)
theorem dX0_burstOnes_61 : decode cX0_burstOnes 61 = .ok (.ishl, 1) := dk_120 (dk_at dksX0_burstOnes_2 16 rfl rfl)
theorem dX0_burstOnes_62 : decode cX0_burstOnes 62 = .ok (.goto 4, 3) := dk_167 0 4 (dk_at dksX0_burstOnes_2 17 rfl rfl)
theorem dX0_burstOnes_65 : decode cX0_burstOnes 65 = .ok (.iconst 0, 1) := dk_3 (dk_at dksX0_burstOnes_2 20 rfl rfl)
theorem dX0_burstOnes_66 : decode cX0_burstOnes 66 = .ok (.ior, 1) := dk_128 (dk_at dksX0_burstOnes_2 21 rfl rfl)
theorem dX0_burstOnes_67 : decode cX0_burstOnes 67 = .ok (.istore_n 2, 1) := dk_61 (dk_at dksX0_burstOnes_2 22 rfl rfl)
theorem dX0_burstOnes_68 : decode cX0_burstOnes 68 = .ok (.iinc 3 1, 3) := dk_132 3 1 (dk_at dksX0_burstOnes_3 0 rfl rfl)
theorem dX0_burstOnes_71 : decode cX0_burstOnes 71 = .ok (.goto (-51), 3) := dk_167 255 205 (dk_at dksX0_burstOnes_3 3 rfl rfl)
theorem dX0_burstOnes_74 : decode cX0_burstOnes 74 = .ok (.iload_n 2, 1) := dk_28 (dk_at dksX0_burstOnes_3 6 rfl rfl)
theorem dX0_burstOnes_75 : decode cX0_burstOnes 75 = .ok (.istore_n 3, 1) := dk_62 (dk_at dksX0_burstOnes_3 7 rfl rfl)
theorem dX0_burstOnes_76 : decode cX0_burstOnes 76 = .ok (.aload_n 0, 1) := dk_42 (dk_at dksX0_burstOnes_3 8 rfl rfl)
theorem dX0_burstOnes_77 : decode cX0_burstOnes 77 = .ok (.getfield 66, 3) := dk_180 0 66 (dk_at dksX0_burstOnes_3 9 rfl rfl)
theorem dX0_burstOnes_80 : decode cX0_burstOnes 80 = .ok (.aload_n 0, 1) := dk_42 (dk_at dksX0_burstOnes_3 12 rfl rfl)
theorem dX0_burstOnes_81 : decode cX0_burstOnes 81 = .ok (.getfield 73, 3) := dk_180 0 73 (dk_at dksX0_burstOnes_3 13 rfl rfl)
theorem dX0_burstOnes_84 : decode cX0_burstOnes 84 = .ok (.invokevirtual 227, 3) := dk_182 0 227 (dk_at dksX0_burstOnes_3 16 rfl rfl)
theorem dX0_burstOnes_87 : decode cX0_burstOnes 87 = .ok (.iload_n 3, 1) := dk_29 (dk_at dksX0_burstOnes_3 19 rfl rfl)
theorem dX0_burstOnes_88 : decode cX0_burstOnes 88 = .ok (.ireturn, 1) := dk_172 (dk_at dksX0_burstOnes_3 20 rfl rfl)
theorem dX0_burstOnes_89 : decode cX0_burstOnes 89 = .ok (.astore 4, 2) := dk_58 4 (dk_at dksX0_burstOnes_3 21 rfl rfl)
theorem dX0_burstOnes_91 : decode cX0_burstOnes 91 = .ok (.aload_n 0, 1) := dk_42 (dk_at dksX0_burstOnes_3 23 rfl rfl)
theorem dX0_burstOnes_92 : decode cX0_burstOnes 92 = .ok (.getfield 66, 3) := dk_180 0 66 (dk_at dksX0_burstOnes_4 0 rfl rfl)
theorem dX0_burstOnes_95 : decode cX0_burstOnes 95 = .ok (.aload_n 0, 1) := dk_42 (dk_at dksX0_burstOnes_4 3 rfl rfl)
theorem dX0_burstOnes_96 : decode cX0_burstOnes 96 = .ok (.getfield 73, 3) := dk_180 0 73 (dk_at dksX0_burstOnes_4 4 rfl rfl)
theorem dX0_burstOnes_99 : decode cX0_burstOnes 99 = .ok (.invokevirtual 227, 3) := dk_182 0 227 (dk_at dksX0_burstOnes_4 7 rfl rfl)
theorem dX0_burstOnes_102 : decode cX0_burstOnes 102 = .ok (.aload 4, 2) := dk_25 4 (dk_at dksX0_burstOnes_4 10 rfl rfl)
theorem dX0_burstOnes_104 : decode cX0_burstOnes 104 = .ok (.athrow, 1) := dk_191 (dk_at dksX0_burstOnes_4 12 rfl rfl)
abbrev cX0_lay : ByteArray := prog_1_method_50_code
def yX0_lay : MethodName := ⟨RX0, "lay", "(II)I"⟩
def dkwX0_lay_1 : List UInt8 := [182, 0, 116, 172]
abbrev dktX0_lay_1 : List UInt8 := dkwX0_lay_1 ++ []
def dkwX0_lay_0 : List UInt8 := [42, 27, 28, 182, 1, 3, 153, 0, 15, 42, 27, 4, 16, 6, 28, 182, 1, 6, 167, 0, 8, 42, 3]
abbrev dktX0_lay_0 : List UInt8 := dkwX0_lay_0 ++ dktX0_lay_1
theorem dksX0_lay_0 : cX0_lay.data.toList.drop 0 = dktX0_lay_0 := by decide +kernel
theorem dksX0_lay_1 : cX0_lay.data.toList.drop 23 = dktX0_lay_1 := dk_seg dksX0_lay_0 23 rfl rfl
theorem dX0_lay_0 : decode cX0_lay 0 = .ok (.aload_n 0, 1) := dk_42 (dk_at dksX0_lay_0 0 rfl rfl)
theorem dX0_lay_1 : decode cX0_lay 1 = .ok (.iload_n 1, 1) := dk_27 (dk_at dksX0_lay_0 1 rfl rfl)
theorem dX0_lay_2 : decode cX0_lay 2 = .ok (.iload_n 2, 1) := dk_28 (dk_at dksX0_lay_0 2 rfl rfl)
theorem dX0_lay_3 : decode cX0_lay 3 = .ok (.invokevirtual 259, 3) := dk_182 1 3 (dk_at dksX0_lay_0 3 rfl rfl)
theorem dX0_lay_6 : decode cX0_lay 6 = .ok (.ifCond .eq 15, 3) := dk_153 0 15 (dk_at dksX0_lay_0 6 rfl rfl)
theorem dX0_lay_9 : decode cX0_lay 9 = .ok (.aload_n 0, 1) := dk_42 (dk_at dksX0_lay_0 9 rfl rfl)
theorem dX0_lay_10 : decode cX0_lay 10 = .ok (.iload_n 1, 1) := dk_27 (dk_at dksX0_lay_0 10 rfl rfl)
theorem dX0_lay_11 : decode cX0_lay 11 = .ok (.iconst 1, 1) := dk_4 (dk_at dksX0_lay_0 11 rfl rfl)
theorem dX0_lay_12 : decode cX0_lay 12 = .ok (.bipush 6, 2) := dk_16 6 (dk_at dksX0_lay_0 12 rfl rfl)
theorem dX0_lay_14 : decode cX0_lay 14 = .ok (.iload_n 2, 1) := dk_28 (dk_at dksX0_lay_0 14 rfl rfl)
theorem dX0_lay_15 : decode cX0_lay 15 = .ok (.invokevirtual 262, 3) := dk_182 1 6 (dk_at dksX0_lay_0 15 rfl rfl)
theorem dX0_lay_18 : decode cX0_lay 18 = .ok (.goto 8, 3) := dk_167 0 8 (dk_at dksX0_lay_0 18 rfl rfl)
theorem dX0_lay_21 : decode cX0_lay 21 = .ok (.aload_n 0, 1) := dk_42 (dk_at dksX0_lay_0 21 rfl rfl)
theorem dX0_lay_22 : decode cX0_lay 22 = .ok (.iconst 0, 1) := dk_3 (dk_at dksX0_lay_0 22 rfl rfl)
theorem dX0_lay_23 : decode cX0_lay 23 = .ok (.invokevirtual 116, 3) := dk_182 0 116 (dk_at dksX0_lay_1 0 rfl rfl)
theorem dX0_lay_26 : decode cX0_lay 26 = .ok (.ireturn, 1) := dk_172 (dk_at dksX0_lay_1 3 rfl rfl)
abbrev cX0_areOne : ByteArray := prog_1_method_49_code
def yX0_areOne : MethodName := ⟨RX0, "areOne", "(II)Z"⟩
def dkwX0_areOne_0 : List UInt8 := [42, 27, 182, 0, 177, 153, 0, 17, 28, 3, 16, 40, 184, 0, 9, 153, 0, 7, 4, 167, 0, 4, 3, 172]
abbrev dktX0_areOne_0 : List UInt8 := dkwX0_areOne_0 ++ []
theorem dksX0_areOne_0 : cX0_areOne.data.toList.drop 0 = dktX0_areOne_0 := by decide +kernel
theorem dX0_areOne_0 : decode cX0_areOne 0 = .ok (.aload_n 0, 1) := dk_42 (dk_at dksX0_areOne_0 0 rfl rfl)
theorem dX0_areOne_1 : decode cX0_areOne 1 = .ok (.iload_n 1, 1) := dk_27 (dk_at dksX0_areOne_0 1 rfl rfl)
theorem dX0_areOne_2 : decode cX0_areOne 2 = .ok (.invokevirtual 177, 3) := dk_182 0 177 (dk_at dksX0_areOne_0 2 rfl rfl)
theorem dX0_areOne_5 : decode cX0_areOne 5 = .ok (.ifCond .eq 17, 3) := dk_153 0 17 (dk_at dksX0_areOne_0 5 rfl rfl)
theorem dX0_areOne_8 : decode cX0_areOne 8 = .ok (.iload_n 2, 1) := dk_28 (dk_at dksX0_areOne_0 8 rfl rfl)
theorem dX0_areOne_9 : decode cX0_areOne 9 = .ok (.iconst 0, 1) := dk_3 (dk_at dksX0_areOne_0 9 rfl rfl)
theorem dX0_areOne_10 : decode cX0_areOne 10 = .ok (.bipush 40, 2) := dk_16 40 (dk_at dksX0_areOne_0 10 rfl rfl)
theorem dX0_areOne_12 : decode cX0_areOne 12 = .ok (.invokestatic 9, 3) := dk_184 0 9 (dk_at dksX0_areOne_0 12 rfl rfl)
theorem dX0_areOne_15 : decode cX0_areOne 15 = .ok (.ifCond .eq 7, 3) := dk_153 0 7 (dk_at dksX0_areOne_0 15 rfl rfl)
theorem dX0_areOne_18 : decode cX0_areOne 18 = .ok (.iconst 1, 1) := dk_4 (dk_at dksX0_areOne_0 18 rfl rfl)
theorem dX0_areOne_19 : decode cX0_areOne 19 = .ok (.goto 4, 3) := dk_167 0 4 (dk_at dksX0_areOne_0 19 rfl rfl)
theorem dX0_areOne_22 : decode cX0_areOne 22 = .ok (.iconst 0, 1) := dk_3 (dk_at dksX0_areOne_0 22 rfl rfl)
theorem dX0_areOne_23 : decode cX0_areOne 23 = .ok (.ireturn, 1) := dk_172 (dk_at dksX0_areOne_0 23 rfl rfl)
abbrev cX0_mostBy : ByteArray := prog_1_method_48_code
def yX0_mostBy : MethodName := ⟨RX0, "mostBy", "(IIII)I"⟩
def dkwX0_mostBy_4 : List UInt8 := [21, 5, 79, 21, 6, 172]
abbrev dktX0_mostBy_4 : List UInt8 := dkwX0_mostBy_4 ++ []
def dkwX0_mostBy_3 : List UInt8 := [21, 9, 184, 0, 254, 54, 7, 132, 8, 1, 167, 255, 198, 42, 180, 0, 66, 180, 0, 101, 28, 50, 27]
abbrev dktX0_mostBy_3 : List UInt8 := dkwX0_mostBy_3 ++ dktX0_mostBy_4
def dkwX0_mostBy_2 : List UInt8 := [182, 0, 235, 54, 9, 21, 9, 21, 7, 164, 0, 8, 21, 8, 167, 0, 5, 21, 6, 54, 6, 21, 7]
abbrev dktX0_mostBy_2 : List UInt8 := dkwX0_mostBy_2 ++ dktX0_mostBy_3
def dkwX0_mostBy_1 : List UInt8 := [29, 162, 0, 58, 42, 180, 0, 66, 180, 0, 101, 28, 50, 27, 21, 8, 79, 42, 27, 16, 7, 21, 4]
abbrev dktX0_mostBy_1 : List UInt8 := dkwX0_mostBy_1 ++ dktX0_mostBy_2
def dkwX0_mostBy_0 : List UInt8 := [42, 180, 0, 66, 180, 0, 101, 28, 50, 27, 46, 54, 5, 3, 54, 6, 2, 54, 7, 3, 54, 8, 21, 8]
abbrev dktX0_mostBy_0 : List UInt8 := dkwX0_mostBy_0 ++ dktX0_mostBy_1
theorem dksX0_mostBy_0 : cX0_mostBy.data.toList.drop 0 = dktX0_mostBy_0 := by decide +kernel
theorem dksX0_mostBy_1 : cX0_mostBy.data.toList.drop 24 = dktX0_mostBy_1 := dk_seg dksX0_mostBy_0 24 rfl rfl
theorem dksX0_mostBy_2 : cX0_mostBy.data.toList.drop 47 = dktX0_mostBy_2 := dk_seg dksX0_mostBy_1 23 rfl rfl
theorem dksX0_mostBy_3 : cX0_mostBy.data.toList.drop 70 = dktX0_mostBy_3 := dk_seg dksX0_mostBy_2 23 rfl rfl
theorem dksX0_mostBy_4 : cX0_mostBy.data.toList.drop 93 = dktX0_mostBy_4 := dk_seg dksX0_mostBy_3 23 rfl rfl
theorem dX0_mostBy_0 : decode cX0_mostBy 0 = .ok (.aload_n 0, 1) := dk_42 (dk_at dksX0_mostBy_0 0 rfl rfl)
theorem dX0_mostBy_1 : decode cX0_mostBy 1 = .ok (.getfield 66, 3) := dk_180 0 66 (dk_at dksX0_mostBy_0 1 rfl rfl)
theorem dX0_mostBy_4 : decode cX0_mostBy 4 = .ok (.getfield 101, 3) := dk_180 0 101 (dk_at dksX0_mostBy_0 4 rfl rfl)
theorem dX0_mostBy_7 : decode cX0_mostBy 7 = .ok (.iload_n 2, 1) := dk_28 (dk_at dksX0_mostBy_0 7 rfl rfl)
theorem dX0_mostBy_8 : decode cX0_mostBy 8 = .ok (.aaload, 1) := dk_50 (dk_at dksX0_mostBy_0 8 rfl rfl)
theorem dX0_mostBy_9 : decode cX0_mostBy 9 = .ok (.iload_n 1, 1) := dk_27 (dk_at dksX0_mostBy_0 9 rfl rfl)
theorem dX0_mostBy_10 : decode cX0_mostBy 10 = .ok (.iaload, 1) := dk_46 (dk_at dksX0_mostBy_0 10 rfl rfl)
theorem dX0_mostBy_11 : decode cX0_mostBy 11 = .ok (.istore 5, 2) := dk_54 5 (dk_at dksX0_mostBy_0 11 rfl rfl)
theorem dX0_mostBy_13 : decode cX0_mostBy 13 = .ok (.iconst 0, 1) := dk_3 (dk_at dksX0_mostBy_0 13 rfl rfl)
theorem dX0_mostBy_14 : decode cX0_mostBy 14 = .ok (.istore 6, 2) := dk_54 6 (dk_at dksX0_mostBy_0 14 rfl rfl)
theorem dX0_mostBy_16 : decode cX0_mostBy 16 = .ok (.iconst (-1), 1) := dk_2 (dk_at dksX0_mostBy_0 16 rfl rfl)
theorem dX0_mostBy_17 : decode cX0_mostBy 17 = .ok (.istore 7, 2) := dk_54 7 (dk_at dksX0_mostBy_0 17 rfl rfl)
theorem dX0_mostBy_19 : decode cX0_mostBy 19 = .ok (.iconst 0, 1) := dk_3 (dk_at dksX0_mostBy_0 19 rfl rfl)
theorem dX0_mostBy_20 : decode cX0_mostBy 20 = .ok (.istore 8, 2) := dk_54 8 (dk_at dksX0_mostBy_0 20 rfl rfl)
theorem dX0_mostBy_22 : decode cX0_mostBy 22 = .ok (.iload 8, 2) := dk_21 8 (dk_at dksX0_mostBy_0 22 rfl rfl)
theorem dX0_mostBy_24 : decode cX0_mostBy 24 = .ok (.iload_n 3, 1) := dk_29 (dk_at dksX0_mostBy_1 0 rfl rfl)
theorem dX0_mostBy_25 : decode cX0_mostBy 25 = .ok (.if_icmp .ge 58, 3) := dk_162 0 58 (dk_at dksX0_mostBy_1 1 rfl rfl)
theorem dX0_mostBy_28 : decode cX0_mostBy 28 = .ok (.aload_n 0, 1) := dk_42 (dk_at dksX0_mostBy_1 4 rfl rfl)
theorem dX0_mostBy_29 : decode cX0_mostBy 29 = .ok (.getfield 66, 3) := dk_180 0 66 (dk_at dksX0_mostBy_1 5 rfl rfl)
theorem dX0_mostBy_32 : decode cX0_mostBy 32 = .ok (.getfield 101, 3) := dk_180 0 101 (dk_at dksX0_mostBy_1 8 rfl rfl)
theorem dX0_mostBy_35 : decode cX0_mostBy 35 = .ok (.iload_n 2, 1) := dk_28 (dk_at dksX0_mostBy_1 11 rfl rfl)
theorem dX0_mostBy_36 : decode cX0_mostBy 36 = .ok (.aaload, 1) := dk_50 (dk_at dksX0_mostBy_1 12 rfl rfl)
theorem dX0_mostBy_37 : decode cX0_mostBy 37 = .ok (.iload_n 1, 1) := dk_27 (dk_at dksX0_mostBy_1 13 rfl rfl)
theorem dX0_mostBy_38 : decode cX0_mostBy 38 = .ok (.iload 8, 2) := dk_21 8 (dk_at dksX0_mostBy_1 14 rfl rfl)
theorem dX0_mostBy_40 : decode cX0_mostBy 40 = .ok (.iastore, 1) := dk_79 (dk_at dksX0_mostBy_1 16 rfl rfl)
theorem dX0_mostBy_41 : decode cX0_mostBy 41 = .ok (.aload_n 0, 1) := dk_42 (dk_at dksX0_mostBy_1 17 rfl rfl)
theorem dX0_mostBy_42 : decode cX0_mostBy 42 = .ok (.iload_n 1, 1) := dk_27 (dk_at dksX0_mostBy_1 18 rfl rfl)
theorem dX0_mostBy_43 : decode cX0_mostBy 43 = .ok (.bipush 7, 2) := dk_16 7 (dk_at dksX0_mostBy_1 19 rfl rfl)
theorem dX0_mostBy_45 : decode cX0_mostBy 45 = .ok (.iload 4, 2) := dk_21 4 (dk_at dksX0_mostBy_1 21 rfl rfl)
theorem dX0_mostBy_47 : decode cX0_mostBy 47 = .ok (.invokevirtual 235, 3) := dk_182 0 235 (dk_at dksX0_mostBy_2 0 rfl rfl)
theorem dX0_mostBy_50 : decode cX0_mostBy 50 = .ok (.istore 9, 2) := dk_54 9 (dk_at dksX0_mostBy_2 3 rfl rfl)
theorem dX0_mostBy_52 : decode cX0_mostBy 52 = .ok (.iload 9, 2) := dk_21 9 (dk_at dksX0_mostBy_2 5 rfl rfl)
theorem dX0_mostBy_54 : decode cX0_mostBy 54 = .ok (.iload 7, 2) := dk_21 7 (dk_at dksX0_mostBy_2 7 rfl rfl)
theorem dX0_mostBy_56 : decode cX0_mostBy 56 = .ok (.if_icmp .le 8, 3) := dk_164 0 8 (dk_at dksX0_mostBy_2 9 rfl rfl)
theorem dX0_mostBy_59 : decode cX0_mostBy 59 = .ok (.iload 8, 2) := dk_21 8 (dk_at dksX0_mostBy_2 12 rfl rfl)
theorem dX0_mostBy_61 : decode cX0_mostBy 61 = .ok (.goto 5, 3) := dk_167 0 5 (dk_at dksX0_mostBy_2 14 rfl rfl)
theorem dX0_mostBy_64 : decode cX0_mostBy 64 = .ok (.iload 6, 2) := dk_21 6 (dk_at dksX0_mostBy_2 17 rfl rfl)
theorem dX0_mostBy_66 : decode cX0_mostBy 66 = .ok (.istore 6, 2) := dk_54 6 (dk_at dksX0_mostBy_2 19 rfl rfl)
theorem dX0_mostBy_68 : decode cX0_mostBy 68 = .ok (.iload 7, 2) := dk_21 7 (dk_at dksX0_mostBy_2 21 rfl rfl)
theorem dX0_mostBy_70 : decode cX0_mostBy 70 = .ok (.iload 9, 2) := dk_21 9 (dk_at dksX0_mostBy_3 0 rfl rfl)
theorem dX0_mostBy_72 : decode cX0_mostBy 72 = .ok (.invokestatic 254, 3) := dk_184 0 254 (dk_at dksX0_mostBy_3 2 rfl rfl)
theorem dX0_mostBy_75 : decode cX0_mostBy 75 = .ok (.istore 7, 2) := dk_54 7 (dk_at dksX0_mostBy_3 5 rfl rfl)
theorem dX0_mostBy_77 : decode cX0_mostBy 77 = .ok (.iinc 8 1, 3) := dk_132 8 1 (dk_at dksX0_mostBy_3 7 rfl rfl)
theorem dX0_mostBy_80 : decode cX0_mostBy 80 = .ok (.goto (-58), 3) := dk_167 255 198 (dk_at dksX0_mostBy_3 10 rfl rfl)
theorem dX0_mostBy_83 : decode cX0_mostBy 83 = .ok (.aload_n 0, 1) := dk_42 (dk_at dksX0_mostBy_3 13 rfl rfl)
theorem dX0_mostBy_84 : decode cX0_mostBy 84 = .ok (.getfield 66, 3) := dk_180 0 66 (dk_at dksX0_mostBy_3 14 rfl rfl)
theorem dX0_mostBy_87 : decode cX0_mostBy 87 = .ok (.getfield 101, 3) := dk_180 0 101 (dk_at dksX0_mostBy_3 17 rfl rfl)
theorem dX0_mostBy_90 : decode cX0_mostBy 90 = .ok (.iload_n 2, 1) := dk_28 (dk_at dksX0_mostBy_3 20 rfl rfl)
theorem dX0_mostBy_91 : decode cX0_mostBy 91 = .ok (.aaload, 1) := dk_50 (dk_at dksX0_mostBy_3 21 rfl rfl)
theorem dX0_mostBy_92 : decode cX0_mostBy 92 = .ok (.iload_n 1, 1) := dk_27 (dk_at dksX0_mostBy_3 22 rfl rfl)
theorem dX0_mostBy_93 : decode cX0_mostBy 93 = .ok (.iload 5, 2) := dk_21 5 (dk_at dksX0_mostBy_4 0 rfl rfl)
theorem dX0_mostBy_95 : decode cX0_mostBy 95 = .ok (.iastore, 1) := dk_79 (dk_at dksX0_mostBy_4 2 rfl rfl)
theorem dX0_mostBy_96 : decode cX0_mostBy 96 = .ok (.iload 6, 2) := dk_21 6 (dk_at dksX0_mostBy_4 3 rfl rfl)
theorem dX0_mostBy_98 : decode cX0_mostBy 98 = .ok (.ireturn, 1) := dk_172 (dk_at dksX0_mostBy_4 5 rfl rfl)
abbrev cX0_kindFor : ByteArray := prog_1_method_51_code
def yX0_kindFor : MethodName := ⟨RX0, "kindFor", "(II)I"⟩
def dkwX0_kindFor_1 : List UInt8 := [182, 0, 116, 172]
abbrev dktX0_kindFor_1 : List UInt8 := dkwX0_kindFor_1 ++ []
def dkwX0_kindFor_0 : List UInt8 := [42, 27, 28, 182, 1, 3, 153, 0, 15, 42, 27, 3, 16, 7, 28, 182, 1, 6, 167, 0, 8, 42, 3]
abbrev dktX0_kindFor_0 : List UInt8 := dkwX0_kindFor_0 ++ dktX0_kindFor_1
theorem dksX0_kindFor_0 : cX0_kindFor.data.toList.drop 0 = dktX0_kindFor_0 := by decide +kernel
theorem dksX0_kindFor_1 : cX0_kindFor.data.toList.drop 23 = dktX0_kindFor_1 := dk_seg dksX0_kindFor_0 23 rfl rfl
theorem dX0_kindFor_0 : decode cX0_kindFor 0 = .ok (.aload_n 0, 1) := dk_42 (dk_at dksX0_kindFor_0 0 rfl rfl)
theorem dX0_kindFor_1 : decode cX0_kindFor 1 = .ok (.iload_n 1, 1) := dk_27 (dk_at dksX0_kindFor_0 1 rfl rfl)
theorem dX0_kindFor_2 : decode cX0_kindFor 2 = .ok (.iload_n 2, 1) := dk_28 (dk_at dksX0_kindFor_0 2 rfl rfl)
theorem dX0_kindFor_3 : decode cX0_kindFor 3 = .ok (.invokevirtual 259, 3) := dk_182 1 3 (dk_at dksX0_kindFor_0 3 rfl rfl)
theorem dX0_kindFor_6 : decode cX0_kindFor 6 = .ok (.ifCond .eq 15, 3) := dk_153 0 15 (dk_at dksX0_kindFor_0 6 rfl rfl)
theorem dX0_kindFor_9 : decode cX0_kindFor 9 = .ok (.aload_n 0, 1) := dk_42 (dk_at dksX0_kindFor_0 9 rfl rfl)
theorem dX0_kindFor_10 : decode cX0_kindFor 10 = .ok (.iload_n 1, 1) := dk_27 (dk_at dksX0_kindFor_0 10 rfl rfl)
theorem dX0_kindFor_11 : decode cX0_kindFor 11 = .ok (.iconst 0, 1) := dk_3 (dk_at dksX0_kindFor_0 11 rfl rfl)
theorem dX0_kindFor_12 : decode cX0_kindFor 12 = .ok (.bipush 7, 2) := dk_16 7 (dk_at dksX0_kindFor_0 12 rfl rfl)
theorem dX0_kindFor_14 : decode cX0_kindFor 14 = .ok (.iload_n 2, 1) := dk_28 (dk_at dksX0_kindFor_0 14 rfl rfl)
theorem dX0_kindFor_15 : decode cX0_kindFor 15 = .ok (.invokevirtual 262, 3) := dk_182 1 6 (dk_at dksX0_kindFor_0 15 rfl rfl)
theorem dX0_kindFor_18 : decode cX0_kindFor 18 = .ok (.goto 8, 3) := dk_167 0 8 (dk_at dksX0_kindFor_0 18 rfl rfl)
theorem dX0_kindFor_21 : decode cX0_kindFor 21 = .ok (.aload_n 0, 1) := dk_42 (dk_at dksX0_kindFor_0 21 rfl rfl)
theorem dX0_kindFor_22 : decode cX0_kindFor 22 = .ok (.iconst 0, 1) := dk_3 (dk_at dksX0_kindFor_0 22 rfl rfl)
theorem dX0_kindFor_23 : decode cX0_kindFor 23 = .ok (.invokevirtual 116, 3) := dk_182 0 116 (dk_at dksX0_kindFor_1 0 rfl rfl)
theorem dX0_kindFor_26 : decode cX0_kindFor 26 = .ok (.ireturn, 1) := dk_172 (dk_at dksX0_kindFor_1 3 rfl rfl)
abbrev cX0_pitchFor : ByteArray := prog_1_method_52_code
def yX0_pitchFor : MethodName := ⟨RX0, "pitchFor", "(II)I"⟩
def dkwX0_pitchFor_1 : List UInt8 := [182, 0, 116, 172]
abbrev dktX0_pitchFor_1 : List UInt8 := dkwX0_pitchFor_1 ++ []
def dkwX0_pitchFor_0 : List UInt8 := [42, 27, 28, 182, 1, 3, 153, 0, 15, 42, 27, 6, 16, 12, 28, 182, 1, 6, 167, 0, 8, 42, 3]
abbrev dktX0_pitchFor_0 : List UInt8 := dkwX0_pitchFor_0 ++ dktX0_pitchFor_1
theorem dksX0_pitchFor_0 : cX0_pitchFor.data.toList.drop 0 = dktX0_pitchFor_0 := by decide +kernel
theorem dksX0_pitchFor_1 : cX0_pitchFor.data.toList.drop 23 = dktX0_pitchFor_1 := dk_seg dksX0_pitchFor_0 23 rfl rfl
theorem dX0_pitchFor_0 : decode cX0_pitchFor 0 = .ok (.aload_n 0, 1) := dk_42 (dk_at dksX0_pitchFor_0 0 rfl rfl)
theorem dX0_pitchFor_1 : decode cX0_pitchFor 1 = .ok (.iload_n 1, 1) := dk_27 (dk_at dksX0_pitchFor_0 1 rfl rfl)
theorem dX0_pitchFor_2 : decode cX0_pitchFor 2 = .ok (.iload_n 2, 1) := dk_28 (dk_at dksX0_pitchFor_0 2 rfl rfl)
theorem dX0_pitchFor_3 : decode cX0_pitchFor 3 = .ok (.invokevirtual 259, 3) := dk_182 1 3 (dk_at dksX0_pitchFor_0 3 rfl rfl)
theorem dX0_pitchFor_6 : decode cX0_pitchFor 6 = .ok (.ifCond .eq 15, 3) := dk_153 0 15 (dk_at dksX0_pitchFor_0 6 rfl rfl)
theorem dX0_pitchFor_9 : decode cX0_pitchFor 9 = .ok (.aload_n 0, 1) := dk_42 (dk_at dksX0_pitchFor_0 9 rfl rfl)
theorem dX0_pitchFor_10 : decode cX0_pitchFor 10 = .ok (.iload_n 1, 1) := dk_27 (dk_at dksX0_pitchFor_0 10 rfl rfl)
theorem dX0_pitchFor_11 : decode cX0_pitchFor 11 = .ok (.iconst 3, 1) := dk_6 (dk_at dksX0_pitchFor_0 11 rfl rfl)
theorem dX0_pitchFor_12 : decode cX0_pitchFor 12 = .ok (.bipush 12, 2) := dk_16 12 (dk_at dksX0_pitchFor_0 12 rfl rfl)
theorem dX0_pitchFor_14 : decode cX0_pitchFor 14 = .ok (.iload_n 2, 1) := dk_28 (dk_at dksX0_pitchFor_0 14 rfl rfl)
theorem dX0_pitchFor_15 : decode cX0_pitchFor 15 = .ok (.invokevirtual 262, 3) := dk_182 1 6 (dk_at dksX0_pitchFor_0 15 rfl rfl)
theorem dX0_pitchFor_18 : decode cX0_pitchFor 18 = .ok (.goto 8, 3) := dk_167 0 8 (dk_at dksX0_pitchFor_0 18 rfl rfl)
theorem dX0_pitchFor_21 : decode cX0_pitchFor 21 = .ok (.aload_n 0, 1) := dk_42 (dk_at dksX0_pitchFor_0 21 rfl rfl)
theorem dX0_pitchFor_22 : decode cX0_pitchFor 22 = .ok (.iconst 0, 1) := dk_3 (dk_at dksX0_pitchFor_0 22 rfl rfl)
theorem dX0_pitchFor_23 : decode cX0_pitchFor 23 = .ok (.invokevirtual 116, 3) := dk_182 0 116 (dk_at dksX0_pitchFor_1 0 rfl rfl)
theorem dX0_pitchFor_26 : decode cX0_pitchFor 26 = .ok (.ireturn, 1) := dk_172 (dk_at dksX0_pitchFor_1 3 rfl rfl)
abbrev cX0_hoopsFor : ByteArray := prog_1_method_54_code
def yX0_hoopsFor : MethodName := ⟨RX0, "hoopsFor", "(II)I"⟩
def dkwX0_hoopsFor_1 : List UInt8 := [182, 1, 10, 182, 0, 245, 167, 0, 8, 42, 3, 182, 0, 116, 172]
abbrev dktX0_hoopsFor_1 : List UInt8 := dkwX0_hoopsFor_1 ++ []
def dkwX0_hoopsFor_0 : List UInt8 := [42, 27, 182, 0, 177, 153, 0, 26, 28, 3, 16, 20, 184, 0, 9, 153, 0, 16, 42, 42, 27, 28]
abbrev dktX0_hoopsFor_0 : List UInt8 := dkwX0_hoopsFor_0 ++ dktX0_hoopsFor_1
theorem dksX0_hoopsFor_0 : cX0_hoopsFor.data.toList.drop 0 = dktX0_hoopsFor_0 := by decide +kernel
theorem dksX0_hoopsFor_1 : cX0_hoopsFor.data.toList.drop 22 = dktX0_hoopsFor_1 := dk_seg dksX0_hoopsFor_0 22 rfl rfl
theorem dX0_hoopsFor_0 : decode cX0_hoopsFor 0 = .ok (.aload_n 0, 1) := dk_42 (dk_at dksX0_hoopsFor_0 0 rfl rfl)
theorem dX0_hoopsFor_1 : decode cX0_hoopsFor 1 = .ok (.iload_n 1, 1) := dk_27 (dk_at dksX0_hoopsFor_0 1 rfl rfl)
theorem dX0_hoopsFor_2 : decode cX0_hoopsFor 2 = .ok (.invokevirtual 177, 3) := dk_182 0 177 (dk_at dksX0_hoopsFor_0 2 rfl rfl)
theorem dX0_hoopsFor_5 : decode cX0_hoopsFor 5 = .ok (.ifCond .eq 26, 3) := dk_153 0 26 (dk_at dksX0_hoopsFor_0 5 rfl rfl)
theorem dX0_hoopsFor_8 : decode cX0_hoopsFor 8 = .ok (.iload_n 2, 1) := dk_28 (dk_at dksX0_hoopsFor_0 8 rfl rfl)
theorem dX0_hoopsFor_9 : decode cX0_hoopsFor 9 = .ok (.iconst 0, 1) := dk_3 (dk_at dksX0_hoopsFor_0 9 rfl rfl)
theorem dX0_hoopsFor_10 : decode cX0_hoopsFor 10 = .ok (.bipush 20, 2) := dk_16 20 (dk_at dksX0_hoopsFor_0 10 rfl rfl)
theorem dX0_hoopsFor_12 : decode cX0_hoopsFor 12 = .ok (.invokestatic 9, 3) := dk_184 0 9 (dk_at dksX0_hoopsFor_0 12 rfl rfl)
theorem dX0_hoopsFor_15 : decode cX0_hoopsFor 15 = .ok (.ifCond .eq 16, 3) := dk_153 0 16 (dk_at dksX0_hoopsFor_0 15 rfl rfl)
theorem dX0_hoopsFor_18 : decode cX0_hoopsFor 18 = .ok (.aload_n 0, 1) := dk_42 (dk_at dksX0_hoopsFor_0 18 rfl rfl)
theorem dX0_hoopsFor_19 : decode cX0_hoopsFor 19 = .ok (.aload_n 0, 1) := dk_42 (dk_at dksX0_hoopsFor_0 19 rfl rfl)
theorem dX0_hoopsFor_20 : decode cX0_hoopsFor 20 = .ok (.iload_n 1, 1) := dk_27 (dk_at dksX0_hoopsFor_0 20 rfl rfl)
theorem dX0_hoopsFor_21 : decode cX0_hoopsFor 21 = .ok (.iload_n 2, 1) := dk_28 (dk_at dksX0_hoopsFor_0 21 rfl rfl)
theorem dX0_hoopsFor_22 : decode cX0_hoopsFor 22 = .ok (.invokevirtual 266, 3) := dk_182 1 10 (dk_at dksX0_hoopsFor_1 0 rfl rfl)
theorem dX0_hoopsFor_25 : decode cX0_hoopsFor 25 = .ok (.invokevirtual 245, 3) := dk_182 0 245 (dk_at dksX0_hoopsFor_1 3 rfl rfl)
theorem dX0_hoopsFor_28 : decode cX0_hoopsFor 28 = .ok (.goto 8, 3) := dk_167 0 8 (dk_at dksX0_hoopsFor_1 6 rfl rfl)
theorem dX0_hoopsFor_31 : decode cX0_hoopsFor 31 = .ok (.aload_n 0, 1) := dk_42 (dk_at dksX0_hoopsFor_1 9 rfl rfl)
theorem dX0_hoopsFor_32 : decode cX0_hoopsFor 32 = .ok (.iconst 0, 1) := dk_3 (dk_at dksX0_hoopsFor_1 10 rfl rfl)
theorem dX0_hoopsFor_33 : decode cX0_hoopsFor 33 = .ok (.invokevirtual 116, 3) := dk_182 0 116 (dk_at dksX0_hoopsFor_1 11 rfl rfl)
theorem dX0_hoopsFor_36 : decode cX0_hoopsFor 36 = .ok (.ireturn, 1) := dk_172 (dk_at dksX0_hoopsFor_1 14 rfl rfl)
abbrev cX0_leastHoops : ByteArray := prog_1_method_53_code
def yX0_leastHoops : MethodName := ⟨RX0, "leastHoops", "(II)I"⟩
def dkwX0_leastHoops_4 : List UInt8 := [21, 5, 17, 0, 200, 163, 0, 8, 21, 5, 167, 0, 4, 2, 172]
abbrev dktX0_leastHoops_4 : List UInt8 := dkwX0_leastHoops_4 ++ []
def dkwX0_leastHoops_3 : List UInt8 := [180, 0, 101, 7, 50, 27, 21, 5, 79, 167, 255, 219, 42, 180, 0, 66, 180, 0, 101, 7, 50, 27, 29, 79]
abbrev dktX0_leastHoops_3 : List UInt8 := dkwX0_leastHoops_3 ++ dktX0_leastHoops_4
def dkwX0_leastHoops_2 : List UInt8 := [163, 0, 35, 42, 27, 16, 6, 28, 182, 0, 235, 21, 4, 159, 0, 22, 132, 5, 1, 42, 180, 0, 66]
abbrev dktX0_leastHoops_2 : List UInt8 := dkwX0_leastHoops_2 ++ dktX0_leastHoops_3
def dkwX0_leastHoops_1 : List UInt8 := [54, 4, 3, 54, 5, 42, 180, 0, 66, 180, 0, 101, 7, 50, 27, 21, 5, 79, 21, 5, 17, 0, 200]
abbrev dktX0_leastHoops_1 : List UInt8 := dkwX0_leastHoops_1 ++ dktX0_leastHoops_2
def dkwX0_leastHoops_0 : List UInt8 := [42, 180, 0, 66, 180, 0, 101, 7, 50, 27, 46, 62, 42, 180, 0, 66, 180, 0, 101, 16, 6, 50, 27, 46]
abbrev dktX0_leastHoops_0 : List UInt8 := dkwX0_leastHoops_0 ++ dktX0_leastHoops_1
theorem dksX0_leastHoops_0 : cX0_leastHoops.data.toList.drop 0 = dktX0_leastHoops_0 := by decide +kernel
theorem dksX0_leastHoops_1 : cX0_leastHoops.data.toList.drop 24 = dktX0_leastHoops_1 := dk_seg dksX0_leastHoops_0 24 rfl rfl
theorem dksX0_leastHoops_2 : cX0_leastHoops.data.toList.drop 47 = dktX0_leastHoops_2 := dk_seg dksX0_leastHoops_1 23 rfl rfl
theorem dksX0_leastHoops_3 : cX0_leastHoops.data.toList.drop 70 = dktX0_leastHoops_3 := dk_seg dksX0_leastHoops_2 23 rfl rfl
theorem dksX0_leastHoops_4 : cX0_leastHoops.data.toList.drop 94 = dktX0_leastHoops_4 := dk_seg dksX0_leastHoops_3 24 rfl rfl
theorem dX0_leastHoops_0 : decode cX0_leastHoops 0 = .ok (.aload_n 0, 1) := dk_42 (dk_at dksX0_leastHoops_0 0 rfl rfl)
theorem dX0_leastHoops_1 : decode cX0_leastHoops 1 = .ok (.getfield 66, 3) := dk_180 0 66 (dk_at dksX0_leastHoops_0 1 rfl rfl)
theorem dX0_leastHoops_4 : decode cX0_leastHoops 4 = .ok (.getfield 101, 3) := dk_180 0 101 (dk_at dksX0_leastHoops_0 4 rfl rfl)
theorem dX0_leastHoops_7 : decode cX0_leastHoops 7 = .ok (.iconst 4, 1) := dk_7 (dk_at dksX0_leastHoops_0 7 rfl rfl)
theorem dX0_leastHoops_8 : decode cX0_leastHoops 8 = .ok (.aaload, 1) := dk_50 (dk_at dksX0_leastHoops_0 8 rfl rfl)
theorem dX0_leastHoops_9 : decode cX0_leastHoops 9 = .ok (.iload_n 1, 1) := dk_27 (dk_at dksX0_leastHoops_0 9 rfl rfl)
theorem dX0_leastHoops_10 : decode cX0_leastHoops 10 = .ok (.iaload, 1) := dk_46 (dk_at dksX0_leastHoops_0 10 rfl rfl)
theorem dX0_leastHoops_11 : decode cX0_leastHoops 11 = .ok (.istore_n 3, 1) := dk_62 (dk_at dksX0_leastHoops_0 11 rfl rfl)
theorem dX0_leastHoops_12 : decode cX0_leastHoops 12 = .ok (.aload_n 0, 1) := dk_42 (dk_at dksX0_leastHoops_0 12 rfl rfl)
theorem dX0_leastHoops_13 : decode cX0_leastHoops 13 = .ok (.getfield 66, 3) := dk_180 0 66 (dk_at dksX0_leastHoops_0 13 rfl rfl)
theorem dX0_leastHoops_16 : decode cX0_leastHoops 16 = .ok (.getfield 101, 3) := dk_180 0 101 (dk_at dksX0_leastHoops_0 16 rfl rfl)
theorem dX0_leastHoops_19 : decode cX0_leastHoops 19 = .ok (.bipush 6, 2) := dk_16 6 (dk_at dksX0_leastHoops_0 19 rfl rfl)
theorem dX0_leastHoops_21 : decode cX0_leastHoops 21 = .ok (.aaload, 1) := dk_50 (dk_at dksX0_leastHoops_0 21 rfl rfl)
theorem dX0_leastHoops_22 : decode cX0_leastHoops 22 = .ok (.iload_n 1, 1) := dk_27 (dk_at dksX0_leastHoops_0 22 rfl rfl)
theorem dX0_leastHoops_23 : decode cX0_leastHoops 23 = .ok (.iaload, 1) := dk_46 (dk_at dksX0_leastHoops_0 23 rfl rfl)
theorem dX0_leastHoops_24 : decode cX0_leastHoops 24 = .ok (.istore 4, 2) := dk_54 4 (dk_at dksX0_leastHoops_1 0 rfl rfl)
theorem dX0_leastHoops_26 : decode cX0_leastHoops 26 = .ok (.iconst 0, 1) := dk_3 (dk_at dksX0_leastHoops_1 2 rfl rfl)
theorem dX0_leastHoops_27 : decode cX0_leastHoops 27 = .ok (.istore 5, 2) := dk_54 5 (dk_at dksX0_leastHoops_1 3 rfl rfl)
theorem dX0_leastHoops_29 : decode cX0_leastHoops 29 = .ok (.aload_n 0, 1) := dk_42 (dk_at dksX0_leastHoops_1 5 rfl rfl)
theorem dX0_leastHoops_30 : decode cX0_leastHoops 30 = .ok (.getfield 66, 3) := dk_180 0 66 (dk_at dksX0_leastHoops_1 6 rfl rfl)
theorem dX0_leastHoops_33 : decode cX0_leastHoops 33 = .ok (.getfield 101, 3) := dk_180 0 101 (dk_at dksX0_leastHoops_1 9 rfl rfl)
theorem dX0_leastHoops_36 : decode cX0_leastHoops 36 = .ok (.iconst 4, 1) := dk_7 (dk_at dksX0_leastHoops_1 12 rfl rfl)
theorem dX0_leastHoops_37 : decode cX0_leastHoops 37 = .ok (.aaload, 1) := dk_50 (dk_at dksX0_leastHoops_1 13 rfl rfl)
theorem dX0_leastHoops_38 : decode cX0_leastHoops 38 = .ok (.iload_n 1, 1) := dk_27 (dk_at dksX0_leastHoops_1 14 rfl rfl)
theorem dX0_leastHoops_39 : decode cX0_leastHoops 39 = .ok (.iload 5, 2) := dk_21 5 (dk_at dksX0_leastHoops_1 15 rfl rfl)
theorem dX0_leastHoops_41 : decode cX0_leastHoops 41 = .ok (.iastore, 1) := dk_79 (dk_at dksX0_leastHoops_1 17 rfl rfl)
theorem dX0_leastHoops_42 : decode cX0_leastHoops 42 = .ok (.iload 5, 2) := dk_21 5 (dk_at dksX0_leastHoops_1 18 rfl rfl)
theorem dX0_leastHoops_44 : decode cX0_leastHoops 44 = .ok (.sipush 200, 3) := dk_17 0 200 (dk_at dksX0_leastHoops_1 20 rfl rfl)
theorem dX0_leastHoops_47 : decode cX0_leastHoops 47 = .ok (.if_icmp .gt 35, 3) := dk_163 0 35 (dk_at dksX0_leastHoops_2 0 rfl rfl)
theorem dX0_leastHoops_50 : decode cX0_leastHoops 50 = .ok (.aload_n 0, 1) := dk_42 (dk_at dksX0_leastHoops_2 3 rfl rfl)
theorem dX0_leastHoops_51 : decode cX0_leastHoops 51 = .ok (.iload_n 1, 1) := dk_27 (dk_at dksX0_leastHoops_2 4 rfl rfl)
theorem dX0_leastHoops_52 : decode cX0_leastHoops 52 = .ok (.bipush 6, 2) := dk_16 6 (dk_at dksX0_leastHoops_2 5 rfl rfl)
theorem dX0_leastHoops_54 : decode cX0_leastHoops 54 = .ok (.iload_n 2, 1) := dk_28 (dk_at dksX0_leastHoops_2 7 rfl rfl)
theorem dX0_leastHoops_55 : decode cX0_leastHoops 55 = .ok (.invokevirtual 235, 3) := dk_182 0 235 (dk_at dksX0_leastHoops_2 8 rfl rfl)
theorem dX0_leastHoops_58 : decode cX0_leastHoops 58 = .ok (.iload 4, 2) := dk_21 4 (dk_at dksX0_leastHoops_2 11 rfl rfl)
theorem dX0_leastHoops_60 : decode cX0_leastHoops 60 = .ok (.if_icmp .eq 22, 3) := dk_159 0 22 (dk_at dksX0_leastHoops_2 13 rfl rfl)
theorem dX0_leastHoops_63 : decode cX0_leastHoops 63 = .ok (.iinc 5 1, 3) := dk_132 5 1 (dk_at dksX0_leastHoops_2 16 rfl rfl)
theorem dX0_leastHoops_66 : decode cX0_leastHoops 66 = .ok (.aload_n 0, 1) := dk_42 (dk_at dksX0_leastHoops_2 19 rfl rfl)
theorem dX0_leastHoops_67 : decode cX0_leastHoops 67 = .ok (.getfield 66, 3) := dk_180 0 66 (dk_at dksX0_leastHoops_2 20 rfl rfl)
theorem dX0_leastHoops_70 : decode cX0_leastHoops 70 = .ok (.getfield 101, 3) := dk_180 0 101 (dk_at dksX0_leastHoops_3 0 rfl rfl)
theorem dX0_leastHoops_73 : decode cX0_leastHoops 73 = .ok (.iconst 4, 1) := dk_7 (dk_at dksX0_leastHoops_3 3 rfl rfl)
theorem dX0_leastHoops_74 : decode cX0_leastHoops 74 = .ok (.aaload, 1) := dk_50 (dk_at dksX0_leastHoops_3 4 rfl rfl)
theorem dX0_leastHoops_75 : decode cX0_leastHoops 75 = .ok (.iload_n 1, 1) := dk_27 (dk_at dksX0_leastHoops_3 5 rfl rfl)
theorem dX0_leastHoops_76 : decode cX0_leastHoops 76 = .ok (.iload 5, 2) := dk_21 5 (dk_at dksX0_leastHoops_3 6 rfl rfl)
theorem dX0_leastHoops_78 : decode cX0_leastHoops 78 = .ok (.iastore, 1) := dk_79 (dk_at dksX0_leastHoops_3 8 rfl rfl)
theorem dX0_leastHoops_79 : decode cX0_leastHoops 79 = .ok (.goto (-37), 3) := dk_167 255 219 (dk_at dksX0_leastHoops_3 9 rfl rfl)
theorem dX0_leastHoops_82 : decode cX0_leastHoops 82 = .ok (.aload_n 0, 1) := dk_42 (dk_at dksX0_leastHoops_3 12 rfl rfl)
theorem dX0_leastHoops_83 : decode cX0_leastHoops 83 = .ok (.getfield 66, 3) := dk_180 0 66 (dk_at dksX0_leastHoops_3 13 rfl rfl)
theorem dX0_leastHoops_86 : decode cX0_leastHoops 86 = .ok (.getfield 101, 3) := dk_180 0 101 (dk_at dksX0_leastHoops_3 16 rfl rfl)
theorem dX0_leastHoops_89 : decode cX0_leastHoops 89 = .ok (.iconst 4, 1) := dk_7 (dk_at dksX0_leastHoops_3 19 rfl rfl)
theorem dX0_leastHoops_90 : decode cX0_leastHoops 90 = .ok (.aaload, 1) := dk_50 (dk_at dksX0_leastHoops_3 20 rfl rfl)
theorem dX0_leastHoops_91 : decode cX0_leastHoops 91 = .ok (.iload_n 1, 1) := dk_27 (dk_at dksX0_leastHoops_3 21 rfl rfl)
theorem dX0_leastHoops_92 : decode cX0_leastHoops 92 = .ok (.iload_n 3, 1) := dk_29 (dk_at dksX0_leastHoops_3 22 rfl rfl)
theorem dX0_leastHoops_93 : decode cX0_leastHoops 93 = .ok (.iastore, 1) := dk_79 (dk_at dksX0_leastHoops_3 23 rfl rfl)
theorem dX0_leastHoops_94 : decode cX0_leastHoops 94 = .ok (.iload 5, 2) := dk_21 5 (dk_at dksX0_leastHoops_4 0 rfl rfl)
theorem dX0_leastHoops_96 : decode cX0_leastHoops 96 = .ok (.sipush 200, 3) := dk_17 0 200 (dk_at dksX0_leastHoops_4 2 rfl rfl)
theorem dX0_leastHoops_99 : decode cX0_leastHoops 99 = .ok (.if_icmp .gt 8, 3) := dk_163 0 8 (dk_at dksX0_leastHoops_4 5 rfl rfl)
theorem dX0_leastHoops_102 : decode cX0_leastHoops 102 = .ok (.iload 5, 2) := dk_21 5 (dk_at dksX0_leastHoops_4 8 rfl rfl)
theorem dX0_leastHoops_104 : decode cX0_leastHoops 104 = .ok (.goto 4, 3) := dk_167 0 4 (dk_at dksX0_leastHoops_4 10 rfl rfl)
theorem dX0_leastHoops_107 : decode cX0_leastHoops 107 = .ok (.iconst (-1), 1) := dk_2 (dk_at dksX0_leastHoops_4 13 rfl rfl)
theorem dX0_leastHoops_108 : decode cX0_leastHoops 108 = .ok (.ireturn, 1) := dk_172 (dk_at dksX0_leastHoops_4 14 rfl rfl)
abbrev cX0_frostFor : ByteArray := prog_1_method_56_code
def yX0_frostFor : MethodName := ⟨RX0, "frostFor", "(II)I"⟩
def dkwX0_frostFor_1 : List UInt8 := [182, 0, 245, 167, 0, 8, 42, 3, 182, 0, 116, 172]
abbrev dktX0_frostFor_1 : List UInt8 := dkwX0_frostFor_1 ++ []
def dkwX0_frostFor_0 : List UInt8 := [27, 184, 0, 17, 153, 0, 26, 28, 3, 16, 40, 184, 0, 9, 153, 0, 16, 42, 42, 27, 28, 182, 1, 13]
abbrev dktX0_frostFor_0 : List UInt8 := dkwX0_frostFor_0 ++ dktX0_frostFor_1
theorem dksX0_frostFor_0 : cX0_frostFor.data.toList.drop 0 = dktX0_frostFor_0 := by decide +kernel
theorem dksX0_frostFor_1 : cX0_frostFor.data.toList.drop 24 = dktX0_frostFor_1 := dk_seg dksX0_frostFor_0 24 rfl rfl
theorem dX0_frostFor_0 : decode cX0_frostFor 0 = .ok (.iload_n 1, 1) := dk_27 (dk_at dksX0_frostFor_0 0 rfl rfl)
theorem dX0_frostFor_1 : decode cX0_frostFor 1 = .ok (.invokestatic 17, 3) := dk_184 0 17 (dk_at dksX0_frostFor_0 1 rfl rfl)
theorem dX0_frostFor_4 : decode cX0_frostFor 4 = .ok (.ifCond .eq 26, 3) := dk_153 0 26 (dk_at dksX0_frostFor_0 4 rfl rfl)
theorem dX0_frostFor_7 : decode cX0_frostFor 7 = .ok (.iload_n 2, 1) := dk_28 (dk_at dksX0_frostFor_0 7 rfl rfl)
theorem dX0_frostFor_8 : decode cX0_frostFor 8 = .ok (.iconst 0, 1) := dk_3 (dk_at dksX0_frostFor_0 8 rfl rfl)
theorem dX0_frostFor_9 : decode cX0_frostFor 9 = .ok (.bipush 40, 2) := dk_16 40 (dk_at dksX0_frostFor_0 9 rfl rfl)
theorem dX0_frostFor_11 : decode cX0_frostFor 11 = .ok (.invokestatic 9, 3) := dk_184 0 9 (dk_at dksX0_frostFor_0 11 rfl rfl)
theorem dX0_frostFor_14 : decode cX0_frostFor 14 = .ok (.ifCond .eq 16, 3) := dk_153 0 16 (dk_at dksX0_frostFor_0 14 rfl rfl)
theorem dX0_frostFor_17 : decode cX0_frostFor 17 = .ok (.aload_n 0, 1) := dk_42 (dk_at dksX0_frostFor_0 17 rfl rfl)
theorem dX0_frostFor_18 : decode cX0_frostFor 18 = .ok (.aload_n 0, 1) := dk_42 (dk_at dksX0_frostFor_0 18 rfl rfl)
theorem dX0_frostFor_19 : decode cX0_frostFor 19 = .ok (.iload_n 1, 1) := dk_27 (dk_at dksX0_frostFor_0 19 rfl rfl)
theorem dX0_frostFor_20 : decode cX0_frostFor 20 = .ok (.iload_n 2, 1) := dk_28 (dk_at dksX0_frostFor_0 20 rfl rfl)
theorem dX0_frostFor_21 : decode cX0_frostFor 21 = .ok (.invokevirtual 269, 3) := dk_182 1 13 (dk_at dksX0_frostFor_0 21 rfl rfl)
theorem dX0_frostFor_24 : decode cX0_frostFor 24 = .ok (.invokevirtual 245, 3) := dk_182 0 245 (dk_at dksX0_frostFor_1 0 rfl rfl)
theorem dX0_frostFor_27 : decode cX0_frostFor 27 = .ok (.goto 8, 3) := dk_167 0 8 (dk_at dksX0_frostFor_1 3 rfl rfl)
theorem dX0_frostFor_30 : decode cX0_frostFor 30 = .ok (.aload_n 0, 1) := dk_42 (dk_at dksX0_frostFor_1 6 rfl rfl)
theorem dX0_frostFor_31 : decode cX0_frostFor 31 = .ok (.iconst 0, 1) := dk_3 (dk_at dksX0_frostFor_1 7 rfl rfl)
theorem dX0_frostFor_32 : decode cX0_frostFor 32 = .ok (.invokevirtual 116, 3) := dk_182 0 116 (dk_at dksX0_frostFor_1 8 rfl rfl)
theorem dX0_frostFor_35 : decode cX0_frostFor 35 = .ok (.ireturn, 1) := dk_172 (dk_at dksX0_frostFor_1 11 rfl rfl)
abbrev cX0_greatestFrost : ByteArray := prog_1_method_55_code
def yX0_greatestFrost : MethodName := ⟨RX0, "greatestFrost", "(II)I"⟩
def dkwX0_greatestFrost_3 : List UInt8 := [180, 0, 159, 27, 29, 79, 21, 4, 172]
abbrev dktX0_greatestFrost_3 : List UInt8 := dkwX0_greatestFrost_3 ++ []
def dkwX0_greatestFrost_2 : List UInt8 := [160, 0, 8, 21, 5, 167, 0, 5, 21, 4, 54, 4, 132, 5, 1, 167, 255, 211, 42, 180, 0, 66]
abbrev dktX0_greatestFrost_2 : List UInt8 := dkwX0_greatestFrost_2 ++ dktX0_greatestFrost_3
def dkwX0_greatestFrost_1 : List UInt8 := [180, 0, 66, 180, 0, 159, 27, 21, 5, 79, 42, 28, 182, 0, 239, 42, 180, 0, 66, 180, 0, 197]
abbrev dktX0_greatestFrost_1 : List UInt8 := dkwX0_greatestFrost_1 ++ dktX0_greatestFrost_2
def dkwX0_greatestFrost_0 : List UInt8 := [42, 180, 0, 66, 180, 0, 159, 27, 46, 62, 2, 54, 4, 3, 54, 5, 21, 5, 16, 9, 163, 0, 44, 42]
abbrev dktX0_greatestFrost_0 : List UInt8 := dkwX0_greatestFrost_0 ++ dktX0_greatestFrost_1
theorem dksX0_greatestFrost_0 : cX0_greatestFrost.data.toList.drop 0 = dktX0_greatestFrost_0 := by decide +kernel
theorem dksX0_greatestFrost_1 : cX0_greatestFrost.data.toList.drop 24 = dktX0_greatestFrost_1 := dk_seg dksX0_greatestFrost_0 24 rfl rfl
theorem dksX0_greatestFrost_2 : cX0_greatestFrost.data.toList.drop 46 = dktX0_greatestFrost_2 := dk_seg dksX0_greatestFrost_1 22 rfl rfl
theorem dksX0_greatestFrost_3 : cX0_greatestFrost.data.toList.drop 68 = dktX0_greatestFrost_3 := dk_seg dksX0_greatestFrost_2 22 rfl rfl
theorem dX0_greatestFrost_0 : decode cX0_greatestFrost 0 = .ok (.aload_n 0, 1) := dk_42 (dk_at dksX0_greatestFrost_0 0 rfl rfl)
theorem dX0_greatestFrost_1 : decode cX0_greatestFrost 1 = .ok (.getfield 66, 3) := dk_180 0 66 (dk_at dksX0_greatestFrost_0 1 rfl rfl)
theorem dX0_greatestFrost_4 : decode cX0_greatestFrost 4 = .ok (.getfield 159, 3) := dk_180 0 159 (dk_at dksX0_greatestFrost_0 4 rfl rfl)
theorem dX0_greatestFrost_7 : decode cX0_greatestFrost 7 = .ok (.iload_n 1, 1) := dk_27 (dk_at dksX0_greatestFrost_0 7 rfl rfl)
theorem dX0_greatestFrost_8 : decode cX0_greatestFrost 8 = .ok (.iaload, 1) := dk_46 (dk_at dksX0_greatestFrost_0 8 rfl rfl)
theorem dX0_greatestFrost_9 : decode cX0_greatestFrost 9 = .ok (.istore_n 3, 1) := dk_62 (dk_at dksX0_greatestFrost_0 9 rfl rfl)
theorem dX0_greatestFrost_10 : decode cX0_greatestFrost 10 = .ok (.iconst (-1), 1) := dk_2 (dk_at dksX0_greatestFrost_0 10 rfl rfl)
theorem dX0_greatestFrost_11 : decode cX0_greatestFrost 11 = .ok (.istore 4, 2) := dk_54 4 (dk_at dksX0_greatestFrost_0 11 rfl rfl)
theorem dX0_greatestFrost_13 : decode cX0_greatestFrost 13 = .ok (.iconst 0, 1) := dk_3 (dk_at dksX0_greatestFrost_0 13 rfl rfl)
theorem dX0_greatestFrost_14 : decode cX0_greatestFrost 14 = .ok (.istore 5, 2) := dk_54 5 (dk_at dksX0_greatestFrost_0 14 rfl rfl)
theorem dX0_greatestFrost_16 : decode cX0_greatestFrost 16 = .ok (.iload 5, 2) := dk_21 5 (dk_at dksX0_greatestFrost_0 16 rfl rfl)
theorem dX0_greatestFrost_18 : decode cX0_greatestFrost 18 = .ok (.bipush 9, 2) := dk_16 9 (dk_at dksX0_greatestFrost_0 18 rfl rfl)
theorem dX0_greatestFrost_20 : decode cX0_greatestFrost 20 = .ok (.if_icmp .gt 44, 3) := dk_163 0 44 (dk_at dksX0_greatestFrost_0 20 rfl rfl)
theorem dX0_greatestFrost_23 : decode cX0_greatestFrost 23 = .ok (.aload_n 0, 1) := dk_42 (dk_at dksX0_greatestFrost_0 23 rfl rfl)
theorem dX0_greatestFrost_24 : decode cX0_greatestFrost 24 = .ok (.getfield 66, 3) := dk_180 0 66 (dk_at dksX0_greatestFrost_1 0 rfl rfl)
theorem dX0_greatestFrost_27 : decode cX0_greatestFrost 27 = .ok (.getfield 159, 3) := dk_180 0 159 (dk_at dksX0_greatestFrost_1 3 rfl rfl)
theorem dX0_greatestFrost_30 : decode cX0_greatestFrost 30 = .ok (.iload_n 1, 1) := dk_27 (dk_at dksX0_greatestFrost_1 6 rfl rfl)
theorem dX0_greatestFrost_31 : decode cX0_greatestFrost 31 = .ok (.iload 5, 2) := dk_21 5 (dk_at dksX0_greatestFrost_1 7 rfl rfl)
theorem dX0_greatestFrost_33 : decode cX0_greatestFrost 33 = .ok (.iastore, 1) := dk_79 (dk_at dksX0_greatestFrost_1 9 rfl rfl)
theorem dX0_greatestFrost_34 : decode cX0_greatestFrost 34 = .ok (.aload_n 0, 1) := dk_42 (dk_at dksX0_greatestFrost_1 10 rfl rfl)
theorem dX0_greatestFrost_35 : decode cX0_greatestFrost 35 = .ok (.iload_n 2, 1) := dk_28 (dk_at dksX0_greatestFrost_1 11 rfl rfl)
theorem dX0_greatestFrost_36 : decode cX0_greatestFrost 36 = .ok (.invokevirtual 239, 3) := dk_182 0 239 (dk_at dksX0_greatestFrost_1 12 rfl rfl)
theorem dX0_greatestFrost_39 : decode cX0_greatestFrost 39 = .ok (.aload_n 0, 1) := dk_42 (dk_at dksX0_greatestFrost_1 15 rfl rfl)
theorem dX0_greatestFrost_40 : decode cX0_greatestFrost 40 = .ok (.getfield 66, 3) := dk_180 0 66 (dk_at dksX0_greatestFrost_1 16 rfl rfl)
theorem dX0_greatestFrost_43 : decode cX0_greatestFrost 43 = .ok (.getfield 197, 3) := dk_180 0 197 (dk_at dksX0_greatestFrost_1 19 rfl rfl)
theorem dX0_greatestFrost_46 : decode cX0_greatestFrost 46 = .ok (.if_icmp .ne 8, 3) := dk_160 0 8 (dk_at dksX0_greatestFrost_2 0 rfl rfl)
theorem dX0_greatestFrost_49 : decode cX0_greatestFrost 49 = .ok (.iload 5, 2) := dk_21 5 (dk_at dksX0_greatestFrost_2 3 rfl rfl)
theorem dX0_greatestFrost_51 : decode cX0_greatestFrost 51 = .ok (.goto 5, 3) := dk_167 0 5 (dk_at dksX0_greatestFrost_2 5 rfl rfl)
theorem dX0_greatestFrost_54 : decode cX0_greatestFrost 54 = .ok (.iload 4, 2) := dk_21 4 (dk_at dksX0_greatestFrost_2 8 rfl rfl)
theorem dX0_greatestFrost_56 : decode cX0_greatestFrost 56 = .ok (.istore 4, 2) := dk_54 4 (dk_at dksX0_greatestFrost_2 10 rfl rfl)
theorem dX0_greatestFrost_58 : decode cX0_greatestFrost 58 = .ok (.iinc 5 1, 3) := dk_132 5 1 (dk_at dksX0_greatestFrost_2 12 rfl rfl)
theorem dX0_greatestFrost_61 : decode cX0_greatestFrost 61 = .ok (.goto (-45), 3) := dk_167 255 211 (dk_at dksX0_greatestFrost_2 15 rfl rfl)
theorem dX0_greatestFrost_64 : decode cX0_greatestFrost 64 = .ok (.aload_n 0, 1) := dk_42 (dk_at dksX0_greatestFrost_2 18 rfl rfl)
theorem dX0_greatestFrost_65 : decode cX0_greatestFrost 65 = .ok (.getfield 66, 3) := dk_180 0 66 (dk_at dksX0_greatestFrost_2 19 rfl rfl)
theorem dX0_greatestFrost_68 : decode cX0_greatestFrost 68 = .ok (.getfield 159, 3) := dk_180 0 159 (dk_at dksX0_greatestFrost_3 0 rfl rfl)
theorem dX0_greatestFrost_71 : decode cX0_greatestFrost 71 = .ok (.iload_n 1, 1) := dk_27 (dk_at dksX0_greatestFrost_3 3 rfl rfl)
theorem dX0_greatestFrost_72 : decode cX0_greatestFrost 72 = .ok (.iload_n 3, 1) := dk_29 (dk_at dksX0_greatestFrost_3 4 rfl rfl)
theorem dX0_greatestFrost_73 : decode cX0_greatestFrost 73 = .ok (.iastore, 1) := dk_79 (dk_at dksX0_greatestFrost_3 5 rfl rfl)
theorem dX0_greatestFrost_74 : decode cX0_greatestFrost 74 = .ok (.iload 4, 2) := dk_21 4 (dk_at dksX0_greatestFrost_3 6 rfl rfl)
theorem dX0_greatestFrost_76 : decode cX0_greatestFrost 76 = .ok (.ireturn, 1) := dk_172 (dk_at dksX0_greatestFrost_3 8 rfl rfl)
abbrev cX0_empty : ByteArray := prog_1_method_59_code
def yX0_empty : MethodName := ⟨RX0, "empty", "(I)I"⟩
def dkwX0_empty_1 : List UInt8 := [182, 0, 116, 172]
abbrev dktX0_empty_1 : List UInt8 := dkwX0_empty_1 ++ []
def dkwX0_empty_0 : List UInt8 := [27, 3, 16, 12, 184, 0, 9, 153, 0, 15, 42, 42, 27, 182, 1, 22, 182, 0, 245, 167, 0, 8, 42, 3]
abbrev dktX0_empty_0 : List UInt8 := dkwX0_empty_0 ++ dktX0_empty_1
theorem dksX0_empty_0 : cX0_empty.data.toList.drop 0 = dktX0_empty_0 := by decide +kernel
theorem dksX0_empty_1 : cX0_empty.data.toList.drop 24 = dktX0_empty_1 := dk_seg dksX0_empty_0 24 rfl rfl
theorem dX0_empty_0 : decode cX0_empty 0 = .ok (.iload_n 1, 1) := dk_27 (dk_at dksX0_empty_0 0 rfl rfl)
theorem dX0_empty_1 : decode cX0_empty 1 = .ok (.iconst 0, 1) := dk_3 (dk_at dksX0_empty_0 1 rfl rfl)
theorem dX0_empty_2 : decode cX0_empty 2 = .ok (.bipush 12, 2) := dk_16 12 (dk_at dksX0_empty_0 2 rfl rfl)
theorem dX0_empty_4 : decode cX0_empty 4 = .ok (.invokestatic 9, 3) := dk_184 0 9 (dk_at dksX0_empty_0 4 rfl rfl)
theorem dX0_empty_7 : decode cX0_empty 7 = .ok (.ifCond .eq 15, 3) := dk_153 0 15 (dk_at dksX0_empty_0 7 rfl rfl)
theorem dX0_empty_10 : decode cX0_empty 10 = .ok (.aload_n 0, 1) := dk_42 (dk_at dksX0_empty_0 10 rfl rfl)
theorem dX0_empty_11 : decode cX0_empty 11 = .ok (.aload_n 0, 1) := dk_42 (dk_at dksX0_empty_0 11 rfl rfl)
theorem dX0_empty_12 : decode cX0_empty 12 = .ok (.iload_n 1, 1) := dk_27 (dk_at dksX0_empty_0 12 rfl rfl)
theorem dX0_empty_13 : decode cX0_empty 13 = .ok (.invokevirtual 278, 3) := dk_182 1 22 (dk_at dksX0_empty_0 13 rfl rfl)
theorem dX0_empty_16 : decode cX0_empty 16 = .ok (.invokevirtual 245, 3) := dk_182 0 245 (dk_at dksX0_empty_0 16 rfl rfl)
theorem dX0_empty_19 : decode cX0_empty 19 = .ok (.goto 8, 3) := dk_167 0 8 (dk_at dksX0_empty_0 19 rfl rfl)
theorem dX0_empty_22 : decode cX0_empty 22 = .ok (.aload_n 0, 1) := dk_42 (dk_at dksX0_empty_0 22 rfl rfl)
theorem dX0_empty_23 : decode cX0_empty 23 = .ok (.iconst 0, 1) := dk_3 (dk_at dksX0_empty_0 23 rfl rfl)
theorem dX0_empty_24 : decode cX0_empty 24 = .ok (.invokevirtual 116, 3) := dk_182 0 116 (dk_at dksX0_empty_1 0 rfl rfl)
theorem dX0_empty_27 : decode cX0_empty 27 = .ok (.ireturn, 1) := dk_172 (dk_at dksX0_empty_1 3 rfl rfl)
abbrev cX0_fewestEmptied : ByteArray := prog_1_method_58_code
def yX0_fewestEmptied : MethodName := ⟨RX0, "fewestEmptied", "(I)I"⟩
def dkwX0_fewestEmptied_3 : List UInt8 := [167, 255, 192, 28, 172]
abbrev dktX0_fewestEmptied_3 : List UInt8 := dkwX0_fewestEmptied_3 ++ []
def dkwX0_fewestEmptied_2 : List UInt8 := [182, 1, 19, 42, 180, 0, 66, 180, 0, 197, 160, 0, 7, 29, 167, 0, 4, 28, 61, 132, 3, 1]
abbrev dktX0_fewestEmptied_2 : List UInt8 := dkwX0_fewestEmptied_2 ++ dktX0_fewestEmptied_3
def dkwX0_fewestEmptied_1 : List UInt8 := [28, 184, 1, 16, 162, 0, 7, 4, 167, 0, 4, 3, 54, 4, 21, 4, 153, 0, 23, 42, 29, 27]
abbrev dktX0_fewestEmptied_1 : List UInt8 := dkwX0_fewestEmptied_1 ++ dktX0_fewestEmptied_2
def dkwX0_fewestEmptied_0 : List UInt8 := [2, 61, 3, 62, 29, 42, 180, 0, 66, 182, 0, 212, 163, 0, 59, 28, 2, 159, 0, 14, 29, 184, 1, 16]
abbrev dktX0_fewestEmptied_0 : List UInt8 := dkwX0_fewestEmptied_0 ++ dktX0_fewestEmptied_1
theorem dksX0_fewestEmptied_0 : cX0_fewestEmptied.data.toList.drop 0 = dktX0_fewestEmptied_0 := by decide +kernel
theorem dksX0_fewestEmptied_1 : cX0_fewestEmptied.data.toList.drop 24 = dktX0_fewestEmptied_1 := dk_seg dksX0_fewestEmptied_0 24 rfl rfl
theorem dksX0_fewestEmptied_2 : cX0_fewestEmptied.data.toList.drop 46 = dktX0_fewestEmptied_2 := dk_seg dksX0_fewestEmptied_1 22 rfl rfl
theorem dksX0_fewestEmptied_3 : cX0_fewestEmptied.data.toList.drop 68 = dktX0_fewestEmptied_3 := dk_seg dksX0_fewestEmptied_2 22 rfl rfl
theorem dX0_fewestEmptied_0 : decode cX0_fewestEmptied 0 = .ok (.iconst (-1), 1) := dk_2 (dk_at dksX0_fewestEmptied_0 0 rfl rfl)
theorem dX0_fewestEmptied_1 : decode cX0_fewestEmptied 1 = .ok (.istore_n 2, 1) := dk_61 (dk_at dksX0_fewestEmptied_0 1 rfl rfl)
theorem dX0_fewestEmptied_2 : decode cX0_fewestEmptied 2 = .ok (.iconst 0, 1) := dk_3 (dk_at dksX0_fewestEmptied_0 2 rfl rfl)
theorem dX0_fewestEmptied_3 : decode cX0_fewestEmptied 3 = .ok (.istore_n 3, 1) := dk_62 (dk_at dksX0_fewestEmptied_0 3 rfl rfl)
theorem dX0_fewestEmptied_4 : decode cX0_fewestEmptied 4 = .ok (.iload_n 3, 1) := dk_29 (dk_at dksX0_fewestEmptied_0 4 rfl rfl)
theorem dX0_fewestEmptied_5 : decode cX0_fewestEmptied 5 = .ok (.aload_n 0, 1) := dk_42 (dk_at dksX0_fewestEmptied_0 5 rfl rfl)
theorem dX0_fewestEmptied_6 : decode cX0_fewestEmptied 6 = .ok (.getfield 66, 3) := dk_180 0 66 (dk_at dksX0_fewestEmptied_0 6 rfl rfl)
theorem dX0_fewestEmptied_9 : decode cX0_fewestEmptied 9 = .ok (.invokevirtual 212, 3) := dk_182 0 212 (dk_at dksX0_fewestEmptied_0 9 rfl rfl)
theorem dX0_fewestEmptied_12 : decode cX0_fewestEmptied 12 = .ok (.if_icmp .gt 59, 3) := dk_163 0 59 (dk_at dksX0_fewestEmptied_0 12 rfl rfl)
theorem dX0_fewestEmptied_15 : decode cX0_fewestEmptied 15 = .ok (.iload_n 2, 1) := dk_28 (dk_at dksX0_fewestEmptied_0 15 rfl rfl)
theorem dX0_fewestEmptied_16 : decode cX0_fewestEmptied 16 = .ok (.iconst (-1), 1) := dk_2 (dk_at dksX0_fewestEmptied_0 16 rfl rfl)
theorem dX0_fewestEmptied_17 : decode cX0_fewestEmptied 17 = .ok (.if_icmp .eq 14, 3) := dk_159 0 14 (dk_at dksX0_fewestEmptied_0 17 rfl rfl)
theorem dX0_fewestEmptied_20 : decode cX0_fewestEmptied 20 = .ok (.iload_n 3, 1) := dk_29 (dk_at dksX0_fewestEmptied_0 20 rfl rfl)
theorem dX0_fewestEmptied_21 : decode cX0_fewestEmptied 21 = .ok (.invokestatic 272, 3) := dk_184 1 16 (dk_at dksX0_fewestEmptied_0 21 rfl rfl)
theorem dX0_fewestEmptied_24 : decode cX0_fewestEmptied 24 = .ok (.iload_n 2, 1) := dk_28 (dk_at dksX0_fewestEmptied_1 0 rfl rfl)
theorem dX0_fewestEmptied_25 : decode cX0_fewestEmptied 25 = .ok (.invokestatic 272, 3) := dk_184 1 16 (dk_at dksX0_fewestEmptied_1 1 rfl rfl)
theorem dX0_fewestEmptied_28 : decode cX0_fewestEmptied 28 = .ok (.if_icmp .ge 7, 3) := dk_162 0 7 (dk_at dksX0_fewestEmptied_1 4 rfl rfl)
theorem dX0_fewestEmptied_31 : decode cX0_fewestEmptied 31 = .ok (.iconst 1, 1) := dk_4 (dk_at dksX0_fewestEmptied_1 7 rfl rfl)
theorem dX0_fewestEmptied_32 : decode cX0_fewestEmptied 32 = .ok (.goto 4, 3) := dk_167 0 4 (dk_at dksX0_fewestEmptied_1 8 rfl rfl)
theorem dX0_fewestEmptied_35 : decode cX0_fewestEmptied 35 = .ok (.iconst 0, 1) := dk_3 (dk_at dksX0_fewestEmptied_1 11 rfl rfl)
theorem dX0_fewestEmptied_36 : decode cX0_fewestEmptied 36 = .ok (.istore 4, 2) := dk_54 4 (dk_at dksX0_fewestEmptied_1 12 rfl rfl)
theorem dX0_fewestEmptied_38 : decode cX0_fewestEmptied 38 = .ok (.iload 4, 2) := dk_21 4 (dk_at dksX0_fewestEmptied_1 14 rfl rfl)
theorem dX0_fewestEmptied_40 : decode cX0_fewestEmptied 40 = .ok (.ifCond .eq 23, 3) := dk_153 0 23 (dk_at dksX0_fewestEmptied_1 16 rfl rfl)
theorem dX0_fewestEmptied_43 : decode cX0_fewestEmptied 43 = .ok (.aload_n 0, 1) := dk_42 (dk_at dksX0_fewestEmptied_1 19 rfl rfl)
theorem dX0_fewestEmptied_44 : decode cX0_fewestEmptied 44 = .ok (.iload_n 3, 1) := dk_29 (dk_at dksX0_fewestEmptied_1 20 rfl rfl)
theorem dX0_fewestEmptied_45 : decode cX0_fewestEmptied 45 = .ok (.iload_n 1, 1) := dk_27 (dk_at dksX0_fewestEmptied_1 21 rfl rfl)
theorem dX0_fewestEmptied_46 : decode cX0_fewestEmptied 46 = .ok (.invokevirtual 275, 3) := dk_182 1 19 (dk_at dksX0_fewestEmptied_2 0 rfl rfl)
theorem dX0_fewestEmptied_49 : decode cX0_fewestEmptied 49 = .ok (.aload_n 0, 1) := dk_42 (dk_at dksX0_fewestEmptied_2 3 rfl rfl)
theorem dX0_fewestEmptied_50 : decode cX0_fewestEmptied 50 = .ok (.getfield 66, 3) := dk_180 0 66 (dk_at dksX0_fewestEmptied_2 4 rfl rfl)
theorem dX0_fewestEmptied_53 : decode cX0_fewestEmptied 53 = .ok (.getfield 197, 3) := dk_180 0 197 (dk_at dksX0_fewestEmptied_2 7 rfl rfl)
theorem dX0_fewestEmptied_56 : decode cX0_fewestEmptied 56 = .ok (.if_icmp .ne 7, 3) := dk_160 0 7 (dk_at dksX0_fewestEmptied_2 10 rfl rfl)
theorem dX0_fewestEmptied_59 : decode cX0_fewestEmptied 59 = .ok (.iload_n 3, 1) := dk_29 (dk_at dksX0_fewestEmptied_2 13 rfl rfl)
theorem dX0_fewestEmptied_60 : decode cX0_fewestEmptied 60 = .ok (.goto 4, 3) := dk_167 0 4 (dk_at dksX0_fewestEmptied_2 14 rfl rfl)
theorem dX0_fewestEmptied_63 : decode cX0_fewestEmptied 63 = .ok (.iload_n 2, 1) := dk_28 (dk_at dksX0_fewestEmptied_2 17 rfl rfl)
theorem dX0_fewestEmptied_64 : decode cX0_fewestEmptied 64 = .ok (.istore_n 2, 1) := dk_61 (dk_at dksX0_fewestEmptied_2 18 rfl rfl)
theorem dX0_fewestEmptied_65 : decode cX0_fewestEmptied 65 = .ok (.iinc 3 1, 3) := dk_132 3 1 (dk_at dksX0_fewestEmptied_2 19 rfl rfl)
theorem dX0_fewestEmptied_68 : decode cX0_fewestEmptied 68 = .ok (.goto (-64), 3) := dk_167 255 192 (dk_at dksX0_fewestEmptied_3 0 rfl rfl)
theorem dX0_fewestEmptied_71 : decode cX0_fewestEmptied 71 = .ok (.iload_n 2, 1) := dk_28 (dk_at dksX0_fewestEmptied_3 3 rfl rfl)
theorem dX0_fewestEmptied_72 : decode cX0_fewestEmptied 72 = .ok (.ireturn, 1) := dk_172 (dk_at dksX0_fewestEmptied_3 4 rfl rfl)
abbrev cX0_clapsWithout : ByteArray := prog_1_method_57_code
def yX0_clapsWithout : MethodName := ⟨RX0, "clapsWithout", "(II)I"⟩
def dkwX0_clapsWithout_3 : List UInt8 := [180, 0, 73, 182, 0, 227, 25, 4, 191]
abbrev dktX0_clapsWithout_3 : List UInt8 := dkwX0_clapsWithout_3 ++ []
def dkwX0_clapsWithout_2 : List UInt8 := [182, 0, 203, 62, 42, 180, 0, 66, 42, 180, 0, 73, 182, 0, 227, 29, 172, 58, 4, 42, 180, 0, 66, 42]
abbrev dktX0_clapsWithout_2 : List UInt8 := dkwX0_clapsWithout_2 ++ dktX0_clapsWithout_3
def dkwX0_clapsWithout_1 : List UInt8 := [27, 29, 184, 0, 206, 153, 0, 11, 42, 180, 0, 66, 29, 182, 0, 192, 132, 3, 1, 167, 255, 226, 42, 28]
abbrev dktX0_clapsWithout_1 : List UInt8 := dkwX0_clapsWithout_1 ++ dktX0_clapsWithout_2
def dkwX0_clapsWithout_0 : List UInt8 := [42, 180, 0, 73, 42, 180, 0, 66, 182, 0, 227, 3, 62, 29, 42, 180, 0, 66, 180, 0, 114, 162, 0, 25]
abbrev dktX0_clapsWithout_0 : List UInt8 := dkwX0_clapsWithout_0 ++ dktX0_clapsWithout_1
theorem dksX0_clapsWithout_0 : cX0_clapsWithout.data.toList.drop 0 = dktX0_clapsWithout_0 := by decide +kernel
theorem dksX0_clapsWithout_1 : cX0_clapsWithout.data.toList.drop 24 = dktX0_clapsWithout_1 := dk_seg dksX0_clapsWithout_0 24 rfl rfl
theorem dksX0_clapsWithout_2 : cX0_clapsWithout.data.toList.drop 48 = dktX0_clapsWithout_2 := dk_seg dksX0_clapsWithout_1 24 rfl rfl
theorem dksX0_clapsWithout_3 : cX0_clapsWithout.data.toList.drop 72 = dktX0_clapsWithout_3 := dk_seg dksX0_clapsWithout_2 24 rfl rfl
theorem dX0_clapsWithout_0 : decode cX0_clapsWithout 0 = .ok (.aload_n 0, 1) := dk_42 (dk_at dksX0_clapsWithout_0 0 rfl rfl)
theorem dX0_clapsWithout_1 : decode cX0_clapsWithout 1 = .ok (.getfield 73, 3) := dk_180 0 73 (dk_at dksX0_clapsWithout_0 1 rfl rfl)
theorem dX0_clapsWithout_4 : decode cX0_clapsWithout 4 = .ok (.aload_n 0, 1) := dk_42 (dk_at dksX0_clapsWithout_0 4 rfl rfl)
theorem dX0_clapsWithout_5 : decode cX0_clapsWithout 5 = .ok (.getfield 66, 3) := dk_180 0 66 (dk_at dksX0_clapsWithout_0 5 rfl rfl)
theorem dX0_clapsWithout_8 : decode cX0_clapsWithout 8 = .ok (.invokevirtual 227, 3) := dk_182 0 227 (dk_at dksX0_clapsWithout_0 8 rfl rfl)
theorem dX0_clapsWithout_11 : decode cX0_clapsWithout 11 = .ok (.iconst 0, 1) := dk_3 (dk_at dksX0_clapsWithout_0 11 rfl rfl)
theorem dX0_clapsWithout_12 : decode cX0_clapsWithout 12 = .ok (.istore_n 3, 1) := dk_62 (dk_at dksX0_clapsWithout_0 12 rfl rfl)
theorem dX0_clapsWithout_13 : decode cX0_clapsWithout 13 = .ok (.iload_n 3, 1) := dk_29 (dk_at dksX0_clapsWithout_0 13 rfl rfl)
theorem dX0_clapsWithout_14 : decode cX0_clapsWithout 14 = .ok (.aload_n 0, 1) := dk_42 (dk_at dksX0_clapsWithout_0 14 rfl rfl)
theorem dX0_clapsWithout_15 : decode cX0_clapsWithout 15 = .ok (.getfield 66, 3) := dk_180 0 66 (dk_at dksX0_clapsWithout_0 15 rfl rfl)
theorem dX0_clapsWithout_18 : decode cX0_clapsWithout 18 = .ok (.getfield 114, 3) := dk_180 0 114 (dk_at dksX0_clapsWithout_0 18 rfl rfl)
theorem dX0_clapsWithout_21 : decode cX0_clapsWithout 21 = .ok (.if_icmp .ge 25, 3) := dk_162 0 25 (dk_at dksX0_clapsWithout_0 21 rfl rfl)
theorem dX0_clapsWithout_24 : decode cX0_clapsWithout 24 = .ok (.iload_n 1, 1) := dk_27 (dk_at dksX0_clapsWithout_1 0 rfl rfl)
theorem dX0_clapsWithout_25 : decode cX0_clapsWithout 25 = .ok (.iload_n 3, 1) := dk_29 (dk_at dksX0_clapsWithout_1 1 rfl rfl)
theorem dX0_clapsWithout_26 : decode cX0_clapsWithout 26 = .ok (.invokestatic 206, 3) := dk_184 0 206 (dk_at dksX0_clapsWithout_1 2 rfl rfl)
theorem dX0_clapsWithout_29 : decode cX0_clapsWithout 29 = .ok (.ifCond .eq 11, 3) := dk_153 0 11 (dk_at dksX0_clapsWithout_1 5 rfl rfl)
theorem dX0_clapsWithout_32 : decode cX0_clapsWithout 32 = .ok (.aload_n 0, 1) := dk_42 (dk_at dksX0_clapsWithout_1 8 rfl rfl)
theorem dX0_clapsWithout_33 : decode cX0_clapsWithout 33 = .ok (.getfield 66, 3) := dk_180 0 66 (dk_at dksX0_clapsWithout_1 9 rfl rfl)
theorem dX0_clapsWithout_36 : decode cX0_clapsWithout 36 = .ok (.iload_n 3, 1) := dk_29 (dk_at dksX0_clapsWithout_1 12 rfl rfl)
theorem dX0_clapsWithout_37 : decode cX0_clapsWithout 37 = .ok (.invokevirtual 192, 3) := dk_182 0 192 (dk_at dksX0_clapsWithout_1 13 rfl rfl)
theorem dX0_clapsWithout_40 : decode cX0_clapsWithout 40 = .ok (.iinc 3 1, 3) := dk_132 3 1 (dk_at dksX0_clapsWithout_1 16 rfl rfl)
theorem dX0_clapsWithout_43 : decode cX0_clapsWithout 43 = .ok (.goto (-30), 3) := dk_167 255 226 (dk_at dksX0_clapsWithout_1 19 rfl rfl)
theorem dX0_clapsWithout_46 : decode cX0_clapsWithout 46 = .ok (.aload_n 0, 1) := dk_42 (dk_at dksX0_clapsWithout_1 22 rfl rfl)
theorem dX0_clapsWithout_47 : decode cX0_clapsWithout 47 = .ok (.iload_n 2, 1) := dk_28 (dk_at dksX0_clapsWithout_1 23 rfl rfl)
theorem dX0_clapsWithout_48 : decode cX0_clapsWithout 48 = .ok (.invokevirtual 203, 3) := dk_182 0 203 (dk_at dksX0_clapsWithout_2 0 rfl rfl)
theorem dX0_clapsWithout_51 : decode cX0_clapsWithout 51 = .ok (.istore_n 3, 1) := dk_62 (dk_at dksX0_clapsWithout_2 3 rfl rfl)
theorem dX0_clapsWithout_52 : decode cX0_clapsWithout 52 = .ok (.aload_n 0, 1) := dk_42 (dk_at dksX0_clapsWithout_2 4 rfl rfl)
theorem dX0_clapsWithout_53 : decode cX0_clapsWithout 53 = .ok (.getfield 66, 3) := dk_180 0 66 (dk_at dksX0_clapsWithout_2 5 rfl rfl)
theorem dX0_clapsWithout_56 : decode cX0_clapsWithout 56 = .ok (.aload_n 0, 1) := dk_42 (dk_at dksX0_clapsWithout_2 8 rfl rfl)
theorem dX0_clapsWithout_57 : decode cX0_clapsWithout 57 = .ok (.getfield 73, 3) := dk_180 0 73 (dk_at dksX0_clapsWithout_2 9 rfl rfl)
theorem dX0_clapsWithout_60 : decode cX0_clapsWithout 60 = .ok (.invokevirtual 227, 3) := dk_182 0 227 (dk_at dksX0_clapsWithout_2 12 rfl rfl)
theorem dX0_clapsWithout_63 : decode cX0_clapsWithout 63 = .ok (.iload_n 3, 1) := dk_29 (dk_at dksX0_clapsWithout_2 15 rfl rfl)
theorem dX0_clapsWithout_64 : decode cX0_clapsWithout 64 = .ok (.ireturn, 1) := dk_172 (dk_at dksX0_clapsWithout_2 16 rfl rfl)
theorem dX0_clapsWithout_65 : decode cX0_clapsWithout 65 = .ok (.astore 4, 2) := dk_58 4 (dk_at dksX0_clapsWithout_2 17 rfl rfl)
theorem dX0_clapsWithout_67 : decode cX0_clapsWithout 67 = .ok (.aload_n 0, 1) := dk_42 (dk_at dksX0_clapsWithout_2 19 rfl rfl)
theorem dX0_clapsWithout_68 : decode cX0_clapsWithout 68 = .ok (.getfield 66, 3) := dk_180 0 66 (dk_at dksX0_clapsWithout_2 20 rfl rfl)
theorem dX0_clapsWithout_71 : decode cX0_clapsWithout 71 = .ok (.aload_n 0, 1) := dk_42 (dk_at dksX0_clapsWithout_2 23 rfl rfl)
theorem dX0_clapsWithout_72 : decode cX0_clapsWithout 72 = .ok (.getfield 73, 3) := dk_180 0 73 (dk_at dksX0_clapsWithout_3 0 rfl rfl)
theorem dX0_clapsWithout_75 : decode cX0_clapsWithout 75 = .ok (.invokevirtual 227, 3) := dk_182 0 227 (dk_at dksX0_clapsWithout_3 3 rfl rfl)
theorem dX0_clapsWithout_78 : decode cX0_clapsWithout 78 = .ok (.aload 4, 2) := dk_25 4 (dk_at dksX0_clapsWithout_3 6 rfl rfl)
theorem dX0_clapsWithout_80 : decode cX0_clapsWithout 80 = .ok (.athrow, 1) := dk_191 (dk_at dksX0_clapsWithout_3 8 rfl rfl)
abbrev cX0_blend : ByteArray := prog_1_method_60_code
def yX0_blend : MethodName := ⟨RX0, "blend", "(I)I"⟩
def dkwX0_blend_1 : List UInt8 := [3, 182, 0, 116, 172]
abbrev dktX0_blend_1 : List UInt8 := dkwX0_blend_1 ++ []
def dkwX0_blend_0 : List UInt8 := [27, 3, 42, 180, 0, 66, 182, 0, 212, 184, 0, 9, 153, 0, 11, 42, 27, 182, 0, 215, 167, 0, 8, 42]
abbrev dktX0_blend_0 : List UInt8 := dkwX0_blend_0 ++ dktX0_blend_1
theorem dksX0_blend_0 : cX0_blend.data.toList.drop 0 = dktX0_blend_0 := by decide +kernel
theorem dksX0_blend_1 : cX0_blend.data.toList.drop 24 = dktX0_blend_1 := dk_seg dksX0_blend_0 24 rfl rfl
theorem dX0_blend_0 : decode cX0_blend 0 = .ok (.iload_n 1, 1) := dk_27 (dk_at dksX0_blend_0 0 rfl rfl)
theorem dX0_blend_1 : decode cX0_blend 1 = .ok (.iconst 0, 1) := dk_3 (dk_at dksX0_blend_0 1 rfl rfl)
theorem dX0_blend_2 : decode cX0_blend 2 = .ok (.aload_n 0, 1) := dk_42 (dk_at dksX0_blend_0 2 rfl rfl)
theorem dX0_blend_3 : decode cX0_blend 3 = .ok (.getfield 66, 3) := dk_180 0 66 (dk_at dksX0_blend_0 3 rfl rfl)
theorem dX0_blend_6 : decode cX0_blend 6 = .ok (.invokevirtual 212, 3) := dk_182 0 212 (dk_at dksX0_blend_0 6 rfl rfl)
theorem dX0_blend_9 : decode cX0_blend 9 = .ok (.invokestatic 9, 3) := dk_184 0 9 (dk_at dksX0_blend_0 9 rfl rfl)
theorem dX0_blend_12 : decode cX0_blend 12 = .ok (.ifCond .eq 11, 3) := dk_153 0 11 (dk_at dksX0_blend_0 12 rfl rfl)
theorem dX0_blend_15 : decode cX0_blend 15 = .ok (.aload_n 0, 1) := dk_42 (dk_at dksX0_blend_0 15 rfl rfl)
theorem dX0_blend_16 : decode cX0_blend 16 = .ok (.iload_n 1, 1) := dk_27 (dk_at dksX0_blend_0 16 rfl rfl)
theorem dX0_blend_17 : decode cX0_blend 17 = .ok (.invokevirtual 215, 3) := dk_182 0 215 (dk_at dksX0_blend_0 17 rfl rfl)
theorem dX0_blend_20 : decode cX0_blend 20 = .ok (.goto 8, 3) := dk_167 0 8 (dk_at dksX0_blend_0 20 rfl rfl)
theorem dX0_blend_23 : decode cX0_blend 23 = .ok (.aload_n 0, 1) := dk_42 (dk_at dksX0_blend_0 23 rfl rfl)
theorem dX0_blend_24 : decode cX0_blend 24 = .ok (.iconst 0, 1) := dk_3 (dk_at dksX0_blend_1 0 rfl rfl)
theorem dX0_blend_25 : decode cX0_blend 25 = .ok (.invokevirtual 116, 3) := dk_182 0 116 (dk_at dksX0_blend_1 1 rfl rfl)
theorem dX0_blend_28 : decode cX0_blend 28 = .ok (.ireturn, 1) := dk_172 (dk_at dksX0_blend_1 4 rfl rfl)
abbrev cX0_order : ByteArray := prog_1_method_62_code
def yX0_order : MethodName := ⟨RX0, "order", "(I)I"⟩
def dkwX0_order_1 : List UInt8 := [172]
abbrev dktX0_order_1 : List UInt8 := dkwX0_order_1 ++ []
def dkwX0_order_0 : List UInt8 := [27, 184, 1, 25, 153, 0, 15, 42, 42, 27, 182, 1, 28, 182, 0, 245, 167, 0, 8, 42, 3, 182, 0, 116]
abbrev dktX0_order_0 : List UInt8 := dkwX0_order_0 ++ dktX0_order_1
theorem dksX0_order_0 : cX0_order.data.toList.drop 0 = dktX0_order_0 := by decide +kernel
theorem dksX0_order_1 : cX0_order.data.toList.drop 24 = dktX0_order_1 := dk_seg dksX0_order_0 24 rfl rfl
theorem dX0_order_0 : decode cX0_order 0 = .ok (.iload_n 1, 1) := dk_27 (dk_at dksX0_order_0 0 rfl rfl)
theorem dX0_order_1 : decode cX0_order 1 = .ok (.invokestatic 281, 3) := dk_184 1 25 (dk_at dksX0_order_0 1 rfl rfl)
theorem dX0_order_4 : decode cX0_order 4 = .ok (.ifCond .eq 15, 3) := dk_153 0 15 (dk_at dksX0_order_0 4 rfl rfl)
theorem dX0_order_7 : decode cX0_order 7 = .ok (.aload_n 0, 1) := dk_42 (dk_at dksX0_order_0 7 rfl rfl)
theorem dX0_order_8 : decode cX0_order 8 = .ok (.aload_n 0, 1) := dk_42 (dk_at dksX0_order_0 8 rfl rfl)
theorem dX0_order_9 : decode cX0_order 9 = .ok (.iload_n 1, 1) := dk_27 (dk_at dksX0_order_0 9 rfl rfl)
theorem dX0_order_10 : decode cX0_order 10 = .ok (.invokevirtual 284, 3) := dk_182 1 28 (dk_at dksX0_order_0 10 rfl rfl)
theorem dX0_order_13 : decode cX0_order 13 = .ok (.invokevirtual 245, 3) := dk_182 0 245 (dk_at dksX0_order_0 13 rfl rfl)
theorem dX0_order_16 : decode cX0_order 16 = .ok (.goto 8, 3) := dk_167 0 8 (dk_at dksX0_order_0 16 rfl rfl)
theorem dX0_order_19 : decode cX0_order 19 = .ok (.aload_n 0, 1) := dk_42 (dk_at dksX0_order_0 19 rfl rfl)
theorem dX0_order_20 : decode cX0_order 20 = .ok (.iconst 0, 1) := dk_3 (dk_at dksX0_order_0 20 rfl rfl)
theorem dX0_order_21 : decode cX0_order 21 = .ok (.invokevirtual 116, 3) := dk_182 0 116 (dk_at dksX0_order_0 21 rfl rfl)
theorem dX0_order_24 : decode cX0_order 24 = .ok (.ireturn, 1) := dk_172 (dk_at dksX0_order_1 0 rfl rfl)
abbrev cX0_isBlend : ByteArray := prog_1_method_9_code
def yX0_isBlend : MethodName := ⟨RX0, "isBlend", "(I)Z"⟩
def dkwX0_isBlend_0 : List UInt8 := [26, 3, 17, 39, 15, 184, 0, 9, 172]
abbrev dktX0_isBlend_0 : List UInt8 := dkwX0_isBlend_0 ++ []
theorem dksX0_isBlend_0 : cX0_isBlend.data.toList.drop 0 = dktX0_isBlend_0 := by decide +kernel
theorem dX0_isBlend_0 : decode cX0_isBlend 0 = .ok (.iload_n 0, 1) := dk_26 (dk_at dksX0_isBlend_0 0 rfl rfl)
theorem dX0_isBlend_1 : decode cX0_isBlend 1 = .ok (.iconst 0, 1) := dk_3 (dk_at dksX0_isBlend_0 1 rfl rfl)
theorem dX0_isBlend_2 : decode cX0_isBlend 2 = .ok (.sipush 9999, 3) := dk_17 39 15 (dk_at dksX0_isBlend_0 2 rfl rfl)
theorem dX0_isBlend_5 : decode cX0_isBlend 5 = .ok (.invokestatic 9, 3) := dk_184 0 9 (dk_at dksX0_isBlend_0 5 rfl rfl)
theorem dX0_isBlend_8 : decode cX0_isBlend 8 = .ok (.ireturn, 1) := dk_172 (dk_at dksX0_isBlend_0 8 rfl rfl)
abbrev cX0_fewestBlended : ByteArray := prog_1_method_61_code
def yX0_fewestBlended : MethodName := ⟨RX0, "fewestBlended", "(I)I"⟩
def dkwX0_fewestBlended_2 : List UInt8 := [27, 160, 0, 7, 29, 167, 0, 4, 28, 61, 132, 3, 1, 167, 255, 199, 28, 172]
abbrev dktX0_fewestBlended_2 : List UInt8 := dkwX0_fewestBlended_2 ++ []
def dkwX0_fewestBlended_1 : List UInt8 := [28, 184, 1, 16, 162, 0, 7, 4, 167, 0, 4, 3, 54, 4, 21, 4, 153, 0, 16, 42, 29, 182, 0, 215]
abbrev dktX0_fewestBlended_1 : List UInt8 := dkwX0_fewestBlended_1 ++ dktX0_fewestBlended_2
def dkwX0_fewestBlended_0 : List UInt8 := [2, 61, 3, 62, 29, 42, 180, 0, 66, 182, 0, 212, 163, 0, 52, 28, 2, 159, 0, 14, 29, 184, 1, 16]
abbrev dktX0_fewestBlended_0 : List UInt8 := dkwX0_fewestBlended_0 ++ dktX0_fewestBlended_1
theorem dksX0_fewestBlended_0 : cX0_fewestBlended.data.toList.drop 0 = dktX0_fewestBlended_0 := by decide +kernel
theorem dksX0_fewestBlended_1 : cX0_fewestBlended.data.toList.drop 24 = dktX0_fewestBlended_1 := dk_seg dksX0_fewestBlended_0 24 rfl rfl
theorem dksX0_fewestBlended_2 : cX0_fewestBlended.data.toList.drop 48 = dktX0_fewestBlended_2 := dk_seg dksX0_fewestBlended_1 24 rfl rfl
theorem dX0_fewestBlended_0 : decode cX0_fewestBlended 0 = .ok (.iconst (-1), 1) := dk_2 (dk_at dksX0_fewestBlended_0 0 rfl rfl)
theorem dX0_fewestBlended_1 : decode cX0_fewestBlended 1 = .ok (.istore_n 2, 1) := dk_61 (dk_at dksX0_fewestBlended_0 1 rfl rfl)
theorem dX0_fewestBlended_2 : decode cX0_fewestBlended 2 = .ok (.iconst 0, 1) := dk_3 (dk_at dksX0_fewestBlended_0 2 rfl rfl)
theorem dX0_fewestBlended_3 : decode cX0_fewestBlended 3 = .ok (.istore_n 3, 1) := dk_62 (dk_at dksX0_fewestBlended_0 3 rfl rfl)
theorem dX0_fewestBlended_4 : decode cX0_fewestBlended 4 = .ok (.iload_n 3, 1) := dk_29 (dk_at dksX0_fewestBlended_0 4 rfl rfl)
theorem dX0_fewestBlended_5 : decode cX0_fewestBlended 5 = .ok (.aload_n 0, 1) := dk_42 (dk_at dksX0_fewestBlended_0 5 rfl rfl)
theorem dX0_fewestBlended_6 : decode cX0_fewestBlended 6 = .ok (.getfield 66, 3) := dk_180 0 66 (dk_at dksX0_fewestBlended_0 6 rfl rfl)
theorem dX0_fewestBlended_9 : decode cX0_fewestBlended 9 = .ok (.invokevirtual 212, 3) := dk_182 0 212 (dk_at dksX0_fewestBlended_0 9 rfl rfl)
theorem dX0_fewestBlended_12 : decode cX0_fewestBlended 12 = .ok (.if_icmp .gt 52, 3) := dk_163 0 52 (dk_at dksX0_fewestBlended_0 12 rfl rfl)
theorem dX0_fewestBlended_15 : decode cX0_fewestBlended 15 = .ok (.iload_n 2, 1) := dk_28 (dk_at dksX0_fewestBlended_0 15 rfl rfl)
theorem dX0_fewestBlended_16 : decode cX0_fewestBlended 16 = .ok (.iconst (-1), 1) := dk_2 (dk_at dksX0_fewestBlended_0 16 rfl rfl)
theorem dX0_fewestBlended_17 : decode cX0_fewestBlended 17 = .ok (.if_icmp .eq 14, 3) := dk_159 0 14 (dk_at dksX0_fewestBlended_0 17 rfl rfl)
theorem dX0_fewestBlended_20 : decode cX0_fewestBlended 20 = .ok (.iload_n 3, 1) := dk_29 (dk_at dksX0_fewestBlended_0 20 rfl rfl)
theorem dX0_fewestBlended_21 : decode cX0_fewestBlended 21 = .ok (.invokestatic 272, 3) := dk_184 1 16 (dk_at dksX0_fewestBlended_0 21 rfl rfl)
theorem dX0_fewestBlended_24 : decode cX0_fewestBlended 24 = .ok (.iload_n 2, 1) := dk_28 (dk_at dksX0_fewestBlended_1 0 rfl rfl)
theorem dX0_fewestBlended_25 : decode cX0_fewestBlended 25 = .ok (.invokestatic 272, 3) := dk_184 1 16 (dk_at dksX0_fewestBlended_1 1 rfl rfl)
theorem dX0_fewestBlended_28 : decode cX0_fewestBlended 28 = .ok (.if_icmp .ge 7, 3) := dk_162 0 7 (dk_at dksX0_fewestBlended_1 4 rfl rfl)
theorem dX0_fewestBlended_31 : decode cX0_fewestBlended 31 = .ok (.iconst 1, 1) := dk_4 (dk_at dksX0_fewestBlended_1 7 rfl rfl)
theorem dX0_fewestBlended_32 : decode cX0_fewestBlended 32 = .ok (.goto 4, 3) := dk_167 0 4 (dk_at dksX0_fewestBlended_1 8 rfl rfl)
theorem dX0_fewestBlended_35 : decode cX0_fewestBlended 35 = .ok (.iconst 0, 1) := dk_3 (dk_at dksX0_fewestBlended_1 11 rfl rfl)
theorem dX0_fewestBlended_36 : decode cX0_fewestBlended 36 = .ok (.istore 4, 2) := dk_54 4 (dk_at dksX0_fewestBlended_1 12 rfl rfl)
theorem dX0_fewestBlended_38 : decode cX0_fewestBlended 38 = .ok (.iload 4, 2) := dk_21 4 (dk_at dksX0_fewestBlended_1 14 rfl rfl)
theorem dX0_fewestBlended_40 : decode cX0_fewestBlended 40 = .ok (.ifCond .eq 16, 3) := dk_153 0 16 (dk_at dksX0_fewestBlended_1 16 rfl rfl)
theorem dX0_fewestBlended_43 : decode cX0_fewestBlended 43 = .ok (.aload_n 0, 1) := dk_42 (dk_at dksX0_fewestBlended_1 19 rfl rfl)
theorem dX0_fewestBlended_44 : decode cX0_fewestBlended 44 = .ok (.iload_n 3, 1) := dk_29 (dk_at dksX0_fewestBlended_1 20 rfl rfl)
theorem dX0_fewestBlended_45 : decode cX0_fewestBlended 45 = .ok (.invokevirtual 215, 3) := dk_182 0 215 (dk_at dksX0_fewestBlended_1 21 rfl rfl)
theorem dX0_fewestBlended_48 : decode cX0_fewestBlended 48 = .ok (.iload_n 1, 1) := dk_27 (dk_at dksX0_fewestBlended_2 0 rfl rfl)
theorem dX0_fewestBlended_49 : decode cX0_fewestBlended 49 = .ok (.if_icmp .ne 7, 3) := dk_160 0 7 (dk_at dksX0_fewestBlended_2 1 rfl rfl)
theorem dX0_fewestBlended_52 : decode cX0_fewestBlended 52 = .ok (.iload_n 3, 1) := dk_29 (dk_at dksX0_fewestBlended_2 4 rfl rfl)
theorem dX0_fewestBlended_53 : decode cX0_fewestBlended 53 = .ok (.goto 4, 3) := dk_167 0 4 (dk_at dksX0_fewestBlended_2 5 rfl rfl)
theorem dX0_fewestBlended_56 : decode cX0_fewestBlended 56 = .ok (.iload_n 2, 1) := dk_28 (dk_at dksX0_fewestBlended_2 8 rfl rfl)
theorem dX0_fewestBlended_57 : decode cX0_fewestBlended 57 = .ok (.istore_n 2, 1) := dk_61 (dk_at dksX0_fewestBlended_2 9 rfl rfl)
theorem dX0_fewestBlended_58 : decode cX0_fewestBlended 58 = .ok (.iinc 3 1, 3) := dk_132 3 1 (dk_at dksX0_fewestBlended_2 10 rfl rfl)
theorem dX0_fewestBlended_61 : decode cX0_fewestBlended 61 = .ok (.goto (-57), 3) := dk_167 255 199 (dk_at dksX0_fewestBlended_2 13 rfl rfl)
theorem dX0_fewestBlended_64 : decode cX0_fewestBlended 64 = .ok (.iload_n 2, 1) := dk_28 (dk_at dksX0_fewestBlended_2 16 rfl rfl)
theorem dX0_fewestBlended_65 : decode cX0_fewestBlended 65 = .ok (.ireturn, 1) := dk_172 (dk_at dksX0_fewestBlended_2 17 rfl rfl)
abbrev cX0_blends : ByteArray := prog_1_method_64_code
def yX0_blends : MethodName := ⟨RX0, "blends", "(II)I"⟩
def dkwX0_blends_1 : List UInt8 := [3, 182, 0, 116, 172]
abbrev dktX0_blends_1 : List UInt8 := dkwX0_blends_1 ++ []
def dkwX0_blends_0 : List UInt8 := [27, 184, 1, 25, 153, 0, 19, 28, 184, 1, 25, 153, 0, 12, 42, 27, 28, 182, 1, 31, 167, 0, 8, 42]
abbrev dktX0_blends_0 : List UInt8 := dkwX0_blends_0 ++ dktX0_blends_1
theorem dksX0_blends_0 : cX0_blends.data.toList.drop 0 = dktX0_blends_0 := by decide +kernel
theorem dksX0_blends_1 : cX0_blends.data.toList.drop 24 = dktX0_blends_1 := dk_seg dksX0_blends_0 24 rfl rfl
theorem dX0_blends_0 : decode cX0_blends 0 = .ok (.iload_n 1, 1) := dk_27 (dk_at dksX0_blends_0 0 rfl rfl)
theorem dX0_blends_1 : decode cX0_blends 1 = .ok (.invokestatic 281, 3) := dk_184 1 25 (dk_at dksX0_blends_0 1 rfl rfl)
theorem dX0_blends_4 : decode cX0_blends 4 = .ok (.ifCond .eq 19, 3) := dk_153 0 19 (dk_at dksX0_blends_0 4 rfl rfl)
theorem dX0_blends_7 : decode cX0_blends 7 = .ok (.iload_n 2, 1) := dk_28 (dk_at dksX0_blends_0 7 rfl rfl)
theorem dX0_blends_8 : decode cX0_blends 8 = .ok (.invokestatic 281, 3) := dk_184 1 25 (dk_at dksX0_blends_0 8 rfl rfl)
theorem dX0_blends_11 : decode cX0_blends 11 = .ok (.ifCond .eq 12, 3) := dk_153 0 12 (dk_at dksX0_blends_0 11 rfl rfl)
theorem dX0_blends_14 : decode cX0_blends 14 = .ok (.aload_n 0, 1) := dk_42 (dk_at dksX0_blends_0 14 rfl rfl)
theorem dX0_blends_15 : decode cX0_blends 15 = .ok (.iload_n 1, 1) := dk_27 (dk_at dksX0_blends_0 15 rfl rfl)
theorem dX0_blends_16 : decode cX0_blends 16 = .ok (.iload_n 2, 1) := dk_28 (dk_at dksX0_blends_0 16 rfl rfl)
theorem dX0_blends_17 : decode cX0_blends 17 = .ok (.invokevirtual 287, 3) := dk_182 1 31 (dk_at dksX0_blends_0 17 rfl rfl)
theorem dX0_blends_20 : decode cX0_blends 20 = .ok (.goto 8, 3) := dk_167 0 8 (dk_at dksX0_blends_0 20 rfl rfl)
theorem dX0_blends_23 : decode cX0_blends 23 = .ok (.aload_n 0, 1) := dk_42 (dk_at dksX0_blends_0 23 rfl rfl)
theorem dX0_blends_24 : decode cX0_blends 24 = .ok (.iconst 0, 1) := dk_3 (dk_at dksX0_blends_1 0 rfl rfl)
theorem dX0_blends_25 : decode cX0_blends 25 = .ok (.invokevirtual 116, 3) := dk_182 0 116 (dk_at dksX0_blends_1 1 rfl rfl)
theorem dX0_blends_28 : decode cX0_blends 28 = .ok (.ireturn, 1) := dk_172 (dk_at dksX0_blends_1 4 rfl rfl)
abbrev cX0_manyBlends : ByteArray := prog_1_method_63_code
def yX0_manyBlends : MethodName := ⟨RX0, "manyBlends", "(II)I"⟩
def dkwX0_manyBlends_1 : List UInt8 := [27, 28, 184, 0, 9, 153, 0, 7, 4, 167, 0, 4, 3, 96, 62, 132, 4, 1, 167, 255, 219, 29, 172]
abbrev dktX0_manyBlends_1 : List UInt8 := dkwX0_manyBlends_1 ++ []
def dkwX0_manyBlends_0 : List UInt8 := [3, 62, 3, 54, 4, 21, 4, 42, 180, 0, 66, 182, 0, 212, 163, 0, 31, 29, 42, 21, 4, 182, 0, 215]
abbrev dktX0_manyBlends_0 : List UInt8 := dkwX0_manyBlends_0 ++ dktX0_manyBlends_1
theorem dksX0_manyBlends_0 : cX0_manyBlends.data.toList.drop 0 = dktX0_manyBlends_0 := by decide +kernel
theorem dksX0_manyBlends_1 : cX0_manyBlends.data.toList.drop 24 = dktX0_manyBlends_1 := dk_seg dksX0_manyBlends_0 24 rfl rfl
theorem dX0_manyBlends_0 : decode cX0_manyBlends 0 = .ok (.iconst 0, 1) := dk_3 (dk_at dksX0_manyBlends_0 0 rfl rfl)
theorem dX0_manyBlends_1 : decode cX0_manyBlends 1 = .ok (.istore_n 3, 1) := dk_62 (dk_at dksX0_manyBlends_0 1 rfl rfl)
theorem dX0_manyBlends_2 : decode cX0_manyBlends 2 = .ok (.iconst 0, 1) := dk_3 (dk_at dksX0_manyBlends_0 2 rfl rfl)
theorem dX0_manyBlends_3 : decode cX0_manyBlends 3 = .ok (.istore 4, 2) := dk_54 4 (dk_at dksX0_manyBlends_0 3 rfl rfl)
theorem dX0_manyBlends_5 : decode cX0_manyBlends 5 = .ok (.iload 4, 2) := dk_21 4 (dk_at dksX0_manyBlends_0 5 rfl rfl)
theorem dX0_manyBlends_7 : decode cX0_manyBlends 7 = .ok (.aload_n 0, 1) := dk_42 (dk_at dksX0_manyBlends_0 7 rfl rfl)
theorem dX0_manyBlends_8 : decode cX0_manyBlends 8 = .ok (.getfield 66, 3) := dk_180 0 66 (dk_at dksX0_manyBlends_0 8 rfl rfl)
theorem dX0_manyBlends_11 : decode cX0_manyBlends 11 = .ok (.invokevirtual 212, 3) := dk_182 0 212 (dk_at dksX0_manyBlends_0 11 rfl rfl)
theorem dX0_manyBlends_14 : decode cX0_manyBlends 14 = .ok (.if_icmp .gt 31, 3) := dk_163 0 31 (dk_at dksX0_manyBlends_0 14 rfl rfl)
theorem dX0_manyBlends_17 : decode cX0_manyBlends 17 = .ok (.iload_n 3, 1) := dk_29 (dk_at dksX0_manyBlends_0 17 rfl rfl)
theorem dX0_manyBlends_18 : decode cX0_manyBlends 18 = .ok (.aload_n 0, 1) := dk_42 (dk_at dksX0_manyBlends_0 18 rfl rfl)
theorem dX0_manyBlends_19 : decode cX0_manyBlends 19 = .ok (.iload 4, 2) := dk_21 4 (dk_at dksX0_manyBlends_0 19 rfl rfl)
theorem dX0_manyBlends_21 : decode cX0_manyBlends 21 = .ok (.invokevirtual 215, 3) := dk_182 0 215 (dk_at dksX0_manyBlends_0 21 rfl rfl)
theorem dX0_manyBlends_24 : decode cX0_manyBlends 24 = .ok (.iload_n 1, 1) := dk_27 (dk_at dksX0_manyBlends_1 0 rfl rfl)
theorem dX0_manyBlends_25 : decode cX0_manyBlends 25 = .ok (.iload_n 2, 1) := dk_28 (dk_at dksX0_manyBlends_1 1 rfl rfl)
theorem dX0_manyBlends_26 : decode cX0_manyBlends 26 = .ok (.invokestatic 9, 3) := dk_184 0 9 (dk_at dksX0_manyBlends_1 2 rfl rfl)
theorem dX0_manyBlends_29 : decode cX0_manyBlends 29 = .ok (.ifCond .eq 7, 3) := dk_153 0 7 (dk_at dksX0_manyBlends_1 5 rfl rfl)
theorem dX0_manyBlends_32 : decode cX0_manyBlends 32 = .ok (.iconst 1, 1) := dk_4 (dk_at dksX0_manyBlends_1 8 rfl rfl)
theorem dX0_manyBlends_33 : decode cX0_manyBlends 33 = .ok (.goto 4, 3) := dk_167 0 4 (dk_at dksX0_manyBlends_1 9 rfl rfl)
theorem dX0_manyBlends_36 : decode cX0_manyBlends 36 = .ok (.iconst 0, 1) := dk_3 (dk_at dksX0_manyBlends_1 12 rfl rfl)
theorem dX0_manyBlends_37 : decode cX0_manyBlends 37 = .ok (.iadd, 1) := dk_96 (dk_at dksX0_manyBlends_1 13 rfl rfl)
theorem dX0_manyBlends_38 : decode cX0_manyBlends 38 = .ok (.istore_n 3, 1) := dk_62 (dk_at dksX0_manyBlends_1 14 rfl rfl)
theorem dX0_manyBlends_39 : decode cX0_manyBlends 39 = .ok (.iinc 4 1, 3) := dk_132 4 1 (dk_at dksX0_manyBlends_1 15 rfl rfl)
theorem dX0_manyBlends_42 : decode cX0_manyBlends 42 = .ok (.goto (-37), 3) := dk_167 255 219 (dk_at dksX0_manyBlends_1 18 rfl rfl)
theorem dX0_manyBlends_45 : decode cX0_manyBlends 45 = .ok (.iload_n 3, 1) := dk_29 (dk_at dksX0_manyBlends_1 21 rfl rfl)
theorem dX0_manyBlends_46 : decode cX0_manyBlends 46 = .ok (.ireturn, 1) := dk_172 (dk_at dksX0_manyBlends_1 22 rfl rfl)
abbrev cX0_fits : ByteArray := prog_1_method_68_code
def yX0_fits : MethodName := ⟨RX0, "fits", "(II)I"⟩
def dkwX0_fits_0 : List UInt8 := [42, 42, 27, 28, 182, 1, 57, 28, 182, 1, 61, 172, 78, 42, 45, 180, 0, 106, 182, 0, 116, 172]
abbrev dktX0_fits_0 : List UInt8 := dkwX0_fits_0 ++ []
theorem dksX0_fits_0 : cX0_fits.data.toList.drop 0 = dktX0_fits_0 := by decide +kernel
theorem dX0_fits_0 : decode cX0_fits 0 = .ok (.aload_n 0, 1) := dk_42 (dk_at dksX0_fits_0 0 rfl rfl)
theorem dX0_fits_1 : decode cX0_fits 1 = .ok (.aload_n 0, 1) := dk_42 (dk_at dksX0_fits_0 1 rfl rfl)
theorem dX0_fits_2 : decode cX0_fits 2 = .ok (.iload_n 1, 1) := dk_27 (dk_at dksX0_fits_0 2 rfl rfl)
theorem dX0_fits_3 : decode cX0_fits 3 = .ok (.iload_n 2, 1) := dk_28 (dk_at dksX0_fits_0 3 rfl rfl)
theorem dX0_fits_4 : decode cX0_fits 4 = .ok (.invokevirtual 313, 3) := dk_182 1 57 (dk_at dksX0_fits_0 4 rfl rfl)
theorem dX0_fits_7 : decode cX0_fits 7 = .ok (.iload_n 2, 1) := dk_28 (dk_at dksX0_fits_0 7 rfl rfl)
theorem dX0_fits_8 : decode cX0_fits 8 = .ok (.invokevirtual 317, 3) := dk_182 1 61 (dk_at dksX0_fits_0 8 rfl rfl)
theorem dX0_fits_11 : decode cX0_fits 11 = .ok (.ireturn, 1) := dk_172 (dk_at dksX0_fits_0 11 rfl rfl)
theorem dX0_fits_12 : decode cX0_fits 12 = .ok (.astore_n 3, 1) := dk_78 (dk_at dksX0_fits_0 12 rfl rfl)
theorem dX0_fits_13 : decode cX0_fits 13 = .ok (.aload_n 0, 1) := dk_42 (dk_at dksX0_fits_0 13 rfl rfl)
theorem dX0_fits_14 : decode cX0_fits 14 = .ok (.aload_n 3, 1) := dk_45 (dk_at dksX0_fits_0 14 rfl rfl)
theorem dX0_fits_15 : decode cX0_fits 15 = .ok (.getfield 106, 3) := dk_180 0 106 (dk_at dksX0_fits_0 15 rfl rfl)
theorem dX0_fits_18 : decode cX0_fits 18 = .ok (.invokevirtual 116, 3) := dk_182 0 116 (dk_at dksX0_fits_0 18 rfl rfl)
theorem dX0_fits_21 : decode cX0_fits 21 = .ok (.ireturn, 1) := dk_172 (dk_at dksX0_fits_0 21 rfl rfl)
abbrev cX0_rowFor : ByteArray := prog_1_method_66_code
def yX0_rowFor : MethodName := ⟨RX0, "rowFor", "(II)Ljava/lang/Object;"⟩
def dkwX0_rowFor_1 : List UInt8 := [182, 0, 177, 3, 182, 1, 46, 45, 176]
abbrev dktX0_rowFor_1 : List UInt8 := dkwX0_rowFor_1 ++ []
def dkwX0_rowFor_0 : List UInt8 := [42, 27, 182, 1, 42, 78, 42, 45, 198, 0, 7, 4, 167, 0, 4, 3, 8, 182, 1, 46, 42, 42, 28]
abbrev dktX0_rowFor_0 : List UInt8 := dkwX0_rowFor_0 ++ dktX0_rowFor_1
theorem dksX0_rowFor_0 : cX0_rowFor.data.toList.drop 0 = dktX0_rowFor_0 := by decide +kernel
theorem dksX0_rowFor_1 : cX0_rowFor.data.toList.drop 23 = dktX0_rowFor_1 := dk_seg dksX0_rowFor_0 23 rfl rfl
theorem dX0_rowFor_0 : decode cX0_rowFor 0 = .ok (.aload_n 0, 1) := dk_42 (dk_at dksX0_rowFor_0 0 rfl rfl)
theorem dX0_rowFor_1 : decode cX0_rowFor 1 = .ok (.iload_n 1, 1) := dk_27 (dk_at dksX0_rowFor_0 1 rfl rfl)
theorem dX0_rowFor_2 : decode cX0_rowFor 2 = .ok (.invokevirtual 298, 3) := dk_182 1 42 (dk_at dksX0_rowFor_0 2 rfl rfl)
theorem dX0_rowFor_5 : decode cX0_rowFor 5 = .ok (.astore_n 3, 1) := dk_78 (dk_at dksX0_rowFor_0 5 rfl rfl)
theorem dX0_rowFor_6 : decode cX0_rowFor 6 = .ok (.aload_n 0, 1) := dk_42 (dk_at dksX0_rowFor_0 6 rfl rfl)
theorem dX0_rowFor_7 : decode cX0_rowFor 7 = .ok (.aload_n 3, 1) := dk_45 (dk_at dksX0_rowFor_0 7 rfl rfl)
theorem dX0_rowFor_8 : decode cX0_rowFor 8 = .ok (.ifnull 7, 3) := dk_198 0 7 (dk_at dksX0_rowFor_0 8 rfl rfl)
theorem dX0_rowFor_11 : decode cX0_rowFor 11 = .ok (.iconst 1, 1) := dk_4 (dk_at dksX0_rowFor_0 11 rfl rfl)
theorem dX0_rowFor_12 : decode cX0_rowFor 12 = .ok (.goto 4, 3) := dk_167 0 4 (dk_at dksX0_rowFor_0 12 rfl rfl)
theorem dX0_rowFor_15 : decode cX0_rowFor 15 = .ok (.iconst 0, 1) := dk_3 (dk_at dksX0_rowFor_0 15 rfl rfl)
theorem dX0_rowFor_16 : decode cX0_rowFor 16 = .ok (.iconst 5, 1) := dk_8 (dk_at dksX0_rowFor_0 16 rfl rfl)
theorem dX0_rowFor_17 : decode cX0_rowFor 17 = .ok (.invokevirtual 302, 3) := dk_182 1 46 (dk_at dksX0_rowFor_0 17 rfl rfl)
theorem dX0_rowFor_20 : decode cX0_rowFor 20 = .ok (.aload_n 0, 1) := dk_42 (dk_at dksX0_rowFor_0 20 rfl rfl)
theorem dX0_rowFor_21 : decode cX0_rowFor 21 = .ok (.aload_n 0, 1) := dk_42 (dk_at dksX0_rowFor_0 21 rfl rfl)
theorem dX0_rowFor_22 : decode cX0_rowFor 22 = .ok (.iload_n 2, 1) := dk_28 (dk_at dksX0_rowFor_0 22 rfl rfl)
theorem dX0_rowFor_23 : decode cX0_rowFor 23 = .ok (.invokevirtual 177, 3) := dk_182 0 177 (dk_at dksX0_rowFor_1 0 rfl rfl)
theorem dX0_rowFor_26 : decode cX0_rowFor 26 = .ok (.iconst 0, 1) := dk_3 (dk_at dksX0_rowFor_1 3 rfl rfl)
theorem dX0_rowFor_27 : decode cX0_rowFor 27 = .ok (.invokevirtual 302, 3) := dk_182 1 46 (dk_at dksX0_rowFor_1 4 rfl rfl)
theorem dX0_rowFor_30 : decode cX0_rowFor 30 = .ok (.aload_n 3, 1) := dk_45 (dk_at dksX0_rowFor_1 7 rfl rfl)
theorem dX0_rowFor_31 : decode cX0_rowFor 31 = .ok (.areturn, 1) := dk_176 (dk_at dksX0_rowFor_1 8 rfl rfl)
abbrev cX0_rowAt : ByteArray := prog_1_method_86_code
def yX0_rowAt : MethodName := ⟨RX0, "rowAt", "(I)Ljava/lang/Object;"⟩
def dkwX0_rowAt_0 : List UInt8 := [42, 27, 184, 1, 117, 3, 182, 1, 46, 42, 180, 0, 85, 27, 50, 180, 0, 97, 176]
abbrev dktX0_rowAt_0 : List UInt8 := dkwX0_rowAt_0 ++ []
theorem dksX0_rowAt_0 : cX0_rowAt.data.toList.drop 0 = dktX0_rowAt_0 := by decide +kernel
theorem dX0_rowAt_0 : decode cX0_rowAt 0 = .ok (.aload_n 0, 1) := dk_42 (dk_at dksX0_rowAt_0 0 rfl rfl)
theorem dX0_rowAt_1 : decode cX0_rowAt 1 = .ok (.iload_n 1, 1) := dk_27 (dk_at dksX0_rowAt_0 1 rfl rfl)
theorem dX0_rowAt_2 : decode cX0_rowAt 2 = .ok (.invokestatic 373, 3) := dk_184 1 117 (dk_at dksX0_rowAt_0 2 rfl rfl)
theorem dX0_rowAt_5 : decode cX0_rowAt 5 = .ok (.iconst 0, 1) := dk_3 (dk_at dksX0_rowAt_0 5 rfl rfl)
theorem dX0_rowAt_6 : decode cX0_rowAt 6 = .ok (.invokevirtual 302, 3) := dk_182 1 46 (dk_at dksX0_rowAt_0 6 rfl rfl)
theorem dX0_rowAt_9 : decode cX0_rowAt 9 = .ok (.aload_n 0, 1) := dk_42 (dk_at dksX0_rowAt_0 9 rfl rfl)
theorem dX0_rowAt_10 : decode cX0_rowAt 10 = .ok (.getfield 85, 3) := dk_180 0 85 (dk_at dksX0_rowAt_0 10 rfl rfl)
theorem dX0_rowAt_13 : decode cX0_rowAt 13 = .ok (.iload_n 1, 1) := dk_27 (dk_at dksX0_rowAt_0 13 rfl rfl)
theorem dX0_rowAt_14 : decode cX0_rowAt 14 = .ok (.aaload, 1) := dk_50 (dk_at dksX0_rowAt_0 14 rfl rfl)
theorem dX0_rowAt_15 : decode cX0_rowAt 15 = .ok (.getfield 97, 3) := dk_180 0 97 (dk_at dksX0_rowAt_0 15 rfl rfl)
theorem dX0_rowAt_18 : decode cX0_rowAt 18 = .ok (.areturn, 1) := dk_176 (dk_at dksX0_rowAt_0 18 rfl rfl)
abbrev cX0_isSheet : ByteArray := prog_1_method_4_code
def yX0_isSheet : MethodName := ⟨RX0, "isSheet", "(I)Z"⟩
def dkwX0_isSheet_0 : List UInt8 := [26, 3, 6, 184, 0, 9, 172]
abbrev dktX0_isSheet_0 : List UInt8 := dkwX0_isSheet_0 ++ []
theorem dksX0_isSheet_0 : cX0_isSheet.data.toList.drop 0 = dktX0_isSheet_0 := by decide +kernel
theorem dX0_isSheet_0 : decode cX0_isSheet 0 = .ok (.iload_n 0, 1) := dk_26 (dk_at dksX0_isSheet_0 0 rfl rfl)
theorem dX0_isSheet_1 : decode cX0_isSheet 1 = .ok (.iconst 0, 1) := dk_3 (dk_at dksX0_isSheet_0 1 rfl rfl)
theorem dX0_isSheet_2 : decode cX0_isSheet 2 = .ok (.iconst 3, 1) := dk_6 (dk_at dksX0_isSheet_0 2 rfl rfl)
theorem dX0_isSheet_3 : decode cX0_isSheet 3 = .ok (.invokestatic 9, 3) := dk_184 0 9 (dk_at dksX0_isSheet_0 3 rfl rfl)
theorem dX0_isSheet_6 : decode cX0_isSheet 6 = .ok (.ireturn, 1) := dk_172 (dk_at dksX0_isSheet_0 6 rfl rfl)
abbrev cX0_need : ByteArray := prog_1_method_16_code
def yX0_need : MethodName := ⟨RX0, "need", "(ZI)V"⟩
def dkwX0_need_0 : List UInt8 := [27, 154, 0, 9, 42, 28, 182, 0, 110, 191, 177]
abbrev dktX0_need_0 : List UInt8 := dkwX0_need_0 ++ []
theorem dksX0_need_0 : cX0_need.data.toList.drop 0 = dktX0_need_0 := by decide +kernel
theorem dX0_need_0 : decode cX0_need 0 = .ok (.iload_n 1, 1) := dk_27 (dk_at dksX0_need_0 0 rfl rfl)
theorem dX0_need_1 : decode cX0_need 1 = .ok (.ifCond .ne 9, 3) := dk_154 0 9 (dk_at dksX0_need_0 1 rfl rfl)
theorem dX0_need_4 : decode cX0_need 4 = .ok (.aload_n 0, 1) := dk_42 (dk_at dksX0_need_0 4 rfl rfl)
theorem dX0_need_5 : decode cX0_need 5 = .ok (.iload_n 2, 1) := dk_28 (dk_at dksX0_need_0 5 rfl rfl)
theorem dX0_need_6 : decode cX0_need 6 = .ok (.invokevirtual 110, 3) := dk_182 0 110 (dk_at dksX0_need_0 6 rfl rfl)
theorem dX0_need_9 : decode cX0_need 9 = .ok (.athrow, 1) := dk_191 (dk_at dksX0_need_0 9 rfl rfl)
theorem dX0_need_10 : decode cX0_need 10 = .ok (.return_, 1) := dk_177 (dk_at dksX0_need_0 10 rfl rfl)
abbrev cX0_refused : ByteArray := prog_1_method_15_code
def yX0_refused : MethodName := ⟨RX0, "refused", "(I)LThunderCasks$Refusal;"⟩
def dkwX0_refused_0 : List UInt8 := [42, 180, 0, 52, 27, 181, 0, 106, 42, 180, 0, 52, 176]
abbrev dktX0_refused_0 : List UInt8 := dkwX0_refused_0 ++ []
theorem dksX0_refused_0 : cX0_refused.data.toList.drop 0 = dktX0_refused_0 := by decide +kernel
theorem dX0_refused_0 : decode cX0_refused 0 = .ok (.aload_n 0, 1) := dk_42 (dk_at dksX0_refused_0 0 rfl rfl)
theorem dX0_refused_1 : decode cX0_refused 1 = .ok (.getfield 52, 3) := dk_180 0 52 (dk_at dksX0_refused_0 1 rfl rfl)
theorem dX0_refused_4 : decode cX0_refused 4 = .ok (.iload_n 1, 1) := dk_27 (dk_at dksX0_refused_0 4 rfl rfl)
theorem dX0_refused_5 : decode cX0_refused 5 = .ok (.putfield 106, 3) := dk_181 0 106 (dk_at dksX0_refused_0 5 rfl rfl)
theorem dX0_refused_8 : decode cX0_refused 8 = .ok (.aload_n 0, 1) := dk_42 (dk_at dksX0_refused_0 8 rfl rfl)
theorem dX0_refused_9 : decode cX0_refused 9 = .ok (.getfield 52, 3) := dk_180 0 52 (dk_at dksX0_refused_0 9 rfl rfl)
theorem dX0_refused_12 : decode cX0_refused 12 = .ok (.areturn, 1) := dk_176 (dk_at dksX0_refused_0 12 rfl rfl)
abbrev cX0_manyFits : ByteArray := prog_1_method_67_code
def yX0_manyFits : MethodName := ⟨RX0, "manyFits", "(Ljava/lang/Object;I)I"⟩
def dkwX0_manyFits_4 : List UInt8 := [79, 21, 4, 172]
abbrev dktX0_manyFits_4 : List UInt8 := dkwX0_manyFits_4 ++ []
def dkwX0_manyFits_3 : List UInt8 := [167, 0, 4, 3, 96, 54, 4, 132, 5, 255, 167, 255, 194, 42, 180, 0, 66, 180, 0, 101, 5, 50, 28, 29]
abbrev dktX0_manyFits_3 : List UInt8 := dkwX0_manyFits_3 ++ dktX0_manyFits_4
def dkwX0_manyFits_2 : List UInt8 := [153, 0, 8, 21, 5, 167, 0, 7, 42, 180, 1, 54, 181, 1, 54, 21, 4, 21, 6, 153, 0, 7, 4]
abbrev dktX0_manyFits_2 : List UInt8 := dkwX0_manyFits_2 ++ dktX0_manyFits_3
def dkwX0_manyFits_1 : List UInt8 := [42, 180, 0, 66, 180, 0, 101, 5, 50, 28, 21, 5, 79, 42, 43, 2, 182, 1, 50, 54, 6, 42, 21, 6]
abbrev dktX0_manyFits_1 : List UInt8 := dkwX0_manyFits_1 ++ dktX0_manyFits_2
def dkwX0_manyFits_0 : List UInt8 := [42, 180, 0, 66, 180, 0, 101, 5, 50, 28, 46, 62, 3, 54, 4, 16, 100, 54, 5, 21, 5, 155, 0, 63]
abbrev dktX0_manyFits_0 : List UInt8 := dkwX0_manyFits_0 ++ dktX0_manyFits_1
theorem dksX0_manyFits_0 : cX0_manyFits.data.toList.drop 0 = dktX0_manyFits_0 := by decide +kernel
theorem dksX0_manyFits_1 : cX0_manyFits.data.toList.drop 24 = dktX0_manyFits_1 := dk_seg dksX0_manyFits_0 24 rfl rfl
theorem dksX0_manyFits_2 : cX0_manyFits.data.toList.drop 48 = dktX0_manyFits_2 := dk_seg dksX0_manyFits_1 24 rfl rfl
theorem dksX0_manyFits_3 : cX0_manyFits.data.toList.drop 71 = dktX0_manyFits_3 := dk_seg dksX0_manyFits_2 23 rfl rfl
theorem dksX0_manyFits_4 : cX0_manyFits.data.toList.drop 95 = dktX0_manyFits_4 := dk_seg dksX0_manyFits_3 24 rfl rfl
theorem dX0_manyFits_0 : decode cX0_manyFits 0 = .ok (.aload_n 0, 1) := dk_42 (dk_at dksX0_manyFits_0 0 rfl rfl)
theorem dX0_manyFits_1 : decode cX0_manyFits 1 = .ok (.getfield 66, 3) := dk_180 0 66 (dk_at dksX0_manyFits_0 1 rfl rfl)
theorem dX0_manyFits_4 : decode cX0_manyFits 4 = .ok (.getfield 101, 3) := dk_180 0 101 (dk_at dksX0_manyFits_0 4 rfl rfl)
theorem dX0_manyFits_7 : decode cX0_manyFits 7 = .ok (.iconst 2, 1) := dk_5 (dk_at dksX0_manyFits_0 7 rfl rfl)
theorem dX0_manyFits_8 : decode cX0_manyFits 8 = .ok (.aaload, 1) := dk_50 (dk_at dksX0_manyFits_0 8 rfl rfl)
theorem dX0_manyFits_9 : decode cX0_manyFits 9 = .ok (.iload_n 2, 1) := dk_28 (dk_at dksX0_manyFits_0 9 rfl rfl)
theorem dX0_manyFits_10 : decode cX0_manyFits 10 = .ok (.iaload, 1) := dk_46 (dk_at dksX0_manyFits_0 10 rfl rfl)
theorem dX0_manyFits_11 : decode cX0_manyFits 11 = .ok (.istore_n 3, 1) := dk_62 (dk_at dksX0_manyFits_0 11 rfl rfl)
theorem dX0_manyFits_12 : decode cX0_manyFits 12 = .ok (.iconst 0, 1) := dk_3 (dk_at dksX0_manyFits_0 12 rfl rfl)
theorem dX0_manyFits_13 : decode cX0_manyFits 13 = .ok (.istore 4, 2) := dk_54 4 (dk_at dksX0_manyFits_0 13 rfl rfl)
theorem dX0_manyFits_15 : decode cX0_manyFits 15 = .ok (.bipush 100, 2) := dk_16 100 (dk_at dksX0_manyFits_0 15 rfl rfl)
theorem dX0_manyFits_17 : decode cX0_manyFits 17 = .ok (.istore 5, 2) := dk_54 5 (dk_at dksX0_manyFits_0 17 rfl rfl)
theorem dX0_manyFits_19 : decode cX0_manyFits 19 = .ok (.iload 5, 2) := dk_21 5 (dk_at dksX0_manyFits_0 19 rfl rfl)
theorem dX0_manyFits_21 : decode cX0_manyFits 21 = .ok (.ifCond .lt 63, 3) := dk_155 0 63 (dk_at dksX0_manyFits_0 21 rfl rfl)
theorem dX0_manyFits_24 : decode cX0_manyFits 24 = .ok (.aload_n 0, 1) := dk_42 (dk_at dksX0_manyFits_1 0 rfl rfl)
theorem dX0_manyFits_25 : decode cX0_manyFits 25 = .ok (.getfield 66, 3) := dk_180 0 66 (dk_at dksX0_manyFits_1 1 rfl rfl)
theorem dX0_manyFits_28 : decode cX0_manyFits 28 = .ok (.getfield 101, 3) := dk_180 0 101 (dk_at dksX0_manyFits_1 4 rfl rfl)
theorem dX0_manyFits_31 : decode cX0_manyFits 31 = .ok (.iconst 2, 1) := dk_5 (dk_at dksX0_manyFits_1 7 rfl rfl)
theorem dX0_manyFits_32 : decode cX0_manyFits 32 = .ok (.aaload, 1) := dk_50 (dk_at dksX0_manyFits_1 8 rfl rfl)
theorem dX0_manyFits_33 : decode cX0_manyFits 33 = .ok (.iload_n 2, 1) := dk_28 (dk_at dksX0_manyFits_1 9 rfl rfl)
theorem dX0_manyFits_34 : decode cX0_manyFits 34 = .ok (.iload 5, 2) := dk_21 5 (dk_at dksX0_manyFits_1 10 rfl rfl)
theorem dX0_manyFits_36 : decode cX0_manyFits 36 = .ok (.iastore, 1) := dk_79 (dk_at dksX0_manyFits_1 12 rfl rfl)
theorem dX0_manyFits_37 : decode cX0_manyFits 37 = .ok (.aload_n 0, 1) := dk_42 (dk_at dksX0_manyFits_1 13 rfl rfl)
theorem dX0_manyFits_38 : decode cX0_manyFits 38 = .ok (.aload_n 1, 1) := dk_43 (dk_at dksX0_manyFits_1 14 rfl rfl)
theorem dX0_manyFits_39 : decode cX0_manyFits 39 = .ok (.iconst (-1), 1) := dk_2 (dk_at dksX0_manyFits_1 15 rfl rfl)
theorem dX0_manyFits_40 : decode cX0_manyFits 40 = .ok (.invokevirtual 306, 3) := dk_182 1 50 (dk_at dksX0_manyFits_1 16 rfl rfl)
theorem dX0_manyFits_43 : decode cX0_manyFits 43 = .ok (.istore 6, 2) := dk_54 6 (dk_at dksX0_manyFits_1 19 rfl rfl)
theorem dX0_manyFits_45 : decode cX0_manyFits 45 = .ok (.aload_n 0, 1) := dk_42 (dk_at dksX0_manyFits_1 21 rfl rfl)
theorem dX0_manyFits_46 : decode cX0_manyFits 46 = .ok (.iload 6, 2) := dk_21 6 (dk_at dksX0_manyFits_1 22 rfl rfl)
theorem dX0_manyFits_48 : decode cX0_manyFits 48 = .ok (.ifCond .eq 8, 3) := dk_153 0 8 (dk_at dksX0_manyFits_2 0 rfl rfl)
theorem dX0_manyFits_51 : decode cX0_manyFits 51 = .ok (.iload 5, 2) := dk_21 5 (dk_at dksX0_manyFits_2 3 rfl rfl)
theorem dX0_manyFits_53 : decode cX0_manyFits 53 = .ok (.goto 7, 3) := dk_167 0 7 (dk_at dksX0_manyFits_2 5 rfl rfl)
theorem dX0_manyFits_56 : decode cX0_manyFits 56 = .ok (.aload_n 0, 1) := dk_42 (dk_at dksX0_manyFits_2 8 rfl rfl)
theorem dX0_manyFits_57 : decode cX0_manyFits 57 = .ok (.getfield 310, 3) := dk_180 1 54 (dk_at dksX0_manyFits_2 9 rfl rfl)
theorem dX0_manyFits_60 : decode cX0_manyFits 60 = .ok (.putfield 310, 3) := dk_181 1 54 (dk_at dksX0_manyFits_2 12 rfl rfl)
theorem dX0_manyFits_63 : decode cX0_manyFits 63 = .ok (.iload 4, 2) := dk_21 4 (dk_at dksX0_manyFits_2 15 rfl rfl)
theorem dX0_manyFits_65 : decode cX0_manyFits 65 = .ok (.iload 6, 2) := dk_21 6 (dk_at dksX0_manyFits_2 17 rfl rfl)
theorem dX0_manyFits_67 : decode cX0_manyFits 67 = .ok (.ifCond .eq 7, 3) := dk_153 0 7 (dk_at dksX0_manyFits_2 19 rfl rfl)
theorem dX0_manyFits_70 : decode cX0_manyFits 70 = .ok (.iconst 1, 1) := dk_4 (dk_at dksX0_manyFits_2 22 rfl rfl)
theorem dX0_manyFits_71 : decode cX0_manyFits 71 = .ok (.goto 4, 3) := dk_167 0 4 (dk_at dksX0_manyFits_3 0 rfl rfl)
theorem dX0_manyFits_74 : decode cX0_manyFits 74 = .ok (.iconst 0, 1) := dk_3 (dk_at dksX0_manyFits_3 3 rfl rfl)
theorem dX0_manyFits_75 : decode cX0_manyFits 75 = .ok (.iadd, 1) := dk_96 (dk_at dksX0_manyFits_3 4 rfl rfl)
theorem dX0_manyFits_76 : decode cX0_manyFits 76 = .ok (.istore 4, 2) := dk_54 4 (dk_at dksX0_manyFits_3 5 rfl rfl)
theorem dX0_manyFits_78 : decode cX0_manyFits 78 = .ok (.iinc 5 (-1), 3) := dk_132 5 255 (dk_at dksX0_manyFits_3 7 rfl rfl)
theorem dX0_manyFits_81 : decode cX0_manyFits 81 = .ok (.goto (-62), 3) := dk_167 255 194 (dk_at dksX0_manyFits_3 10 rfl rfl)
theorem dX0_manyFits_84 : decode cX0_manyFits 84 = .ok (.aload_n 0, 1) := dk_42 (dk_at dksX0_manyFits_3 13 rfl rfl)
theorem dX0_manyFits_85 : decode cX0_manyFits 85 = .ok (.getfield 66, 3) := dk_180 0 66 (dk_at dksX0_manyFits_3 14 rfl rfl)
theorem dX0_manyFits_88 : decode cX0_manyFits 88 = .ok (.getfield 101, 3) := dk_180 0 101 (dk_at dksX0_manyFits_3 17 rfl rfl)
theorem dX0_manyFits_91 : decode cX0_manyFits 91 = .ok (.iconst 2, 1) := dk_5 (dk_at dksX0_manyFits_3 20 rfl rfl)
theorem dX0_manyFits_92 : decode cX0_manyFits 92 = .ok (.aaload, 1) := dk_50 (dk_at dksX0_manyFits_3 21 rfl rfl)
theorem dX0_manyFits_93 : decode cX0_manyFits 93 = .ok (.iload_n 2, 1) := dk_28 (dk_at dksX0_manyFits_3 22 rfl rfl)
theorem dX0_manyFits_94 : decode cX0_manyFits 94 = .ok (.iload_n 3, 1) := dk_29 (dk_at dksX0_manyFits_3 23 rfl rfl)
theorem dX0_manyFits_95 : decode cX0_manyFits 95 = .ok (.iastore, 1) := dk_79 (dk_at dksX0_manyFits_4 0 rfl rfl)
theorem dX0_manyFits_96 : decode cX0_manyFits 96 = .ok (.iload 4, 2) := dk_21 4 (dk_at dksX0_manyFits_4 1 rfl rfl)
theorem dX0_manyFits_98 : decode cX0_manyFits 98 = .ok (.ireturn, 1) := dk_172 (dk_at dksX0_manyFits_4 3 rfl rfl)
abbrev cX0_wasSo : ByteArray := prog_1_method_65_code
def yX0_wasSo : MethodName := ⟨RX0, "wasSo", "(Ljava/lang/Object;I)Z"⟩
def dkwX0_wasSo_5 : List UInt8 := [182, 0, 227, 25, 5, 191]
abbrev dktX0_wasSo_5 : List UInt8 := dkwX0_wasSo_5 ++ []
def dkwX0_wasSo_4 : List UInt8 := [180, 0, 66, 42, 180, 0, 73, 182, 0, 227, 21, 4, 172, 58, 5, 42, 180, 0, 66, 42, 180, 0, 73]
abbrev dktX0_wasSo_4 : List UInt8 := dkwX0_wasSo_4 ++ dktX0_wasSo_5
def dkwX0_wasSo_3 : List UInt8 := [160, 0, 7, 4, 167, 0, 4, 3, 62, 42, 182, 0, 156, 132, 4, 1, 167, 255, 185, 29, 54, 4, 42]
abbrev dktX0_wasSo_3 : List UInt8 := dkwX0_wasSo_3 ++ dktX0_wasSo_4
def dkwX0_wasSo_2 : List UInt8 := [160, 0, 13, 42, 180, 0, 66, 180, 0, 197, 167, 0, 14, 42, 180, 0, 66, 180, 0, 101, 5, 50, 28, 46]
abbrev dktX0_wasSo_2 : List UInt8 := dkwX0_wasSo_2 ++ dktX0_wasSo_3
def dkwX0_wasSo_1 : List UInt8 := [184, 1, 34, 162, 0, 64, 43, 21, 4, 184, 1, 38, 2, 159, 0, 38, 43, 21, 4, 184, 1, 38, 28, 2]
abbrev dktX0_wasSo_1 : List UInt8 := dkwX0_wasSo_1 ++ dktX0_wasSo_2
def dkwX0_wasSo_0 : List UInt8 := [42, 180, 0, 73, 42, 180, 0, 66, 182, 0, 227, 4, 62, 3, 54, 4, 29, 153, 0, 73, 21, 4, 43]
abbrev dktX0_wasSo_0 : List UInt8 := dkwX0_wasSo_0 ++ dktX0_wasSo_1
theorem dksX0_wasSo_0 : cX0_wasSo.data.toList.drop 0 = dktX0_wasSo_0 := by decide +kernel
theorem dksX0_wasSo_1 : cX0_wasSo.data.toList.drop 23 = dktX0_wasSo_1 := dk_seg dksX0_wasSo_0 23 rfl rfl
theorem dksX0_wasSo_2 : cX0_wasSo.data.toList.drop 47 = dktX0_wasSo_2 := dk_seg dksX0_wasSo_1 24 rfl rfl
theorem dksX0_wasSo_3 : cX0_wasSo.data.toList.drop 71 = dktX0_wasSo_3 := dk_seg dksX0_wasSo_2 24 rfl rfl
theorem dksX0_wasSo_4 : cX0_wasSo.data.toList.drop 94 = dktX0_wasSo_4 := dk_seg dksX0_wasSo_3 23 rfl rfl
theorem dksX0_wasSo_5 : cX0_wasSo.data.toList.drop 117 = dktX0_wasSo_5 := dk_seg dksX0_wasSo_4 23 rfl rfl
theorem dX0_wasSo_0 : decode cX0_wasSo 0 = .ok (.aload_n 0, 1) := dk_42 (dk_at dksX0_wasSo_0 0 rfl rfl)
theorem dX0_wasSo_1 : decode cX0_wasSo 1 = .ok (.getfield 73, 3) := dk_180 0 73 (dk_at dksX0_wasSo_0 1 rfl rfl)
theorem dX0_wasSo_4 : decode cX0_wasSo 4 = .ok (.aload_n 0, 1) := dk_42 (dk_at dksX0_wasSo_0 4 rfl rfl)
theorem dX0_wasSo_5 : decode cX0_wasSo 5 = .ok (.getfield 66, 3) := dk_180 0 66 (dk_at dksX0_wasSo_0 5 rfl rfl)
theorem dX0_wasSo_8 : decode cX0_wasSo 8 = .ok (.invokevirtual 227, 3) := dk_182 0 227 (dk_at dksX0_wasSo_0 8 rfl rfl)
theorem dX0_wasSo_11 : decode cX0_wasSo 11 = .ok (.iconst 1, 1) := dk_4 (dk_at dksX0_wasSo_0 11 rfl rfl)
theorem dX0_wasSo_12 : decode cX0_wasSo 12 = .ok (.istore_n 3, 1) := dk_62 (dk_at dksX0_wasSo_0 12 rfl rfl)
theorem dX0_wasSo_13 : decode cX0_wasSo 13 = .ok (.iconst 0, 1) := dk_3 (dk_at dksX0_wasSo_0 13 rfl rfl)
theorem dX0_wasSo_14 : decode cX0_wasSo 14 = .ok (.istore 4, 2) := dk_54 4 (dk_at dksX0_wasSo_0 14 rfl rfl)
theorem dX0_wasSo_16 : decode cX0_wasSo 16 = .ok (.iload_n 3, 1) := dk_29 (dk_at dksX0_wasSo_0 16 rfl rfl)
theorem dX0_wasSo_17 : decode cX0_wasSo 17 = .ok (.ifCond .eq 73, 3) := dk_153 0 73 (dk_at dksX0_wasSo_0 17 rfl rfl)
theorem dX0_wasSo_20 : decode cX0_wasSo 20 = .ok (.iload 4, 2) := dk_21 4 (dk_at dksX0_wasSo_0 20 rfl rfl)
theorem dX0_wasSo_22 : decode cX0_wasSo 22 = .ok (.aload_n 1, 1) := dk_43 (dk_at dksX0_wasSo_0 22 rfl rfl)
theorem dX0_wasSo_23 : decode cX0_wasSo 23 = .ok (.invokestatic 290, 3) := dk_184 1 34 (dk_at dksX0_wasSo_1 0 rfl rfl)
theorem dX0_wasSo_26 : decode cX0_wasSo 26 = .ok (.if_icmp .ge 64, 3) := dk_162 0 64 (dk_at dksX0_wasSo_1 3 rfl rfl)
theorem dX0_wasSo_29 : decode cX0_wasSo 29 = .ok (.aload_n 1, 1) := dk_43 (dk_at dksX0_wasSo_1 6 rfl rfl)
theorem dX0_wasSo_30 : decode cX0_wasSo 30 = .ok (.iload 4, 2) := dk_21 4 (dk_at dksX0_wasSo_1 7 rfl rfl)
theorem dX0_wasSo_32 : decode cX0_wasSo 32 = .ok (.invokestatic 294, 3) := dk_184 1 38 (dk_at dksX0_wasSo_1 9 rfl rfl)
theorem dX0_wasSo_35 : decode cX0_wasSo 35 = .ok (.iconst (-1), 1) := dk_2 (dk_at dksX0_wasSo_1 12 rfl rfl)
theorem dX0_wasSo_36 : decode cX0_wasSo 36 = .ok (.if_icmp .eq 38, 3) := dk_159 0 38 (dk_at dksX0_wasSo_1 13 rfl rfl)
theorem dX0_wasSo_39 : decode cX0_wasSo 39 = .ok (.aload_n 1, 1) := dk_43 (dk_at dksX0_wasSo_1 16 rfl rfl)
theorem dX0_wasSo_40 : decode cX0_wasSo 40 = .ok (.iload 4, 2) := dk_21 4 (dk_at dksX0_wasSo_1 17 rfl rfl)
theorem dX0_wasSo_42 : decode cX0_wasSo 42 = .ok (.invokestatic 294, 3) := dk_184 1 38 (dk_at dksX0_wasSo_1 19 rfl rfl)
theorem dX0_wasSo_45 : decode cX0_wasSo 45 = .ok (.iload_n 2, 1) := dk_28 (dk_at dksX0_wasSo_1 22 rfl rfl)
theorem dX0_wasSo_46 : decode cX0_wasSo 46 = .ok (.iconst (-1), 1) := dk_2 (dk_at dksX0_wasSo_1 23 rfl rfl)
theorem dX0_wasSo_47 : decode cX0_wasSo 47 = .ok (.if_icmp .ne 13, 3) := dk_160 0 13 (dk_at dksX0_wasSo_2 0 rfl rfl)
theorem dX0_wasSo_50 : decode cX0_wasSo 50 = .ok (.aload_n 0, 1) := dk_42 (dk_at dksX0_wasSo_2 3 rfl rfl)
theorem dX0_wasSo_51 : decode cX0_wasSo 51 = .ok (.getfield 66, 3) := dk_180 0 66 (dk_at dksX0_wasSo_2 4 rfl rfl)
theorem dX0_wasSo_54 : decode cX0_wasSo 54 = .ok (.getfield 197, 3) := dk_180 0 197 (dk_at dksX0_wasSo_2 7 rfl rfl)
theorem dX0_wasSo_57 : decode cX0_wasSo 57 = .ok (.goto 14, 3) := dk_167 0 14 (dk_at dksX0_wasSo_2 10 rfl rfl)
theorem dX0_wasSo_60 : decode cX0_wasSo 60 = .ok (.aload_n 0, 1) := dk_42 (dk_at dksX0_wasSo_2 13 rfl rfl)
theorem dX0_wasSo_61 : decode cX0_wasSo 61 = .ok (.getfield 66, 3) := dk_180 0 66 (dk_at dksX0_wasSo_2 14 rfl rfl)
theorem dX0_wasSo_64 : decode cX0_wasSo 64 = .ok (.getfield 101, 3) := dk_180 0 101 (dk_at dksX0_wasSo_2 17 rfl rfl)
theorem dX0_wasSo_67 : decode cX0_wasSo 67 = .ok (.iconst 2, 1) := dk_5 (dk_at dksX0_wasSo_2 20 rfl rfl)
theorem dX0_wasSo_68 : decode cX0_wasSo 68 = .ok (.aaload, 1) := dk_50 (dk_at dksX0_wasSo_2 21 rfl rfl)
theorem dX0_wasSo_69 : decode cX0_wasSo 69 = .ok (.iload_n 2, 1) := dk_28 (dk_at dksX0_wasSo_2 22 rfl rfl)
theorem dX0_wasSo_70 : decode cX0_wasSo 70 = .ok (.iaload, 1) := dk_46 (dk_at dksX0_wasSo_2 23 rfl rfl)
theorem dX0_wasSo_71 : decode cX0_wasSo 71 = .ok (.if_icmp .ne 7, 3) := dk_160 0 7 (dk_at dksX0_wasSo_3 0 rfl rfl)
theorem dX0_wasSo_74 : decode cX0_wasSo 74 = .ok (.iconst 1, 1) := dk_4 (dk_at dksX0_wasSo_3 3 rfl rfl)
theorem dX0_wasSo_75 : decode cX0_wasSo 75 = .ok (.goto 4, 3) := dk_167 0 4 (dk_at dksX0_wasSo_3 4 rfl rfl)
theorem dX0_wasSo_78 : decode cX0_wasSo 78 = .ok (.iconst 0, 1) := dk_3 (dk_at dksX0_wasSo_3 7 rfl rfl)
theorem dX0_wasSo_79 : decode cX0_wasSo 79 = .ok (.istore_n 3, 1) := dk_62 (dk_at dksX0_wasSo_3 8 rfl rfl)
theorem dX0_wasSo_80 : decode cX0_wasSo 80 = .ok (.aload_n 0, 1) := dk_42 (dk_at dksX0_wasSo_3 9 rfl rfl)
theorem dX0_wasSo_81 : decode cX0_wasSo 81 = .ok (.invokevirtual 156, 3) := dk_182 0 156 (dk_at dksX0_wasSo_3 10 rfl rfl)
theorem dX0_wasSo_84 : decode cX0_wasSo 84 = .ok (.iinc 4 1, 3) := dk_132 4 1 (dk_at dksX0_wasSo_3 13 rfl rfl)
theorem dX0_wasSo_87 : decode cX0_wasSo 87 = .ok (.goto (-71), 3) := dk_167 255 185 (dk_at dksX0_wasSo_3 16 rfl rfl)
theorem dX0_wasSo_90 : decode cX0_wasSo 90 = .ok (.iload_n 3, 1) := dk_29 (dk_at dksX0_wasSo_3 19 rfl rfl)
theorem dX0_wasSo_91 : decode cX0_wasSo 91 = .ok (.istore 4, 2) := dk_54 4 (dk_at dksX0_wasSo_3 20 rfl rfl)
theorem dX0_wasSo_93 : decode cX0_wasSo 93 = .ok (.aload_n 0, 1) := dk_42 (dk_at dksX0_wasSo_3 22 rfl rfl)
theorem dX0_wasSo_94 : decode cX0_wasSo 94 = .ok (.getfield 66, 3) := dk_180 0 66 (dk_at dksX0_wasSo_4 0 rfl rfl)
theorem dX0_wasSo_97 : decode cX0_wasSo 97 = .ok (.aload_n 0, 1) := dk_42 (dk_at dksX0_wasSo_4 3 rfl rfl)
theorem dX0_wasSo_98 : decode cX0_wasSo 98 = .ok (.getfield 73, 3) := dk_180 0 73 (dk_at dksX0_wasSo_4 4 rfl rfl)
theorem dX0_wasSo_101 : decode cX0_wasSo 101 = .ok (.invokevirtual 227, 3) := dk_182 0 227 (dk_at dksX0_wasSo_4 7 rfl rfl)
theorem dX0_wasSo_104 : decode cX0_wasSo 104 = .ok (.iload 4, 2) := dk_21 4 (dk_at dksX0_wasSo_4 10 rfl rfl)
theorem dX0_wasSo_106 : decode cX0_wasSo 106 = .ok (.ireturn, 1) := dk_172 (dk_at dksX0_wasSo_4 12 rfl rfl)
theorem dX0_wasSo_107 : decode cX0_wasSo 107 = .ok (.astore 5, 2) := dk_58 5 (dk_at dksX0_wasSo_4 13 rfl rfl)
theorem dX0_wasSo_109 : decode cX0_wasSo 109 = .ok (.aload_n 0, 1) := dk_42 (dk_at dksX0_wasSo_4 15 rfl rfl)
theorem dX0_wasSo_110 : decode cX0_wasSo 110 = .ok (.getfield 66, 3) := dk_180 0 66 (dk_at dksX0_wasSo_4 16 rfl rfl)
theorem dX0_wasSo_113 : decode cX0_wasSo 113 = .ok (.aload_n 0, 1) := dk_42 (dk_at dksX0_wasSo_4 19 rfl rfl)
theorem dX0_wasSo_114 : decode cX0_wasSo 114 = .ok (.getfield 73, 3) := dk_180 0 73 (dk_at dksX0_wasSo_4 20 rfl rfl)
theorem dX0_wasSo_117 : decode cX0_wasSo 117 = .ok (.invokevirtual 227, 3) := dk_182 0 227 (dk_at dksX0_wasSo_5 0 rfl rfl)
theorem dX0_wasSo_120 : decode cX0_wasSo 120 = .ok (.aload 5, 2) := dk_25 5 (dk_at dksX0_wasSo_5 3 rfl rfl)
theorem dX0_wasSo_122 : decode cX0_wasSo 122 = .ok (.athrow, 1) := dk_191 (dk_at dksX0_wasSo_5 5 rfl rfl)
abbrev cX0_length : ByteArray := prog_1_method_87_code
def yX0_length : MethodName := ⟨RX0, "length", "(Ljava/lang/Object;)I"⟩
def dkwX0_length_1 : List UInt8 := [192, 1, 121, 190, 167, 0, 8, 42, 192, 1, 123, 190, 172]
abbrev dktX0_length_1 : List UInt8 := dkwX0_length_1 ++ []
def dkwX0_length_0 : List UInt8 := [42, 193, 1, 120, 153, 0, 11, 42, 192, 1, 120, 190, 167, 0, 23, 42, 193, 1, 121, 153, 0, 11, 42]
abbrev dktX0_length_0 : List UInt8 := dkwX0_length_0 ++ dktX0_length_1
theorem dksX0_length_0 : cX0_length.data.toList.drop 0 = dktX0_length_0 := by decide +kernel
theorem dksX0_length_1 : cX0_length.data.toList.drop 23 = dktX0_length_1 := dk_seg dksX0_length_0 23 rfl rfl
theorem dX0_length_0 : decode cX0_length 0 = .ok (.aload_n 0, 1) := dk_42 (dk_at dksX0_length_0 0 rfl rfl)
theorem dX0_length_1 : decode cX0_length 1 = .ok (.instanceof 376, 3) := dk_193 1 120 (dk_at dksX0_length_0 1 rfl rfl)
theorem dX0_length_4 : decode cX0_length 4 = .ok (.ifCond .eq 11, 3) := dk_153 0 11 (dk_at dksX0_length_0 4 rfl rfl)
theorem dX0_length_7 : decode cX0_length 7 = .ok (.aload_n 0, 1) := dk_42 (dk_at dksX0_length_0 7 rfl rfl)
theorem dX0_length_8 : decode cX0_length 8 = .ok (.checkcast 376, 3) := dk_192 1 120 (dk_at dksX0_length_0 8 rfl rfl)
theorem dX0_length_11 : decode cX0_length 11 = .ok (.arraylength, 1) := dk_190 (dk_at dksX0_length_0 11 rfl rfl)
theorem dX0_length_12 : decode cX0_length 12 = .ok (.goto 23, 3) := dk_167 0 23 (dk_at dksX0_length_0 12 rfl rfl)
theorem dX0_length_15 : decode cX0_length 15 = .ok (.aload_n 0, 1) := dk_42 (dk_at dksX0_length_0 15 rfl rfl)
theorem dX0_length_16 : decode cX0_length 16 = .ok (.instanceof 377, 3) := dk_193 1 121 (dk_at dksX0_length_0 16 rfl rfl)
theorem dX0_length_19 : decode cX0_length 19 = .ok (.ifCond .eq 11, 3) := dk_153 0 11 (dk_at dksX0_length_0 19 rfl rfl)
theorem dX0_length_22 : decode cX0_length 22 = .ok (.aload_n 0, 1) := dk_42 (dk_at dksX0_length_0 22 rfl rfl)
theorem dX0_length_23 : decode cX0_length 23 = .ok (.checkcast 377, 3) := dk_192 1 121 (dk_at dksX0_length_1 0 rfl rfl)
theorem dX0_length_26 : decode cX0_length 26 = .ok (.arraylength, 1) := dk_190 (dk_at dksX0_length_1 3 rfl rfl)
theorem dX0_length_27 : decode cX0_length 27 = .ok (.goto 8, 3) := dk_167 0 8 (dk_at dksX0_length_1 4 rfl rfl)
theorem dX0_length_30 : decode cX0_length 30 = .ok (.aload_n 0, 1) := dk_42 (dk_at dksX0_length_1 7 rfl rfl)
theorem dX0_length_31 : decode cX0_length 31 = .ok (.checkcast 379, 3) := dk_192 1 123 (dk_at dksX0_length_1 8 rfl rfl)
theorem dX0_length_34 : decode cX0_length 34 = .ok (.arraylength, 1) := dk_190 (dk_at dksX0_length_1 11 rfl rfl)
theorem dX0_length_35 : decode cX0_length 35 = .ok (.ireturn, 1) := dk_172 (dk_at dksX0_length_1 12 rfl rfl)
abbrev cX0_number : ByteArray := prog_1_method_88_code
def yX0_number : MethodName := ⟨RX0, "number", "(Ljava/lang/Object;I)I"⟩
def dkwX0_number_1 : List UInt8 := [192, 1, 121, 27, 53, 167, 0, 9, 42, 192, 1, 123, 27, 46, 172]
abbrev dktX0_number_1 : List UInt8 := dkwX0_number_1 ++ []
def dkwX0_number_0 : List UInt8 := [42, 193, 1, 120, 153, 0, 12, 42, 192, 1, 120, 27, 51, 167, 0, 25, 42, 193, 1, 121, 153, 0, 12, 42]
abbrev dktX0_number_0 : List UInt8 := dkwX0_number_0 ++ dktX0_number_1
theorem dksX0_number_0 : cX0_number.data.toList.drop 0 = dktX0_number_0 := by decide +kernel
theorem dksX0_number_1 : cX0_number.data.toList.drop 24 = dktX0_number_1 := dk_seg dksX0_number_0 24 rfl rfl
theorem dX0_number_0 : decode cX0_number 0 = .ok (.aload_n 0, 1) := dk_42 (dk_at dksX0_number_0 0 rfl rfl)
theorem dX0_number_1 : decode cX0_number 1 = .ok (.instanceof 376, 3) := dk_193 1 120 (dk_at dksX0_number_0 1 rfl rfl)
theorem dX0_number_4 : decode cX0_number 4 = .ok (.ifCond .eq 12, 3) := dk_153 0 12 (dk_at dksX0_number_0 4 rfl rfl)
theorem dX0_number_7 : decode cX0_number 7 = .ok (.aload_n 0, 1) := dk_42 (dk_at dksX0_number_0 7 rfl rfl)
theorem dX0_number_8 : decode cX0_number 8 = .ok (.checkcast 376, 3) := dk_192 1 120 (dk_at dksX0_number_0 8 rfl rfl)
theorem dX0_number_11 : decode cX0_number 11 = .ok (.iload_n 1, 1) := dk_27 (dk_at dksX0_number_0 11 rfl rfl)
theorem dX0_number_12 : decode cX0_number 12 = .ok (.baload, 1) := dk_51 (dk_at dksX0_number_0 12 rfl rfl)
theorem dX0_number_13 : decode cX0_number 13 = .ok (.goto 25, 3) := dk_167 0 25 (dk_at dksX0_number_0 13 rfl rfl)
theorem dX0_number_16 : decode cX0_number 16 = .ok (.aload_n 0, 1) := dk_42 (dk_at dksX0_number_0 16 rfl rfl)
theorem dX0_number_17 : decode cX0_number 17 = .ok (.instanceof 377, 3) := dk_193 1 121 (dk_at dksX0_number_0 17 rfl rfl)
theorem dX0_number_20 : decode cX0_number 20 = .ok (.ifCond .eq 12, 3) := dk_153 0 12 (dk_at dksX0_number_0 20 rfl rfl)
theorem dX0_number_23 : decode cX0_number 23 = .ok (.aload_n 0, 1) := dk_42 (dk_at dksX0_number_0 23 rfl rfl)
theorem dX0_number_24 : decode cX0_number 24 = .ok (.checkcast 377, 3) := dk_192 1 121 (dk_at dksX0_number_1 0 rfl rfl)
theorem dX0_number_27 : decode cX0_number 27 = .ok (.iload_n 1, 1) := dk_27 (dk_at dksX0_number_1 3 rfl rfl)
theorem dX0_number_28 : decode cX0_number 28 = .ok (.saload, 1) := dk_53 (dk_at dksX0_number_1 4 rfl rfl)
theorem dX0_number_29 : decode cX0_number 29 = .ok (.goto 9, 3) := dk_167 0 9 (dk_at dksX0_number_1 5 rfl rfl)
theorem dX0_number_32 : decode cX0_number 32 = .ok (.aload_n 0, 1) := dk_42 (dk_at dksX0_number_1 8 rfl rfl)
theorem dX0_number_33 : decode cX0_number 33 = .ok (.checkcast 379, 3) := dk_192 1 123 (dk_at dksX0_number_1 9 rfl rfl)
theorem dX0_number_36 : decode cX0_number 36 = .ok (.iload_n 1, 1) := dk_27 (dk_at dksX0_number_1 12 rfl rfl)
theorem dX0_number_37 : decode cX0_number 37 = .ok (.iaload, 1) := dk_46 (dk_at dksX0_number_1 13 rfl rfl)
theorem dX0_number_38 : decode cX0_number 38 = .ok (.ireturn, 1) := dk_172 (dk_at dksX0_number_1 14 rfl rfl)
abbrev cX0_pealed : ByteArray := prog_1_method_69_code
def yX0_pealed : MethodName := ⟨RX0, "pealed", "(II)I"⟩
def dkwX0_pealed_1 : List UInt8 := [42, 180, 1, 54, 172, 78, 42, 45, 180, 0, 106, 182, 0, 116, 172]
abbrev dktX0_pealed_1 : List UInt8 := dkwX0_pealed_1 ++ []
def dkwX0_pealed_0 : List UInt8 := [42, 42, 42, 27, 28, 182, 1, 57, 28, 182, 1, 61, 158, 0, 7, 4, 167, 0, 4, 3, 6, 182, 1, 46]
abbrev dktX0_pealed_0 : List UInt8 := dkwX0_pealed_0 ++ dktX0_pealed_1
theorem dksX0_pealed_0 : cX0_pealed.data.toList.drop 0 = dktX0_pealed_0 := by decide +kernel
theorem dksX0_pealed_1 : cX0_pealed.data.toList.drop 24 = dktX0_pealed_1 := dk_seg dksX0_pealed_0 24 rfl rfl
theorem dX0_pealed_0 : decode cX0_pealed 0 = .ok (.aload_n 0, 1) := dk_42 (dk_at dksX0_pealed_0 0 rfl rfl)
theorem dX0_pealed_1 : decode cX0_pealed 1 = .ok (.aload_n 0, 1) := dk_42 (dk_at dksX0_pealed_0 1 rfl rfl)
theorem dX0_pealed_2 : decode cX0_pealed 2 = .ok (.aload_n 0, 1) := dk_42 (dk_at dksX0_pealed_0 2 rfl rfl)
theorem dX0_pealed_3 : decode cX0_pealed 3 = .ok (.iload_n 1, 1) := dk_27 (dk_at dksX0_pealed_0 3 rfl rfl)
theorem dX0_pealed_4 : decode cX0_pealed 4 = .ok (.iload_n 2, 1) := dk_28 (dk_at dksX0_pealed_0 4 rfl rfl)
theorem dX0_pealed_5 : decode cX0_pealed 5 = .ok (.invokevirtual 313, 3) := dk_182 1 57 (dk_at dksX0_pealed_0 5 rfl rfl)
theorem dX0_pealed_8 : decode cX0_pealed 8 = .ok (.iload_n 2, 1) := dk_28 (dk_at dksX0_pealed_0 8 rfl rfl)
theorem dX0_pealed_9 : decode cX0_pealed 9 = .ok (.invokevirtual 317, 3) := dk_182 1 61 (dk_at dksX0_pealed_0 9 rfl rfl)
theorem dX0_pealed_12 : decode cX0_pealed 12 = .ok (.ifCond .le 7, 3) := dk_158 0 7 (dk_at dksX0_pealed_0 12 rfl rfl)
theorem dX0_pealed_15 : decode cX0_pealed 15 = .ok (.iconst 1, 1) := dk_4 (dk_at dksX0_pealed_0 15 rfl rfl)
theorem dX0_pealed_16 : decode cX0_pealed 16 = .ok (.goto 4, 3) := dk_167 0 4 (dk_at dksX0_pealed_0 16 rfl rfl)
theorem dX0_pealed_19 : decode cX0_pealed 19 = .ok (.iconst 0, 1) := dk_3 (dk_at dksX0_pealed_0 19 rfl rfl)
theorem dX0_pealed_20 : decode cX0_pealed 20 = .ok (.iconst 3, 1) := dk_6 (dk_at dksX0_pealed_0 20 rfl rfl)
theorem dX0_pealed_21 : decode cX0_pealed 21 = .ok (.invokevirtual 302, 3) := dk_182 1 46 (dk_at dksX0_pealed_0 21 rfl rfl)
theorem dX0_pealed_24 : decode cX0_pealed 24 = .ok (.aload_n 0, 1) := dk_42 (dk_at dksX0_pealed_1 0 rfl rfl)
theorem dX0_pealed_25 : decode cX0_pealed 25 = .ok (.getfield 310, 3) := dk_180 1 54 (dk_at dksX0_pealed_1 1 rfl rfl)
theorem dX0_pealed_28 : decode cX0_pealed 28 = .ok (.ireturn, 1) := dk_172 (dk_at dksX0_pealed_1 4 rfl rfl)
theorem dX0_pealed_29 : decode cX0_pealed 29 = .ok (.astore_n 3, 1) := dk_78 (dk_at dksX0_pealed_1 5 rfl rfl)
theorem dX0_pealed_30 : decode cX0_pealed 30 = .ok (.aload_n 0, 1) := dk_42 (dk_at dksX0_pealed_1 6 rfl rfl)
theorem dX0_pealed_31 : decode cX0_pealed 31 = .ok (.aload_n 3, 1) := dk_45 (dk_at dksX0_pealed_1 7 rfl rfl)
theorem dX0_pealed_32 : decode cX0_pealed 32 = .ok (.getfield 106, 3) := dk_180 0 106 (dk_at dksX0_pealed_1 8 rfl rfl)
theorem dX0_pealed_35 : decode cX0_pealed 35 = .ok (.invokevirtual 116, 3) := dk_182 0 116 (dk_at dksX0_pealed_1 11 rfl rfl)
theorem dX0_pealed_38 : decode cX0_pealed 38 = .ok (.ireturn, 1) := dk_172 (dk_at dksX0_pealed_1 14 rfl rfl)
abbrev cX0_kinds : ByteArray := prog_1_method_71_code
def yX0_kinds : MethodName := ⟨RX0, "kinds", "(II)I"⟩
def dkwX0_kinds_0 : List UInt8 := [42, 42, 27, 28, 182, 1, 57, 28, 182, 1, 64, 172, 78, 42, 45, 180, 0, 106, 182, 0, 116, 172]
abbrev dktX0_kinds_0 : List UInt8 := dkwX0_kinds_0 ++ []
theorem dksX0_kinds_0 : cX0_kinds.data.toList.drop 0 = dktX0_kinds_0 := by decide +kernel
theorem dX0_kinds_0 : decode cX0_kinds 0 = .ok (.aload_n 0, 1) := dk_42 (dk_at dksX0_kinds_0 0 rfl rfl)
theorem dX0_kinds_1 : decode cX0_kinds 1 = .ok (.aload_n 0, 1) := dk_42 (dk_at dksX0_kinds_0 1 rfl rfl)
theorem dX0_kinds_2 : decode cX0_kinds 2 = .ok (.iload_n 1, 1) := dk_27 (dk_at dksX0_kinds_0 2 rfl rfl)
theorem dX0_kinds_3 : decode cX0_kinds 3 = .ok (.iload_n 2, 1) := dk_28 (dk_at dksX0_kinds_0 3 rfl rfl)
theorem dX0_kinds_4 : decode cX0_kinds 4 = .ok (.invokevirtual 313, 3) := dk_182 1 57 (dk_at dksX0_kinds_0 4 rfl rfl)
theorem dX0_kinds_7 : decode cX0_kinds 7 = .ok (.iload_n 2, 1) := dk_28 (dk_at dksX0_kinds_0 7 rfl rfl)
theorem dX0_kinds_8 : decode cX0_kinds 8 = .ok (.invokevirtual 320, 3) := dk_182 1 64 (dk_at dksX0_kinds_0 8 rfl rfl)
theorem dX0_kinds_11 : decode cX0_kinds 11 = .ok (.ireturn, 1) := dk_172 (dk_at dksX0_kinds_0 11 rfl rfl)
theorem dX0_kinds_12 : decode cX0_kinds 12 = .ok (.astore_n 3, 1) := dk_78 (dk_at dksX0_kinds_0 12 rfl rfl)
theorem dX0_kinds_13 : decode cX0_kinds 13 = .ok (.aload_n 0, 1) := dk_42 (dk_at dksX0_kinds_0 13 rfl rfl)
theorem dX0_kinds_14 : decode cX0_kinds 14 = .ok (.aload_n 3, 1) := dk_45 (dk_at dksX0_kinds_0 14 rfl rfl)
theorem dX0_kinds_15 : decode cX0_kinds 15 = .ok (.getfield 106, 3) := dk_180 0 106 (dk_at dksX0_kinds_0 15 rfl rfl)
theorem dX0_kinds_18 : decode cX0_kinds 18 = .ok (.invokevirtual 116, 3) := dk_182 0 116 (dk_at dksX0_kinds_0 18 rfl rfl)
theorem dX0_kinds_21 : decode cX0_kinds 21 = .ok (.ireturn, 1) := dk_172 (dk_at dksX0_kinds_0 21 rfl rfl)
abbrev cX0_kindsThatFit : ByteArray := prog_1_method_70_code
def yX0_kindsThatFit : MethodName := ⟨RX0, "kindsThatFit", "(Ljava/lang/Object;I)I"⟩
def dkwX0_kindsThatFit_3 : List UInt8 := [180, 0, 101, 3, 50, 28, 29, 79, 21, 4, 172]
abbrev dktX0_kindsThatFit_3 : List UInt8 := dkwX0_kindsThatFit_3 ++ []
def dkwX0_kindsThatFit_2 : List UInt8 := [153, 0, 10, 4, 21, 5, 120, 167, 0, 4, 3, 128, 54, 4, 132, 5, 1, 167, 255, 211, 42, 180, 0, 66]
abbrev dktX0_kindsThatFit_2 : List UInt8 := dkwX0_kindsThatFit_2 ++ dktX0_kindsThatFit_3
def dkwX0_kindsThatFit_1 : List UInt8 := [162, 0, 44, 42, 180, 0, 66, 180, 0, 101, 3, 50, 28, 21, 5, 79, 21, 4, 42, 43, 28, 182, 1, 50]
abbrev dktX0_kindsThatFit_1 : List UInt8 := dkwX0_kindsThatFit_1 ++ dktX0_kindsThatFit_2
def dkwX0_kindsThatFit_0 : List UInt8 := [42, 180, 0, 66, 180, 0, 101, 3, 50, 28, 46, 62, 3, 54, 4, 3, 54, 5, 21, 5, 16, 7]
abbrev dktX0_kindsThatFit_0 : List UInt8 := dkwX0_kindsThatFit_0 ++ dktX0_kindsThatFit_1
theorem dksX0_kindsThatFit_0 : cX0_kindsThatFit.data.toList.drop 0 = dktX0_kindsThatFit_0 := by decide +kernel
theorem dksX0_kindsThatFit_1 : cX0_kindsThatFit.data.toList.drop 22 = dktX0_kindsThatFit_1 := dk_seg dksX0_kindsThatFit_0 22 rfl rfl
theorem dksX0_kindsThatFit_2 : cX0_kindsThatFit.data.toList.drop 46 = dktX0_kindsThatFit_2 := dk_seg dksX0_kindsThatFit_1 24 rfl rfl
theorem dksX0_kindsThatFit_3 : cX0_kindsThatFit.data.toList.drop 70 = dktX0_kindsThatFit_3 := dk_seg dksX0_kindsThatFit_2 24 rfl rfl
theorem dX0_kindsThatFit_0 : decode cX0_kindsThatFit 0 = .ok (.aload_n 0, 1) := dk_42 (dk_at dksX0_kindsThatFit_0 0 rfl rfl)
theorem dX0_kindsThatFit_1 : decode cX0_kindsThatFit 1 = .ok (.getfield 66, 3) := dk_180 0 66 (dk_at dksX0_kindsThatFit_0 1 rfl rfl)
theorem dX0_kindsThatFit_4 : decode cX0_kindsThatFit 4 = .ok (.getfield 101, 3) := dk_180 0 101 (dk_at dksX0_kindsThatFit_0 4 rfl rfl)
theorem dX0_kindsThatFit_7 : decode cX0_kindsThatFit 7 = .ok (.iconst 0, 1) := dk_3 (dk_at dksX0_kindsThatFit_0 7 rfl rfl)
theorem dX0_kindsThatFit_8 : decode cX0_kindsThatFit 8 = .ok (.aaload, 1) := dk_50 (dk_at dksX0_kindsThatFit_0 8 rfl rfl)
theorem dX0_kindsThatFit_9 : decode cX0_kindsThatFit 9 = .ok (.iload_n 2, 1) := dk_28 (dk_at dksX0_kindsThatFit_0 9 rfl rfl)
theorem dX0_kindsThatFit_10 : decode cX0_kindsThatFit 10 = .ok (.iaload, 1) := dk_46 (dk_at dksX0_kindsThatFit_0 10 rfl rfl)
theorem dX0_kindsThatFit_11 : decode cX0_kindsThatFit 11 = .ok (.istore_n 3, 1) := dk_62 (dk_at dksX0_kindsThatFit_0 11 rfl rfl)
theorem dX0_kindsThatFit_12 : decode cX0_kindsThatFit 12 = .ok (.iconst 0, 1) := dk_3 (dk_at dksX0_kindsThatFit_0 12 rfl rfl)
theorem dX0_kindsThatFit_13 : decode cX0_kindsThatFit 13 = .ok (.istore 4, 2) := dk_54 4 (dk_at dksX0_kindsThatFit_0 13 rfl rfl)
theorem dX0_kindsThatFit_15 : decode cX0_kindsThatFit 15 = .ok (.iconst 0, 1) := dk_3 (dk_at dksX0_kindsThatFit_0 15 rfl rfl)
theorem dX0_kindsThatFit_16 : decode cX0_kindsThatFit 16 = .ok (.istore 5, 2) := dk_54 5 (dk_at dksX0_kindsThatFit_0 16 rfl rfl)
theorem dX0_kindsThatFit_18 : decode cX0_kindsThatFit 18 = .ok (.iload 5, 2) := dk_21 5 (dk_at dksX0_kindsThatFit_0 18 rfl rfl)
theorem dX0_kindsThatFit_20 : decode cX0_kindsThatFit 20 = .ok (.bipush 7, 2) := dk_16 7 (dk_at dksX0_kindsThatFit_0 20 rfl rfl)
theorem dX0_kindsThatFit_22 : decode cX0_kindsThatFit 22 = .ok (.if_icmp .ge 44, 3) := dk_162 0 44 (dk_at dksX0_kindsThatFit_1 0 rfl rfl)
theorem dX0_kindsThatFit_25 : decode cX0_kindsThatFit 25 = .ok (.aload_n 0, 1) := dk_42 (dk_at dksX0_kindsThatFit_1 3 rfl rfl)
theorem dX0_kindsThatFit_26 : decode cX0_kindsThatFit 26 = .ok (.getfield 66, 3) := dk_180 0 66 (dk_at dksX0_kindsThatFit_1 4 rfl rfl)
theorem dX0_kindsThatFit_29 : decode cX0_kindsThatFit 29 = .ok (.getfield 101, 3) := dk_180 0 101 (dk_at dksX0_kindsThatFit_1 7 rfl rfl)
theorem dX0_kindsThatFit_32 : decode cX0_kindsThatFit 32 = .ok (.iconst 0, 1) := dk_3 (dk_at dksX0_kindsThatFit_1 10 rfl rfl)
theorem dX0_kindsThatFit_33 : decode cX0_kindsThatFit 33 = .ok (.aaload, 1) := dk_50 (dk_at dksX0_kindsThatFit_1 11 rfl rfl)
theorem dX0_kindsThatFit_34 : decode cX0_kindsThatFit 34 = .ok (.iload_n 2, 1) := dk_28 (dk_at dksX0_kindsThatFit_1 12 rfl rfl)
theorem dX0_kindsThatFit_35 : decode cX0_kindsThatFit 35 = .ok (.iload 5, 2) := dk_21 5 (dk_at dksX0_kindsThatFit_1 13 rfl rfl)
theorem dX0_kindsThatFit_37 : decode cX0_kindsThatFit 37 = .ok (.iastore, 1) := dk_79 (dk_at dksX0_kindsThatFit_1 15 rfl rfl)
theorem dX0_kindsThatFit_38 : decode cX0_kindsThatFit 38 = .ok (.iload 4, 2) := dk_21 4 (dk_at dksX0_kindsThatFit_1 16 rfl rfl)
theorem dX0_kindsThatFit_40 : decode cX0_kindsThatFit 40 = .ok (.aload_n 0, 1) := dk_42 (dk_at dksX0_kindsThatFit_1 18 rfl rfl)
theorem dX0_kindsThatFit_41 : decode cX0_kindsThatFit 41 = .ok (.aload_n 1, 1) := dk_43 (dk_at dksX0_kindsThatFit_1 19 rfl rfl)
theorem dX0_kindsThatFit_42 : decode cX0_kindsThatFit 42 = .ok (.iload_n 2, 1) := dk_28 (dk_at dksX0_kindsThatFit_1 20 rfl rfl)
theorem dX0_kindsThatFit_43 : decode cX0_kindsThatFit 43 = .ok (.invokevirtual 306, 3) := dk_182 1 50 (dk_at dksX0_kindsThatFit_1 21 rfl rfl)
theorem dX0_kindsThatFit_46 : decode cX0_kindsThatFit 46 = .ok (.ifCond .eq 10, 3) := dk_153 0 10 (dk_at dksX0_kindsThatFit_2 0 rfl rfl)
theorem dX0_kindsThatFit_49 : decode cX0_kindsThatFit 49 = .ok (.iconst 1, 1) := dk_4 (dk_at dksX0_kindsThatFit_2 3 rfl rfl)
theorem dX0_kindsThatFit_50 : decode cX0_kindsThatFit 50 = .ok (.iload 5, 2) := dk_21 5 (dk_at dksX0_kindsThatFit_2 4 rfl rfl)
theorem dX0_kindsThatFit_52 : decode cX0_kindsThatFit 52 = .ok (.ishl, 1) := dk_120 (dk_at dksX0_kindsThatFit_2 6 rfl rfl)
theorem dX0_kindsThatFit_53 : decode cX0_kindsThatFit 53 = .ok (.goto 4, 3) := dk_167 0 4 (dk_at dksX0_kindsThatFit_2 7 rfl rfl)
theorem dX0_kindsThatFit_56 : decode cX0_kindsThatFit 56 = .ok (.iconst 0, 1) := dk_3 (dk_at dksX0_kindsThatFit_2 10 rfl rfl)
theorem dX0_kindsThatFit_57 : decode cX0_kindsThatFit 57 = .ok (.ior, 1) := dk_128 (dk_at dksX0_kindsThatFit_2 11 rfl rfl)
theorem dX0_kindsThatFit_58 : decode cX0_kindsThatFit 58 = .ok (.istore 4, 2) := dk_54 4 (dk_at dksX0_kindsThatFit_2 12 rfl rfl)
theorem dX0_kindsThatFit_60 : decode cX0_kindsThatFit 60 = .ok (.iinc 5 1, 3) := dk_132 5 1 (dk_at dksX0_kindsThatFit_2 14 rfl rfl)
theorem dX0_kindsThatFit_63 : decode cX0_kindsThatFit 63 = .ok (.goto (-45), 3) := dk_167 255 211 (dk_at dksX0_kindsThatFit_2 17 rfl rfl)
theorem dX0_kindsThatFit_66 : decode cX0_kindsThatFit 66 = .ok (.aload_n 0, 1) := dk_42 (dk_at dksX0_kindsThatFit_2 20 rfl rfl)
theorem dX0_kindsThatFit_67 : decode cX0_kindsThatFit 67 = .ok (.getfield 66, 3) := dk_180 0 66 (dk_at dksX0_kindsThatFit_2 21 rfl rfl)
theorem dX0_kindsThatFit_70 : decode cX0_kindsThatFit 70 = .ok (.getfield 101, 3) := dk_180 0 101 (dk_at dksX0_kindsThatFit_3 0 rfl rfl)
theorem dX0_kindsThatFit_73 : decode cX0_kindsThatFit 73 = .ok (.iconst 0, 1) := dk_3 (dk_at dksX0_kindsThatFit_3 3 rfl rfl)
theorem dX0_kindsThatFit_74 : decode cX0_kindsThatFit 74 = .ok (.aaload, 1) := dk_50 (dk_at dksX0_kindsThatFit_3 4 rfl rfl)
theorem dX0_kindsThatFit_75 : decode cX0_kindsThatFit 75 = .ok (.iload_n 2, 1) := dk_28 (dk_at dksX0_kindsThatFit_3 5 rfl rfl)
theorem dX0_kindsThatFit_76 : decode cX0_kindsThatFit 76 = .ok (.iload_n 3, 1) := dk_29 (dk_at dksX0_kindsThatFit_3 6 rfl rfl)
theorem dX0_kindsThatFit_77 : decode cX0_kindsThatFit 77 = .ok (.iastore, 1) := dk_79 (dk_at dksX0_kindsThatFit_3 7 rfl rfl)
theorem dX0_kindsThatFit_78 : decode cX0_kindsThatFit 78 = .ok (.iload 4, 2) := dk_21 4 (dk_at dksX0_kindsThatFit_3 8 rfl rfl)
theorem dX0_kindsThatFit_80 : decode cX0_kindsThatFit 80 = .ok (.ireturn, 1) := dk_172 (dk_at dksX0_kindsThatFit_3 10 rfl rfl)
abbrev cX0_storms : ByteArray := prog_1_method_73_code
def yX0_storms : MethodName := ⟨RX0, "storms", "(I)I"⟩
def dkwX0_storms_1 : List UInt8 := [153, 0, 11, 42, 7, 182, 0, 116, 167, 0, 8, 42, 27, 182, 1, 70, 172]
abbrev dktX0_storms_1 : List UInt8 := dkwX0_storms_1 ++ []
def dkwX0_storms_0 : List UInt8 := [27, 4, 16, 20, 184, 0, 9, 154, 0, 9, 42, 3, 182, 0, 116, 172, 42, 180, 0, 66, 27, 182, 0, 200]
abbrev dktX0_storms_0 : List UInt8 := dkwX0_storms_0 ++ dktX0_storms_1
theorem dksX0_storms_0 : cX0_storms.data.toList.drop 0 = dktX0_storms_0 := by decide +kernel
theorem dksX0_storms_1 : cX0_storms.data.toList.drop 24 = dktX0_storms_1 := dk_seg dksX0_storms_0 24 rfl rfl
theorem dX0_storms_0 : decode cX0_storms 0 = .ok (.iload_n 1, 1) := dk_27 (dk_at dksX0_storms_0 0 rfl rfl)
theorem dX0_storms_1 : decode cX0_storms 1 = .ok (.iconst 1, 1) := dk_4 (dk_at dksX0_storms_0 1 rfl rfl)
theorem dX0_storms_2 : decode cX0_storms 2 = .ok (.bipush 20, 2) := dk_16 20 (dk_at dksX0_storms_0 2 rfl rfl)
theorem dX0_storms_4 : decode cX0_storms 4 = .ok (.invokestatic 9, 3) := dk_184 0 9 (dk_at dksX0_storms_0 4 rfl rfl)
theorem dX0_storms_7 : decode cX0_storms 7 = .ok (.ifCond .ne 9, 3) := dk_154 0 9 (dk_at dksX0_storms_0 7 rfl rfl)
theorem dX0_storms_10 : decode cX0_storms 10 = .ok (.aload_n 0, 1) := dk_42 (dk_at dksX0_storms_0 10 rfl rfl)
theorem dX0_storms_11 : decode cX0_storms 11 = .ok (.iconst 0, 1) := dk_3 (dk_at dksX0_storms_0 11 rfl rfl)
theorem dX0_storms_12 : decode cX0_storms 12 = .ok (.invokevirtual 116, 3) := dk_182 0 116 (dk_at dksX0_storms_0 12 rfl rfl)
theorem dX0_storms_15 : decode cX0_storms 15 = .ok (.ireturn, 1) := dk_172 (dk_at dksX0_storms_0 15 rfl rfl)
theorem dX0_storms_16 : decode cX0_storms 16 = .ok (.aload_n 0, 1) := dk_42 (dk_at dksX0_storms_0 16 rfl rfl)
theorem dX0_storms_17 : decode cX0_storms 17 = .ok (.getfield 66, 3) := dk_180 0 66 (dk_at dksX0_storms_0 17 rfl rfl)
theorem dX0_storms_20 : decode cX0_storms 20 = .ok (.iload_n 1, 1) := dk_27 (dk_at dksX0_storms_0 20 rfl rfl)
theorem dX0_storms_21 : decode cX0_storms 21 = .ok (.invokevirtual 200, 3) := dk_182 0 200 (dk_at dksX0_storms_0 21 rfl rfl)
theorem dX0_storms_24 : decode cX0_storms 24 = .ok (.ifCond .eq 11, 3) := dk_153 0 11 (dk_at dksX0_storms_1 0 rfl rfl)
theorem dX0_storms_27 : decode cX0_storms 27 = .ok (.aload_n 0, 1) := dk_42 (dk_at dksX0_storms_1 3 rfl rfl)
theorem dX0_storms_28 : decode cX0_storms 28 = .ok (.iconst 4, 1) := dk_7 (dk_at dksX0_storms_1 4 rfl rfl)
theorem dX0_storms_29 : decode cX0_storms 29 = .ok (.invokevirtual 116, 3) := dk_182 0 116 (dk_at dksX0_storms_1 5 rfl rfl)
theorem dX0_storms_32 : decode cX0_storms 32 = .ok (.goto 8, 3) := dk_167 0 8 (dk_at dksX0_storms_1 8 rfl rfl)
theorem dX0_storms_35 : decode cX0_storms 35 = .ok (.aload_n 0, 1) := dk_42 (dk_at dksX0_storms_1 11 rfl rfl)
theorem dX0_storms_36 : decode cX0_storms 36 = .ok (.iload_n 1, 1) := dk_27 (dk_at dksX0_storms_1 12 rfl rfl)
theorem dX0_storms_37 : decode cX0_storms 37 = .ok (.invokevirtual 326, 3) := dk_182 1 70 (dk_at dksX0_storms_1 13 rfl rfl)
theorem dX0_storms_40 : decode cX0_storms 40 = .ok (.ireturn, 1) := dk_172 (dk_at dksX0_storms_1 16 rfl rfl)
abbrev cX0_stormed : ByteArray := prog_1_method_72_code
def yX0_stormed : MethodName := ⟨RX0, "stormed", "(I)I"⟩
def dkwX0_stormed_2 : List UInt8 := [167, 255, 214, 42, 180, 0, 66, 180, 0, 197, 172]
abbrev dktX0_stormed_2 : List UInt8 := dkwX0_stormed_2 ++ []
def dkwX0_stormed_1 : List UInt8 := [180, 0, 162, 29, 42, 180, 0, 66, 182, 1, 67, 16, 100, 112, 79, 42, 182, 0, 156, 132, 2, 1]
abbrev dktX0_stormed_1 : List UInt8 := dkwX0_stormed_1 ++ dktX0_stormed_2
def dkwX0_stormed_0 : List UInt8 := [3, 61, 28, 27, 162, 0, 43, 42, 180, 0, 66, 182, 1, 67, 16, 6, 112, 62, 42, 180, 0, 66]
abbrev dktX0_stormed_0 : List UInt8 := dkwX0_stormed_0 ++ dktX0_stormed_1
theorem dksX0_stormed_0 : cX0_stormed.data.toList.drop 0 = dktX0_stormed_0 := by decide +kernel
theorem dksX0_stormed_1 : cX0_stormed.data.toList.drop 22 = dktX0_stormed_1 := dk_seg dksX0_stormed_0 22 rfl rfl
theorem dksX0_stormed_2 : cX0_stormed.data.toList.drop 44 = dktX0_stormed_2 := dk_seg dksX0_stormed_1 22 rfl rfl
theorem dX0_stormed_0 : decode cX0_stormed 0 = .ok (.iconst 0, 1) := dk_3 (dk_at dksX0_stormed_0 0 rfl rfl)
theorem dX0_stormed_1 : decode cX0_stormed 1 = .ok (.istore_n 2, 1) := dk_61 (dk_at dksX0_stormed_0 1 rfl rfl)
theorem dX0_stormed_2 : decode cX0_stormed 2 = .ok (.iload_n 2, 1) := dk_28 (dk_at dksX0_stormed_0 2 rfl rfl)
theorem dX0_stormed_3 : decode cX0_stormed 3 = .ok (.iload_n 1, 1) := dk_27 (dk_at dksX0_stormed_0 3 rfl rfl)
theorem dX0_stormed_4 : decode cX0_stormed 4 = .ok (.if_icmp .ge 43, 3) := dk_162 0 43 (dk_at dksX0_stormed_0 4 rfl rfl)
theorem dX0_stormed_7 : decode cX0_stormed 7 = .ok (.aload_n 0, 1) := dk_42 (dk_at dksX0_stormed_0 7 rfl rfl)
theorem dX0_stormed_8 : decode cX0_stormed 8 = .ok (.getfield 66, 3) := dk_180 0 66 (dk_at dksX0_stormed_0 8 rfl rfl)
theorem dX0_stormed_11 : decode cX0_stormed 11 = .ok (.invokevirtual 323, 3) := dk_182 1 67 (dk_at dksX0_stormed_0 11 rfl rfl)
theorem dX0_stormed_14 : decode cX0_stormed 14 = .ok (.bipush 6, 2) := dk_16 6 (dk_at dksX0_stormed_0 14 rfl rfl)
theorem dX0_stormed_16 : decode cX0_stormed 16 = .ok (.irem, 1) := dk_112 (dk_at dksX0_stormed_0 16 rfl rfl)
theorem dX0_stormed_17 : decode cX0_stormed 17 = .ok (.istore_n 3, 1) := dk_62 (dk_at dksX0_stormed_0 17 rfl rfl)
theorem dX0_stormed_18 : decode cX0_stormed 18 = .ok (.aload_n 0, 1) := dk_42 (dk_at dksX0_stormed_0 18 rfl rfl)
theorem dX0_stormed_19 : decode cX0_stormed 19 = .ok (.getfield 66, 3) := dk_180 0 66 (dk_at dksX0_stormed_0 19 rfl rfl)
theorem dX0_stormed_22 : decode cX0_stormed 22 = .ok (.getfield 162, 3) := dk_180 0 162 (dk_at dksX0_stormed_1 0 rfl rfl)
theorem dX0_stormed_25 : decode cX0_stormed 25 = .ok (.iload_n 3, 1) := dk_29 (dk_at dksX0_stormed_1 3 rfl rfl)
theorem dX0_stormed_26 : decode cX0_stormed 26 = .ok (.aload_n 0, 1) := dk_42 (dk_at dksX0_stormed_1 4 rfl rfl)
theorem dX0_stormed_27 : decode cX0_stormed 27 = .ok (.getfield 66, 3) := dk_180 0 66 (dk_at dksX0_stormed_1 5 rfl rfl)
theorem dX0_stormed_30 : decode cX0_stormed 30 = .ok (.invokevirtual 323, 3) := dk_182 1 67 (dk_at dksX0_stormed_1 8 rfl rfl)
theorem dX0_stormed_33 : decode cX0_stormed 33 = .ok (.bipush 100, 2) := dk_16 100 (dk_at dksX0_stormed_1 11 rfl rfl)
theorem dX0_stormed_35 : decode cX0_stormed 35 = .ok (.irem, 1) := dk_112 (dk_at dksX0_stormed_1 13 rfl rfl)
theorem dX0_stormed_36 : decode cX0_stormed 36 = .ok (.iastore, 1) := dk_79 (dk_at dksX0_stormed_1 14 rfl rfl)
theorem dX0_stormed_37 : decode cX0_stormed 37 = .ok (.aload_n 0, 1) := dk_42 (dk_at dksX0_stormed_1 15 rfl rfl)
theorem dX0_stormed_38 : decode cX0_stormed 38 = .ok (.invokevirtual 156, 3) := dk_182 0 156 (dk_at dksX0_stormed_1 16 rfl rfl)
theorem dX0_stormed_41 : decode cX0_stormed 41 = .ok (.iinc 2 1, 3) := dk_132 2 1 (dk_at dksX0_stormed_1 19 rfl rfl)
theorem dX0_stormed_44 : decode cX0_stormed 44 = .ok (.goto (-42), 3) := dk_167 255 214 (dk_at dksX0_stormed_2 0 rfl rfl)
theorem dX0_stormed_47 : decode cX0_stormed 47 = .ok (.aload_n 0, 1) := dk_42 (dk_at dksX0_stormed_2 3 rfl rfl)
theorem dX0_stormed_48 : decode cX0_stormed 48 = .ok (.getfield 66, 3) := dk_180 0 66 (dk_at dksX0_stormed_2 4 rfl rfl)
theorem dX0_stormed_51 : decode cX0_stormed 51 = .ok (.getfield 197, 3) := dk_180 0 197 (dk_at dksX0_stormed_2 7 rfl rfl)
theorem dX0_stormed_54 : decode cX0_stormed 54 = .ok (.ireturn, 1) := dk_172 (dk_at dksX0_stormed_2 10 rfl rfl)
abbrev cX0_odds : ByteArray := prog_1_method_75_code
def yX0_odds : MethodName := ⟨RX0, "odds", "(II)J"⟩
def dkwX0_odds_3 : List UInt8 := [162, 0, 17, 22, 6, 21, 5, 133, 105, 55, 6, 132, 8, 1, 167, 255, 239, 22, 6, 173]
abbrev dktX0_odds_3 : List UInt8 := dkwX0_odds_3 ++ []
def dkwX0_odds_2 : List UInt8 := [28, 154, 0, 7, 29, 167, 0, 5, 16, 6, 21, 4, 108, 54, 5, 10, 55, 6, 3, 54, 8, 21, 8, 27]
abbrev dktX0_odds_2 : List UInt8 := dkwX0_odds_2 ++ dktX0_odds_3
def dkwX0_odds_1 : List UInt8 := [133, 173, 16, 6, 42, 180, 0, 66, 182, 0, 224, 184, 1, 16, 100, 62, 29, 16, 6, 184, 1, 73, 54, 4]
abbrev dktX0_odds_1 : List UInt8 := dkwX0_odds_1 ++ dktX0_odds_2
def dkwX0_odds_0 : List UInt8 := [27, 3, 16, 23, 184, 0, 9, 153, 0, 12, 28, 3, 4, 184, 0, 9, 154, 0, 10, 42, 3, 182, 0, 116]
abbrev dktX0_odds_0 : List UInt8 := dkwX0_odds_0 ++ dktX0_odds_1
theorem dksX0_odds_0 : cX0_odds.data.toList.drop 0 = dktX0_odds_0 := by decide +kernel
theorem dksX0_odds_1 : cX0_odds.data.toList.drop 24 = dktX0_odds_1 := dk_seg dksX0_odds_0 24 rfl rfl
theorem dksX0_odds_2 : cX0_odds.data.toList.drop 48 = dktX0_odds_2 := dk_seg dksX0_odds_1 24 rfl rfl
theorem dksX0_odds_3 : cX0_odds.data.toList.drop 72 = dktX0_odds_3 := dk_seg dksX0_odds_2 24 rfl rfl
theorem dX0_odds_0 : decode cX0_odds 0 = .ok (.iload_n 1, 1) := dk_27 (dk_at dksX0_odds_0 0 rfl rfl)
theorem dX0_odds_1 : decode cX0_odds 1 = .ok (.iconst 0, 1) := dk_3 (dk_at dksX0_odds_0 1 rfl rfl)
theorem dX0_odds_2 : decode cX0_odds 2 = .ok (.bipush 23, 2) := dk_16 23 (dk_at dksX0_odds_0 2 rfl rfl)
theorem dX0_odds_4 : decode cX0_odds 4 = .ok (.invokestatic 9, 3) := dk_184 0 9 (dk_at dksX0_odds_0 4 rfl rfl)
theorem dX0_odds_7 : decode cX0_odds 7 = .ok (.ifCond .eq 12, 3) := dk_153 0 12 (dk_at dksX0_odds_0 7 rfl rfl)
theorem dX0_odds_10 : decode cX0_odds 10 = .ok (.iload_n 2, 1) := dk_28 (dk_at dksX0_odds_0 10 rfl rfl)
theorem dX0_odds_11 : decode cX0_odds 11 = .ok (.iconst 0, 1) := dk_3 (dk_at dksX0_odds_0 11 rfl rfl)
theorem dX0_odds_12 : decode cX0_odds 12 = .ok (.iconst 1, 1) := dk_4 (dk_at dksX0_odds_0 12 rfl rfl)
theorem dX0_odds_13 : decode cX0_odds 13 = .ok (.invokestatic 9, 3) := dk_184 0 9 (dk_at dksX0_odds_0 13 rfl rfl)
theorem dX0_odds_16 : decode cX0_odds 16 = .ok (.ifCond .ne 10, 3) := dk_154 0 10 (dk_at dksX0_odds_0 16 rfl rfl)
theorem dX0_odds_19 : decode cX0_odds 19 = .ok (.aload_n 0, 1) := dk_42 (dk_at dksX0_odds_0 19 rfl rfl)
theorem dX0_odds_20 : decode cX0_odds 20 = .ok (.iconst 0, 1) := dk_3 (dk_at dksX0_odds_0 20 rfl rfl)
theorem dX0_odds_21 : decode cX0_odds 21 = .ok (.invokevirtual 116, 3) := dk_182 0 116 (dk_at dksX0_odds_0 21 rfl rfl)
theorem dX0_odds_24 : decode cX0_odds 24 = .ok (.i2l, 1) := dk_133 (dk_at dksX0_odds_1 0 rfl rfl)
theorem dX0_odds_25 : decode cX0_odds 25 = .ok (.lreturn, 1) := dk_173 (dk_at dksX0_odds_1 1 rfl rfl)
theorem dX0_odds_26 : decode cX0_odds 26 = .ok (.bipush 6, 2) := dk_16 6 (dk_at dksX0_odds_1 2 rfl rfl)
theorem dX0_odds_28 : decode cX0_odds 28 = .ok (.aload_n 0, 1) := dk_42 (dk_at dksX0_odds_1 4 rfl rfl)
theorem dX0_odds_29 : decode cX0_odds 29 = .ok (.getfield 66, 3) := dk_180 0 66 (dk_at dksX0_odds_1 5 rfl rfl)
theorem dX0_odds_32 : decode cX0_odds 32 = .ok (.invokevirtual 224, 3) := dk_182 0 224 (dk_at dksX0_odds_1 8 rfl rfl)
theorem dX0_odds_35 : decode cX0_odds 35 = .ok (.invokestatic 272, 3) := dk_184 1 16 (dk_at dksX0_odds_1 11 rfl rfl)
theorem dX0_odds_38 : decode cX0_odds 38 = .ok (.isub, 1) := dk_100 (dk_at dksX0_odds_1 14 rfl rfl)
theorem dX0_odds_39 : decode cX0_odds 39 = .ok (.istore_n 3, 1) := dk_62 (dk_at dksX0_odds_1 15 rfl rfl)
theorem dX0_odds_40 : decode cX0_odds 40 = .ok (.iload_n 3, 1) := dk_29 (dk_at dksX0_odds_1 16 rfl rfl)
theorem dX0_odds_41 : decode cX0_odds 41 = .ok (.bipush 6, 2) := dk_16 6 (dk_at dksX0_odds_1 17 rfl rfl)
theorem dX0_odds_43 : decode cX0_odds 43 = .ok (.invokestatic 329, 3) := dk_184 1 73 (dk_at dksX0_odds_1 19 rfl rfl)
theorem dX0_odds_46 : decode cX0_odds 46 = .ok (.istore 4, 2) := dk_54 4 (dk_at dksX0_odds_1 22 rfl rfl)
theorem dX0_odds_48 : decode cX0_odds 48 = .ok (.iload_n 2, 1) := dk_28 (dk_at dksX0_odds_2 0 rfl rfl)
theorem dX0_odds_49 : decode cX0_odds 49 = .ok (.ifCond .ne 7, 3) := dk_154 0 7 (dk_at dksX0_odds_2 1 rfl rfl)
theorem dX0_odds_52 : decode cX0_odds 52 = .ok (.iload_n 3, 1) := dk_29 (dk_at dksX0_odds_2 4 rfl rfl)
theorem dX0_odds_53 : decode cX0_odds 53 = .ok (.goto 5, 3) := dk_167 0 5 (dk_at dksX0_odds_2 5 rfl rfl)
theorem dX0_odds_56 : decode cX0_odds 56 = .ok (.bipush 6, 2) := dk_16 6 (dk_at dksX0_odds_2 8 rfl rfl)
theorem dX0_odds_58 : decode cX0_odds 58 = .ok (.iload 4, 2) := dk_21 4 (dk_at dksX0_odds_2 10 rfl rfl)
theorem dX0_odds_60 : decode cX0_odds 60 = .ok (.idiv, 1) := dk_108 (dk_at dksX0_odds_2 12 rfl rfl)
theorem dX0_odds_61 : decode cX0_odds 61 = .ok (.istore 5, 2) := dk_54 5 (dk_at dksX0_odds_2 13 rfl rfl)
theorem dX0_odds_63 : decode cX0_odds 63 = .ok (.lconst 1, 1) := dk_10 (dk_at dksX0_odds_2 15 rfl rfl)
theorem dX0_odds_64 : decode cX0_odds 64 = .ok (.lstore 6, 2) := dk_55 6 (dk_at dksX0_odds_2 16 rfl rfl)
theorem dX0_odds_66 : decode cX0_odds 66 = .ok (.iconst 0, 1) := dk_3 (dk_at dksX0_odds_2 18 rfl rfl)
theorem dX0_odds_67 : decode cX0_odds 67 = .ok (.istore 8, 2) := dk_54 8 (dk_at dksX0_odds_2 19 rfl rfl)
theorem dX0_odds_69 : decode cX0_odds 69 = .ok (.iload 8, 2) := dk_21 8 (dk_at dksX0_odds_2 21 rfl rfl)
theorem dX0_odds_71 : decode cX0_odds 71 = .ok (.iload_n 1, 1) := dk_27 (dk_at dksX0_odds_2 23 rfl rfl)
theorem dX0_odds_72 : decode cX0_odds 72 = .ok (.if_icmp .ge 17, 3) := dk_162 0 17 (dk_at dksX0_odds_3 0 rfl rfl)
theorem dX0_odds_75 : decode cX0_odds 75 = .ok (.lload 6, 2) := dk_22 6 (dk_at dksX0_odds_3 3 rfl rfl)
theorem dX0_odds_77 : decode cX0_odds 77 = .ok (.iload 5, 2) := dk_21 5 (dk_at dksX0_odds_3 5 rfl rfl)
theorem dX0_odds_79 : decode cX0_odds 79 = .ok (.i2l, 1) := dk_133 (dk_at dksX0_odds_3 7 rfl rfl)
theorem dX0_odds_80 : decode cX0_odds 80 = .ok (.lmul, 1) := dk_105 (dk_at dksX0_odds_3 8 rfl rfl)
theorem dX0_odds_81 : decode cX0_odds 81 = .ok (.lstore 6, 2) := dk_55 6 (dk_at dksX0_odds_3 9 rfl rfl)
theorem dX0_odds_83 : decode cX0_odds 83 = .ok (.iinc 8 1, 3) := dk_132 8 1 (dk_at dksX0_odds_3 11 rfl rfl)
theorem dX0_odds_86 : decode cX0_odds 86 = .ok (.goto (-17), 3) := dk_167 255 239 (dk_at dksX0_odds_3 14 rfl rfl)
theorem dX0_odds_89 : decode cX0_odds 89 = .ok (.lload 6, 2) := dk_22 6 (dk_at dksX0_odds_3 17 rfl rfl)
theorem dX0_odds_91 : decode cX0_odds 91 = .ok (.lreturn, 1) := dk_173 (dk_at dksX0_odds_3 19 rfl rfl)
abbrev cX0_divisor : ByteArray := prog_1_method_74_code
def yX0_divisor : MethodName := ⟨RX0, "divisor", "(II)I"⟩
def dkwX0_divisor_0 : List UInt8 := [26, 61, 27, 62, 29, 153, 0, 16, 28, 29, 112, 54, 4, 29, 61, 21, 4, 62, 167, 255, 242, 28, 172]
abbrev dktX0_divisor_0 : List UInt8 := dkwX0_divisor_0 ++ []
theorem dksX0_divisor_0 : cX0_divisor.data.toList.drop 0 = dktX0_divisor_0 := by decide +kernel
theorem dX0_divisor_0 : decode cX0_divisor 0 = .ok (.iload_n 0, 1) := dk_26 (dk_at dksX0_divisor_0 0 rfl rfl)
theorem dX0_divisor_1 : decode cX0_divisor 1 = .ok (.istore_n 2, 1) := dk_61 (dk_at dksX0_divisor_0 1 rfl rfl)
theorem dX0_divisor_2 : decode cX0_divisor 2 = .ok (.iload_n 1, 1) := dk_27 (dk_at dksX0_divisor_0 2 rfl rfl)
theorem dX0_divisor_3 : decode cX0_divisor 3 = .ok (.istore_n 3, 1) := dk_62 (dk_at dksX0_divisor_0 3 rfl rfl)
theorem dX0_divisor_4 : decode cX0_divisor 4 = .ok (.iload_n 3, 1) := dk_29 (dk_at dksX0_divisor_0 4 rfl rfl)
theorem dX0_divisor_5 : decode cX0_divisor 5 = .ok (.ifCond .eq 16, 3) := dk_153 0 16 (dk_at dksX0_divisor_0 5 rfl rfl)
theorem dX0_divisor_8 : decode cX0_divisor 8 = .ok (.iload_n 2, 1) := dk_28 (dk_at dksX0_divisor_0 8 rfl rfl)
theorem dX0_divisor_9 : decode cX0_divisor 9 = .ok (.iload_n 3, 1) := dk_29 (dk_at dksX0_divisor_0 9 rfl rfl)
theorem dX0_divisor_10 : decode cX0_divisor 10 = .ok (.irem, 1) := dk_112 (dk_at dksX0_divisor_0 10 rfl rfl)
theorem dX0_divisor_11 : decode cX0_divisor 11 = .ok (.istore 4, 2) := dk_54 4 (dk_at dksX0_divisor_0 11 rfl rfl)
theorem dX0_divisor_13 : decode cX0_divisor 13 = .ok (.iload_n 3, 1) := dk_29 (dk_at dksX0_divisor_0 13 rfl rfl)
theorem dX0_divisor_14 : decode cX0_divisor 14 = .ok (.istore_n 2, 1) := dk_61 (dk_at dksX0_divisor_0 14 rfl rfl)
theorem dX0_divisor_15 : decode cX0_divisor 15 = .ok (.iload 4, 2) := dk_21 4 (dk_at dksX0_divisor_0 15 rfl rfl)
theorem dX0_divisor_17 : decode cX0_divisor 17 = .ok (.istore_n 3, 1) := dk_62 (dk_at dksX0_divisor_0 17 rfl rfl)
theorem dX0_divisor_18 : decode cX0_divisor 18 = .ok (.goto (-14), 3) := dk_167 255 242 (dk_at dksX0_divisor_0 18 rfl rfl)
theorem dX0_divisor_21 : decode cX0_divisor 21 = .ok (.iload_n 2, 1) := dk_28 (dk_at dksX0_divisor_0 21 rfl rfl)
theorem dX0_divisor_22 : decode cX0_divisor 22 = .ok (.ireturn, 1) := dk_172 (dk_at dksX0_divisor_0 22 rfl rfl)
abbrev cX0_seed : ByteArray := prog_1_method_76_code
def yX0_seed : MethodName := ⟨RX0, "seed", "(I)I"⟩
def dkwX0_seed_0 : List UInt8 := [42, 180, 0, 66, 180, 1, 76, 61, 42, 180, 0, 66, 27, 181, 1, 76, 28, 172]
abbrev dktX0_seed_0 : List UInt8 := dkwX0_seed_0 ++ []
theorem dksX0_seed_0 : cX0_seed.data.toList.drop 0 = dktX0_seed_0 := by decide +kernel
theorem dX0_seed_0 : decode cX0_seed 0 = .ok (.aload_n 0, 1) := dk_42 (dk_at dksX0_seed_0 0 rfl rfl)
theorem dX0_seed_1 : decode cX0_seed 1 = .ok (.getfield 66, 3) := dk_180 0 66 (dk_at dksX0_seed_0 1 rfl rfl)
theorem dX0_seed_4 : decode cX0_seed 4 = .ok (.getfield 332, 3) := dk_180 1 76 (dk_at dksX0_seed_0 4 rfl rfl)
theorem dX0_seed_7 : decode cX0_seed 7 = .ok (.istore_n 2, 1) := dk_61 (dk_at dksX0_seed_0 7 rfl rfl)
theorem dX0_seed_8 : decode cX0_seed 8 = .ok (.aload_n 0, 1) := dk_42 (dk_at dksX0_seed_0 8 rfl rfl)
theorem dX0_seed_9 : decode cX0_seed 9 = .ok (.getfield 66, 3) := dk_180 0 66 (dk_at dksX0_seed_0 9 rfl rfl)
theorem dX0_seed_12 : decode cX0_seed 12 = .ok (.iload_n 1, 1) := dk_27 (dk_at dksX0_seed_0 12 rfl rfl)
theorem dX0_seed_13 : decode cX0_seed 13 = .ok (.putfield 332, 3) := dk_181 1 76 (dk_at dksX0_seed_0 13 rfl rfl)
theorem dX0_seed_16 : decode cX0_seed 16 = .ok (.iload_n 2, 1) := dk_28 (dk_at dksX0_seed_0 16 rfl rfl)
theorem dX0_seed_17 : decode cX0_seed 17 = .ok (.ireturn, 1) := dk_172 (dk_at dksX0_seed_0 17 rfl rfl)
abbrev cX0_feed : ByteArray := prog_1_method_77_code
def yX0_feed : MethodName := ⟨RX0, "feed", "(II)I"⟩
def dkwX0_feed_3 : List UInt8 := [132, 3, 255, 167, 255, 220, 42, 180, 1, 79, 172]
abbrev dktX0_feed_3 : List UInt8 := dkwX0_feed_3 ++ []
def dkwX0_feed_2 : List UInt8 := [42, 180, 1, 79, 27, 16, 8, 29, 104, 122, 145, 84, 42, 89, 180, 1, 79, 4, 96, 181, 1, 79]
abbrev dktX0_feed_2 : List UInt8 := dkwX0_feed_2 ++ dktX0_feed_3
def dkwX0_feed_1 : List UInt8 := [164, 0, 9, 42, 4, 182, 0, 116, 172, 28, 4, 100, 62, 29, 155, 0, 38, 42, 180, 0, 59, 180, 1, 82]
abbrev dktX0_feed_1 : List UInt8 := dkwX0_feed_1 ++ dktX0_feed_2
def dkwX0_feed_0 : List UInt8 := [28, 4, 7, 184, 0, 9, 154, 0, 9, 42, 3, 182, 0, 116, 172, 42, 180, 1, 79, 28, 96, 16, 120]
abbrev dktX0_feed_0 : List UInt8 := dkwX0_feed_0 ++ dktX0_feed_1
theorem dksX0_feed_0 : cX0_feed.data.toList.drop 0 = dktX0_feed_0 := by decide +kernel
theorem dksX0_feed_1 : cX0_feed.data.toList.drop 23 = dktX0_feed_1 := dk_seg dksX0_feed_0 23 rfl rfl
theorem dksX0_feed_2 : cX0_feed.data.toList.drop 47 = dktX0_feed_2 := dk_seg dksX0_feed_1 24 rfl rfl
theorem dksX0_feed_3 : cX0_feed.data.toList.drop 69 = dktX0_feed_3 := dk_seg dksX0_feed_2 22 rfl rfl
theorem dX0_feed_0 : decode cX0_feed 0 = .ok (.iload_n 2, 1) := dk_28 (dk_at dksX0_feed_0 0 rfl rfl)
theorem dX0_feed_1 : decode cX0_feed 1 = .ok (.iconst 1, 1) := dk_4 (dk_at dksX0_feed_0 1 rfl rfl)
theorem dX0_feed_2 : decode cX0_feed 2 = .ok (.iconst 4, 1) := dk_7 (dk_at dksX0_feed_0 2 rfl rfl)
theorem dX0_feed_3 : decode cX0_feed 3 = .ok (.invokestatic 9, 3) := dk_184 0 9 (dk_at dksX0_feed_0 3 rfl rfl)
theorem dX0_feed_6 : decode cX0_feed 6 = .ok (.ifCond .ne 9, 3) := dk_154 0 9 (dk_at dksX0_feed_0 6 rfl rfl)
theorem dX0_feed_9 : decode cX0_feed 9 = .ok (.aload_n 0, 1) := dk_42 (dk_at dksX0_feed_0 9 rfl rfl)
theorem dX0_feed_10 : decode cX0_feed 10 = .ok (.iconst 0, 1) := dk_3 (dk_at dksX0_feed_0 10 rfl rfl)
theorem dX0_feed_11 : decode cX0_feed 11 = .ok (.invokevirtual 116, 3) := dk_182 0 116 (dk_at dksX0_feed_0 11 rfl rfl)
theorem dX0_feed_14 : decode cX0_feed 14 = .ok (.ireturn, 1) := dk_172 (dk_at dksX0_feed_0 14 rfl rfl)
theorem dX0_feed_15 : decode cX0_feed 15 = .ok (.aload_n 0, 1) := dk_42 (dk_at dksX0_feed_0 15 rfl rfl)
theorem dX0_feed_16 : decode cX0_feed 16 = .ok (.getfield 335, 3) := dk_180 1 79 (dk_at dksX0_feed_0 16 rfl rfl)
theorem dX0_feed_19 : decode cX0_feed 19 = .ok (.iload_n 2, 1) := dk_28 (dk_at dksX0_feed_0 19 rfl rfl)
theorem dX0_feed_20 : decode cX0_feed 20 = .ok (.iadd, 1) := dk_96 (dk_at dksX0_feed_0 20 rfl rfl)
theorem dX0_feed_21 : decode cX0_feed 21 = .ok (.bipush 120, 2) := dk_16 120 (dk_at dksX0_feed_0 21 rfl rfl)
theorem dX0_feed_23 : decode cX0_feed 23 = .ok (.if_icmp .le 9, 3) := dk_164 0 9 (dk_at dksX0_feed_1 0 rfl rfl)
theorem dX0_feed_26 : decode cX0_feed 26 = .ok (.aload_n 0, 1) := dk_42 (dk_at dksX0_feed_1 3 rfl rfl)
theorem dX0_feed_27 : decode cX0_feed 27 = .ok (.iconst 1, 1) := dk_4 (dk_at dksX0_feed_1 4 rfl rfl)
theorem dX0_feed_28 : decode cX0_feed 28 = .ok (.invokevirtual 116, 3) := dk_182 0 116 (dk_at dksX0_feed_1 5 rfl rfl)
theorem dX0_feed_31 : decode cX0_feed 31 = .ok (.ireturn, 1) := dk_172 (dk_at dksX0_feed_1 8 rfl rfl)
theorem dX0_feed_32 : decode cX0_feed 32 = .ok (.iload_n 2, 1) := dk_28 (dk_at dksX0_feed_1 9 rfl rfl)
theorem dX0_feed_33 : decode cX0_feed 33 = .ok (.iconst 1, 1) := dk_4 (dk_at dksX0_feed_1 10 rfl rfl)
theorem dX0_feed_34 : decode cX0_feed 34 = .ok (.isub, 1) := dk_100 (dk_at dksX0_feed_1 11 rfl rfl)
theorem dX0_feed_35 : decode cX0_feed 35 = .ok (.istore_n 3, 1) := dk_62 (dk_at dksX0_feed_1 12 rfl rfl)
theorem dX0_feed_36 : decode cX0_feed 36 = .ok (.iload_n 3, 1) := dk_29 (dk_at dksX0_feed_1 13 rfl rfl)
theorem dX0_feed_37 : decode cX0_feed 37 = .ok (.ifCond .lt 38, 3) := dk_155 0 38 (dk_at dksX0_feed_1 14 rfl rfl)
theorem dX0_feed_40 : decode cX0_feed 40 = .ok (.aload_n 0, 1) := dk_42 (dk_at dksX0_feed_1 17 rfl rfl)
theorem dX0_feed_41 : decode cX0_feed 41 = .ok (.getfield 59, 3) := dk_180 0 59 (dk_at dksX0_feed_1 18 rfl rfl)
theorem dX0_feed_44 : decode cX0_feed 44 = .ok (.getfield 338, 3) := dk_180 1 82 (dk_at dksX0_feed_1 21 rfl rfl)
theorem dX0_feed_47 : decode cX0_feed 47 = .ok (.aload_n 0, 1) := dk_42 (dk_at dksX0_feed_2 0 rfl rfl)
theorem dX0_feed_48 : decode cX0_feed 48 = .ok (.getfield 335, 3) := dk_180 1 79 (dk_at dksX0_feed_2 1 rfl rfl)
theorem dX0_feed_51 : decode cX0_feed 51 = .ok (.iload_n 1, 1) := dk_27 (dk_at dksX0_feed_2 4 rfl rfl)
theorem dX0_feed_52 : decode cX0_feed 52 = .ok (.bipush 8, 2) := dk_16 8 (dk_at dksX0_feed_2 5 rfl rfl)
theorem dX0_feed_54 : decode cX0_feed 54 = .ok (.iload_n 3, 1) := dk_29 (dk_at dksX0_feed_2 7 rfl rfl)
theorem dX0_feed_55 : decode cX0_feed 55 = .ok (.imul, 1) := dk_104 (dk_at dksX0_feed_2 8 rfl rfl)
theorem dX0_feed_56 : decode cX0_feed 56 = .ok (.ishr, 1) := dk_122 (dk_at dksX0_feed_2 9 rfl rfl)
theorem dX0_feed_57 : decode cX0_feed 57 = .ok (.i2b, 1) := dk_145 (dk_at dksX0_feed_2 10 rfl rfl)
theorem dX0_feed_58 : decode cX0_feed 58 = .ok (.bastore, 1) := dk_84 (dk_at dksX0_feed_2 11 rfl rfl)
theorem dX0_feed_59 : decode cX0_feed 59 = .ok (.aload_n 0, 1) := dk_42 (dk_at dksX0_feed_2 12 rfl rfl)
theorem dX0_feed_60 : decode cX0_feed 60 = .ok (.dup, 1) := dk_89 (dk_at dksX0_feed_2 13 rfl rfl)
theorem dX0_feed_61 : decode cX0_feed 61 = .ok (.getfield 335, 3) := dk_180 1 79 (dk_at dksX0_feed_2 14 rfl rfl)
theorem dX0_feed_64 : decode cX0_feed 64 = .ok (.iconst 1, 1) := dk_4 (dk_at dksX0_feed_2 17 rfl rfl)
theorem dX0_feed_65 : decode cX0_feed 65 = .ok (.iadd, 1) := dk_96 (dk_at dksX0_feed_2 18 rfl rfl)
theorem dX0_feed_66 : decode cX0_feed 66 = .ok (.putfield 335, 3) := dk_181 1 79 (dk_at dksX0_feed_2 19 rfl rfl)
theorem dX0_feed_69 : decode cX0_feed 69 = .ok (.iinc 3 (-1), 3) := dk_132 3 255 (dk_at dksX0_feed_3 0 rfl rfl)
theorem dX0_feed_72 : decode cX0_feed 72 = .ok (.goto (-36), 3) := dk_167 255 220 (dk_at dksX0_feed_3 3 rfl rfl)
theorem dX0_feed_75 : decode cX0_feed 75 = .ok (.aload_n 0, 1) := dk_42 (dk_at dksX0_feed_3 6 rfl rfl)
theorem dX0_feed_76 : decode cX0_feed 76 = .ok (.getfield 335, 3) := dk_180 1 79 (dk_at dksX0_feed_3 7 rfl rfl)
theorem dX0_feed_79 : decode cX0_feed 79 = .ok (.ireturn, 1) := dk_172 (dk_at dksX0_feed_3 10 rfl rfl)
abbrev cX0_wipe : ByteArray := prog_1_method_78_code
def yX0_wipe : MethodName := ⟨RX0, "wipe", "()I"⟩
def dkwX0_wipe_0 : List UInt8 := [42, 180, 1, 79, 60, 42, 3, 181, 1, 79, 27, 172]
abbrev dktX0_wipe_0 : List UInt8 := dkwX0_wipe_0 ++ []
theorem dksX0_wipe_0 : cX0_wipe.data.toList.drop 0 = dktX0_wipe_0 := by decide +kernel
theorem dX0_wipe_0 : decode cX0_wipe 0 = .ok (.aload_n 0, 1) := dk_42 (dk_at dksX0_wipe_0 0 rfl rfl)
theorem dX0_wipe_1 : decode cX0_wipe 1 = .ok (.getfield 335, 3) := dk_180 1 79 (dk_at dksX0_wipe_0 1 rfl rfl)
theorem dX0_wipe_4 : decode cX0_wipe 4 = .ok (.istore_n 1, 1) := dk_60 (dk_at dksX0_wipe_0 4 rfl rfl)
theorem dX0_wipe_5 : decode cX0_wipe 5 = .ok (.aload_n 0, 1) := dk_42 (dk_at dksX0_wipe_0 5 rfl rfl)
theorem dX0_wipe_6 : decode cX0_wipe 6 = .ok (.iconst 0, 1) := dk_3 (dk_at dksX0_wipe_0 6 rfl rfl)
theorem dX0_wipe_7 : decode cX0_wipe 7 = .ok (.putfield 335, 3) := dk_181 1 79 (dk_at dksX0_wipe_0 7 rfl rfl)
theorem dX0_wipe_10 : decode cX0_wipe 10 = .ok (.iload_n 1, 1) := dk_27 (dk_at dksX0_wipe_0 10 rfl rfl)
theorem dX0_wipe_11 : decode cX0_wipe 11 = .ok (.ireturn, 1) := dk_172 (dk_at dksX0_wipe_0 11 rfl rfl)
abbrev cX0_text : ByteArray := prog_1_method_79_code
def yX0_text : MethodName := ⟨RX0, "text", "()I"⟩
def dkwX0_text_2 : List UInt8 := [180, 1, 88, 182, 0, 227, 27, 172, 76, 2, 42, 180, 0, 59, 180, 1, 96, 100, 172]
abbrev dktX0_text_2 : List UInt8 := dkwX0_text_2 ++ []
def dkwX0_text_1 : List UInt8 := [180, 0, 66, 182, 0, 227, 42, 180, 0, 59, 182, 1, 91, 60, 42, 180, 0, 66, 42, 180, 0, 59]
abbrev dktX0_text_1 : List UInt8 := dkwX0_text_1 ++ dktX0_text_2
def dkwX0_text_0 : List UInt8 := [42, 180, 0, 59, 42, 180, 1, 79, 181, 1, 86, 42, 3, 181, 1, 79, 42, 180, 0, 59, 180, 1, 88, 42]
abbrev dktX0_text_0 : List UInt8 := dkwX0_text_0 ++ dktX0_text_1
theorem dksX0_text_0 : cX0_text.data.toList.drop 0 = dktX0_text_0 := by decide +kernel
theorem dksX0_text_1 : cX0_text.data.toList.drop 24 = dktX0_text_1 := dk_seg dksX0_text_0 24 rfl rfl
theorem dksX0_text_2 : cX0_text.data.toList.drop 46 = dktX0_text_2 := dk_seg dksX0_text_1 22 rfl rfl
theorem dX0_text_0 : decode cX0_text 0 = .ok (.aload_n 0, 1) := dk_42 (dk_at dksX0_text_0 0 rfl rfl)
theorem dX0_text_1 : decode cX0_text 1 = .ok (.getfield 59, 3) := dk_180 0 59 (dk_at dksX0_text_0 1 rfl rfl)
theorem dX0_text_4 : decode cX0_text 4 = .ok (.aload_n 0, 1) := dk_42 (dk_at dksX0_text_0 4 rfl rfl)
theorem dX0_text_5 : decode cX0_text 5 = .ok (.getfield 335, 3) := dk_180 1 79 (dk_at dksX0_text_0 5 rfl rfl)
theorem dX0_text_8 : decode cX0_text 8 = .ok (.putfield 342, 3) := dk_181 1 86 (dk_at dksX0_text_0 8 rfl rfl)
theorem dX0_text_11 : decode cX0_text 11 = .ok (.aload_n 0, 1) := dk_42 (dk_at dksX0_text_0 11 rfl rfl)
theorem dX0_text_12 : decode cX0_text 12 = .ok (.iconst 0, 1) := dk_3 (dk_at dksX0_text_0 12 rfl rfl)
theorem dX0_text_13 : decode cX0_text 13 = .ok (.putfield 335, 3) := dk_181 1 79 (dk_at dksX0_text_0 13 rfl rfl)
theorem dX0_text_16 : decode cX0_text 16 = .ok (.aload_n 0, 1) := dk_42 (dk_at dksX0_text_0 16 rfl rfl)
theorem dX0_text_17 : decode cX0_text 17 = .ok (.getfield 59, 3) := dk_180 0 59 (dk_at dksX0_text_0 17 rfl rfl)
theorem dX0_text_20 : decode cX0_text 20 = .ok (.getfield 344, 3) := dk_180 1 88 (dk_at dksX0_text_0 20 rfl rfl)
theorem dX0_text_23 : decode cX0_text 23 = .ok (.aload_n 0, 1) := dk_42 (dk_at dksX0_text_0 23 rfl rfl)
theorem dX0_text_24 : decode cX0_text 24 = .ok (.getfield 66, 3) := dk_180 0 66 (dk_at dksX0_text_1 0 rfl rfl)
theorem dX0_text_27 : decode cX0_text 27 = .ok (.invokevirtual 227, 3) := dk_182 0 227 (dk_at dksX0_text_1 3 rfl rfl)
theorem dX0_text_30 : decode cX0_text 30 = .ok (.aload_n 0, 1) := dk_42 (dk_at dksX0_text_1 6 rfl rfl)
theorem dX0_text_31 : decode cX0_text 31 = .ok (.getfield 59, 3) := dk_180 0 59 (dk_at dksX0_text_1 7 rfl rfl)
theorem dX0_text_34 : decode cX0_text 34 = .ok (.invokevirtual 347, 3) := dk_182 1 91 (dk_at dksX0_text_1 10 rfl rfl)
theorem dX0_text_37 : decode cX0_text 37 = .ok (.istore_n 1, 1) := dk_60 (dk_at dksX0_text_1 13 rfl rfl)
theorem dX0_text_38 : decode cX0_text 38 = .ok (.aload_n 0, 1) := dk_42 (dk_at dksX0_text_1 14 rfl rfl)
theorem dX0_text_39 : decode cX0_text 39 = .ok (.getfield 66, 3) := dk_180 0 66 (dk_at dksX0_text_1 15 rfl rfl)
theorem dX0_text_42 : decode cX0_text 42 = .ok (.aload_n 0, 1) := dk_42 (dk_at dksX0_text_1 18 rfl rfl)
theorem dX0_text_43 : decode cX0_text 43 = .ok (.getfield 59, 3) := dk_180 0 59 (dk_at dksX0_text_1 19 rfl rfl)
theorem dX0_text_46 : decode cX0_text 46 = .ok (.getfield 344, 3) := dk_180 1 88 (dk_at dksX0_text_2 0 rfl rfl)
theorem dX0_text_49 : decode cX0_text 49 = .ok (.invokevirtual 227, 3) := dk_182 0 227 (dk_at dksX0_text_2 3 rfl rfl)
theorem dX0_text_52 : decode cX0_text 52 = .ok (.iload_n 1, 1) := dk_27 (dk_at dksX0_text_2 6 rfl rfl)
theorem dX0_text_53 : decode cX0_text 53 = .ok (.ireturn, 1) := dk_172 (dk_at dksX0_text_2 7 rfl rfl)
theorem dX0_text_54 : decode cX0_text 54 = .ok (.astore_n 1, 1) := dk_76 (dk_at dksX0_text_2 8 rfl rfl)
theorem dX0_text_55 : decode cX0_text 55 = .ok (.iconst (-1), 1) := dk_2 (dk_at dksX0_text_2 9 rfl rfl)
theorem dX0_text_56 : decode cX0_text 56 = .ok (.aload_n 0, 1) := dk_42 (dk_at dksX0_text_2 10 rfl rfl)
theorem dX0_text_57 : decode cX0_text 57 = .ok (.getfield 59, 3) := dk_180 0 59 (dk_at dksX0_text_2 11 rfl rfl)
theorem dX0_text_60 : decode cX0_text 60 = .ok (.getfield 352, 3) := dk_180 1 96 (dk_at dksX0_text_2 14 rfl rfl)
theorem dX0_text_63 : decode cX0_text 63 = .ok (.isub, 1) := dk_100 (dk_at dksX0_text_2 17 rfl rfl)
theorem dX0_text_64 : decode cX0_text 64 = .ok (.ireturn, 1) := dk_172 (dk_at dksX0_text_2 18 rfl rfl)
abbrev cX0_hold : ByteArray := prog_1_method_82_code
def yX0_hold : MethodName := ⟨RX0, "hold", "(II)I"⟩
def dkwX0_hold_1 : List UInt8 := [182, 0, 116, 172, 42, 180, 0, 66, 180, 1, 99, 27, 28, 79, 4, 172]
abbrev dktX0_hold_1 : List UInt8 := dkwX0_hold_1 ++ []
def dkwX0_hold_0 : List UInt8 := [27, 184, 1, 102, 153, 0, 16, 28, 2, 159, 0, 17, 42, 28, 182, 0, 177, 154, 0, 9, 42, 3]
abbrev dktX0_hold_0 : List UInt8 := dkwX0_hold_0 ++ dktX0_hold_1
theorem dksX0_hold_0 : cX0_hold.data.toList.drop 0 = dktX0_hold_0 := by decide +kernel
theorem dksX0_hold_1 : cX0_hold.data.toList.drop 22 = dktX0_hold_1 := dk_seg dksX0_hold_0 22 rfl rfl
theorem dX0_hold_0 : decode cX0_hold 0 = .ok (.iload_n 1, 1) := dk_27 (dk_at dksX0_hold_0 0 rfl rfl)
theorem dX0_hold_1 : decode cX0_hold 1 = .ok (.invokestatic 358, 3) := dk_184 1 102 (dk_at dksX0_hold_0 1 rfl rfl)
theorem dX0_hold_4 : decode cX0_hold 4 = .ok (.ifCond .eq 16, 3) := dk_153 0 16 (dk_at dksX0_hold_0 4 rfl rfl)
theorem dX0_hold_7 : decode cX0_hold 7 = .ok (.iload_n 2, 1) := dk_28 (dk_at dksX0_hold_0 7 rfl rfl)
theorem dX0_hold_8 : decode cX0_hold 8 = .ok (.iconst (-1), 1) := dk_2 (dk_at dksX0_hold_0 8 rfl rfl)
theorem dX0_hold_9 : decode cX0_hold 9 = .ok (.if_icmp .eq 17, 3) := dk_159 0 17 (dk_at dksX0_hold_0 9 rfl rfl)
theorem dX0_hold_12 : decode cX0_hold 12 = .ok (.aload_n 0, 1) := dk_42 (dk_at dksX0_hold_0 12 rfl rfl)
theorem dX0_hold_13 : decode cX0_hold 13 = .ok (.iload_n 2, 1) := dk_28 (dk_at dksX0_hold_0 13 rfl rfl)
theorem dX0_hold_14 : decode cX0_hold 14 = .ok (.invokevirtual 177, 3) := dk_182 0 177 (dk_at dksX0_hold_0 14 rfl rfl)
theorem dX0_hold_17 : decode cX0_hold 17 = .ok (.ifCond .ne 9, 3) := dk_154 0 9 (dk_at dksX0_hold_0 17 rfl rfl)
theorem dX0_hold_20 : decode cX0_hold 20 = .ok (.aload_n 0, 1) := dk_42 (dk_at dksX0_hold_0 20 rfl rfl)
theorem dX0_hold_21 : decode cX0_hold 21 = .ok (.iconst 0, 1) := dk_3 (dk_at dksX0_hold_0 21 rfl rfl)
theorem dX0_hold_22 : decode cX0_hold 22 = .ok (.invokevirtual 116, 3) := dk_182 0 116 (dk_at dksX0_hold_1 0 rfl rfl)
theorem dX0_hold_25 : decode cX0_hold 25 = .ok (.ireturn, 1) := dk_172 (dk_at dksX0_hold_1 3 rfl rfl)
theorem dX0_hold_26 : decode cX0_hold 26 = .ok (.aload_n 0, 1) := dk_42 (dk_at dksX0_hold_1 4 rfl rfl)
theorem dX0_hold_27 : decode cX0_hold 27 = .ok (.getfield 66, 3) := dk_180 0 66 (dk_at dksX0_hold_1 5 rfl rfl)
theorem dX0_hold_30 : decode cX0_hold 30 = .ok (.getfield 355, 3) := dk_180 1 99 (dk_at dksX0_hold_1 8 rfl rfl)
theorem dX0_hold_33 : decode cX0_hold 33 = .ok (.iload_n 1, 1) := dk_27 (dk_at dksX0_hold_1 11 rfl rfl)
theorem dX0_hold_34 : decode cX0_hold 34 = .ok (.iload_n 2, 1) := dk_28 (dk_at dksX0_hold_1 12 rfl rfl)
theorem dX0_hold_35 : decode cX0_hold 35 = .ok (.iastore, 1) := dk_79 (dk_at dksX0_hold_1 13 rfl rfl)
theorem dX0_hold_36 : decode cX0_hold 36 = .ok (.iconst 1, 1) := dk_4 (dk_at dksX0_hold_1 14 rfl rfl)
theorem dX0_hold_37 : decode cX0_hold 37 = .ok (.ireturn, 1) := dk_172 (dk_at dksX0_hold_1 15 rfl rfl)
abbrev cX0_isSpot : ByteArray := prog_1_method_5_code
def yX0_isSpot : MethodName := ⟨RX0, "isSpot", "(I)Z"⟩
def dkwX0_isSpot_0 : List UInt8 := [26, 3, 16, 9, 184, 0, 9, 172]
abbrev dktX0_isSpot_0 : List UInt8 := dkwX0_isSpot_0 ++ []
theorem dksX0_isSpot_0 : cX0_isSpot.data.toList.drop 0 = dktX0_isSpot_0 := by decide +kernel
theorem dX0_isSpot_0 : decode cX0_isSpot 0 = .ok (.iload_n 0, 1) := dk_26 (dk_at dksX0_isSpot_0 0 rfl rfl)
theorem dX0_isSpot_1 : decode cX0_isSpot 1 = .ok (.iconst 0, 1) := dk_3 (dk_at dksX0_isSpot_0 1 rfl rfl)
theorem dX0_isSpot_2 : decode cX0_isSpot 2 = .ok (.bipush 9, 2) := dk_16 9 (dk_at dksX0_isSpot_0 2 rfl rfl)
theorem dX0_isSpot_4 : decode cX0_isSpot 4 = .ok (.invokestatic 9, 3) := dk_184 0 9 (dk_at dksX0_isSpot_0 4 rfl rfl)
theorem dX0_isSpot_7 : decode cX0_isSpot 7 = .ok (.ireturn, 1) := dk_172 (dk_at dksX0_isSpot_0 7 rfl rfl)
abbrev cX0_as : ByteArray := prog_1_method_84_code
def yX0_as : MethodName := ⟨RX0, "as", "(II)I"⟩
def dkwX0_as_3 : List UInt8 := [184, 1, 111, 180, 1, 115, 167, 0, 8, 42, 5, 182, 0, 116, 172]
abbrev dktX0_as_3 : List UInt8 := dkwX0_as_3 ++ []
def dkwX0_as_2 : List UInt8 := [192, 0, 41, 28, 182, 1, 108, 153, 0, 7, 4, 167, 0, 4, 3, 54, 4, 21, 4, 153, 0, 14, 45, 28]
abbrev dktX0_as_2 : List UInt8 := dkwX0_as_2 ++ dktX0_as_3
def dkwX0_as_1 : List UInt8 := [182, 1, 105, 78, 45, 199, 0, 9, 42, 8, 182, 0, 116, 172, 45, 193, 0, 41, 153, 0, 18, 45]
abbrev dktX0_as_1 : List UInt8 := dkwX0_as_1 ++ dktX0_as_2
def dkwX0_as_0 : List UInt8 := [27, 184, 1, 102, 153, 0, 10, 28, 184, 0, 13, 154, 0, 9, 42, 3, 182, 0, 116, 172, 42, 27]
abbrev dktX0_as_0 : List UInt8 := dkwX0_as_0 ++ dktX0_as_1
theorem dksX0_as_0 : cX0_as.data.toList.drop 0 = dktX0_as_0 := by decide +kernel
theorem dksX0_as_1 : cX0_as.data.toList.drop 22 = dktX0_as_1 := dk_seg dksX0_as_0 22 rfl rfl
theorem dksX0_as_2 : cX0_as.data.toList.drop 44 = dktX0_as_2 := dk_seg dksX0_as_1 22 rfl rfl
theorem dksX0_as_3 : cX0_as.data.toList.drop 68 = dktX0_as_3 := dk_seg dksX0_as_2 24 rfl rfl
theorem dX0_as_0 : decode cX0_as 0 = .ok (.iload_n 1, 1) := dk_27 (dk_at dksX0_as_0 0 rfl rfl)
theorem dX0_as_1 : decode cX0_as 1 = .ok (.invokestatic 358, 3) := dk_184 1 102 (dk_at dksX0_as_0 1 rfl rfl)
theorem dX0_as_4 : decode cX0_as 4 = .ok (.ifCond .eq 10, 3) := dk_153 0 10 (dk_at dksX0_as_0 4 rfl rfl)
theorem dX0_as_7 : decode cX0_as 7 = .ok (.iload_n 2, 1) := dk_28 (dk_at dksX0_as_0 7 rfl rfl)
theorem dX0_as_8 : decode cX0_as 8 = .ok (.invokestatic 13, 3) := dk_184 0 13 (dk_at dksX0_as_0 8 rfl rfl)
theorem dX0_as_11 : decode cX0_as 11 = .ok (.ifCond .ne 9, 3) := dk_154 0 9 (dk_at dksX0_as_0 11 rfl rfl)
theorem dX0_as_14 : decode cX0_as 14 = .ok (.aload_n 0, 1) := dk_42 (dk_at dksX0_as_0 14 rfl rfl)
theorem dX0_as_15 : decode cX0_as 15 = .ok (.iconst 0, 1) := dk_3 (dk_at dksX0_as_0 15 rfl rfl)
theorem dX0_as_16 : decode cX0_as 16 = .ok (.invokevirtual 116, 3) := dk_182 0 116 (dk_at dksX0_as_0 16 rfl rfl)
theorem dX0_as_19 : decode cX0_as 19 = .ok (.ireturn, 1) := dk_172 (dk_at dksX0_as_0 19 rfl rfl)
theorem dX0_as_20 : decode cX0_as 20 = .ok (.aload_n 0, 1) := dk_42 (dk_at dksX0_as_0 20 rfl rfl)
theorem dX0_as_21 : decode cX0_as 21 = .ok (.iload_n 1, 1) := dk_27 (dk_at dksX0_as_0 21 rfl rfl)
theorem dX0_as_22 : decode cX0_as 22 = .ok (.invokevirtual 361, 3) := dk_182 1 105 (dk_at dksX0_as_1 0 rfl rfl)
theorem dX0_as_25 : decode cX0_as 25 = .ok (.astore_n 3, 1) := dk_78 (dk_at dksX0_as_1 3 rfl rfl)
theorem dX0_as_26 : decode cX0_as 26 = .ok (.aload_n 3, 1) := dk_45 (dk_at dksX0_as_1 4 rfl rfl)
theorem dX0_as_27 : decode cX0_as 27 = .ok (.ifnonnull 9, 3) := dk_199 0 9 (dk_at dksX0_as_1 5 rfl rfl)
theorem dX0_as_30 : decode cX0_as 30 = .ok (.aload_n 0, 1) := dk_42 (dk_at dksX0_as_1 8 rfl rfl)
theorem dX0_as_31 : decode cX0_as 31 = .ok (.iconst 5, 1) := dk_8 (dk_at dksX0_as_1 9 rfl rfl)
theorem dX0_as_32 : decode cX0_as 32 = .ok (.invokevirtual 116, 3) := dk_182 0 116 (dk_at dksX0_as_1 10 rfl rfl)
theorem dX0_as_35 : decode cX0_as 35 = .ok (.ireturn, 1) := dk_172 (dk_at dksX0_as_1 13 rfl rfl)
theorem dX0_as_36 : decode cX0_as 36 = .ok (.aload_n 3, 1) := dk_45 (dk_at dksX0_as_1 14 rfl rfl)
theorem dX0_as_37 : decode cX0_as 37 = .ok (.instanceof 41, 3) := dk_193 0 41 (dk_at dksX0_as_1 15 rfl rfl)
theorem dX0_as_40 : decode cX0_as 40 = .ok (.ifCond .eq 18, 3) := dk_153 0 18 (dk_at dksX0_as_1 18 rfl rfl)
theorem dX0_as_43 : decode cX0_as 43 = .ok (.aload_n 3, 1) := dk_45 (dk_at dksX0_as_1 21 rfl rfl)
theorem dX0_as_44 : decode cX0_as 44 = .ok (.checkcast 41, 3) := dk_192 0 41 (dk_at dksX0_as_2 0 rfl rfl)
theorem dX0_as_47 : decode cX0_as 47 = .ok (.iload_n 2, 1) := dk_28 (dk_at dksX0_as_2 3 rfl rfl)
theorem dX0_as_48 : decode cX0_as 48 = .ok (.invokevirtual 364, 3) := dk_182 1 108 (dk_at dksX0_as_2 4 rfl rfl)
theorem dX0_as_51 : decode cX0_as 51 = .ok (.ifCond .eq 7, 3) := dk_153 0 7 (dk_at dksX0_as_2 7 rfl rfl)
theorem dX0_as_54 : decode cX0_as 54 = .ok (.iconst 1, 1) := dk_4 (dk_at dksX0_as_2 10 rfl rfl)
theorem dX0_as_55 : decode cX0_as 55 = .ok (.goto 4, 3) := dk_167 0 4 (dk_at dksX0_as_2 11 rfl rfl)
theorem dX0_as_58 : decode cX0_as 58 = .ok (.iconst 0, 1) := dk_3 (dk_at dksX0_as_2 14 rfl rfl)
theorem dX0_as_59 : decode cX0_as 59 = .ok (.istore 4, 2) := dk_54 4 (dk_at dksX0_as_2 15 rfl rfl)
theorem dX0_as_61 : decode cX0_as 61 = .ok (.iload 4, 2) := dk_21 4 (dk_at dksX0_as_2 17 rfl rfl)
theorem dX0_as_63 : decode cX0_as 63 = .ok (.ifCond .eq 14, 3) := dk_153 0 14 (dk_at dksX0_as_2 19 rfl rfl)
theorem dX0_as_66 : decode cX0_as 66 = .ok (.aload_n 3, 1) := dk_45 (dk_at dksX0_as_2 22 rfl rfl)
theorem dX0_as_67 : decode cX0_as 67 = .ok (.iload_n 2, 1) := dk_28 (dk_at dksX0_as_2 23 rfl rfl)
theorem dX0_as_68 : decode cX0_as 68 = .ok (.invokestatic 367, 3) := dk_184 1 111 (dk_at dksX0_as_3 0 rfl rfl)
theorem dX0_as_71 : decode cX0_as 71 = .ok (.getfield 371, 3) := dk_180 1 115 (dk_at dksX0_as_3 3 rfl rfl)
theorem dX0_as_74 : decode cX0_as 74 = .ok (.goto 8, 3) := dk_167 0 8 (dk_at dksX0_as_3 6 rfl rfl)
theorem dX0_as_77 : decode cX0_as 77 = .ok (.aload_n 0, 1) := dk_42 (dk_at dksX0_as_3 9 rfl rfl)
theorem dX0_as_78 : decode cX0_as 78 = .ok (.iconst 2, 1) := dk_5 (dk_at dksX0_as_3 10 rfl rfl)
theorem dX0_as_79 : decode cX0_as 79 = .ok (.invokevirtual 116, 3) := dk_182 0 116 (dk_at dksX0_as_3 11 rfl rfl)
theorem dX0_as_82 : decode cX0_as 82 = .ok (.ireturn, 1) := dk_172 (dk_at dksX0_as_3 14 rfl rfl)
abbrev cX0_thingAt : ByteArray := prog_1_method_80_code
def yX0_thingAt : MethodName := ⟨RX0, "thingAt", "(I)Ljava/lang/Object;"⟩
def dkwX0_thingAt_1 : List UInt8 := [167, 0, 8, 42, 28, 182, 0, 118, 181, 0, 97, 42, 180, 0, 82, 27, 50, 180, 0, 97, 176]
abbrev dktX0_thingAt_1 : List UInt8 := dkwX0_thingAt_1 ++ []
def dkwX0_thingAt_0 : List UInt8 := [42, 180, 0, 66, 180, 1, 99, 27, 46, 61, 42, 180, 0, 82, 27, 50, 28, 2, 160, 0, 7, 1]
abbrev dktX0_thingAt_0 : List UInt8 := dkwX0_thingAt_0 ++ dktX0_thingAt_1
theorem dksX0_thingAt_0 : cX0_thingAt.data.toList.drop 0 = dktX0_thingAt_0 := by decide +kernel
theorem dksX0_thingAt_1 : cX0_thingAt.data.toList.drop 22 = dktX0_thingAt_1 := dk_seg dksX0_thingAt_0 22 rfl rfl
theorem dX0_thingAt_0 : decode cX0_thingAt 0 = .ok (.aload_n 0, 1) := dk_42 (dk_at dksX0_thingAt_0 0 rfl rfl)
theorem dX0_thingAt_1 : decode cX0_thingAt 1 = .ok (.getfield 66, 3) := dk_180 0 66 (dk_at dksX0_thingAt_0 1 rfl rfl)
theorem dX0_thingAt_4 : decode cX0_thingAt 4 = .ok (.getfield 355, 3) := dk_180 1 99 (dk_at dksX0_thingAt_0 4 rfl rfl)
theorem dX0_thingAt_7 : decode cX0_thingAt 7 = .ok (.iload_n 1, 1) := dk_27 (dk_at dksX0_thingAt_0 7 rfl rfl)
theorem dX0_thingAt_8 : decode cX0_thingAt 8 = .ok (.iaload, 1) := dk_46 (dk_at dksX0_thingAt_0 8 rfl rfl)
theorem dX0_thingAt_9 : decode cX0_thingAt 9 = .ok (.istore_n 2, 1) := dk_61 (dk_at dksX0_thingAt_0 9 rfl rfl)
theorem dX0_thingAt_10 : decode cX0_thingAt 10 = .ok (.aload_n 0, 1) := dk_42 (dk_at dksX0_thingAt_0 10 rfl rfl)
theorem dX0_thingAt_11 : decode cX0_thingAt 11 = .ok (.getfield 82, 3) := dk_180 0 82 (dk_at dksX0_thingAt_0 11 rfl rfl)
theorem dX0_thingAt_14 : decode cX0_thingAt 14 = .ok (.iload_n 1, 1) := dk_27 (dk_at dksX0_thingAt_0 14 rfl rfl)
theorem dX0_thingAt_15 : decode cX0_thingAt 15 = .ok (.aaload, 1) := dk_50 (dk_at dksX0_thingAt_0 15 rfl rfl)
theorem dX0_thingAt_16 : decode cX0_thingAt 16 = .ok (.iload_n 2, 1) := dk_28 (dk_at dksX0_thingAt_0 16 rfl rfl)
theorem dX0_thingAt_17 : decode cX0_thingAt 17 = .ok (.iconst (-1), 1) := dk_2 (dk_at dksX0_thingAt_0 17 rfl rfl)
theorem dX0_thingAt_18 : decode cX0_thingAt 18 = .ok (.if_icmp .ne 7, 3) := dk_160 0 7 (dk_at dksX0_thingAt_0 18 rfl rfl)
theorem dX0_thingAt_21 : decode cX0_thingAt 21 = .ok (.aconst_null, 1) := dk_1 (dk_at dksX0_thingAt_0 21 rfl rfl)
theorem dX0_thingAt_22 : decode cX0_thingAt 22 = .ok (.goto 8, 3) := dk_167 0 8 (dk_at dksX0_thingAt_1 0 rfl rfl)
theorem dX0_thingAt_25 : decode cX0_thingAt 25 = .ok (.aload_n 0, 1) := dk_42 (dk_at dksX0_thingAt_1 3 rfl rfl)
theorem dX0_thingAt_26 : decode cX0_thingAt 26 = .ok (.iload_n 2, 1) := dk_28 (dk_at dksX0_thingAt_1 4 rfl rfl)
theorem dX0_thingAt_27 : decode cX0_thingAt 27 = .ok (.invokevirtual 118, 3) := dk_182 0 118 (dk_at dksX0_thingAt_1 5 rfl rfl)
theorem dX0_thingAt_30 : decode cX0_thingAt 30 = .ok (.putfield 97, 3) := dk_181 0 97 (dk_at dksX0_thingAt_1 8 rfl rfl)
theorem dX0_thingAt_33 : decode cX0_thingAt 33 = .ok (.aload_n 0, 1) := dk_42 (dk_at dksX0_thingAt_1 11 rfl rfl)
theorem dX0_thingAt_34 : decode cX0_thingAt 34 = .ok (.getfield 82, 3) := dk_180 0 82 (dk_at dksX0_thingAt_1 12 rfl rfl)
theorem dX0_thingAt_37 : decode cX0_thingAt 37 = .ok (.iload_n 1, 1) := dk_27 (dk_at dksX0_thingAt_1 15 rfl rfl)
theorem dX0_thingAt_38 : decode cX0_thingAt 38 = .ok (.aaload, 1) := dk_50 (dk_at dksX0_thingAt_1 16 rfl rfl)
theorem dX0_thingAt_39 : decode cX0_thingAt 39 = .ok (.getfield 97, 3) := dk_180 0 97 (dk_at dksX0_thingAt_1 17 rfl rfl)
theorem dX0_thingAt_42 : decode cX0_thingAt 42 = .ok (.areturn, 1) := dk_176 (dk_at dksX0_thingAt_1 20 rfl rfl)
abbrev cX0_cast : ByteArray := prog_1_method_83_code
def yX0_cast : MethodName := ⟨RX0, "cast", "(Ljava/lang/Object;I)LThunderCasks$Cask;"⟩
def dkwX0_cast_3 : List UInt8 := [176, 42, 192, 0, 38, 176, 42, 192, 0, 41, 176]
abbrev dktX0_cast_3 : List UInt8 := dkwX0_cast_3 ++ []
def dkwX0_cast_2 : List UInt8 := [42, 192, 0, 20, 176, 42, 192, 0, 26, 176, 42, 192, 0, 29, 176, 42, 192, 0, 32, 176, 42, 192, 0, 35]
abbrev dktX0_cast_2 : List UInt8 := dkwX0_cast_2 ++ dktX0_cast_3
def dkwX0_cast_1 : List UInt8 := [170, 0, 0, 0, 0, 0, 69, 0, 0, 0, 1, 0, 0, 0, 6, 0, 0, 0, 39, 0, 0, 0, 44, 0, 0, 0, 49, 0, 0, 0, 54, 0, 0, 0, 59, 0, 0, 0, 64]
abbrev dktX0_cast_1 : List UInt8 := dkwX0_cast_1 ++ dktX0_cast_2
def dkwX0_cast_0 : List UInt8 := [27]
abbrev dktX0_cast_0 : List UInt8 := dkwX0_cast_0 ++ dktX0_cast_1
theorem dksX0_cast_0 : cX0_cast.data.toList.drop 0 = dktX0_cast_0 := by decide +kernel
theorem dksX0_cast_1 : cX0_cast.data.toList.drop 1 = dktX0_cast_1 := dk_seg dksX0_cast_0 1 rfl rfl
theorem dksX0_cast_2 : cX0_cast.data.toList.drop 40 = dktX0_cast_2 := dk_seg dksX0_cast_1 39 rfl rfl
theorem dksX0_cast_3 : cX0_cast.data.toList.drop 64 = dktX0_cast_3 := dk_seg dksX0_cast_2 24 rfl rfl
theorem dX0_cast_0 : decode cX0_cast 0 = .ok (.iload_n 1, 1) := dk_27 (dk_at dksX0_cast_0 0 rfl rfl)
theorem dX0_cast_1 : decode cX0_cast 1 = .ok (.tableswitch 69 1 6 #[39, 44, 49, 54, 59, 64], 39) := by decide +kernel
theorem dX0_cast_40 : decode cX0_cast 40 = .ok (.aload_n 0, 1) := dk_42 (dk_at dksX0_cast_2 0 rfl rfl)
theorem dX0_cast_41 : decode cX0_cast 41 = .ok (.checkcast 20, 3) := dk_192 0 20 (dk_at dksX0_cast_2 1 rfl rfl)
theorem dX0_cast_44 : decode cX0_cast 44 = .ok (.areturn, 1) := dk_176 (dk_at dksX0_cast_2 4 rfl rfl)
theorem dX0_cast_45 : decode cX0_cast 45 = .ok (.aload_n 0, 1) := dk_42 (dk_at dksX0_cast_2 5 rfl rfl)
theorem dX0_cast_46 : decode cX0_cast 46 = .ok (.checkcast 26, 3) := dk_192 0 26 (dk_at dksX0_cast_2 6 rfl rfl)
theorem dX0_cast_49 : decode cX0_cast 49 = .ok (.areturn, 1) := dk_176 (dk_at dksX0_cast_2 9 rfl rfl)
theorem dX0_cast_50 : decode cX0_cast 50 = .ok (.aload_n 0, 1) := dk_42 (dk_at dksX0_cast_2 10 rfl rfl)
theorem dX0_cast_51 : decode cX0_cast 51 = .ok (.checkcast 29, 3) := dk_192 0 29 (dk_at dksX0_cast_2 11 rfl rfl)
theorem dX0_cast_54 : decode cX0_cast 54 = .ok (.areturn, 1) := dk_176 (dk_at dksX0_cast_2 14 rfl rfl)
theorem dX0_cast_55 : decode cX0_cast 55 = .ok (.aload_n 0, 1) := dk_42 (dk_at dksX0_cast_2 15 rfl rfl)
theorem dX0_cast_56 : decode cX0_cast 56 = .ok (.checkcast 32, 3) := dk_192 0 32 (dk_at dksX0_cast_2 16 rfl rfl)
theorem dX0_cast_59 : decode cX0_cast 59 = .ok (.areturn, 1) := dk_176 (dk_at dksX0_cast_2 19 rfl rfl)
theorem dX0_cast_60 : decode cX0_cast 60 = .ok (.aload_n 0, 1) := dk_42 (dk_at dksX0_cast_2 20 rfl rfl)
theorem dX0_cast_61 : decode cX0_cast 61 = .ok (.checkcast 35, 3) := dk_192 0 35 (dk_at dksX0_cast_2 21 rfl rfl)
theorem dX0_cast_64 : decode cX0_cast 64 = .ok (.areturn, 1) := dk_176 (dk_at dksX0_cast_3 0 rfl rfl)
theorem dX0_cast_65 : decode cX0_cast 65 = .ok (.aload_n 0, 1) := dk_42 (dk_at dksX0_cast_3 1 rfl rfl)
theorem dX0_cast_66 : decode cX0_cast 66 = .ok (.checkcast 38, 3) := dk_192 0 38 (dk_at dksX0_cast_3 2 rfl rfl)
theorem dX0_cast_69 : decode cX0_cast 69 = .ok (.areturn, 1) := dk_176 (dk_at dksX0_cast_3 5 rfl rfl)
theorem dX0_cast_70 : decode cX0_cast 70 = .ok (.aload_n 0, 1) := dk_42 (dk_at dksX0_cast_3 6 rfl rfl)
theorem dX0_cast_71 : decode cX0_cast 71 = .ok (.checkcast 41, 3) := dk_192 0 41 (dk_at dksX0_cast_3 7 rfl rfl)
theorem dX0_cast_74 : decode cX0_cast 74 = .ok (.areturn, 1) := dk_176 (dk_at dksX0_cast_3 10 rfl rfl)
abbrev cX0_sheet : ByteArray := prog_1_method_85_code
def yX0_sheet : MethodName := ⟨RX0, "sheet", "(III)I"⟩
def dkwX0_sheet_4 : List UInt8 := [167, 0, 6, 29, 188, 10, 181, 0, 97, 28, 154, 0, 7, 3, 167, 0, 4, 29, 172]
abbrev dktX0_sheet_4 : List UInt8 := dkwX0_sheet_4 ++ []
def dkwX0_sheet_3 : List UInt8 := [167, 0, 30, 28, 16, 8, 160, 0, 9, 29, 188, 8, 167, 0, 18, 28, 16, 16, 160, 0, 9, 29, 188, 9]
abbrev dktX0_sheet_3 : List UInt8 := dkwX0_sheet_3 ++ dktX0_sheet_4
def dkwX0_sheet_2 : List UInt8 := [156, 0, 8, 16, 6, 167, 0, 4, 3, 182, 0, 116, 172, 42, 180, 0, 85, 27, 50, 28, 154, 0, 7, 1]
abbrev dktX0_sheet_2 : List UInt8 := dkwX0_sheet_2 ++ dktX0_sheet_3
def dkwX0_sheet_1 : List UInt8 := [16, 32, 159, 0, 9, 42, 3, 182, 0, 116, 172, 29, 155, 0, 9, 29, 16, 40, 164, 0, 18, 42, 29]
abbrev dktX0_sheet_1 : List UInt8 := dkwX0_sheet_1 ++ dktX0_sheet_2
def dkwX0_sheet_0 : List UInt8 := [27, 184, 1, 117, 153, 0, 25, 28, 153, 0, 27, 28, 16, 8, 159, 0, 21, 28, 16, 16, 159, 0, 15, 28]
abbrev dktX0_sheet_0 : List UInt8 := dkwX0_sheet_0 ++ dktX0_sheet_1
theorem dksX0_sheet_0 : cX0_sheet.data.toList.drop 0 = dktX0_sheet_0 := by decide +kernel
theorem dksX0_sheet_1 : cX0_sheet.data.toList.drop 24 = dktX0_sheet_1 := dk_seg dksX0_sheet_0 24 rfl rfl
theorem dksX0_sheet_2 : cX0_sheet.data.toList.drop 47 = dktX0_sheet_2 := dk_seg dksX0_sheet_1 23 rfl rfl
theorem dksX0_sheet_3 : cX0_sheet.data.toList.drop 71 = dktX0_sheet_3 := dk_seg dksX0_sheet_2 24 rfl rfl
theorem dksX0_sheet_4 : cX0_sheet.data.toList.drop 95 = dktX0_sheet_4 := dk_seg dksX0_sheet_3 24 rfl rfl
theorem dX0_sheet_0 : decode cX0_sheet 0 = .ok (.iload_n 1, 1) := dk_27 (dk_at dksX0_sheet_0 0 rfl rfl)
theorem dX0_sheet_1 : decode cX0_sheet 1 = .ok (.invokestatic 373, 3) := dk_184 1 117 (dk_at dksX0_sheet_0 1 rfl rfl)
theorem dX0_sheet_4 : decode cX0_sheet 4 = .ok (.ifCond .eq 25, 3) := dk_153 0 25 (dk_at dksX0_sheet_0 4 rfl rfl)
theorem dX0_sheet_7 : decode cX0_sheet 7 = .ok (.iload_n 2, 1) := dk_28 (dk_at dksX0_sheet_0 7 rfl rfl)
theorem dX0_sheet_8 : decode cX0_sheet 8 = .ok (.ifCond .eq 27, 3) := dk_153 0 27 (dk_at dksX0_sheet_0 8 rfl rfl)
theorem dX0_sheet_11 : decode cX0_sheet 11 = .ok (.iload_n 2, 1) := dk_28 (dk_at dksX0_sheet_0 11 rfl rfl)
theorem dX0_sheet_12 : decode cX0_sheet 12 = .ok (.bipush 8, 2) := dk_16 8 (dk_at dksX0_sheet_0 12 rfl rfl)
theorem dX0_sheet_14 : decode cX0_sheet 14 = .ok (.if_icmp .eq 21, 3) := dk_159 0 21 (dk_at dksX0_sheet_0 14 rfl rfl)
theorem dX0_sheet_17 : decode cX0_sheet 17 = .ok (.iload_n 2, 1) := dk_28 (dk_at dksX0_sheet_0 17 rfl rfl)
theorem dX0_sheet_18 : decode cX0_sheet 18 = .ok (.bipush 16, 2) := dk_16 16 (dk_at dksX0_sheet_0 18 rfl rfl)
theorem dX0_sheet_20 : decode cX0_sheet 20 = .ok (.if_icmp .eq 15, 3) := dk_159 0 15 (dk_at dksX0_sheet_0 20 rfl rfl)
theorem dX0_sheet_23 : decode cX0_sheet 23 = .ok (.iload_n 2, 1) := dk_28 (dk_at dksX0_sheet_0 23 rfl rfl)
theorem dX0_sheet_24 : decode cX0_sheet 24 = .ok (.bipush 32, 2) := dk_16 32 (dk_at dksX0_sheet_1 0 rfl rfl)
theorem dX0_sheet_26 : decode cX0_sheet 26 = .ok (.if_icmp .eq 9, 3) := dk_159 0 9 (dk_at dksX0_sheet_1 2 rfl rfl)
theorem dX0_sheet_29 : decode cX0_sheet 29 = .ok (.aload_n 0, 1) := dk_42 (dk_at dksX0_sheet_1 5 rfl rfl)
theorem dX0_sheet_30 : decode cX0_sheet 30 = .ok (.iconst 0, 1) := dk_3 (dk_at dksX0_sheet_1 6 rfl rfl)
theorem dX0_sheet_31 : decode cX0_sheet 31 = .ok (.invokevirtual 116, 3) := dk_182 0 116 (dk_at dksX0_sheet_1 7 rfl rfl)
theorem dX0_sheet_34 : decode cX0_sheet 34 = .ok (.ireturn, 1) := dk_172 (dk_at dksX0_sheet_1 10 rfl rfl)
theorem dX0_sheet_35 : decode cX0_sheet 35 = .ok (.iload_n 3, 1) := dk_29 (dk_at dksX0_sheet_1 11 rfl rfl)
theorem dX0_sheet_36 : decode cX0_sheet 36 = .ok (.ifCond .lt 9, 3) := dk_155 0 9 (dk_at dksX0_sheet_1 12 rfl rfl)
theorem dX0_sheet_39 : decode cX0_sheet 39 = .ok (.iload_n 3, 1) := dk_29 (dk_at dksX0_sheet_1 15 rfl rfl)
theorem dX0_sheet_40 : decode cX0_sheet 40 = .ok (.bipush 40, 2) := dk_16 40 (dk_at dksX0_sheet_1 16 rfl rfl)
theorem dX0_sheet_42 : decode cX0_sheet 42 = .ok (.if_icmp .le 18, 3) := dk_164 0 18 (dk_at dksX0_sheet_1 18 rfl rfl)
theorem dX0_sheet_45 : decode cX0_sheet 45 = .ok (.aload_n 0, 1) := dk_42 (dk_at dksX0_sheet_1 21 rfl rfl)
theorem dX0_sheet_46 : decode cX0_sheet 46 = .ok (.iload_n 3, 1) := dk_29 (dk_at dksX0_sheet_1 22 rfl rfl)
theorem dX0_sheet_47 : decode cX0_sheet 47 = .ok (.ifCond .ge 8, 3) := dk_156 0 8 (dk_at dksX0_sheet_2 0 rfl rfl)
theorem dX0_sheet_50 : decode cX0_sheet 50 = .ok (.bipush 6, 2) := dk_16 6 (dk_at dksX0_sheet_2 3 rfl rfl)
theorem dX0_sheet_52 : decode cX0_sheet 52 = .ok (.goto 4, 3) := dk_167 0 4 (dk_at dksX0_sheet_2 5 rfl rfl)
theorem dX0_sheet_55 : decode cX0_sheet 55 = .ok (.iconst 0, 1) := dk_3 (dk_at dksX0_sheet_2 8 rfl rfl)
theorem dX0_sheet_56 : decode cX0_sheet 56 = .ok (.invokevirtual 116, 3) := dk_182 0 116 (dk_at dksX0_sheet_2 9 rfl rfl)
theorem dX0_sheet_59 : decode cX0_sheet 59 = .ok (.ireturn, 1) := dk_172 (dk_at dksX0_sheet_2 12 rfl rfl)
theorem dX0_sheet_60 : decode cX0_sheet 60 = .ok (.aload_n 0, 1) := dk_42 (dk_at dksX0_sheet_2 13 rfl rfl)
theorem dX0_sheet_61 : decode cX0_sheet 61 = .ok (.getfield 85, 3) := dk_180 0 85 (dk_at dksX0_sheet_2 14 rfl rfl)
theorem dX0_sheet_64 : decode cX0_sheet 64 = .ok (.iload_n 1, 1) := dk_27 (dk_at dksX0_sheet_2 17 rfl rfl)
theorem dX0_sheet_65 : decode cX0_sheet 65 = .ok (.aaload, 1) := dk_50 (dk_at dksX0_sheet_2 18 rfl rfl)
theorem dX0_sheet_66 : decode cX0_sheet 66 = .ok (.iload_n 2, 1) := dk_28 (dk_at dksX0_sheet_2 19 rfl rfl)
theorem dX0_sheet_67 : decode cX0_sheet 67 = .ok (.ifCond .ne 7, 3) := dk_154 0 7 (dk_at dksX0_sheet_2 20 rfl rfl)
theorem dX0_sheet_70 : decode cX0_sheet 70 = .ok (.aconst_null, 1) := dk_1 (dk_at dksX0_sheet_2 23 rfl rfl)
theorem dX0_sheet_71 : decode cX0_sheet 71 = .ok (.goto 30, 3) := dk_167 0 30 (dk_at dksX0_sheet_3 0 rfl rfl)
theorem dX0_sheet_74 : decode cX0_sheet 74 = .ok (.iload_n 2, 1) := dk_28 (dk_at dksX0_sheet_3 3 rfl rfl)
theorem dX0_sheet_75 : decode cX0_sheet 75 = .ok (.bipush 8, 2) := dk_16 8 (dk_at dksX0_sheet_3 4 rfl rfl)
theorem dX0_sheet_77 : decode cX0_sheet 77 = .ok (.if_icmp .ne 9, 3) := dk_160 0 9 (dk_at dksX0_sheet_3 6 rfl rfl)
theorem dX0_sheet_80 : decode cX0_sheet 80 = .ok (.iload_n 3, 1) := dk_29 (dk_at dksX0_sheet_3 9 rfl rfl)
theorem dX0_sheet_81 : decode cX0_sheet 81 = .ok (.newarray .byte, 2) := dk_188_8 (dk_at dksX0_sheet_3 10 rfl rfl)
theorem dX0_sheet_83 : decode cX0_sheet 83 = .ok (.goto 18, 3) := dk_167 0 18 (dk_at dksX0_sheet_3 12 rfl rfl)
theorem dX0_sheet_86 : decode cX0_sheet 86 = .ok (.iload_n 2, 1) := dk_28 (dk_at dksX0_sheet_3 15 rfl rfl)
theorem dX0_sheet_87 : decode cX0_sheet 87 = .ok (.bipush 16, 2) := dk_16 16 (dk_at dksX0_sheet_3 16 rfl rfl)
theorem dX0_sheet_89 : decode cX0_sheet 89 = .ok (.if_icmp .ne 9, 3) := dk_160 0 9 (dk_at dksX0_sheet_3 18 rfl rfl)
theorem dX0_sheet_92 : decode cX0_sheet 92 = .ok (.iload_n 3, 1) := dk_29 (dk_at dksX0_sheet_3 21 rfl rfl)
theorem dX0_sheet_93 : decode cX0_sheet 93 = .ok (.newarray .short, 2) := dk_188_9 (dk_at dksX0_sheet_3 22 rfl rfl)
theorem dX0_sheet_95 : decode cX0_sheet 95 = .ok (.goto 6, 3) := dk_167 0 6 (dk_at dksX0_sheet_4 0 rfl rfl)
theorem dX0_sheet_98 : decode cX0_sheet 98 = .ok (.iload_n 3, 1) := dk_29 (dk_at dksX0_sheet_4 3 rfl rfl)
theorem dX0_sheet_99 : decode cX0_sheet 99 = .ok (.newarray .int, 2) := dk_188_10 (dk_at dksX0_sheet_4 4 rfl rfl)
theorem dX0_sheet_101 : decode cX0_sheet 101 = .ok (.putfield 97, 3) := dk_181 0 97 (dk_at dksX0_sheet_4 6 rfl rfl)
theorem dX0_sheet_104 : decode cX0_sheet 104 = .ok (.iload_n 2, 1) := dk_28 (dk_at dksX0_sheet_4 9 rfl rfl)
theorem dX0_sheet_105 : decode cX0_sheet 105 = .ok (.ifCond .ne 7, 3) := dk_154 0 7 (dk_at dksX0_sheet_4 10 rfl rfl)
theorem dX0_sheet_108 : decode cX0_sheet 108 = .ok (.iconst 0, 1) := dk_3 (dk_at dksX0_sheet_4 13 rfl rfl)
theorem dX0_sheet_109 : decode cX0_sheet 109 = .ok (.goto 4, 3) := dk_167 0 4 (dk_at dksX0_sheet_4 14 rfl rfl)
theorem dX0_sheet_112 : decode cX0_sheet 112 = .ok (.iload_n 3, 1) := dk_29 (dk_at dksX0_sheet_4 17 rfl rfl)
theorem dX0_sheet_113 : decode cX0_sheet 113 = .ok (.ireturn, 1) := dk_172 (dk_at dksX0_sheet_4 18 rfl rfl)
abbrev cX0_write : ByteArray := prog_1_method_91_code
def yX0_write : MethodName := ⟨RX0, "write", "(III)I"⟩
def dkwX0_write_2 : List UInt8 := [58, 4, 42, 25, 4, 180, 0, 106, 182, 0, 116, 172]
abbrev dktX0_write_2 : List UInt8 := dkwX0_write_2 ++ []
def dkwX0_write_1 : List UInt8 := [3, 25, 4, 184, 1, 34, 4, 100, 184, 0, 9, 3, 182, 1, 46, 25, 4, 28, 29, 184, 1, 124, 4, 172]
abbrev dktX0_write_1 : List UInt8 := dkwX0_write_1 ++ dktX0_write_2
def dkwX0_write_0 : List UInt8 := [42, 27, 182, 1, 42, 58, 4, 42, 25, 4, 198, 0, 7, 4, 167, 0, 4, 3, 8, 182, 1, 46, 42, 28]
abbrev dktX0_write_0 : List UInt8 := dkwX0_write_0 ++ dktX0_write_1
theorem dksX0_write_0 : cX0_write.data.toList.drop 0 = dktX0_write_0 := by decide +kernel
theorem dksX0_write_1 : cX0_write.data.toList.drop 24 = dktX0_write_1 := dk_seg dksX0_write_0 24 rfl rfl
theorem dksX0_write_2 : cX0_write.data.toList.drop 48 = dktX0_write_2 := dk_seg dksX0_write_1 24 rfl rfl
theorem dX0_write_0 : decode cX0_write 0 = .ok (.aload_n 0, 1) := dk_42 (dk_at dksX0_write_0 0 rfl rfl)
theorem dX0_write_1 : decode cX0_write 1 = .ok (.iload_n 1, 1) := dk_27 (dk_at dksX0_write_0 1 rfl rfl)
theorem dX0_write_2 : decode cX0_write 2 = .ok (.invokevirtual 298, 3) := dk_182 1 42 (dk_at dksX0_write_0 2 rfl rfl)
theorem dX0_write_5 : decode cX0_write 5 = .ok (.astore 4, 2) := dk_58 4 (dk_at dksX0_write_0 5 rfl rfl)
theorem dX0_write_7 : decode cX0_write 7 = .ok (.aload_n 0, 1) := dk_42 (dk_at dksX0_write_0 7 rfl rfl)
theorem dX0_write_8 : decode cX0_write 8 = .ok (.aload 4, 2) := dk_25 4 (dk_at dksX0_write_0 8 rfl rfl)
theorem dX0_write_10 : decode cX0_write 10 = .ok (.ifnull 7, 3) := dk_198 0 7 (dk_at dksX0_write_0 10 rfl rfl)
theorem dX0_write_13 : decode cX0_write 13 = .ok (.iconst 1, 1) := dk_4 (dk_at dksX0_write_0 13 rfl rfl)
theorem dX0_write_14 : decode cX0_write 14 = .ok (.goto 4, 3) := dk_167 0 4 (dk_at dksX0_write_0 14 rfl rfl)
theorem dX0_write_17 : decode cX0_write 17 = .ok (.iconst 0, 1) := dk_3 (dk_at dksX0_write_0 17 rfl rfl)
theorem dX0_write_18 : decode cX0_write 18 = .ok (.iconst 5, 1) := dk_8 (dk_at dksX0_write_0 18 rfl rfl)
theorem dX0_write_19 : decode cX0_write 19 = .ok (.invokevirtual 302, 3) := dk_182 1 46 (dk_at dksX0_write_0 19 rfl rfl)
theorem dX0_write_22 : decode cX0_write 22 = .ok (.aload_n 0, 1) := dk_42 (dk_at dksX0_write_0 22 rfl rfl)
theorem dX0_write_23 : decode cX0_write 23 = .ok (.iload_n 2, 1) := dk_28 (dk_at dksX0_write_0 23 rfl rfl)
theorem dX0_write_24 : decode cX0_write 24 = .ok (.iconst 0, 1) := dk_3 (dk_at dksX0_write_1 0 rfl rfl)
theorem dX0_write_25 : decode cX0_write 25 = .ok (.aload 4, 2) := dk_25 4 (dk_at dksX0_write_1 1 rfl rfl)
theorem dX0_write_27 : decode cX0_write 27 = .ok (.invokestatic 290, 3) := dk_184 1 34 (dk_at dksX0_write_1 3 rfl rfl)
theorem dX0_write_30 : decode cX0_write 30 = .ok (.iconst 1, 1) := dk_4 (dk_at dksX0_write_1 6 rfl rfl)
theorem dX0_write_31 : decode cX0_write 31 = .ok (.isub, 1) := dk_100 (dk_at dksX0_write_1 7 rfl rfl)
theorem dX0_write_32 : decode cX0_write 32 = .ok (.invokestatic 9, 3) := dk_184 0 9 (dk_at dksX0_write_1 8 rfl rfl)
theorem dX0_write_35 : decode cX0_write 35 = .ok (.iconst 0, 1) := dk_3 (dk_at dksX0_write_1 11 rfl rfl)
theorem dX0_write_36 : decode cX0_write 36 = .ok (.invokevirtual 302, 3) := dk_182 1 46 (dk_at dksX0_write_1 12 rfl rfl)
theorem dX0_write_39 : decode cX0_write 39 = .ok (.aload 4, 2) := dk_25 4 (dk_at dksX0_write_1 15 rfl rfl)
theorem dX0_write_41 : decode cX0_write 41 = .ok (.iload_n 2, 1) := dk_28 (dk_at dksX0_write_1 17 rfl rfl)
theorem dX0_write_42 : decode cX0_write 42 = .ok (.iload_n 3, 1) := dk_29 (dk_at dksX0_write_1 18 rfl rfl)
theorem dX0_write_43 : decode cX0_write 43 = .ok (.invokestatic 380, 3) := dk_184 1 124 (dk_at dksX0_write_1 19 rfl rfl)
theorem dX0_write_46 : decode cX0_write 46 = .ok (.iconst 1, 1) := dk_4 (dk_at dksX0_write_1 22 rfl rfl)
theorem dX0_write_47 : decode cX0_write 47 = .ok (.ireturn, 1) := dk_172 (dk_at dksX0_write_1 23 rfl rfl)
theorem dX0_write_48 : decode cX0_write 48 = .ok (.astore 4, 2) := dk_58 4 (dk_at dksX0_write_2 0 rfl rfl)
theorem dX0_write_50 : decode cX0_write 50 = .ok (.aload_n 0, 1) := dk_42 (dk_at dksX0_write_2 2 rfl rfl)
theorem dX0_write_51 : decode cX0_write 51 = .ok (.aload 4, 2) := dk_25 4 (dk_at dksX0_write_2 3 rfl rfl)
theorem dX0_write_53 : decode cX0_write 53 = .ok (.getfield 106, 3) := dk_180 0 106 (dk_at dksX0_write_2 5 rfl rfl)
theorem dX0_write_56 : decode cX0_write 56 = .ok (.invokevirtual 116, 3) := dk_182 0 116 (dk_at dksX0_write_2 8 rfl rfl)
theorem dX0_write_59 : decode cX0_write 59 = .ok (.ireturn, 1) := dk_172 (dk_at dksX0_write_2 11 rfl rfl)
abbrev cX0_lay_2 : ByteArray := prog_1_method_90_code
def yX0_lay_2 : MethodName := ⟨RX0, "lay", "(Ljava/lang/Object;II)V"⟩
def dkwX0_lay_2_1 : List UInt8 := [153, 0, 14, 42, 192, 1, 121, 27, 28, 147, 86, 167, 0, 10, 42, 192, 1, 123, 27, 28, 79, 177]
abbrev dktX0_lay_2_1 : List UInt8 := dkwX0_lay_2_1 ++ []
def dkwX0_lay_2_0 : List UInt8 := [42, 193, 1, 120, 153, 0, 14, 42, 192, 1, 120, 27, 28, 145, 84, 167, 0, 28, 42, 193, 1, 121]
abbrev dktX0_lay_2_0 : List UInt8 := dkwX0_lay_2_0 ++ dktX0_lay_2_1
theorem dksX0_lay_2_0 : cX0_lay_2.data.toList.drop 0 = dktX0_lay_2_0 := by decide +kernel
theorem dksX0_lay_2_1 : cX0_lay_2.data.toList.drop 22 = dktX0_lay_2_1 := dk_seg dksX0_lay_2_0 22 rfl rfl
theorem dX0_lay_2_0 : decode cX0_lay_2 0 = .ok (.aload_n 0, 1) := dk_42 (dk_at dksX0_lay_2_0 0 rfl rfl)
theorem dX0_lay_2_1 : decode cX0_lay_2 1 = .ok (.instanceof 376, 3) := dk_193 1 120 (dk_at dksX0_lay_2_0 1 rfl rfl)
theorem dX0_lay_2_4 : decode cX0_lay_2 4 = .ok (.ifCond .eq 14, 3) := dk_153 0 14 (dk_at dksX0_lay_2_0 4 rfl rfl)
theorem dX0_lay_2_7 : decode cX0_lay_2 7 = .ok (.aload_n 0, 1) := dk_42 (dk_at dksX0_lay_2_0 7 rfl rfl)
theorem dX0_lay_2_8 : decode cX0_lay_2 8 = .ok (.checkcast 376, 3) := dk_192 1 120 (dk_at dksX0_lay_2_0 8 rfl rfl)
theorem dX0_lay_2_11 : decode cX0_lay_2 11 = .ok (.iload_n 1, 1) := dk_27 (dk_at dksX0_lay_2_0 11 rfl rfl)
theorem dX0_lay_2_12 : decode cX0_lay_2 12 = .ok (.iload_n 2, 1) := dk_28 (dk_at dksX0_lay_2_0 12 rfl rfl)
theorem dX0_lay_2_13 : decode cX0_lay_2 13 = .ok (.i2b, 1) := dk_145 (dk_at dksX0_lay_2_0 13 rfl rfl)
theorem dX0_lay_2_14 : decode cX0_lay_2 14 = .ok (.bastore, 1) := dk_84 (dk_at dksX0_lay_2_0 14 rfl rfl)
theorem dX0_lay_2_15 : decode cX0_lay_2 15 = .ok (.goto 28, 3) := dk_167 0 28 (dk_at dksX0_lay_2_0 15 rfl rfl)
theorem dX0_lay_2_18 : decode cX0_lay_2 18 = .ok (.aload_n 0, 1) := dk_42 (dk_at dksX0_lay_2_0 18 rfl rfl)
theorem dX0_lay_2_19 : decode cX0_lay_2 19 = .ok (.instanceof 377, 3) := dk_193 1 121 (dk_at dksX0_lay_2_0 19 rfl rfl)
theorem dX0_lay_2_22 : decode cX0_lay_2 22 = .ok (.ifCond .eq 14, 3) := dk_153 0 14 (dk_at dksX0_lay_2_1 0 rfl rfl)
theorem dX0_lay_2_25 : decode cX0_lay_2 25 = .ok (.aload_n 0, 1) := dk_42 (dk_at dksX0_lay_2_1 3 rfl rfl)
theorem dX0_lay_2_26 : decode cX0_lay_2 26 = .ok (.checkcast 377, 3) := dk_192 1 121 (dk_at dksX0_lay_2_1 4 rfl rfl)
theorem dX0_lay_2_29 : decode cX0_lay_2 29 = .ok (.iload_n 1, 1) := dk_27 (dk_at dksX0_lay_2_1 7 rfl rfl)
theorem dX0_lay_2_30 : decode cX0_lay_2 30 = .ok (.iload_n 2, 1) := dk_28 (dk_at dksX0_lay_2_1 8 rfl rfl)
theorem dX0_lay_2_31 : decode cX0_lay_2 31 = .ok (.i2s, 1) := dk_147 (dk_at dksX0_lay_2_1 9 rfl rfl)
theorem dX0_lay_2_32 : decode cX0_lay_2 32 = .ok (.sastore, 1) := dk_86 (dk_at dksX0_lay_2_1 10 rfl rfl)
theorem dX0_lay_2_33 : decode cX0_lay_2 33 = .ok (.goto 10, 3) := dk_167 0 10 (dk_at dksX0_lay_2_1 11 rfl rfl)
theorem dX0_lay_2_36 : decode cX0_lay_2 36 = .ok (.aload_n 0, 1) := dk_42 (dk_at dksX0_lay_2_1 14 rfl rfl)
theorem dX0_lay_2_37 : decode cX0_lay_2 37 = .ok (.checkcast 379, 3) := dk_192 1 123 (dk_at dksX0_lay_2_1 15 rfl rfl)
theorem dX0_lay_2_40 : decode cX0_lay_2 40 = .ok (.iload_n 1, 1) := dk_27 (dk_at dksX0_lay_2_1 18 rfl rfl)
theorem dX0_lay_2_41 : decode cX0_lay_2 41 = .ok (.iload_n 2, 1) := dk_28 (dk_at dksX0_lay_2_1 19 rfl rfl)
theorem dX0_lay_2_42 : decode cX0_lay_2 42 = .ok (.iastore, 1) := dk_79 (dk_at dksX0_lay_2_1 20 rfl rfl)
theorem dX0_lay_2_43 : decode cX0_lay_2 43 = .ok (.return_, 1) := dk_177 (dk_at dksX0_lay_2_1 21 rfl rfl)
abbrev cX0_copy : ByteArray := prog_1_method_93_code
def yX0_copy : MethodName := ⟨RX0, "copy", "(IIIII)I"⟩
def dkwX0_copy_5 : List UInt8 := [184, 1, 137, 21, 5, 172, 58, 6, 42, 25, 6, 180, 0, 106, 182, 0, 116, 172]
abbrev dktX0_copy_5 : List UInt8 := dkwX0_copy_5 ++ []
def dkwX0_copy_4 : List UInt8 := [100, 163, 0, 7, 4, 167, 0, 4, 3, 3, 182, 1, 46, 25, 6, 28, 25, 7, 21, 4, 21, 5]
abbrev dktX0_copy_4 : List UInt8 := dkwX0_copy_4 ++ dktX0_copy_5
def dkwX0_copy_3 : List UInt8 := [155, 0, 32, 28, 25, 6, 184, 1, 34, 21, 5, 100, 163, 0, 20, 21, 4, 25, 7, 184, 1, 34, 21, 5]
abbrev dktX0_copy_3 : List UInt8 := dkwX0_copy_3 ++ dktX0_copy_4
def dkwX0_copy_2 : List UInt8 := [160, 0, 7, 4, 167, 0, 4, 3, 5, 182, 1, 46, 42, 21, 5, 155, 0, 41, 28, 155, 0, 37, 21, 4]
abbrev dktX0_copy_2 : List UInt8 := dkwX0_copy_2 ++ dktX0_copy_3
def dkwX0_copy_1 : List UInt8 := [198, 0, 7, 4, 167, 0, 4, 3, 8, 182, 1, 46, 42, 25, 6, 184, 1, 134, 25, 7, 184, 1, 134]
abbrev dktX0_copy_1 : List UInt8 := dkwX0_copy_1 ++ dktX0_copy_2
def dkwX0_copy_0 : List UInt8 := [42, 27, 182, 1, 42, 58, 6, 42, 29, 182, 1, 42, 58, 7, 42, 25, 6, 198, 0, 12, 25, 7]
abbrev dktX0_copy_0 : List UInt8 := dkwX0_copy_0 ++ dktX0_copy_1
theorem dksX0_copy_0 : cX0_copy.data.toList.drop 0 = dktX0_copy_0 := by decide +kernel
theorem dksX0_copy_1 : cX0_copy.data.toList.drop 22 = dktX0_copy_1 := dk_seg dksX0_copy_0 22 rfl rfl
theorem dksX0_copy_2 : cX0_copy.data.toList.drop 45 = dktX0_copy_2 := dk_seg dksX0_copy_1 23 rfl rfl
theorem dksX0_copy_3 : cX0_copy.data.toList.drop 69 = dktX0_copy_3 := dk_seg dksX0_copy_2 24 rfl rfl
theorem dksX0_copy_4 : cX0_copy.data.toList.drop 93 = dktX0_copy_4 := dk_seg dksX0_copy_3 24 rfl rfl
theorem dksX0_copy_5 : cX0_copy.data.toList.drop 115 = dktX0_copy_5 := dk_seg dksX0_copy_4 22 rfl rfl
theorem dX0_copy_0 : decode cX0_copy 0 = .ok (.aload_n 0, 1) := dk_42 (dk_at dksX0_copy_0 0 rfl rfl)
theorem dX0_copy_1 : decode cX0_copy 1 = .ok (.iload_n 1, 1) := dk_27 (dk_at dksX0_copy_0 1 rfl rfl)
theorem dX0_copy_2 : decode cX0_copy 2 = .ok (.invokevirtual 298, 3) := dk_182 1 42 (dk_at dksX0_copy_0 2 rfl rfl)
theorem dX0_copy_5 : decode cX0_copy 5 = .ok (.astore 6, 2) := dk_58 6 (dk_at dksX0_copy_0 5 rfl rfl)
theorem dX0_copy_7 : decode cX0_copy 7 = .ok (.aload_n 0, 1) := dk_42 (dk_at dksX0_copy_0 7 rfl rfl)
theorem dX0_copy_8 : decode cX0_copy 8 = .ok (.iload_n 3, 1) := dk_29 (dk_at dksX0_copy_0 8 rfl rfl)
theorem dX0_copy_9 : decode cX0_copy 9 = .ok (.invokevirtual 298, 3) := dk_182 1 42 (dk_at dksX0_copy_0 9 rfl rfl)
theorem dX0_copy_12 : decode cX0_copy 12 = .ok (.astore 7, 2) := dk_58 7 (dk_at dksX0_copy_0 12 rfl rfl)
theorem dX0_copy_14 : decode cX0_copy 14 = .ok (.aload_n 0, 1) := dk_42 (dk_at dksX0_copy_0 14 rfl rfl)
theorem dX0_copy_15 : decode cX0_copy 15 = .ok (.aload 6, 2) := dk_25 6 (dk_at dksX0_copy_0 15 rfl rfl)
theorem dX0_copy_17 : decode cX0_copy 17 = .ok (.ifnull 12, 3) := dk_198 0 12 (dk_at dksX0_copy_0 17 rfl rfl)
theorem dX0_copy_20 : decode cX0_copy 20 = .ok (.aload 7, 2) := dk_25 7 (dk_at dksX0_copy_0 20 rfl rfl)
theorem dX0_copy_22 : decode cX0_copy 22 = .ok (.ifnull 7, 3) := dk_198 0 7 (dk_at dksX0_copy_1 0 rfl rfl)
theorem dX0_copy_25 : decode cX0_copy 25 = .ok (.iconst 1, 1) := dk_4 (dk_at dksX0_copy_1 3 rfl rfl)
theorem dX0_copy_26 : decode cX0_copy 26 = .ok (.goto 4, 3) := dk_167 0 4 (dk_at dksX0_copy_1 4 rfl rfl)
theorem dX0_copy_29 : decode cX0_copy 29 = .ok (.iconst 0, 1) := dk_3 (dk_at dksX0_copy_1 7 rfl rfl)
theorem dX0_copy_30 : decode cX0_copy 30 = .ok (.iconst 5, 1) := dk_8 (dk_at dksX0_copy_1 8 rfl rfl)
theorem dX0_copy_31 : decode cX0_copy 31 = .ok (.invokevirtual 302, 3) := dk_182 1 46 (dk_at dksX0_copy_1 9 rfl rfl)
theorem dX0_copy_34 : decode cX0_copy 34 = .ok (.aload_n 0, 1) := dk_42 (dk_at dksX0_copy_1 12 rfl rfl)
theorem dX0_copy_35 : decode cX0_copy 35 = .ok (.aload 6, 2) := dk_25 6 (dk_at dksX0_copy_1 13 rfl rfl)
theorem dX0_copy_37 : decode cX0_copy 37 = .ok (.invokestatic 390, 3) := dk_184 1 134 (dk_at dksX0_copy_1 15 rfl rfl)
theorem dX0_copy_40 : decode cX0_copy 40 = .ok (.aload 7, 2) := dk_25 7 (dk_at dksX0_copy_1 18 rfl rfl)
theorem dX0_copy_42 : decode cX0_copy 42 = .ok (.invokestatic 390, 3) := dk_184 1 134 (dk_at dksX0_copy_1 20 rfl rfl)
theorem dX0_copy_45 : decode cX0_copy 45 = .ok (.if_icmp .ne 7, 3) := dk_160 0 7 (dk_at dksX0_copy_2 0 rfl rfl)
theorem dX0_copy_48 : decode cX0_copy 48 = .ok (.iconst 1, 1) := dk_4 (dk_at dksX0_copy_2 3 rfl rfl)
theorem dX0_copy_49 : decode cX0_copy 49 = .ok (.goto 4, 3) := dk_167 0 4 (dk_at dksX0_copy_2 4 rfl rfl)
theorem dX0_copy_52 : decode cX0_copy 52 = .ok (.iconst 0, 1) := dk_3 (dk_at dksX0_copy_2 7 rfl rfl)
theorem dX0_copy_53 : decode cX0_copy 53 = .ok (.iconst 2, 1) := dk_5 (dk_at dksX0_copy_2 8 rfl rfl)
theorem dX0_copy_54 : decode cX0_copy 54 = .ok (.invokevirtual 302, 3) := dk_182 1 46 (dk_at dksX0_copy_2 9 rfl rfl)
theorem dX0_copy_57 : decode cX0_copy 57 = .ok (.aload_n 0, 1) := dk_42 (dk_at dksX0_copy_2 12 rfl rfl)
theorem dX0_copy_58 : decode cX0_copy 58 = .ok (.iload 5, 2) := dk_21 5 (dk_at dksX0_copy_2 13 rfl rfl)
theorem dX0_copy_60 : decode cX0_copy 60 = .ok (.ifCond .lt 41, 3) := dk_155 0 41 (dk_at dksX0_copy_2 15 rfl rfl)
theorem dX0_copy_63 : decode cX0_copy 63 = .ok (.iload_n 2, 1) := dk_28 (dk_at dksX0_copy_2 18 rfl rfl)
theorem dX0_copy_64 : decode cX0_copy 64 = .ok (.ifCond .lt 37, 3) := dk_155 0 37 (dk_at dksX0_copy_2 19 rfl rfl)
theorem dX0_copy_67 : decode cX0_copy 67 = .ok (.iload 4, 2) := dk_21 4 (dk_at dksX0_copy_2 22 rfl rfl)
theorem dX0_copy_69 : decode cX0_copy 69 = .ok (.ifCond .lt 32, 3) := dk_155 0 32 (dk_at dksX0_copy_3 0 rfl rfl)
theorem dX0_copy_72 : decode cX0_copy 72 = .ok (.iload_n 2, 1) := dk_28 (dk_at dksX0_copy_3 3 rfl rfl)
theorem dX0_copy_73 : decode cX0_copy 73 = .ok (.aload 6, 2) := dk_25 6 (dk_at dksX0_copy_3 4 rfl rfl)
theorem dX0_copy_75 : decode cX0_copy 75 = .ok (.invokestatic 290, 3) := dk_184 1 34 (dk_at dksX0_copy_3 6 rfl rfl)
theorem dX0_copy_78 : decode cX0_copy 78 = .ok (.iload 5, 2) := dk_21 5 (dk_at dksX0_copy_3 9 rfl rfl)
theorem dX0_copy_80 : decode cX0_copy 80 = .ok (.isub, 1) := dk_100 (dk_at dksX0_copy_3 11 rfl rfl)
theorem dX0_copy_81 : decode cX0_copy 81 = .ok (.if_icmp .gt 20, 3) := dk_163 0 20 (dk_at dksX0_copy_3 12 rfl rfl)
theorem dX0_copy_84 : decode cX0_copy 84 = .ok (.iload 4, 2) := dk_21 4 (dk_at dksX0_copy_3 15 rfl rfl)
theorem dX0_copy_86 : decode cX0_copy 86 = .ok (.aload 7, 2) := dk_25 7 (dk_at dksX0_copy_3 17 rfl rfl)
theorem dX0_copy_88 : decode cX0_copy 88 = .ok (.invokestatic 290, 3) := dk_184 1 34 (dk_at dksX0_copy_3 19 rfl rfl)
theorem dX0_copy_91 : decode cX0_copy 91 = .ok (.iload 5, 2) := dk_21 5 (dk_at dksX0_copy_3 22 rfl rfl)
theorem dX0_copy_93 : decode cX0_copy 93 = .ok (.isub, 1) := dk_100 (dk_at dksX0_copy_4 0 rfl rfl)
theorem dX0_copy_94 : decode cX0_copy 94 = .ok (.if_icmp .gt 7, 3) := dk_163 0 7 (dk_at dksX0_copy_4 1 rfl rfl)
theorem dX0_copy_97 : decode cX0_copy 97 = .ok (.iconst 1, 1) := dk_4 (dk_at dksX0_copy_4 4 rfl rfl)
theorem dX0_copy_98 : decode cX0_copy 98 = .ok (.goto 4, 3) := dk_167 0 4 (dk_at dksX0_copy_4 5 rfl rfl)
theorem dX0_copy_101 : decode cX0_copy 101 = .ok (.iconst 0, 1) := dk_3 (dk_at dksX0_copy_4 8 rfl rfl)
theorem dX0_copy_102 : decode cX0_copy 102 = .ok (.iconst 0, 1) := dk_3 (dk_at dksX0_copy_4 9 rfl rfl)
theorem dX0_copy_103 : decode cX0_copy 103 = .ok (.invokevirtual 302, 3) := dk_182 1 46 (dk_at dksX0_copy_4 10 rfl rfl)
theorem dX0_copy_106 : decode cX0_copy 106 = .ok (.aload 6, 2) := dk_25 6 (dk_at dksX0_copy_4 13 rfl rfl)
theorem dX0_copy_108 : decode cX0_copy 108 = .ok (.iload_n 2, 1) := dk_28 (dk_at dksX0_copy_4 15 rfl rfl)
theorem dX0_copy_109 : decode cX0_copy 109 = .ok (.aload 7, 2) := dk_25 7 (dk_at dksX0_copy_4 16 rfl rfl)
theorem dX0_copy_111 : decode cX0_copy 111 = .ok (.iload 4, 2) := dk_21 4 (dk_at dksX0_copy_4 18 rfl rfl)
theorem dX0_copy_113 : decode cX0_copy 113 = .ok (.iload 5, 2) := dk_21 5 (dk_at dksX0_copy_4 20 rfl rfl)
theorem dX0_copy_115 : decode cX0_copy 115 = .ok (.invokestatic 393, 3) := dk_184 1 137 (dk_at dksX0_copy_5 0 rfl rfl)
theorem dX0_copy_118 : decode cX0_copy 118 = .ok (.iload 5, 2) := dk_21 5 (dk_at dksX0_copy_5 3 rfl rfl)
theorem dX0_copy_120 : decode cX0_copy 120 = .ok (.ireturn, 1) := dk_172 (dk_at dksX0_copy_5 5 rfl rfl)
theorem dX0_copy_121 : decode cX0_copy 121 = .ok (.astore 6, 2) := dk_58 6 (dk_at dksX0_copy_5 6 rfl rfl)
theorem dX0_copy_123 : decode cX0_copy 123 = .ok (.aload_n 0, 1) := dk_42 (dk_at dksX0_copy_5 8 rfl rfl)
theorem dX0_copy_124 : decode cX0_copy 124 = .ok (.aload 6, 2) := dk_25 6 (dk_at dksX0_copy_5 9 rfl rfl)
theorem dX0_copy_126 : decode cX0_copy 126 = .ok (.getfield 106, 3) := dk_180 0 106 (dk_at dksX0_copy_5 11 rfl rfl)
theorem dX0_copy_129 : decode cX0_copy 129 = .ok (.invokevirtual 116, 3) := dk_182 0 116 (dk_at dksX0_copy_5 14 rfl rfl)
theorem dX0_copy_132 : decode cX0_copy 132 = .ok (.ireturn, 1) := dk_172 (dk_at dksX0_copy_5 17 rfl rfl)
abbrev cX0_widthOf : ByteArray := prog_1_method_89_code
def yX0_widthOf : MethodName := ⟨RX0, "widthOf", "(Ljava/lang/Object;)I"⟩
def dkwX0_widthOf_1 : List UInt8 := [16, 32, 172]
abbrev dktX0_widthOf_1 : List UInt8 := dkwX0_widthOf_1 ++ []
def dkwX0_widthOf_0 : List UInt8 := [42, 193, 1, 120, 153, 0, 8, 16, 8, 167, 0, 17, 42, 193, 1, 121, 153, 0, 8, 16, 16, 167, 0, 5]
abbrev dktX0_widthOf_0 : List UInt8 := dkwX0_widthOf_0 ++ dktX0_widthOf_1
theorem dksX0_widthOf_0 : cX0_widthOf.data.toList.drop 0 = dktX0_widthOf_0 := by decide +kernel
theorem dksX0_widthOf_1 : cX0_widthOf.data.toList.drop 24 = dktX0_widthOf_1 := dk_seg dksX0_widthOf_0 24 rfl rfl
theorem dX0_widthOf_0 : decode cX0_widthOf 0 = .ok (.aload_n 0, 1) := dk_42 (dk_at dksX0_widthOf_0 0 rfl rfl)
theorem dX0_widthOf_1 : decode cX0_widthOf 1 = .ok (.instanceof 376, 3) := dk_193 1 120 (dk_at dksX0_widthOf_0 1 rfl rfl)
theorem dX0_widthOf_4 : decode cX0_widthOf 4 = .ok (.ifCond .eq 8, 3) := dk_153 0 8 (dk_at dksX0_widthOf_0 4 rfl rfl)
theorem dX0_widthOf_7 : decode cX0_widthOf 7 = .ok (.bipush 8, 2) := dk_16 8 (dk_at dksX0_widthOf_0 7 rfl rfl)
theorem dX0_widthOf_9 : decode cX0_widthOf 9 = .ok (.goto 17, 3) := dk_167 0 17 (dk_at dksX0_widthOf_0 9 rfl rfl)
theorem dX0_widthOf_12 : decode cX0_widthOf 12 = .ok (.aload_n 0, 1) := dk_42 (dk_at dksX0_widthOf_0 12 rfl rfl)
theorem dX0_widthOf_13 : decode cX0_widthOf 13 = .ok (.instanceof 377, 3) := dk_193 1 121 (dk_at dksX0_widthOf_0 13 rfl rfl)
theorem dX0_widthOf_16 : decode cX0_widthOf 16 = .ok (.ifCond .eq 8, 3) := dk_153 0 8 (dk_at dksX0_widthOf_0 16 rfl rfl)
theorem dX0_widthOf_19 : decode cX0_widthOf 19 = .ok (.bipush 16, 2) := dk_16 16 (dk_at dksX0_widthOf_0 19 rfl rfl)
theorem dX0_widthOf_21 : decode cX0_widthOf 21 = .ok (.goto 5, 3) := dk_167 0 5 (dk_at dksX0_widthOf_0 21 rfl rfl)
theorem dX0_widthOf_24 : decode cX0_widthOf 24 = .ok (.bipush 32, 2) := dk_16 32 (dk_at dksX0_widthOf_1 0 rfl rfl)
theorem dX0_widthOf_26 : decode cX0_widthOf 26 = .ok (.ireturn, 1) := dk_172 (dk_at dksX0_widthOf_1 2 rfl rfl)
abbrev cX0_slide : ByteArray := prog_1_method_92_code
def yX0_slide : MethodName := ⟨RX0, "slide", "(Ljava/lang/Object;ILjava/lang/Object;II)V"⟩
def dkwX0_slide_2 : List UInt8 := [184, 1, 128, 167, 0, 18, 42, 192, 1, 123, 27, 44, 192, 1, 123, 29, 21, 4, 184, 1, 128, 177]
abbrev dktX0_slide_2 : List UInt8 := dkwX0_slide_2 ++ []
def dkwX0_slide_1 : List UInt8 := [167, 0, 43, 42, 193, 1, 121, 153, 0, 21, 42, 192, 1, 121, 27, 44, 192, 1, 121, 29, 21, 4]
abbrev dktX0_slide_1 : List UInt8 := dkwX0_slide_1 ++ dktX0_slide_2
def dkwX0_slide_0 : List UInt8 := [42, 193, 1, 120, 153, 0, 21, 42, 192, 1, 120, 27, 44, 192, 1, 120, 29, 21, 4, 184, 1, 128]
abbrev dktX0_slide_0 : List UInt8 := dkwX0_slide_0 ++ dktX0_slide_1
theorem dksX0_slide_0 : cX0_slide.data.toList.drop 0 = dktX0_slide_0 := by decide +kernel
theorem dksX0_slide_1 : cX0_slide.data.toList.drop 22 = dktX0_slide_1 := dk_seg dksX0_slide_0 22 rfl rfl
theorem dksX0_slide_2 : cX0_slide.data.toList.drop 44 = dktX0_slide_2 := dk_seg dksX0_slide_1 22 rfl rfl
theorem dX0_slide_0 : decode cX0_slide 0 = .ok (.aload_n 0, 1) := dk_42 (dk_at dksX0_slide_0 0 rfl rfl)
theorem dX0_slide_1 : decode cX0_slide 1 = .ok (.instanceof 376, 3) := dk_193 1 120 (dk_at dksX0_slide_0 1 rfl rfl)
theorem dX0_slide_4 : decode cX0_slide 4 = .ok (.ifCond .eq 21, 3) := dk_153 0 21 (dk_at dksX0_slide_0 4 rfl rfl)
theorem dX0_slide_7 : decode cX0_slide 7 = .ok (.aload_n 0, 1) := dk_42 (dk_at dksX0_slide_0 7 rfl rfl)
theorem dX0_slide_8 : decode cX0_slide 8 = .ok (.checkcast 376, 3) := dk_192 1 120 (dk_at dksX0_slide_0 8 rfl rfl)
theorem dX0_slide_11 : decode cX0_slide 11 = .ok (.iload_n 1, 1) := dk_27 (dk_at dksX0_slide_0 11 rfl rfl)
theorem dX0_slide_12 : decode cX0_slide 12 = .ok (.aload_n 2, 1) := dk_44 (dk_at dksX0_slide_0 12 rfl rfl)
theorem dX0_slide_13 : decode cX0_slide 13 = .ok (.checkcast 376, 3) := dk_192 1 120 (dk_at dksX0_slide_0 13 rfl rfl)
theorem dX0_slide_16 : decode cX0_slide 16 = .ok (.iload_n 3, 1) := dk_29 (dk_at dksX0_slide_0 16 rfl rfl)
theorem dX0_slide_17 : decode cX0_slide 17 = .ok (.iload 4, 2) := dk_21 4 (dk_at dksX0_slide_0 17 rfl rfl)
theorem dX0_slide_19 : decode cX0_slide 19 = .ok (.invokestatic 384, 3) := dk_184 1 128 (dk_at dksX0_slide_0 19 rfl rfl)
theorem dX0_slide_22 : decode cX0_slide 22 = .ok (.goto 43, 3) := dk_167 0 43 (dk_at dksX0_slide_1 0 rfl rfl)
theorem dX0_slide_25 : decode cX0_slide 25 = .ok (.aload_n 0, 1) := dk_42 (dk_at dksX0_slide_1 3 rfl rfl)
theorem dX0_slide_26 : decode cX0_slide 26 = .ok (.instanceof 377, 3) := dk_193 1 121 (dk_at dksX0_slide_1 4 rfl rfl)
theorem dX0_slide_29 : decode cX0_slide 29 = .ok (.ifCond .eq 21, 3) := dk_153 0 21 (dk_at dksX0_slide_1 7 rfl rfl)
theorem dX0_slide_32 : decode cX0_slide 32 = .ok (.aload_n 0, 1) := dk_42 (dk_at dksX0_slide_1 10 rfl rfl)
theorem dX0_slide_33 : decode cX0_slide 33 = .ok (.checkcast 377, 3) := dk_192 1 121 (dk_at dksX0_slide_1 11 rfl rfl)
theorem dX0_slide_36 : decode cX0_slide 36 = .ok (.iload_n 1, 1) := dk_27 (dk_at dksX0_slide_1 14 rfl rfl)
theorem dX0_slide_37 : decode cX0_slide 37 = .ok (.aload_n 2, 1) := dk_44 (dk_at dksX0_slide_1 15 rfl rfl)
theorem dX0_slide_38 : decode cX0_slide 38 = .ok (.checkcast 377, 3) := dk_192 1 121 (dk_at dksX0_slide_1 16 rfl rfl)
theorem dX0_slide_41 : decode cX0_slide 41 = .ok (.iload_n 3, 1) := dk_29 (dk_at dksX0_slide_1 19 rfl rfl)
theorem dX0_slide_42 : decode cX0_slide 42 = .ok (.iload 4, 2) := dk_21 4 (dk_at dksX0_slide_1 20 rfl rfl)
theorem dX0_slide_44 : decode cX0_slide 44 = .ok (.invokestatic 384, 3) := dk_184 1 128 (dk_at dksX0_slide_2 0 rfl rfl)
theorem dX0_slide_47 : decode cX0_slide 47 = .ok (.goto 18, 3) := dk_167 0 18 (dk_at dksX0_slide_2 3 rfl rfl)
theorem dX0_slide_50 : decode cX0_slide 50 = .ok (.aload_n 0, 1) := dk_42 (dk_at dksX0_slide_2 6 rfl rfl)
theorem dX0_slide_51 : decode cX0_slide 51 = .ok (.checkcast 379, 3) := dk_192 1 123 (dk_at dksX0_slide_2 7 rfl rfl)
theorem dX0_slide_54 : decode cX0_slide 54 = .ok (.iload_n 1, 1) := dk_27 (dk_at dksX0_slide_2 10 rfl rfl)
theorem dX0_slide_55 : decode cX0_slide 55 = .ok (.aload_n 2, 1) := dk_44 (dk_at dksX0_slide_2 11 rfl rfl)
theorem dX0_slide_56 : decode cX0_slide 56 = .ok (.checkcast 379, 3) := dk_192 1 123 (dk_at dksX0_slide_2 12 rfl rfl)
theorem dX0_slide_59 : decode cX0_slide 59 = .ok (.iload_n 3, 1) := dk_29 (dk_at dksX0_slide_2 15 rfl rfl)
theorem dX0_slide_60 : decode cX0_slide 60 = .ok (.iload 4, 2) := dk_21 4 (dk_at dksX0_slide_2 16 rfl rfl)
theorem dX0_slide_62 : decode cX0_slide 62 = .ok (.invokestatic 384, 3) := dk_184 1 128 (dk_at dksX0_slide_2 18 rfl rfl)
theorem dX0_slide_65 : decode cX0_slide 65 = .ok (.return_, 1) := dk_177 (dk_at dksX0_slide_2 21 rfl rfl)
abbrev cX0_load : ByteArray := prog_1_method_95_code
def yX0_load : MethodName := ⟨RX0, "load", "(I)I"⟩
def dkwX0_load_1 : List UInt8 := [182, 1, 140, 172, 77, 42, 44, 180, 0, 106, 182, 0, 116, 172]
abbrev dktX0_load_1 : List UInt8 := dkwX0_load_1 ++ []
def dkwX0_load_0 : List UInt8 := [42, 27, 182, 1, 42, 77, 42, 44, 198, 0, 7, 4, 167, 0, 4, 3, 8, 182, 1, 46, 42, 44]
abbrev dktX0_load_0 : List UInt8 := dkwX0_load_0 ++ dktX0_load_1
theorem dksX0_load_0 : cX0_load.data.toList.drop 0 = dktX0_load_0 := by decide +kernel
theorem dksX0_load_1 : cX0_load.data.toList.drop 22 = dktX0_load_1 := dk_seg dksX0_load_0 22 rfl rfl
theorem dX0_load_0 : decode cX0_load 0 = .ok (.aload_n 0, 1) := dk_42 (dk_at dksX0_load_0 0 rfl rfl)
theorem dX0_load_1 : decode cX0_load 1 = .ok (.iload_n 1, 1) := dk_27 (dk_at dksX0_load_0 1 rfl rfl)
theorem dX0_load_2 : decode cX0_load 2 = .ok (.invokevirtual 298, 3) := dk_182 1 42 (dk_at dksX0_load_0 2 rfl rfl)
theorem dX0_load_5 : decode cX0_load 5 = .ok (.astore_n 2, 1) := dk_77 (dk_at dksX0_load_0 5 rfl rfl)
theorem dX0_load_6 : decode cX0_load 6 = .ok (.aload_n 0, 1) := dk_42 (dk_at dksX0_load_0 6 rfl rfl)
theorem dX0_load_7 : decode cX0_load 7 = .ok (.aload_n 2, 1) := dk_44 (dk_at dksX0_load_0 7 rfl rfl)
theorem dX0_load_8 : decode cX0_load 8 = .ok (.ifnull 7, 3) := dk_198 0 7 (dk_at dksX0_load_0 8 rfl rfl)
theorem dX0_load_11 : decode cX0_load 11 = .ok (.iconst 1, 1) := dk_4 (dk_at dksX0_load_0 11 rfl rfl)
theorem dX0_load_12 : decode cX0_load 12 = .ok (.goto 4, 3) := dk_167 0 4 (dk_at dksX0_load_0 12 rfl rfl)
theorem dX0_load_15 : decode cX0_load 15 = .ok (.iconst 0, 1) := dk_3 (dk_at dksX0_load_0 15 rfl rfl)
theorem dX0_load_16 : decode cX0_load 16 = .ok (.iconst 5, 1) := dk_8 (dk_at dksX0_load_0 16 rfl rfl)
theorem dX0_load_17 : decode cX0_load 17 = .ok (.invokevirtual 302, 3) := dk_182 1 46 (dk_at dksX0_load_0 17 rfl rfl)
theorem dX0_load_20 : decode cX0_load 20 = .ok (.aload_n 0, 1) := dk_42 (dk_at dksX0_load_0 20 rfl rfl)
theorem dX0_load_21 : decode cX0_load 21 = .ok (.aload_n 2, 1) := dk_44 (dk_at dksX0_load_0 21 rfl rfl)
theorem dX0_load_22 : decode cX0_load 22 = .ok (.invokevirtual 396, 3) := dk_182 1 140 (dk_at dksX0_load_1 0 rfl rfl)
theorem dX0_load_25 : decode cX0_load 25 = .ok (.ireturn, 1) := dk_172 (dk_at dksX0_load_1 3 rfl rfl)
theorem dX0_load_26 : decode cX0_load 26 = .ok (.astore_n 2, 1) := dk_77 (dk_at dksX0_load_1 4 rfl rfl)
theorem dX0_load_27 : decode cX0_load 27 = .ok (.aload_n 0, 1) := dk_42 (dk_at dksX0_load_1 5 rfl rfl)
theorem dX0_load_28 : decode cX0_load 28 = .ok (.aload_n 2, 1) := dk_44 (dk_at dksX0_load_1 6 rfl rfl)
theorem dX0_load_29 : decode cX0_load 29 = .ok (.getfield 106, 3) := dk_180 0 106 (dk_at dksX0_load_1 7 rfl rfl)
theorem dX0_load_32 : decode cX0_load 32 = .ok (.invokevirtual 116, 3) := dk_182 0 116 (dk_at dksX0_load_1 10 rfl rfl)
theorem dX0_load_35 : decode cX0_load 35 = .ok (.ireturn, 1) := dk_172 (dk_at dksX0_load_1 13 rfl rfl)
abbrev cX0_loads : ByteArray := prog_1_method_94_code
def yX0_loads : MethodName := ⟨RX0, "loads", "(Ljava/lang/Object;)I"⟩
def dkwX0_loads_2 : List UInt8 := [167, 255, 213, 28, 172]
abbrev dktX0_loads_2 : List UInt8 := dkwX0_loads_2 ++ []
def dkwX0_loads_1 : List UInt8 := [184, 0, 171, 153, 0, 23, 42, 180, 0, 66, 180, 0, 162, 28, 43, 28, 184, 1, 38, 79, 132, 2, 1]
abbrev dktX0_loads_1 : List UInt8 := dkwX0_loads_1 ++ dktX0_loads_2
def dkwX0_loads_0 : List UInt8 := [3, 61, 28, 43, 184, 1, 34, 162, 0, 41, 28, 184, 0, 17, 153, 0, 34, 43, 28, 184, 1, 38]
abbrev dktX0_loads_0 : List UInt8 := dkwX0_loads_0 ++ dktX0_loads_1
theorem dksX0_loads_0 : cX0_loads.data.toList.drop 0 = dktX0_loads_0 := by decide +kernel
theorem dksX0_loads_1 : cX0_loads.data.toList.drop 22 = dktX0_loads_1 := dk_seg dksX0_loads_0 22 rfl rfl
theorem dksX0_loads_2 : cX0_loads.data.toList.drop 45 = dktX0_loads_2 := dk_seg dksX0_loads_1 23 rfl rfl
theorem dX0_loads_0 : decode cX0_loads 0 = .ok (.iconst 0, 1) := dk_3 (dk_at dksX0_loads_0 0 rfl rfl)
theorem dX0_loads_1 : decode cX0_loads 1 = .ok (.istore_n 2, 1) := dk_61 (dk_at dksX0_loads_0 1 rfl rfl)
theorem dX0_loads_2 : decode cX0_loads 2 = .ok (.iload_n 2, 1) := dk_28 (dk_at dksX0_loads_0 2 rfl rfl)
theorem dX0_loads_3 : decode cX0_loads 3 = .ok (.aload_n 1, 1) := dk_43 (dk_at dksX0_loads_0 3 rfl rfl)
theorem dX0_loads_4 : decode cX0_loads 4 = .ok (.invokestatic 290, 3) := dk_184 1 34 (dk_at dksX0_loads_0 4 rfl rfl)
theorem dX0_loads_7 : decode cX0_loads 7 = .ok (.if_icmp .ge 41, 3) := dk_162 0 41 (dk_at dksX0_loads_0 7 rfl rfl)
theorem dX0_loads_10 : decode cX0_loads 10 = .ok (.iload_n 2, 1) := dk_28 (dk_at dksX0_loads_0 10 rfl rfl)
theorem dX0_loads_11 : decode cX0_loads 11 = .ok (.invokestatic 17, 3) := dk_184 0 17 (dk_at dksX0_loads_0 11 rfl rfl)
theorem dX0_loads_14 : decode cX0_loads 14 = .ok (.ifCond .eq 34, 3) := dk_153 0 34 (dk_at dksX0_loads_0 14 rfl rfl)
theorem dX0_loads_17 : decode cX0_loads 17 = .ok (.aload_n 1, 1) := dk_43 (dk_at dksX0_loads_0 17 rfl rfl)
theorem dX0_loads_18 : decode cX0_loads 18 = .ok (.iload_n 2, 1) := dk_28 (dk_at dksX0_loads_0 18 rfl rfl)
theorem dX0_loads_19 : decode cX0_loads 19 = .ok (.invokestatic 294, 3) := dk_184 1 38 (dk_at dksX0_loads_0 19 rfl rfl)
theorem dX0_loads_22 : decode cX0_loads 22 = .ok (.invokestatic 171, 3) := dk_184 0 171 (dk_at dksX0_loads_1 0 rfl rfl)
theorem dX0_loads_25 : decode cX0_loads 25 = .ok (.ifCond .eq 23, 3) := dk_153 0 23 (dk_at dksX0_loads_1 3 rfl rfl)
theorem dX0_loads_28 : decode cX0_loads 28 = .ok (.aload_n 0, 1) := dk_42 (dk_at dksX0_loads_1 6 rfl rfl)
theorem dX0_loads_29 : decode cX0_loads 29 = .ok (.getfield 66, 3) := dk_180 0 66 (dk_at dksX0_loads_1 7 rfl rfl)
theorem dX0_loads_32 : decode cX0_loads 32 = .ok (.getfield 162, 3) := dk_180 0 162 (dk_at dksX0_loads_1 10 rfl rfl)
theorem dX0_loads_35 : decode cX0_loads 35 = .ok (.iload_n 2, 1) := dk_28 (dk_at dksX0_loads_1 13 rfl rfl)
theorem dX0_loads_36 : decode cX0_loads 36 = .ok (.aload_n 1, 1) := dk_43 (dk_at dksX0_loads_1 14 rfl rfl)
theorem dX0_loads_37 : decode cX0_loads 37 = .ok (.iload_n 2, 1) := dk_28 (dk_at dksX0_loads_1 15 rfl rfl)
theorem dX0_loads_38 : decode cX0_loads 38 = .ok (.invokestatic 294, 3) := dk_184 1 38 (dk_at dksX0_loads_1 16 rfl rfl)
theorem dX0_loads_41 : decode cX0_loads 41 = .ok (.iastore, 1) := dk_79 (dk_at dksX0_loads_1 19 rfl rfl)
theorem dX0_loads_42 : decode cX0_loads 42 = .ok (.iinc 2 1, 3) := dk_132 2 1 (dk_at dksX0_loads_1 20 rfl rfl)
theorem dX0_loads_45 : decode cX0_loads 45 = .ok (.goto (-43), 3) := dk_167 255 213 (dk_at dksX0_loads_2 0 rfl rfl)
theorem dX0_loads_48 : decode cX0_loads 48 = .ok (.iload_n 2, 1) := dk_28 (dk_at dksX0_loads_2 3 rfl rfl)
theorem dX0_loads_49 : decode cX0_loads 49 = .ok (.ireturn, 1) := dk_172 (dk_at dksX0_loads_2 4 rfl rfl)
abbrev cX0_judge : ByteArray := prog_1_method_96_code
def yX0_judge : MethodName := ⟨RX0, "judge", "(I)I"⟩
def dkwX0_judge_3 : List UInt8 := [3, 167, 0, 6, 4, 29, 96, 172, 77, 42, 44, 180, 0, 106, 182, 0, 116, 172]
abbrev dktX0_judge_3 : List UInt8 := dkwX0_judge_3 ++ []
def dkwX0_judge_2 : List UInt8 := [180, 0, 101, 5, 50, 29, 46, 160, 0, 9, 132, 3, 1, 167, 255, 218, 29, 44, 184, 1, 34, 160, 0, 7]
abbrev dktX0_judge_2 : List UInt8 := dkwX0_judge_2 ++ dktX0_judge_3
def dkwX0_judge_1 : List UInt8 := [184, 1, 34, 162, 0, 36, 42, 29, 182, 0, 177, 153, 0, 28, 44, 29, 184, 1, 38, 42, 180, 0, 66]
abbrev dktX0_judge_1 : List UInt8 := dkwX0_judge_1 ++ dktX0_judge_2
def dkwX0_judge_0 : List UInt8 := [42, 27, 182, 1, 42, 77, 42, 44, 198, 0, 7, 4, 167, 0, 4, 3, 8, 182, 1, 46, 3, 62, 29, 44]
abbrev dktX0_judge_0 : List UInt8 := dkwX0_judge_0 ++ dktX0_judge_1
theorem dksX0_judge_0 : cX0_judge.data.toList.drop 0 = dktX0_judge_0 := by decide +kernel
theorem dksX0_judge_1 : cX0_judge.data.toList.drop 24 = dktX0_judge_1 := dk_seg dksX0_judge_0 24 rfl rfl
theorem dksX0_judge_2 : cX0_judge.data.toList.drop 47 = dktX0_judge_2 := dk_seg dksX0_judge_1 23 rfl rfl
theorem dksX0_judge_3 : cX0_judge.data.toList.drop 71 = dktX0_judge_3 := dk_seg dksX0_judge_2 24 rfl rfl
theorem dX0_judge_0 : decode cX0_judge 0 = .ok (.aload_n 0, 1) := dk_42 (dk_at dksX0_judge_0 0 rfl rfl)
theorem dX0_judge_1 : decode cX0_judge 1 = .ok (.iload_n 1, 1) := dk_27 (dk_at dksX0_judge_0 1 rfl rfl)
theorem dX0_judge_2 : decode cX0_judge 2 = .ok (.invokevirtual 298, 3) := dk_182 1 42 (dk_at dksX0_judge_0 2 rfl rfl)
theorem dX0_judge_5 : decode cX0_judge 5 = .ok (.astore_n 2, 1) := dk_77 (dk_at dksX0_judge_0 5 rfl rfl)
theorem dX0_judge_6 : decode cX0_judge 6 = .ok (.aload_n 0, 1) := dk_42 (dk_at dksX0_judge_0 6 rfl rfl)
theorem dX0_judge_7 : decode cX0_judge 7 = .ok (.aload_n 2, 1) := dk_44 (dk_at dksX0_judge_0 7 rfl rfl)
theorem dX0_judge_8 : decode cX0_judge 8 = .ok (.ifnull 7, 3) := dk_198 0 7 (dk_at dksX0_judge_0 8 rfl rfl)
theorem dX0_judge_11 : decode cX0_judge 11 = .ok (.iconst 1, 1) := dk_4 (dk_at dksX0_judge_0 11 rfl rfl)
theorem dX0_judge_12 : decode cX0_judge 12 = .ok (.goto 4, 3) := dk_167 0 4 (dk_at dksX0_judge_0 12 rfl rfl)
theorem dX0_judge_15 : decode cX0_judge 15 = .ok (.iconst 0, 1) := dk_3 (dk_at dksX0_judge_0 15 rfl rfl)
theorem dX0_judge_16 : decode cX0_judge 16 = .ok (.iconst 5, 1) := dk_8 (dk_at dksX0_judge_0 16 rfl rfl)
theorem dX0_judge_17 : decode cX0_judge 17 = .ok (.invokevirtual 302, 3) := dk_182 1 46 (dk_at dksX0_judge_0 17 rfl rfl)
theorem dX0_judge_20 : decode cX0_judge 20 = .ok (.iconst 0, 1) := dk_3 (dk_at dksX0_judge_0 20 rfl rfl)
theorem dX0_judge_21 : decode cX0_judge 21 = .ok (.istore_n 3, 1) := dk_62 (dk_at dksX0_judge_0 21 rfl rfl)
theorem dX0_judge_22 : decode cX0_judge 22 = .ok (.iload_n 3, 1) := dk_29 (dk_at dksX0_judge_0 22 rfl rfl)
theorem dX0_judge_23 : decode cX0_judge 23 = .ok (.aload_n 2, 1) := dk_44 (dk_at dksX0_judge_0 23 rfl rfl)
theorem dX0_judge_24 : decode cX0_judge 24 = .ok (.invokestatic 290, 3) := dk_184 1 34 (dk_at dksX0_judge_1 0 rfl rfl)
theorem dX0_judge_27 : decode cX0_judge 27 = .ok (.if_icmp .ge 36, 3) := dk_162 0 36 (dk_at dksX0_judge_1 3 rfl rfl)
theorem dX0_judge_30 : decode cX0_judge 30 = .ok (.aload_n 0, 1) := dk_42 (dk_at dksX0_judge_1 6 rfl rfl)
theorem dX0_judge_31 : decode cX0_judge 31 = .ok (.iload_n 3, 1) := dk_29 (dk_at dksX0_judge_1 7 rfl rfl)
theorem dX0_judge_32 : decode cX0_judge 32 = .ok (.invokevirtual 177, 3) := dk_182 0 177 (dk_at dksX0_judge_1 8 rfl rfl)
theorem dX0_judge_35 : decode cX0_judge 35 = .ok (.ifCond .eq 28, 3) := dk_153 0 28 (dk_at dksX0_judge_1 11 rfl rfl)
theorem dX0_judge_38 : decode cX0_judge 38 = .ok (.aload_n 2, 1) := dk_44 (dk_at dksX0_judge_1 14 rfl rfl)
theorem dX0_judge_39 : decode cX0_judge 39 = .ok (.iload_n 3, 1) := dk_29 (dk_at dksX0_judge_1 15 rfl rfl)
theorem dX0_judge_40 : decode cX0_judge 40 = .ok (.invokestatic 294, 3) := dk_184 1 38 (dk_at dksX0_judge_1 16 rfl rfl)
theorem dX0_judge_43 : decode cX0_judge 43 = .ok (.aload_n 0, 1) := dk_42 (dk_at dksX0_judge_1 19 rfl rfl)
theorem dX0_judge_44 : decode cX0_judge 44 = .ok (.getfield 66, 3) := dk_180 0 66 (dk_at dksX0_judge_1 20 rfl rfl)
theorem dX0_judge_47 : decode cX0_judge 47 = .ok (.getfield 101, 3) := dk_180 0 101 (dk_at dksX0_judge_2 0 rfl rfl)
theorem dX0_judge_50 : decode cX0_judge 50 = .ok (.iconst 2, 1) := dk_5 (dk_at dksX0_judge_2 3 rfl rfl)
theorem dX0_judge_51 : decode cX0_judge 51 = .ok (.aaload, 1) := dk_50 (dk_at dksX0_judge_2 4 rfl rfl)
theorem dX0_judge_52 : decode cX0_judge 52 = .ok (.iload_n 3, 1) := dk_29 (dk_at dksX0_judge_2 5 rfl rfl)
theorem dX0_judge_53 : decode cX0_judge 53 = .ok (.iaload, 1) := dk_46 (dk_at dksX0_judge_2 6 rfl rfl)
theorem dX0_judge_54 : decode cX0_judge 54 = .ok (.if_icmp .ne 9, 3) := dk_160 0 9 (dk_at dksX0_judge_2 7 rfl rfl)
theorem dX0_judge_57 : decode cX0_judge 57 = .ok (.iinc 3 1, 3) := dk_132 3 1 (dk_at dksX0_judge_2 10 rfl rfl)
theorem dX0_judge_60 : decode cX0_judge 60 = .ok (.goto (-38), 3) := dk_167 255 218 (dk_at dksX0_judge_2 13 rfl rfl)
theorem dX0_judge_63 : decode cX0_judge 63 = .ok (.iload_n 3, 1) := dk_29 (dk_at dksX0_judge_2 16 rfl rfl)
theorem dX0_judge_64 : decode cX0_judge 64 = .ok (.aload_n 2, 1) := dk_44 (dk_at dksX0_judge_2 17 rfl rfl)
theorem dX0_judge_65 : decode cX0_judge 65 = .ok (.invokestatic 290, 3) := dk_184 1 34 (dk_at dksX0_judge_2 18 rfl rfl)
theorem dX0_judge_68 : decode cX0_judge 68 = .ok (.if_icmp .ne 7, 3) := dk_160 0 7 (dk_at dksX0_judge_2 21 rfl rfl)
theorem dX0_judge_71 : decode cX0_judge 71 = .ok (.iconst 0, 1) := dk_3 (dk_at dksX0_judge_3 0 rfl rfl)
theorem dX0_judge_72 : decode cX0_judge 72 = .ok (.goto 6, 3) := dk_167 0 6 (dk_at dksX0_judge_3 1 rfl rfl)
theorem dX0_judge_75 : decode cX0_judge 75 = .ok (.iconst 1, 1) := dk_4 (dk_at dksX0_judge_3 4 rfl rfl)
theorem dX0_judge_76 : decode cX0_judge 76 = .ok (.iload_n 3, 1) := dk_29 (dk_at dksX0_judge_3 5 rfl rfl)
theorem dX0_judge_77 : decode cX0_judge 77 = .ok (.iadd, 1) := dk_96 (dk_at dksX0_judge_3 6 rfl rfl)
theorem dX0_judge_78 : decode cX0_judge 78 = .ok (.ireturn, 1) := dk_172 (dk_at dksX0_judge_3 7 rfl rfl)
theorem dX0_judge_79 : decode cX0_judge 79 = .ok (.astore_n 2, 1) := dk_77 (dk_at dksX0_judge_3 8 rfl rfl)
theorem dX0_judge_80 : decode cX0_judge 80 = .ok (.aload_n 0, 1) := dk_42 (dk_at dksX0_judge_3 9 rfl rfl)
theorem dX0_judge_81 : decode cX0_judge 81 = .ok (.aload_n 2, 1) := dk_44 (dk_at dksX0_judge_3 10 rfl rfl)
theorem dX0_judge_82 : decode cX0_judge 82 = .ok (.getfield 106, 3) := dk_180 0 106 (dk_at dksX0_judge_3 11 rfl rfl)
theorem dX0_judge_85 : decode cX0_judge 85 = .ok (.invokevirtual 116, 3) := dk_182 0 116 (dk_at dksX0_judge_3 14 rfl rfl)
theorem dX0_judge_88 : decode cX0_judge 88 = .ok (.ireturn, 1) := dk_172 (dk_at dksX0_judge_3 17 rfl rfl)
abbrev cX0_image : ByteArray := prog_1_method_97_code
def yX0_image : MethodName := ⟨RX0, "image", "()I"⟩
def dkwX0_image_0 : List UInt8 := [42, 180, 0, 70, 42, 180, 0, 66, 182, 0, 227, 42, 4, 181, 1, 143, 4, 172]
abbrev dktX0_image_0 : List UInt8 := dkwX0_image_0 ++ []
theorem dksX0_image_0 : cX0_image.data.toList.drop 0 = dktX0_image_0 := by decide +kernel
theorem dX0_image_0 : decode cX0_image 0 = .ok (.aload_n 0, 1) := dk_42 (dk_at dksX0_image_0 0 rfl rfl)
theorem dX0_image_1 : decode cX0_image 1 = .ok (.getfield 70, 3) := dk_180 0 70 (dk_at dksX0_image_0 1 rfl rfl)
theorem dX0_image_4 : decode cX0_image 4 = .ok (.aload_n 0, 1) := dk_42 (dk_at dksX0_image_0 4 rfl rfl)
theorem dX0_image_5 : decode cX0_image 5 = .ok (.getfield 66, 3) := dk_180 0 66 (dk_at dksX0_image_0 5 rfl rfl)
theorem dX0_image_8 : decode cX0_image 8 = .ok (.invokevirtual 227, 3) := dk_182 0 227 (dk_at dksX0_image_0 8 rfl rfl)
theorem dX0_image_11 : decode cX0_image 11 = .ok (.aload_n 0, 1) := dk_42 (dk_at dksX0_image_0 11 rfl rfl)
theorem dX0_image_12 : decode cX0_image 12 = .ok (.iconst 1, 1) := dk_4 (dk_at dksX0_image_0 12 rfl rfl)
theorem dX0_image_13 : decode cX0_image 13 = .ok (.putfield 399, 3) := dk_181 1 143 (dk_at dksX0_image_0 13 rfl rfl)
theorem dX0_image_16 : decode cX0_image 16 = .ok (.iconst 1, 1) := dk_4 (dk_at dksX0_image_0 16 rfl rfl)
theorem dX0_image_17 : decode cX0_image 17 = .ok (.ireturn, 1) := dk_172 (dk_at dksX0_image_0 17 rfl rfl)
abbrev cX0_undo : ByteArray := prog_1_method_98_code
def yX0_undo : MethodName := ⟨RX0, "undo", "()I"⟩
def dkwX0_undo_1 : List UInt8 := [42, 180, 0, 66, 180, 0, 153, 172]
abbrev dktX0_undo_1 : List UInt8 := dkwX0_undo_1 ++ []
def dkwX0_undo_0 : List UInt8 := [42, 180, 1, 143, 154, 0, 9, 42, 6, 182, 0, 116, 172, 42, 180, 0, 66, 42, 180, 0, 70, 182, 0, 227]
abbrev dktX0_undo_0 : List UInt8 := dkwX0_undo_0 ++ dktX0_undo_1
theorem dksX0_undo_0 : cX0_undo.data.toList.drop 0 = dktX0_undo_0 := by decide +kernel
theorem dksX0_undo_1 : cX0_undo.data.toList.drop 24 = dktX0_undo_1 := dk_seg dksX0_undo_0 24 rfl rfl
theorem dX0_undo_0 : decode cX0_undo 0 = .ok (.aload_n 0, 1) := dk_42 (dk_at dksX0_undo_0 0 rfl rfl)
theorem dX0_undo_1 : decode cX0_undo 1 = .ok (.getfield 399, 3) := dk_180 1 143 (dk_at dksX0_undo_0 1 rfl rfl)
theorem dX0_undo_4 : decode cX0_undo 4 = .ok (.ifCond .ne 9, 3) := dk_154 0 9 (dk_at dksX0_undo_0 4 rfl rfl)
theorem dX0_undo_7 : decode cX0_undo 7 = .ok (.aload_n 0, 1) := dk_42 (dk_at dksX0_undo_0 7 rfl rfl)
theorem dX0_undo_8 : decode cX0_undo 8 = .ok (.iconst 3, 1) := dk_6 (dk_at dksX0_undo_0 8 rfl rfl)
theorem dX0_undo_9 : decode cX0_undo 9 = .ok (.invokevirtual 116, 3) := dk_182 0 116 (dk_at dksX0_undo_0 9 rfl rfl)
theorem dX0_undo_12 : decode cX0_undo 12 = .ok (.ireturn, 1) := dk_172 (dk_at dksX0_undo_0 12 rfl rfl)
theorem dX0_undo_13 : decode cX0_undo 13 = .ok (.aload_n 0, 1) := dk_42 (dk_at dksX0_undo_0 13 rfl rfl)
theorem dX0_undo_14 : decode cX0_undo 14 = .ok (.getfield 66, 3) := dk_180 0 66 (dk_at dksX0_undo_0 14 rfl rfl)
theorem dX0_undo_17 : decode cX0_undo 17 = .ok (.aload_n 0, 1) := dk_42 (dk_at dksX0_undo_0 17 rfl rfl)
theorem dX0_undo_18 : decode cX0_undo 18 = .ok (.getfield 70, 3) := dk_180 0 70 (dk_at dksX0_undo_0 18 rfl rfl)
theorem dX0_undo_21 : decode cX0_undo 21 = .ok (.invokevirtual 227, 3) := dk_182 0 227 (dk_at dksX0_undo_0 21 rfl rfl)
theorem dX0_undo_24 : decode cX0_undo 24 = .ok (.aload_n 0, 1) := dk_42 (dk_at dksX0_undo_1 0 rfl rfl)
theorem dX0_undo_25 : decode cX0_undo 25 = .ok (.getfield 66, 3) := dk_180 0 66 (dk_at dksX0_undo_1 1 rfl rfl)
theorem dX0_undo_28 : decode cX0_undo 28 = .ok (.getfield 153, 3) := dk_180 0 153 (dk_at dksX0_undo_1 4 rfl rfl)
theorem dX0_undo_31 : decode cX0_undo 31 = .ok (.ireturn, 1) := dk_172 (dk_at dksX0_undo_1 7 rfl rfl)
abbrev cX0_tear : ByteArray := prog_1_method_99_code
def yX0_tear : MethodName := ⟨RX0, "tear", "()I"⟩
def dkwX0_tear_0 : List UInt8 := [42, 180, 1, 143, 153, 0, 7, 4, 167, 0, 4, 3, 60, 42, 3, 181, 1, 143, 27, 172]
abbrev dktX0_tear_0 : List UInt8 := dkwX0_tear_0 ++ []
theorem dksX0_tear_0 : cX0_tear.data.toList.drop 0 = dktX0_tear_0 := by decide +kernel
theorem dX0_tear_0 : decode cX0_tear 0 = .ok (.aload_n 0, 1) := dk_42 (dk_at dksX0_tear_0 0 rfl rfl)
theorem dX0_tear_1 : decode cX0_tear 1 = .ok (.getfield 399, 3) := dk_180 1 143 (dk_at dksX0_tear_0 1 rfl rfl)
theorem dX0_tear_4 : decode cX0_tear 4 = .ok (.ifCond .eq 7, 3) := dk_153 0 7 (dk_at dksX0_tear_0 4 rfl rfl)
theorem dX0_tear_7 : decode cX0_tear 7 = .ok (.iconst 1, 1) := dk_4 (dk_at dksX0_tear_0 7 rfl rfl)
theorem dX0_tear_8 : decode cX0_tear 8 = .ok (.goto 4, 3) := dk_167 0 4 (dk_at dksX0_tear_0 8 rfl rfl)
theorem dX0_tear_11 : decode cX0_tear 11 = .ok (.iconst 0, 1) := dk_3 (dk_at dksX0_tear_0 11 rfl rfl)
theorem dX0_tear_12 : decode cX0_tear 12 = .ok (.istore_n 1, 1) := dk_60 (dk_at dksX0_tear_0 12 rfl rfl)
theorem dX0_tear_13 : decode cX0_tear 13 = .ok (.aload_n 0, 1) := dk_42 (dk_at dksX0_tear_0 13 rfl rfl)
theorem dX0_tear_14 : decode cX0_tear 14 = .ok (.iconst 0, 1) := dk_3 (dk_at dksX0_tear_0 14 rfl rfl)
theorem dX0_tear_15 : decode cX0_tear 15 = .ok (.putfield 399, 3) := dk_181 1 143 (dk_at dksX0_tear_0 15 rfl rfl)
theorem dX0_tear_18 : decode cX0_tear 18 = .ok (.iload_n 1, 1) := dk_27 (dk_at dksX0_tear_0 18 rfl rfl)
theorem dX0_tear_19 : decode cX0_tear 19 = .ok (.ireturn, 1) := dk_172 (dk_at dksX0_tear_0 19 rfl rfl)
abbrev cX0_count : ByteArray := prog_1_method_100_code
def yX0_count : MethodName := ⟨RX0, "count", "(I)I"⟩
def dkwX0_count_4 : List UInt8 := [42, 180, 0, 66, 180, 1, 76, 172, 42, 182, 1, 147, 172, 42, 3, 182, 0, 116, 172]
abbrev dktX0_count_4 : List UInt8 := dkwX0_count_4 ++ []
def dkwX0_count_3 : List UInt8 := [172, 42, 180, 0, 66, 180, 0, 197, 172, 42, 180, 0, 66, 16, 6, 182, 0, 209, 172, 42, 180, 1, 79, 172]
abbrev dktX0_count_3 : List UInt8 := dkwX0_count_3 ++ dktX0_count_4
def dkwX0_count_2 : List UInt8 := [42, 180, 0, 66, 180, 0, 153, 172, 42, 180, 0, 66, 180, 0, 114, 172, 42, 180, 0, 66, 5, 182, 0, 209]
abbrev dktX0_count_2 : List UInt8 := dkwX0_count_2 ++ dktX0_count_3
def dkwX0_count_1 : List UInt8 := [170, 0, 0, 0, 0, 0, 108, 0, 0, 0, 0, 0, 0, 0, 7, 0, 0, 0, 47, 0, 0, 0, 55, 0, 0, 0, 63, 0, 0, 0, 72, 0, 0, 0, 80, 0, 0, 0, 90, 0, 0, 0, 95, 0, 0, 0, 103]
abbrev dktX0_count_1 : List UInt8 := dkwX0_count_1 ++ dktX0_count_2
def dkwX0_count_0 : List UInt8 := [27]
abbrev dktX0_count_0 : List UInt8 := dkwX0_count_0 ++ dktX0_count_1
theorem dksX0_count_0 : cX0_count.data.toList.drop 0 = dktX0_count_0 := by decide +kernel
theorem dksX0_count_1 : cX0_count.data.toList.drop 1 = dktX0_count_1 := dk_seg dksX0_count_0 1 rfl rfl
theorem dksX0_count_2 : cX0_count.data.toList.drop 48 = dktX0_count_2 := dk_seg dksX0_count_1 47 rfl rfl
theorem dksX0_count_3 : cX0_count.data.toList.drop 72 = dktX0_count_3 := dk_seg dksX0_count_2 24 rfl rfl
theorem dksX0_count_4 : cX0_count.data.toList.drop 96 = dktX0_count_4 := dk_seg dksX0_count_3 24 rfl rfl
theorem dX0_count_0 : decode cX0_count 0 = .ok (.iload_n 1, 1) := dk_27 (dk_at dksX0_count_0 0 rfl rfl)
theorem dX0_count_1 : decode cX0_count 1 = .ok (.tableswitch 108 0 7 #[47, 55, 63, 72, 80, 90, 95, 103], 47) := by decide +kernel
theorem dX0_count_48 : decode cX0_count 48 = .ok (.aload_n 0, 1) := dk_42 (dk_at dksX0_count_2 0 rfl rfl)
theorem dX0_count_49 : decode cX0_count 49 = .ok (.getfield 66, 3) := dk_180 0 66 (dk_at dksX0_count_2 1 rfl rfl)
theorem dX0_count_52 : decode cX0_count 52 = .ok (.getfield 153, 3) := dk_180 0 153 (dk_at dksX0_count_2 4 rfl rfl)
theorem dX0_count_55 : decode cX0_count 55 = .ok (.ireturn, 1) := dk_172 (dk_at dksX0_count_2 7 rfl rfl)
theorem dX0_count_56 : decode cX0_count 56 = .ok (.aload_n 0, 1) := dk_42 (dk_at dksX0_count_2 8 rfl rfl)
theorem dX0_count_57 : decode cX0_count 57 = .ok (.getfield 66, 3) := dk_180 0 66 (dk_at dksX0_count_2 9 rfl rfl)
theorem dX0_count_60 : decode cX0_count 60 = .ok (.getfield 114, 3) := dk_180 0 114 (dk_at dksX0_count_2 12 rfl rfl)
theorem dX0_count_63 : decode cX0_count 63 = .ok (.ireturn, 1) := dk_172 (dk_at dksX0_count_2 15 rfl rfl)
theorem dX0_count_64 : decode cX0_count 64 = .ok (.aload_n 0, 1) := dk_42 (dk_at dksX0_count_2 16 rfl rfl)
theorem dX0_count_65 : decode cX0_count 65 = .ok (.getfield 66, 3) := dk_180 0 66 (dk_at dksX0_count_2 17 rfl rfl)
theorem dX0_count_68 : decode cX0_count 68 = .ok (.iconst 2, 1) := dk_5 (dk_at dksX0_count_2 20 rfl rfl)
theorem dX0_count_69 : decode cX0_count 69 = .ok (.invokevirtual 209, 3) := dk_182 0 209 (dk_at dksX0_count_2 21 rfl rfl)
theorem dX0_count_72 : decode cX0_count 72 = .ok (.ireturn, 1) := dk_172 (dk_at dksX0_count_3 0 rfl rfl)
theorem dX0_count_73 : decode cX0_count 73 = .ok (.aload_n 0, 1) := dk_42 (dk_at dksX0_count_3 1 rfl rfl)
theorem dX0_count_74 : decode cX0_count 74 = .ok (.getfield 66, 3) := dk_180 0 66 (dk_at dksX0_count_3 2 rfl rfl)
theorem dX0_count_77 : decode cX0_count 77 = .ok (.getfield 197, 3) := dk_180 0 197 (dk_at dksX0_count_3 5 rfl rfl)
theorem dX0_count_80 : decode cX0_count 80 = .ok (.ireturn, 1) := dk_172 (dk_at dksX0_count_3 8 rfl rfl)
theorem dX0_count_81 : decode cX0_count 81 = .ok (.aload_n 0, 1) := dk_42 (dk_at dksX0_count_3 9 rfl rfl)
theorem dX0_count_82 : decode cX0_count 82 = .ok (.getfield 66, 3) := dk_180 0 66 (dk_at dksX0_count_3 10 rfl rfl)
theorem dX0_count_85 : decode cX0_count 85 = .ok (.bipush 6, 2) := dk_16 6 (dk_at dksX0_count_3 13 rfl rfl)
theorem dX0_count_87 : decode cX0_count 87 = .ok (.invokevirtual 209, 3) := dk_182 0 209 (dk_at dksX0_count_3 15 rfl rfl)
theorem dX0_count_90 : decode cX0_count 90 = .ok (.ireturn, 1) := dk_172 (dk_at dksX0_count_3 18 rfl rfl)
theorem dX0_count_91 : decode cX0_count 91 = .ok (.aload_n 0, 1) := dk_42 (dk_at dksX0_count_3 19 rfl rfl)
theorem dX0_count_92 : decode cX0_count 92 = .ok (.getfield 335, 3) := dk_180 1 79 (dk_at dksX0_count_3 20 rfl rfl)
theorem dX0_count_95 : decode cX0_count 95 = .ok (.ireturn, 1) := dk_172 (dk_at dksX0_count_3 23 rfl rfl)
theorem dX0_count_96 : decode cX0_count 96 = .ok (.aload_n 0, 1) := dk_42 (dk_at dksX0_count_4 0 rfl rfl)
theorem dX0_count_97 : decode cX0_count 97 = .ok (.getfield 66, 3) := dk_180 0 66 (dk_at dksX0_count_4 1 rfl rfl)
theorem dX0_count_100 : decode cX0_count 100 = .ok (.getfield 332, 3) := dk_180 1 76 (dk_at dksX0_count_4 4 rfl rfl)
theorem dX0_count_103 : decode cX0_count 103 = .ok (.ireturn, 1) := dk_172 (dk_at dksX0_count_4 7 rfl rfl)
theorem dX0_count_104 : decode cX0_count 104 = .ok (.aload_n 0, 1) := dk_42 (dk_at dksX0_count_4 8 rfl rfl)
theorem dX0_count_105 : decode cX0_count 105 = .ok (.invokevirtual 403, 3) := dk_182 1 147 (dk_at dksX0_count_4 9 rfl rfl)
theorem dX0_count_108 : decode cX0_count 108 = .ok (.ireturn, 1) := dk_172 (dk_at dksX0_count_4 12 rfl rfl)
theorem dX0_count_109 : decode cX0_count 109 = .ok (.aload_n 0, 1) := dk_42 (dk_at dksX0_count_4 13 rfl rfl)
theorem dX0_count_110 : decode cX0_count 110 = .ok (.iconst 0, 1) := dk_3 (dk_at dksX0_count_4 14 rfl rfl)
theorem dX0_count_111 : decode cX0_count 111 = .ok (.invokevirtual 116, 3) := dk_182 0 116 (dk_at dksX0_count_4 15 rfl rfl)
theorem dX0_count_114 : decode cX0_count 114 = .ok (.ireturn, 1) := dk_172 (dk_at dksX0_count_4 18 rfl rfl)
abbrev cX0_holding : ByteArray := prog_1_method_81_code
def yX0_holding : MethodName := ⟨RX0, "holding", "()I"⟩
def dkwX0_holding_2 : List UInt8 := [167, 255, 227, 27, 172]
abbrev dktX0_holding_2 : List UInt8 := dkwX0_holding_2 ++ []
def dkwX0_holding_1 : List UInt8 := [21, 4, 46, 54, 5, 27, 21, 5, 2, 160, 0, 7, 3, 167, 0, 4, 4, 96, 60, 132, 4, 1]
abbrev dktX0_holding_1 : List UInt8 := dkwX0_holding_1 ++ dktX0_holding_2
def dkwX0_holding_0 : List UInt8 := [3, 60, 42, 180, 0, 66, 180, 1, 99, 77, 44, 190, 62, 3, 54, 4, 21, 4, 29, 162, 0, 29, 44]
abbrev dktX0_holding_0 : List UInt8 := dkwX0_holding_0 ++ dktX0_holding_1
theorem dksX0_holding_0 : cX0_holding.data.toList.drop 0 = dktX0_holding_0 := by decide +kernel
theorem dksX0_holding_1 : cX0_holding.data.toList.drop 23 = dktX0_holding_1 := dk_seg dksX0_holding_0 23 rfl rfl
theorem dksX0_holding_2 : cX0_holding.data.toList.drop 45 = dktX0_holding_2 := dk_seg dksX0_holding_1 22 rfl rfl
theorem dX0_holding_0 : decode cX0_holding 0 = .ok (.iconst 0, 1) := dk_3 (dk_at dksX0_holding_0 0 rfl rfl)
theorem dX0_holding_1 : decode cX0_holding 1 = .ok (.istore_n 1, 1) := dk_60 (dk_at dksX0_holding_0 1 rfl rfl)
theorem dX0_holding_2 : decode cX0_holding 2 = .ok (.aload_n 0, 1) := dk_42 (dk_at dksX0_holding_0 2 rfl rfl)
theorem dX0_holding_3 : decode cX0_holding 3 = .ok (.getfield 66, 3) := dk_180 0 66 (dk_at dksX0_holding_0 3 rfl rfl)
theorem dX0_holding_6 : decode cX0_holding 6 = .ok (.getfield 355, 3) := dk_180 1 99 (dk_at dksX0_holding_0 6 rfl rfl)
theorem dX0_holding_9 : decode cX0_holding 9 = .ok (.astore_n 2, 1) := dk_77 (dk_at dksX0_holding_0 9 rfl rfl)
theorem dX0_holding_10 : decode cX0_holding 10 = .ok (.aload_n 2, 1) := dk_44 (dk_at dksX0_holding_0 10 rfl rfl)
theorem dX0_holding_11 : decode cX0_holding 11 = .ok (.arraylength, 1) := dk_190 (dk_at dksX0_holding_0 11 rfl rfl)
theorem dX0_holding_12 : decode cX0_holding 12 = .ok (.istore_n 3, 1) := dk_62 (dk_at dksX0_holding_0 12 rfl rfl)
theorem dX0_holding_13 : decode cX0_holding 13 = .ok (.iconst 0, 1) := dk_3 (dk_at dksX0_holding_0 13 rfl rfl)
theorem dX0_holding_14 : decode cX0_holding 14 = .ok (.istore 4, 2) := dk_54 4 (dk_at dksX0_holding_0 14 rfl rfl)
theorem dX0_holding_16 : decode cX0_holding 16 = .ok (.iload 4, 2) := dk_21 4 (dk_at dksX0_holding_0 16 rfl rfl)
theorem dX0_holding_18 : decode cX0_holding 18 = .ok (.iload_n 3, 1) := dk_29 (dk_at dksX0_holding_0 18 rfl rfl)
theorem dX0_holding_19 : decode cX0_holding 19 = .ok (.if_icmp .ge 29, 3) := dk_162 0 29 (dk_at dksX0_holding_0 19 rfl rfl)
theorem dX0_holding_22 : decode cX0_holding 22 = .ok (.aload_n 2, 1) := dk_44 (dk_at dksX0_holding_0 22 rfl rfl)
theorem dX0_holding_23 : decode cX0_holding 23 = .ok (.iload 4, 2) := dk_21 4 (dk_at dksX0_holding_1 0 rfl rfl)
theorem dX0_holding_25 : decode cX0_holding 25 = .ok (.iaload, 1) := dk_46 (dk_at dksX0_holding_1 2 rfl rfl)
theorem dX0_holding_26 : decode cX0_holding 26 = .ok (.istore 5, 2) := dk_54 5 (dk_at dksX0_holding_1 3 rfl rfl)
theorem dX0_holding_28 : decode cX0_holding 28 = .ok (.iload_n 1, 1) := dk_27 (dk_at dksX0_holding_1 5 rfl rfl)
theorem dX0_holding_29 : decode cX0_holding 29 = .ok (.iload 5, 2) := dk_21 5 (dk_at dksX0_holding_1 6 rfl rfl)
theorem dX0_holding_31 : decode cX0_holding 31 = .ok (.iconst (-1), 1) := dk_2 (dk_at dksX0_holding_1 8 rfl rfl)
theorem dX0_holding_32 : decode cX0_holding 32 = .ok (.if_icmp .ne 7, 3) := dk_160 0 7 (dk_at dksX0_holding_1 9 rfl rfl)
theorem dX0_holding_35 : decode cX0_holding 35 = .ok (.iconst 0, 1) := dk_3 (dk_at dksX0_holding_1 12 rfl rfl)
theorem dX0_holding_36 : decode cX0_holding 36 = .ok (.goto 4, 3) := dk_167 0 4 (dk_at dksX0_holding_1 13 rfl rfl)
theorem dX0_holding_39 : decode cX0_holding 39 = .ok (.iconst 1, 1) := dk_4 (dk_at dksX0_holding_1 16 rfl rfl)
theorem dX0_holding_40 : decode cX0_holding 40 = .ok (.iadd, 1) := dk_96 (dk_at dksX0_holding_1 17 rfl rfl)
theorem dX0_holding_41 : decode cX0_holding 41 = .ok (.istore_n 1, 1) := dk_60 (dk_at dksX0_holding_1 18 rfl rfl)
theorem dX0_holding_42 : decode cX0_holding 42 = .ok (.iinc 4 1, 3) := dk_132 4 1 (dk_at dksX0_holding_1 19 rfl rfl)
theorem dX0_holding_45 : decode cX0_holding 45 = .ok (.goto (-29), 3) := dk_167 255 227 (dk_at dksX0_holding_2 0 rfl rfl)
theorem dX0_holding_48 : decode cX0_holding 48 = .ok (.iload_n 1, 1) := dk_27 (dk_at dksX0_holding_2 3 rfl rfl)
theorem dX0_holding_49 : decode cX0_holding 49 = .ok (.ireturn, 1) := dk_172 (dk_at dksX0_holding_2 4 rfl rfl)
abbrev cX0_status : ByteArray := prog_1_method_101_code
def yX0_status : MethodName := ⟨RX0, "status", "(I)I"⟩
def dkwX0_status_2 : List UInt8 := [167, 0, 4, 3, 96, 61, 132, 3, 1, 167, 255, 221, 28, 172]
abbrev dktX0_status_2 : List UInt8 := dkwX0_status_2 ++ []
def dkwX0_status_1 : List UInt8 := [180, 0, 88, 190, 162, 0, 32, 28, 27, 2, 159, 0, 8, 27, 29, 160, 0, 12, 42, 180, 0, 88, 29, 46]
abbrev dktX0_status_1 : List UInt8 := dkwX0_status_1 ++ dktX0_status_2
def dkwX0_status_0 : List UInt8 := [27, 2, 16, 6, 184, 0, 9, 154, 0, 9, 42, 3, 182, 0, 116, 172, 3, 61, 3, 62, 29, 42]
abbrev dktX0_status_0 : List UInt8 := dkwX0_status_0 ++ dktX0_status_1
theorem dksX0_status_0 : cX0_status.data.toList.drop 0 = dktX0_status_0 := by decide +kernel
theorem dksX0_status_1 : cX0_status.data.toList.drop 22 = dktX0_status_1 := dk_seg dksX0_status_0 22 rfl rfl
theorem dksX0_status_2 : cX0_status.data.toList.drop 46 = dktX0_status_2 := dk_seg dksX0_status_1 24 rfl rfl
theorem dX0_status_0 : decode cX0_status 0 = .ok (.iload_n 1, 1) := dk_27 (dk_at dksX0_status_0 0 rfl rfl)
theorem dX0_status_1 : decode cX0_status 1 = .ok (.iconst (-1), 1) := dk_2 (dk_at dksX0_status_0 1 rfl rfl)
theorem dX0_status_2 : decode cX0_status 2 = .ok (.bipush 6, 2) := dk_16 6 (dk_at dksX0_status_0 2 rfl rfl)
theorem dX0_status_4 : decode cX0_status 4 = .ok (.invokestatic 9, 3) := dk_184 0 9 (dk_at dksX0_status_0 4 rfl rfl)
theorem dX0_status_7 : decode cX0_status 7 = .ok (.ifCond .ne 9, 3) := dk_154 0 9 (dk_at dksX0_status_0 7 rfl rfl)
theorem dX0_status_10 : decode cX0_status 10 = .ok (.aload_n 0, 1) := dk_42 (dk_at dksX0_status_0 10 rfl rfl)
theorem dX0_status_11 : decode cX0_status 11 = .ok (.iconst 0, 1) := dk_3 (dk_at dksX0_status_0 11 rfl rfl)
theorem dX0_status_12 : decode cX0_status 12 = .ok (.invokevirtual 116, 3) := dk_182 0 116 (dk_at dksX0_status_0 12 rfl rfl)
theorem dX0_status_15 : decode cX0_status 15 = .ok (.ireturn, 1) := dk_172 (dk_at dksX0_status_0 15 rfl rfl)
theorem dX0_status_16 : decode cX0_status 16 = .ok (.iconst 0, 1) := dk_3 (dk_at dksX0_status_0 16 rfl rfl)
theorem dX0_status_17 : decode cX0_status 17 = .ok (.istore_n 2, 1) := dk_61 (dk_at dksX0_status_0 17 rfl rfl)
theorem dX0_status_18 : decode cX0_status 18 = .ok (.iconst 0, 1) := dk_3 (dk_at dksX0_status_0 18 rfl rfl)
theorem dX0_status_19 : decode cX0_status 19 = .ok (.istore_n 3, 1) := dk_62 (dk_at dksX0_status_0 19 rfl rfl)
theorem dX0_status_20 : decode cX0_status 20 = .ok (.iload_n 3, 1) := dk_29 (dk_at dksX0_status_0 20 rfl rfl)
theorem dX0_status_21 : decode cX0_status 21 = .ok (.aload_n 0, 1) := dk_42 (dk_at dksX0_status_0 21 rfl rfl)
theorem dX0_status_22 : decode cX0_status 22 = .ok (.getfield 88, 3) := dk_180 0 88 (dk_at dksX0_status_1 0 rfl rfl)
theorem dX0_status_25 : decode cX0_status 25 = .ok (.arraylength, 1) := dk_190 (dk_at dksX0_status_1 3 rfl rfl)
theorem dX0_status_26 : decode cX0_status 26 = .ok (.if_icmp .ge 32, 3) := dk_162 0 32 (dk_at dksX0_status_1 4 rfl rfl)
theorem dX0_status_29 : decode cX0_status 29 = .ok (.iload_n 2, 1) := dk_28 (dk_at dksX0_status_1 7 rfl rfl)
theorem dX0_status_30 : decode cX0_status 30 = .ok (.iload_n 1, 1) := dk_27 (dk_at dksX0_status_1 8 rfl rfl)
theorem dX0_status_31 : decode cX0_status 31 = .ok (.iconst (-1), 1) := dk_2 (dk_at dksX0_status_1 9 rfl rfl)
theorem dX0_status_32 : decode cX0_status 32 = .ok (.if_icmp .eq 8, 3) := dk_159 0 8 (dk_at dksX0_status_1 10 rfl rfl)
theorem dX0_status_35 : decode cX0_status 35 = .ok (.iload_n 1, 1) := dk_27 (dk_at dksX0_status_1 13 rfl rfl)
theorem dX0_status_36 : decode cX0_status 36 = .ok (.iload_n 3, 1) := dk_29 (dk_at dksX0_status_1 14 rfl rfl)
theorem dX0_status_37 : decode cX0_status 37 = .ok (.if_icmp .ne 12, 3) := dk_160 0 12 (dk_at dksX0_status_1 15 rfl rfl)
theorem dX0_status_40 : decode cX0_status 40 = .ok (.aload_n 0, 1) := dk_42 (dk_at dksX0_status_1 18 rfl rfl)
theorem dX0_status_41 : decode cX0_status 41 = .ok (.getfield 88, 3) := dk_180 0 88 (dk_at dksX0_status_1 19 rfl rfl)
theorem dX0_status_44 : decode cX0_status 44 = .ok (.iload_n 3, 1) := dk_29 (dk_at dksX0_status_1 22 rfl rfl)
theorem dX0_status_45 : decode cX0_status 45 = .ok (.iaload, 1) := dk_46 (dk_at dksX0_status_1 23 rfl rfl)
theorem dX0_status_46 : decode cX0_status 46 = .ok (.goto 4, 3) := dk_167 0 4 (dk_at dksX0_status_2 0 rfl rfl)
theorem dX0_status_49 : decode cX0_status 49 = .ok (.iconst 0, 1) := dk_3 (dk_at dksX0_status_2 3 rfl rfl)
theorem dX0_status_50 : decode cX0_status 50 = .ok (.iadd, 1) := dk_96 (dk_at dksX0_status_2 4 rfl rfl)
theorem dX0_status_51 : decode cX0_status 51 = .ok (.istore_n 2, 1) := dk_61 (dk_at dksX0_status_2 5 rfl rfl)
theorem dX0_status_52 : decode cX0_status 52 = .ok (.iinc 3 1, 3) := dk_132 3 1 (dk_at dksX0_status_2 6 rfl rfl)
theorem dX0_status_55 : decode cX0_status 55 = .ok (.goto (-35), 3) := dk_167 255 221 (dk_at dksX0_status_2 9 rfl rfl)
theorem dX0_status_58 : decode cX0_status 58 = .ok (.iload_n 2, 1) := dk_28 (dk_at dksX0_status_2 12 rfl rfl)
theorem dX0_status_59 : decode cX0_status 59 = .ok (.ireturn, 1) := dk_172 (dk_at dksX0_status_2 13 rfl rfl)
theorem q101 : (Jvm.Cond.initialized "ThunderCasks") ∈ lw_all := lw_g (lw_at lw_m1 1 rfl) rfl
theorem q126 : (Jvm.Cond.instantiable "ThunderCasks" (12 : Nat)) ∈ lw_all := lw_g (lw_at lw_m1 26 rfl) rfl
theorem q128 : (Jvm.Cond.instanceMethod ({ cls := "ThunderCasks", name := "<init>", desc := "()V" } : Jvm.MethodName)) ∈ lw_all := lw_g (lw_at lw_m1 28 rfl) rfl
theorem q129 : (Jvm.Cond.code ({ cls := "ThunderCasks", name := "<init>", desc := "()V" } : Jvm.MethodName) prog_1_method_12_code (2 : Nat) (Option.none : Option Jvm.ClassFile.FieldType)) ∈ lw_all := lw_g (lw_at lw_m1 29 rfl) rfl
theorem q130 : (Jvm.Cond.methodLink "ThunderCasks" (44 : Nat) ({ cls := "java/lang/Object", name := "<init>", desc := "()V" } : Jvm.MethodName)) ∈ lw_all := lw_g (lw_at lw_m1 30 rfl) rfl
theorem q133 : (Jvm.Cond.classLink "ThunderCasks" (49 : Nat) "ThunderCasks$Refusal") ∈ lw_all := lw_g (lw_at lw_m1 33 rfl) rfl
theorem q173 : (Jvm.Cond.methodLink "ThunderCasks" (51 : Nat) ({ cls := "ThunderCasks$Refusal", name := "<init>", desc := "()V" } : Jvm.MethodName)) ∈ lw_all := lw_g (lw_at lw_m1 73 rfl) rfl
theorem q185 : (Jvm.Cond.fieldLinkNest "ThunderCasks" (106 : Nat) "ThunderCasks$Refusal" "finding" "I" "ThunderCasks") ∈ lw_tbl := lw_at lw_m1 85 rfl
theorem q201 : (Jvm.Cond.classLink "ThunderCasks" (56 : Nat) "ThunderCasks$Reader") ∈ lw_all := lw_g (lw_at lw_m1 101 rfl) rfl
theorem q203 : (Jvm.Cond.methodLinkNest "ThunderCasks" (58 : Nat) ({ cls := "ThunderCasks$Reader", name := "<init>", desc := "()V" } : Jvm.MethodName) "ThunderCasks") ∈ lw_tbl := lw_at lw_m1 103 rfl
theorem q233 : (Jvm.Cond.fieldLinkNest "ThunderCasks" (159 : Nat) "ThunderCasks$World" "frost" "[I" "ThunderCasks") ∈ lw_tbl := lw_at lw_m1 133 rfl
theorem q236 : (Jvm.Cond.fieldLinkNest "ThunderCasks" (162 : Nat) "ThunderCasks$World" "list" "[I" "ThunderCasks") ∈ lw_tbl := lw_at lw_m1 136 rfl
theorem q238 : (Jvm.Cond.fieldLinkNest "ThunderCasks" (197 : Nat) "ThunderCasks$World" "claps" "I" "ThunderCasks") ∈ lw_tbl := lw_at lw_m1 138 rfl
theorem q241 : (Jvm.Cond.fieldLinkNest "ThunderCasks" (114 : Nat) "ThunderCasks$World" "casks" "I" "ThunderCasks") ∈ lw_tbl := lw_at lw_m1 141 rfl
theorem q244 : (Jvm.Cond.fieldLinkNest "ThunderCasks" (101 : Nat) "ThunderCasks$World" "cask" "[[I" "ThunderCasks") ∈ lw_tbl := lw_at lw_m1 144 rfl
theorem q247 : (Jvm.Cond.fieldLinkNest "ThunderCasks" (153 : Nat) "ThunderCasks$World" "day" "I" "ThunderCasks") ∈ lw_tbl := lw_at lw_m1 147 rfl
theorem q249 : (Jvm.Cond.fieldLinkNest "ThunderCasks" (332 : Nat) "ThunderCasks$World" "z" "I" "ThunderCasks") ∈ lw_tbl := lw_at lw_m1 149 rfl
theorem q251 : (Jvm.Cond.fieldLinkNest "ThunderCasks" (355 : Nat) "ThunderCasks$World" "holds" "[I" "ThunderCasks") ∈ lw_tbl := lw_at lw_m1 151 rfl
theorem q273 : (Jvm.Cond.fieldLinkNest "ThunderCasks" (338 : Nat) "ThunderCasks$Reader" "tape" "[B" "ThunderCasks") ∈ lw_tbl := lw_at lw_m1 173 rfl
theorem q275 : (Jvm.Cond.fieldLinkNest "ThunderCasks" (344 : Nat) "ThunderCasks$Reader" "told" "LThunderCasks$World;" "ThunderCasks") ∈ lw_tbl := lw_at lw_m1 175 rfl
theorem q277 : (Jvm.Cond.fieldLinkNest "ThunderCasks" (342 : Nat) "ThunderCasks$Reader" "length" "I" "ThunderCasks") ∈ lw_tbl := lw_at lw_m1 177 rfl
theorem q280 : (Jvm.Cond.fieldLinkNest "ThunderCasks" (352 : Nat) "ThunderCasks$Reader" "begin" "I" "ThunderCasks") ∈ lw_tbl := lw_at lw_m1 180 rfl
theorem q300 : (Jvm.Cond.classLink "ThunderCasks" (63 : Nat) "ThunderCasks$World") ∈ lw_all := lw_g (lw_at lw_m1 200 rfl) rfl
theorem q301 : (Jvm.Cond.methodLink "ThunderCasks" (65 : Nat) ({ cls := "ThunderCasks$World", name := "<init>", desc := "()V" } : Jvm.MethodName)) ∈ lw_all := lw_g (lw_at lw_m1 201 rfl) rfl
theorem q302 : (Jvm.Cond.classLink "ThunderCasks" (76 : Nat) "ThunderCasks$Slot") ∈ lw_all := lw_g (lw_at lw_m1 202 rfl) rfl
theorem q305 : (Jvm.Cond.methodLinkNest "ThunderCasks" (92 : Nat) ({ cls := "ThunderCasks$Slot", name := "<init>", desc := "()V" } : Jvm.MethodName) "ThunderCasks") ∈ lw_tbl := lw_at lw_m1 205 rfl
theorem q309 : (Jvm.Cond.fieldLinkNest "ThunderCasks" (97 : Nat) "ThunderCasks$Slot" "thing" "Ljava/lang/Object;" "ThunderCasks") ∈ lw_tbl := lw_at lw_m1 209 rfl
theorem q313 : (Jvm.Cond.methodLink "ThunderCasks" (93 : Nat) ({ cls := "ThunderCasks", name := "made", desc := "(II)LThunderCasks$Cask;" } : Jvm.MethodName)) ∈ lw_all := lw_g (lw_at lw_m1 213 rfl) rfl
theorem q314 : (Jvm.Cond.privateMethod ({ cls := "ThunderCasks", name := "made", desc := "(II)LThunderCasks$Cask;" } : Jvm.MethodName)) ∈ lw_tbl := lw_at lw_m1 214 rfl
theorem q315 : (Jvm.Cond.instanceMethod ({ cls := "ThunderCasks", name := "made", desc := "(II)LThunderCasks$Cask;" } : Jvm.MethodName)) ∈ lw_all := lw_g (lw_at lw_m1 215 rfl) rfl
theorem q316 : (Jvm.Cond.code ({ cls := "ThunderCasks", name := "made", desc := "(II)LThunderCasks$Cask;" } : Jvm.MethodName) prog_1_method_11_code (3 : Nat) (Option.some (Jvm.ClassFile.FieldType.object "ThunderCasks$Cask"))) ∈ lw_all := lw_g (lw_at lw_m1 216 rfl) rfl
theorem q317 : (Jvm.Cond.classLink "ThunderCasks" (20 : Nat) "ThunderCasks$Crack") ∈ lw_all := lw_g (lw_at lw_m1 217 rfl) rfl
theorem q319 : (Jvm.Cond.methodLink "ThunderCasks" (22 : Nat) ({ cls := "ThunderCasks$Crack", name := "<init>", desc := "(LThunderCasks;I)V" } : Jvm.MethodName)) ∈ lw_all := lw_g (lw_at lw_m1 219 rfl) rfl
theorem q328 : (Jvm.Cond.fieldLink "ThunderCasks" (371 : Nat) "ThunderCasks$Cask" "number" "I") ∈ lw_all := lw_g (lw_at lw_m1 228 rfl) rfl
theorem q337 : (Jvm.Cond.classLink "ThunderCasks" (26 : Nat) "ThunderCasks$Roll") ∈ lw_all := lw_g (lw_at lw_m1 237 rfl) rfl
theorem q339 : (Jvm.Cond.methodLink "ThunderCasks" (28 : Nat) ({ cls := "ThunderCasks$Roll", name := "<init>", desc := "(LThunderCasks;I)V" } : Jvm.MethodName)) ∈ lw_all := lw_g (lw_at lw_m1 239 rfl) rfl
theorem q349 : (Jvm.Cond.classLink "ThunderCasks" (29 : Nat) "ThunderCasks$Mellow") ∈ lw_all := lw_g (lw_at lw_m2 9 rfl) rfl
theorem q351 : (Jvm.Cond.methodLink "ThunderCasks" (31 : Nat) ({ cls := "ThunderCasks$Mellow", name := "<init>", desc := "(LThunderCasks;I)V" } : Jvm.MethodName)) ∈ lw_all := lw_g (lw_at lw_m2 11 rfl) rfl
theorem q362 : (Jvm.Cond.classLink "ThunderCasks" (32 : Nat) "ThunderCasks$Echo") ∈ lw_all := lw_g (lw_at lw_m2 22 rfl) rfl
theorem q364 : (Jvm.Cond.methodLink "ThunderCasks" (34 : Nat) ({ cls := "ThunderCasks$Echo", name := "<init>", desc := "(LThunderCasks;I)V" } : Jvm.MethodName)) ∈ lw_all := lw_g (lw_at lw_m2 24 rfl) rfl
theorem q376 : (Jvm.Cond.classLink "ThunderCasks" (35 : Nat) "ThunderCasks$Heat") ∈ lw_all := lw_g (lw_at lw_m2 36 rfl) rfl
theorem q378 : (Jvm.Cond.methodLink "ThunderCasks" (37 : Nat) ({ cls := "ThunderCasks$Heat", name := "<init>", desc := "(LThunderCasks;I)V" } : Jvm.MethodName)) ∈ lw_all := lw_g (lw_at lw_m2 38 rfl) rfl
theorem q388 : (Jvm.Cond.classLink "ThunderCasks" (38 : Nat) "ThunderCasks$Forged") ∈ lw_all := lw_g (lw_at lw_m2 48 rfl) rfl
theorem q390 : (Jvm.Cond.methodLink "ThunderCasks" (40 : Nat) ({ cls := "ThunderCasks$Forged", name := "<init>", desc := "(LThunderCasks;I)V" } : Jvm.MethodName)) ∈ lw_all := lw_g (lw_at lw_m2 50 rfl) rfl
theorem q401 : (Jvm.Cond.classLink "ThunderCasks" (41 : Nat) "ThunderCasks$Cask") ∈ lw_all := lw_g (lw_at lw_m2 61 rfl) rfl
theorem q403 : (Jvm.Cond.methodLink "ThunderCasks" (43 : Nat) ({ cls := "ThunderCasks$Cask", name := "<init>", desc := "(LThunderCasks;I)V" } : Jvm.MethodName)) ∈ lw_all := lw_g (lw_at lw_m2 63 rfl) rfl
theorem q407 : (Jvm.Cond.fieldLink "ThunderCasks" (52 : Nat) "ThunderCasks" "refusal" "LThunderCasks$Refusal;") ∈ lw_all := lw_g (lw_at lw_m2 67 rfl) rfl
theorem q408 : (Jvm.Cond.fieldLink "ThunderCasks" (59 : Nat) "ThunderCasks" "reader" "LThunderCasks$Reader;") ∈ lw_all := lw_g (lw_at lw_m2 68 rfl) rfl
theorem q409 : (Jvm.Cond.fieldLink "ThunderCasks" (335 : Nat) "ThunderCasks" "taped" "I") ∈ lw_all := lw_g (lw_at lw_m2 69 rfl) rfl
theorem q412 : (Jvm.Cond.fieldLink "ThunderCasks" (66 : Nat) "ThunderCasks" "d" "LThunderCasks$World;") ∈ lw_all := lw_g (lw_at lw_m2 72 rfl) rfl
theorem q413 : (Jvm.Cond.fieldLink "ThunderCasks" (70 : Nat) "ThunderCasks" "kept" "LThunderCasks$World;") ∈ lw_all := lw_g (lw_at lw_m2 73 rfl) rfl
theorem q414 : (Jvm.Cond.fieldLink "ThunderCasks" (73 : Nat) "ThunderCasks" "aside" "LThunderCasks$World;") ∈ lw_all := lw_g (lw_at lw_m2 74 rfl) rfl
theorem q415 : (Jvm.Cond.fieldLink "ThunderCasks" (399 : Nat) "ThunderCasks" "isKept" "Z") ∈ lw_all := lw_g (lw_at lw_m2 75 rfl) rfl
theorem q416 : (Jvm.Cond.fieldLink "ThunderCasks" (78 : Nat) "ThunderCasks" "casks" "[LThunderCasks$Slot;") ∈ lw_all := lw_g (lw_at lw_m2 76 rfl) rfl
theorem q417 : (Jvm.Cond.fieldLink "ThunderCasks" (82 : Nat) "ThunderCasks" "spots" "[LThunderCasks$Slot;") ∈ lw_all := lw_g (lw_at lw_m2 77 rfl) rfl
theorem q418 : (Jvm.Cond.fieldLink "ThunderCasks" (85 : Nat) "ThunderCasks" "sheets" "[LThunderCasks$Slot;") ∈ lw_all := lw_g (lw_at lw_m2 78 rfl) rfl
theorem q419 : (Jvm.Cond.fieldLink "ThunderCasks" (88 : Nat) "ThunderCasks" "findings" "[I") ∈ lw_all := lw_g (lw_at lw_m2 79 rfl) rfl
theorem q420 : (Jvm.Cond.fieldLink "ThunderCasks" (310 : Nat) "ThunderCasks" "firstFit" "I") ∈ lw_all := lw_g (lw_at lw_m2 80 rfl) rfl
theorem q421 : (Jvm.Cond.laysFinal "ThunderCasks" "ThunderCasks" "refusal" "LThunderCasks$Refusal;") ∈ lw_all := lw_g (lw_at lw_m2 81 rfl) rfl
theorem q422 : (Jvm.Cond.soleField "ThunderCasks" "refusal") ∈ lw_all := lw_g (lw_at lw_m2 82 rfl) rfl
theorem q423 : (Jvm.Cond.laysFinal "ThunderCasks" "ThunderCasks" "reader" "LThunderCasks$Reader;") ∈ lw_all := lw_g (lw_at lw_m2 83 rfl) rfl
theorem q424 : (Jvm.Cond.soleField "ThunderCasks" "reader") ∈ lw_all := lw_g (lw_at lw_m2 84 rfl) rfl
theorem q425 : (Jvm.Cond.lays "ThunderCasks" "ThunderCasks" "taped" "I") ∈ lw_all := lw_g (lw_at lw_m2 85 rfl) rfl
theorem q426 : (Jvm.Cond.soleField "ThunderCasks" "taped") ∈ lw_all := lw_g (lw_at lw_m2 86 rfl) rfl
theorem q427 : (Jvm.Cond.laysFinal "ThunderCasks" "ThunderCasks" "d" "LThunderCasks$World;") ∈ lw_all := lw_g (lw_at lw_m2 87 rfl) rfl
theorem q428 : (Jvm.Cond.soleField "ThunderCasks" "d") ∈ lw_all := lw_g (lw_at lw_m2 88 rfl) rfl
theorem q429 : (Jvm.Cond.laysFinal "ThunderCasks" "ThunderCasks" "kept" "LThunderCasks$World;") ∈ lw_all := lw_g (lw_at lw_m2 89 rfl) rfl
theorem q430 : (Jvm.Cond.soleField "ThunderCasks" "kept") ∈ lw_all := lw_g (lw_at lw_m2 90 rfl) rfl
theorem q431 : (Jvm.Cond.laysFinal "ThunderCasks" "ThunderCasks" "aside" "LThunderCasks$World;") ∈ lw_all := lw_g (lw_at lw_m2 91 rfl) rfl
theorem q432 : (Jvm.Cond.soleField "ThunderCasks" "aside") ∈ lw_all := lw_g (lw_at lw_m2 92 rfl) rfl
theorem q433 : (Jvm.Cond.lays "ThunderCasks" "ThunderCasks" "isKept" "Z") ∈ lw_all := lw_g (lw_at lw_m2 93 rfl) rfl
theorem q434 : (Jvm.Cond.soleField "ThunderCasks" "isKept") ∈ lw_all := lw_g (lw_at lw_m2 94 rfl) rfl
theorem q435 : (Jvm.Cond.laysFinal "ThunderCasks" "ThunderCasks" "casks" "[LThunderCasks$Slot;") ∈ lw_all := lw_g (lw_at lw_m2 95 rfl) rfl
theorem q436 : (Jvm.Cond.soleField "ThunderCasks" "casks") ∈ lw_all := lw_g (lw_at lw_m2 96 rfl) rfl
theorem q437 : (Jvm.Cond.laysFinal "ThunderCasks" "ThunderCasks" "spots" "[LThunderCasks$Slot;") ∈ lw_all := lw_g (lw_at lw_m2 97 rfl) rfl
theorem q438 : (Jvm.Cond.soleField "ThunderCasks" "spots") ∈ lw_all := lw_g (lw_at lw_m2 98 rfl) rfl
theorem q439 : (Jvm.Cond.laysFinal "ThunderCasks" "ThunderCasks" "sheets" "[LThunderCasks$Slot;") ∈ lw_all := lw_g (lw_at lw_m2 99 rfl) rfl
theorem q440 : (Jvm.Cond.soleField "ThunderCasks" "sheets") ∈ lw_all := lw_g (lw_at lw_m2 100 rfl) rfl
theorem q441 : (Jvm.Cond.laysFinal "ThunderCasks" "ThunderCasks" "findings" "[I") ∈ lw_all := lw_g (lw_at lw_m2 101 rfl) rfl
theorem q442 : (Jvm.Cond.soleField "ThunderCasks" "findings") ∈ lw_all := lw_g (lw_at lw_m2 102 rfl) rfl
theorem q443 : (Jvm.Cond.lays "ThunderCasks" "ThunderCasks" "firstFit" "I") ∈ lw_all := lw_g (lw_at lw_m2 103 rfl) rfl
theorem q444 : (Jvm.Cond.soleField "ThunderCasks" "firstFit") ∈ lw_all := lw_g (lw_at lw_m2 104 rfl) rfl
theorem q445 : (Jvm.Cond.superclass "ThunderCasks" "java/lang/Object") ∈ lw_all := lw_g (lw_at lw_m2 105 rfl) rfl
theorem q447 : (Jvm.Cond.instanceMethod ({ cls := "ThunderCasks", name := "frost", desc := "(II)I" } : Jvm.MethodName)) ∈ lw_all := lw_g (lw_at lw_m2 107 rfl) rfl
theorem q448 : (Jvm.Cond.selects "ThunderCasks" ({ cls := "ThunderCasks", name := "frost", desc := "(II)I" } : Jvm.MethodName) ({ cls := "ThunderCasks", name := "frost", desc := "(II)I" } : Jvm.MethodName)) ∈ lw_all := lw_g (lw_at lw_m2 108 rfl) rfl
theorem q449 : (Jvm.Cond.code ({ cls := "ThunderCasks", name := "frost", desc := "(II)I" } : Jvm.MethodName) prog_1_method_24_code (4 : Nat) (Option.some Jvm.ClassFile.FieldType.int)) ∈ lw_all := lw_g (lw_at lw_m2 109 rfl) rfl
theorem q450 : (Jvm.Cond.methodLink "ThunderCasks" (17 : Nat) ({ cls := "ThunderCasks", name := "isCellar", desc := "(I)Z" } : Jvm.MethodName)) ∈ lw_all := lw_g (lw_at lw_m2 110 rfl) rfl
theorem q451 : (Jvm.Cond.static ({ cls := "ThunderCasks", name := "isCellar", desc := "(I)Z" } : Jvm.MethodName)) ∈ lw_all := lw_g (lw_at lw_m2 111 rfl) rfl
theorem q452 : (Jvm.Cond.code ({ cls := "ThunderCasks", name := "isCellar", desc := "(I)Z" } : Jvm.MethodName) prog_1_method_7_code (1 : Nat) (Option.some Jvm.ClassFile.FieldType.boolean)) ∈ lw_all := lw_g (lw_at lw_m2 112 rfl) rfl
theorem q453 : (Jvm.Cond.methodLink "ThunderCasks" (9 : Nat) ({ cls := "ThunderCasks", name := "in", desc := "(III)Z" } : Jvm.MethodName)) ∈ lw_all := lw_g (lw_at lw_m2 113 rfl) rfl
theorem q454 : (Jvm.Cond.static ({ cls := "ThunderCasks", name := "in", desc := "(III)Z" } : Jvm.MethodName)) ∈ lw_all := lw_g (lw_at lw_m2 114 rfl) rfl
theorem q455 : (Jvm.Cond.code ({ cls := "ThunderCasks", name := "in", desc := "(III)Z" } : Jvm.MethodName) prog_1_method_1_code (3 : Nat) (Option.some Jvm.ClassFile.FieldType.boolean)) ∈ lw_all := lw_g (lw_at lw_m2 115 rfl) rfl
theorem q456 : (Jvm.Cond.methodLink "ThunderCasks" (116 : Nat) ({ cls := "ThunderCasks", name := "finding", desc := "(I)I" } : Jvm.MethodName)) ∈ lw_all := lw_g (lw_at lw_m2 116 rfl) rfl
theorem q457 : (Jvm.Cond.privateMethod ({ cls := "ThunderCasks", name := "finding", desc := "(I)I" } : Jvm.MethodName)) ∈ lw_tbl := lw_at lw_m2 117 rfl
theorem q458 : (Jvm.Cond.instanceMethod ({ cls := "ThunderCasks", name := "finding", desc := "(I)I" } : Jvm.MethodName)) ∈ lw_all := lw_g (lw_at lw_m2 118 rfl) rfl
theorem q459 : (Jvm.Cond.code ({ cls := "ThunderCasks", name := "finding", desc := "(I)I" } : Jvm.MethodName) prog_1_method_14_code (2 : Nat) (Option.some Jvm.ClassFile.FieldType.int)) ∈ lw_all := lw_g (lw_at lw_m2 119 rfl) rfl
theorem q460 : (Jvm.Cond.constant "ThunderCasks" (105 : Nat) (-1000001 : Int32)) ∈ lw_all := lw_g (lw_at lw_m2 120 rfl) rfl
theorem q462 : (Jvm.Cond.instanceMethod ({ cls := "ThunderCasks", name := "cellar", desc := "(II)I" } : Jvm.MethodName)) ∈ lw_all := lw_g (lw_at lw_m2 122 rfl) rfl
theorem q463 : (Jvm.Cond.selects "ThunderCasks" ({ cls := "ThunderCasks", name := "cellar", desc := "(II)I" } : Jvm.MethodName) ({ cls := "ThunderCasks", name := "cellar", desc := "(II)I" } : Jvm.MethodName)) ∈ lw_all := lw_g (lw_at lw_m2 123 rfl) rfl
theorem q464 : (Jvm.Cond.code ({ cls := "ThunderCasks", name := "cellar", desc := "(II)I" } : Jvm.MethodName) prog_1_method_25_code (3 : Nat) (Option.some Jvm.ClassFile.FieldType.int)) ∈ lw_all := lw_g (lw_at lw_m2 124 rfl) rfl
theorem q465 : (Jvm.Cond.methodLink "ThunderCasks" (165 : Nat) ({ cls := "ThunderCasks$World", name := "whatIsIn", desc := "(I)I" } : Jvm.MethodName)) ∈ lw_all := lw_g (lw_at lw_m2 125 rfl) rfl
theorem q469 : (Jvm.Cond.methodLink "ThunderCasks" (168 : Nat) ({ cls := "ThunderCasks$World", name := "emptiest", desc := "(I)I" } : Jvm.MethodName)) ∈ lw_all := lw_g (lw_at lw_m2 129 rfl) rfl
theorem q474 : (Jvm.Cond.instanceMethod ({ cls := "ThunderCasks", name := "storm", desc := "(II)I" } : Jvm.MethodName)) ∈ lw_all := lw_g (lw_at lw_m2 134 rfl) rfl
theorem q475 : (Jvm.Cond.selects "ThunderCasks" ({ cls := "ThunderCasks", name := "storm", desc := "(II)I" } : Jvm.MethodName) ({ cls := "ThunderCasks", name := "storm", desc := "(II)I" } : Jvm.MethodName)) ∈ lw_all := lw_g (lw_at lw_m2 135 rfl) rfl
theorem q476 : (Jvm.Cond.code ({ cls := "ThunderCasks", name := "storm", desc := "(II)I" } : Jvm.MethodName) prog_1_method_26_code (4 : Nat) (Option.some Jvm.ClassFile.FieldType.int)) ∈ lw_all := lw_g (lw_at lw_m2 136 rfl) rfl
theorem q477 : (Jvm.Cond.methodLink "ThunderCasks" (171 : Nat) ({ cls := "ThunderCasks", name := "isStorm", desc := "(I)Z" } : Jvm.MethodName)) ∈ lw_all := lw_g (lw_at lw_m2 137 rfl) rfl
theorem q478 : (Jvm.Cond.static ({ cls := "ThunderCasks", name := "isStorm", desc := "(I)Z" } : Jvm.MethodName)) ∈ lw_all := lw_g (lw_at lw_m2 138 rfl) rfl
theorem q479 : (Jvm.Cond.code ({ cls := "ThunderCasks", name := "isStorm", desc := "(I)Z" } : Jvm.MethodName) prog_1_method_8_code (1 : Nat) (Option.some Jvm.ClassFile.FieldType.boolean)) ∈ lw_all := lw_g (lw_at lw_m2 139 rfl) rfl
theorem q481 : (Jvm.Cond.instanceMethod ({ cls := "ThunderCasks", name := "cask", desc := "(II)I" } : Jvm.MethodName)) ∈ lw_all := lw_g (lw_at lw_m2 141 rfl) rfl
theorem q482 : (Jvm.Cond.selects "ThunderCasks" ({ cls := "ThunderCasks", name := "cask", desc := "(II)I" } : Jvm.MethodName) ({ cls := "ThunderCasks", name := "cask", desc := "(II)I" } : Jvm.MethodName)) ∈ lw_all := lw_g (lw_at lw_m2 142 rfl) rfl
theorem q483 : (Jvm.Cond.code ({ cls := "ThunderCasks", name := "cask", desc := "(II)I" } : Jvm.MethodName) prog_1_method_27_code (3 : Nat) (Option.some Jvm.ClassFile.FieldType.int)) ∈ lw_all := lw_g (lw_at lw_m2 143 rfl) rfl
theorem q484 : (Jvm.Cond.methodLink "ThunderCasks" (13 : Nat) ({ cls := "ThunderCasks", name := "isKind", desc := "(I)Z" } : Jvm.MethodName)) ∈ lw_all := lw_g (lw_at lw_m2 144 rfl) rfl
theorem q485 : (Jvm.Cond.static ({ cls := "ThunderCasks", name := "isKind", desc := "(I)Z" } : Jvm.MethodName)) ∈ lw_all := lw_g (lw_at lw_m2 145 rfl) rfl
theorem q486 : (Jvm.Cond.code ({ cls := "ThunderCasks", name := "isKind", desc := "(I)Z" } : Jvm.MethodName) prog_1_method_6_code (1 : Nat) (Option.some Jvm.ClassFile.FieldType.boolean)) ∈ lw_all := lw_g (lw_at lw_m2 146 rfl) rfl
theorem q487 : (Jvm.Cond.methodLink "ThunderCasks" (174 : Nat) ({ cls := "ThunderCasks$World", name := "add", desc := "(II)V" } : Jvm.MethodName)) ∈ lw_all := lw_g (lw_at lw_m2 147 rfl) rfl
theorem q492 : (Jvm.Cond.instanceMethod ({ cls := "ThunderCasks", name := "of", desc := "(II)I" } : Jvm.MethodName)) ∈ lw_all := lw_g (lw_at lw_m2 152 rfl) rfl
theorem q493 : (Jvm.Cond.selects "ThunderCasks" ({ cls := "ThunderCasks", name := "of", desc := "(II)I" } : Jvm.MethodName) ({ cls := "ThunderCasks", name := "of", desc := "(II)I" } : Jvm.MethodName)) ∈ lw_all := lw_g (lw_at lw_m2 153 rfl) rfl
theorem q494 : (Jvm.Cond.code ({ cls := "ThunderCasks", name := "of", desc := "(II)I" } : Jvm.MethodName) prog_1_method_28_code (3 : Nat) (Option.some Jvm.ClassFile.FieldType.int)) ∈ lw_all := lw_g (lw_at lw_m2 154 rfl) rfl
theorem q495 : (Jvm.Cond.methodLink "ThunderCasks" (177 : Nat) ({ cls := "ThunderCasks", name := "isCask", desc := "(I)Z" } : Jvm.MethodName)) ∈ lw_all := lw_g (lw_at lw_m2 155 rfl) rfl
theorem q496 : (Jvm.Cond.privateMethod ({ cls := "ThunderCasks", name := "isCask", desc := "(I)Z" } : Jvm.MethodName)) ∈ lw_tbl := lw_at lw_m2 156 rfl
theorem q497 : (Jvm.Cond.instanceMethod ({ cls := "ThunderCasks", name := "isCask", desc := "(I)Z" } : Jvm.MethodName)) ∈ lw_all := lw_g (lw_at lw_m2 157 rfl) rfl
theorem q498 : (Jvm.Cond.code ({ cls := "ThunderCasks", name := "isCask", desc := "(I)Z" } : Jvm.MethodName) prog_1_method_17_code (2 : Nat) (Option.some Jvm.ClassFile.FieldType.boolean)) ∈ lw_all := lw_g (lw_at lw_m2 158 rfl) rfl
theorem q499 : (Jvm.Cond.methodLink "ThunderCasks" (118 : Nat) ({ cls := "ThunderCasks", name := "caskOf", desc := "(I)LThunderCasks$Cask;" } : Jvm.MethodName)) ∈ lw_all := lw_g (lw_at lw_m2 159 rfl) rfl
theorem q500 : (Jvm.Cond.privateMethod ({ cls := "ThunderCasks", name := "caskOf", desc := "(I)LThunderCasks$Cask;" } : Jvm.MethodName)) ∈ lw_tbl := lw_at lw_m2 160 rfl
theorem q501 : (Jvm.Cond.instanceMethod ({ cls := "ThunderCasks", name := "caskOf", desc := "(I)LThunderCasks$Cask;" } : Jvm.MethodName)) ∈ lw_all := lw_g (lw_at lw_m2 161 rfl) rfl
theorem q502 : (Jvm.Cond.code ({ cls := "ThunderCasks", name := "caskOf", desc := "(I)LThunderCasks$Cask;" } : Jvm.MethodName) prog_1_method_13_code (2 : Nat) (Option.some (Jvm.ClassFile.FieldType.object "ThunderCasks$Cask"))) ∈ lw_all := lw_g (lw_at lw_m2 162 rfl) rfl
theorem q503 : (Jvm.Cond.methodLink "ThunderCasks" (180 : Nat) ({ cls := "ThunderCasks$Cask", name := "kind", desc := "()I" } : Jvm.MethodName)) ∈ lw_all := lw_g (lw_at lw_m2 163 rfl) rfl
theorem q532 : (Jvm.Cond.methodLink "ThunderCasks" (183 : Nat) ({ cls := "ThunderCasks$Cask", name := "loud", desc := "()I" } : Jvm.MethodName)) ∈ lw_all := lw_g (lw_at lw_m2 192 rfl) rfl
theorem q576 : (Jvm.Cond.static ({ cls := "ThunderCasks", name := "ones", desc := "(I)I" } : Jvm.MethodName)) ∈ lw_all := lw_g (lw_at lw_m2 236 rfl) rfl
theorem q577 : (Jvm.Cond.code ({ cls := "ThunderCasks", name := "ones", desc := "(I)I" } : Jvm.MethodName) prog_1_method_3_code (1 : Nat) (Option.some Jvm.ClassFile.FieldType.int)) ∈ lw_all := lw_g (lw_at lw_m2 237 rfl) rfl
theorem q578 : (Jvm.Cond.methodLink "ThunderCasks" (1 : Nat) ({ cls := "java/lang/Integer", name := "bitCount", desc := "(I)I" } : Jvm.MethodName)) ∈ lw_all := lw_g (lw_at lw_m2 238 rfl) rfl
theorem q598 : (Jvm.Cond.methodLink "ThunderCasks" (137 : Nat) ({ cls := "ThunderCasks$Cask", name := "leaks", desc := "()I" } : Jvm.MethodName)) ∈ lw_all := lw_g (lw_at lw_m3 18 rfl) rfl
theorem q620 : (Jvm.Cond.methodLink "ThunderCasks" (184 : Nat) ({ cls := "ThunderCasks$Cask", name := "bears", desc := "()I" } : Jvm.MethodName)) ∈ lw_all := lw_g (lw_at lw_m3 40 rfl) rfl
theorem q641 : (Jvm.Cond.instanceMethod ({ cls := "ThunderCasks", name := "change", desc := "(III)I" } : Jvm.MethodName)) ∈ lw_all := lw_g (lw_at lw_m3 61 rfl) rfl
theorem q642 : (Jvm.Cond.selects "ThunderCasks" ({ cls := "ThunderCasks", name := "change", desc := "(III)I" } : Jvm.MethodName) ({ cls := "ThunderCasks", name := "change", desc := "(III)I" } : Jvm.MethodName)) ∈ lw_all := lw_g (lw_at lw_m3 62 rfl) rfl
theorem q643 : (Jvm.Cond.code ({ cls := "ThunderCasks", name := "change", desc := "(III)I" } : Jvm.MethodName) prog_1_method_29_code (5 : Nat) (Option.some Jvm.ClassFile.FieldType.int)) ∈ lw_all := lw_g (lw_at lw_m3 63 rfl) rfl
theorem q644 : (Jvm.Cond.methodLink "ThunderCasks" (185 : Nat) ({ cls := "ThunderCasks", name := "isTold", desc := "(II)Z" } : Jvm.MethodName)) ∈ lw_all := lw_g (lw_at lw_m3 64 rfl) rfl
theorem q645 : (Jvm.Cond.static ({ cls := "ThunderCasks", name := "isTold", desc := "(II)Z" } : Jvm.MethodName)) ∈ lw_all := lw_g (lw_at lw_m3 65 rfl) rfl
theorem q646 : (Jvm.Cond.code ({ cls := "ThunderCasks", name := "isTold", desc := "(II)Z" } : Jvm.MethodName) prog_1_method_10_code (2 : Nat) (Option.some Jvm.ClassFile.FieldType.boolean)) ∈ lw_all := lw_g (lw_at lw_m3 66 rfl) rfl
theorem q648 : (Jvm.Cond.instanceMethod ({ cls := "ThunderCasks", name := "sell", desc := "(I)I" } : Jvm.MethodName)) ∈ lw_all := lw_g (lw_at lw_m3 68 rfl) rfl
theorem q649 : (Jvm.Cond.selects "ThunderCasks" ({ cls := "ThunderCasks", name := "sell", desc := "(I)I" } : Jvm.MethodName) ({ cls := "ThunderCasks", name := "sell", desc := "(I)I" } : Jvm.MethodName)) ∈ lw_all := lw_g (lw_at lw_m3 69 rfl) rfl
theorem q650 : (Jvm.Cond.code ({ cls := "ThunderCasks", name := "sell", desc := "(I)I" } : Jvm.MethodName) prog_1_method_30_code (3 : Nat) (Option.some Jvm.ClassFile.FieldType.int)) ∈ lw_all := lw_g (lw_at lw_m3 70 rfl) rfl
theorem q651 : (Jvm.Cond.methodLink "ThunderCasks" (189 : Nat) ({ cls := "ThunderCasks", name := "loudOf", desc := "(I)I" } : Jvm.MethodName)) ∈ lw_all := lw_g (lw_at lw_m3 71 rfl) rfl
theorem q652 : (Jvm.Cond.privateMethod ({ cls := "ThunderCasks", name := "loudOf", desc := "(I)I" } : Jvm.MethodName)) ∈ lw_tbl := lw_at lw_m3 72 rfl
theorem q653 : (Jvm.Cond.instanceMethod ({ cls := "ThunderCasks", name := "loudOf", desc := "(I)I" } : Jvm.MethodName)) ∈ lw_all := lw_g (lw_at lw_m3 73 rfl) rfl
theorem q654 : (Jvm.Cond.code ({ cls := "ThunderCasks", name := "loudOf", desc := "(I)I" } : Jvm.MethodName) prog_1_method_19_code (3 : Nat) (Option.some Jvm.ClassFile.FieldType.int)) ∈ lw_all := lw_g (lw_at lw_m3 74 rfl) rfl
theorem q655 : (Jvm.Cond.interfaceEntry "ThunderCasks" (122 : Nat)) ∈ lw_tbl := lw_at lw_m3 75 rfl
theorem q656 : (Jvm.Cond.methodLink "ThunderCasks" (122 : Nat) ({ cls := "ThunderCasks$Thunders", name := "loud", desc := "()I" } : Jvm.MethodName)) ∈ lw_all := lw_g (lw_at lw_m3 76 rfl) rfl
theorem q687 : (Jvm.Cond.methodLink "ThunderCasks" (192 : Nat) ({ cls := "ThunderCasks$World", name := "empties", desc := "(I)V" } : Jvm.MethodName)) ∈ lw_all := lw_g (lw_at lw_m3 107 rfl) rfl
theorem q692 : (Jvm.Cond.instanceMethod ({ cls := "ThunderCasks", name := "go", desc := "(I)I" } : Jvm.MethodName)) ∈ lw_all := lw_g (lw_at lw_m3 112 rfl) rfl
theorem q693 : (Jvm.Cond.selects "ThunderCasks" ({ cls := "ThunderCasks", name := "go", desc := "(I)I" } : Jvm.MethodName) ({ cls := "ThunderCasks", name := "go", desc := "(I)I" } : Jvm.MethodName)) ∈ lw_all := lw_g (lw_at lw_m3 113 rfl) rfl
theorem q694 : (Jvm.Cond.code ({ cls := "ThunderCasks", name := "go", desc := "(I)I" } : Jvm.MethodName) prog_1_method_32_code (2 : Nat) (Option.some Jvm.ClassFile.FieldType.int)) ∈ lw_all := lw_g (lw_at lw_m3 114 rfl) rfl
theorem q695 : (Jvm.Cond.methodLink "ThunderCasks" (200 : Nat) ({ cls := "ThunderCasks$World", name := "isLate", desc := "(I)Z" } : Jvm.MethodName)) ∈ lw_all := lw_g (lw_at lw_m3 115 rfl) rfl
theorem q700 : (Jvm.Cond.methodLink "ThunderCasks" (203 : Nat) ({ cls := "ThunderCasks", name := "goesOn", desc := "(I)I" } : Jvm.MethodName)) ∈ lw_all := lw_g (lw_at lw_m3 120 rfl) rfl
theorem q701 : (Jvm.Cond.privateMethod ({ cls := "ThunderCasks", name := "goesOn", desc := "(I)I" } : Jvm.MethodName)) ∈ lw_tbl := lw_at lw_m3 121 rfl
theorem q702 : (Jvm.Cond.instanceMethod ({ cls := "ThunderCasks", name := "goesOn", desc := "(I)I" } : Jvm.MethodName)) ∈ lw_all := lw_g (lw_at lw_m3 122 rfl) rfl
theorem q703 : (Jvm.Cond.code ({ cls := "ThunderCasks", name := "goesOn", desc := "(I)I" } : Jvm.MethodName) prog_1_method_31_code (2 : Nat) (Option.some Jvm.ClassFile.FieldType.int)) ∈ lw_all := lw_g (lw_at lw_m3 123 rfl) rfl
theorem q704 : (Jvm.Cond.methodLink "ThunderCasks" (195 : Nat) ({ cls := "ThunderCasks", name := "passes", desc := "(I)V" } : Jvm.MethodName)) ∈ lw_all := lw_g (lw_at lw_m3 124 rfl) rfl
theorem q705 : (Jvm.Cond.privateMethod ({ cls := "ThunderCasks", name := "passes", desc := "(I)V" } : Jvm.MethodName)) ∈ lw_tbl := lw_at lw_m3 125 rfl
theorem q706 : (Jvm.Cond.instanceMethod ({ cls := "ThunderCasks", name := "passes", desc := "(I)V" } : Jvm.MethodName)) ∈ lw_all := lw_g (lw_at lw_m3 126 rfl) rfl
theorem q707 : (Jvm.Cond.code ({ cls := "ThunderCasks", name := "passes", desc := "(I)V" } : Jvm.MethodName) prog_1_method_23_code (3 : Nat) (Option.none : Option Jvm.ClassFile.FieldType)) ∈ lw_all := lw_g (lw_at lw_m3 127 rfl) rfl
theorem q708 : (Jvm.Cond.methodLink "ThunderCasks" (156 : Nat) ({ cls := "ThunderCasks", name := "passes", desc := "()V" } : Jvm.MethodName)) ∈ lw_all := lw_g (lw_at lw_m3 128 rfl) rfl
theorem q709 : (Jvm.Cond.privateMethod ({ cls := "ThunderCasks", name := "passes", desc := "()V" } : Jvm.MethodName)) ∈ lw_tbl := lw_at lw_m3 129 rfl
theorem q710 : (Jvm.Cond.instanceMethod ({ cls := "ThunderCasks", name := "passes", desc := "()V" } : Jvm.MethodName)) ∈ lw_all := lw_g (lw_at lw_m3 130 rfl) rfl
theorem q711 : (Jvm.Cond.code ({ cls := "ThunderCasks", name := "passes", desc := "()V" } : Jvm.MethodName) prog_1_method_22_code (3 : Nat) (Option.none : Option Jvm.ClassFile.FieldType)) ∈ lw_all := lw_g (lw_at lw_m3 131 rfl) rfl
theorem q712 : (Jvm.Cond.methodLink "ThunderCasks" (134 : Nat) ({ cls := "ThunderCasks$World", name := "storms", desc := "()V" } : Jvm.MethodName)) ∈ lw_all := lw_g (lw_at lw_m3 132 rfl) rfl
theorem q724 : (Jvm.Cond.methodLink "ThunderCasks" (140 : Nat) ({ cls := "ThunderCasks$World", name := "leaks", desc := "(II)V" } : Jvm.MethodName)) ∈ lw_all := lw_g (lw_at lw_m3 144 rfl) rfl
theorem q729 : (Jvm.Cond.methodLink "ThunderCasks" (143 : Nat) ({ cls := "ThunderCasks$World", name := "cancel", desc := "()V" } : Jvm.MethodName)) ∈ lw_all := lw_g (lw_at lw_m3 149 rfl) rfl
theorem q737 : (Jvm.Cond.methodLink "ThunderCasks" (146 : Nat) ({ cls := "ThunderCasks", name := "nextToBurst", desc := "()I" } : Jvm.MethodName)) ∈ lw_all := lw_g (lw_at lw_m3 157 rfl) rfl
theorem q738 : (Jvm.Cond.privateMethod ({ cls := "ThunderCasks", name := "nextToBurst", desc := "()I" } : Jvm.MethodName)) ∈ lw_tbl := lw_at lw_m3 158 rfl
theorem q739 : (Jvm.Cond.instanceMethod ({ cls := "ThunderCasks", name := "nextToBurst", desc := "()I" } : Jvm.MethodName)) ∈ lw_all := lw_g (lw_at lw_m3 159 rfl) rfl
theorem q740 : (Jvm.Cond.code ({ cls := "ThunderCasks", name := "nextToBurst", desc := "()I" } : Jvm.MethodName) prog_1_method_21_code (2 : Nat) (Option.some Jvm.ClassFile.FieldType.int)) ∈ lw_all := lw_g (lw_at lw_m3 160 rfl) rfl
theorem q741 : (Jvm.Cond.methodLink "ThunderCasks" (131 : Nat) ({ cls := "ThunderCasks", name := "isTooLoud", desc := "(I)Z" } : Jvm.MethodName)) ∈ lw_all := lw_g (lw_at lw_m3 161 rfl) rfl
theorem q742 : (Jvm.Cond.privateMethod ({ cls := "ThunderCasks", name := "isTooLoud", desc := "(I)Z" } : Jvm.MethodName)) ∈ lw_tbl := lw_at lw_m3 162 rfl
theorem q743 : (Jvm.Cond.instanceMethod ({ cls := "ThunderCasks", name := "isTooLoud", desc := "(I)Z" } : Jvm.MethodName)) ∈ lw_all := lw_g (lw_at lw_m3 163 rfl) rfl
theorem q744 : (Jvm.Cond.code ({ cls := "ThunderCasks", name := "isTooLoud", desc := "(I)Z" } : Jvm.MethodName) prog_1_method_20_code (3 : Nat) (Option.some Jvm.ClassFile.FieldType.boolean)) ∈ lw_all := lw_g (lw_at lw_m3 164 rfl) rfl
theorem q745 : (Jvm.Cond.interfaceEntry "ThunderCasks" (128 : Nat)) ∈ lw_tbl := lw_at lw_m3 165 rfl
theorem q746 : (Jvm.Cond.methodLink "ThunderCasks" (128 : Nat) ({ cls := "ThunderCasks$Thunders", name := "bears", desc := "()I" } : Jvm.MethodName)) ∈ lw_all := lw_g (lw_at lw_m3 166 rfl) rfl
theorem q766 : (Jvm.Cond.methodLink "ThunderCasks" (149 : Nat) ({ cls := "ThunderCasks$World", name := "bursts", desc := "(I)V" } : Jvm.MethodName)) ∈ lw_all := lw_g (lw_at lw_m3 186 rfl) rfl
theorem q772 : (Jvm.Cond.instanceMethod ({ cls := "ThunderCasks", name := "now", desc := "(I)I" } : Jvm.MethodName)) ∈ lw_all := lw_g (lw_at lw_m3 192 rfl) rfl
theorem q773 : (Jvm.Cond.selects "ThunderCasks" ({ cls := "ThunderCasks", name := "now", desc := "(I)I" } : Jvm.MethodName) ({ cls := "ThunderCasks", name := "now", desc := "(I)I" } : Jvm.MethodName)) ∈ lw_all := lw_g (lw_at lw_m3 193 rfl) rfl
theorem q774 : (Jvm.Cond.code ({ cls := "ThunderCasks", name := "now", desc := "(I)I" } : Jvm.MethodName) prog_1_method_36_code (2 : Nat) (Option.some Jvm.ClassFile.FieldType.int)) ∈ lw_all := lw_g (lw_at lw_m3 194 rfl) rfl
theorem q775 : (Jvm.Cond.methodLink "ThunderCasks" (209 : Nat) ({ cls := "ThunderCasks$World", name := "sumOf", desc := "(I)I" } : Jvm.MethodName)) ∈ lw_all := lw_g (lw_at lw_m3 195 rfl) rfl
theorem q779 : (Jvm.Cond.methodLink "ThunderCasks" (212 : Nat) ({ cls := "ThunderCasks$World", name := "all", desc := "()I" } : Jvm.MethodName)) ∈ lw_all := lw_g (lw_at lw_m3 199 rfl) rfl
theorem q783 : (Jvm.Cond.methodLink "ThunderCasks" (215 : Nat) ({ cls := "ThunderCasks", name := "blendOf", desc := "(I)I" } : Jvm.MethodName)) ∈ lw_all := lw_g (lw_at lw_m3 203 rfl) rfl
theorem q784 : (Jvm.Cond.privateMethod ({ cls := "ThunderCasks", name := "blendOf", desc := "(I)I" } : Jvm.MethodName)) ∈ lw_tbl := lw_at lw_m3 204 rfl
theorem q785 : (Jvm.Cond.instanceMethod ({ cls := "ThunderCasks", name := "blendOf", desc := "(I)I" } : Jvm.MethodName)) ∈ lw_all := lw_g (lw_at lw_m3 205 rfl) rfl
theorem q786 : (Jvm.Cond.code ({ cls := "ThunderCasks", name := "blendOf", desc := "(I)I" } : Jvm.MethodName) prog_1_method_33_code (4 : Nat) (Option.some Jvm.ClassFile.FieldType.int)) ∈ lw_all := lw_g (lw_at lw_m3 206 rfl) rfl
theorem q787 : (Jvm.Cond.methodLink "ThunderCasks" (206 : Nat) ({ cls := "ThunderCasks", name := "has", desc := "(II)Z" } : Jvm.MethodName)) ∈ lw_all := lw_g (lw_at lw_m3 207 rfl) rfl
theorem q788 : (Jvm.Cond.static ({ cls := "ThunderCasks", name := "has", desc := "(II)Z" } : Jvm.MethodName)) ∈ lw_all := lw_g (lw_at lw_m3 208 rfl) rfl
theorem q789 : (Jvm.Cond.code ({ cls := "ThunderCasks", name := "has", desc := "(II)Z" } : Jvm.MethodName) prog_1_method_2_code (2 : Nat) (Option.some Jvm.ClassFile.FieldType.boolean)) ∈ lw_all := lw_g (lw_at lw_m3 209 rfl) rfl
theorem q790 : (Jvm.Cond.methodLink "ThunderCasks" (218 : Nat) ({ cls := "ThunderCasks", name := "tooLoud", desc := "()I" } : Jvm.MethodName)) ∈ lw_all := lw_g (lw_at lw_m3 210 rfl) rfl
theorem q791 : (Jvm.Cond.privateMethod ({ cls := "ThunderCasks", name := "tooLoud", desc := "()I" } : Jvm.MethodName)) ∈ lw_tbl := lw_at lw_m3 211 rfl
theorem q792 : (Jvm.Cond.instanceMethod ({ cls := "ThunderCasks", name := "tooLoud", desc := "()I" } : Jvm.MethodName)) ∈ lw_all := lw_g (lw_at lw_m3 212 rfl) rfl
theorem q793 : (Jvm.Cond.code ({ cls := "ThunderCasks", name := "tooLoud", desc := "()I" } : Jvm.MethodName) prog_1_method_34_code (3 : Nat) (Option.some Jvm.ClassFile.FieldType.int)) ∈ lw_all := lw_g (lw_at lw_m3 213 rfl) rfl
theorem q794 : (Jvm.Cond.methodLink "ThunderCasks" (221 : Nat) ({ cls := "ThunderCasks", name := "loudest", desc := "()I" } : Jvm.MethodName)) ∈ lw_all := lw_g (lw_at lw_m3 214 rfl) rfl
theorem q795 : (Jvm.Cond.privateMethod ({ cls := "ThunderCasks", name := "loudest", desc := "()I" } : Jvm.MethodName)) ∈ lw_tbl := lw_at lw_m3 215 rfl
theorem q796 : (Jvm.Cond.instanceMethod ({ cls := "ThunderCasks", name := "loudest", desc := "()I" } : Jvm.MethodName)) ∈ lw_all := lw_g (lw_at lw_m3 216 rfl) rfl
theorem q797 : (Jvm.Cond.code ({ cls := "ThunderCasks", name := "loudest", desc := "()I" } : Jvm.MethodName) prog_1_method_35_code (3 : Nat) (Option.some Jvm.ClassFile.FieldType.int)) ∈ lw_all := lw_g (lw_at lw_m3 217 rfl) rfl
theorem q798 : (Jvm.Cond.methodLink "ThunderCasks" (224 : Nat) ({ cls := "ThunderCasks$World", name := "cellars", desc := "()I" } : Jvm.MethodName)) ∈ lw_all := lw_g (lw_at lw_m3 218 rfl) rfl
theorem q803 : (Jvm.Cond.instanceMethod ({ cls := "ThunderCasks", name := "ahead", desc := "(III)I" } : Jvm.MethodName)) ∈ lw_all := lw_g (lw_at lw_m3 223 rfl) rfl
theorem q804 : (Jvm.Cond.selects "ThunderCasks" ({ cls := "ThunderCasks", name := "ahead", desc := "(III)I" } : Jvm.MethodName) ({ cls := "ThunderCasks", name := "ahead", desc := "(III)I" } : Jvm.MethodName)) ∈ lw_all := lw_g (lw_at lw_m3 224 rfl) rfl
theorem q805 : (Jvm.Cond.code ({ cls := "ThunderCasks", name := "ahead", desc := "(III)I" } : Jvm.MethodName) prog_1_method_39_code (5 : Nat) (Option.some Jvm.ClassFile.FieldType.int)) ∈ lw_all := lw_g (lw_at lw_m3 225 rfl) rfl
theorem q806 : (Jvm.Cond.methodLink "ThunderCasks" (235 : Nat) ({ cls := "ThunderCasks", name := "toldBehind", desc := "(III)I" } : Jvm.MethodName)) ∈ lw_all := lw_g (lw_at lw_m3 226 rfl) rfl
theorem q807 : (Jvm.Cond.privateMethod ({ cls := "ThunderCasks", name := "toldBehind", desc := "(III)I" } : Jvm.MethodName)) ∈ lw_tbl := lw_at lw_m3 227 rfl
theorem q808 : (Jvm.Cond.instanceMethod ({ cls := "ThunderCasks", name := "toldBehind", desc := "(III)I" } : Jvm.MethodName)) ∈ lw_all := lw_g (lw_at lw_m3 228 rfl) rfl
theorem q809 : (Jvm.Cond.codeWith ({ cls := "ThunderCasks", name := "toldBehind", desc := "(III)I" } : Jvm.MethodName) prog_1_method_38_code (6 : Nat) (Option.some Jvm.ClassFile.FieldType.int) [((11 : Nat), (24 : Nat), (38 : Nat), (0 : Nat)), ((38 : Nat), (40 : Nat), (38 : Nat), (0 : Nat))]) ∈ lw_all := lw_g (lw_at lw_m3 229 rfl) rfl
theorem q810 : (Jvm.Cond.methodLink "ThunderCasks" (227 : Nat) ({ cls := "ThunderCasks$World", name := "become", desc := "(LThunderCasks$World;)V" } : Jvm.MethodName)) ∈ lw_all := lw_g (lw_at lw_m3 230 rfl) rfl
theorem q820 : (Jvm.Cond.methodLink "ThunderCasks" (231 : Nat) ({ cls := "ThunderCasks", name := "toldOf", desc := "(II)I" } : Jvm.MethodName)) ∈ lw_all := lw_g (lw_at lw_m4 0 rfl) rfl
theorem q821 : (Jvm.Cond.privateMethod ({ cls := "ThunderCasks", name := "toldOf", desc := "(II)I" } : Jvm.MethodName)) ∈ lw_tbl := lw_at lw_m4 1 rfl
theorem q822 : (Jvm.Cond.instanceMethod ({ cls := "ThunderCasks", name := "toldOf", desc := "(II)I" } : Jvm.MethodName)) ∈ lw_all := lw_g (lw_at lw_m4 2 rfl) rfl
theorem q823 : (Jvm.Cond.code ({ cls := "ThunderCasks", name := "toldOf", desc := "(II)I" } : Jvm.MethodName) prog_1_method_37_code (3 : Nat) (Option.some Jvm.ClassFile.FieldType.int)) ∈ lw_all := lw_g (lw_at lw_m4 3 rfl) rfl
theorem q825 : (Jvm.Cond.instanceMethod ({ cls := "ThunderCasks", name := "claps", desc := "(I)I" } : Jvm.MethodName)) ∈ lw_all := lw_g (lw_at lw_m4 5 rfl) rfl
theorem q826 : (Jvm.Cond.selects "ThunderCasks" ({ cls := "ThunderCasks", name := "claps", desc := "(I)I" } : Jvm.MethodName) ({ cls := "ThunderCasks", name := "claps", desc := "(I)I" } : Jvm.MethodName)) ∈ lw_all := lw_g (lw_at lw_m4 6 rfl) rfl
theorem q827 : (Jvm.Cond.code ({ cls := "ThunderCasks", name := "claps", desc := "(I)I" } : Jvm.MethodName) prog_1_method_41_code (2 : Nat) (Option.some Jvm.ClassFile.FieldType.int)) ∈ lw_all := lw_g (lw_at lw_m4 7 rfl) rfl
theorem q828 : (Jvm.Cond.methodLink "ThunderCasks" (239 : Nat) ({ cls := "ThunderCasks", name := "clapsBehind", desc := "(I)I" } : Jvm.MethodName)) ∈ lw_all := lw_g (lw_at lw_m4 8 rfl) rfl
theorem q829 : (Jvm.Cond.privateMethod ({ cls := "ThunderCasks", name := "clapsBehind", desc := "(I)I" } : Jvm.MethodName)) ∈ lw_tbl := lw_at lw_m4 9 rfl
theorem q830 : (Jvm.Cond.instanceMethod ({ cls := "ThunderCasks", name := "clapsBehind", desc := "(I)I" } : Jvm.MethodName)) ∈ lw_all := lw_g (lw_at lw_m4 10 rfl) rfl
theorem q831 : (Jvm.Cond.codeWith ({ cls := "ThunderCasks", name := "clapsBehind", desc := "(I)I" } : Jvm.MethodName) prog_1_method_40_code (4 : Nat) (Option.some Jvm.ClassFile.FieldType.int) [((11 : Nat), (17 : Nat), (30 : Nat), (0 : Nat))]) ∈ lw_all := lw_g (lw_at lw_m4 11 rfl) rfl
theorem q833 : (Jvm.Cond.instanceMethod ({ cls := "ThunderCasks", name := "bursts", desc := "(I)I" } : Jvm.MethodName)) ∈ lw_all := lw_g (lw_at lw_m4 13 rfl) rfl
theorem q834 : (Jvm.Cond.selects "ThunderCasks" ({ cls := "ThunderCasks", name := "bursts", desc := "(I)I" } : Jvm.MethodName) ({ cls := "ThunderCasks", name := "bursts", desc := "(I)I" } : Jvm.MethodName)) ∈ lw_all := lw_g (lw_at lw_m4 14 rfl) rfl
theorem q835 : (Jvm.Cond.code ({ cls := "ThunderCasks", name := "bursts", desc := "(I)I" } : Jvm.MethodName) prog_1_method_43_code (2 : Nat) (Option.some Jvm.ClassFile.FieldType.int)) ∈ lw_all := lw_g (lw_at lw_m4 15 rfl) rfl
theorem q836 : (Jvm.Cond.methodLink "ThunderCasks" (242 : Nat) ({ cls := "ThunderCasks", name := "burstBehind", desc := "(I)I" } : Jvm.MethodName)) ∈ lw_all := lw_g (lw_at lw_m4 16 rfl) rfl
theorem q837 : (Jvm.Cond.privateMethod ({ cls := "ThunderCasks", name := "burstBehind", desc := "(I)I" } : Jvm.MethodName)) ∈ lw_tbl := lw_at lw_m4 17 rfl
theorem q838 : (Jvm.Cond.instanceMethod ({ cls := "ThunderCasks", name := "burstBehind", desc := "(I)I" } : Jvm.MethodName)) ∈ lw_all := lw_g (lw_at lw_m4 18 rfl) rfl
theorem q839 : (Jvm.Cond.codeWith ({ cls := "ThunderCasks", name := "burstBehind", desc := "(I)I" } : Jvm.MethodName) prog_1_method_42_code (6 : Nat) (Option.some Jvm.ClassFile.FieldType.int) [((11 : Nat), (71 : Nat), (85 : Nat), (0 : Nat)), ((85 : Nat), (87 : Nat), (85 : Nat), (0 : Nat))]) ∈ lw_all := lw_g (lw_at lw_m4 19 rfl) rfl
theorem q840 : (Jvm.Cond.methodLink "ThunderCasks" (245 : Nat) ({ cls := "ThunderCasks", name := "orNone", desc := "(I)I" } : Jvm.MethodName)) ∈ lw_all := lw_g (lw_at lw_m4 20 rfl) rfl
theorem q841 : (Jvm.Cond.privateMethod ({ cls := "ThunderCasks", name := "orNone", desc := "(I)I" } : Jvm.MethodName)) ∈ lw_tbl := lw_at lw_m4 21 rfl
theorem q842 : (Jvm.Cond.instanceMethod ({ cls := "ThunderCasks", name := "orNone", desc := "(I)I" } : Jvm.MethodName)) ∈ lw_all := lw_g (lw_at lw_m4 22 rfl) rfl
theorem q843 : (Jvm.Cond.code ({ cls := "ThunderCasks", name := "orNone", desc := "(I)I" } : Jvm.MethodName) prog_1_method_18_code (2 : Nat) (Option.some Jvm.ClassFile.FieldType.int)) ∈ lw_all := lw_g (lw_at lw_m4 23 rfl) rfl
theorem q845 : (Jvm.Cond.instanceMethod ({ cls := "ThunderCasks", name := "when", desc := "(II)I" } : Jvm.MethodName)) ∈ lw_all := lw_g (lw_at lw_m4 25 rfl) rfl
theorem q846 : (Jvm.Cond.selects "ThunderCasks" ({ cls := "ThunderCasks", name := "when", desc := "(II)I" } : Jvm.MethodName) ({ cls := "ThunderCasks", name := "when", desc := "(II)I" } : Jvm.MethodName)) ∈ lw_all := lw_g (lw_at lw_m4 26 rfl) rfl
theorem q847 : (Jvm.Cond.code ({ cls := "ThunderCasks", name := "when", desc := "(II)I" } : Jvm.MethodName) prog_1_method_45_code (3 : Nat) (Option.some Jvm.ClassFile.FieldType.int)) ∈ lw_all := lw_g (lw_at lw_m4 27 rfl) rfl
theorem q848 : (Jvm.Cond.methodLink "ThunderCasks" (248 : Nat) ({ cls := "ThunderCasks", name := "loudBehind", desc := "(II)I" } : Jvm.MethodName)) ∈ lw_all := lw_g (lw_at lw_m4 28 rfl) rfl
theorem q849 : (Jvm.Cond.privateMethod ({ cls := "ThunderCasks", name := "loudBehind", desc := "(II)I" } : Jvm.MethodName)) ∈ lw_tbl := lw_at lw_m4 29 rfl
theorem q850 : (Jvm.Cond.instanceMethod ({ cls := "ThunderCasks", name := "loudBehind", desc := "(II)I" } : Jvm.MethodName)) ∈ lw_all := lw_g (lw_at lw_m4 30 rfl) rfl
theorem q851 : (Jvm.Cond.codeWith ({ cls := "ThunderCasks", name := "loudBehind", desc := "(II)I" } : Jvm.MethodName) prog_1_method_44_code (6 : Nat) (Option.some Jvm.ClassFile.FieldType.int) [((11 : Nat), (51 : Nat), (65 : Nat), (0 : Nat)), ((65 : Nat), (67 : Nat), (65 : Nat), (0 : Nat))]) ∈ lw_all := lw_g (lw_at lw_m4 31 rfl) rfl
theorem q853 : (Jvm.Cond.instanceMethod ({ cls := "ThunderCasks", name := "chain", desc := "(I)I" } : Jvm.MethodName)) ∈ lw_all := lw_g (lw_at lw_m4 33 rfl) rfl
theorem q854 : (Jvm.Cond.selects "ThunderCasks" ({ cls := "ThunderCasks", name := "chain", desc := "(I)I" } : Jvm.MethodName) ({ cls := "ThunderCasks", name := "chain", desc := "(I)I" } : Jvm.MethodName)) ∈ lw_all := lw_g (lw_at lw_m4 34 rfl) rfl
theorem q855 : (Jvm.Cond.code ({ cls := "ThunderCasks", name := "chain", desc := "(I)I" } : Jvm.MethodName) prog_1_method_47_code (2 : Nat) (Option.some Jvm.ClassFile.FieldType.int)) ∈ lw_all := lw_g (lw_at lw_m4 35 rfl) rfl
theorem q856 : (Jvm.Cond.methodLink "ThunderCasks" (251 : Nat) ({ cls := "ThunderCasks", name := "burstOnes", desc := "(I)I" } : Jvm.MethodName)) ∈ lw_all := lw_g (lw_at lw_m4 36 rfl) rfl
theorem q857 : (Jvm.Cond.privateMethod ({ cls := "ThunderCasks", name := "burstOnes", desc := "(I)I" } : Jvm.MethodName)) ∈ lw_tbl := lw_at lw_m4 37 rfl
theorem q858 : (Jvm.Cond.instanceMethod ({ cls := "ThunderCasks", name := "burstOnes", desc := "(I)I" } : Jvm.MethodName)) ∈ lw_all := lw_g (lw_at lw_m4 38 rfl) rfl
theorem q859 : (Jvm.Cond.codeWith ({ cls := "ThunderCasks", name := "burstOnes", desc := "(I)I" } : Jvm.MethodName) prog_1_method_46_code (5 : Nat) (Option.some Jvm.ClassFile.FieldType.int) [((11 : Nat), (76 : Nat), (89 : Nat), (0 : Nat)), ((89 : Nat), (91 : Nat), (89 : Nat), (0 : Nat))]) ∈ lw_all := lw_g (lw_at lw_m4 39 rfl) rfl
theorem q861 : (Jvm.Cond.instanceMethod ({ cls := "ThunderCasks", name := "lay", desc := "(II)I" } : Jvm.MethodName)) ∈ lw_all := lw_g (lw_at lw_m4 41 rfl) rfl
theorem q862 : (Jvm.Cond.selects "ThunderCasks" ({ cls := "ThunderCasks", name := "lay", desc := "(II)I" } : Jvm.MethodName) ({ cls := "ThunderCasks", name := "lay", desc := "(II)I" } : Jvm.MethodName)) ∈ lw_all := lw_g (lw_at lw_m4 42 rfl) rfl
theorem q863 : (Jvm.Cond.code ({ cls := "ThunderCasks", name := "lay", desc := "(II)I" } : Jvm.MethodName) prog_1_method_50_code (3 : Nat) (Option.some Jvm.ClassFile.FieldType.int)) ∈ lw_all := lw_g (lw_at lw_m4 43 rfl) rfl
theorem q864 : (Jvm.Cond.methodLink "ThunderCasks" (259 : Nat) ({ cls := "ThunderCasks", name := "areOne", desc := "(II)Z" } : Jvm.MethodName)) ∈ lw_all := lw_g (lw_at lw_m4 44 rfl) rfl
theorem q865 : (Jvm.Cond.privateMethod ({ cls := "ThunderCasks", name := "areOne", desc := "(II)Z" } : Jvm.MethodName)) ∈ lw_tbl := lw_at lw_m4 45 rfl
theorem q866 : (Jvm.Cond.instanceMethod ({ cls := "ThunderCasks", name := "areOne", desc := "(II)Z" } : Jvm.MethodName)) ∈ lw_all := lw_g (lw_at lw_m4 46 rfl) rfl
theorem q867 : (Jvm.Cond.code ({ cls := "ThunderCasks", name := "areOne", desc := "(II)Z" } : Jvm.MethodName) prog_1_method_49_code (3 : Nat) (Option.some Jvm.ClassFile.FieldType.boolean)) ∈ lw_all := lw_g (lw_at lw_m4 47 rfl) rfl
theorem q868 : (Jvm.Cond.methodLink "ThunderCasks" (262 : Nat) ({ cls := "ThunderCasks", name := "mostBy", desc := "(IIII)I" } : Jvm.MethodName)) ∈ lw_all := lw_g (lw_at lw_m4 48 rfl) rfl
theorem q869 : (Jvm.Cond.privateMethod ({ cls := "ThunderCasks", name := "mostBy", desc := "(IIII)I" } : Jvm.MethodName)) ∈ lw_tbl := lw_at lw_m4 49 rfl
theorem q870 : (Jvm.Cond.instanceMethod ({ cls := "ThunderCasks", name := "mostBy", desc := "(IIII)I" } : Jvm.MethodName)) ∈ lw_all := lw_g (lw_at lw_m4 50 rfl) rfl
theorem q871 : (Jvm.Cond.code ({ cls := "ThunderCasks", name := "mostBy", desc := "(IIII)I" } : Jvm.MethodName) prog_1_method_48_code (10 : Nat) (Option.some Jvm.ClassFile.FieldType.int)) ∈ lw_all := lw_g (lw_at lw_m4 51 rfl) rfl
theorem q872 : (Jvm.Cond.methodLink "ThunderCasks" (254 : Nat) ({ cls := "java/lang/Math", name := "max", desc := "(II)I" } : Jvm.MethodName)) ∈ lw_all := lw_g (lw_at lw_m4 52 rfl) rfl
theorem q874 : (Jvm.Cond.instanceMethod ({ cls := "ThunderCasks", name := "kindFor", desc := "(II)I" } : Jvm.MethodName)) ∈ lw_all := lw_g (lw_at lw_m4 54 rfl) rfl
theorem q875 : (Jvm.Cond.selects "ThunderCasks" ({ cls := "ThunderCasks", name := "kindFor", desc := "(II)I" } : Jvm.MethodName) ({ cls := "ThunderCasks", name := "kindFor", desc := "(II)I" } : Jvm.MethodName)) ∈ lw_all := lw_g (lw_at lw_m4 55 rfl) rfl
theorem q876 : (Jvm.Cond.code ({ cls := "ThunderCasks", name := "kindFor", desc := "(II)I" } : Jvm.MethodName) prog_1_method_51_code (3 : Nat) (Option.some Jvm.ClassFile.FieldType.int)) ∈ lw_all := lw_g (lw_at lw_m4 56 rfl) rfl
theorem q878 : (Jvm.Cond.instanceMethod ({ cls := "ThunderCasks", name := "pitchFor", desc := "(II)I" } : Jvm.MethodName)) ∈ lw_all := lw_g (lw_at lw_m4 58 rfl) rfl
theorem q879 : (Jvm.Cond.selects "ThunderCasks" ({ cls := "ThunderCasks", name := "pitchFor", desc := "(II)I" } : Jvm.MethodName) ({ cls := "ThunderCasks", name := "pitchFor", desc := "(II)I" } : Jvm.MethodName)) ∈ lw_all := lw_g (lw_at lw_m4 59 rfl) rfl
theorem q880 : (Jvm.Cond.code ({ cls := "ThunderCasks", name := "pitchFor", desc := "(II)I" } : Jvm.MethodName) prog_1_method_52_code (3 : Nat) (Option.some Jvm.ClassFile.FieldType.int)) ∈ lw_all := lw_g (lw_at lw_m4 60 rfl) rfl
theorem q882 : (Jvm.Cond.instanceMethod ({ cls := "ThunderCasks", name := "hoopsFor", desc := "(II)I" } : Jvm.MethodName)) ∈ lw_all := lw_g (lw_at lw_m4 62 rfl) rfl
theorem q883 : (Jvm.Cond.selects "ThunderCasks" ({ cls := "ThunderCasks", name := "hoopsFor", desc := "(II)I" } : Jvm.MethodName) ({ cls := "ThunderCasks", name := "hoopsFor", desc := "(II)I" } : Jvm.MethodName)) ∈ lw_all := lw_g (lw_at lw_m4 63 rfl) rfl
theorem q884 : (Jvm.Cond.code ({ cls := "ThunderCasks", name := "hoopsFor", desc := "(II)I" } : Jvm.MethodName) prog_1_method_54_code (3 : Nat) (Option.some Jvm.ClassFile.FieldType.int)) ∈ lw_all := lw_g (lw_at lw_m4 64 rfl) rfl
theorem q885 : (Jvm.Cond.methodLink "ThunderCasks" (266 : Nat) ({ cls := "ThunderCasks", name := "leastHoops", desc := "(II)I" } : Jvm.MethodName)) ∈ lw_all := lw_g (lw_at lw_m4 65 rfl) rfl
theorem q886 : (Jvm.Cond.privateMethod ({ cls := "ThunderCasks", name := "leastHoops", desc := "(II)I" } : Jvm.MethodName)) ∈ lw_tbl := lw_at lw_m4 66 rfl
theorem q887 : (Jvm.Cond.instanceMethod ({ cls := "ThunderCasks", name := "leastHoops", desc := "(II)I" } : Jvm.MethodName)) ∈ lw_all := lw_g (lw_at lw_m4 67 rfl) rfl
theorem q888 : (Jvm.Cond.code ({ cls := "ThunderCasks", name := "leastHoops", desc := "(II)I" } : Jvm.MethodName) prog_1_method_53_code (6 : Nat) (Option.some Jvm.ClassFile.FieldType.int)) ∈ lw_all := lw_g (lw_at lw_m4 68 rfl) rfl
theorem q890 : (Jvm.Cond.instanceMethod ({ cls := "ThunderCasks", name := "frostFor", desc := "(II)I" } : Jvm.MethodName)) ∈ lw_all := lw_g (lw_at lw_m4 70 rfl) rfl
theorem q891 : (Jvm.Cond.selects "ThunderCasks" ({ cls := "ThunderCasks", name := "frostFor", desc := "(II)I" } : Jvm.MethodName) ({ cls := "ThunderCasks", name := "frostFor", desc := "(II)I" } : Jvm.MethodName)) ∈ lw_all := lw_g (lw_at lw_m4 71 rfl) rfl
theorem q892 : (Jvm.Cond.code ({ cls := "ThunderCasks", name := "frostFor", desc := "(II)I" } : Jvm.MethodName) prog_1_method_56_code (3 : Nat) (Option.some Jvm.ClassFile.FieldType.int)) ∈ lw_all := lw_g (lw_at lw_m4 72 rfl) rfl
theorem q893 : (Jvm.Cond.methodLink "ThunderCasks" (269 : Nat) ({ cls := "ThunderCasks", name := "greatestFrost", desc := "(II)I" } : Jvm.MethodName)) ∈ lw_all := lw_g (lw_at lw_m4 73 rfl) rfl
theorem q894 : (Jvm.Cond.privateMethod ({ cls := "ThunderCasks", name := "greatestFrost", desc := "(II)I" } : Jvm.MethodName)) ∈ lw_tbl := lw_at lw_m4 74 rfl
theorem q895 : (Jvm.Cond.instanceMethod ({ cls := "ThunderCasks", name := "greatestFrost", desc := "(II)I" } : Jvm.MethodName)) ∈ lw_all := lw_g (lw_at lw_m4 75 rfl) rfl
theorem q896 : (Jvm.Cond.code ({ cls := "ThunderCasks", name := "greatestFrost", desc := "(II)I" } : Jvm.MethodName) prog_1_method_55_code (6 : Nat) (Option.some Jvm.ClassFile.FieldType.int)) ∈ lw_all := lw_g (lw_at lw_m4 76 rfl) rfl
theorem q898 : (Jvm.Cond.instanceMethod ({ cls := "ThunderCasks", name := "empty", desc := "(I)I" } : Jvm.MethodName)) ∈ lw_all := lw_g (lw_at lw_m4 78 rfl) rfl
theorem q899 : (Jvm.Cond.selects "ThunderCasks" ({ cls := "ThunderCasks", name := "empty", desc := "(I)I" } : Jvm.MethodName) ({ cls := "ThunderCasks", name := "empty", desc := "(I)I" } : Jvm.MethodName)) ∈ lw_all := lw_g (lw_at lw_m4 79 rfl) rfl
theorem q900 : (Jvm.Cond.code ({ cls := "ThunderCasks", name := "empty", desc := "(I)I" } : Jvm.MethodName) prog_1_method_59_code (2 : Nat) (Option.some Jvm.ClassFile.FieldType.int)) ∈ lw_all := lw_g (lw_at lw_m4 80 rfl) rfl
theorem q901 : (Jvm.Cond.methodLink "ThunderCasks" (278 : Nat) ({ cls := "ThunderCasks", name := "fewestEmptied", desc := "(I)I" } : Jvm.MethodName)) ∈ lw_all := lw_g (lw_at lw_m4 81 rfl) rfl
theorem q902 : (Jvm.Cond.privateMethod ({ cls := "ThunderCasks", name := "fewestEmptied", desc := "(I)I" } : Jvm.MethodName)) ∈ lw_tbl := lw_at lw_m4 82 rfl
theorem q903 : (Jvm.Cond.instanceMethod ({ cls := "ThunderCasks", name := "fewestEmptied", desc := "(I)I" } : Jvm.MethodName)) ∈ lw_all := lw_g (lw_at lw_m4 83 rfl) rfl
theorem q904 : (Jvm.Cond.code ({ cls := "ThunderCasks", name := "fewestEmptied", desc := "(I)I" } : Jvm.MethodName) prog_1_method_58_code (5 : Nat) (Option.some Jvm.ClassFile.FieldType.int)) ∈ lw_all := lw_g (lw_at lw_m4 84 rfl) rfl
theorem q905 : (Jvm.Cond.methodLink "ThunderCasks" (272 : Nat) ({ cls := "ThunderCasks", name := "ones", desc := "(I)I" } : Jvm.MethodName)) ∈ lw_all := lw_g (lw_at lw_m4 85 rfl) rfl
theorem q906 : (Jvm.Cond.methodLink "ThunderCasks" (275 : Nat) ({ cls := "ThunderCasks", name := "clapsWithout", desc := "(II)I" } : Jvm.MethodName)) ∈ lw_all := lw_g (lw_at lw_m4 86 rfl) rfl
theorem q907 : (Jvm.Cond.privateMethod ({ cls := "ThunderCasks", name := "clapsWithout", desc := "(II)I" } : Jvm.MethodName)) ∈ lw_tbl := lw_at lw_m4 87 rfl
theorem q908 : (Jvm.Cond.instanceMethod ({ cls := "ThunderCasks", name := "clapsWithout", desc := "(II)I" } : Jvm.MethodName)) ∈ lw_all := lw_g (lw_at lw_m4 88 rfl) rfl
theorem q909 : (Jvm.Cond.codeWith ({ cls := "ThunderCasks", name := "clapsWithout", desc := "(II)I" } : Jvm.MethodName) prog_1_method_57_code (5 : Nat) (Option.some Jvm.ClassFile.FieldType.int) [((11 : Nat), (52 : Nat), (65 : Nat), (0 : Nat)), ((65 : Nat), (67 : Nat), (65 : Nat), (0 : Nat))]) ∈ lw_all := lw_g (lw_at lw_m4 89 rfl) rfl
theorem q911 : (Jvm.Cond.instanceMethod ({ cls := "ThunderCasks", name := "blend", desc := "(I)I" } : Jvm.MethodName)) ∈ lw_all := lw_g (lw_at lw_m4 91 rfl) rfl
theorem q912 : (Jvm.Cond.selects "ThunderCasks" ({ cls := "ThunderCasks", name := "blend", desc := "(I)I" } : Jvm.MethodName) ({ cls := "ThunderCasks", name := "blend", desc := "(I)I" } : Jvm.MethodName)) ∈ lw_all := lw_g (lw_at lw_m4 92 rfl) rfl
theorem q913 : (Jvm.Cond.code ({ cls := "ThunderCasks", name := "blend", desc := "(I)I" } : Jvm.MethodName) prog_1_method_60_code (2 : Nat) (Option.some Jvm.ClassFile.FieldType.int)) ∈ lw_all := lw_g (lw_at lw_m4 93 rfl) rfl
theorem q915 : (Jvm.Cond.instanceMethod ({ cls := "ThunderCasks", name := "order", desc := "(I)I" } : Jvm.MethodName)) ∈ lw_all := lw_g (lw_at lw_m4 95 rfl) rfl
theorem q916 : (Jvm.Cond.selects "ThunderCasks" ({ cls := "ThunderCasks", name := "order", desc := "(I)I" } : Jvm.MethodName) ({ cls := "ThunderCasks", name := "order", desc := "(I)I" } : Jvm.MethodName)) ∈ lw_all := lw_g (lw_at lw_m4 96 rfl) rfl
theorem q917 : (Jvm.Cond.code ({ cls := "ThunderCasks", name := "order", desc := "(I)I" } : Jvm.MethodName) prog_1_method_62_code (2 : Nat) (Option.some Jvm.ClassFile.FieldType.int)) ∈ lw_all := lw_g (lw_at lw_m4 97 rfl) rfl
theorem q918 : (Jvm.Cond.methodLink "ThunderCasks" (281 : Nat) ({ cls := "ThunderCasks", name := "isBlend", desc := "(I)Z" } : Jvm.MethodName)) ∈ lw_all := lw_g (lw_at lw_m4 98 rfl) rfl
theorem q919 : (Jvm.Cond.static ({ cls := "ThunderCasks", name := "isBlend", desc := "(I)Z" } : Jvm.MethodName)) ∈ lw_all := lw_g (lw_at lw_m4 99 rfl) rfl
theorem q920 : (Jvm.Cond.code ({ cls := "ThunderCasks", name := "isBlend", desc := "(I)Z" } : Jvm.MethodName) prog_1_method_9_code (1 : Nat) (Option.some Jvm.ClassFile.FieldType.boolean)) ∈ lw_all := lw_g (lw_at lw_m4 100 rfl) rfl
theorem q921 : (Jvm.Cond.methodLink "ThunderCasks" (284 : Nat) ({ cls := "ThunderCasks", name := "fewestBlended", desc := "(I)I" } : Jvm.MethodName)) ∈ lw_all := lw_g (lw_at lw_m4 101 rfl) rfl
theorem q922 : (Jvm.Cond.privateMethod ({ cls := "ThunderCasks", name := "fewestBlended", desc := "(I)I" } : Jvm.MethodName)) ∈ lw_tbl := lw_at lw_m4 102 rfl
theorem q923 : (Jvm.Cond.instanceMethod ({ cls := "ThunderCasks", name := "fewestBlended", desc := "(I)I" } : Jvm.MethodName)) ∈ lw_all := lw_g (lw_at lw_m4 103 rfl) rfl
theorem q924 : (Jvm.Cond.code ({ cls := "ThunderCasks", name := "fewestBlended", desc := "(I)I" } : Jvm.MethodName) prog_1_method_61_code (5 : Nat) (Option.some Jvm.ClassFile.FieldType.int)) ∈ lw_all := lw_g (lw_at lw_m4 104 rfl) rfl
theorem q926 : (Jvm.Cond.instanceMethod ({ cls := "ThunderCasks", name := "blends", desc := "(II)I" } : Jvm.MethodName)) ∈ lw_all := lw_g (lw_at lw_m4 106 rfl) rfl
theorem q927 : (Jvm.Cond.selects "ThunderCasks" ({ cls := "ThunderCasks", name := "blends", desc := "(II)I" } : Jvm.MethodName) ({ cls := "ThunderCasks", name := "blends", desc := "(II)I" } : Jvm.MethodName)) ∈ lw_all := lw_g (lw_at lw_m4 107 rfl) rfl
theorem q928 : (Jvm.Cond.code ({ cls := "ThunderCasks", name := "blends", desc := "(II)I" } : Jvm.MethodName) prog_1_method_64_code (3 : Nat) (Option.some Jvm.ClassFile.FieldType.int)) ∈ lw_all := lw_g (lw_at lw_m4 108 rfl) rfl
theorem q929 : (Jvm.Cond.methodLink "ThunderCasks" (287 : Nat) ({ cls := "ThunderCasks", name := "manyBlends", desc := "(II)I" } : Jvm.MethodName)) ∈ lw_all := lw_g (lw_at lw_m4 109 rfl) rfl
theorem q930 : (Jvm.Cond.privateMethod ({ cls := "ThunderCasks", name := "manyBlends", desc := "(II)I" } : Jvm.MethodName)) ∈ lw_tbl := lw_at lw_m4 110 rfl
theorem q931 : (Jvm.Cond.instanceMethod ({ cls := "ThunderCasks", name := "manyBlends", desc := "(II)I" } : Jvm.MethodName)) ∈ lw_all := lw_g (lw_at lw_m4 111 rfl) rfl
theorem q932 : (Jvm.Cond.code ({ cls := "ThunderCasks", name := "manyBlends", desc := "(II)I" } : Jvm.MethodName) prog_1_method_63_code (5 : Nat) (Option.some Jvm.ClassFile.FieldType.int)) ∈ lw_all := lw_g (lw_at lw_m4 112 rfl) rfl
theorem q934 : (Jvm.Cond.instanceMethod ({ cls := "ThunderCasks", name := "fits", desc := "(II)I" } : Jvm.MethodName)) ∈ lw_all := lw_g (lw_at lw_m4 114 rfl) rfl
theorem q935 : (Jvm.Cond.selects "ThunderCasks" ({ cls := "ThunderCasks", name := "fits", desc := "(II)I" } : Jvm.MethodName) ({ cls := "ThunderCasks", name := "fits", desc := "(II)I" } : Jvm.MethodName)) ∈ lw_all := lw_g (lw_at lw_m4 115 rfl) rfl
theorem q936 : (Jvm.Cond.codeWith ({ cls := "ThunderCasks", name := "fits", desc := "(II)I" } : Jvm.MethodName) prog_1_method_68_code (4 : Nat) (Option.some Jvm.ClassFile.FieldType.int) [((0 : Nat), (11 : Nat), (12 : Nat), (49 : Nat))]) ∈ lw_all := lw_g (lw_at lw_m4 116 rfl) rfl
theorem q937 : (Jvm.Cond.methodLink "ThunderCasks" (313 : Nat) ({ cls := "ThunderCasks", name := "rowFor", desc := "(II)Ljava/lang/Object;" } : Jvm.MethodName)) ∈ lw_all := lw_g (lw_at lw_m4 117 rfl) rfl
theorem q938 : (Jvm.Cond.privateMethod ({ cls := "ThunderCasks", name := "rowFor", desc := "(II)Ljava/lang/Object;" } : Jvm.MethodName)) ∈ lw_tbl := lw_at lw_m4 118 rfl
theorem q939 : (Jvm.Cond.instanceMethod ({ cls := "ThunderCasks", name := "rowFor", desc := "(II)Ljava/lang/Object;" } : Jvm.MethodName)) ∈ lw_all := lw_g (lw_at lw_m4 119 rfl) rfl
theorem q940 : (Jvm.Cond.code ({ cls := "ThunderCasks", name := "rowFor", desc := "(II)Ljava/lang/Object;" } : Jvm.MethodName) prog_1_method_66_code (4 : Nat) (Option.some (Jvm.ClassFile.FieldType.object "java/lang/Object"))) ∈ lw_all := lw_g (lw_at lw_m4 120 rfl) rfl
theorem q941 : (Jvm.Cond.methodLink "ThunderCasks" (298 : Nat) ({ cls := "ThunderCasks", name := "rowAt", desc := "(I)Ljava/lang/Object;" } : Jvm.MethodName)) ∈ lw_all := lw_g (lw_at lw_m4 121 rfl) rfl
theorem q942 : (Jvm.Cond.privateMethod ({ cls := "ThunderCasks", name := "rowAt", desc := "(I)Ljava/lang/Object;" } : Jvm.MethodName)) ∈ lw_tbl := lw_at lw_m4 122 rfl
theorem q943 : (Jvm.Cond.instanceMethod ({ cls := "ThunderCasks", name := "rowAt", desc := "(I)Ljava/lang/Object;" } : Jvm.MethodName)) ∈ lw_all := lw_g (lw_at lw_m4 123 rfl) rfl
theorem q944 : (Jvm.Cond.code ({ cls := "ThunderCasks", name := "rowAt", desc := "(I)Ljava/lang/Object;" } : Jvm.MethodName) prog_1_method_86_code (2 : Nat) (Option.some (Jvm.ClassFile.FieldType.object "java/lang/Object"))) ∈ lw_all := lw_g (lw_at lw_m4 124 rfl) rfl
theorem q945 : (Jvm.Cond.methodLink "ThunderCasks" (373 : Nat) ({ cls := "ThunderCasks", name := "isSheet", desc := "(I)Z" } : Jvm.MethodName)) ∈ lw_all := lw_g (lw_at lw_m4 125 rfl) rfl
theorem q946 : (Jvm.Cond.static ({ cls := "ThunderCasks", name := "isSheet", desc := "(I)Z" } : Jvm.MethodName)) ∈ lw_all := lw_g (lw_at lw_m4 126 rfl) rfl
theorem q947 : (Jvm.Cond.code ({ cls := "ThunderCasks", name := "isSheet", desc := "(I)Z" } : Jvm.MethodName) prog_1_method_4_code (1 : Nat) (Option.some Jvm.ClassFile.FieldType.boolean)) ∈ lw_all := lw_g (lw_at lw_m4 127 rfl) rfl
theorem q948 : (Jvm.Cond.methodLink "ThunderCasks" (302 : Nat) ({ cls := "ThunderCasks", name := "need", desc := "(ZI)V" } : Jvm.MethodName)) ∈ lw_all := lw_g (lw_at lw_m4 128 rfl) rfl
theorem q949 : (Jvm.Cond.privateMethod ({ cls := "ThunderCasks", name := "need", desc := "(ZI)V" } : Jvm.MethodName)) ∈ lw_tbl := lw_at lw_m4 129 rfl
theorem q950 : (Jvm.Cond.instanceMethod ({ cls := "ThunderCasks", name := "need", desc := "(ZI)V" } : Jvm.MethodName)) ∈ lw_all := lw_g (lw_at lw_m4 130 rfl) rfl
theorem q951 : (Jvm.Cond.code ({ cls := "ThunderCasks", name := "need", desc := "(ZI)V" } : Jvm.MethodName) prog_1_method_16_code (3 : Nat) (Option.none : Option Jvm.ClassFile.FieldType)) ∈ lw_all := lw_g (lw_at lw_m4 131 rfl) rfl
theorem q952 : (Jvm.Cond.methodLink "ThunderCasks" (110 : Nat) ({ cls := "ThunderCasks", name := "refused", desc := "(I)LThunderCasks$Refusal;" } : Jvm.MethodName)) ∈ lw_all := lw_g (lw_at lw_m4 132 rfl) rfl
theorem q953 : (Jvm.Cond.privateMethod ({ cls := "ThunderCasks", name := "refused", desc := "(I)LThunderCasks$Refusal;" } : Jvm.MethodName)) ∈ lw_tbl := lw_at lw_m4 133 rfl
theorem q954 : (Jvm.Cond.instanceMethod ({ cls := "ThunderCasks", name := "refused", desc := "(I)LThunderCasks$Refusal;" } : Jvm.MethodName)) ∈ lw_all := lw_g (lw_at lw_m4 134 rfl) rfl
theorem q955 : (Jvm.Cond.code ({ cls := "ThunderCasks", name := "refused", desc := "(I)LThunderCasks$Refusal;" } : Jvm.MethodName) prog_1_method_15_code (2 : Nat) (Option.some (Jvm.ClassFile.FieldType.object "ThunderCasks$Refusal"))) ∈ lw_all := lw_g (lw_at lw_m4 135 rfl) rfl
theorem q956 : (Jvm.Cond.methodLink "ThunderCasks" (317 : Nat) ({ cls := "ThunderCasks", name := "manyFits", desc := "(Ljava/lang/Object;I)I" } : Jvm.MethodName)) ∈ lw_all := lw_g (lw_at lw_m4 136 rfl) rfl
theorem q957 : (Jvm.Cond.privateMethod ({ cls := "ThunderCasks", name := "manyFits", desc := "(Ljava/lang/Object;I)I" } : Jvm.MethodName)) ∈ lw_tbl := lw_at lw_m4 137 rfl
theorem q958 : (Jvm.Cond.instanceMethod ({ cls := "ThunderCasks", name := "manyFits", desc := "(Ljava/lang/Object;I)I" } : Jvm.MethodName)) ∈ lw_all := lw_g (lw_at lw_m4 138 rfl) rfl
theorem q959 : (Jvm.Cond.code ({ cls := "ThunderCasks", name := "manyFits", desc := "(Ljava/lang/Object;I)I" } : Jvm.MethodName) prog_1_method_67_code (7 : Nat) (Option.some Jvm.ClassFile.FieldType.int)) ∈ lw_all := lw_g (lw_at lw_m4 139 rfl) rfl
theorem q960 : (Jvm.Cond.methodLink "ThunderCasks" (306 : Nat) ({ cls := "ThunderCasks", name := "wasSo", desc := "(Ljava/lang/Object;I)Z" } : Jvm.MethodName)) ∈ lw_all := lw_g (lw_at lw_m4 140 rfl) rfl
theorem q961 : (Jvm.Cond.privateMethod ({ cls := "ThunderCasks", name := "wasSo", desc := "(Ljava/lang/Object;I)Z" } : Jvm.MethodName)) ∈ lw_tbl := lw_at lw_m4 141 rfl
theorem q962 : (Jvm.Cond.instanceMethod ({ cls := "ThunderCasks", name := "wasSo", desc := "(Ljava/lang/Object;I)Z" } : Jvm.MethodName)) ∈ lw_all := lw_g (lw_at lw_m4 142 rfl) rfl
theorem q963 : (Jvm.Cond.codeWith ({ cls := "ThunderCasks", name := "wasSo", desc := "(Ljava/lang/Object;I)Z" } : Jvm.MethodName) prog_1_method_65_code (6 : Nat) (Option.some Jvm.ClassFile.FieldType.boolean) [((11 : Nat), (93 : Nat), (107 : Nat), (0 : Nat)), ((107 : Nat), (109 : Nat), (107 : Nat), (0 : Nat))]) ∈ lw_all := lw_g (lw_at lw_m4 143 rfl) rfl
theorem q964 : (Jvm.Cond.methodLink "ThunderCasks" (290 : Nat) ({ cls := "ThunderCasks", name := "length", desc := "(Ljava/lang/Object;)I" } : Jvm.MethodName)) ∈ lw_all := lw_g (lw_at lw_m4 144 rfl) rfl
theorem q965 : (Jvm.Cond.static ({ cls := "ThunderCasks", name := "length", desc := "(Ljava/lang/Object;)I" } : Jvm.MethodName)) ∈ lw_all := lw_g (lw_at lw_m4 145 rfl) rfl
theorem q966 : (Jvm.Cond.code ({ cls := "ThunderCasks", name := "length", desc := "(Ljava/lang/Object;)I" } : Jvm.MethodName) prog_1_method_87_code (1 : Nat) (Option.some Jvm.ClassFile.FieldType.int)) ∈ lw_all := lw_g (lw_at lw_m4 146 rfl) rfl
theorem q967 : (Jvm.Cond.classLink "ThunderCasks" (376 : Nat) "[B") ∈ lw_all := lw_g (lw_at lw_m4 147 rfl) rfl
theorem q968 : (Jvm.Cond.classLink "ThunderCasks" (377 : Nat) "[S") ∈ lw_all := lw_g (lw_at lw_m4 148 rfl) rfl
theorem q969 : (Jvm.Cond.classLink "ThunderCasks" (379 : Nat) "[I") ∈ lw_all := lw_g (lw_at lw_m4 149 rfl) rfl
theorem q970 : (Jvm.Cond.methodLink "ThunderCasks" (294 : Nat) ({ cls := "ThunderCasks", name := "number", desc := "(Ljava/lang/Object;I)I" } : Jvm.MethodName)) ∈ lw_all := lw_g (lw_at lw_m4 150 rfl) rfl
theorem q971 : (Jvm.Cond.static ({ cls := "ThunderCasks", name := "number", desc := "(Ljava/lang/Object;I)I" } : Jvm.MethodName)) ∈ lw_all := lw_g (lw_at lw_m4 151 rfl) rfl
theorem q972 : (Jvm.Cond.code ({ cls := "ThunderCasks", name := "number", desc := "(Ljava/lang/Object;I)I" } : Jvm.MethodName) prog_1_method_88_code (2 : Nat) (Option.some Jvm.ClassFile.FieldType.int)) ∈ lw_all := lw_g (lw_at lw_m4 152 rfl) rfl
theorem q974 : (Jvm.Cond.instanceMethod ({ cls := "ThunderCasks", name := "pealed", desc := "(II)I" } : Jvm.MethodName)) ∈ lw_all := lw_g (lw_at lw_m4 154 rfl) rfl
theorem q975 : (Jvm.Cond.selects "ThunderCasks" ({ cls := "ThunderCasks", name := "pealed", desc := "(II)I" } : Jvm.MethodName) ({ cls := "ThunderCasks", name := "pealed", desc := "(II)I" } : Jvm.MethodName)) ∈ lw_all := lw_g (lw_at lw_m4 155 rfl) rfl
theorem q976 : (Jvm.Cond.codeWith ({ cls := "ThunderCasks", name := "pealed", desc := "(II)I" } : Jvm.MethodName) prog_1_method_69_code (4 : Nat) (Option.some Jvm.ClassFile.FieldType.int) [((0 : Nat), (28 : Nat), (29 : Nat), (49 : Nat))]) ∈ lw_all := lw_g (lw_at lw_m4 156 rfl) rfl
theorem q978 : (Jvm.Cond.instanceMethod ({ cls := "ThunderCasks", name := "kinds", desc := "(II)I" } : Jvm.MethodName)) ∈ lw_all := lw_g (lw_at lw_m4 158 rfl) rfl
theorem q979 : (Jvm.Cond.selects "ThunderCasks" ({ cls := "ThunderCasks", name := "kinds", desc := "(II)I" } : Jvm.MethodName) ({ cls := "ThunderCasks", name := "kinds", desc := "(II)I" } : Jvm.MethodName)) ∈ lw_all := lw_g (lw_at lw_m4 159 rfl) rfl
theorem q980 : (Jvm.Cond.codeWith ({ cls := "ThunderCasks", name := "kinds", desc := "(II)I" } : Jvm.MethodName) prog_1_method_71_code (4 : Nat) (Option.some Jvm.ClassFile.FieldType.int) [((0 : Nat), (11 : Nat), (12 : Nat), (49 : Nat))]) ∈ lw_all := lw_g (lw_at lw_m4 160 rfl) rfl
theorem q981 : (Jvm.Cond.methodLink "ThunderCasks" (320 : Nat) ({ cls := "ThunderCasks", name := "kindsThatFit", desc := "(Ljava/lang/Object;I)I" } : Jvm.MethodName)) ∈ lw_all := lw_g (lw_at lw_m4 161 rfl) rfl
theorem q982 : (Jvm.Cond.privateMethod ({ cls := "ThunderCasks", name := "kindsThatFit", desc := "(Ljava/lang/Object;I)I" } : Jvm.MethodName)) ∈ lw_tbl := lw_at lw_m4 162 rfl
theorem q983 : (Jvm.Cond.instanceMethod ({ cls := "ThunderCasks", name := "kindsThatFit", desc := "(Ljava/lang/Object;I)I" } : Jvm.MethodName)) ∈ lw_all := lw_g (lw_at lw_m4 163 rfl) rfl
theorem q984 : (Jvm.Cond.code ({ cls := "ThunderCasks", name := "kindsThatFit", desc := "(Ljava/lang/Object;I)I" } : Jvm.MethodName) prog_1_method_70_code (6 : Nat) (Option.some Jvm.ClassFile.FieldType.int)) ∈ lw_all := lw_g (lw_at lw_m4 164 rfl) rfl
theorem q986 : (Jvm.Cond.instanceMethod ({ cls := "ThunderCasks", name := "storms", desc := "(I)I" } : Jvm.MethodName)) ∈ lw_all := lw_g (lw_at lw_m4 166 rfl) rfl
theorem q987 : (Jvm.Cond.selects "ThunderCasks" ({ cls := "ThunderCasks", name := "storms", desc := "(I)I" } : Jvm.MethodName) ({ cls := "ThunderCasks", name := "storms", desc := "(I)I" } : Jvm.MethodName)) ∈ lw_all := lw_g (lw_at lw_m4 167 rfl) rfl
theorem q988 : (Jvm.Cond.code ({ cls := "ThunderCasks", name := "storms", desc := "(I)I" } : Jvm.MethodName) prog_1_method_73_code (2 : Nat) (Option.some Jvm.ClassFile.FieldType.int)) ∈ lw_all := lw_g (lw_at lw_m4 168 rfl) rfl
theorem q989 : (Jvm.Cond.methodLink "ThunderCasks" (326 : Nat) ({ cls := "ThunderCasks", name := "stormed", desc := "(I)I" } : Jvm.MethodName)) ∈ lw_all := lw_g (lw_at lw_m4 169 rfl) rfl
theorem q990 : (Jvm.Cond.privateMethod ({ cls := "ThunderCasks", name := "stormed", desc := "(I)I" } : Jvm.MethodName)) ∈ lw_tbl := lw_at lw_m4 170 rfl
theorem q991 : (Jvm.Cond.instanceMethod ({ cls := "ThunderCasks", name := "stormed", desc := "(I)I" } : Jvm.MethodName)) ∈ lw_all := lw_g (lw_at lw_m4 171 rfl) rfl
theorem q992 : (Jvm.Cond.code ({ cls := "ThunderCasks", name := "stormed", desc := "(I)I" } : Jvm.MethodName) prog_1_method_72_code (4 : Nat) (Option.some Jvm.ClassFile.FieldType.int)) ∈ lw_all := lw_g (lw_at lw_m4 172 rfl) rfl
theorem q993 : (Jvm.Cond.methodLink "ThunderCasks" (323 : Nat) ({ cls := "ThunderCasks$World", name := "draw", desc := "()I" } : Jvm.MethodName)) ∈ lw_all := lw_g (lw_at lw_m4 173 rfl) rfl
theorem q999 : (Jvm.Cond.instanceMethod ({ cls := "ThunderCasks", name := "odds", desc := "(II)J" } : Jvm.MethodName)) ∈ lw_all := lw_g (lw_at lw_m4 179 rfl) rfl
theorem q1000 : (Jvm.Cond.selects "ThunderCasks" ({ cls := "ThunderCasks", name := "odds", desc := "(II)J" } : Jvm.MethodName) ({ cls := "ThunderCasks", name := "odds", desc := "(II)J" } : Jvm.MethodName)) ∈ lw_all := lw_g (lw_at lw_m4 180 rfl) rfl
theorem q1001 : (Jvm.Cond.code ({ cls := "ThunderCasks", name := "odds", desc := "(II)J" } : Jvm.MethodName) prog_1_method_75_code (9 : Nat) (Option.some Jvm.ClassFile.FieldType.long)) ∈ lw_all := lw_g (lw_at lw_m4 181 rfl) rfl
theorem q1002 : (Jvm.Cond.methodLink "ThunderCasks" (329 : Nat) ({ cls := "ThunderCasks", name := "divisor", desc := "(II)I" } : Jvm.MethodName)) ∈ lw_all := lw_g (lw_at lw_m4 182 rfl) rfl
theorem q1003 : (Jvm.Cond.static ({ cls := "ThunderCasks", name := "divisor", desc := "(II)I" } : Jvm.MethodName)) ∈ lw_all := lw_g (lw_at lw_m4 183 rfl) rfl
theorem q1004 : (Jvm.Cond.code ({ cls := "ThunderCasks", name := "divisor", desc := "(II)I" } : Jvm.MethodName) prog_1_method_74_code (5 : Nat) (Option.some Jvm.ClassFile.FieldType.int)) ∈ lw_all := lw_g (lw_at lw_m4 184 rfl) rfl
theorem q1006 : (Jvm.Cond.instanceMethod ({ cls := "ThunderCasks", name := "seed", desc := "(I)I" } : Jvm.MethodName)) ∈ lw_all := lw_g (lw_at lw_m4 186 rfl) rfl
theorem q1007 : (Jvm.Cond.selects "ThunderCasks" ({ cls := "ThunderCasks", name := "seed", desc := "(I)I" } : Jvm.MethodName) ({ cls := "ThunderCasks", name := "seed", desc := "(I)I" } : Jvm.MethodName)) ∈ lw_all := lw_g (lw_at lw_m4 187 rfl) rfl
theorem q1008 : (Jvm.Cond.code ({ cls := "ThunderCasks", name := "seed", desc := "(I)I" } : Jvm.MethodName) prog_1_method_76_code (3 : Nat) (Option.some Jvm.ClassFile.FieldType.int)) ∈ lw_all := lw_g (lw_at lw_m4 188 rfl) rfl
theorem q1010 : (Jvm.Cond.instanceMethod ({ cls := "ThunderCasks", name := "feed", desc := "(II)I" } : Jvm.MethodName)) ∈ lw_all := lw_g (lw_at lw_m4 190 rfl) rfl
theorem q1011 : (Jvm.Cond.selects "ThunderCasks" ({ cls := "ThunderCasks", name := "feed", desc := "(II)I" } : Jvm.MethodName) ({ cls := "ThunderCasks", name := "feed", desc := "(II)I" } : Jvm.MethodName)) ∈ lw_all := lw_g (lw_at lw_m4 191 rfl) rfl
theorem q1012 : (Jvm.Cond.code ({ cls := "ThunderCasks", name := "feed", desc := "(II)I" } : Jvm.MethodName) prog_1_method_77_code (4 : Nat) (Option.some Jvm.ClassFile.FieldType.int)) ∈ lw_all := lw_g (lw_at lw_m4 192 rfl) rfl
theorem q1014 : (Jvm.Cond.instanceMethod ({ cls := "ThunderCasks", name := "wipe", desc := "()I" } : Jvm.MethodName)) ∈ lw_all := lw_g (lw_at lw_m4 194 rfl) rfl
theorem q1015 : (Jvm.Cond.selects "ThunderCasks" ({ cls := "ThunderCasks", name := "wipe", desc := "()I" } : Jvm.MethodName) ({ cls := "ThunderCasks", name := "wipe", desc := "()I" } : Jvm.MethodName)) ∈ lw_all := lw_g (lw_at lw_m4 195 rfl) rfl
theorem q1016 : (Jvm.Cond.code ({ cls := "ThunderCasks", name := "wipe", desc := "()I" } : Jvm.MethodName) prog_1_method_78_code (2 : Nat) (Option.some Jvm.ClassFile.FieldType.int)) ∈ lw_all := lw_g (lw_at lw_m4 196 rfl) rfl
theorem q1018 : (Jvm.Cond.instanceMethod ({ cls := "ThunderCasks", name := "text", desc := "()I" } : Jvm.MethodName)) ∈ lw_all := lw_g (lw_at lw_m4 198 rfl) rfl
theorem q1019 : (Jvm.Cond.selects "ThunderCasks" ({ cls := "ThunderCasks", name := "text", desc := "()I" } : Jvm.MethodName) ({ cls := "ThunderCasks", name := "text", desc := "()I" } : Jvm.MethodName)) ∈ lw_all := lw_g (lw_at lw_m4 199 rfl) rfl
theorem q1020 : (Jvm.Cond.codeWith ({ cls := "ThunderCasks", name := "text", desc := "()I" } : Jvm.MethodName) prog_1_method_79_code (2 : Nat) (Option.some Jvm.ClassFile.FieldType.int) [((30 : Nat), (53 : Nat), (54 : Nat), (350 : Nat))]) ∈ lw_all := lw_g (lw_at lw_m4 200 rfl) rfl
theorem q1021 : (Jvm.Cond.classLink "ThunderCasks" (350 : Nat) "ThunderCasks$Wrong") ∈ lw_all := lw_g (lw_at lw_m4 201 rfl) rfl
theorem q1022 : (Jvm.Cond.methodLink "ThunderCasks" (347 : Nat) ({ cls := "ThunderCasks$Reader", name := "whole", desc := "()I" } : Jvm.MethodName)) ∈ lw_all := lw_g (lw_at lw_m4 202 rfl) rfl
theorem q1132 : (Jvm.Cond.instanceMethod ({ cls := "ThunderCasks", name := "hold", desc := "(II)I" } : Jvm.MethodName)) ∈ lw_all := lw_g (lw_at lw_m5 72 rfl) rfl
theorem q1133 : (Jvm.Cond.selects "ThunderCasks" ({ cls := "ThunderCasks", name := "hold", desc := "(II)I" } : Jvm.MethodName) ({ cls := "ThunderCasks", name := "hold", desc := "(II)I" } : Jvm.MethodName)) ∈ lw_all := lw_g (lw_at lw_m5 73 rfl) rfl
theorem q1134 : (Jvm.Cond.code ({ cls := "ThunderCasks", name := "hold", desc := "(II)I" } : Jvm.MethodName) prog_1_method_82_code (3 : Nat) (Option.some Jvm.ClassFile.FieldType.int)) ∈ lw_all := lw_g (lw_at lw_m5 74 rfl) rfl
theorem q1135 : (Jvm.Cond.methodLink "ThunderCasks" (358 : Nat) ({ cls := "ThunderCasks", name := "isSpot", desc := "(I)Z" } : Jvm.MethodName)) ∈ lw_all := lw_g (lw_at lw_m5 75 rfl) rfl
theorem q1136 : (Jvm.Cond.static ({ cls := "ThunderCasks", name := "isSpot", desc := "(I)Z" } : Jvm.MethodName)) ∈ lw_all := lw_g (lw_at lw_m5 76 rfl) rfl
theorem q1137 : (Jvm.Cond.code ({ cls := "ThunderCasks", name := "isSpot", desc := "(I)Z" } : Jvm.MethodName) prog_1_method_5_code (1 : Nat) (Option.some Jvm.ClassFile.FieldType.boolean)) ∈ lw_all := lw_g (lw_at lw_m5 77 rfl) rfl
theorem q1139 : (Jvm.Cond.instanceMethod ({ cls := "ThunderCasks", name := "as", desc := "(II)I" } : Jvm.MethodName)) ∈ lw_all := lw_g (lw_at lw_m5 79 rfl) rfl
theorem q1140 : (Jvm.Cond.selects "ThunderCasks" ({ cls := "ThunderCasks", name := "as", desc := "(II)I" } : Jvm.MethodName) ({ cls := "ThunderCasks", name := "as", desc := "(II)I" } : Jvm.MethodName)) ∈ lw_all := lw_g (lw_at lw_m5 80 rfl) rfl
theorem q1141 : (Jvm.Cond.code ({ cls := "ThunderCasks", name := "as", desc := "(II)I" } : Jvm.MethodName) prog_1_method_84_code (5 : Nat) (Option.some Jvm.ClassFile.FieldType.int)) ∈ lw_all := lw_g (lw_at lw_m5 81 rfl) rfl
theorem q1142 : (Jvm.Cond.methodLink "ThunderCasks" (361 : Nat) ({ cls := "ThunderCasks", name := "thingAt", desc := "(I)Ljava/lang/Object;" } : Jvm.MethodName)) ∈ lw_all := lw_g (lw_at lw_m5 82 rfl) rfl
theorem q1143 : (Jvm.Cond.privateMethod ({ cls := "ThunderCasks", name := "thingAt", desc := "(I)Ljava/lang/Object;" } : Jvm.MethodName)) ∈ lw_tbl := lw_at lw_m5 83 rfl
theorem q1144 : (Jvm.Cond.instanceMethod ({ cls := "ThunderCasks", name := "thingAt", desc := "(I)Ljava/lang/Object;" } : Jvm.MethodName)) ∈ lw_all := lw_g (lw_at lw_m5 84 rfl) rfl
theorem q1145 : (Jvm.Cond.code ({ cls := "ThunderCasks", name := "thingAt", desc := "(I)Ljava/lang/Object;" } : Jvm.MethodName) prog_1_method_80_code (3 : Nat) (Option.some (Jvm.ClassFile.FieldType.object "java/lang/Object"))) ∈ lw_all := lw_g (lw_at lw_m5 85 rfl) rfl
theorem q1146 : (Jvm.Cond.methodLink "ThunderCasks" (364 : Nat) ({ cls := "ThunderCasks$Cask", name := "isUnder", desc := "(I)Z" } : Jvm.MethodName)) ∈ lw_all := lw_g (lw_at lw_m5 86 rfl) rfl
theorem q1167 : (Jvm.Cond.methodLink "ThunderCasks" (367 : Nat) ({ cls := "ThunderCasks", name := "cast", desc := "(Ljava/lang/Object;I)LThunderCasks$Cask;" } : Jvm.MethodName)) ∈ lw_all := lw_g (lw_at lw_m5 107 rfl) rfl
theorem q1168 : (Jvm.Cond.static ({ cls := "ThunderCasks", name := "cast", desc := "(Ljava/lang/Object;I)LThunderCasks$Cask;" } : Jvm.MethodName)) ∈ lw_all := lw_g (lw_at lw_m5 108 rfl) rfl
theorem q1169 : (Jvm.Cond.code ({ cls := "ThunderCasks", name := "cast", desc := "(Ljava/lang/Object;I)LThunderCasks$Cask;" } : Jvm.MethodName) prog_1_method_83_code (2 : Nat) (Option.some (Jvm.ClassFile.FieldType.object "ThunderCasks$Cask"))) ∈ lw_all := lw_g (lw_at lw_m5 109 rfl) rfl
theorem q1171 : (Jvm.Cond.instanceMethod ({ cls := "ThunderCasks", name := "sheet", desc := "(III)I" } : Jvm.MethodName)) ∈ lw_all := lw_g (lw_at lw_m5 111 rfl) rfl
theorem q1172 : (Jvm.Cond.selects "ThunderCasks" ({ cls := "ThunderCasks", name := "sheet", desc := "(III)I" } : Jvm.MethodName) ({ cls := "ThunderCasks", name := "sheet", desc := "(III)I" } : Jvm.MethodName)) ∈ lw_all := lw_g (lw_at lw_m5 112 rfl) rfl
theorem q1173 : (Jvm.Cond.code ({ cls := "ThunderCasks", name := "sheet", desc := "(III)I" } : Jvm.MethodName) prog_1_method_85_code (4 : Nat) (Option.some Jvm.ClassFile.FieldType.int)) ∈ lw_all := lw_g (lw_at lw_m5 113 rfl) rfl
theorem q1176 : (Jvm.Cond.instanceMethod ({ cls := "ThunderCasks", name := "write", desc := "(III)I" } : Jvm.MethodName)) ∈ lw_all := lw_g (lw_at lw_m5 116 rfl) rfl
theorem q1177 : (Jvm.Cond.selects "ThunderCasks" ({ cls := "ThunderCasks", name := "write", desc := "(III)I" } : Jvm.MethodName) ({ cls := "ThunderCasks", name := "write", desc := "(III)I" } : Jvm.MethodName)) ∈ lw_all := lw_g (lw_at lw_m5 117 rfl) rfl
theorem q1178 : (Jvm.Cond.codeWith ({ cls := "ThunderCasks", name := "write", desc := "(III)I" } : Jvm.MethodName) prog_1_method_91_code (5 : Nat) (Option.some Jvm.ClassFile.FieldType.int) [((0 : Nat), (47 : Nat), (48 : Nat), (49 : Nat))]) ∈ lw_all := lw_g (lw_at lw_m5 118 rfl) rfl
theorem q1179 : (Jvm.Cond.methodLink "ThunderCasks" (380 : Nat) ({ cls := "ThunderCasks", name := "lay", desc := "(Ljava/lang/Object;II)V" } : Jvm.MethodName)) ∈ lw_all := lw_g (lw_at lw_m5 119 rfl) rfl
theorem q1180 : (Jvm.Cond.static ({ cls := "ThunderCasks", name := "lay", desc := "(Ljava/lang/Object;II)V" } : Jvm.MethodName)) ∈ lw_all := lw_g (lw_at lw_m5 120 rfl) rfl
theorem q1181 : (Jvm.Cond.code ({ cls := "ThunderCasks", name := "lay", desc := "(Ljava/lang/Object;II)V" } : Jvm.MethodName) prog_1_method_90_code (3 : Nat) (Option.none : Option Jvm.ClassFile.FieldType)) ∈ lw_all := lw_g (lw_at lw_m5 121 rfl) rfl
theorem q1183 : (Jvm.Cond.instanceMethod ({ cls := "ThunderCasks", name := "copy", desc := "(IIIII)I" } : Jvm.MethodName)) ∈ lw_all := lw_g (lw_at lw_m5 123 rfl) rfl
theorem q1184 : (Jvm.Cond.selects "ThunderCasks" ({ cls := "ThunderCasks", name := "copy", desc := "(IIIII)I" } : Jvm.MethodName) ({ cls := "ThunderCasks", name := "copy", desc := "(IIIII)I" } : Jvm.MethodName)) ∈ lw_all := lw_g (lw_at lw_m5 124 rfl) rfl
theorem q1185 : (Jvm.Cond.codeWith ({ cls := "ThunderCasks", name := "copy", desc := "(IIIII)I" } : Jvm.MethodName) prog_1_method_93_code (8 : Nat) (Option.some Jvm.ClassFile.FieldType.int) [((0 : Nat), (120 : Nat), (121 : Nat), (49 : Nat))]) ∈ lw_all := lw_g (lw_at lw_m5 125 rfl) rfl
theorem q1186 : (Jvm.Cond.methodLink "ThunderCasks" (390 : Nat) ({ cls := "ThunderCasks", name := "widthOf", desc := "(Ljava/lang/Object;)I" } : Jvm.MethodName)) ∈ lw_all := lw_g (lw_at lw_m5 126 rfl) rfl
theorem q1187 : (Jvm.Cond.static ({ cls := "ThunderCasks", name := "widthOf", desc := "(Ljava/lang/Object;)I" } : Jvm.MethodName)) ∈ lw_all := lw_g (lw_at lw_m5 127 rfl) rfl
theorem q1188 : (Jvm.Cond.code ({ cls := "ThunderCasks", name := "widthOf", desc := "(Ljava/lang/Object;)I" } : Jvm.MethodName) prog_1_method_89_code (1 : Nat) (Option.some Jvm.ClassFile.FieldType.int)) ∈ lw_all := lw_g (lw_at lw_m5 128 rfl) rfl
theorem q1189 : (Jvm.Cond.methodLink "ThunderCasks" (393 : Nat) ({ cls := "ThunderCasks", name := "slide", desc := "(Ljava/lang/Object;ILjava/lang/Object;II)V" } : Jvm.MethodName)) ∈ lw_all := lw_g (lw_at lw_m5 129 rfl) rfl
theorem q1190 : (Jvm.Cond.static ({ cls := "ThunderCasks", name := "slide", desc := "(Ljava/lang/Object;ILjava/lang/Object;II)V" } : Jvm.MethodName)) ∈ lw_all := lw_g (lw_at lw_m5 130 rfl) rfl
theorem q1191 : (Jvm.Cond.code ({ cls := "ThunderCasks", name := "slide", desc := "(Ljava/lang/Object;ILjava/lang/Object;II)V" } : Jvm.MethodName) prog_1_method_92_code (5 : Nat) (Option.none : Option Jvm.ClassFile.FieldType)) ∈ lw_all := lw_g (lw_at lw_m5 131 rfl) rfl
theorem q1192 : (Jvm.Cond.methodLink "ThunderCasks" (384 : Nat) ({ cls := "java/lang/System", name := "arraycopy", desc := "(Ljava/lang/Object;ILjava/lang/Object;II)V" } : Jvm.MethodName)) ∈ lw_all := lw_g (lw_at lw_m5 132 rfl) rfl
theorem q1194 : (Jvm.Cond.instanceMethod ({ cls := "ThunderCasks", name := "load", desc := "(I)I" } : Jvm.MethodName)) ∈ lw_all := lw_g (lw_at lw_m5 134 rfl) rfl
theorem q1195 : (Jvm.Cond.selects "ThunderCasks" ({ cls := "ThunderCasks", name := "load", desc := "(I)I" } : Jvm.MethodName) ({ cls := "ThunderCasks", name := "load", desc := "(I)I" } : Jvm.MethodName)) ∈ lw_all := lw_g (lw_at lw_m5 135 rfl) rfl
theorem q1196 : (Jvm.Cond.codeWith ({ cls := "ThunderCasks", name := "load", desc := "(I)I" } : Jvm.MethodName) prog_1_method_95_code (3 : Nat) (Option.some Jvm.ClassFile.FieldType.int) [((0 : Nat), (25 : Nat), (26 : Nat), (49 : Nat))]) ∈ lw_all := lw_g (lw_at lw_m5 136 rfl) rfl
theorem q1197 : (Jvm.Cond.methodLink "ThunderCasks" (396 : Nat) ({ cls := "ThunderCasks", name := "loads", desc := "(Ljava/lang/Object;)I" } : Jvm.MethodName)) ∈ lw_all := lw_g (lw_at lw_m5 137 rfl) rfl
theorem q1198 : (Jvm.Cond.privateMethod ({ cls := "ThunderCasks", name := "loads", desc := "(Ljava/lang/Object;)I" } : Jvm.MethodName)) ∈ lw_tbl := lw_at lw_m5 138 rfl
theorem q1199 : (Jvm.Cond.instanceMethod ({ cls := "ThunderCasks", name := "loads", desc := "(Ljava/lang/Object;)I" } : Jvm.MethodName)) ∈ lw_all := lw_g (lw_at lw_m5 139 rfl) rfl
theorem q1200 : (Jvm.Cond.code ({ cls := "ThunderCasks", name := "loads", desc := "(Ljava/lang/Object;)I" } : Jvm.MethodName) prog_1_method_94_code (3 : Nat) (Option.some Jvm.ClassFile.FieldType.int)) ∈ lw_all := lw_g (lw_at lw_m5 140 rfl) rfl
theorem q1202 : (Jvm.Cond.instanceMethod ({ cls := "ThunderCasks", name := "judge", desc := "(I)I" } : Jvm.MethodName)) ∈ lw_all := lw_g (lw_at lw_m5 142 rfl) rfl
theorem q1203 : (Jvm.Cond.selects "ThunderCasks" ({ cls := "ThunderCasks", name := "judge", desc := "(I)I" } : Jvm.MethodName) ({ cls := "ThunderCasks", name := "judge", desc := "(I)I" } : Jvm.MethodName)) ∈ lw_all := lw_g (lw_at lw_m5 143 rfl) rfl
theorem q1204 : (Jvm.Cond.codeWith ({ cls := "ThunderCasks", name := "judge", desc := "(I)I" } : Jvm.MethodName) prog_1_method_96_code (4 : Nat) (Option.some Jvm.ClassFile.FieldType.int) [((0 : Nat), (78 : Nat), (79 : Nat), (49 : Nat))]) ∈ lw_all := lw_g (lw_at lw_m5 144 rfl) rfl
theorem q1206 : (Jvm.Cond.instanceMethod ({ cls := "ThunderCasks", name := "image", desc := "()I" } : Jvm.MethodName)) ∈ lw_all := lw_g (lw_at lw_m5 146 rfl) rfl
theorem q1207 : (Jvm.Cond.selects "ThunderCasks" ({ cls := "ThunderCasks", name := "image", desc := "()I" } : Jvm.MethodName) ({ cls := "ThunderCasks", name := "image", desc := "()I" } : Jvm.MethodName)) ∈ lw_all := lw_g (lw_at lw_m5 147 rfl) rfl
theorem q1208 : (Jvm.Cond.code ({ cls := "ThunderCasks", name := "image", desc := "()I" } : Jvm.MethodName) prog_1_method_97_code (1 : Nat) (Option.some Jvm.ClassFile.FieldType.int)) ∈ lw_all := lw_g (lw_at lw_m5 148 rfl) rfl
theorem q1210 : (Jvm.Cond.instanceMethod ({ cls := "ThunderCasks", name := "undo", desc := "()I" } : Jvm.MethodName)) ∈ lw_all := lw_g (lw_at lw_m5 150 rfl) rfl
theorem q1211 : (Jvm.Cond.selects "ThunderCasks" ({ cls := "ThunderCasks", name := "undo", desc := "()I" } : Jvm.MethodName) ({ cls := "ThunderCasks", name := "undo", desc := "()I" } : Jvm.MethodName)) ∈ lw_all := lw_g (lw_at lw_m5 151 rfl) rfl
theorem q1212 : (Jvm.Cond.code ({ cls := "ThunderCasks", name := "undo", desc := "()I" } : Jvm.MethodName) prog_1_method_98_code (1 : Nat) (Option.some Jvm.ClassFile.FieldType.int)) ∈ lw_all := lw_g (lw_at lw_m5 152 rfl) rfl
theorem q1214 : (Jvm.Cond.instanceMethod ({ cls := "ThunderCasks", name := "tear", desc := "()I" } : Jvm.MethodName)) ∈ lw_all := lw_g (lw_at lw_m5 154 rfl) rfl
theorem q1215 : (Jvm.Cond.selects "ThunderCasks" ({ cls := "ThunderCasks", name := "tear", desc := "()I" } : Jvm.MethodName) ({ cls := "ThunderCasks", name := "tear", desc := "()I" } : Jvm.MethodName)) ∈ lw_all := lw_g (lw_at lw_m5 155 rfl) rfl
theorem q1216 : (Jvm.Cond.code ({ cls := "ThunderCasks", name := "tear", desc := "()I" } : Jvm.MethodName) prog_1_method_99_code (2 : Nat) (Option.some Jvm.ClassFile.FieldType.int)) ∈ lw_all := lw_g (lw_at lw_m5 156 rfl) rfl
theorem q1218 : (Jvm.Cond.instanceMethod ({ cls := "ThunderCasks", name := "count", desc := "(I)I" } : Jvm.MethodName)) ∈ lw_all := lw_g (lw_at lw_m5 158 rfl) rfl
theorem q1219 : (Jvm.Cond.selects "ThunderCasks" ({ cls := "ThunderCasks", name := "count", desc := "(I)I" } : Jvm.MethodName) ({ cls := "ThunderCasks", name := "count", desc := "(I)I" } : Jvm.MethodName)) ∈ lw_all := lw_g (lw_at lw_m5 159 rfl) rfl
theorem q1220 : (Jvm.Cond.code ({ cls := "ThunderCasks", name := "count", desc := "(I)I" } : Jvm.MethodName) prog_1_method_100_code (2 : Nat) (Option.some Jvm.ClassFile.FieldType.int)) ∈ lw_all := lw_g (lw_at lw_m5 160 rfl) rfl
theorem q1221 : (Jvm.Cond.methodLink "ThunderCasks" (403 : Nat) ({ cls := "ThunderCasks", name := "holding", desc := "()I" } : Jvm.MethodName)) ∈ lw_all := lw_g (lw_at lw_m5 161 rfl) rfl
theorem q1222 : (Jvm.Cond.privateMethod ({ cls := "ThunderCasks", name := "holding", desc := "()I" } : Jvm.MethodName)) ∈ lw_tbl := lw_at lw_m5 162 rfl
theorem q1223 : (Jvm.Cond.instanceMethod ({ cls := "ThunderCasks", name := "holding", desc := "()I" } : Jvm.MethodName)) ∈ lw_all := lw_g (lw_at lw_m5 163 rfl) rfl
theorem q1224 : (Jvm.Cond.code ({ cls := "ThunderCasks", name := "holding", desc := "()I" } : Jvm.MethodName) prog_1_method_81_code (6 : Nat) (Option.some Jvm.ClassFile.FieldType.int)) ∈ lw_all := lw_g (lw_at lw_m5 164 rfl) rfl
theorem q1226 : (Jvm.Cond.instanceMethod ({ cls := "ThunderCasks", name := "status", desc := "(I)I" } : Jvm.MethodName)) ∈ lw_all := lw_g (lw_at lw_m5 166 rfl) rfl
theorem q1227 : (Jvm.Cond.selects "ThunderCasks" ({ cls := "ThunderCasks", name := "status", desc := "(I)I" } : Jvm.MethodName) ({ cls := "ThunderCasks", name := "status", desc := "(I)I" } : Jvm.MethodName)) ∈ lw_all := lw_g (lw_at lw_m5 167 rfl) rfl
theorem q1228 : (Jvm.Cond.code ({ cls := "ThunderCasks", name := "status", desc := "(I)I" } : Jvm.MethodName) prog_1_method_101_code (4 : Nat) (Option.some Jvm.ClassFile.FieldType.int)) ∈ lw_all := lw_g (lw_at lw_m5 168 rfl) rfl
theorem in_X0 : ∀ w ∈ wsX00, w ∈ lw_all := lw_in wsX00 [421, 423, 425, 427, 429, 431, 433, 435, 437, 439, 441, 443] (by decide +kernel) (by decide +kernel)
