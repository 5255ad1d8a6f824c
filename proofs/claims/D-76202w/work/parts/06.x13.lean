/-! ThunderCasksModel -/
set_option maxRecDepth 100000
def RX13 : String := "ThunderCasksModel"
def TX13 : u_T := fun k => match k with
  | 0 => ("ThunderCasksModel", "s", "[I", true)
  | 1 => ("ThunderCasksModel", "kept", "[I", true)
  | 2 => ("ThunderCasksModel", "before", "[I", true)
  | 3 => ("ThunderCasksModel", "aside", "[I", true)
  | 4 => ("ThunderCasksModel", "isKept", "Z", false)
  | 5 => ("ThunderCasksModel", "findings", "[I", true)
  | 6 => ("ThunderCasksModel", "tape", "[I", true)
  | 7 => ("ThunderCasksModel", "taped", "I", false)
  | 8 => ("ThunderCasksModel", "bitsOf", "[I", true)
  | 9 => ("ThunderCasksModel", "sizes", "[I", true)
  | 10 => ("ThunderCasksModel", "numbers", "[I", true)
  | 11 => ("ThunderCasksModel", "fitting", "I", false)
  | 12 => ("ThunderCasksModel", "leastFit", "I", false)
  | 13 => ("ThunderCasksModel", "token", "I", false)
  | 14 => ("ThunderCasksModel", "from", "I", false)
  | 15 => ("ThunderCasksModel", "to", "I", false)
  | 16 => ("ThunderCasksModel", "value", "I", false)
  | _ => ("ThunderCasksModel", "faultAt", "I", false)
def tyX13 : Nat → FieldType := fun k => match k with
  | 0 => .array .int
  | 1 => .array .int
  | 2 => .array .int
  | 3 => .array .int
  | 4 => .boolean
  | 5 => .array .int
  | 6 => .array .int
  | 7 => .int
  | 8 => .array .int
  | 9 => .array .int
  | 10 => .array .int
  | 11 => .int
  | 12 => .int
  | 13 => .int
  | 14 => .int
  | 15 => .int
  | 16 => .int
  | _ => .int
abbrev wsX130 : List Cond := u_ws RX13 TX13 18
set_option maxRecDepth 100000 in
theorem nmX13 : ∀ a, a < 18 → ∀ b, b < 18 → a ≠ b → (TX13 a).2.1 ≠ (TX13 b).2.1 := by decide +kernel
set_option maxRecDepth 100000 in
theorem tyX13_ok : ∀ k, k < 18 → parseFieldDescriptor (TX13 k).2.2.1 = some (tyX13 k) := by decide +kernel
abbrev cX13_init : ByteArray := prog_16_method_1_code
def yX13_init : MethodName := ⟨RX13, "<init>", "()V"⟩
def dkwX13_init_6 : List UInt8 := [132, 1, 1, 167, 255, 237, 177]
abbrev dktX13_init_6 : List UInt8 := dkwX13_init_6 ++ []
def dkwX13_init_5 : List UInt8 := [132, 1, 1, 167, 255, 236, 3, 60, 27, 16, 10, 162, 0, 19, 42, 180, 0, 7, 16, 72, 27, 96, 2, 79]
abbrev dktX13_init_5 : List UInt8 := dkwX13_init_5 ++ dktX13_init_6
def dkwX13_init_4 : List UInt8 := [5, 4, 79, 3, 60, 27, 16, 6, 162, 0, 20, 42, 180, 0, 7, 16, 10, 27, 96, 16, 10, 79]
abbrev dktX13_init_4 : List UInt8 := dkwX13_init_4 ++ dktX13_init_5
def dkwX13_init_3 : List UInt8 := [79, 181, 0, 28, 42, 7, 188, 10, 181, 0, 31, 42, 17, 0, 160, 188, 10, 181, 0, 34, 42, 180, 0, 7]
abbrev dktX13_init_3 : List UInt8 := dkwX13_init_3 ++ dktX13_init_4
def dkwX13_init_2 : List UInt8 := [188, 10, 181, 0, 25, 42, 7, 188, 10, 89, 3, 2, 79, 89, 4, 2, 79, 89, 5, 2, 79, 89, 6, 2]
abbrev dktX13_init_2 : List UInt8 := dkwX13_init_2 ++ dktX13_init_3
def dkwX13_init_1 : List UInt8 := [188, 10, 181, 0, 16, 42, 16, 82, 188, 10, 181, 0, 19, 42, 16, 8, 188, 10, 181, 0, 22, 42, 16, 120]
abbrev dktX13_init_1 : List UInt8 := dkwX13_init_1 ++ dktX13_init_2
def dkwX13_init_0 : List UInt8 := [42, 183, 0, 1, 42, 16, 82, 188, 10, 181, 0, 7, 42, 16, 82, 188, 10, 181, 0, 13, 42, 16, 82]
abbrev dktX13_init_0 : List UInt8 := dkwX13_init_0 ++ dktX13_init_1
theorem dksX13_init_0 : cX13_init.data.toList.drop 0 = dktX13_init_0 := by decide +kernel
theorem dksX13_init_1 : cX13_init.data.toList.drop 23 = dktX13_init_1 := dk_seg dksX13_init_0 23 rfl rfl
theorem dksX13_init_2 : cX13_init.data.toList.drop 47 = dktX13_init_2 := dk_seg dksX13_init_1 24 rfl rfl
theorem dksX13_init_3 : cX13_init.data.toList.drop 71 = dktX13_init_3 := dk_seg dksX13_init_2 24 rfl rfl
theorem dksX13_init_4 : cX13_init.data.toList.drop 95 = dktX13_init_4 := dk_seg dksX13_init_3 24 rfl rfl
theorem dksX13_init_5 : cX13_init.data.toList.drop 117 = dktX13_init_5 := dk_seg dksX13_init_4 22 rfl rfl
theorem dksX13_init_6 : cX13_init.data.toList.drop 141 = dktX13_init_6 := dk_seg dksX13_init_5 24 rfl rfl
theorem dX13_init_0 : decode cX13_init 0 = .ok (.aload_n 0, 1) := dk_42 (dk_at dksX13_init_0 0 rfl rfl)
theorem dX13_init_1 : decode cX13_init 1 = .ok (.invokespecial 1, 3) := dk_183 0 1 (dk_at dksX13_init_0 1 rfl rfl)
theorem dX13_init_4 : decode cX13_init 4 = .ok (.aload_n 0, 1) := dk_42 (dk_at dksX13_init_0 4 rfl rfl)
theorem dX13_init_5 : decode cX13_init 5 = .ok (.bipush 82, 2) := dk_16 82 (dk_at dksX13_init_0 5 rfl rfl)
theorem dX13_init_7 : decode cX13_init 7 = .ok (.newarray .int, 2) := dk_188_10 (dk_at dksX13_init_0 7 rfl rfl)
theorem dX13_init_9 : decode cX13_init 9 = .ok (.putfield 7, 3) := dk_181 0 7 (dk_at dksX13_init_0 9 rfl rfl)
theorem dX13_init_12 : decode cX13_init 12 = .ok (.aload_n 0, 1) := dk_42 (dk_at dksX13_init_0 12 rfl rfl)
theorem dX13_init_13 : decode cX13_init 13 = .ok (.bipush 82, 2) := dk_16 82 (dk_at dksX13_init_0 13 rfl rfl)
theorem dX13_init_15 : decode cX13_init 15 = .ok (.newarray .int, 2) := dk_188_10 (dk_at dksX13_init_0 15 rfl rfl)
theorem dX13_init_17 : decode cX13_init 17 = .ok (.putfield 13, 3) := dk_181 0 13 (dk_at dksX13_init_0 17 rfl rfl)
theorem dX13_init_20 : decode cX13_init 20 = .ok (.aload_n 0, 1) := dk_42 (dk_at dksX13_init_0 20 rfl rfl)
theorem dX13_init_21 : decode cX13_init 21 = .ok (.bipush 82, 2) := dk_16 82 (dk_at dksX13_init_0 21 rfl rfl)
theorem dX13_init_23 : decode cX13_init 23 = .ok (.newarray .int, 2) := dk_188_10 (dk_at dksX13_init_1 0 rfl rfl)
theorem dX13_init_25 : decode cX13_init 25 = .ok (.putfield 16, 3) := dk_181 0 16 (dk_at dksX13_init_1 2 rfl rfl)
theorem dX13_init_28 : decode cX13_init 28 = .ok (.aload_n 0, 1) := dk_42 (dk_at dksX13_init_1 5 rfl rfl)
theorem dX13_init_29 : decode cX13_init 29 = .ok (.bipush 82, 2) := dk_16 82 (dk_at dksX13_init_1 6 rfl rfl)
theorem dX13_init_31 : decode cX13_init 31 = .ok (.newarray .int, 2) := dk_188_10 (dk_at dksX13_init_1 8 rfl rfl)
theorem dX13_init_33 : decode cX13_init 33 = .ok (.putfield 19, 3) := dk_181 0 19 (dk_at dksX13_init_1 10 rfl rfl)
theorem dX13_init_36 : decode cX13_init 36 = .ok (.aload_n 0, 1) := dk_42 (dk_at dksX13_init_1 13 rfl rfl)
theorem dX13_init_37 : decode cX13_init 37 = .ok (.bipush 8, 2) := dk_16 8 (dk_at dksX13_init_1 14 rfl rfl)
theorem dX13_init_39 : decode cX13_init 39 = .ok (.newarray .int, 2) := dk_188_10 (dk_at dksX13_init_1 16 rfl rfl)
theorem dX13_init_41 : decode cX13_init 41 = .ok (.putfield 22, 3) := dk_181 0 22 (dk_at dksX13_init_1 18 rfl rfl)
theorem dX13_init_44 : decode cX13_init 44 = .ok (.aload_n 0, 1) := dk_42 (dk_at dksX13_init_1 21 rfl rfl)
theorem dX13_init_45 : decode cX13_init 45 = .ok (.bipush 120, 2) := dk_16 120 (dk_at dksX13_init_1 22 rfl rfl)
theorem dX13_init_47 : decode cX13_init 47 = .ok (.newarray .int, 2) := dk_188_10 (dk_at dksX13_init_2 0 rfl rfl)
theorem dX13_init_49 : decode cX13_init 49 = .ok (.putfield 25, 3) := dk_181 0 25 (dk_at dksX13_init_2 2 rfl rfl)
theorem dX13_init_52 : decode cX13_init 52 = .ok (.aload_n 0, 1) := dk_42 (dk_at dksX13_init_2 5 rfl rfl)
theorem dX13_init_53 : decode cX13_init 53 = .ok (.iconst 4, 1) := dk_7 (dk_at dksX13_init_2 6 rfl rfl)
theorem dX13_init_54 : decode cX13_init 54 = .ok (.newarray .int, 2) := dk_188_10 (dk_at dksX13_init_2 7 rfl rfl)
theorem dX13_init_56 : decode cX13_init 56 = .ok (.dup, 1) := dk_89 (dk_at dksX13_init_2 9 rfl rfl)
theorem dX13_init_57 : decode cX13_init 57 = .ok (.iconst 0, 1) := dk_3 (dk_at dksX13_init_2 10 rfl rfl)
theorem dX13_init_58 : decode cX13_init 58 = .ok (.iconst (-1), 1) := dk_2 (dk_at dksX13_init_2 11 rfl rfl)
theorem dX13_init_59 : decode cX13_init 59 = .ok (.iastore, 1) := dk_79 (dk_at dksX13_init_2 12 rfl rfl)
theorem dX13_init_60 : decode cX13_init 60 = .ok (.dup, 1) := dk_89 (dk_at dksX13_init_2 13 rfl rfl)
theorem dX13_init_61 : decode cX13_init 61 = .ok (.iconst 1, 1) := dk_4 (dk_at dksX13_init_2 14 rfl rfl)
theorem dX13_init_62 : decode cX13_init 62 = .ok (.iconst (-1), 1) := dk_2 (dk_at dksX13_init_2 15 rfl rfl)
theorem dX13_init_63 : decode cX13_init 63 = .ok (.iastore, 1) := dk_79 (dk_at dksX13_init_2 16 rfl rfl)
theorem dX13_init_64 : decode cX13_init 64 = .ok (.dup, 1) := dk_89 (dk_at dksX13_init_2 17 rfl rfl)
theorem dX13_init_65 : decode cX13_init 65 = .ok (.iconst 2, 1) := dk_5 (dk_at dksX13_init_2 18 rfl rfl)
theorem dX13_init_66 : decode cX13_init 66 = .ok (.iconst (-1), 1) := dk_2 (dk_at dksX13_init_2 19 rfl rfl)
theorem dX13_init_67 : decode cX13_init 67 = .ok (.iastore, 1) := dk_79 (dk_at dksX13_init_2 20 rfl rfl)
theorem dX13_init_68 : decode cX13_init 68 = .ok (.dup, 1) := dk_89 (dk_at dksX13_init_2 21 rfl rfl)
theorem dX13_init_69 : decode cX13_init 69 = .ok (.iconst 3, 1) := dk_6 (dk_at dksX13_init_2 22 rfl rfl)
theorem dX13_init_70 : decode cX13_init 70 = .ok (.iconst (-1), 1) := dk_2 (dk_at dksX13_init_2 23 rfl rfl)
theorem dX13_init_71 : decode cX13_init 71 = .ok (.iastore, 1) := dk_79 (dk_at dksX13_init_3 0 rfl rfl)
theorem dX13_init_72 : decode cX13_init 72 = .ok (.putfield 28, 3) := dk_181 0 28 (dk_at dksX13_init_3 1 rfl rfl)
theorem dX13_init_75 : decode cX13_init 75 = .ok (.aload_n 0, 1) := dk_42 (dk_at dksX13_init_3 4 rfl rfl)
theorem dX13_init_76 : decode cX13_init 76 = .ok (.iconst 4, 1) := dk_7 (dk_at dksX13_init_3 5 rfl rfl)
theorem dX13_init_77 : decode cX13_init 77 = .ok (.newarray .int, 2) := dk_188_10 (dk_at dksX13_init_3 6 rfl rfl)
theorem dX13_init_79 : decode cX13_init 79 = .ok (.putfield 31, 3) := dk_181 0 31 (dk_at dksX13_init_3 8 rfl rfl)
theorem dX13_init_82 : decode cX13_init 82 = .ok (.aload_n 0, 1) := dk_42 (dk_at dksX13_init_3 11 rfl rfl)
theorem dX13_init_83 : decode cX13_init 83 = .ok (.sipush 160, 3) := dk_17 0 160 (dk_at dksX13_init_3 12 rfl rfl)
theorem dX13_init_86 : decode cX13_init 86 = .ok (.newarray .int, 2) := dk_188_10 (dk_at dksX13_init_3 15 rfl rfl)
theorem dX13_init_88 : decode cX13_init 88 = .ok (.putfield 34, 3) := dk_181 0 34 (dk_at dksX13_init_3 17 rfl rfl)
theorem dX13_init_91 : decode cX13_init 91 = .ok (.aload_n 0, 1) := dk_42 (dk_at dksX13_init_3 20 rfl rfl)
theorem dX13_init_92 : decode cX13_init 92 = .ok (.getfield 7, 3) := dk_180 0 7 (dk_at dksX13_init_3 21 rfl rfl)
theorem dX13_init_95 : decode cX13_init 95 = .ok (.iconst 2, 1) := dk_5 (dk_at dksX13_init_4 0 rfl rfl)
theorem dX13_init_96 : decode cX13_init 96 = .ok (.iconst 1, 1) := dk_4 (dk_at dksX13_init_4 1 rfl rfl)
theorem dX13_init_97 : decode cX13_init 97 = .ok (.iastore, 1) := dk_79 (dk_at dksX13_init_4 2 rfl rfl)
theorem dX13_init_98 : decode cX13_init 98 = .ok (.iconst 0, 1) := dk_3 (dk_at dksX13_init_4 3 rfl rfl)
theorem dX13_init_99 : decode cX13_init 99 = .ok (.istore_n 1, 1) := dk_60 (dk_at dksX13_init_4 4 rfl rfl)
theorem dX13_init_100 : decode cX13_init 100 = .ok (.iload_n 1, 1) := dk_27 (dk_at dksX13_init_4 5 rfl rfl)
theorem dX13_init_101 : decode cX13_init 101 = .ok (.bipush 6, 2) := dk_16 6 (dk_at dksX13_init_4 6 rfl rfl)
theorem dX13_init_103 : decode cX13_init 103 = .ok (.if_icmp .ge 20, 3) := dk_162 0 20 (dk_at dksX13_init_4 8 rfl rfl)
theorem dX13_init_106 : decode cX13_init 106 = .ok (.aload_n 0, 1) := dk_42 (dk_at dksX13_init_4 11 rfl rfl)
theorem dX13_init_107 : decode cX13_init 107 = .ok (.getfield 7, 3) := dk_180 0 7 (dk_at dksX13_init_4 12 rfl rfl)
theorem dX13_init_110 : decode cX13_init 110 = .ok (.bipush 10, 2) := dk_16 10 (dk_at dksX13_init_4 15 rfl rfl)
theorem dX13_init_112 : decode cX13_init 112 = .ok (.iload_n 1, 1) := dk_27 (dk_at dksX13_init_4 17 rfl rfl)
theorem dX13_init_113 : decode cX13_init 113 = .ok (.iadd, 1) := dk_96 (dk_at dksX13_init_4 18 rfl rfl)
theorem dX13_init_114 : decode cX13_init 114 = .ok (.bipush 10, 2) := dk_16 10 (dk_at dksX13_init_4 19 rfl rfl)
theorem dX13_init_116 : decode cX13_init 116 = .ok (.iastore, 1) := dk_79 (dk_at dksX13_init_4 21 rfl rfl)
theorem dX13_init_117 : decode cX13_init 117 = .ok (.iinc 1 1, 3) := dk_132 1 1 (dk_at dksX13_init_5 0 rfl rfl)
theorem dX13_init_120 : decode cX13_init 120 = .ok (.goto (-20), 3) := dk_167 255 236 (dk_at dksX13_init_5 3 rfl rfl)
theorem dX13_init_123 : decode cX13_init 123 = .ok (.iconst 0, 1) := dk_3 (dk_at dksX13_init_5 6 rfl rfl)
theorem dX13_init_124 : decode cX13_init 124 = .ok (.istore_n 1, 1) := dk_60 (dk_at dksX13_init_5 7 rfl rfl)
theorem dX13_init_125 : decode cX13_init 125 = .ok (.iload_n 1, 1) := dk_27 (dk_at dksX13_init_5 8 rfl rfl)
theorem dX13_init_126 : decode cX13_init 126 = .ok (.bipush 10, 2) := dk_16 10 (dk_at dksX13_init_5 9 rfl rfl)
theorem dX13_init_128 : decode cX13_init 128 = .ok (.if_icmp .ge 19, 3) := dk_162 0 19 (dk_at dksX13_init_5 11 rfl rfl)
theorem dX13_init_131 : decode cX13_init 131 = .ok (.aload_n 0, 1) := dk_42 (dk_at dksX13_init_5 14 rfl rfl)
theorem dX13_init_132 : decode cX13_init 132 = .ok (.getfield 7, 3) := dk_180 0 7 (dk_at dksX13_init_5 15 rfl rfl)
theorem dX13_init_135 : decode cX13_init 135 = .ok (.bipush 72, 2) := dk_16 72 (dk_at dksX13_init_5 18 rfl rfl)
theorem dX13_init_137 : decode cX13_init 137 = .ok (.iload_n 1, 1) := dk_27 (dk_at dksX13_init_5 20 rfl rfl)
theorem dX13_init_138 : decode cX13_init 138 = .ok (.iadd, 1) := dk_96 (dk_at dksX13_init_5 21 rfl rfl)
theorem dX13_init_139 : decode cX13_init 139 = .ok (.iconst (-1), 1) := dk_2 (dk_at dksX13_init_5 22 rfl rfl)
theorem dX13_init_140 : decode cX13_init 140 = .ok (.iastore, 1) := dk_79 (dk_at dksX13_init_5 23 rfl rfl)
theorem dX13_init_141 : decode cX13_init 141 = .ok (.iinc 1 1, 3) := dk_132 1 1 (dk_at dksX13_init_6 0 rfl rfl)
theorem dX13_init_144 : decode cX13_init 144 = .ok (.goto (-19), 3) := dk_167 255 237 (dk_at dksX13_init_6 3 rfl rfl)
theorem dX13_init_147 : decode cX13_init 147 = .ok (.return_, 1) := dk_177 (dk_at dksX13_init_6 6 rfl rfl)
abbrev cX13_frost : ByteArray := prog_16_method_14_code
def yX13_frost : MethodName := ⟨RX13, "frost", "(II)I"⟩
def dkwX13_frost_1 : List UInt8 := [182, 0, 53, 167, 0, 9, 42, 18, 37, 182, 0, 39, 172]
abbrev dktX13_frost_1 : List UInt8 := dkwX13_frost_1 ++ []
def dkwX13_frost_0 : List UInt8 := [27, 184, 0, 43, 153, 0, 26, 28, 133, 9, 20, 0, 47, 184, 0, 49, 153, 0, 14, 42, 7, 27, 96, 28]
abbrev dktX13_frost_0 : List UInt8 := dkwX13_frost_0 ++ dktX13_frost_1
theorem dksX13_frost_0 : cX13_frost.data.toList.drop 0 = dktX13_frost_0 := by decide +kernel
theorem dksX13_frost_1 : cX13_frost.data.toList.drop 24 = dktX13_frost_1 := dk_seg dksX13_frost_0 24 rfl rfl
theorem dX13_frost_0 : decode cX13_frost 0 = .ok (.iload_n 1, 1) := dk_27 (dk_at dksX13_frost_0 0 rfl rfl)
theorem dX13_frost_1 : decode cX13_frost 1 = .ok (.invokestatic 43, 3) := dk_184 0 43 (dk_at dksX13_frost_0 1 rfl rfl)
theorem dX13_frost_4 : decode cX13_frost 4 = .ok (.ifCond .eq 26, 3) := dk_153 0 26 (dk_at dksX13_frost_0 4 rfl rfl)
theorem dX13_frost_7 : decode cX13_frost 7 = .ok (.iload_n 2, 1) := dk_28 (dk_at dksX13_frost_0 7 rfl rfl)
theorem dX13_frost_8 : decode cX13_frost 8 = .ok (.i2l, 1) := dk_133 (dk_at dksX13_frost_0 8 rfl rfl)
theorem dX13_frost_9 : decode cX13_frost 9 = .ok (.lconst 0, 1) := dk_9 (dk_at dksX13_frost_0 9 rfl rfl)
theorem dX13_frost_10 : decode cX13_frost 10 = .ok (.ldc2_w 47, 3) := dk_20 0 47 (dk_at dksX13_frost_0 10 rfl rfl)
theorem dX13_frost_13 : decode cX13_frost 13 = .ok (.invokestatic 49, 3) := dk_184 0 49 (dk_at dksX13_frost_0 13 rfl rfl)
theorem dX13_frost_16 : decode cX13_frost 16 = .ok (.ifCond .eq 14, 3) := dk_153 0 14 (dk_at dksX13_frost_0 16 rfl rfl)
theorem dX13_frost_19 : decode cX13_frost 19 = .ok (.aload_n 0, 1) := dk_42 (dk_at dksX13_frost_0 19 rfl rfl)
theorem dX13_frost_20 : decode cX13_frost 20 = .ok (.iconst 4, 1) := dk_7 (dk_at dksX13_frost_0 20 rfl rfl)
theorem dX13_frost_21 : decode cX13_frost 21 = .ok (.iload_n 1, 1) := dk_27 (dk_at dksX13_frost_0 21 rfl rfl)
theorem dX13_frost_22 : decode cX13_frost 22 = .ok (.iadd, 1) := dk_96 (dk_at dksX13_frost_0 22 rfl rfl)
theorem dX13_frost_23 : decode cX13_frost 23 = .ok (.iload_n 2, 1) := dk_28 (dk_at dksX13_frost_0 23 rfl rfl)
theorem dX13_frost_24 : decode cX13_frost 24 = .ok (.invokevirtual 53, 3) := dk_182 0 53 (dk_at dksX13_frost_1 0 rfl rfl)
theorem dX13_frost_27 : decode cX13_frost 27 = .ok (.goto 9, 3) := dk_167 0 9 (dk_at dksX13_frost_1 3 rfl rfl)
theorem dX13_frost_30 : decode cX13_frost 30 = .ok (.aload_n 0, 1) := dk_42 (dk_at dksX13_frost_1 6 rfl rfl)
theorem dX13_frost_31 : decode cX13_frost 31 = .ok (.ldc 37, 2) := dk_18 37 (dk_at dksX13_frost_1 7 rfl rfl)
theorem dX13_frost_33 : decode cX13_frost 33 = .ok (.invokevirtual 39, 3) := dk_182 0 39 (dk_at dksX13_frost_1 9 rfl rfl)
theorem dX13_frost_36 : decode cX13_frost 36 = .ok (.ireturn, 1) := dk_172 (dk_at dksX13_frost_1 12 rfl rfl)
abbrev cX13_isCellar : ByteArray := prog_16_method_6_code
def yX13_isCellar : MethodName := ⟨RX13, "isCellar", "(I)Z"⟩
def dkwX13_isCellar_0 : List UInt8 := [26, 155, 0, 13, 26, 16, 6, 162, 0, 7, 4, 167, 0, 4, 3, 172]
abbrev dktX13_isCellar_0 : List UInt8 := dkwX13_isCellar_0 ++ []
theorem dksX13_isCellar_0 : cX13_isCellar.data.toList.drop 0 = dktX13_isCellar_0 := by decide +kernel
theorem dX13_isCellar_0 : decode cX13_isCellar 0 = .ok (.iload_n 0, 1) := dk_26 (dk_at dksX13_isCellar_0 0 rfl rfl)
theorem dX13_isCellar_1 : decode cX13_isCellar 1 = .ok (.ifCond .lt 13, 3) := dk_155 0 13 (dk_at dksX13_isCellar_0 1 rfl rfl)
theorem dX13_isCellar_4 : decode cX13_isCellar 4 = .ok (.iload_n 0, 1) := dk_26 (dk_at dksX13_isCellar_0 4 rfl rfl)
theorem dX13_isCellar_5 : decode cX13_isCellar 5 = .ok (.bipush 6, 2) := dk_16 6 (dk_at dksX13_isCellar_0 5 rfl rfl)
theorem dX13_isCellar_7 : decode cX13_isCellar 7 = .ok (.if_icmp .ge 7, 3) := dk_162 0 7 (dk_at dksX13_isCellar_0 7 rfl rfl)
theorem dX13_isCellar_10 : decode cX13_isCellar 10 = .ok (.iconst 1, 1) := dk_4 (dk_at dksX13_isCellar_0 10 rfl rfl)
theorem dX13_isCellar_11 : decode cX13_isCellar 11 = .ok (.goto 4, 3) := dk_167 0 4 (dk_at dksX13_isCellar_0 11 rfl rfl)
theorem dX13_isCellar_14 : decode cX13_isCellar 14 = .ok (.iconst 0, 1) := dk_3 (dk_at dksX13_isCellar_0 14 rfl rfl)
theorem dX13_isCellar_15 : decode cX13_isCellar 15 = .ok (.ireturn, 1) := dk_172 (dk_at dksX13_isCellar_0 15 rfl rfl)
abbrev cX13_isIn : ByteArray := prog_16_method_2_code
def yX13_isIn : MethodName := ⟨RX13, "isIn", "(JJJ)Z"⟩
def dkwX13_isIn_0 : List UInt8 := [30, 32, 148, 155, 0, 14, 30, 22, 4, 148, 157, 0, 7, 4, 167, 0, 4, 3, 172]
abbrev dktX13_isIn_0 : List UInt8 := dkwX13_isIn_0 ++ []
theorem dksX13_isIn_0 : cX13_isIn.data.toList.drop 0 = dktX13_isIn_0 := by decide +kernel
theorem dX13_isIn_0 : decode cX13_isIn 0 = .ok (.lload_n 0, 1) := dk_30 (dk_at dksX13_isIn_0 0 rfl rfl)
theorem dX13_isIn_1 : decode cX13_isIn 1 = .ok (.lload_n 2, 1) := dk_32 (dk_at dksX13_isIn_0 1 rfl rfl)
theorem dX13_isIn_2 : decode cX13_isIn 2 = .ok (.lcmp, 1) := dk_148 (dk_at dksX13_isIn_0 2 rfl rfl)
theorem dX13_isIn_3 : decode cX13_isIn 3 = .ok (.ifCond .lt 14, 3) := dk_155 0 14 (dk_at dksX13_isIn_0 3 rfl rfl)
theorem dX13_isIn_6 : decode cX13_isIn 6 = .ok (.lload_n 0, 1) := dk_30 (dk_at dksX13_isIn_0 6 rfl rfl)
theorem dX13_isIn_7 : decode cX13_isIn 7 = .ok (.lload 4, 2) := dk_22 4 (dk_at dksX13_isIn_0 7 rfl rfl)
theorem dX13_isIn_9 : decode cX13_isIn 9 = .ok (.lcmp, 1) := dk_148 (dk_at dksX13_isIn_0 9 rfl rfl)
theorem dX13_isIn_10 : decode cX13_isIn 10 = .ok (.ifCond .gt 7, 3) := dk_157 0 7 (dk_at dksX13_isIn_0 10 rfl rfl)
theorem dX13_isIn_13 : decode cX13_isIn 13 = .ok (.iconst 1, 1) := dk_4 (dk_at dksX13_isIn_0 13 rfl rfl)
theorem dX13_isIn_14 : decode cX13_isIn 14 = .ok (.goto 4, 3) := dk_167 0 4 (dk_at dksX13_isIn_0 14 rfl rfl)
theorem dX13_isIn_17 : decode cX13_isIn 17 = .ok (.iconst 0, 1) := dk_3 (dk_at dksX13_isIn_0 17 rfl rfl)
theorem dX13_isIn_18 : decode cX13_isIn 18 = .ok (.ireturn, 1) := dk_172 (dk_at dksX13_isIn_0 18 rfl rfl)
abbrev cX13_becomes : ByteArray := prog_16_method_4_code
def yX13_becomes : MethodName := ⟨RX13, "becomes", "(II)I"⟩
def dkwX13_becomes_0 : List UInt8 := [42, 180, 0, 7, 27, 46, 62, 42, 180, 0, 7, 27, 28, 79, 29, 172]
abbrev dktX13_becomes_0 : List UInt8 := dkwX13_becomes_0 ++ []
theorem dksX13_becomes_0 : cX13_becomes.data.toList.drop 0 = dktX13_becomes_0 := by decide +kernel
theorem dX13_becomes_0 : decode cX13_becomes 0 = .ok (.aload_n 0, 1) := dk_42 (dk_at dksX13_becomes_0 0 rfl rfl)
theorem dX13_becomes_1 : decode cX13_becomes 1 = .ok (.getfield 7, 3) := dk_180 0 7 (dk_at dksX13_becomes_0 1 rfl rfl)
theorem dX13_becomes_4 : decode cX13_becomes 4 = .ok (.iload_n 1, 1) := dk_27 (dk_at dksX13_becomes_0 4 rfl rfl)
theorem dX13_becomes_5 : decode cX13_becomes 5 = .ok (.iaload, 1) := dk_46 (dk_at dksX13_becomes_0 5 rfl rfl)
theorem dX13_becomes_6 : decode cX13_becomes 6 = .ok (.istore_n 3, 1) := dk_62 (dk_at dksX13_becomes_0 6 rfl rfl)
theorem dX13_becomes_7 : decode cX13_becomes 7 = .ok (.aload_n 0, 1) := dk_42 (dk_at dksX13_becomes_0 7 rfl rfl)
theorem dX13_becomes_8 : decode cX13_becomes 8 = .ok (.getfield 7, 3) := dk_180 0 7 (dk_at dksX13_becomes_0 8 rfl rfl)
theorem dX13_becomes_11 : decode cX13_becomes 11 = .ok (.iload_n 1, 1) := dk_27 (dk_at dksX13_becomes_0 11 rfl rfl)
theorem dX13_becomes_12 : decode cX13_becomes 12 = .ok (.iload_n 2, 1) := dk_28 (dk_at dksX13_becomes_0 12 rfl rfl)
theorem dX13_becomes_13 : decode cX13_becomes 13 = .ok (.iastore, 1) := dk_79 (dk_at dksX13_becomes_0 13 rfl rfl)
theorem dX13_becomes_14 : decode cX13_becomes 14 = .ok (.iload_n 3, 1) := dk_29 (dk_at dksX13_becomes_0 14 rfl rfl)
theorem dX13_becomes_15 : decode cX13_becomes 15 = .ok (.ireturn, 1) := dk_172 (dk_at dksX13_becomes_0 15 rfl rfl)
abbrev cX13_finds : ByteArray := prog_16_method_3_code
def yX13_finds : MethodName := ⟨RX13, "finds", "(I)I"⟩
def dkwX13_finds_1 : List UInt8 := [79, 27, 172]
abbrev dktX13_finds_1 : List UInt8 := dkwX13_finds_1 ++ []
def dkwX13_finds_0 : List UInt8 := [42, 180, 0, 22, 3, 92, 46, 4, 96, 79, 42, 180, 0, 22, 18, 37, 27, 100, 4, 96, 92, 46, 4, 96]
abbrev dktX13_finds_0 : List UInt8 := dkwX13_finds_0 ++ dktX13_finds_1
theorem dksX13_finds_0 : cX13_finds.data.toList.drop 0 = dktX13_finds_0 := by decide +kernel
theorem dksX13_finds_1 : cX13_finds.data.toList.drop 24 = dktX13_finds_1 := dk_seg dksX13_finds_0 24 rfl rfl
theorem dX13_finds_0 : decode cX13_finds 0 = .ok (.aload_n 0, 1) := dk_42 (dk_at dksX13_finds_0 0 rfl rfl)
theorem dX13_finds_1 : decode cX13_finds 1 = .ok (.getfield 22, 3) := dk_180 0 22 (dk_at dksX13_finds_0 1 rfl rfl)
theorem dX13_finds_4 : decode cX13_finds 4 = .ok (.iconst 0, 1) := dk_3 (dk_at dksX13_finds_0 4 rfl rfl)
theorem dX13_finds_5 : decode cX13_finds 5 = .ok (.dup2, 1) := dk_92 (dk_at dksX13_finds_0 5 rfl rfl)
theorem dX13_finds_6 : decode cX13_finds 6 = .ok (.iaload, 1) := dk_46 (dk_at dksX13_finds_0 6 rfl rfl)
theorem dX13_finds_7 : decode cX13_finds 7 = .ok (.iconst 1, 1) := dk_4 (dk_at dksX13_finds_0 7 rfl rfl)
theorem dX13_finds_8 : decode cX13_finds 8 = .ok (.iadd, 1) := dk_96 (dk_at dksX13_finds_0 8 rfl rfl)
theorem dX13_finds_9 : decode cX13_finds 9 = .ok (.iastore, 1) := dk_79 (dk_at dksX13_finds_0 9 rfl rfl)
theorem dX13_finds_10 : decode cX13_finds 10 = .ok (.aload_n 0, 1) := dk_42 (dk_at dksX13_finds_0 10 rfl rfl)
theorem dX13_finds_11 : decode cX13_finds 11 = .ok (.getfield 22, 3) := dk_180 0 22 (dk_at dksX13_finds_0 11 rfl rfl)
theorem dX13_finds_14 : decode cX13_finds 14 = .ok (.ldc 37, 2) := dk_18 37 (dk_at dksX13_finds_0 14 rfl rfl)
theorem dX13_finds_16 : decode cX13_finds 16 = .ok (.iload_n 1, 1) := dk_27 (dk_at dksX13_finds_0 16 rfl rfl)
theorem dX13_finds_17 : decode cX13_finds 17 = .ok (.isub, 1) := dk_100 (dk_at dksX13_finds_0 17 rfl rfl)
theorem dX13_finds_18 : decode cX13_finds 18 = .ok (.iconst 1, 1) := dk_4 (dk_at dksX13_finds_0 18 rfl rfl)
theorem dX13_finds_19 : decode cX13_finds 19 = .ok (.iadd, 1) := dk_96 (dk_at dksX13_finds_0 19 rfl rfl)
theorem dX13_finds_20 : decode cX13_finds 20 = .ok (.dup2, 1) := dk_92 (dk_at dksX13_finds_0 20 rfl rfl)
theorem dX13_finds_21 : decode cX13_finds 21 = .ok (.iaload, 1) := dk_46 (dk_at dksX13_finds_0 21 rfl rfl)
theorem dX13_finds_22 : decode cX13_finds 22 = .ok (.iconst 1, 1) := dk_4 (dk_at dksX13_finds_0 22 rfl rfl)
theorem dX13_finds_23 : decode cX13_finds 23 = .ok (.iadd, 1) := dk_96 (dk_at dksX13_finds_0 23 rfl rfl)
theorem dX13_finds_24 : decode cX13_finds 24 = .ok (.iastore, 1) := dk_79 (dk_at dksX13_finds_1 0 rfl rfl)
theorem dX13_finds_25 : decode cX13_finds 25 = .ok (.iload_n 1, 1) := dk_27 (dk_at dksX13_finds_1 1 rfl rfl)
theorem dX13_finds_26 : decode cX13_finds 26 = .ok (.ireturn, 1) := dk_172 (dk_at dksX13_finds_1 2 rfl rfl)
abbrev cX13_cellar : ByteArray := prog_16_method_17_code
def yX13_cellar : MethodName := ⟨RX13, "cellar", "(II)I"⟩
def dkwX13_cellar_3 : List UInt8 := [167, 0, 8, 42, 27, 182, 0, 65, 172]
abbrev dktX13_cellar_3 : List UInt8 := dkwX13_cellar_3 ++ []
def dkwX13_cellar_2 : List UInt8 := [42, 180, 0, 7, 16, 10, 27, 96, 46, 167, 0, 21, 28, 5, 160, 0, 11, 42, 27, 182, 0, 62]
abbrev dktX13_cellar_2 : List UInt8 := dkwX13_cellar_2 ++ dktX13_cellar_3
def dkwX13_cellar_1 : List UInt8 := [182, 0, 39, 172, 28, 154, 0, 14, 42, 180, 0, 7, 7, 27, 96, 46, 167, 0, 38, 28, 4, 160, 0, 15]
abbrev dktX13_cellar_1 : List UInt8 := dkwX13_cellar_1 ++ dktX13_cellar_2
def dkwX13_cellar_0 : List UInt8 := [27, 184, 0, 43, 153, 0, 15, 28, 133, 9, 20, 0, 60, 184, 0, 49, 154, 0, 10, 42, 18, 37]
abbrev dktX13_cellar_0 : List UInt8 := dkwX13_cellar_0 ++ dktX13_cellar_1
theorem dksX13_cellar_0 : cX13_cellar.data.toList.drop 0 = dktX13_cellar_0 := by decide +kernel
theorem dksX13_cellar_1 : cX13_cellar.data.toList.drop 22 = dktX13_cellar_1 := dk_seg dksX13_cellar_0 22 rfl rfl
theorem dksX13_cellar_2 : cX13_cellar.data.toList.drop 46 = dktX13_cellar_2 := dk_seg dksX13_cellar_1 24 rfl rfl
theorem dksX13_cellar_3 : cX13_cellar.data.toList.drop 68 = dktX13_cellar_3 := dk_seg dksX13_cellar_2 22 rfl rfl
theorem dX13_cellar_0 : decode cX13_cellar 0 = .ok (.iload_n 1, 1) := dk_27 (dk_at dksX13_cellar_0 0 rfl rfl)
theorem dX13_cellar_1 : decode cX13_cellar 1 = .ok (.invokestatic 43, 3) := dk_184 0 43 (dk_at dksX13_cellar_0 1 rfl rfl)
theorem dX13_cellar_4 : decode cX13_cellar 4 = .ok (.ifCond .eq 15, 3) := dk_153 0 15 (dk_at dksX13_cellar_0 4 rfl rfl)
theorem dX13_cellar_7 : decode cX13_cellar 7 = .ok (.iload_n 2, 1) := dk_28 (dk_at dksX13_cellar_0 7 rfl rfl)
theorem dX13_cellar_8 : decode cX13_cellar 8 = .ok (.i2l, 1) := dk_133 (dk_at dksX13_cellar_0 8 rfl rfl)
theorem dX13_cellar_9 : decode cX13_cellar 9 = .ok (.lconst 0, 1) := dk_9 (dk_at dksX13_cellar_0 9 rfl rfl)
theorem dX13_cellar_10 : decode cX13_cellar 10 = .ok (.ldc2_w 60, 3) := dk_20 0 60 (dk_at dksX13_cellar_0 10 rfl rfl)
theorem dX13_cellar_13 : decode cX13_cellar 13 = .ok (.invokestatic 49, 3) := dk_184 0 49 (dk_at dksX13_cellar_0 13 rfl rfl)
theorem dX13_cellar_16 : decode cX13_cellar 16 = .ok (.ifCond .ne 10, 3) := dk_154 0 10 (dk_at dksX13_cellar_0 16 rfl rfl)
theorem dX13_cellar_19 : decode cX13_cellar 19 = .ok (.aload_n 0, 1) := dk_42 (dk_at dksX13_cellar_0 19 rfl rfl)
theorem dX13_cellar_20 : decode cX13_cellar 20 = .ok (.ldc 37, 2) := dk_18 37 (dk_at dksX13_cellar_0 20 rfl rfl)
theorem dX13_cellar_22 : decode cX13_cellar 22 = .ok (.invokevirtual 39, 3) := dk_182 0 39 (dk_at dksX13_cellar_1 0 rfl rfl)
theorem dX13_cellar_25 : decode cX13_cellar 25 = .ok (.ireturn, 1) := dk_172 (dk_at dksX13_cellar_1 3 rfl rfl)
theorem dX13_cellar_26 : decode cX13_cellar 26 = .ok (.iload_n 2, 1) := dk_28 (dk_at dksX13_cellar_1 4 rfl rfl)
theorem dX13_cellar_27 : decode cX13_cellar 27 = .ok (.ifCond .ne 14, 3) := dk_154 0 14 (dk_at dksX13_cellar_1 5 rfl rfl)
theorem dX13_cellar_30 : decode cX13_cellar 30 = .ok (.aload_n 0, 1) := dk_42 (dk_at dksX13_cellar_1 8 rfl rfl)
theorem dX13_cellar_31 : decode cX13_cellar 31 = .ok (.getfield 7, 3) := dk_180 0 7 (dk_at dksX13_cellar_1 9 rfl rfl)
theorem dX13_cellar_34 : decode cX13_cellar 34 = .ok (.iconst 4, 1) := dk_7 (dk_at dksX13_cellar_1 12 rfl rfl)
theorem dX13_cellar_35 : decode cX13_cellar 35 = .ok (.iload_n 1, 1) := dk_27 (dk_at dksX13_cellar_1 13 rfl rfl)
theorem dX13_cellar_36 : decode cX13_cellar 36 = .ok (.iadd, 1) := dk_96 (dk_at dksX13_cellar_1 14 rfl rfl)
theorem dX13_cellar_37 : decode cX13_cellar 37 = .ok (.iaload, 1) := dk_46 (dk_at dksX13_cellar_1 15 rfl rfl)
theorem dX13_cellar_38 : decode cX13_cellar 38 = .ok (.goto 38, 3) := dk_167 0 38 (dk_at dksX13_cellar_1 16 rfl rfl)
theorem dX13_cellar_41 : decode cX13_cellar 41 = .ok (.iload_n 2, 1) := dk_28 (dk_at dksX13_cellar_1 19 rfl rfl)
theorem dX13_cellar_42 : decode cX13_cellar 42 = .ok (.iconst 1, 1) := dk_4 (dk_at dksX13_cellar_1 20 rfl rfl)
theorem dX13_cellar_43 : decode cX13_cellar 43 = .ok (.if_icmp .ne 15, 3) := dk_160 0 15 (dk_at dksX13_cellar_1 21 rfl rfl)
theorem dX13_cellar_46 : decode cX13_cellar 46 = .ok (.aload_n 0, 1) := dk_42 (dk_at dksX13_cellar_2 0 rfl rfl)
theorem dX13_cellar_47 : decode cX13_cellar 47 = .ok (.getfield 7, 3) := dk_180 0 7 (dk_at dksX13_cellar_2 1 rfl rfl)
theorem dX13_cellar_50 : decode cX13_cellar 50 = .ok (.bipush 10, 2) := dk_16 10 (dk_at dksX13_cellar_2 4 rfl rfl)
theorem dX13_cellar_52 : decode cX13_cellar 52 = .ok (.iload_n 1, 1) := dk_27 (dk_at dksX13_cellar_2 6 rfl rfl)
theorem dX13_cellar_53 : decode cX13_cellar 53 = .ok (.iadd, 1) := dk_96 (dk_at dksX13_cellar_2 7 rfl rfl)
theorem dX13_cellar_54 : decode cX13_cellar 54 = .ok (.iaload, 1) := dk_46 (dk_at dksX13_cellar_2 8 rfl rfl)
theorem dX13_cellar_55 : decode cX13_cellar 55 = .ok (.goto 21, 3) := dk_167 0 21 (dk_at dksX13_cellar_2 9 rfl rfl)
theorem dX13_cellar_58 : decode cX13_cellar 58 = .ok (.iload_n 2, 1) := dk_28 (dk_at dksX13_cellar_2 12 rfl rfl)
theorem dX13_cellar_59 : decode cX13_cellar 59 = .ok (.iconst 2, 1) := dk_5 (dk_at dksX13_cellar_2 13 rfl rfl)
theorem dX13_cellar_60 : decode cX13_cellar 60 = .ok (.if_icmp .ne 11, 3) := dk_160 0 11 (dk_at dksX13_cellar_2 14 rfl rfl)
theorem dX13_cellar_63 : decode cX13_cellar 63 = .ok (.aload_n 0, 1) := dk_42 (dk_at dksX13_cellar_2 17 rfl rfl)
theorem dX13_cellar_64 : decode cX13_cellar 64 = .ok (.iload_n 1, 1) := dk_27 (dk_at dksX13_cellar_2 18 rfl rfl)
theorem dX13_cellar_65 : decode cX13_cellar 65 = .ok (.invokevirtual 62, 3) := dk_182 0 62 (dk_at dksX13_cellar_2 19 rfl rfl)
theorem dX13_cellar_68 : decode cX13_cellar 68 = .ok (.goto 8, 3) := dk_167 0 8 (dk_at dksX13_cellar_3 0 rfl rfl)
theorem dX13_cellar_71 : decode cX13_cellar 71 = .ok (.aload_n 0, 1) := dk_42 (dk_at dksX13_cellar_3 3 rfl rfl)
theorem dX13_cellar_72 : decode cX13_cellar 72 = .ok (.iload_n 1, 1) := dk_27 (dk_at dksX13_cellar_3 4 rfl rfl)
theorem dX13_cellar_73 : decode cX13_cellar 73 = .ok (.invokevirtual 65, 3) := dk_182 0 65 (dk_at dksX13_cellar_3 5 rfl rfl)
theorem dX13_cellar_76 : decode cX13_cellar 76 = .ok (.ireturn, 1) := dk_172 (dk_at dksX13_cellar_3 8 rfl rfl)
abbrev cX13_there : ByteArray := prog_16_method_15_code
def yX13_there : MethodName := ⟨RX13, "there", "(I)I"⟩
def dkwX13_there_1 : List UInt8 := [160, 0, 9, 4, 29, 120, 167, 0, 4, 3, 128, 61, 132, 3, 1, 167, 255, 223, 28, 172]
abbrev dktX13_there_1 : List UInt8 := dkwX13_there_1 ++ []
def dkwX13_there_0 : List UInt8 := [3, 61, 3, 62, 29, 42, 180, 0, 7, 3, 46, 162, 0, 29, 28, 42, 29, 4, 182, 0, 57, 27]
abbrev dktX13_there_0 : List UInt8 := dkwX13_there_0 ++ dktX13_there_1
theorem dksX13_there_0 : cX13_there.data.toList.drop 0 = dktX13_there_0 := by decide +kernel
theorem dksX13_there_1 : cX13_there.data.toList.drop 22 = dktX13_there_1 := dk_seg dksX13_there_0 22 rfl rfl
theorem dX13_there_0 : decode cX13_there 0 = .ok (.iconst 0, 1) := dk_3 (dk_at dksX13_there_0 0 rfl rfl)
theorem dX13_there_1 : decode cX13_there 1 = .ok (.istore_n 2, 1) := dk_61 (dk_at dksX13_there_0 1 rfl rfl)
theorem dX13_there_2 : decode cX13_there 2 = .ok (.iconst 0, 1) := dk_3 (dk_at dksX13_there_0 2 rfl rfl)
theorem dX13_there_3 : decode cX13_there 3 = .ok (.istore_n 3, 1) := dk_62 (dk_at dksX13_there_0 3 rfl rfl)
theorem dX13_there_4 : decode cX13_there 4 = .ok (.iload_n 3, 1) := dk_29 (dk_at dksX13_there_0 4 rfl rfl)
theorem dX13_there_5 : decode cX13_there 5 = .ok (.aload_n 0, 1) := dk_42 (dk_at dksX13_there_0 5 rfl rfl)
theorem dX13_there_6 : decode cX13_there 6 = .ok (.getfield 7, 3) := dk_180 0 7 (dk_at dksX13_there_0 6 rfl rfl)
theorem dX13_there_9 : decode cX13_there 9 = .ok (.iconst 0, 1) := dk_3 (dk_at dksX13_there_0 9 rfl rfl)
theorem dX13_there_10 : decode cX13_there 10 = .ok (.iaload, 1) := dk_46 (dk_at dksX13_there_0 10 rfl rfl)
theorem dX13_there_11 : decode cX13_there 11 = .ok (.if_icmp .ge 29, 3) := dk_162 0 29 (dk_at dksX13_there_0 11 rfl rfl)
theorem dX13_there_14 : decode cX13_there 14 = .ok (.iload_n 2, 1) := dk_28 (dk_at dksX13_there_0 14 rfl rfl)
theorem dX13_there_15 : decode cX13_there 15 = .ok (.aload_n 0, 1) := dk_42 (dk_at dksX13_there_0 15 rfl rfl)
theorem dX13_there_16 : decode cX13_there 16 = .ok (.iload_n 3, 1) := dk_29 (dk_at dksX13_there_0 16 rfl rfl)
theorem dX13_there_17 : decode cX13_there 17 = .ok (.iconst 1, 1) := dk_4 (dk_at dksX13_there_0 17 rfl rfl)
theorem dX13_there_18 : decode cX13_there 18 = .ok (.invokevirtual 57, 3) := dk_182 0 57 (dk_at dksX13_there_0 18 rfl rfl)
theorem dX13_there_21 : decode cX13_there 21 = .ok (.iload_n 1, 1) := dk_27 (dk_at dksX13_there_0 21 rfl rfl)
theorem dX13_there_22 : decode cX13_there 22 = .ok (.if_icmp .ne 9, 3) := dk_160 0 9 (dk_at dksX13_there_1 0 rfl rfl)
theorem dX13_there_25 : decode cX13_there 25 = .ok (.iconst 1, 1) := dk_4 (dk_at dksX13_there_1 3 rfl rfl)
theorem dX13_there_26 : decode cX13_there 26 = .ok (.iload_n 3, 1) := dk_29 (dk_at dksX13_there_1 4 rfl rfl)
theorem dX13_there_27 : decode cX13_there 27 = .ok (.ishl, 1) := dk_120 (dk_at dksX13_there_1 5 rfl rfl)
theorem dX13_there_28 : decode cX13_there 28 = .ok (.goto 4, 3) := dk_167 0 4 (dk_at dksX13_there_1 6 rfl rfl)
theorem dX13_there_31 : decode cX13_there 31 = .ok (.iconst 0, 1) := dk_3 (dk_at dksX13_there_1 9 rfl rfl)
theorem dX13_there_32 : decode cX13_there 32 = .ok (.ior, 1) := dk_128 (dk_at dksX13_there_1 10 rfl rfl)
theorem dX13_there_33 : decode cX13_there 33 = .ok (.istore_n 2, 1) := dk_61 (dk_at dksX13_there_1 11 rfl rfl)
theorem dX13_there_34 : decode cX13_there 34 = .ok (.iinc 3 1, 3) := dk_132 3 1 (dk_at dksX13_there_1 12 rfl rfl)
theorem dX13_there_37 : decode cX13_there 37 = .ok (.goto (-33), 3) := dk_167 255 223 (dk_at dksX13_there_1 15 rfl rfl)
theorem dX13_there_40 : decode cX13_there 40 = .ok (.iload_n 2, 1) := dk_28 (dk_at dksX13_there_1 18 rfl rfl)
theorem dX13_there_41 : decode cX13_there 41 = .ok (.ireturn, 1) := dk_172 (dk_at dksX13_there_1 19 rfl rfl)
abbrev cX13_its : ByteArray := prog_16_method_9_code
def yX13_its : MethodName := ⟨RX13, "its", "(II)I"⟩
def dkwX13_its_0 : List UInt8 := [42, 180, 0, 7, 16, 16, 16, 7, 27, 104, 96, 28, 96, 46, 172]
abbrev dktX13_its_0 : List UInt8 := dkwX13_its_0 ++ []
theorem dksX13_its_0 : cX13_its.data.toList.drop 0 = dktX13_its_0 := by decide +kernel
theorem dX13_its_0 : decode cX13_its 0 = .ok (.aload_n 0, 1) := dk_42 (dk_at dksX13_its_0 0 rfl rfl)
theorem dX13_its_1 : decode cX13_its 1 = .ok (.getfield 7, 3) := dk_180 0 7 (dk_at dksX13_its_0 1 rfl rfl)
theorem dX13_its_4 : decode cX13_its 4 = .ok (.bipush 16, 2) := dk_16 16 (dk_at dksX13_its_0 4 rfl rfl)
theorem dX13_its_6 : decode cX13_its 6 = .ok (.bipush 7, 2) := dk_16 7 (dk_at dksX13_its_0 6 rfl rfl)
theorem dX13_its_8 : decode cX13_its 8 = .ok (.iload_n 1, 1) := dk_27 (dk_at dksX13_its_0 8 rfl rfl)
theorem dX13_its_9 : decode cX13_its 9 = .ok (.imul, 1) := dk_104 (dk_at dksX13_its_0 9 rfl rfl)
theorem dX13_its_10 : decode cX13_its 10 = .ok (.iadd, 1) := dk_96 (dk_at dksX13_its_0 10 rfl rfl)
theorem dX13_its_11 : decode cX13_its 11 = .ok (.iload_n 2, 1) := dk_28 (dk_at dksX13_its_0 11 rfl rfl)
theorem dX13_its_12 : decode cX13_its 12 = .ok (.iadd, 1) := dk_96 (dk_at dksX13_its_0 12 rfl rfl)
theorem dX13_its_13 : decode cX13_its 13 = .ok (.iaload, 1) := dk_46 (dk_at dksX13_its_0 13 rfl rfl)
theorem dX13_its_14 : decode cX13_its 14 = .ok (.ireturn, 1) := dk_172 (dk_at dksX13_its_0 14 rfl rfl)
abbrev cX13_emptiest : ByteArray := prog_16_method_16_code
def yX13_emptiest : MethodName := ⟨RX13, "emptiest", "(I)I"⟩
def dkwX13_emptiest_2 : List UInt8 := [61, 132, 3, 1, 167, 255, 208, 28, 172]
abbrev dktX13_emptiest_2 : List UInt8 := dkwX13_emptiest_2 ++ []
def dkwX13_emptiest_1 : List UInt8 := [28, 155, 0, 18, 42, 29, 5, 182, 0, 57, 42, 28, 5, 182, 0, 57, 162, 0, 7, 29, 167, 0, 4, 28]
abbrev dktX13_emptiest_1 : List UInt8 := dkwX13_emptiest_1 ++ dktX13_emptiest_2
def dkwX13_emptiest_0 : List UInt8 := [2, 61, 3, 62, 29, 42, 180, 0, 7, 3, 46, 162, 0, 44, 42, 29, 4, 182, 0, 57, 27, 160, 0, 26]
abbrev dktX13_emptiest_0 : List UInt8 := dkwX13_emptiest_0 ++ dktX13_emptiest_1
theorem dksX13_emptiest_0 : cX13_emptiest.data.toList.drop 0 = dktX13_emptiest_0 := by decide +kernel
theorem dksX13_emptiest_1 : cX13_emptiest.data.toList.drop 24 = dktX13_emptiest_1 := dk_seg dksX13_emptiest_0 24 rfl rfl
theorem dksX13_emptiest_2 : cX13_emptiest.data.toList.drop 48 = dktX13_emptiest_2 := dk_seg dksX13_emptiest_1 24 rfl rfl
theorem dX13_emptiest_0 : decode cX13_emptiest 0 = .ok (.iconst (-1), 1) := dk_2 (dk_at dksX13_emptiest_0 0 rfl rfl)
theorem dX13_emptiest_1 : decode cX13_emptiest 1 = .ok (.istore_n 2, 1) := dk_61 (dk_at dksX13_emptiest_0 1 rfl rfl)
theorem dX13_emptiest_2 : decode cX13_emptiest 2 = .ok (.iconst 0, 1) := dk_3 (dk_at dksX13_emptiest_0 2 rfl rfl)
theorem dX13_emptiest_3 : decode cX13_emptiest 3 = .ok (.istore_n 3, 1) := dk_62 (dk_at dksX13_emptiest_0 3 rfl rfl)
theorem dX13_emptiest_4 : decode cX13_emptiest 4 = .ok (.iload_n 3, 1) := dk_29 (dk_at dksX13_emptiest_0 4 rfl rfl)
theorem dX13_emptiest_5 : decode cX13_emptiest 5 = .ok (.aload_n 0, 1) := dk_42 (dk_at dksX13_emptiest_0 5 rfl rfl)
theorem dX13_emptiest_6 : decode cX13_emptiest 6 = .ok (.getfield 7, 3) := dk_180 0 7 (dk_at dksX13_emptiest_0 6 rfl rfl)
theorem dX13_emptiest_9 : decode cX13_emptiest 9 = .ok (.iconst 0, 1) := dk_3 (dk_at dksX13_emptiest_0 9 rfl rfl)
theorem dX13_emptiest_10 : decode cX13_emptiest 10 = .ok (.iaload, 1) := dk_46 (dk_at dksX13_emptiest_0 10 rfl rfl)
theorem dX13_emptiest_11 : decode cX13_emptiest 11 = .ok (.if_icmp .ge 44, 3) := dk_162 0 44 (dk_at dksX13_emptiest_0 11 rfl rfl)
theorem dX13_emptiest_14 : decode cX13_emptiest 14 = .ok (.aload_n 0, 1) := dk_42 (dk_at dksX13_emptiest_0 14 rfl rfl)
theorem dX13_emptiest_15 : decode cX13_emptiest 15 = .ok (.iload_n 3, 1) := dk_29 (dk_at dksX13_emptiest_0 15 rfl rfl)
theorem dX13_emptiest_16 : decode cX13_emptiest 16 = .ok (.iconst 1, 1) := dk_4 (dk_at dksX13_emptiest_0 16 rfl rfl)
theorem dX13_emptiest_17 : decode cX13_emptiest 17 = .ok (.invokevirtual 57, 3) := dk_182 0 57 (dk_at dksX13_emptiest_0 17 rfl rfl)
theorem dX13_emptiest_20 : decode cX13_emptiest 20 = .ok (.iload_n 1, 1) := dk_27 (dk_at dksX13_emptiest_0 20 rfl rfl)
theorem dX13_emptiest_21 : decode cX13_emptiest 21 = .ok (.if_icmp .ne 26, 3) := dk_160 0 26 (dk_at dksX13_emptiest_0 21 rfl rfl)
theorem dX13_emptiest_24 : decode cX13_emptiest 24 = .ok (.iload_n 2, 1) := dk_28 (dk_at dksX13_emptiest_1 0 rfl rfl)
theorem dX13_emptiest_25 : decode cX13_emptiest 25 = .ok (.ifCond .lt 18, 3) := dk_155 0 18 (dk_at dksX13_emptiest_1 1 rfl rfl)
theorem dX13_emptiest_28 : decode cX13_emptiest 28 = .ok (.aload_n 0, 1) := dk_42 (dk_at dksX13_emptiest_1 4 rfl rfl)
theorem dX13_emptiest_29 : decode cX13_emptiest 29 = .ok (.iload_n 3, 1) := dk_29 (dk_at dksX13_emptiest_1 5 rfl rfl)
theorem dX13_emptiest_30 : decode cX13_emptiest 30 = .ok (.iconst 2, 1) := dk_5 (dk_at dksX13_emptiest_1 6 rfl rfl)
theorem dX13_emptiest_31 : decode cX13_emptiest 31 = .ok (.invokevirtual 57, 3) := dk_182 0 57 (dk_at dksX13_emptiest_1 7 rfl rfl)
theorem dX13_emptiest_34 : decode cX13_emptiest 34 = .ok (.aload_n 0, 1) := dk_42 (dk_at dksX13_emptiest_1 10 rfl rfl)
theorem dX13_emptiest_35 : decode cX13_emptiest 35 = .ok (.iload_n 2, 1) := dk_28 (dk_at dksX13_emptiest_1 11 rfl rfl)
theorem dX13_emptiest_36 : decode cX13_emptiest 36 = .ok (.iconst 2, 1) := dk_5 (dk_at dksX13_emptiest_1 12 rfl rfl)
theorem dX13_emptiest_37 : decode cX13_emptiest 37 = .ok (.invokevirtual 57, 3) := dk_182 0 57 (dk_at dksX13_emptiest_1 13 rfl rfl)
theorem dX13_emptiest_40 : decode cX13_emptiest 40 = .ok (.if_icmp .ge 7, 3) := dk_162 0 7 (dk_at dksX13_emptiest_1 16 rfl rfl)
theorem dX13_emptiest_43 : decode cX13_emptiest 43 = .ok (.iload_n 3, 1) := dk_29 (dk_at dksX13_emptiest_1 19 rfl rfl)
theorem dX13_emptiest_44 : decode cX13_emptiest 44 = .ok (.goto 4, 3) := dk_167 0 4 (dk_at dksX13_emptiest_1 20 rfl rfl)
theorem dX13_emptiest_47 : decode cX13_emptiest 47 = .ok (.iload_n 2, 1) := dk_28 (dk_at dksX13_emptiest_1 23 rfl rfl)
theorem dX13_emptiest_48 : decode cX13_emptiest 48 = .ok (.istore_n 2, 1) := dk_61 (dk_at dksX13_emptiest_2 0 rfl rfl)
theorem dX13_emptiest_49 : decode cX13_emptiest 49 = .ok (.iinc 3 1, 3) := dk_132 3 1 (dk_at dksX13_emptiest_2 1 rfl rfl)
theorem dX13_emptiest_52 : decode cX13_emptiest 52 = .ok (.goto (-48), 3) := dk_167 255 208 (dk_at dksX13_emptiest_2 4 rfl rfl)
theorem dX13_emptiest_55 : decode cX13_emptiest 55 = .ok (.iload_n 2, 1) := dk_28 (dk_at dksX13_emptiest_2 7 rfl rfl)
theorem dX13_emptiest_56 : decode cX13_emptiest 56 = .ok (.ireturn, 1) := dk_172 (dk_at dksX13_emptiest_2 8 rfl rfl)
abbrev cX13_storm : ByteArray := prog_16_method_18_code
def yX13_storm : MethodName := ⟨RX13, "storm", "(II)I"⟩
def dkwX13_storm_1 : List UInt8 := [28, 182, 0, 53, 167, 0, 9, 42, 18, 37, 182, 0, 39, 172]
abbrev dktX13_storm_1 : List UInt8 := dkwX13_storm_1 ++ []
def dkwX13_storm_0 : List UInt8 := [27, 184, 0, 43, 153, 0, 27, 28, 133, 9, 20, 0, 68, 184, 0, 49, 153, 0, 15, 42, 16, 10, 27, 96]
abbrev dktX13_storm_0 : List UInt8 := dkwX13_storm_0 ++ dktX13_storm_1
theorem dksX13_storm_0 : cX13_storm.data.toList.drop 0 = dktX13_storm_0 := by decide +kernel
theorem dksX13_storm_1 : cX13_storm.data.toList.drop 24 = dktX13_storm_1 := dk_seg dksX13_storm_0 24 rfl rfl
theorem dX13_storm_0 : decode cX13_storm 0 = .ok (.iload_n 1, 1) := dk_27 (dk_at dksX13_storm_0 0 rfl rfl)
theorem dX13_storm_1 : decode cX13_storm 1 = .ok (.invokestatic 43, 3) := dk_184 0 43 (dk_at dksX13_storm_0 1 rfl rfl)
theorem dX13_storm_4 : decode cX13_storm 4 = .ok (.ifCond .eq 27, 3) := dk_153 0 27 (dk_at dksX13_storm_0 4 rfl rfl)
theorem dX13_storm_7 : decode cX13_storm 7 = .ok (.iload_n 2, 1) := dk_28 (dk_at dksX13_storm_0 7 rfl rfl)
theorem dX13_storm_8 : decode cX13_storm 8 = .ok (.i2l, 1) := dk_133 (dk_at dksX13_storm_0 8 rfl rfl)
theorem dX13_storm_9 : decode cX13_storm 9 = .ok (.lconst 0, 1) := dk_9 (dk_at dksX13_storm_0 9 rfl rfl)
theorem dX13_storm_10 : decode cX13_storm 10 = .ok (.ldc2_w 68, 3) := dk_20 0 68 (dk_at dksX13_storm_0 10 rfl rfl)
theorem dX13_storm_13 : decode cX13_storm 13 = .ok (.invokestatic 49, 3) := dk_184 0 49 (dk_at dksX13_storm_0 13 rfl rfl)
theorem dX13_storm_16 : decode cX13_storm 16 = .ok (.ifCond .eq 15, 3) := dk_153 0 15 (dk_at dksX13_storm_0 16 rfl rfl)
theorem dX13_storm_19 : decode cX13_storm 19 = .ok (.aload_n 0, 1) := dk_42 (dk_at dksX13_storm_0 19 rfl rfl)
theorem dX13_storm_20 : decode cX13_storm 20 = .ok (.bipush 10, 2) := dk_16 10 (dk_at dksX13_storm_0 20 rfl rfl)
theorem dX13_storm_22 : decode cX13_storm 22 = .ok (.iload_n 1, 1) := dk_27 (dk_at dksX13_storm_0 22 rfl rfl)
theorem dX13_storm_23 : decode cX13_storm 23 = .ok (.iadd, 1) := dk_96 (dk_at dksX13_storm_0 23 rfl rfl)
theorem dX13_storm_24 : decode cX13_storm 24 = .ok (.iload_n 2, 1) := dk_28 (dk_at dksX13_storm_1 0 rfl rfl)
theorem dX13_storm_25 : decode cX13_storm 25 = .ok (.invokevirtual 53, 3) := dk_182 0 53 (dk_at dksX13_storm_1 1 rfl rfl)
theorem dX13_storm_28 : decode cX13_storm 28 = .ok (.goto 9, 3) := dk_167 0 9 (dk_at dksX13_storm_1 4 rfl rfl)
theorem dX13_storm_31 : decode cX13_storm 31 = .ok (.aload_n 0, 1) := dk_42 (dk_at dksX13_storm_1 7 rfl rfl)
theorem dX13_storm_32 : decode cX13_storm 32 = .ok (.ldc 37, 2) := dk_18 37 (dk_at dksX13_storm_1 8 rfl rfl)
theorem dX13_storm_34 : decode cX13_storm 34 = .ok (.invokevirtual 39, 3) := dk_182 0 39 (dk_at dksX13_storm_1 10 rfl rfl)
theorem dX13_storm_37 : decode cX13_storm 37 = .ok (.ireturn, 1) := dk_172 (dk_at dksX13_storm_1 13 rfl rfl)
abbrev cX13_cask : ByteArray := prog_16_method_20_code
def yX13_cask : MethodName := ⟨RX13, "cask", "(II)I"⟩
def dkwX13_cask_2 : List UInt8 := [28, 182, 0, 76, 42, 180, 0, 7, 3, 46, 4, 100, 172]
abbrev dktX13_cask_2 : List UInt8 := dkwX13_cask_2 ++ []
def dkwX13_cask_1 : List UInt8 := [182, 0, 39, 172, 42, 180, 0, 7, 3, 46, 16, 8, 160, 0, 10, 42, 18, 75, 182, 0, 39, 172, 42, 27]
abbrev dktX13_cask_1 : List UInt8 := dkwX13_cask_1 ++ dktX13_cask_2
def dkwX13_cask_0 : List UInt8 := [27, 133, 9, 20, 0, 73, 184, 0, 49, 153, 0, 10, 28, 184, 0, 43, 154, 0, 10, 42, 18, 37]
abbrev dktX13_cask_0 : List UInt8 := dkwX13_cask_0 ++ dktX13_cask_1
theorem dksX13_cask_0 : cX13_cask.data.toList.drop 0 = dktX13_cask_0 := by decide +kernel
theorem dksX13_cask_1 : cX13_cask.data.toList.drop 22 = dktX13_cask_1 := dk_seg dksX13_cask_0 22 rfl rfl
theorem dksX13_cask_2 : cX13_cask.data.toList.drop 46 = dktX13_cask_2 := dk_seg dksX13_cask_1 24 rfl rfl
theorem dX13_cask_0 : decode cX13_cask 0 = .ok (.iload_n 1, 1) := dk_27 (dk_at dksX13_cask_0 0 rfl rfl)
theorem dX13_cask_1 : decode cX13_cask 1 = .ok (.i2l, 1) := dk_133 (dk_at dksX13_cask_0 1 rfl rfl)
theorem dX13_cask_2 : decode cX13_cask 2 = .ok (.lconst 0, 1) := dk_9 (dk_at dksX13_cask_0 2 rfl rfl)
theorem dX13_cask_3 : decode cX13_cask 3 = .ok (.ldc2_w 73, 3) := dk_20 0 73 (dk_at dksX13_cask_0 3 rfl rfl)
theorem dX13_cask_6 : decode cX13_cask 6 = .ok (.invokestatic 49, 3) := dk_184 0 49 (dk_at dksX13_cask_0 6 rfl rfl)
theorem dX13_cask_9 : decode cX13_cask 9 = .ok (.ifCond .eq 10, 3) := dk_153 0 10 (dk_at dksX13_cask_0 9 rfl rfl)
theorem dX13_cask_12 : decode cX13_cask 12 = .ok (.iload_n 2, 1) := dk_28 (dk_at dksX13_cask_0 12 rfl rfl)
theorem dX13_cask_13 : decode cX13_cask 13 = .ok (.invokestatic 43, 3) := dk_184 0 43 (dk_at dksX13_cask_0 13 rfl rfl)
theorem dX13_cask_16 : decode cX13_cask 16 = .ok (.ifCond .ne 10, 3) := dk_154 0 10 (dk_at dksX13_cask_0 16 rfl rfl)
theorem dX13_cask_19 : decode cX13_cask 19 = .ok (.aload_n 0, 1) := dk_42 (dk_at dksX13_cask_0 19 rfl rfl)
theorem dX13_cask_20 : decode cX13_cask 20 = .ok (.ldc 37, 2) := dk_18 37 (dk_at dksX13_cask_0 20 rfl rfl)
theorem dX13_cask_22 : decode cX13_cask 22 = .ok (.invokevirtual 39, 3) := dk_182 0 39 (dk_at dksX13_cask_1 0 rfl rfl)
theorem dX13_cask_25 : decode cX13_cask 25 = .ok (.ireturn, 1) := dk_172 (dk_at dksX13_cask_1 3 rfl rfl)
theorem dX13_cask_26 : decode cX13_cask 26 = .ok (.aload_n 0, 1) := dk_42 (dk_at dksX13_cask_1 4 rfl rfl)
theorem dX13_cask_27 : decode cX13_cask 27 = .ok (.getfield 7, 3) := dk_180 0 7 (dk_at dksX13_cask_1 5 rfl rfl)
theorem dX13_cask_30 : decode cX13_cask 30 = .ok (.iconst 0, 1) := dk_3 (dk_at dksX13_cask_1 8 rfl rfl)
theorem dX13_cask_31 : decode cX13_cask 31 = .ok (.iaload, 1) := dk_46 (dk_at dksX13_cask_1 9 rfl rfl)
theorem dX13_cask_32 : decode cX13_cask 32 = .ok (.bipush 8, 2) := dk_16 8 (dk_at dksX13_cask_1 10 rfl rfl)
theorem dX13_cask_34 : decode cX13_cask 34 = .ok (.if_icmp .ne 10, 3) := dk_160 0 10 (dk_at dksX13_cask_1 12 rfl rfl)
theorem dX13_cask_37 : decode cX13_cask 37 = .ok (.aload_n 0, 1) := dk_42 (dk_at dksX13_cask_1 15 rfl rfl)
theorem dX13_cask_38 : decode cX13_cask 38 = .ok (.ldc 75, 2) := dk_18 75 (dk_at dksX13_cask_1 16 rfl rfl)
theorem dX13_cask_40 : decode cX13_cask 40 = .ok (.invokevirtual 39, 3) := dk_182 0 39 (dk_at dksX13_cask_1 18 rfl rfl)
theorem dX13_cask_43 : decode cX13_cask 43 = .ok (.ireturn, 1) := dk_172 (dk_at dksX13_cask_1 21 rfl rfl)
theorem dX13_cask_44 : decode cX13_cask 44 = .ok (.aload_n 0, 1) := dk_42 (dk_at dksX13_cask_1 22 rfl rfl)
theorem dX13_cask_45 : decode cX13_cask 45 = .ok (.iload_n 1, 1) := dk_27 (dk_at dksX13_cask_1 23 rfl rfl)
theorem dX13_cask_46 : decode cX13_cask 46 = .ok (.iload_n 2, 1) := dk_28 (dk_at dksX13_cask_2 0 rfl rfl)
theorem dX13_cask_47 : decode cX13_cask 47 = .ok (.invokevirtual 76, 3) := dk_182 0 76 (dk_at dksX13_cask_2 1 rfl rfl)
theorem dX13_cask_50 : decode cX13_cask 50 = .ok (.aload_n 0, 1) := dk_42 (dk_at dksX13_cask_2 4 rfl rfl)
theorem dX13_cask_51 : decode cX13_cask 51 = .ok (.getfield 7, 3) := dk_180 0 7 (dk_at dksX13_cask_2 5 rfl rfl)
theorem dX13_cask_54 : decode cX13_cask 54 = .ok (.iconst 0, 1) := dk_3 (dk_at dksX13_cask_2 8 rfl rfl)
theorem dX13_cask_55 : decode cX13_cask 55 = .ok (.iaload, 1) := dk_46 (dk_at dksX13_cask_2 9 rfl rfl)
theorem dX13_cask_56 : decode cX13_cask 56 = .ok (.iconst 1, 1) := dk_4 (dk_at dksX13_cask_2 10 rfl rfl)
theorem dX13_cask_57 : decode cX13_cask 57 = .ok (.isub, 1) := dk_100 (dk_at dksX13_cask_2 11 rfl rfl)
theorem dX13_cask_58 : decode cX13_cask 58 = .ok (.ireturn, 1) := dk_172 (dk_at dksX13_cask_2 12 rfl rfl)
abbrev cX13_comes : ByteArray := prog_16_method_19_code
def yX13_comes : MethodName := ⟨RX13, "comes", "(II)V"⟩
def dkwX13_comes_4 : List UInt8 := [4, 96, 79, 177]
abbrev dktX13_comes_4 : List UInt8 := dkwX13_comes_4 ++ []
def dkwX13_comes_3 : List UInt8 := [184, 0, 70, 3, 79, 42, 180, 0, 7, 29, 16, 6, 184, 0, 70, 3, 79, 42, 180, 0, 7, 3, 92, 46]
abbrev dktX13_comes_3 : List UInt8 := dkwX13_comes_3 ++ dktX13_comes_4
def dkwX13_comes_2 : List UInt8 := [184, 0, 70, 3, 79, 42, 180, 0, 7, 29, 7, 184, 0, 70, 16, 100, 79, 42, 180, 0, 7, 29, 8]
abbrev dktX13_comes_2 : List UInt8 := dkwX13_comes_2 ++ dktX13_comes_3
def dkwX13_comes_1 : List UInt8 := [184, 0, 70, 28, 79, 42, 180, 0, 7, 29, 5, 184, 0, 70, 3, 79, 42, 180, 0, 7, 29, 6]
abbrev dktX13_comes_1 : List UInt8 := dkwX13_comes_1 ++ dktX13_comes_2
def dkwX13_comes_0 : List UInt8 := [42, 180, 0, 7, 3, 46, 62, 42, 180, 0, 7, 29, 3, 184, 0, 70, 27, 79, 42, 180, 0, 7, 29, 4]
abbrev dktX13_comes_0 : List UInt8 := dkwX13_comes_0 ++ dktX13_comes_1
theorem dksX13_comes_0 : cX13_comes.data.toList.drop 0 = dktX13_comes_0 := by decide +kernel
theorem dksX13_comes_1 : cX13_comes.data.toList.drop 24 = dktX13_comes_1 := dk_seg dksX13_comes_0 24 rfl rfl
theorem dksX13_comes_2 : cX13_comes.data.toList.drop 46 = dktX13_comes_2 := dk_seg dksX13_comes_1 22 rfl rfl
theorem dksX13_comes_3 : cX13_comes.data.toList.drop 69 = dktX13_comes_3 := dk_seg dksX13_comes_2 23 rfl rfl
theorem dksX13_comes_4 : cX13_comes.data.toList.drop 93 = dktX13_comes_4 := dk_seg dksX13_comes_3 24 rfl rfl
theorem dX13_comes_0 : decode cX13_comes 0 = .ok (.aload_n 0, 1) := dk_42 (dk_at dksX13_comes_0 0 rfl rfl)
theorem dX13_comes_1 : decode cX13_comes 1 = .ok (.getfield 7, 3) := dk_180 0 7 (dk_at dksX13_comes_0 1 rfl rfl)
theorem dX13_comes_4 : decode cX13_comes 4 = .ok (.iconst 0, 1) := dk_3 (dk_at dksX13_comes_0 4 rfl rfl)
theorem dX13_comes_5 : decode cX13_comes 5 = .ok (.iaload, 1) := dk_46 (dk_at dksX13_comes_0 5 rfl rfl)
theorem dX13_comes_6 : decode cX13_comes 6 = .ok (.istore_n 3, 1) := dk_62 (dk_at dksX13_comes_0 6 rfl rfl)
theorem dX13_comes_7 : decode cX13_comes 7 = .ok (.aload_n 0, 1) := dk_42 (dk_at dksX13_comes_0 7 rfl rfl)
theorem dX13_comes_8 : decode cX13_comes 8 = .ok (.getfield 7, 3) := dk_180 0 7 (dk_at dksX13_comes_0 8 rfl rfl)
theorem dX13_comes_11 : decode cX13_comes 11 = .ok (.iload_n 3, 1) := dk_29 (dk_at dksX13_comes_0 11 rfl rfl)
theorem dX13_comes_12 : decode cX13_comes 12 = .ok (.iconst 0, 1) := dk_3 (dk_at dksX13_comes_0 12 rfl rfl)
theorem dX13_comes_13 : decode cX13_comes 13 = .ok (.invokestatic 70, 3) := dk_184 0 70 (dk_at dksX13_comes_0 13 rfl rfl)
theorem dX13_comes_16 : decode cX13_comes 16 = .ok (.iload_n 1, 1) := dk_27 (dk_at dksX13_comes_0 16 rfl rfl)
theorem dX13_comes_17 : decode cX13_comes 17 = .ok (.iastore, 1) := dk_79 (dk_at dksX13_comes_0 17 rfl rfl)
theorem dX13_comes_18 : decode cX13_comes 18 = .ok (.aload_n 0, 1) := dk_42 (dk_at dksX13_comes_0 18 rfl rfl)
theorem dX13_comes_19 : decode cX13_comes 19 = .ok (.getfield 7, 3) := dk_180 0 7 (dk_at dksX13_comes_0 19 rfl rfl)
theorem dX13_comes_22 : decode cX13_comes 22 = .ok (.iload_n 3, 1) := dk_29 (dk_at dksX13_comes_0 22 rfl rfl)
theorem dX13_comes_23 : decode cX13_comes 23 = .ok (.iconst 1, 1) := dk_4 (dk_at dksX13_comes_0 23 rfl rfl)
theorem dX13_comes_24 : decode cX13_comes 24 = .ok (.invokestatic 70, 3) := dk_184 0 70 (dk_at dksX13_comes_1 0 rfl rfl)
theorem dX13_comes_27 : decode cX13_comes 27 = .ok (.iload_n 2, 1) := dk_28 (dk_at dksX13_comes_1 3 rfl rfl)
theorem dX13_comes_28 : decode cX13_comes 28 = .ok (.iastore, 1) := dk_79 (dk_at dksX13_comes_1 4 rfl rfl)
theorem dX13_comes_29 : decode cX13_comes 29 = .ok (.aload_n 0, 1) := dk_42 (dk_at dksX13_comes_1 5 rfl rfl)
theorem dX13_comes_30 : decode cX13_comes 30 = .ok (.getfield 7, 3) := dk_180 0 7 (dk_at dksX13_comes_1 6 rfl rfl)
theorem dX13_comes_33 : decode cX13_comes 33 = .ok (.iload_n 3, 1) := dk_29 (dk_at dksX13_comes_1 9 rfl rfl)
theorem dX13_comes_34 : decode cX13_comes 34 = .ok (.iconst 2, 1) := dk_5 (dk_at dksX13_comes_1 10 rfl rfl)
theorem dX13_comes_35 : decode cX13_comes 35 = .ok (.invokestatic 70, 3) := dk_184 0 70 (dk_at dksX13_comes_1 11 rfl rfl)
theorem dX13_comes_38 : decode cX13_comes 38 = .ok (.iconst 0, 1) := dk_3 (dk_at dksX13_comes_1 14 rfl rfl)
theorem dX13_comes_39 : decode cX13_comes 39 = .ok (.iastore, 1) := dk_79 (dk_at dksX13_comes_1 15 rfl rfl)
theorem dX13_comes_40 : decode cX13_comes 40 = .ok (.aload_n 0, 1) := dk_42 (dk_at dksX13_comes_1 16 rfl rfl)
theorem dX13_comes_41 : decode cX13_comes 41 = .ok (.getfield 7, 3) := dk_180 0 7 (dk_at dksX13_comes_1 17 rfl rfl)
theorem dX13_comes_44 : decode cX13_comes 44 = .ok (.iload_n 3, 1) := dk_29 (dk_at dksX13_comes_1 20 rfl rfl)
theorem dX13_comes_45 : decode cX13_comes 45 = .ok (.iconst 3, 1) := dk_6 (dk_at dksX13_comes_1 21 rfl rfl)
theorem dX13_comes_46 : decode cX13_comes 46 = .ok (.invokestatic 70, 3) := dk_184 0 70 (dk_at dksX13_comes_2 0 rfl rfl)
theorem dX13_comes_49 : decode cX13_comes 49 = .ok (.iconst 0, 1) := dk_3 (dk_at dksX13_comes_2 3 rfl rfl)
theorem dX13_comes_50 : decode cX13_comes 50 = .ok (.iastore, 1) := dk_79 (dk_at dksX13_comes_2 4 rfl rfl)
theorem dX13_comes_51 : decode cX13_comes 51 = .ok (.aload_n 0, 1) := dk_42 (dk_at dksX13_comes_2 5 rfl rfl)
theorem dX13_comes_52 : decode cX13_comes 52 = .ok (.getfield 7, 3) := dk_180 0 7 (dk_at dksX13_comes_2 6 rfl rfl)
theorem dX13_comes_55 : decode cX13_comes 55 = .ok (.iload_n 3, 1) := dk_29 (dk_at dksX13_comes_2 9 rfl rfl)
theorem dX13_comes_56 : decode cX13_comes 56 = .ok (.iconst 4, 1) := dk_7 (dk_at dksX13_comes_2 10 rfl rfl)
theorem dX13_comes_57 : decode cX13_comes 57 = .ok (.invokestatic 70, 3) := dk_184 0 70 (dk_at dksX13_comes_2 11 rfl rfl)
theorem dX13_comes_60 : decode cX13_comes 60 = .ok (.bipush 100, 2) := dk_16 100 (dk_at dksX13_comes_2 14 rfl rfl)
theorem dX13_comes_62 : decode cX13_comes 62 = .ok (.iastore, 1) := dk_79 (dk_at dksX13_comes_2 16 rfl rfl)
theorem dX13_comes_63 : decode cX13_comes 63 = .ok (.aload_n 0, 1) := dk_42 (dk_at dksX13_comes_2 17 rfl rfl)
theorem dX13_comes_64 : decode cX13_comes 64 = .ok (.getfield 7, 3) := dk_180 0 7 (dk_at dksX13_comes_2 18 rfl rfl)
theorem dX13_comes_67 : decode cX13_comes 67 = .ok (.iload_n 3, 1) := dk_29 (dk_at dksX13_comes_2 21 rfl rfl)
theorem dX13_comes_68 : decode cX13_comes 68 = .ok (.iconst 5, 1) := dk_8 (dk_at dksX13_comes_2 22 rfl rfl)
theorem dX13_comes_69 : decode cX13_comes 69 = .ok (.invokestatic 70, 3) := dk_184 0 70 (dk_at dksX13_comes_3 0 rfl rfl)
theorem dX13_comes_72 : decode cX13_comes 72 = .ok (.iconst 0, 1) := dk_3 (dk_at dksX13_comes_3 3 rfl rfl)
theorem dX13_comes_73 : decode cX13_comes 73 = .ok (.iastore, 1) := dk_79 (dk_at dksX13_comes_3 4 rfl rfl)
theorem dX13_comes_74 : decode cX13_comes 74 = .ok (.aload_n 0, 1) := dk_42 (dk_at dksX13_comes_3 5 rfl rfl)
theorem dX13_comes_75 : decode cX13_comes 75 = .ok (.getfield 7, 3) := dk_180 0 7 (dk_at dksX13_comes_3 6 rfl rfl)
theorem dX13_comes_78 : decode cX13_comes 78 = .ok (.iload_n 3, 1) := dk_29 (dk_at dksX13_comes_3 9 rfl rfl)
theorem dX13_comes_79 : decode cX13_comes 79 = .ok (.bipush 6, 2) := dk_16 6 (dk_at dksX13_comes_3 10 rfl rfl)
theorem dX13_comes_81 : decode cX13_comes 81 = .ok (.invokestatic 70, 3) := dk_184 0 70 (dk_at dksX13_comes_3 12 rfl rfl)
theorem dX13_comes_84 : decode cX13_comes 84 = .ok (.iconst 0, 1) := dk_3 (dk_at dksX13_comes_3 15 rfl rfl)
theorem dX13_comes_85 : decode cX13_comes 85 = .ok (.iastore, 1) := dk_79 (dk_at dksX13_comes_3 16 rfl rfl)
theorem dX13_comes_86 : decode cX13_comes 86 = .ok (.aload_n 0, 1) := dk_42 (dk_at dksX13_comes_3 17 rfl rfl)
theorem dX13_comes_87 : decode cX13_comes 87 = .ok (.getfield 7, 3) := dk_180 0 7 (dk_at dksX13_comes_3 18 rfl rfl)
theorem dX13_comes_90 : decode cX13_comes 90 = .ok (.iconst 0, 1) := dk_3 (dk_at dksX13_comes_3 21 rfl rfl)
theorem dX13_comes_91 : decode cX13_comes 91 = .ok (.dup2, 1) := dk_92 (dk_at dksX13_comes_3 22 rfl rfl)
theorem dX13_comes_92 : decode cX13_comes 92 = .ok (.iaload, 1) := dk_46 (dk_at dksX13_comes_3 23 rfl rfl)
theorem dX13_comes_93 : decode cX13_comes 93 = .ok (.iconst 1, 1) := dk_4 (dk_at dksX13_comes_4 0 rfl rfl)
theorem dX13_comes_94 : decode cX13_comes 94 = .ok (.iadd, 1) := dk_96 (dk_at dksX13_comes_4 1 rfl rfl)
theorem dX13_comes_95 : decode cX13_comes 95 = .ok (.iastore, 1) := dk_79 (dk_at dksX13_comes_4 2 rfl rfl)
theorem dX13_comes_96 : decode cX13_comes 96 = .ok (.return_, 1) := dk_177 (dk_at dksX13_comes_4 3 rfl rfl)
abbrev cX13_at : ByteArray := prog_16_method_8_code
def yX13_at : MethodName := ⟨RX13, "at", "(II)I"⟩
def dkwX13_at_0 : List UInt8 := [16, 16, 16, 7, 26, 104, 96, 27, 96, 172]
abbrev dktX13_at_0 : List UInt8 := dkwX13_at_0 ++ []
theorem dksX13_at_0 : cX13_at.data.toList.drop 0 = dktX13_at_0 := by decide +kernel
theorem dX13_at_0 : decode cX13_at 0 = .ok (.bipush 16, 2) := dk_16 16 (dk_at dksX13_at_0 0 rfl rfl)
theorem dX13_at_2 : decode cX13_at 2 = .ok (.bipush 7, 2) := dk_16 7 (dk_at dksX13_at_0 2 rfl rfl)
theorem dX13_at_4 : decode cX13_at 4 = .ok (.iload_n 0, 1) := dk_26 (dk_at dksX13_at_0 4 rfl rfl)
theorem dX13_at_5 : decode cX13_at 5 = .ok (.imul, 1) := dk_104 (dk_at dksX13_at_0 5 rfl rfl)
theorem dX13_at_6 : decode cX13_at 6 = .ok (.iadd, 1) := dk_96 (dk_at dksX13_at_0 6 rfl rfl)
theorem dX13_at_7 : decode cX13_at 7 = .ok (.iload_n 1, 1) := dk_27 (dk_at dksX13_at_0 7 rfl rfl)
theorem dX13_at_8 : decode cX13_at 8 = .ok (.iadd, 1) := dk_96 (dk_at dksX13_at_0 8 rfl rfl)
theorem dX13_at_9 : decode cX13_at 9 = .ok (.ireturn, 1) := dk_172 (dk_at dksX13_at_0 9 rfl rfl)
abbrev cX13_of : ByteArray := prog_16_method_24_code
def yX13_of : MethodName := ⟨RX13, "of", "(II)I"⟩
def dkwX13_of_4 : List UInt8 := [172]
abbrev dktX13_of_4 : List UInt8 := dkwX13_of_4 ++ []
def dkwX13_of_3 : List UInt8 := [42, 27, 182, 0, 89, 172, 42, 27, 182, 0, 92, 172, 42, 27, 182, 0, 95, 172, 42, 27, 28, 182, 0, 57]
abbrev dktX13_of_3 : List UInt8 := dkwX13_of_3 ++ dktX13_of_4
def dkwX13_of_2 : List UInt8 := [170, 0, 0, 0, 0, 0, 0, 46, 0, 0, 0, 7, 0, 0, 0, 9, 0, 0, 0, 28, 0, 0, 0, 34, 0, 0, 0, 40]
abbrev dktX13_of_2 : List UInt8 := dkwX13_of_2 ++ dktX13_of_3
def dkwX13_of_1 : List UInt8 := [182, 0, 39, 172, 28]
abbrev dktX13_of_1 : List UInt8 := dkwX13_of_1 ++ dktX13_of_2
def dkwX13_of_0 : List UInt8 := [42, 27, 182, 0, 86, 153, 0, 15, 28, 133, 9, 20, 0, 47, 184, 0, 49, 154, 0, 10, 42, 18, 37]
abbrev dktX13_of_0 : List UInt8 := dkwX13_of_0 ++ dktX13_of_1
theorem dksX13_of_0 : cX13_of.data.toList.drop 0 = dktX13_of_0 := by decide +kernel
theorem dksX13_of_1 : cX13_of.data.toList.drop 23 = dktX13_of_1 := dk_seg dksX13_of_0 23 rfl rfl
theorem dksX13_of_2 : cX13_of.data.toList.drop 28 = dktX13_of_2 := dk_seg dksX13_of_1 5 rfl rfl
theorem dksX13_of_3 : cX13_of.data.toList.drop 56 = dktX13_of_3 := dk_seg dksX13_of_2 28 rfl rfl
theorem dksX13_of_4 : cX13_of.data.toList.drop 80 = dktX13_of_4 := dk_seg dksX13_of_3 24 rfl rfl
theorem dX13_of_0 : decode cX13_of 0 = .ok (.aload_n 0, 1) := dk_42 (dk_at dksX13_of_0 0 rfl rfl)
theorem dX13_of_1 : decode cX13_of 1 = .ok (.iload_n 1, 1) := dk_27 (dk_at dksX13_of_0 1 rfl rfl)
theorem dX13_of_2 : decode cX13_of 2 = .ok (.invokevirtual 86, 3) := dk_182 0 86 (dk_at dksX13_of_0 2 rfl rfl)
theorem dX13_of_5 : decode cX13_of 5 = .ok (.ifCond .eq 15, 3) := dk_153 0 15 (dk_at dksX13_of_0 5 rfl rfl)
theorem dX13_of_8 : decode cX13_of 8 = .ok (.iload_n 2, 1) := dk_28 (dk_at dksX13_of_0 8 rfl rfl)
theorem dX13_of_9 : decode cX13_of 9 = .ok (.i2l, 1) := dk_133 (dk_at dksX13_of_0 9 rfl rfl)
theorem dX13_of_10 : decode cX13_of 10 = .ok (.lconst 0, 1) := dk_9 (dk_at dksX13_of_0 10 rfl rfl)
theorem dX13_of_11 : decode cX13_of 11 = .ok (.ldc2_w 47, 3) := dk_20 0 47 (dk_at dksX13_of_0 11 rfl rfl)
theorem dX13_of_14 : decode cX13_of 14 = .ok (.invokestatic 49, 3) := dk_184 0 49 (dk_at dksX13_of_0 14 rfl rfl)
theorem dX13_of_17 : decode cX13_of 17 = .ok (.ifCond .ne 10, 3) := dk_154 0 10 (dk_at dksX13_of_0 17 rfl rfl)
theorem dX13_of_20 : decode cX13_of 20 = .ok (.aload_n 0, 1) := dk_42 (dk_at dksX13_of_0 20 rfl rfl)
theorem dX13_of_21 : decode cX13_of 21 = .ok (.ldc 37, 2) := dk_18 37 (dk_at dksX13_of_0 21 rfl rfl)
theorem dX13_of_23 : decode cX13_of 23 = .ok (.invokevirtual 39, 3) := dk_182 0 39 (dk_at dksX13_of_1 0 rfl rfl)
theorem dX13_of_26 : decode cX13_of 26 = .ok (.ireturn, 1) := dk_172 (dk_at dksX13_of_1 3 rfl rfl)
theorem dX13_of_27 : decode cX13_of 27 = .ok (.iload_n 2, 1) := dk_28 (dk_at dksX13_of_1 4 rfl rfl)
theorem dX13_of_28 : decode cX13_of 28 = .ok (.tableswitch 46 7 9 #[28, 34, 40], 28) := by decide +kernel
theorem dX13_of_56 : decode cX13_of 56 = .ok (.aload_n 0, 1) := dk_42 (dk_at dksX13_of_3 0 rfl rfl)
theorem dX13_of_57 : decode cX13_of 57 = .ok (.iload_n 1, 1) := dk_27 (dk_at dksX13_of_3 1 rfl rfl)
theorem dX13_of_58 : decode cX13_of 58 = .ok (.invokevirtual 89, 3) := dk_182 0 89 (dk_at dksX13_of_3 2 rfl rfl)
theorem dX13_of_61 : decode cX13_of 61 = .ok (.ireturn, 1) := dk_172 (dk_at dksX13_of_3 5 rfl rfl)
theorem dX13_of_62 : decode cX13_of 62 = .ok (.aload_n 0, 1) := dk_42 (dk_at dksX13_of_3 6 rfl rfl)
theorem dX13_of_63 : decode cX13_of 63 = .ok (.iload_n 1, 1) := dk_27 (dk_at dksX13_of_3 7 rfl rfl)
theorem dX13_of_64 : decode cX13_of 64 = .ok (.invokevirtual 92, 3) := dk_182 0 92 (dk_at dksX13_of_3 8 rfl rfl)
theorem dX13_of_67 : decode cX13_of 67 = .ok (.ireturn, 1) := dk_172 (dk_at dksX13_of_3 11 rfl rfl)
theorem dX13_of_68 : decode cX13_of 68 = .ok (.aload_n 0, 1) := dk_42 (dk_at dksX13_of_3 12 rfl rfl)
theorem dX13_of_69 : decode cX13_of 69 = .ok (.iload_n 1, 1) := dk_27 (dk_at dksX13_of_3 13 rfl rfl)
theorem dX13_of_70 : decode cX13_of 70 = .ok (.invokevirtual 95, 3) := dk_182 0 95 (dk_at dksX13_of_3 14 rfl rfl)
theorem dX13_of_73 : decode cX13_of 73 = .ok (.ireturn, 1) := dk_172 (dk_at dksX13_of_3 17 rfl rfl)
theorem dX13_of_74 : decode cX13_of 74 = .ok (.aload_n 0, 1) := dk_42 (dk_at dksX13_of_3 18 rfl rfl)
theorem dX13_of_75 : decode cX13_of 75 = .ok (.iload_n 1, 1) := dk_27 (dk_at dksX13_of_3 19 rfl rfl)
theorem dX13_of_76 : decode cX13_of 76 = .ok (.iload_n 2, 1) := dk_28 (dk_at dksX13_of_3 20 rfl rfl)
theorem dX13_of_77 : decode cX13_of 77 = .ok (.invokevirtual 57, 3) := dk_182 0 57 (dk_at dksX13_of_3 21 rfl rfl)
theorem dX13_of_80 : decode cX13_of 80 = .ok (.ireturn, 1) := dk_172 (dk_at dksX13_of_4 0 rfl rfl)
abbrev cX13_isCask : ByteArray := prog_16_method_7_code
def yX13_isCask : MethodName := ⟨RX13, "isCask", "(I)Z"⟩
def dkwX13_isCask_0 : List UInt8 := [27, 155, 0, 17, 27, 42, 180, 0, 7, 3, 46, 162, 0, 7, 4, 167, 0, 4, 3, 172]
abbrev dktX13_isCask_0 : List UInt8 := dkwX13_isCask_0 ++ []
theorem dksX13_isCask_0 : cX13_isCask.data.toList.drop 0 = dktX13_isCask_0 := by decide +kernel
theorem dX13_isCask_0 : decode cX13_isCask 0 = .ok (.iload_n 1, 1) := dk_27 (dk_at dksX13_isCask_0 0 rfl rfl)
theorem dX13_isCask_1 : decode cX13_isCask 1 = .ok (.ifCond .lt 17, 3) := dk_155 0 17 (dk_at dksX13_isCask_0 1 rfl rfl)
theorem dX13_isCask_4 : decode cX13_isCask 4 = .ok (.iload_n 1, 1) := dk_27 (dk_at dksX13_isCask_0 4 rfl rfl)
theorem dX13_isCask_5 : decode cX13_isCask 5 = .ok (.aload_n 0, 1) := dk_42 (dk_at dksX13_isCask_0 5 rfl rfl)
theorem dX13_isCask_6 : decode cX13_isCask 6 = .ok (.getfield 7, 3) := dk_180 0 7 (dk_at dksX13_isCask_0 6 rfl rfl)
theorem dX13_isCask_9 : decode cX13_isCask 9 = .ok (.iconst 0, 1) := dk_3 (dk_at dksX13_isCask_0 9 rfl rfl)
theorem dX13_isCask_10 : decode cX13_isCask 10 = .ok (.iaload, 1) := dk_46 (dk_at dksX13_isCask_0 10 rfl rfl)
theorem dX13_isCask_11 : decode cX13_isCask 11 = .ok (.if_icmp .ge 7, 3) := dk_162 0 7 (dk_at dksX13_isCask_0 11 rfl rfl)
theorem dX13_isCask_14 : decode cX13_isCask 14 = .ok (.iconst 1, 1) := dk_4 (dk_at dksX13_isCask_0 14 rfl rfl)
theorem dX13_isCask_15 : decode cX13_isCask 15 = .ok (.goto 4, 3) := dk_167 0 4 (dk_at dksX13_isCask_0 15 rfl rfl)
theorem dX13_isCask_18 : decode cX13_isCask 18 = .ok (.iconst 0, 1) := dk_3 (dk_at dksX13_isCask_0 18 rfl rfl)
theorem dX13_isCask_19 : decode cX13_isCask 19 = .ok (.ireturn, 1) := dk_172 (dk_at dksX13_isCask_0 19 rfl rfl)
abbrev cX13_loud : ByteArray := prog_16_method_21_code
def yX13_loud : MethodName := ⟨RX13, "loud", "(I)I"⟩
def dkwX13_loud_5 : List UInt8 := [3, 167, 0, 4, 29, 172, 28, 172]
abbrev dktX13_loud_5 : List UInt8 := dkwX13_loud_5 ++ []
def dkwX13_loud_4 : List UInt8 := [182, 0, 62, 184, 0, 83, 4, 100, 104, 96, 172, 3, 172, 42, 27, 8, 182, 0, 57, 16, 10, 161, 0, 7]
abbrev dktX13_loud_4 : List UInt8 := dkwX13_loud_4 ++ dktX13_loud_5
def dkwX13_loud_3 : List UInt8 := [29, 172, 21, 4, 172, 21, 4, 5, 108, 172, 21, 4, 5, 108, 8, 42, 42, 27, 4, 182, 0, 57]
abbrev dktX13_loud_3 : List UInt8 := dkwX13_loud_3 ++ dktX13_loud_4
def dkwX13_loud_2 : List UInt8 := [170, 0, 0, 0, 0, 90, 0, 0, 0, 1, 0, 0, 0, 6, 0, 0, 0, 38, 0, 0, 0, 40, 0, 0, 0, 43, 0, 0, 0, 48, 0, 0, 0, 71, 0, 0, 0, 73]
abbrev dktX13_loud_2 : List UInt8 := dkwX13_loud_2 ++ dktX13_loud_3
def dkwX13_loud_1 : List UInt8 := [7, 108, 100, 42, 27, 8, 182, 0, 57, 96, 54, 4, 42, 27, 3, 182, 0, 57]
abbrev dktX13_loud_1 : List UInt8 := dkwX13_loud_1 ++ dktX13_loud_2
def dkwX13_loud_0 : List UInt8 := [42, 27, 5, 182, 0, 57, 61, 3, 5, 28, 104, 42, 27, 8, 182, 0, 57, 100, 184, 0, 80, 62, 28, 28]
abbrev dktX13_loud_0 : List UInt8 := dkwX13_loud_0 ++ dktX13_loud_1
theorem dksX13_loud_0 : cX13_loud.data.toList.drop 0 = dktX13_loud_0 := by decide +kernel
theorem dksX13_loud_1 : cX13_loud.data.toList.drop 24 = dktX13_loud_1 := dk_seg dksX13_loud_0 24 rfl rfl
theorem dksX13_loud_2 : cX13_loud.data.toList.drop 42 = dktX13_loud_2 := dk_seg dksX13_loud_1 18 rfl rfl
theorem dksX13_loud_3 : cX13_loud.data.toList.drop 80 = dktX13_loud_3 := dk_seg dksX13_loud_2 38 rfl rfl
theorem dksX13_loud_4 : cX13_loud.data.toList.drop 102 = dktX13_loud_4 := dk_seg dksX13_loud_3 22 rfl rfl
theorem dksX13_loud_5 : cX13_loud.data.toList.drop 126 = dktX13_loud_5 := dk_seg dksX13_loud_4 24 rfl rfl
theorem dX13_loud_0 : decode cX13_loud 0 = .ok (.aload_n 0, 1) := dk_42 (dk_at dksX13_loud_0 0 rfl rfl)
theorem dX13_loud_1 : decode cX13_loud 1 = .ok (.iload_n 1, 1) := dk_27 (dk_at dksX13_loud_0 1 rfl rfl)
theorem dX13_loud_2 : decode cX13_loud 2 = .ok (.iconst 2, 1) := dk_5 (dk_at dksX13_loud_0 2 rfl rfl)
theorem dX13_loud_3 : decode cX13_loud 3 = .ok (.invokevirtual 57, 3) := dk_182 0 57 (dk_at dksX13_loud_0 3 rfl rfl)
theorem dX13_loud_6 : decode cX13_loud 6 = .ok (.istore_n 2, 1) := dk_61 (dk_at dksX13_loud_0 6 rfl rfl)
theorem dX13_loud_7 : decode cX13_loud 7 = .ok (.iconst 0, 1) := dk_3 (dk_at dksX13_loud_0 7 rfl rfl)
theorem dX13_loud_8 : decode cX13_loud 8 = .ok (.iconst 2, 1) := dk_5 (dk_at dksX13_loud_0 8 rfl rfl)
theorem dX13_loud_9 : decode cX13_loud 9 = .ok (.iload_n 2, 1) := dk_28 (dk_at dksX13_loud_0 9 rfl rfl)
theorem dX13_loud_10 : decode cX13_loud 10 = .ok (.imul, 1) := dk_104 (dk_at dksX13_loud_0 10 rfl rfl)
theorem dX13_loud_11 : decode cX13_loud 11 = .ok (.aload_n 0, 1) := dk_42 (dk_at dksX13_loud_0 11 rfl rfl)
theorem dX13_loud_12 : decode cX13_loud 12 = .ok (.iload_n 1, 1) := dk_27 (dk_at dksX13_loud_0 12 rfl rfl)
theorem dX13_loud_13 : decode cX13_loud 13 = .ok (.iconst 5, 1) := dk_8 (dk_at dksX13_loud_0 13 rfl rfl)
theorem dX13_loud_14 : decode cX13_loud 14 = .ok (.invokevirtual 57, 3) := dk_182 0 57 (dk_at dksX13_loud_0 14 rfl rfl)
theorem dX13_loud_17 : decode cX13_loud 17 = .ok (.isub, 1) := dk_100 (dk_at dksX13_loud_0 17 rfl rfl)
theorem dX13_loud_18 : decode cX13_loud 18 = .ok (.invokestatic 80, 3) := dk_184 0 80 (dk_at dksX13_loud_0 18 rfl rfl)
theorem dX13_loud_21 : decode cX13_loud 21 = .ok (.istore_n 3, 1) := dk_62 (dk_at dksX13_loud_0 21 rfl rfl)
theorem dX13_loud_22 : decode cX13_loud 22 = .ok (.iload_n 2, 1) := dk_28 (dk_at dksX13_loud_0 22 rfl rfl)
theorem dX13_loud_23 : decode cX13_loud 23 = .ok (.iload_n 2, 1) := dk_28 (dk_at dksX13_loud_0 23 rfl rfl)
theorem dX13_loud_24 : decode cX13_loud 24 = .ok (.iconst 4, 1) := dk_7 (dk_at dksX13_loud_1 0 rfl rfl)
theorem dX13_loud_25 : decode cX13_loud 25 = .ok (.idiv, 1) := dk_108 (dk_at dksX13_loud_1 1 rfl rfl)
theorem dX13_loud_26 : decode cX13_loud 26 = .ok (.isub, 1) := dk_100 (dk_at dksX13_loud_1 2 rfl rfl)
theorem dX13_loud_27 : decode cX13_loud 27 = .ok (.aload_n 0, 1) := dk_42 (dk_at dksX13_loud_1 3 rfl rfl)
theorem dX13_loud_28 : decode cX13_loud 28 = .ok (.iload_n 1, 1) := dk_27 (dk_at dksX13_loud_1 4 rfl rfl)
theorem dX13_loud_29 : decode cX13_loud 29 = .ok (.iconst 5, 1) := dk_8 (dk_at dksX13_loud_1 5 rfl rfl)
theorem dX13_loud_30 : decode cX13_loud 30 = .ok (.invokevirtual 57, 3) := dk_182 0 57 (dk_at dksX13_loud_1 6 rfl rfl)
theorem dX13_loud_33 : decode cX13_loud 33 = .ok (.iadd, 1) := dk_96 (dk_at dksX13_loud_1 9 rfl rfl)
theorem dX13_loud_34 : decode cX13_loud 34 = .ok (.istore 4, 2) := dk_54 4 (dk_at dksX13_loud_1 10 rfl rfl)
theorem dX13_loud_36 : decode cX13_loud 36 = .ok (.aload_n 0, 1) := dk_42 (dk_at dksX13_loud_1 12 rfl rfl)
theorem dX13_loud_37 : decode cX13_loud 37 = .ok (.iload_n 1, 1) := dk_27 (dk_at dksX13_loud_1 13 rfl rfl)
theorem dX13_loud_38 : decode cX13_loud 38 = .ok (.iconst 0, 1) := dk_3 (dk_at dksX13_loud_1 14 rfl rfl)
theorem dX13_loud_39 : decode cX13_loud 39 = .ok (.invokevirtual 57, 3) := dk_182 0 57 (dk_at dksX13_loud_1 15 rfl rfl)
theorem dX13_loud_42 : decode cX13_loud 42 = .ok (.tableswitch 90 1 6 #[38, 40, 43, 48, 71, 73], 38) := by decide +kernel
theorem dX13_loud_80 : decode cX13_loud 80 = .ok (.iload_n 3, 1) := dk_29 (dk_at dksX13_loud_3 0 rfl rfl)
theorem dX13_loud_81 : decode cX13_loud 81 = .ok (.ireturn, 1) := dk_172 (dk_at dksX13_loud_3 1 rfl rfl)
theorem dX13_loud_82 : decode cX13_loud 82 = .ok (.iload 4, 2) := dk_21 4 (dk_at dksX13_loud_3 2 rfl rfl)
theorem dX13_loud_84 : decode cX13_loud 84 = .ok (.ireturn, 1) := dk_172 (dk_at dksX13_loud_3 4 rfl rfl)
theorem dX13_loud_85 : decode cX13_loud 85 = .ok (.iload 4, 2) := dk_21 4 (dk_at dksX13_loud_3 5 rfl rfl)
theorem dX13_loud_87 : decode cX13_loud 87 = .ok (.iconst 2, 1) := dk_5 (dk_at dksX13_loud_3 7 rfl rfl)
theorem dX13_loud_88 : decode cX13_loud 88 = .ok (.idiv, 1) := dk_108 (dk_at dksX13_loud_3 8 rfl rfl)
theorem dX13_loud_89 : decode cX13_loud 89 = .ok (.ireturn, 1) := dk_172 (dk_at dksX13_loud_3 9 rfl rfl)
theorem dX13_loud_90 : decode cX13_loud 90 = .ok (.iload 4, 2) := dk_21 4 (dk_at dksX13_loud_3 10 rfl rfl)
theorem dX13_loud_92 : decode cX13_loud 92 = .ok (.iconst 2, 1) := dk_5 (dk_at dksX13_loud_3 12 rfl rfl)
theorem dX13_loud_93 : decode cX13_loud 93 = .ok (.idiv, 1) := dk_108 (dk_at dksX13_loud_3 13 rfl rfl)
theorem dX13_loud_94 : decode cX13_loud 94 = .ok (.iconst 5, 1) := dk_8 (dk_at dksX13_loud_3 14 rfl rfl)
theorem dX13_loud_95 : decode cX13_loud 95 = .ok (.aload_n 0, 1) := dk_42 (dk_at dksX13_loud_3 15 rfl rfl)
theorem dX13_loud_96 : decode cX13_loud 96 = .ok (.aload_n 0, 1) := dk_42 (dk_at dksX13_loud_3 16 rfl rfl)
theorem dX13_loud_97 : decode cX13_loud 97 = .ok (.iload_n 1, 1) := dk_27 (dk_at dksX13_loud_3 17 rfl rfl)
theorem dX13_loud_98 : decode cX13_loud 98 = .ok (.iconst 1, 1) := dk_4 (dk_at dksX13_loud_3 18 rfl rfl)
theorem dX13_loud_99 : decode cX13_loud 99 = .ok (.invokevirtual 57, 3) := dk_182 0 57 (dk_at dksX13_loud_3 19 rfl rfl)
theorem dX13_loud_102 : decode cX13_loud 102 = .ok (.invokevirtual 62, 3) := dk_182 0 62 (dk_at dksX13_loud_4 0 rfl rfl)
theorem dX13_loud_105 : decode cX13_loud 105 = .ok (.invokestatic 83, 3) := dk_184 0 83 (dk_at dksX13_loud_4 3 rfl rfl)
theorem dX13_loud_108 : decode cX13_loud 108 = .ok (.iconst 1, 1) := dk_4 (dk_at dksX13_loud_4 6 rfl rfl)
theorem dX13_loud_109 : decode cX13_loud 109 = .ok (.isub, 1) := dk_100 (dk_at dksX13_loud_4 7 rfl rfl)
theorem dX13_loud_110 : decode cX13_loud 110 = .ok (.imul, 1) := dk_104 (dk_at dksX13_loud_4 8 rfl rfl)
theorem dX13_loud_111 : decode cX13_loud 111 = .ok (.iadd, 1) := dk_96 (dk_at dksX13_loud_4 9 rfl rfl)
theorem dX13_loud_112 : decode cX13_loud 112 = .ok (.ireturn, 1) := dk_172 (dk_at dksX13_loud_4 10 rfl rfl)
theorem dX13_loud_113 : decode cX13_loud 113 = .ok (.iconst 0, 1) := dk_3 (dk_at dksX13_loud_4 11 rfl rfl)
theorem dX13_loud_114 : decode cX13_loud 114 = .ok (.ireturn, 1) := dk_172 (dk_at dksX13_loud_4 12 rfl rfl)
theorem dX13_loud_115 : decode cX13_loud 115 = .ok (.aload_n 0, 1) := dk_42 (dk_at dksX13_loud_4 13 rfl rfl)
theorem dX13_loud_116 : decode cX13_loud 116 = .ok (.iload_n 1, 1) := dk_27 (dk_at dksX13_loud_4 14 rfl rfl)
theorem dX13_loud_117 : decode cX13_loud 117 = .ok (.iconst 5, 1) := dk_8 (dk_at dksX13_loud_4 15 rfl rfl)
theorem dX13_loud_118 : decode cX13_loud 118 = .ok (.invokevirtual 57, 3) := dk_182 0 57 (dk_at dksX13_loud_4 16 rfl rfl)
theorem dX13_loud_121 : decode cX13_loud 121 = .ok (.bipush 10, 2) := dk_16 10 (dk_at dksX13_loud_4 19 rfl rfl)
theorem dX13_loud_123 : decode cX13_loud 123 = .ok (.if_icmp .lt 7, 3) := dk_161 0 7 (dk_at dksX13_loud_4 21 rfl rfl)
theorem dX13_loud_126 : decode cX13_loud 126 = .ok (.iconst 0, 1) := dk_3 (dk_at dksX13_loud_5 0 rfl rfl)
theorem dX13_loud_127 : decode cX13_loud 127 = .ok (.goto 4, 3) := dk_167 0 4 (dk_at dksX13_loud_5 1 rfl rfl)
theorem dX13_loud_130 : decode cX13_loud 130 = .ok (.iload_n 3, 1) := dk_29 (dk_at dksX13_loud_5 4 rfl rfl)
theorem dX13_loud_131 : decode cX13_loud 131 = .ok (.ireturn, 1) := dk_172 (dk_at dksX13_loud_5 5 rfl rfl)
theorem dX13_loud_132 : decode cX13_loud 132 = .ok (.iload_n 2, 1) := dk_28 (dk_at dksX13_loud_5 6 rfl rfl)
theorem dX13_loud_133 : decode cX13_loud 133 = .ok (.ireturn, 1) := dk_172 (dk_at dksX13_loud_5 7 rfl rfl)
abbrev cX13_greatest : ByteArray := prog_16_method_11_code
def yX13_greatest : MethodName := ⟨RX13, "greatest", "(II)I"⟩
def dkwX13_greatest_0 : List UInt8 := [26, 27, 164, 0, 7, 26, 167, 0, 4, 27, 172]
abbrev dktX13_greatest_0 : List UInt8 := dkwX13_greatest_0 ++ []
theorem dksX13_greatest_0 : cX13_greatest.data.toList.drop 0 = dktX13_greatest_0 := by decide +kernel
theorem dX13_greatest_0 : decode cX13_greatest 0 = .ok (.iload_n 0, 1) := dk_26 (dk_at dksX13_greatest_0 0 rfl rfl)
theorem dX13_greatest_1 : decode cX13_greatest 1 = .ok (.iload_n 1, 1) := dk_27 (dk_at dksX13_greatest_0 1 rfl rfl)
theorem dX13_greatest_2 : decode cX13_greatest 2 = .ok (.if_icmp .le 7, 3) := dk_164 0 7 (dk_at dksX13_greatest_0 2 rfl rfl)
theorem dX13_greatest_5 : decode cX13_greatest 5 = .ok (.iload_n 0, 1) := dk_26 (dk_at dksX13_greatest_0 5 rfl rfl)
theorem dX13_greatest_6 : decode cX13_greatest 6 = .ok (.goto 4, 3) := dk_167 0 4 (dk_at dksX13_greatest_0 6 rfl rfl)
theorem dX13_greatest_9 : decode cX13_greatest 9 = .ok (.iload_n 1, 1) := dk_27 (dk_at dksX13_greatest_0 9 rfl rfl)
theorem dX13_greatest_10 : decode cX13_greatest 10 = .ok (.ireturn, 1) := dk_172 (dk_at dksX13_greatest_0 10 rfl rfl)
abbrev cX13_many : ByteArray := prog_16_method_13_code
def yX13_many : MethodName := ⟨RX13, "many", "(I)I"⟩
def dkwX13_many_0 : List UInt8 := [3, 60, 26, 61, 28, 153, 0, 15, 132, 1, 1, 28, 28, 4, 100, 126, 61, 167, 255, 243, 27, 172]
abbrev dktX13_many_0 : List UInt8 := dkwX13_many_0 ++ []
theorem dksX13_many_0 : cX13_many.data.toList.drop 0 = dktX13_many_0 := by decide +kernel
theorem dX13_many_0 : decode cX13_many 0 = .ok (.iconst 0, 1) := dk_3 (dk_at dksX13_many_0 0 rfl rfl)
theorem dX13_many_1 : decode cX13_many 1 = .ok (.istore_n 1, 1) := dk_60 (dk_at dksX13_many_0 1 rfl rfl)
theorem dX13_many_2 : decode cX13_many 2 = .ok (.iload_n 0, 1) := dk_26 (dk_at dksX13_many_0 2 rfl rfl)
theorem dX13_many_3 : decode cX13_many 3 = .ok (.istore_n 2, 1) := dk_61 (dk_at dksX13_many_0 3 rfl rfl)
theorem dX13_many_4 : decode cX13_many 4 = .ok (.iload_n 2, 1) := dk_28 (dk_at dksX13_many_0 4 rfl rfl)
theorem dX13_many_5 : decode cX13_many 5 = .ok (.ifCond .eq 15, 3) := dk_153 0 15 (dk_at dksX13_many_0 5 rfl rfl)
theorem dX13_many_8 : decode cX13_many 8 = .ok (.iinc 1 1, 3) := dk_132 1 1 (dk_at dksX13_many_0 8 rfl rfl)
theorem dX13_many_11 : decode cX13_many 11 = .ok (.iload_n 2, 1) := dk_28 (dk_at dksX13_many_0 11 rfl rfl)
theorem dX13_many_12 : decode cX13_many 12 = .ok (.iload_n 2, 1) := dk_28 (dk_at dksX13_many_0 12 rfl rfl)
theorem dX13_many_13 : decode cX13_many 13 = .ok (.iconst 1, 1) := dk_4 (dk_at dksX13_many_0 13 rfl rfl)
theorem dX13_many_14 : decode cX13_many 14 = .ok (.isub, 1) := dk_100 (dk_at dksX13_many_0 14 rfl rfl)
theorem dX13_many_15 : decode cX13_many 15 = .ok (.iand, 1) := dk_126 (dk_at dksX13_many_0 15 rfl rfl)
theorem dX13_many_16 : decode cX13_many 16 = .ok (.istore_n 2, 1) := dk_61 (dk_at dksX13_many_0 16 rfl rfl)
theorem dX13_many_17 : decode cX13_many 17 = .ok (.goto (-13), 3) := dk_167 255 243 (dk_at dksX13_many_0 17 rfl rfl)
theorem dX13_many_20 : decode cX13_many 20 = .ok (.iload_n 1, 1) := dk_27 (dk_at dksX13_many_0 20 rfl rfl)
theorem dX13_many_21 : decode cX13_many 21 = .ok (.ireturn, 1) := dk_172 (dk_at dksX13_many_0 21 rfl rfl)
abbrev cX13_leaks : ByteArray := prog_16_method_22_code
def yX13_leaks : MethodName := ⟨RX13, "leaks", "(I)I"⟩
def dkwX13_leaks_2 : List UInt8 := [6, 172, 3, 172, 8, 172, 4, 172]
abbrev dktX13_leaks_2 : List UInt8 := dkwX13_leaks_2 ++ []
def dkwX13_leaks_1 : List UInt8 := [170, 0, 0, 0, 0, 44, 0, 0, 0, 1, 0, 0, 0, 6, 0, 0, 0, 38, 0, 0, 0, 44, 0, 0, 0, 40, 0, 0, 0, 40, 0, 0, 0, 42, 0, 0, 0, 42]
abbrev dktX13_leaks_1 : List UInt8 := dkwX13_leaks_1 ++ dktX13_leaks_2
def dkwX13_leaks_0 : List UInt8 := [42, 27, 3, 182, 0, 57]
abbrev dktX13_leaks_0 : List UInt8 := dkwX13_leaks_0 ++ dktX13_leaks_1
theorem dksX13_leaks_0 : cX13_leaks.data.toList.drop 0 = dktX13_leaks_0 := by decide +kernel
theorem dksX13_leaks_1 : cX13_leaks.data.toList.drop 6 = dktX13_leaks_1 := dk_seg dksX13_leaks_0 6 rfl rfl
theorem dksX13_leaks_2 : cX13_leaks.data.toList.drop 44 = dktX13_leaks_2 := dk_seg dksX13_leaks_1 38 rfl rfl
theorem dX13_leaks_0 : decode cX13_leaks 0 = .ok (.aload_n 0, 1) := dk_42 (dk_at dksX13_leaks_0 0 rfl rfl)
theorem dX13_leaks_1 : decode cX13_leaks 1 = .ok (.iload_n 1, 1) := dk_27 (dk_at dksX13_leaks_0 1 rfl rfl)
theorem dX13_leaks_2 : decode cX13_leaks 2 = .ok (.iconst 0, 1) := dk_3 (dk_at dksX13_leaks_0 2 rfl rfl)
theorem dX13_leaks_3 : decode cX13_leaks 3 = .ok (.invokevirtual 57, 3) := dk_182 0 57 (dk_at dksX13_leaks_0 3 rfl rfl)
theorem dX13_leaks_6 : decode cX13_leaks 6 = .ok (.tableswitch 44 1 6 #[38, 44, 40, 40, 42, 42], 38) := by decide +kernel
theorem dX13_leaks_44 : decode cX13_leaks 44 = .ok (.iconst 3, 1) := dk_6 (dk_at dksX13_leaks_2 0 rfl rfl)
theorem dX13_leaks_45 : decode cX13_leaks 45 = .ok (.ireturn, 1) := dk_172 (dk_at dksX13_leaks_2 1 rfl rfl)
theorem dX13_leaks_46 : decode cX13_leaks 46 = .ok (.iconst 0, 1) := dk_3 (dk_at dksX13_leaks_2 2 rfl rfl)
theorem dX13_leaks_47 : decode cX13_leaks 47 = .ok (.ireturn, 1) := dk_172 (dk_at dksX13_leaks_2 3 rfl rfl)
theorem dX13_leaks_48 : decode cX13_leaks 48 = .ok (.iconst 5, 1) := dk_8 (dk_at dksX13_leaks_2 4 rfl rfl)
theorem dX13_leaks_49 : decode cX13_leaks 49 = .ok (.ireturn, 1) := dk_172 (dk_at dksX13_leaks_2 5 rfl rfl)
theorem dX13_leaks_50 : decode cX13_leaks 50 = .ok (.iconst 1, 1) := dk_4 (dk_at dksX13_leaks_2 6 rfl rfl)
theorem dX13_leaks_51 : decode cX13_leaks 51 = .ok (.ireturn, 1) := dk_172 (dk_at dksX13_leaks_2 7 rfl rfl)
abbrev cX13_bears : ByteArray := prog_16_method_23_code
def yX13_bears : MethodName := ⟨RX13, "bears", "(I)I"⟩
def dkwX13_bears_3 : List UInt8 := [28, 5, 108, 172, 28, 16, 10, 96, 172, 28, 172]
abbrev dktX13_bears_3 : List UInt8 := dkwX13_bears_3 ++ []
def dkwX13_bears_2 : List UInt8 := [170, 0, 0, 0, 0, 0, 48, 0, 0, 0, 1, 0, 0, 0, 6, 0, 0, 0, 39, 0, 0, 0, 43, 0, 0, 0, 43, 0, 0, 0, 43, 0, 0, 0, 48, 0, 0, 0, 39]
abbrev dktX13_bears_2 : List UInt8 := dkwX13_bears_2 ++ dktX13_bears_3
def dkwX13_bears_1 : List UInt8 := [184, 0, 80, 61, 42, 27, 3, 182, 0, 57]
abbrev dktX13_bears_1 : List UInt8 := dkwX13_bears_1 ++ dktX13_bears_2
def dkwX13_bears_0 : List UInt8 := [3, 42, 27, 7, 182, 0, 57, 8, 42, 180, 0, 7, 7, 42, 27, 4, 182, 0, 57, 96, 46, 104, 100]
abbrev dktX13_bears_0 : List UInt8 := dkwX13_bears_0 ++ dktX13_bears_1
theorem dksX13_bears_0 : cX13_bears.data.toList.drop 0 = dktX13_bears_0 := by decide +kernel
theorem dksX13_bears_1 : cX13_bears.data.toList.drop 23 = dktX13_bears_1 := dk_seg dksX13_bears_0 23 rfl rfl
theorem dksX13_bears_2 : cX13_bears.data.toList.drop 33 = dktX13_bears_2 := dk_seg dksX13_bears_1 10 rfl rfl
theorem dksX13_bears_3 : cX13_bears.data.toList.drop 72 = dktX13_bears_3 := dk_seg dksX13_bears_2 39 rfl rfl
theorem dX13_bears_0 : decode cX13_bears 0 = .ok (.iconst 0, 1) := dk_3 (dk_at dksX13_bears_0 0 rfl rfl)
theorem dX13_bears_1 : decode cX13_bears 1 = .ok (.aload_n 0, 1) := dk_42 (dk_at dksX13_bears_0 1 rfl rfl)
theorem dX13_bears_2 : decode cX13_bears 2 = .ok (.iload_n 1, 1) := dk_27 (dk_at dksX13_bears_0 2 rfl rfl)
theorem dX13_bears_3 : decode cX13_bears 3 = .ok (.iconst 4, 1) := dk_7 (dk_at dksX13_bears_0 3 rfl rfl)
theorem dX13_bears_4 : decode cX13_bears 4 = .ok (.invokevirtual 57, 3) := dk_182 0 57 (dk_at dksX13_bears_0 4 rfl rfl)
theorem dX13_bears_7 : decode cX13_bears 7 = .ok (.iconst 5, 1) := dk_8 (dk_at dksX13_bears_0 7 rfl rfl)
theorem dX13_bears_8 : decode cX13_bears 8 = .ok (.aload_n 0, 1) := dk_42 (dk_at dksX13_bears_0 8 rfl rfl)
theorem dX13_bears_9 : decode cX13_bears 9 = .ok (.getfield 7, 3) := dk_180 0 7 (dk_at dksX13_bears_0 9 rfl rfl)
theorem dX13_bears_12 : decode cX13_bears 12 = .ok (.iconst 4, 1) := dk_7 (dk_at dksX13_bears_0 12 rfl rfl)
theorem dX13_bears_13 : decode cX13_bears 13 = .ok (.aload_n 0, 1) := dk_42 (dk_at dksX13_bears_0 13 rfl rfl)
theorem dX13_bears_14 : decode cX13_bears 14 = .ok (.iload_n 1, 1) := dk_27 (dk_at dksX13_bears_0 14 rfl rfl)
theorem dX13_bears_15 : decode cX13_bears 15 = .ok (.iconst 1, 1) := dk_4 (dk_at dksX13_bears_0 15 rfl rfl)
theorem dX13_bears_16 : decode cX13_bears 16 = .ok (.invokevirtual 57, 3) := dk_182 0 57 (dk_at dksX13_bears_0 16 rfl rfl)
theorem dX13_bears_19 : decode cX13_bears 19 = .ok (.iadd, 1) := dk_96 (dk_at dksX13_bears_0 19 rfl rfl)
theorem dX13_bears_20 : decode cX13_bears 20 = .ok (.iaload, 1) := dk_46 (dk_at dksX13_bears_0 20 rfl rfl)
theorem dX13_bears_21 : decode cX13_bears 21 = .ok (.imul, 1) := dk_104 (dk_at dksX13_bears_0 21 rfl rfl)
theorem dX13_bears_22 : decode cX13_bears 22 = .ok (.isub, 1) := dk_100 (dk_at dksX13_bears_0 22 rfl rfl)
theorem dX13_bears_23 : decode cX13_bears 23 = .ok (.invokestatic 80, 3) := dk_184 0 80 (dk_at dksX13_bears_1 0 rfl rfl)
theorem dX13_bears_26 : decode cX13_bears 26 = .ok (.istore_n 2, 1) := dk_61 (dk_at dksX13_bears_1 3 rfl rfl)
theorem dX13_bears_27 : decode cX13_bears 27 = .ok (.aload_n 0, 1) := dk_42 (dk_at dksX13_bears_1 4 rfl rfl)
theorem dX13_bears_28 : decode cX13_bears 28 = .ok (.iload_n 1, 1) := dk_27 (dk_at dksX13_bears_1 5 rfl rfl)
theorem dX13_bears_29 : decode cX13_bears 29 = .ok (.iconst 0, 1) := dk_3 (dk_at dksX13_bears_1 6 rfl rfl)
theorem dX13_bears_30 : decode cX13_bears 30 = .ok (.invokevirtual 57, 3) := dk_182 0 57 (dk_at dksX13_bears_1 7 rfl rfl)
theorem dX13_bears_33 : decode cX13_bears 33 = .ok (.tableswitch 48 1 6 #[39, 43, 43, 43, 48, 39], 39) := by decide +kernel
theorem dX13_bears_72 : decode cX13_bears 72 = .ok (.iload_n 2, 1) := dk_28 (dk_at dksX13_bears_3 0 rfl rfl)
theorem dX13_bears_73 : decode cX13_bears 73 = .ok (.iconst 2, 1) := dk_5 (dk_at dksX13_bears_3 1 rfl rfl)
theorem dX13_bears_74 : decode cX13_bears 74 = .ok (.idiv, 1) := dk_108 (dk_at dksX13_bears_3 2 rfl rfl)
theorem dX13_bears_75 : decode cX13_bears 75 = .ok (.ireturn, 1) := dk_172 (dk_at dksX13_bears_3 3 rfl rfl)
theorem dX13_bears_76 : decode cX13_bears 76 = .ok (.iload_n 2, 1) := dk_28 (dk_at dksX13_bears_3 4 rfl rfl)
theorem dX13_bears_77 : decode cX13_bears 77 = .ok (.bipush 10, 2) := dk_16 10 (dk_at dksX13_bears_3 5 rfl rfl)
theorem dX13_bears_79 : decode cX13_bears 79 = .ok (.iadd, 1) := dk_96 (dk_at dksX13_bears_3 7 rfl rfl)
theorem dX13_bears_80 : decode cX13_bears 80 = .ok (.ireturn, 1) := dk_172 (dk_at dksX13_bears_3 8 rfl rfl)
theorem dX13_bears_81 : decode cX13_bears 81 = .ok (.iload_n 2, 1) := dk_28 (dk_at dksX13_bears_3 9 rfl rfl)
theorem dX13_bears_82 : decode cX13_bears 82 = .ok (.ireturn, 1) := dk_172 (dk_at dksX13_bears_3 10 rfl rfl)
abbrev cX13_change : ByteArray := prog_16_method_26_code
def yX13_change : MethodName := ⟨RX13, "change", "(III)I"⟩
def dkwX13_change_2 : List UInt8 := [28, 184, 0, 70, 29, 182, 0, 53, 167, 0, 9, 42, 18, 37, 182, 0, 39, 172]
abbrev dktX13_change_2 : List UInt8 := dkwX13_change_2 ++ []
def dkwX13_change_1 : List UInt8 := [184, 0, 98, 133, 184, 0, 49, 153, 0, 7, 4, 167, 0, 4, 3, 54, 4, 21, 4, 153, 0, 16, 42, 27]
abbrev dktX13_change_1 : List UInt8 := dkwX13_change_1 ++ dktX13_change_2
def dkwX13_change_0 : List UInt8 := [42, 27, 182, 0, 86, 153, 0, 33, 28, 133, 9, 20, 0, 73, 184, 0, 49, 153, 0, 21, 29, 133, 9, 28]
abbrev dktX13_change_0 : List UInt8 := dkwX13_change_0 ++ dktX13_change_1
theorem dksX13_change_0 : cX13_change.data.toList.drop 0 = dktX13_change_0 := by decide +kernel
theorem dksX13_change_1 : cX13_change.data.toList.drop 24 = dktX13_change_1 := dk_seg dksX13_change_0 24 rfl rfl
theorem dksX13_change_2 : cX13_change.data.toList.drop 48 = dktX13_change_2 := dk_seg dksX13_change_1 24 rfl rfl
theorem dX13_change_0 : decode cX13_change 0 = .ok (.aload_n 0, 1) := dk_42 (dk_at dksX13_change_0 0 rfl rfl)
theorem dX13_change_1 : decode cX13_change 1 = .ok (.iload_n 1, 1) := dk_27 (dk_at dksX13_change_0 1 rfl rfl)
theorem dX13_change_2 : decode cX13_change 2 = .ok (.invokevirtual 86, 3) := dk_182 0 86 (dk_at dksX13_change_0 2 rfl rfl)
theorem dX13_change_5 : decode cX13_change 5 = .ok (.ifCond .eq 33, 3) := dk_153 0 33 (dk_at dksX13_change_0 5 rfl rfl)
theorem dX13_change_8 : decode cX13_change 8 = .ok (.iload_n 2, 1) := dk_28 (dk_at dksX13_change_0 8 rfl rfl)
theorem dX13_change_9 : decode cX13_change 9 = .ok (.i2l, 1) := dk_133 (dk_at dksX13_change_0 9 rfl rfl)
theorem dX13_change_10 : decode cX13_change 10 = .ok (.lconst 0, 1) := dk_9 (dk_at dksX13_change_0 10 rfl rfl)
theorem dX13_change_11 : decode cX13_change 11 = .ok (.ldc2_w 73, 3) := dk_20 0 73 (dk_at dksX13_change_0 11 rfl rfl)
theorem dX13_change_14 : decode cX13_change 14 = .ok (.invokestatic 49, 3) := dk_184 0 49 (dk_at dksX13_change_0 14 rfl rfl)
theorem dX13_change_17 : decode cX13_change 17 = .ok (.ifCond .eq 21, 3) := dk_153 0 21 (dk_at dksX13_change_0 17 rfl rfl)
theorem dX13_change_20 : decode cX13_change 20 = .ok (.iload_n 3, 1) := dk_29 (dk_at dksX13_change_0 20 rfl rfl)
theorem dX13_change_21 : decode cX13_change 21 = .ok (.i2l, 1) := dk_133 (dk_at dksX13_change_0 21 rfl rfl)
theorem dX13_change_22 : decode cX13_change 22 = .ok (.lconst 0, 1) := dk_9 (dk_at dksX13_change_0 22 rfl rfl)
theorem dX13_change_23 : decode cX13_change 23 = .ok (.iload_n 2, 1) := dk_28 (dk_at dksX13_change_0 23 rfl rfl)
theorem dX13_change_24 : decode cX13_change 24 = .ok (.invokestatic 98, 3) := dk_184 0 98 (dk_at dksX13_change_1 0 rfl rfl)
theorem dX13_change_27 : decode cX13_change 27 = .ok (.i2l, 1) := dk_133 (dk_at dksX13_change_1 3 rfl rfl)
theorem dX13_change_28 : decode cX13_change 28 = .ok (.invokestatic 49, 3) := dk_184 0 49 (dk_at dksX13_change_1 4 rfl rfl)
theorem dX13_change_31 : decode cX13_change 31 = .ok (.ifCond .eq 7, 3) := dk_153 0 7 (dk_at dksX13_change_1 7 rfl rfl)
theorem dX13_change_34 : decode cX13_change 34 = .ok (.iconst 1, 1) := dk_4 (dk_at dksX13_change_1 10 rfl rfl)
theorem dX13_change_35 : decode cX13_change 35 = .ok (.goto 4, 3) := dk_167 0 4 (dk_at dksX13_change_1 11 rfl rfl)
theorem dX13_change_38 : decode cX13_change 38 = .ok (.iconst 0, 1) := dk_3 (dk_at dksX13_change_1 14 rfl rfl)
theorem dX13_change_39 : decode cX13_change 39 = .ok (.istore 4, 2) := dk_54 4 (dk_at dksX13_change_1 15 rfl rfl)
theorem dX13_change_41 : decode cX13_change 41 = .ok (.iload 4, 2) := dk_21 4 (dk_at dksX13_change_1 17 rfl rfl)
theorem dX13_change_43 : decode cX13_change 43 = .ok (.ifCond .eq 16, 3) := dk_153 0 16 (dk_at dksX13_change_1 19 rfl rfl)
theorem dX13_change_46 : decode cX13_change 46 = .ok (.aload_n 0, 1) := dk_42 (dk_at dksX13_change_1 22 rfl rfl)
theorem dX13_change_47 : decode cX13_change 47 = .ok (.iload_n 1, 1) := dk_27 (dk_at dksX13_change_1 23 rfl rfl)
theorem dX13_change_48 : decode cX13_change 48 = .ok (.iload_n 2, 1) := dk_28 (dk_at dksX13_change_2 0 rfl rfl)
theorem dX13_change_49 : decode cX13_change 49 = .ok (.invokestatic 70, 3) := dk_184 0 70 (dk_at dksX13_change_2 1 rfl rfl)
theorem dX13_change_52 : decode cX13_change 52 = .ok (.iload_n 3, 1) := dk_29 (dk_at dksX13_change_2 4 rfl rfl)
theorem dX13_change_53 : decode cX13_change 53 = .ok (.invokevirtual 53, 3) := dk_182 0 53 (dk_at dksX13_change_2 5 rfl rfl)
theorem dX13_change_56 : decode cX13_change 56 = .ok (.goto 9, 3) := dk_167 0 9 (dk_at dksX13_change_2 8 rfl rfl)
theorem dX13_change_59 : decode cX13_change 59 = .ok (.aload_n 0, 1) := dk_42 (dk_at dksX13_change_2 11 rfl rfl)
theorem dX13_change_60 : decode cX13_change 60 = .ok (.ldc 37, 2) := dk_18 37 (dk_at dksX13_change_2 12 rfl rfl)
theorem dX13_change_62 : decode cX13_change 62 = .ok (.invokevirtual 39, 3) := dk_182 0 39 (dk_at dksX13_change_2 14 rfl rfl)
theorem dX13_change_65 : decode cX13_change 65 = .ok (.ireturn, 1) := dk_172 (dk_at dksX13_change_2 17 rfl rfl)
abbrev cX13_greatestOf : ByteArray := prog_16_method_25_code
def yX13_greatestOf : MethodName := ⟨RX13, "greatestOf", "(I)I"⟩
def dkwX13_greatestOf_1 : List UInt8 := [16, 11, 167, 0, 6, 17, 3, 231, 172]
abbrev dktX13_greatestOf_1 : List UInt8 := dkwX13_greatestOf_1 ++ []
def dkwX13_greatestOf_0 : List UInt8 := [26, 154, 0, 8, 16, 6, 167, 0, 25, 26, 4, 160, 0, 7, 8, 167, 0, 16, 26, 6, 160, 0, 8]
abbrev dktX13_greatestOf_0 : List UInt8 := dkwX13_greatestOf_0 ++ dktX13_greatestOf_1
theorem dksX13_greatestOf_0 : cX13_greatestOf.data.toList.drop 0 = dktX13_greatestOf_0 := by decide +kernel
theorem dksX13_greatestOf_1 : cX13_greatestOf.data.toList.drop 23 = dktX13_greatestOf_1 := dk_seg dksX13_greatestOf_0 23 rfl rfl
theorem dX13_greatestOf_0 : decode cX13_greatestOf 0 = .ok (.iload_n 0, 1) := dk_26 (dk_at dksX13_greatestOf_0 0 rfl rfl)
theorem dX13_greatestOf_1 : decode cX13_greatestOf 1 = .ok (.ifCond .ne 8, 3) := dk_154 0 8 (dk_at dksX13_greatestOf_0 1 rfl rfl)
theorem dX13_greatestOf_4 : decode cX13_greatestOf 4 = .ok (.bipush 6, 2) := dk_16 6 (dk_at dksX13_greatestOf_0 4 rfl rfl)
theorem dX13_greatestOf_6 : decode cX13_greatestOf 6 = .ok (.goto 25, 3) := dk_167 0 25 (dk_at dksX13_greatestOf_0 6 rfl rfl)
theorem dX13_greatestOf_9 : decode cX13_greatestOf 9 = .ok (.iload_n 0, 1) := dk_26 (dk_at dksX13_greatestOf_0 9 rfl rfl)
theorem dX13_greatestOf_10 : decode cX13_greatestOf 10 = .ok (.iconst 1, 1) := dk_4 (dk_at dksX13_greatestOf_0 10 rfl rfl)
theorem dX13_greatestOf_11 : decode cX13_greatestOf 11 = .ok (.if_icmp .ne 7, 3) := dk_160 0 7 (dk_at dksX13_greatestOf_0 11 rfl rfl)
theorem dX13_greatestOf_14 : decode cX13_greatestOf 14 = .ok (.iconst 5, 1) := dk_8 (dk_at dksX13_greatestOf_0 14 rfl rfl)
theorem dX13_greatestOf_15 : decode cX13_greatestOf 15 = .ok (.goto 16, 3) := dk_167 0 16 (dk_at dksX13_greatestOf_0 15 rfl rfl)
theorem dX13_greatestOf_18 : decode cX13_greatestOf 18 = .ok (.iload_n 0, 1) := dk_26 (dk_at dksX13_greatestOf_0 18 rfl rfl)
theorem dX13_greatestOf_19 : decode cX13_greatestOf 19 = .ok (.iconst 3, 1) := dk_6 (dk_at dksX13_greatestOf_0 19 rfl rfl)
theorem dX13_greatestOf_20 : decode cX13_greatestOf 20 = .ok (.if_icmp .ne 8, 3) := dk_160 0 8 (dk_at dksX13_greatestOf_0 20 rfl rfl)
theorem dX13_greatestOf_23 : decode cX13_greatestOf 23 = .ok (.bipush 11, 2) := dk_16 11 (dk_at dksX13_greatestOf_1 0 rfl rfl)
theorem dX13_greatestOf_25 : decode cX13_greatestOf 25 = .ok (.goto 6, 3) := dk_167 0 6 (dk_at dksX13_greatestOf_1 2 rfl rfl)
theorem dX13_greatestOf_28 : decode cX13_greatestOf 28 = .ok (.sipush 999, 3) := dk_17 3 231 (dk_at dksX13_greatestOf_1 5 rfl rfl)
theorem dX13_greatestOf_31 : decode cX13_greatestOf 31 = .ok (.ireturn, 1) := dk_172 (dk_at dksX13_greatestOf_1 8 rfl rfl)
abbrev cX13_sell : ByteArray := prog_16_method_27_code
def yX13_sell : MethodName := ⟨RX13, "sell", "(I)I"⟩
def dkwX13_sell_1 : List UInt8 := [180, 0, 7, 27, 5, 184, 0, 70, 3, 79, 42, 180, 0, 7, 27, 8, 184, 0, 70, 3, 79, 28, 172]
abbrev dktX13_sell_1 : List UInt8 := dkwX13_sell_1 ++ []
def dkwX13_sell_0 : List UInt8 := [42, 27, 182, 0, 86, 154, 0, 10, 42, 18, 37, 182, 0, 39, 172, 42, 27, 182, 0, 89, 61, 42]
abbrev dktX13_sell_0 : List UInt8 := dkwX13_sell_0 ++ dktX13_sell_1
theorem dksX13_sell_0 : cX13_sell.data.toList.drop 0 = dktX13_sell_0 := by decide +kernel
theorem dksX13_sell_1 : cX13_sell.data.toList.drop 22 = dktX13_sell_1 := dk_seg dksX13_sell_0 22 rfl rfl
theorem dX13_sell_0 : decode cX13_sell 0 = .ok (.aload_n 0, 1) := dk_42 (dk_at dksX13_sell_0 0 rfl rfl)
theorem dX13_sell_1 : decode cX13_sell 1 = .ok (.iload_n 1, 1) := dk_27 (dk_at dksX13_sell_0 1 rfl rfl)
theorem dX13_sell_2 : decode cX13_sell 2 = .ok (.invokevirtual 86, 3) := dk_182 0 86 (dk_at dksX13_sell_0 2 rfl rfl)
theorem dX13_sell_5 : decode cX13_sell 5 = .ok (.ifCond .ne 10, 3) := dk_154 0 10 (dk_at dksX13_sell_0 5 rfl rfl)
theorem dX13_sell_8 : decode cX13_sell 8 = .ok (.aload_n 0, 1) := dk_42 (dk_at dksX13_sell_0 8 rfl rfl)
theorem dX13_sell_9 : decode cX13_sell 9 = .ok (.ldc 37, 2) := dk_18 37 (dk_at dksX13_sell_0 9 rfl rfl)
theorem dX13_sell_11 : decode cX13_sell 11 = .ok (.invokevirtual 39, 3) := dk_182 0 39 (dk_at dksX13_sell_0 11 rfl rfl)
theorem dX13_sell_14 : decode cX13_sell 14 = .ok (.ireturn, 1) := dk_172 (dk_at dksX13_sell_0 14 rfl rfl)
theorem dX13_sell_15 : decode cX13_sell 15 = .ok (.aload_n 0, 1) := dk_42 (dk_at dksX13_sell_0 15 rfl rfl)
theorem dX13_sell_16 : decode cX13_sell 16 = .ok (.iload_n 1, 1) := dk_27 (dk_at dksX13_sell_0 16 rfl rfl)
theorem dX13_sell_17 : decode cX13_sell 17 = .ok (.invokevirtual 89, 3) := dk_182 0 89 (dk_at dksX13_sell_0 17 rfl rfl)
theorem dX13_sell_20 : decode cX13_sell 20 = .ok (.istore_n 2, 1) := dk_61 (dk_at dksX13_sell_0 20 rfl rfl)
theorem dX13_sell_21 : decode cX13_sell 21 = .ok (.aload_n 0, 1) := dk_42 (dk_at dksX13_sell_0 21 rfl rfl)
theorem dX13_sell_22 : decode cX13_sell 22 = .ok (.getfield 7, 3) := dk_180 0 7 (dk_at dksX13_sell_1 0 rfl rfl)
theorem dX13_sell_25 : decode cX13_sell 25 = .ok (.iload_n 1, 1) := dk_27 (dk_at dksX13_sell_1 3 rfl rfl)
theorem dX13_sell_26 : decode cX13_sell 26 = .ok (.iconst 2, 1) := dk_5 (dk_at dksX13_sell_1 4 rfl rfl)
theorem dX13_sell_27 : decode cX13_sell 27 = .ok (.invokestatic 70, 3) := dk_184 0 70 (dk_at dksX13_sell_1 5 rfl rfl)
theorem dX13_sell_30 : decode cX13_sell 30 = .ok (.iconst 0, 1) := dk_3 (dk_at dksX13_sell_1 8 rfl rfl)
theorem dX13_sell_31 : decode cX13_sell 31 = .ok (.iastore, 1) := dk_79 (dk_at dksX13_sell_1 9 rfl rfl)
theorem dX13_sell_32 : decode cX13_sell 32 = .ok (.aload_n 0, 1) := dk_42 (dk_at dksX13_sell_1 10 rfl rfl)
theorem dX13_sell_33 : decode cX13_sell 33 = .ok (.getfield 7, 3) := dk_180 0 7 (dk_at dksX13_sell_1 11 rfl rfl)
theorem dX13_sell_36 : decode cX13_sell 36 = .ok (.iload_n 1, 1) := dk_27 (dk_at dksX13_sell_1 14 rfl rfl)
theorem dX13_sell_37 : decode cX13_sell 37 = .ok (.iconst 5, 1) := dk_8 (dk_at dksX13_sell_1 15 rfl rfl)
theorem dX13_sell_38 : decode cX13_sell 38 = .ok (.invokestatic 70, 3) := dk_184 0 70 (dk_at dksX13_sell_1 16 rfl rfl)
theorem dX13_sell_41 : decode cX13_sell 41 = .ok (.iconst 0, 1) := dk_3 (dk_at dksX13_sell_1 19 rfl rfl)
theorem dX13_sell_42 : decode cX13_sell 42 = .ok (.iastore, 1) := dk_79 (dk_at dksX13_sell_1 20 rfl rfl)
theorem dX13_sell_43 : decode cX13_sell 43 = .ok (.iload_n 2, 1) := dk_28 (dk_at dksX13_sell_1 21 rfl rfl)
theorem dX13_sell_44 : decode cX13_sell 44 = .ok (.ireturn, 1) := dk_172 (dk_at dksX13_sell_1 22 rfl rfl)
abbrev cX13_go : ByteArray := prog_16_method_35_code
def yX13_go : MethodName := ⟨RX13, "go", "(I)I"⟩
def dkwX13_go_2 : List UInt8 := [6, 46, 172]
abbrev dktX13_go_2 : List UInt8 := dkwX13_go_2 ++ []
def dkwX13_go_1 : List UInt8 := [46, 27, 96, 18, 107, 164, 0, 10, 42, 18, 124, 182, 0, 39, 172, 42, 27, 182, 0, 125, 42, 180, 0, 7]
abbrev dktX13_go_1 : List UInt8 := dkwX13_go_1 ++ dktX13_go_2
def dkwX13_go_0 : List UInt8 := [27, 133, 10, 20, 0, 122, 184, 0, 49, 154, 0, 10, 42, 18, 37, 182, 0, 39, 172, 42, 180, 0, 7, 4]
abbrev dktX13_go_0 : List UInt8 := dkwX13_go_0 ++ dktX13_go_1
theorem dksX13_go_0 : cX13_go.data.toList.drop 0 = dktX13_go_0 := by decide +kernel
theorem dksX13_go_1 : cX13_go.data.toList.drop 24 = dktX13_go_1 := dk_seg dksX13_go_0 24 rfl rfl
theorem dksX13_go_2 : cX13_go.data.toList.drop 48 = dktX13_go_2 := dk_seg dksX13_go_1 24 rfl rfl
theorem dX13_go_0 : decode cX13_go 0 = .ok (.iload_n 1, 1) := dk_27 (dk_at dksX13_go_0 0 rfl rfl)
theorem dX13_go_1 : decode cX13_go 1 = .ok (.i2l, 1) := dk_133 (dk_at dksX13_go_0 1 rfl rfl)
theorem dX13_go_2 : decode cX13_go 2 = .ok (.lconst 1, 1) := dk_10 (dk_at dksX13_go_0 2 rfl rfl)
theorem dX13_go_3 : decode cX13_go 3 = .ok (.ldc2_w 122, 3) := dk_20 0 122 (dk_at dksX13_go_0 3 rfl rfl)
theorem dX13_go_6 : decode cX13_go 6 = .ok (.invokestatic 49, 3) := dk_184 0 49 (dk_at dksX13_go_0 6 rfl rfl)
theorem dX13_go_9 : decode cX13_go 9 = .ok (.ifCond .ne 10, 3) := dk_154 0 10 (dk_at dksX13_go_0 9 rfl rfl)
theorem dX13_go_12 : decode cX13_go 12 = .ok (.aload_n 0, 1) := dk_42 (dk_at dksX13_go_0 12 rfl rfl)
theorem dX13_go_13 : decode cX13_go 13 = .ok (.ldc 37, 2) := dk_18 37 (dk_at dksX13_go_0 13 rfl rfl)
theorem dX13_go_15 : decode cX13_go 15 = .ok (.invokevirtual 39, 3) := dk_182 0 39 (dk_at dksX13_go_0 15 rfl rfl)
theorem dX13_go_18 : decode cX13_go 18 = .ok (.ireturn, 1) := dk_172 (dk_at dksX13_go_0 18 rfl rfl)
theorem dX13_go_19 : decode cX13_go 19 = .ok (.aload_n 0, 1) := dk_42 (dk_at dksX13_go_0 19 rfl rfl)
theorem dX13_go_20 : decode cX13_go 20 = .ok (.getfield 7, 3) := dk_180 0 7 (dk_at dksX13_go_0 20 rfl rfl)
theorem dX13_go_23 : decode cX13_go 23 = .ok (.iconst 1, 1) := dk_4 (dk_at dksX13_go_0 23 rfl rfl)
theorem dX13_go_24 : decode cX13_go 24 = .ok (.iaload, 1) := dk_46 (dk_at dksX13_go_1 0 rfl rfl)
theorem dX13_go_25 : decode cX13_go 25 = .ok (.iload_n 1, 1) := dk_27 (dk_at dksX13_go_1 1 rfl rfl)
theorem dX13_go_26 : decode cX13_go 26 = .ok (.iadd, 1) := dk_96 (dk_at dksX13_go_1 2 rfl rfl)
theorem dX13_go_27 : decode cX13_go 27 = .ok (.ldc 107, 2) := dk_18 107 (dk_at dksX13_go_1 3 rfl rfl)
theorem dX13_go_29 : decode cX13_go 29 = .ok (.if_icmp .le 10, 3) := dk_164 0 10 (dk_at dksX13_go_1 5 rfl rfl)
theorem dX13_go_32 : decode cX13_go 32 = .ok (.aload_n 0, 1) := dk_42 (dk_at dksX13_go_1 8 rfl rfl)
theorem dX13_go_33 : decode cX13_go 33 = .ok (.ldc 124, 2) := dk_18 124 (dk_at dksX13_go_1 9 rfl rfl)
theorem dX13_go_35 : decode cX13_go 35 = .ok (.invokevirtual 39, 3) := dk_182 0 39 (dk_at dksX13_go_1 11 rfl rfl)
theorem dX13_go_38 : decode cX13_go 38 = .ok (.ireturn, 1) := dk_172 (dk_at dksX13_go_1 14 rfl rfl)
theorem dX13_go_39 : decode cX13_go 39 = .ok (.aload_n 0, 1) := dk_42 (dk_at dksX13_go_1 15 rfl rfl)
theorem dX13_go_40 : decode cX13_go 40 = .ok (.iload_n 1, 1) := dk_27 (dk_at dksX13_go_1 16 rfl rfl)
theorem dX13_go_41 : decode cX13_go 41 = .ok (.invokevirtual 125, 3) := dk_182 0 125 (dk_at dksX13_go_1 17 rfl rfl)
theorem dX13_go_44 : decode cX13_go 44 = .ok (.aload_n 0, 1) := dk_42 (dk_at dksX13_go_1 20 rfl rfl)
theorem dX13_go_45 : decode cX13_go 45 = .ok (.getfield 7, 3) := dk_180 0 7 (dk_at dksX13_go_1 21 rfl rfl)
theorem dX13_go_48 : decode cX13_go 48 = .ok (.iconst 3, 1) := dk_6 (dk_at dksX13_go_2 0 rfl rfl)
theorem dX13_go_49 : decode cX13_go 49 = .ok (.iaload, 1) := dk_46 (dk_at dksX13_go_2 1 rfl rfl)
theorem dX13_go_50 : decode cX13_go 50 = .ok (.ireturn, 1) := dk_172 (dk_at dksX13_go_2 2 rfl rfl)
abbrev cX13_goes : ByteArray := prog_16_method_33_code
def yX13_goes : MethodName := ⟨RX13, "goes", "(I)V"⟩
def dkwX13_goes_0 : List UInt8 := [3, 61, 28, 27, 162, 0, 13, 42, 182, 0, 119, 132, 2, 1, 167, 255, 244, 177]
abbrev dktX13_goes_0 : List UInt8 := dkwX13_goes_0 ++ []
theorem dksX13_goes_0 : cX13_goes.data.toList.drop 0 = dktX13_goes_0 := by decide +kernel
theorem dX13_goes_0 : decode cX13_goes 0 = .ok (.iconst 0, 1) := dk_3 (dk_at dksX13_goes_0 0 rfl rfl)
theorem dX13_goes_1 : decode cX13_goes 1 = .ok (.istore_n 2, 1) := dk_61 (dk_at dksX13_goes_0 1 rfl rfl)
theorem dX13_goes_2 : decode cX13_goes 2 = .ok (.iload_n 2, 1) := dk_28 (dk_at dksX13_goes_0 2 rfl rfl)
theorem dX13_goes_3 : decode cX13_goes 3 = .ok (.iload_n 1, 1) := dk_27 (dk_at dksX13_goes_0 3 rfl rfl)
theorem dX13_goes_4 : decode cX13_goes 4 = .ok (.if_icmp .ge 13, 3) := dk_162 0 13 (dk_at dksX13_goes_0 4 rfl rfl)
theorem dX13_goes_7 : decode cX13_goes 7 = .ok (.aload_n 0, 1) := dk_42 (dk_at dksX13_goes_0 7 rfl rfl)
theorem dX13_goes_8 : decode cX13_goes 8 = .ok (.invokevirtual 119, 3) := dk_182 0 119 (dk_at dksX13_goes_0 8 rfl rfl)
theorem dX13_goes_11 : decode cX13_goes 11 = .ok (.iinc 2 1, 3) := dk_132 2 1 (dk_at dksX13_goes_0 11 rfl rfl)
theorem dX13_goes_14 : decode cX13_goes 14 = .ok (.goto (-12), 3) := dk_167 255 244 (dk_at dksX13_goes_0 14 rfl rfl)
theorem dX13_goes_17 : decode cX13_goes 17 = .ok (.return_, 1) := dk_177 (dk_at dksX13_goes_0 17 rfl rfl)
abbrev cX13_day : ByteArray := prog_16_method_32_code
def yX13_day : MethodName := ⟨RX13, "day", "()V"⟩
def dkwX13_day_8 : List UInt8 := [92, 46, 4, 96, 79, 177]
abbrev dktX13_day_8 : List UInt8 := dkwX13_day_8 ++ []
def dkwX13_day_7 : List UInt8 := [155, 0, 19, 42, 29, 182, 0, 115, 42, 182, 0, 111, 62, 132, 4, 1, 167, 255, 232, 42, 180, 0, 7, 4]
abbrev dktX13_day_7 : List UInt8 := dkwX13_day_7 ++ dktX13_day_8
def dkwX13_day_6 : List UInt8 := [132, 3, 1, 167, 255, 214, 42, 182, 0, 111, 62, 3, 54, 4, 21, 4, 16, 8, 162, 0, 23, 29]
abbrev dktX13_day_6 : List UInt8 := dkwX13_day_6 ++ dktX13_day_7
def dkwX13_day_5 : List UInt8 := [21, 4, 42, 180, 0, 7, 3, 46, 162, 0, 16, 42, 29, 21, 4, 182, 0, 108, 132, 4, 1, 167, 255, 235]
abbrev dktX13_day_5 : List UInt8 := dkwX13_day_5 ++ dktX13_day_6
def dkwX13_day_4 : List UInt8 := [79, 132, 3, 1, 167, 255, 193, 3, 62, 29, 42, 180, 0, 7, 3, 46, 162, 0, 38, 29, 4, 96, 54, 4]
abbrev dktX13_day_4 : List UInt8 := dkwX13_day_4 ++ dktX13_day_5
def dkwX13_day_3 : List UInt8 := [79, 42, 180, 0, 7, 29, 8, 184, 0, 70, 17, 3, 231, 42, 29, 8, 182, 0, 57, 4, 96, 184, 0, 101]
abbrev dktX13_day_3 : List UInt8 := dkwX13_day_3 ++ dktX13_day_4
def dkwX13_day_2 : List UInt8 := [180, 0, 7, 29, 5, 184, 0, 70, 3, 42, 29, 5, 182, 0, 57, 42, 29, 182, 0, 92, 100, 184, 0, 80]
abbrev dktX13_day_2 : List UInt8 := dkwX13_day_2 ++ dktX13_day_3
def dkwX13_day_1 : List UInt8 := [180, 0, 7, 16, 10, 27, 96, 46, 182, 0, 104, 3, 62, 29, 42, 180, 0, 7, 3, 46, 162, 0, 59, 42]
abbrev dktX13_day_1 : List UInt8 := dkwX13_day_1 ++ dktX13_day_2
def dkwX13_day_0 : List UInt8 := [42, 180, 0, 7, 4, 46, 16, 6, 112, 60, 42, 27, 182, 0, 65, 61, 28, 155, 0, 17, 42, 28, 42]
abbrev dktX13_day_0 : List UInt8 := dkwX13_day_0 ++ dktX13_day_1
theorem dksX13_day_0 : cX13_day.data.toList.drop 0 = dktX13_day_0 := by decide +kernel
theorem dksX13_day_1 : cX13_day.data.toList.drop 23 = dktX13_day_1 := dk_seg dksX13_day_0 23 rfl rfl
theorem dksX13_day_2 : cX13_day.data.toList.drop 47 = dktX13_day_2 := dk_seg dksX13_day_1 24 rfl rfl
theorem dksX13_day_3 : cX13_day.data.toList.drop 71 = dktX13_day_3 := dk_seg dksX13_day_2 24 rfl rfl
theorem dksX13_day_4 : cX13_day.data.toList.drop 95 = dktX13_day_4 := dk_seg dksX13_day_3 24 rfl rfl
theorem dksX13_day_5 : cX13_day.data.toList.drop 119 = dktX13_day_5 := dk_seg dksX13_day_4 24 rfl rfl
theorem dksX13_day_6 : cX13_day.data.toList.drop 143 = dktX13_day_6 := dk_seg dksX13_day_5 24 rfl rfl
theorem dksX13_day_7 : cX13_day.data.toList.drop 165 = dktX13_day_7 := dk_seg dksX13_day_6 22 rfl rfl
theorem dksX13_day_8 : cX13_day.data.toList.drop 189 = dktX13_day_8 := dk_seg dksX13_day_7 24 rfl rfl
theorem dX13_day_0 : decode cX13_day 0 = .ok (.aload_n 0, 1) := dk_42 (dk_at dksX13_day_0 0 rfl rfl)
theorem dX13_day_1 : decode cX13_day 1 = .ok (.getfield 7, 3) := dk_180 0 7 (dk_at dksX13_day_0 1 rfl rfl)
theorem dX13_day_4 : decode cX13_day 4 = .ok (.iconst 1, 1) := dk_4 (dk_at dksX13_day_0 4 rfl rfl)
theorem dX13_day_5 : decode cX13_day 5 = .ok (.iaload, 1) := dk_46 (dk_at dksX13_day_0 5 rfl rfl)
theorem dX13_day_6 : decode cX13_day 6 = .ok (.bipush 6, 2) := dk_16 6 (dk_at dksX13_day_0 6 rfl rfl)
theorem dX13_day_8 : decode cX13_day 8 = .ok (.irem, 1) := dk_112 (dk_at dksX13_day_0 8 rfl rfl)
theorem dX13_day_9 : decode cX13_day 9 = .ok (.istore_n 1, 1) := dk_60 (dk_at dksX13_day_0 9 rfl rfl)
theorem dX13_day_10 : decode cX13_day 10 = .ok (.aload_n 0, 1) := dk_42 (dk_at dksX13_day_0 10 rfl rfl)
theorem dX13_day_11 : decode cX13_day 11 = .ok (.iload_n 1, 1) := dk_27 (dk_at dksX13_day_0 11 rfl rfl)
theorem dX13_day_12 : decode cX13_day 12 = .ok (.invokevirtual 65, 3) := dk_182 0 65 (dk_at dksX13_day_0 12 rfl rfl)
theorem dX13_day_15 : decode cX13_day 15 = .ok (.istore_n 2, 1) := dk_61 (dk_at dksX13_day_0 15 rfl rfl)
theorem dX13_day_16 : decode cX13_day 16 = .ok (.iload_n 2, 1) := dk_28 (dk_at dksX13_day_0 16 rfl rfl)
theorem dX13_day_17 : decode cX13_day 17 = .ok (.ifCond .lt 17, 3) := dk_155 0 17 (dk_at dksX13_day_0 17 rfl rfl)
theorem dX13_day_20 : decode cX13_day 20 = .ok (.aload_n 0, 1) := dk_42 (dk_at dksX13_day_0 20 rfl rfl)
theorem dX13_day_21 : decode cX13_day 21 = .ok (.iload_n 2, 1) := dk_28 (dk_at dksX13_day_0 21 rfl rfl)
theorem dX13_day_22 : decode cX13_day 22 = .ok (.aload_n 0, 1) := dk_42 (dk_at dksX13_day_0 22 rfl rfl)
theorem dX13_day_23 : decode cX13_day 23 = .ok (.getfield 7, 3) := dk_180 0 7 (dk_at dksX13_day_1 0 rfl rfl)
theorem dX13_day_26 : decode cX13_day 26 = .ok (.bipush 10, 2) := dk_16 10 (dk_at dksX13_day_1 3 rfl rfl)
theorem dX13_day_28 : decode cX13_day 28 = .ok (.iload_n 1, 1) := dk_27 (dk_at dksX13_day_1 5 rfl rfl)
theorem dX13_day_29 : decode cX13_day 29 = .ok (.iadd, 1) := dk_96 (dk_at dksX13_day_1 6 rfl rfl)
theorem dX13_day_30 : decode cX13_day 30 = .ok (.iaload, 1) := dk_46 (dk_at dksX13_day_1 7 rfl rfl)
theorem dX13_day_31 : decode cX13_day 31 = .ok (.invokevirtual 104, 3) := dk_182 0 104 (dk_at dksX13_day_1 8 rfl rfl)
theorem dX13_day_34 : decode cX13_day 34 = .ok (.iconst 0, 1) := dk_3 (dk_at dksX13_day_1 11 rfl rfl)
theorem dX13_day_35 : decode cX13_day 35 = .ok (.istore_n 3, 1) := dk_62 (dk_at dksX13_day_1 12 rfl rfl)
theorem dX13_day_36 : decode cX13_day 36 = .ok (.iload_n 3, 1) := dk_29 (dk_at dksX13_day_1 13 rfl rfl)
theorem dX13_day_37 : decode cX13_day 37 = .ok (.aload_n 0, 1) := dk_42 (dk_at dksX13_day_1 14 rfl rfl)
theorem dX13_day_38 : decode cX13_day 38 = .ok (.getfield 7, 3) := dk_180 0 7 (dk_at dksX13_day_1 15 rfl rfl)
theorem dX13_day_41 : decode cX13_day 41 = .ok (.iconst 0, 1) := dk_3 (dk_at dksX13_day_1 18 rfl rfl)
theorem dX13_day_42 : decode cX13_day 42 = .ok (.iaload, 1) := dk_46 (dk_at dksX13_day_1 19 rfl rfl)
theorem dX13_day_43 : decode cX13_day 43 = .ok (.if_icmp .ge 59, 3) := dk_162 0 59 (dk_at dksX13_day_1 20 rfl rfl)
theorem dX13_day_46 : decode cX13_day 46 = .ok (.aload_n 0, 1) := dk_42 (dk_at dksX13_day_1 23 rfl rfl)
theorem dX13_day_47 : decode cX13_day 47 = .ok (.getfield 7, 3) := dk_180 0 7 (dk_at dksX13_day_2 0 rfl rfl)
theorem dX13_day_50 : decode cX13_day 50 = .ok (.iload_n 3, 1) := dk_29 (dk_at dksX13_day_2 3 rfl rfl)
theorem dX13_day_51 : decode cX13_day 51 = .ok (.iconst 2, 1) := dk_5 (dk_at dksX13_day_2 4 rfl rfl)
theorem dX13_day_52 : decode cX13_day 52 = .ok (.invokestatic 70, 3) := dk_184 0 70 (dk_at dksX13_day_2 5 rfl rfl)
theorem dX13_day_55 : decode cX13_day 55 = .ok (.iconst 0, 1) := dk_3 (dk_at dksX13_day_2 8 rfl rfl)
theorem dX13_day_56 : decode cX13_day 56 = .ok (.aload_n 0, 1) := dk_42 (dk_at dksX13_day_2 9 rfl rfl)
theorem dX13_day_57 : decode cX13_day 57 = .ok (.iload_n 3, 1) := dk_29 (dk_at dksX13_day_2 10 rfl rfl)
theorem dX13_day_58 : decode cX13_day 58 = .ok (.iconst 2, 1) := dk_5 (dk_at dksX13_day_2 11 rfl rfl)
theorem dX13_day_59 : decode cX13_day 59 = .ok (.invokevirtual 57, 3) := dk_182 0 57 (dk_at dksX13_day_2 12 rfl rfl)
theorem dX13_day_62 : decode cX13_day 62 = .ok (.aload_n 0, 1) := dk_42 (dk_at dksX13_day_2 15 rfl rfl)
theorem dX13_day_63 : decode cX13_day 63 = .ok (.iload_n 3, 1) := dk_29 (dk_at dksX13_day_2 16 rfl rfl)
theorem dX13_day_64 : decode cX13_day 64 = .ok (.invokevirtual 92, 3) := dk_182 0 92 (dk_at dksX13_day_2 17 rfl rfl)
theorem dX13_day_67 : decode cX13_day 67 = .ok (.isub, 1) := dk_100 (dk_at dksX13_day_2 20 rfl rfl)
theorem dX13_day_68 : decode cX13_day 68 = .ok (.invokestatic 80, 3) := dk_184 0 80 (dk_at dksX13_day_2 21 rfl rfl)
theorem dX13_day_71 : decode cX13_day 71 = .ok (.iastore, 1) := dk_79 (dk_at dksX13_day_3 0 rfl rfl)
theorem dX13_day_72 : decode cX13_day 72 = .ok (.aload_n 0, 1) := dk_42 (dk_at dksX13_day_3 1 rfl rfl)
theorem dX13_day_73 : decode cX13_day 73 = .ok (.getfield 7, 3) := dk_180 0 7 (dk_at dksX13_day_3 2 rfl rfl)
theorem dX13_day_76 : decode cX13_day 76 = .ok (.iload_n 3, 1) := dk_29 (dk_at dksX13_day_3 5 rfl rfl)
theorem dX13_day_77 : decode cX13_day 77 = .ok (.iconst 5, 1) := dk_8 (dk_at dksX13_day_3 6 rfl rfl)
theorem dX13_day_78 : decode cX13_day 78 = .ok (.invokestatic 70, 3) := dk_184 0 70 (dk_at dksX13_day_3 7 rfl rfl)
theorem dX13_day_81 : decode cX13_day 81 = .ok (.sipush 999, 3) := dk_17 3 231 (dk_at dksX13_day_3 10 rfl rfl)
theorem dX13_day_84 : decode cX13_day 84 = .ok (.aload_n 0, 1) := dk_42 (dk_at dksX13_day_3 13 rfl rfl)
theorem dX13_day_85 : decode cX13_day 85 = .ok (.iload_n 3, 1) := dk_29 (dk_at dksX13_day_3 14 rfl rfl)
theorem dX13_day_86 : decode cX13_day 86 = .ok (.iconst 5, 1) := dk_8 (dk_at dksX13_day_3 15 rfl rfl)
theorem dX13_day_87 : decode cX13_day 87 = .ok (.invokevirtual 57, 3) := dk_182 0 57 (dk_at dksX13_day_3 16 rfl rfl)
theorem dX13_day_90 : decode cX13_day 90 = .ok (.iconst 1, 1) := dk_4 (dk_at dksX13_day_3 19 rfl rfl)
theorem dX13_day_91 : decode cX13_day 91 = .ok (.iadd, 1) := dk_96 (dk_at dksX13_day_3 20 rfl rfl)
theorem dX13_day_92 : decode cX13_day 92 = .ok (.invokestatic 101, 3) := dk_184 0 101 (dk_at dksX13_day_3 21 rfl rfl)
theorem dX13_day_95 : decode cX13_day 95 = .ok (.iastore, 1) := dk_79 (dk_at dksX13_day_4 0 rfl rfl)
theorem dX13_day_96 : decode cX13_day 96 = .ok (.iinc 3 1, 3) := dk_132 3 1 (dk_at dksX13_day_4 1 rfl rfl)
theorem dX13_day_99 : decode cX13_day 99 = .ok (.goto (-63), 3) := dk_167 255 193 (dk_at dksX13_day_4 4 rfl rfl)
theorem dX13_day_102 : decode cX13_day 102 = .ok (.iconst 0, 1) := dk_3 (dk_at dksX13_day_4 7 rfl rfl)
theorem dX13_day_103 : decode cX13_day 103 = .ok (.istore_n 3, 1) := dk_62 (dk_at dksX13_day_4 8 rfl rfl)
theorem dX13_day_104 : decode cX13_day 104 = .ok (.iload_n 3, 1) := dk_29 (dk_at dksX13_day_4 9 rfl rfl)
theorem dX13_day_105 : decode cX13_day 105 = .ok (.aload_n 0, 1) := dk_42 (dk_at dksX13_day_4 10 rfl rfl)
theorem dX13_day_106 : decode cX13_day 106 = .ok (.getfield 7, 3) := dk_180 0 7 (dk_at dksX13_day_4 11 rfl rfl)
theorem dX13_day_109 : decode cX13_day 109 = .ok (.iconst 0, 1) := dk_3 (dk_at dksX13_day_4 14 rfl rfl)
theorem dX13_day_110 : decode cX13_day 110 = .ok (.iaload, 1) := dk_46 (dk_at dksX13_day_4 15 rfl rfl)
theorem dX13_day_111 : decode cX13_day 111 = .ok (.if_icmp .ge 38, 3) := dk_162 0 38 (dk_at dksX13_day_4 16 rfl rfl)
theorem dX13_day_114 : decode cX13_day 114 = .ok (.iload_n 3, 1) := dk_29 (dk_at dksX13_day_4 19 rfl rfl)
theorem dX13_day_115 : decode cX13_day 115 = .ok (.iconst 1, 1) := dk_4 (dk_at dksX13_day_4 20 rfl rfl)
theorem dX13_day_116 : decode cX13_day 116 = .ok (.iadd, 1) := dk_96 (dk_at dksX13_day_4 21 rfl rfl)
theorem dX13_day_117 : decode cX13_day 117 = .ok (.istore 4, 2) := dk_54 4 (dk_at dksX13_day_4 22 rfl rfl)
theorem dX13_day_119 : decode cX13_day 119 = .ok (.iload 4, 2) := dk_21 4 (dk_at dksX13_day_5 0 rfl rfl)
theorem dX13_day_121 : decode cX13_day 121 = .ok (.aload_n 0, 1) := dk_42 (dk_at dksX13_day_5 2 rfl rfl)
theorem dX13_day_122 : decode cX13_day 122 = .ok (.getfield 7, 3) := dk_180 0 7 (dk_at dksX13_day_5 3 rfl rfl)
theorem dX13_day_125 : decode cX13_day 125 = .ok (.iconst 0, 1) := dk_3 (dk_at dksX13_day_5 6 rfl rfl)
theorem dX13_day_126 : decode cX13_day 126 = .ok (.iaload, 1) := dk_46 (dk_at dksX13_day_5 7 rfl rfl)
theorem dX13_day_127 : decode cX13_day 127 = .ok (.if_icmp .ge 16, 3) := dk_162 0 16 (dk_at dksX13_day_5 8 rfl rfl)
theorem dX13_day_130 : decode cX13_day 130 = .ok (.aload_n 0, 1) := dk_42 (dk_at dksX13_day_5 11 rfl rfl)
theorem dX13_day_131 : decode cX13_day 131 = .ok (.iload_n 3, 1) := dk_29 (dk_at dksX13_day_5 12 rfl rfl)
theorem dX13_day_132 : decode cX13_day 132 = .ok (.iload 4, 2) := dk_21 4 (dk_at dksX13_day_5 13 rfl rfl)
theorem dX13_day_134 : decode cX13_day 134 = .ok (.invokevirtual 108, 3) := dk_182 0 108 (dk_at dksX13_day_5 15 rfl rfl)
theorem dX13_day_137 : decode cX13_day 137 = .ok (.iinc 4 1, 3) := dk_132 4 1 (dk_at dksX13_day_5 18 rfl rfl)
theorem dX13_day_140 : decode cX13_day 140 = .ok (.goto (-21), 3) := dk_167 255 235 (dk_at dksX13_day_5 21 rfl rfl)
theorem dX13_day_143 : decode cX13_day 143 = .ok (.iinc 3 1, 3) := dk_132 3 1 (dk_at dksX13_day_6 0 rfl rfl)
theorem dX13_day_146 : decode cX13_day 146 = .ok (.goto (-42), 3) := dk_167 255 214 (dk_at dksX13_day_6 3 rfl rfl)
theorem dX13_day_149 : decode cX13_day 149 = .ok (.aload_n 0, 1) := dk_42 (dk_at dksX13_day_6 6 rfl rfl)
theorem dX13_day_150 : decode cX13_day 150 = .ok (.invokevirtual 111, 3) := dk_182 0 111 (dk_at dksX13_day_6 7 rfl rfl)
theorem dX13_day_153 : decode cX13_day 153 = .ok (.istore_n 3, 1) := dk_62 (dk_at dksX13_day_6 10 rfl rfl)
theorem dX13_day_154 : decode cX13_day 154 = .ok (.iconst 0, 1) := dk_3 (dk_at dksX13_day_6 11 rfl rfl)
theorem dX13_day_155 : decode cX13_day 155 = .ok (.istore 4, 2) := dk_54 4 (dk_at dksX13_day_6 12 rfl rfl)
theorem dX13_day_157 : decode cX13_day 157 = .ok (.iload 4, 2) := dk_21 4 (dk_at dksX13_day_6 14 rfl rfl)
theorem dX13_day_159 : decode cX13_day 159 = .ok (.bipush 8, 2) := dk_16 8 (dk_at dksX13_day_6 16 rfl rfl)
theorem dX13_day_161 : decode cX13_day 161 = .ok (.if_icmp .ge 23, 3) := dk_162 0 23 (dk_at dksX13_day_6 18 rfl rfl)
theorem dX13_day_164 : decode cX13_day 164 = .ok (.iload_n 3, 1) := dk_29 (dk_at dksX13_day_6 21 rfl rfl)
theorem dX13_day_165 : decode cX13_day 165 = .ok (.ifCond .lt 19, 3) := dk_155 0 19 (dk_at dksX13_day_7 0 rfl rfl)
theorem dX13_day_168 : decode cX13_day 168 = .ok (.aload_n 0, 1) := dk_42 (dk_at dksX13_day_7 3 rfl rfl)
theorem dX13_day_169 : decode cX13_day 169 = .ok (.iload_n 3, 1) := dk_29 (dk_at dksX13_day_7 4 rfl rfl)
theorem dX13_day_170 : decode cX13_day 170 = .ok (.invokevirtual 115, 3) := dk_182 0 115 (dk_at dksX13_day_7 5 rfl rfl)
theorem dX13_day_173 : decode cX13_day 173 = .ok (.aload_n 0, 1) := dk_42 (dk_at dksX13_day_7 8 rfl rfl)
theorem dX13_day_174 : decode cX13_day 174 = .ok (.invokevirtual 111, 3) := dk_182 0 111 (dk_at dksX13_day_7 9 rfl rfl)
theorem dX13_day_177 : decode cX13_day 177 = .ok (.istore_n 3, 1) := dk_62 (dk_at dksX13_day_7 12 rfl rfl)
theorem dX13_day_178 : decode cX13_day 178 = .ok (.iinc 4 1, 3) := dk_132 4 1 (dk_at dksX13_day_7 13 rfl rfl)
theorem dX13_day_181 : decode cX13_day 181 = .ok (.goto (-24), 3) := dk_167 255 232 (dk_at dksX13_day_7 16 rfl rfl)
theorem dX13_day_184 : decode cX13_day 184 = .ok (.aload_n 0, 1) := dk_42 (dk_at dksX13_day_7 19 rfl rfl)
theorem dX13_day_185 : decode cX13_day 185 = .ok (.getfield 7, 3) := dk_180 0 7 (dk_at dksX13_day_7 20 rfl rfl)
theorem dX13_day_188 : decode cX13_day 188 = .ok (.iconst 1, 1) := dk_4 (dk_at dksX13_day_7 23 rfl rfl)
theorem dX13_day_189 : decode cX13_day 189 = .ok (.dup2, 1) := dk_92 (dk_at dksX13_day_8 0 rfl rfl)
theorem dX13_day_190 : decode cX13_day 190 = .ok (.iaload, 1) := dk_46 (dk_at dksX13_day_8 1 rfl rfl)
theorem dX13_day_191 : decode cX13_day 191 = .ok (.iconst 1, 1) := dk_4 (dk_at dksX13_day_8 2 rfl rfl)
theorem dX13_day_192 : decode cX13_day 192 = .ok (.iadd, 1) := dk_96 (dk_at dksX13_day_8 3 rfl rfl)
theorem dX13_day_193 : decode cX13_day 193 = .ok (.iastore, 1) := dk_79 (dk_at dksX13_day_8 4 rfl rfl)
theorem dX13_day_194 : decode cX13_day 194 = .ok (.return_, 1) := dk_177 (dk_at dksX13_day_8 5 rfl rfl)
abbrev cX13_more : ByteArray := prog_16_method_28_code
def yX13_more : MethodName := ⟨RX13, "more", "(II)V"⟩
def dkwX13_more_1 : List UInt8 := [177]
abbrev dktX13_more_1 : List UInt8 := dkwX13_more_1 ++ []
def dkwX13_more_0 : List UInt8 := [42, 180, 0, 7, 27, 5, 184, 0, 70, 17, 3, 231, 42, 27, 5, 182, 0, 57, 28, 96, 184, 0, 101, 79]
abbrev dktX13_more_0 : List UInt8 := dkwX13_more_0 ++ dktX13_more_1
theorem dksX13_more_0 : cX13_more.data.toList.drop 0 = dktX13_more_0 := by decide +kernel
theorem dksX13_more_1 : cX13_more.data.toList.drop 24 = dktX13_more_1 := dk_seg dksX13_more_0 24 rfl rfl
theorem dX13_more_0 : decode cX13_more 0 = .ok (.aload_n 0, 1) := dk_42 (dk_at dksX13_more_0 0 rfl rfl)
theorem dX13_more_1 : decode cX13_more 1 = .ok (.getfield 7, 3) := dk_180 0 7 (dk_at dksX13_more_0 1 rfl rfl)
theorem dX13_more_4 : decode cX13_more 4 = .ok (.iload_n 1, 1) := dk_27 (dk_at dksX13_more_0 4 rfl rfl)
theorem dX13_more_5 : decode cX13_more 5 = .ok (.iconst 2, 1) := dk_5 (dk_at dksX13_more_0 5 rfl rfl)
theorem dX13_more_6 : decode cX13_more 6 = .ok (.invokestatic 70, 3) := dk_184 0 70 (dk_at dksX13_more_0 6 rfl rfl)
theorem dX13_more_9 : decode cX13_more 9 = .ok (.sipush 999, 3) := dk_17 3 231 (dk_at dksX13_more_0 9 rfl rfl)
theorem dX13_more_12 : decode cX13_more 12 = .ok (.aload_n 0, 1) := dk_42 (dk_at dksX13_more_0 12 rfl rfl)
theorem dX13_more_13 : decode cX13_more 13 = .ok (.iload_n 1, 1) := dk_27 (dk_at dksX13_more_0 13 rfl rfl)
theorem dX13_more_14 : decode cX13_more 14 = .ok (.iconst 2, 1) := dk_5 (dk_at dksX13_more_0 14 rfl rfl)
theorem dX13_more_15 : decode cX13_more 15 = .ok (.invokevirtual 57, 3) := dk_182 0 57 (dk_at dksX13_more_0 15 rfl rfl)
theorem dX13_more_18 : decode cX13_more 18 = .ok (.iload_n 2, 1) := dk_28 (dk_at dksX13_more_0 18 rfl rfl)
theorem dX13_more_19 : decode cX13_more 19 = .ok (.iadd, 1) := dk_96 (dk_at dksX13_more_0 19 rfl rfl)
theorem dX13_more_20 : decode cX13_more 20 = .ok (.invokestatic 101, 3) := dk_184 0 101 (dk_at dksX13_more_0 20 rfl rfl)
theorem dX13_more_23 : decode cX13_more 23 = .ok (.iastore, 1) := dk_79 (dk_at dksX13_more_0 23 rfl rfl)
theorem dX13_more_24 : decode cX13_more 24 = .ok (.return_, 1) := dk_177 (dk_at dksX13_more_1 0 rfl rfl)
abbrev cX13_least : ByteArray := prog_16_method_10_code
def yX13_least : MethodName := ⟨RX13, "least", "(II)I"⟩
def dkwX13_least_0 : List UInt8 := [26, 27, 162, 0, 7, 26, 167, 0, 4, 27, 172]
abbrev dktX13_least_0 : List UInt8 := dkwX13_least_0 ++ []
theorem dksX13_least_0 : cX13_least.data.toList.drop 0 = dktX13_least_0 := by decide +kernel
theorem dX13_least_0 : decode cX13_least 0 = .ok (.iload_n 0, 1) := dk_26 (dk_at dksX13_least_0 0 rfl rfl)
theorem dX13_least_1 : decode cX13_least 1 = .ok (.iload_n 1, 1) := dk_27 (dk_at dksX13_least_0 1 rfl rfl)
theorem dX13_least_2 : decode cX13_least 2 = .ok (.if_icmp .ge 7, 3) := dk_162 0 7 (dk_at dksX13_least_0 2 rfl rfl)
theorem dX13_least_5 : decode cX13_least 5 = .ok (.iload_n 0, 1) := dk_26 (dk_at dksX13_least_0 5 rfl rfl)
theorem dX13_least_6 : decode cX13_least 6 = .ok (.goto 4, 3) := dk_167 0 4 (dk_at dksX13_least_0 6 rfl rfl)
theorem dX13_least_9 : decode cX13_least 9 = .ok (.iload_n 1, 1) := dk_27 (dk_at dksX13_least_0 9 rfl rfl)
theorem dX13_least_10 : decode cX13_least 10 = .ok (.ireturn, 1) := dk_172 (dk_at dksX13_least_0 10 rfl rfl)
abbrev cX13_cancel : ByteArray := prog_16_method_29_code
def yX13_cancel : MethodName := ⟨RX13, "cancel", "(II)V"⟩
def dkwX13_cancel_3 : List UInt8 := [29, 100, 79, 177]
abbrev dktX13_cancel_3 : List UInt8 := dkwX13_cancel_3 ++ []
def dkwX13_cancel_2 : List UInt8 := [180, 0, 7, 27, 5, 184, 0, 70, 92, 46, 29, 100, 79, 42, 180, 0, 7, 28, 5, 184, 0, 70, 92, 46]
abbrev dktX13_cancel_2 : List UInt8 := dkwX13_cancel_2 ++ dktX13_cancel_3
def dkwX13_cancel_1 : List UInt8 := [182, 0, 57, 160, 0, 47, 42, 27, 5, 182, 0, 57, 42, 28, 5, 182, 0, 57, 184, 0, 101, 62, 42]
abbrev dktX13_cancel_1 : List UInt8 := dkwX13_cancel_1 ++ dktX13_cancel_2
def dkwX13_cancel_0 : List UInt8 := [42, 27, 4, 182, 0, 57, 42, 28, 4, 182, 0, 57, 160, 0, 62, 42, 27, 6, 182, 0, 57, 42, 28, 6]
abbrev dktX13_cancel_0 : List UInt8 := dkwX13_cancel_0 ++ dktX13_cancel_1
theorem dksX13_cancel_0 : cX13_cancel.data.toList.drop 0 = dktX13_cancel_0 := by decide +kernel
theorem dksX13_cancel_1 : cX13_cancel.data.toList.drop 24 = dktX13_cancel_1 := dk_seg dksX13_cancel_0 24 rfl rfl
theorem dksX13_cancel_2 : cX13_cancel.data.toList.drop 47 = dktX13_cancel_2 := dk_seg dksX13_cancel_1 23 rfl rfl
theorem dksX13_cancel_3 : cX13_cancel.data.toList.drop 71 = dktX13_cancel_3 := dk_seg dksX13_cancel_2 24 rfl rfl
theorem dX13_cancel_0 : decode cX13_cancel 0 = .ok (.aload_n 0, 1) := dk_42 (dk_at dksX13_cancel_0 0 rfl rfl)
theorem dX13_cancel_1 : decode cX13_cancel 1 = .ok (.iload_n 1, 1) := dk_27 (dk_at dksX13_cancel_0 1 rfl rfl)
theorem dX13_cancel_2 : decode cX13_cancel 2 = .ok (.iconst 1, 1) := dk_4 (dk_at dksX13_cancel_0 2 rfl rfl)
theorem dX13_cancel_3 : decode cX13_cancel 3 = .ok (.invokevirtual 57, 3) := dk_182 0 57 (dk_at dksX13_cancel_0 3 rfl rfl)
theorem dX13_cancel_6 : decode cX13_cancel 6 = .ok (.aload_n 0, 1) := dk_42 (dk_at dksX13_cancel_0 6 rfl rfl)
theorem dX13_cancel_7 : decode cX13_cancel 7 = .ok (.iload_n 2, 1) := dk_28 (dk_at dksX13_cancel_0 7 rfl rfl)
theorem dX13_cancel_8 : decode cX13_cancel 8 = .ok (.iconst 1, 1) := dk_4 (dk_at dksX13_cancel_0 8 rfl rfl)
theorem dX13_cancel_9 : decode cX13_cancel 9 = .ok (.invokevirtual 57, 3) := dk_182 0 57 (dk_at dksX13_cancel_0 9 rfl rfl)
theorem dX13_cancel_12 : decode cX13_cancel 12 = .ok (.if_icmp .ne 62, 3) := dk_160 0 62 (dk_at dksX13_cancel_0 12 rfl rfl)
theorem dX13_cancel_15 : decode cX13_cancel 15 = .ok (.aload_n 0, 1) := dk_42 (dk_at dksX13_cancel_0 15 rfl rfl)
theorem dX13_cancel_16 : decode cX13_cancel 16 = .ok (.iload_n 1, 1) := dk_27 (dk_at dksX13_cancel_0 16 rfl rfl)
theorem dX13_cancel_17 : decode cX13_cancel 17 = .ok (.iconst 3, 1) := dk_6 (dk_at dksX13_cancel_0 17 rfl rfl)
theorem dX13_cancel_18 : decode cX13_cancel 18 = .ok (.invokevirtual 57, 3) := dk_182 0 57 (dk_at dksX13_cancel_0 18 rfl rfl)
theorem dX13_cancel_21 : decode cX13_cancel 21 = .ok (.aload_n 0, 1) := dk_42 (dk_at dksX13_cancel_0 21 rfl rfl)
theorem dX13_cancel_22 : decode cX13_cancel 22 = .ok (.iload_n 2, 1) := dk_28 (dk_at dksX13_cancel_0 22 rfl rfl)
theorem dX13_cancel_23 : decode cX13_cancel 23 = .ok (.iconst 3, 1) := dk_6 (dk_at dksX13_cancel_0 23 rfl rfl)
theorem dX13_cancel_24 : decode cX13_cancel 24 = .ok (.invokevirtual 57, 3) := dk_182 0 57 (dk_at dksX13_cancel_1 0 rfl rfl)
theorem dX13_cancel_27 : decode cX13_cancel 27 = .ok (.if_icmp .ne 47, 3) := dk_160 0 47 (dk_at dksX13_cancel_1 3 rfl rfl)
theorem dX13_cancel_30 : decode cX13_cancel 30 = .ok (.aload_n 0, 1) := dk_42 (dk_at dksX13_cancel_1 6 rfl rfl)
theorem dX13_cancel_31 : decode cX13_cancel 31 = .ok (.iload_n 1, 1) := dk_27 (dk_at dksX13_cancel_1 7 rfl rfl)
theorem dX13_cancel_32 : decode cX13_cancel 32 = .ok (.iconst 2, 1) := dk_5 (dk_at dksX13_cancel_1 8 rfl rfl)
theorem dX13_cancel_33 : decode cX13_cancel 33 = .ok (.invokevirtual 57, 3) := dk_182 0 57 (dk_at dksX13_cancel_1 9 rfl rfl)
theorem dX13_cancel_36 : decode cX13_cancel 36 = .ok (.aload_n 0, 1) := dk_42 (dk_at dksX13_cancel_1 12 rfl rfl)
theorem dX13_cancel_37 : decode cX13_cancel 37 = .ok (.iload_n 2, 1) := dk_28 (dk_at dksX13_cancel_1 13 rfl rfl)
theorem dX13_cancel_38 : decode cX13_cancel 38 = .ok (.iconst 2, 1) := dk_5 (dk_at dksX13_cancel_1 14 rfl rfl)
theorem dX13_cancel_39 : decode cX13_cancel 39 = .ok (.invokevirtual 57, 3) := dk_182 0 57 (dk_at dksX13_cancel_1 15 rfl rfl)
theorem dX13_cancel_42 : decode cX13_cancel 42 = .ok (.invokestatic 101, 3) := dk_184 0 101 (dk_at dksX13_cancel_1 18 rfl rfl)
theorem dX13_cancel_45 : decode cX13_cancel 45 = .ok (.istore_n 3, 1) := dk_62 (dk_at dksX13_cancel_1 21 rfl rfl)
theorem dX13_cancel_46 : decode cX13_cancel 46 = .ok (.aload_n 0, 1) := dk_42 (dk_at dksX13_cancel_1 22 rfl rfl)
theorem dX13_cancel_47 : decode cX13_cancel 47 = .ok (.getfield 7, 3) := dk_180 0 7 (dk_at dksX13_cancel_2 0 rfl rfl)
theorem dX13_cancel_50 : decode cX13_cancel 50 = .ok (.iload_n 1, 1) := dk_27 (dk_at dksX13_cancel_2 3 rfl rfl)
theorem dX13_cancel_51 : decode cX13_cancel 51 = .ok (.iconst 2, 1) := dk_5 (dk_at dksX13_cancel_2 4 rfl rfl)
theorem dX13_cancel_52 : decode cX13_cancel 52 = .ok (.invokestatic 70, 3) := dk_184 0 70 (dk_at dksX13_cancel_2 5 rfl rfl)
theorem dX13_cancel_55 : decode cX13_cancel 55 = .ok (.dup2, 1) := dk_92 (dk_at dksX13_cancel_2 8 rfl rfl)
theorem dX13_cancel_56 : decode cX13_cancel 56 = .ok (.iaload, 1) := dk_46 (dk_at dksX13_cancel_2 9 rfl rfl)
theorem dX13_cancel_57 : decode cX13_cancel 57 = .ok (.iload_n 3, 1) := dk_29 (dk_at dksX13_cancel_2 10 rfl rfl)
theorem dX13_cancel_58 : decode cX13_cancel 58 = .ok (.isub, 1) := dk_100 (dk_at dksX13_cancel_2 11 rfl rfl)
theorem dX13_cancel_59 : decode cX13_cancel 59 = .ok (.iastore, 1) := dk_79 (dk_at dksX13_cancel_2 12 rfl rfl)
theorem dX13_cancel_60 : decode cX13_cancel 60 = .ok (.aload_n 0, 1) := dk_42 (dk_at dksX13_cancel_2 13 rfl rfl)
theorem dX13_cancel_61 : decode cX13_cancel 61 = .ok (.getfield 7, 3) := dk_180 0 7 (dk_at dksX13_cancel_2 14 rfl rfl)
theorem dX13_cancel_64 : decode cX13_cancel 64 = .ok (.iload_n 2, 1) := dk_28 (dk_at dksX13_cancel_2 17 rfl rfl)
theorem dX13_cancel_65 : decode cX13_cancel 65 = .ok (.iconst 2, 1) := dk_5 (dk_at dksX13_cancel_2 18 rfl rfl)
theorem dX13_cancel_66 : decode cX13_cancel 66 = .ok (.invokestatic 70, 3) := dk_184 0 70 (dk_at dksX13_cancel_2 19 rfl rfl)
theorem dX13_cancel_69 : decode cX13_cancel 69 = .ok (.dup2, 1) := dk_92 (dk_at dksX13_cancel_2 22 rfl rfl)
theorem dX13_cancel_70 : decode cX13_cancel 70 = .ok (.iaload, 1) := dk_46 (dk_at dksX13_cancel_2 23 rfl rfl)
theorem dX13_cancel_71 : decode cX13_cancel 71 = .ok (.iload_n 3, 1) := dk_29 (dk_at dksX13_cancel_3 0 rfl rfl)
theorem dX13_cancel_72 : decode cX13_cancel 72 = .ok (.isub, 1) := dk_100 (dk_at dksX13_cancel_3 1 rfl rfl)
theorem dX13_cancel_73 : decode cX13_cancel 73 = .ok (.iastore, 1) := dk_79 (dk_at dksX13_cancel_3 2 rfl rfl)
theorem dX13_cancel_74 : decode cX13_cancel 74 = .ok (.return_, 1) := dk_177 (dk_at dksX13_cancel_3 3 rfl rfl)
abbrev cX13_strained : ByteArray := prog_16_method_30_code
def yX13_strained : MethodName := ⟨RX13, "strained", "()I"⟩
def dkwX13_strained_2 : List UInt8 := [172]
abbrev dktX13_strained_2 : List UInt8 := dkwX13_strained_2 ++ []
def dkwX13_strained_1 : List UInt8 := [163, 0, 9, 132, 1, 1, 167, 255, 230, 27, 42, 180, 0, 7, 3, 46, 162, 0, 7, 27, 167, 0, 4, 2]
abbrev dktX13_strained_1 : List UInt8 := dkwX13_strained_1 ++ dktX13_strained_2
def dkwX13_strained_0 : List UInt8 := [3, 60, 27, 42, 180, 0, 7, 3, 46, 162, 0, 22, 42, 27, 182, 0, 89, 42, 27, 182, 0, 95]
abbrev dktX13_strained_0 : List UInt8 := dkwX13_strained_0 ++ dktX13_strained_1
theorem dksX13_strained_0 : cX13_strained.data.toList.drop 0 = dktX13_strained_0 := by decide +kernel
theorem dksX13_strained_1 : cX13_strained.data.toList.drop 22 = dktX13_strained_1 := dk_seg dksX13_strained_0 22 rfl rfl
theorem dksX13_strained_2 : cX13_strained.data.toList.drop 46 = dktX13_strained_2 := dk_seg dksX13_strained_1 24 rfl rfl
theorem dX13_strained_0 : decode cX13_strained 0 = .ok (.iconst 0, 1) := dk_3 (dk_at dksX13_strained_0 0 rfl rfl)
theorem dX13_strained_1 : decode cX13_strained 1 = .ok (.istore_n 1, 1) := dk_60 (dk_at dksX13_strained_0 1 rfl rfl)
theorem dX13_strained_2 : decode cX13_strained 2 = .ok (.iload_n 1, 1) := dk_27 (dk_at dksX13_strained_0 2 rfl rfl)
theorem dX13_strained_3 : decode cX13_strained 3 = .ok (.aload_n 0, 1) := dk_42 (dk_at dksX13_strained_0 3 rfl rfl)
theorem dX13_strained_4 : decode cX13_strained 4 = .ok (.getfield 7, 3) := dk_180 0 7 (dk_at dksX13_strained_0 4 rfl rfl)
theorem dX13_strained_7 : decode cX13_strained 7 = .ok (.iconst 0, 1) := dk_3 (dk_at dksX13_strained_0 7 rfl rfl)
theorem dX13_strained_8 : decode cX13_strained 8 = .ok (.iaload, 1) := dk_46 (dk_at dksX13_strained_0 8 rfl rfl)
theorem dX13_strained_9 : decode cX13_strained 9 = .ok (.if_icmp .ge 22, 3) := dk_162 0 22 (dk_at dksX13_strained_0 9 rfl rfl)
theorem dX13_strained_12 : decode cX13_strained 12 = .ok (.aload_n 0, 1) := dk_42 (dk_at dksX13_strained_0 12 rfl rfl)
theorem dX13_strained_13 : decode cX13_strained 13 = .ok (.iload_n 1, 1) := dk_27 (dk_at dksX13_strained_0 13 rfl rfl)
theorem dX13_strained_14 : decode cX13_strained 14 = .ok (.invokevirtual 89, 3) := dk_182 0 89 (dk_at dksX13_strained_0 14 rfl rfl)
theorem dX13_strained_17 : decode cX13_strained 17 = .ok (.aload_n 0, 1) := dk_42 (dk_at dksX13_strained_0 17 rfl rfl)
theorem dX13_strained_18 : decode cX13_strained 18 = .ok (.iload_n 1, 1) := dk_27 (dk_at dksX13_strained_0 18 rfl rfl)
theorem dX13_strained_19 : decode cX13_strained 19 = .ok (.invokevirtual 95, 3) := dk_182 0 95 (dk_at dksX13_strained_0 19 rfl rfl)
theorem dX13_strained_22 : decode cX13_strained 22 = .ok (.if_icmp .gt 9, 3) := dk_163 0 9 (dk_at dksX13_strained_1 0 rfl rfl)
theorem dX13_strained_25 : decode cX13_strained 25 = .ok (.iinc 1 1, 3) := dk_132 1 1 (dk_at dksX13_strained_1 3 rfl rfl)
theorem dX13_strained_28 : decode cX13_strained 28 = .ok (.goto (-26), 3) := dk_167 255 230 (dk_at dksX13_strained_1 6 rfl rfl)
theorem dX13_strained_31 : decode cX13_strained 31 = .ok (.iload_n 1, 1) := dk_27 (dk_at dksX13_strained_1 9 rfl rfl)
theorem dX13_strained_32 : decode cX13_strained 32 = .ok (.aload_n 0, 1) := dk_42 (dk_at dksX13_strained_1 10 rfl rfl)
theorem dX13_strained_33 : decode cX13_strained 33 = .ok (.getfield 7, 3) := dk_180 0 7 (dk_at dksX13_strained_1 11 rfl rfl)
theorem dX13_strained_36 : decode cX13_strained 36 = .ok (.iconst 0, 1) := dk_3 (dk_at dksX13_strained_1 14 rfl rfl)
theorem dX13_strained_37 : decode cX13_strained 37 = .ok (.iaload, 1) := dk_46 (dk_at dksX13_strained_1 15 rfl rfl)
theorem dX13_strained_38 : decode cX13_strained 38 = .ok (.if_icmp .ge 7, 3) := dk_162 0 7 (dk_at dksX13_strained_1 16 rfl rfl)
theorem dX13_strained_41 : decode cX13_strained 41 = .ok (.iload_n 1, 1) := dk_27 (dk_at dksX13_strained_1 19 rfl rfl)
theorem dX13_strained_42 : decode cX13_strained 42 = .ok (.goto 4, 3) := dk_167 0 4 (dk_at dksX13_strained_1 20 rfl rfl)
theorem dX13_strained_45 : decode cX13_strained 45 = .ok (.iconst (-1), 1) := dk_2 (dk_at dksX13_strained_1 23 rfl rfl)
theorem dX13_strained_46 : decode cX13_strained 46 = .ok (.ireturn, 1) := dk_172 (dk_at dksX13_strained_2 0 rfl rfl)
abbrev cX13_burst : ByteArray := prog_16_method_31_code
def yX13_burst : MethodName := ⟨RX13, "burst", "(I)V"⟩
def dkwX13_burst_5 : List UInt8 := [184, 0, 101, 79, 177]
abbrev dktX13_burst_5 : List UInt8 := dkwX13_burst_5 ++ []
def dkwX13_burst_4 : List UInt8 := [182, 0, 57, 4, 96, 184, 0, 101, 79, 42, 180, 0, 7, 6, 18, 107, 42, 180, 0, 7, 6, 46, 4, 96]
abbrev dktX13_burst_4 : List UInt8 := dkwX13_burst_4 ++ dktX13_burst_5
def dkwX13_burst_3 : List UInt8 := [184, 0, 70, 3, 79, 42, 180, 0, 7, 27, 16, 6, 184, 0, 70, 17, 3, 231, 42, 27, 16, 6]
abbrev dktX13_burst_3 : List UInt8 := dkwX13_burst_3 ++ dktX13_burst_4
def dkwX13_burst_2 : List UInt8 := [132, 3, 1, 167, 255, 217, 42, 180, 0, 7, 27, 5, 184, 0, 70, 3, 79, 42, 180, 0, 7, 27, 8]
abbrev dktX13_burst_2 : List UInt8 := dkwX13_burst_2 ++ dktX13_burst_3
def dkwX13_burst_1 : List UInt8 := [159, 0, 24, 42, 29, 4, 182, 0, 57, 42, 27, 4, 182, 0, 57, 160, 0, 9, 42, 29, 28, 182, 0, 104]
abbrev dktX13_burst_1 : List UInt8 := dkwX13_burst_1 ++ dktX13_burst_2
def dkwX13_burst_0 : List UInt8 := [42, 27, 5, 182, 0, 57, 5, 108, 61, 3, 62, 29, 42, 180, 0, 7, 3, 46, 162, 0, 35, 29, 27]
abbrev dktX13_burst_0 : List UInt8 := dkwX13_burst_0 ++ dktX13_burst_1
theorem dksX13_burst_0 : cX13_burst.data.toList.drop 0 = dktX13_burst_0 := by decide +kernel
theorem dksX13_burst_1 : cX13_burst.data.toList.drop 23 = dktX13_burst_1 := dk_seg dksX13_burst_0 23 rfl rfl
theorem dksX13_burst_2 : cX13_burst.data.toList.drop 47 = dktX13_burst_2 := dk_seg dksX13_burst_1 24 rfl rfl
theorem dksX13_burst_3 : cX13_burst.data.toList.drop 70 = dktX13_burst_3 := dk_seg dksX13_burst_2 23 rfl rfl
theorem dksX13_burst_4 : cX13_burst.data.toList.drop 92 = dktX13_burst_4 := dk_seg dksX13_burst_3 22 rfl rfl
theorem dksX13_burst_5 : cX13_burst.data.toList.drop 116 = dktX13_burst_5 := dk_seg dksX13_burst_4 24 rfl rfl
theorem dX13_burst_0 : decode cX13_burst 0 = .ok (.aload_n 0, 1) := dk_42 (dk_at dksX13_burst_0 0 rfl rfl)
theorem dX13_burst_1 : decode cX13_burst 1 = .ok (.iload_n 1, 1) := dk_27 (dk_at dksX13_burst_0 1 rfl rfl)
theorem dX13_burst_2 : decode cX13_burst 2 = .ok (.iconst 2, 1) := dk_5 (dk_at dksX13_burst_0 2 rfl rfl)
theorem dX13_burst_3 : decode cX13_burst 3 = .ok (.invokevirtual 57, 3) := dk_182 0 57 (dk_at dksX13_burst_0 3 rfl rfl)
theorem dX13_burst_6 : decode cX13_burst 6 = .ok (.iconst 2, 1) := dk_5 (dk_at dksX13_burst_0 6 rfl rfl)
theorem dX13_burst_7 : decode cX13_burst 7 = .ok (.idiv, 1) := dk_108 (dk_at dksX13_burst_0 7 rfl rfl)
theorem dX13_burst_8 : decode cX13_burst 8 = .ok (.istore_n 2, 1) := dk_61 (dk_at dksX13_burst_0 8 rfl rfl)
theorem dX13_burst_9 : decode cX13_burst 9 = .ok (.iconst 0, 1) := dk_3 (dk_at dksX13_burst_0 9 rfl rfl)
theorem dX13_burst_10 : decode cX13_burst 10 = .ok (.istore_n 3, 1) := dk_62 (dk_at dksX13_burst_0 10 rfl rfl)
theorem dX13_burst_11 : decode cX13_burst 11 = .ok (.iload_n 3, 1) := dk_29 (dk_at dksX13_burst_0 11 rfl rfl)
theorem dX13_burst_12 : decode cX13_burst 12 = .ok (.aload_n 0, 1) := dk_42 (dk_at dksX13_burst_0 12 rfl rfl)
theorem dX13_burst_13 : decode cX13_burst 13 = .ok (.getfield 7, 3) := dk_180 0 7 (dk_at dksX13_burst_0 13 rfl rfl)
theorem dX13_burst_16 : decode cX13_burst 16 = .ok (.iconst 0, 1) := dk_3 (dk_at dksX13_burst_0 16 rfl rfl)
theorem dX13_burst_17 : decode cX13_burst 17 = .ok (.iaload, 1) := dk_46 (dk_at dksX13_burst_0 17 rfl rfl)
theorem dX13_burst_18 : decode cX13_burst 18 = .ok (.if_icmp .ge 35, 3) := dk_162 0 35 (dk_at dksX13_burst_0 18 rfl rfl)
theorem dX13_burst_21 : decode cX13_burst 21 = .ok (.iload_n 3, 1) := dk_29 (dk_at dksX13_burst_0 21 rfl rfl)
theorem dX13_burst_22 : decode cX13_burst 22 = .ok (.iload_n 1, 1) := dk_27 (dk_at dksX13_burst_0 22 rfl rfl)
theorem dX13_burst_23 : decode cX13_burst 23 = .ok (.if_icmp .eq 24, 3) := dk_159 0 24 (dk_at dksX13_burst_1 0 rfl rfl)
theorem dX13_burst_26 : decode cX13_burst 26 = .ok (.aload_n 0, 1) := dk_42 (dk_at dksX13_burst_1 3 rfl rfl)
theorem dX13_burst_27 : decode cX13_burst 27 = .ok (.iload_n 3, 1) := dk_29 (dk_at dksX13_burst_1 4 rfl rfl)
theorem dX13_burst_28 : decode cX13_burst 28 = .ok (.iconst 1, 1) := dk_4 (dk_at dksX13_burst_1 5 rfl rfl)
theorem dX13_burst_29 : decode cX13_burst 29 = .ok (.invokevirtual 57, 3) := dk_182 0 57 (dk_at dksX13_burst_1 6 rfl rfl)
theorem dX13_burst_32 : decode cX13_burst 32 = .ok (.aload_n 0, 1) := dk_42 (dk_at dksX13_burst_1 9 rfl rfl)
theorem dX13_burst_33 : decode cX13_burst 33 = .ok (.iload_n 1, 1) := dk_27 (dk_at dksX13_burst_1 10 rfl rfl)
theorem dX13_burst_34 : decode cX13_burst 34 = .ok (.iconst 1, 1) := dk_4 (dk_at dksX13_burst_1 11 rfl rfl)
theorem dX13_burst_35 : decode cX13_burst 35 = .ok (.invokevirtual 57, 3) := dk_182 0 57 (dk_at dksX13_burst_1 12 rfl rfl)
theorem dX13_burst_38 : decode cX13_burst 38 = .ok (.if_icmp .ne 9, 3) := dk_160 0 9 (dk_at dksX13_burst_1 15 rfl rfl)
theorem dX13_burst_41 : decode cX13_burst 41 = .ok (.aload_n 0, 1) := dk_42 (dk_at dksX13_burst_1 18 rfl rfl)
theorem dX13_burst_42 : decode cX13_burst 42 = .ok (.iload_n 3, 1) := dk_29 (dk_at dksX13_burst_1 19 rfl rfl)
theorem dX13_burst_43 : decode cX13_burst 43 = .ok (.iload_n 2, 1) := dk_28 (dk_at dksX13_burst_1 20 rfl rfl)
theorem dX13_burst_44 : decode cX13_burst 44 = .ok (.invokevirtual 104, 3) := dk_182 0 104 (dk_at dksX13_burst_1 21 rfl rfl)
theorem dX13_burst_47 : decode cX13_burst 47 = .ok (.iinc 3 1, 3) := dk_132 3 1 (dk_at dksX13_burst_2 0 rfl rfl)
theorem dX13_burst_50 : decode cX13_burst 50 = .ok (.goto (-39), 3) := dk_167 255 217 (dk_at dksX13_burst_2 3 rfl rfl)
theorem dX13_burst_53 : decode cX13_burst 53 = .ok (.aload_n 0, 1) := dk_42 (dk_at dksX13_burst_2 6 rfl rfl)
theorem dX13_burst_54 : decode cX13_burst 54 = .ok (.getfield 7, 3) := dk_180 0 7 (dk_at dksX13_burst_2 7 rfl rfl)
theorem dX13_burst_57 : decode cX13_burst 57 = .ok (.iload_n 1, 1) := dk_27 (dk_at dksX13_burst_2 10 rfl rfl)
theorem dX13_burst_58 : decode cX13_burst 58 = .ok (.iconst 2, 1) := dk_5 (dk_at dksX13_burst_2 11 rfl rfl)
theorem dX13_burst_59 : decode cX13_burst 59 = .ok (.invokestatic 70, 3) := dk_184 0 70 (dk_at dksX13_burst_2 12 rfl rfl)
theorem dX13_burst_62 : decode cX13_burst 62 = .ok (.iconst 0, 1) := dk_3 (dk_at dksX13_burst_2 15 rfl rfl)
theorem dX13_burst_63 : decode cX13_burst 63 = .ok (.iastore, 1) := dk_79 (dk_at dksX13_burst_2 16 rfl rfl)
theorem dX13_burst_64 : decode cX13_burst 64 = .ok (.aload_n 0, 1) := dk_42 (dk_at dksX13_burst_2 17 rfl rfl)
theorem dX13_burst_65 : decode cX13_burst 65 = .ok (.getfield 7, 3) := dk_180 0 7 (dk_at dksX13_burst_2 18 rfl rfl)
theorem dX13_burst_68 : decode cX13_burst 68 = .ok (.iload_n 1, 1) := dk_27 (dk_at dksX13_burst_2 21 rfl rfl)
theorem dX13_burst_69 : decode cX13_burst 69 = .ok (.iconst 5, 1) := dk_8 (dk_at dksX13_burst_2 22 rfl rfl)
theorem dX13_burst_70 : decode cX13_burst 70 = .ok (.invokestatic 70, 3) := dk_184 0 70 (dk_at dksX13_burst_3 0 rfl rfl)
theorem dX13_burst_73 : decode cX13_burst 73 = .ok (.iconst 0, 1) := dk_3 (dk_at dksX13_burst_3 3 rfl rfl)
theorem dX13_burst_74 : decode cX13_burst 74 = .ok (.iastore, 1) := dk_79 (dk_at dksX13_burst_3 4 rfl rfl)
theorem dX13_burst_75 : decode cX13_burst 75 = .ok (.aload_n 0, 1) := dk_42 (dk_at dksX13_burst_3 5 rfl rfl)
theorem dX13_burst_76 : decode cX13_burst 76 = .ok (.getfield 7, 3) := dk_180 0 7 (dk_at dksX13_burst_3 6 rfl rfl)
theorem dX13_burst_79 : decode cX13_burst 79 = .ok (.iload_n 1, 1) := dk_27 (dk_at dksX13_burst_3 9 rfl rfl)
theorem dX13_burst_80 : decode cX13_burst 80 = .ok (.bipush 6, 2) := dk_16 6 (dk_at dksX13_burst_3 10 rfl rfl)
theorem dX13_burst_82 : decode cX13_burst 82 = .ok (.invokestatic 70, 3) := dk_184 0 70 (dk_at dksX13_burst_3 12 rfl rfl)
theorem dX13_burst_85 : decode cX13_burst 85 = .ok (.sipush 999, 3) := dk_17 3 231 (dk_at dksX13_burst_3 15 rfl rfl)
theorem dX13_burst_88 : decode cX13_burst 88 = .ok (.aload_n 0, 1) := dk_42 (dk_at dksX13_burst_3 18 rfl rfl)
theorem dX13_burst_89 : decode cX13_burst 89 = .ok (.iload_n 1, 1) := dk_27 (dk_at dksX13_burst_3 19 rfl rfl)
theorem dX13_burst_90 : decode cX13_burst 90 = .ok (.bipush 6, 2) := dk_16 6 (dk_at dksX13_burst_3 20 rfl rfl)
theorem dX13_burst_92 : decode cX13_burst 92 = .ok (.invokevirtual 57, 3) := dk_182 0 57 (dk_at dksX13_burst_4 0 rfl rfl)
theorem dX13_burst_95 : decode cX13_burst 95 = .ok (.iconst 1, 1) := dk_4 (dk_at dksX13_burst_4 3 rfl rfl)
theorem dX13_burst_96 : decode cX13_burst 96 = .ok (.iadd, 1) := dk_96 (dk_at dksX13_burst_4 4 rfl rfl)
theorem dX13_burst_97 : decode cX13_burst 97 = .ok (.invokestatic 101, 3) := dk_184 0 101 (dk_at dksX13_burst_4 5 rfl rfl)
theorem dX13_burst_100 : decode cX13_burst 100 = .ok (.iastore, 1) := dk_79 (dk_at dksX13_burst_4 8 rfl rfl)
theorem dX13_burst_101 : decode cX13_burst 101 = .ok (.aload_n 0, 1) := dk_42 (dk_at dksX13_burst_4 9 rfl rfl)
theorem dX13_burst_102 : decode cX13_burst 102 = .ok (.getfield 7, 3) := dk_180 0 7 (dk_at dksX13_burst_4 10 rfl rfl)
theorem dX13_burst_105 : decode cX13_burst 105 = .ok (.iconst 3, 1) := dk_6 (dk_at dksX13_burst_4 13 rfl rfl)
theorem dX13_burst_106 : decode cX13_burst 106 = .ok (.ldc 107, 2) := dk_18 107 (dk_at dksX13_burst_4 14 rfl rfl)
theorem dX13_burst_108 : decode cX13_burst 108 = .ok (.aload_n 0, 1) := dk_42 (dk_at dksX13_burst_4 16 rfl rfl)
theorem dX13_burst_109 : decode cX13_burst 109 = .ok (.getfield 7, 3) := dk_180 0 7 (dk_at dksX13_burst_4 17 rfl rfl)
theorem dX13_burst_112 : decode cX13_burst 112 = .ok (.iconst 3, 1) := dk_6 (dk_at dksX13_burst_4 20 rfl rfl)
theorem dX13_burst_113 : decode cX13_burst 113 = .ok (.iaload, 1) := dk_46 (dk_at dksX13_burst_4 21 rfl rfl)
theorem dX13_burst_114 : decode cX13_burst 114 = .ok (.iconst 1, 1) := dk_4 (dk_at dksX13_burst_4 22 rfl rfl)
theorem dX13_burst_115 : decode cX13_burst 115 = .ok (.iadd, 1) := dk_96 (dk_at dksX13_burst_4 23 rfl rfl)
theorem dX13_burst_116 : decode cX13_burst 116 = .ok (.invokestatic 101, 3) := dk_184 0 101 (dk_at dksX13_burst_5 0 rfl rfl)
theorem dX13_burst_119 : decode cX13_burst 119 = .ok (.iastore, 1) := dk_79 (dk_at dksX13_burst_5 3 rfl rfl)
theorem dX13_burst_120 : decode cX13_burst 120 = .ok (.return_, 1) := dk_177 (dk_at dksX13_burst_5 4 rfl rfl)
abbrev cX13_now : ByteArray := prog_16_method_39_code
def yX13_now : MethodName := ⟨RX13, "now", "(I)I"⟩
def dkwX13_now_4 : List UInt8 := [182, 0, 39, 172]
abbrev dktX13_now_4 : List UInt8 := dkwX13_now_4 ++ []
def dkwX13_now_3 : List UInt8 := [182, 0, 128, 172, 42, 182, 0, 131, 172, 42, 182, 0, 134, 172, 42, 182, 0, 137, 172, 42, 18, 37]
abbrev dktX13_now_3 : List UInt8 := dkwX13_now_3 ++ dktX13_now_4
def dkwX13_now_2 : List UInt8 := [42, 180, 0, 7, 4, 46, 172, 42, 180, 0, 7, 6, 46, 172, 42, 5, 182, 0, 128, 172, 42, 16, 7]
abbrev dktX13_now_2 : List UInt8 := dkwX13_now_2 ++ dktX13_now_3
def dkwX13_now_1 : List UInt8 := [170, 0, 0, 0, 0, 0, 85, 0, 0, 0, 0, 0, 0, 0, 6, 0, 0, 0, 43, 0, 0, 0, 50, 0, 0, 0, 57, 0, 0, 0, 63, 0, 0, 0, 70, 0, 0, 0, 75, 0, 0, 0, 80]
abbrev dktX13_now_1 : List UInt8 := dkwX13_now_1 ++ dktX13_now_2
def dkwX13_now_0 : List UInt8 := [27]
abbrev dktX13_now_0 : List UInt8 := dkwX13_now_0 ++ dktX13_now_1
theorem dksX13_now_0 : cX13_now.data.toList.drop 0 = dktX13_now_0 := by decide +kernel
theorem dksX13_now_1 : cX13_now.data.toList.drop 1 = dktX13_now_1 := dk_seg dksX13_now_0 1 rfl rfl
theorem dksX13_now_2 : cX13_now.data.toList.drop 44 = dktX13_now_2 := dk_seg dksX13_now_1 43 rfl rfl
theorem dksX13_now_3 : cX13_now.data.toList.drop 67 = dktX13_now_3 := dk_seg dksX13_now_2 23 rfl rfl
theorem dksX13_now_4 : cX13_now.data.toList.drop 89 = dktX13_now_4 := dk_seg dksX13_now_3 22 rfl rfl
theorem dX13_now_0 : decode cX13_now 0 = .ok (.iload_n 1, 1) := dk_27 (dk_at dksX13_now_0 0 rfl rfl)
theorem dX13_now_1 : decode cX13_now 1 = .ok (.tableswitch 85 0 6 #[43, 50, 57, 63, 70, 75, 80], 43) := by decide +kernel
theorem dX13_now_44 : decode cX13_now 44 = .ok (.aload_n 0, 1) := dk_42 (dk_at dksX13_now_2 0 rfl rfl)
theorem dX13_now_45 : decode cX13_now 45 = .ok (.getfield 7, 3) := dk_180 0 7 (dk_at dksX13_now_2 1 rfl rfl)
theorem dX13_now_48 : decode cX13_now 48 = .ok (.iconst 1, 1) := dk_4 (dk_at dksX13_now_2 4 rfl rfl)
theorem dX13_now_49 : decode cX13_now 49 = .ok (.iaload, 1) := dk_46 (dk_at dksX13_now_2 5 rfl rfl)
theorem dX13_now_50 : decode cX13_now 50 = .ok (.ireturn, 1) := dk_172 (dk_at dksX13_now_2 6 rfl rfl)
theorem dX13_now_51 : decode cX13_now 51 = .ok (.aload_n 0, 1) := dk_42 (dk_at dksX13_now_2 7 rfl rfl)
theorem dX13_now_52 : decode cX13_now 52 = .ok (.getfield 7, 3) := dk_180 0 7 (dk_at dksX13_now_2 8 rfl rfl)
theorem dX13_now_55 : decode cX13_now 55 = .ok (.iconst 3, 1) := dk_6 (dk_at dksX13_now_2 11 rfl rfl)
theorem dX13_now_56 : decode cX13_now 56 = .ok (.iaload, 1) := dk_46 (dk_at dksX13_now_2 12 rfl rfl)
theorem dX13_now_57 : decode cX13_now 57 = .ok (.ireturn, 1) := dk_172 (dk_at dksX13_now_2 13 rfl rfl)
theorem dX13_now_58 : decode cX13_now 58 = .ok (.aload_n 0, 1) := dk_42 (dk_at dksX13_now_2 14 rfl rfl)
theorem dX13_now_59 : decode cX13_now 59 = .ok (.iconst 2, 1) := dk_5 (dk_at dksX13_now_2 15 rfl rfl)
theorem dX13_now_60 : decode cX13_now 60 = .ok (.invokevirtual 128, 3) := dk_182 0 128 (dk_at dksX13_now_2 16 rfl rfl)
theorem dX13_now_63 : decode cX13_now 63 = .ok (.ireturn, 1) := dk_172 (dk_at dksX13_now_2 19 rfl rfl)
theorem dX13_now_64 : decode cX13_now 64 = .ok (.aload_n 0, 1) := dk_42 (dk_at dksX13_now_2 20 rfl rfl)
theorem dX13_now_65 : decode cX13_now 65 = .ok (.bipush 7, 2) := dk_16 7 (dk_at dksX13_now_2 21 rfl rfl)
theorem dX13_now_67 : decode cX13_now 67 = .ok (.invokevirtual 128, 3) := dk_182 0 128 (dk_at dksX13_now_3 0 rfl rfl)
theorem dX13_now_70 : decode cX13_now 70 = .ok (.ireturn, 1) := dk_172 (dk_at dksX13_now_3 3 rfl rfl)
theorem dX13_now_71 : decode cX13_now 71 = .ok (.aload_n 0, 1) := dk_42 (dk_at dksX13_now_3 4 rfl rfl)
theorem dX13_now_72 : decode cX13_now 72 = .ok (.invokevirtual 131, 3) := dk_182 0 131 (dk_at dksX13_now_3 5 rfl rfl)
theorem dX13_now_75 : decode cX13_now 75 = .ok (.ireturn, 1) := dk_172 (dk_at dksX13_now_3 8 rfl rfl)
theorem dX13_now_76 : decode cX13_now 76 = .ok (.aload_n 0, 1) := dk_42 (dk_at dksX13_now_3 9 rfl rfl)
theorem dX13_now_77 : decode cX13_now 77 = .ok (.invokevirtual 134, 3) := dk_182 0 134 (dk_at dksX13_now_3 10 rfl rfl)
theorem dX13_now_80 : decode cX13_now 80 = .ok (.ireturn, 1) := dk_172 (dk_at dksX13_now_3 13 rfl rfl)
theorem dX13_now_81 : decode cX13_now 81 = .ok (.aload_n 0, 1) := dk_42 (dk_at dksX13_now_3 14 rfl rfl)
theorem dX13_now_82 : decode cX13_now 82 = .ok (.invokevirtual 137, 3) := dk_182 0 137 (dk_at dksX13_now_3 15 rfl rfl)
theorem dX13_now_85 : decode cX13_now 85 = .ok (.ireturn, 1) := dk_172 (dk_at dksX13_now_3 18 rfl rfl)
theorem dX13_now_86 : decode cX13_now 86 = .ok (.aload_n 0, 1) := dk_42 (dk_at dksX13_now_3 19 rfl rfl)
theorem dX13_now_87 : decode cX13_now 87 = .ok (.ldc 37, 2) := dk_18 37 (dk_at dksX13_now_3 20 rfl rfl)
theorem dX13_now_89 : decode cX13_now 89 = .ok (.invokevirtual 39, 3) := dk_182 0 39 (dk_at dksX13_now_4 0 rfl rfl)
theorem dX13_now_92 : decode cX13_now 92 = .ok (.ireturn, 1) := dk_172 (dk_at dksX13_now_4 3 rfl rfl)
abbrev cX13_sumOf : ByteArray := prog_16_method_34_code
def yX13_sumOf : MethodName := ⟨RX13, "sumOf", "(I)I"⟩
def dkwX13_sumOf_1 : List UInt8 := [182, 0, 89, 167, 0, 9, 42, 29, 27, 182, 0, 57, 96, 61, 132, 3, 1, 167, 255, 220, 28, 172]
abbrev dktX13_sumOf_1 : List UInt8 := dkwX13_sumOf_1 ++ []
def dkwX13_sumOf_0 : List UInt8 := [3, 61, 3, 62, 29, 42, 180, 0, 7, 3, 46, 162, 0, 32, 28, 27, 16, 7, 160, 0, 11, 42, 29]
abbrev dktX13_sumOf_0 : List UInt8 := dkwX13_sumOf_0 ++ dktX13_sumOf_1
theorem dksX13_sumOf_0 : cX13_sumOf.data.toList.drop 0 = dktX13_sumOf_0 := by decide +kernel
theorem dksX13_sumOf_1 : cX13_sumOf.data.toList.drop 23 = dktX13_sumOf_1 := dk_seg dksX13_sumOf_0 23 rfl rfl
theorem dX13_sumOf_0 : decode cX13_sumOf 0 = .ok (.iconst 0, 1) := dk_3 (dk_at dksX13_sumOf_0 0 rfl rfl)
theorem dX13_sumOf_1 : decode cX13_sumOf 1 = .ok (.istore_n 2, 1) := dk_61 (dk_at dksX13_sumOf_0 1 rfl rfl)
theorem dX13_sumOf_2 : decode cX13_sumOf 2 = .ok (.iconst 0, 1) := dk_3 (dk_at dksX13_sumOf_0 2 rfl rfl)
theorem dX13_sumOf_3 : decode cX13_sumOf 3 = .ok (.istore_n 3, 1) := dk_62 (dk_at dksX13_sumOf_0 3 rfl rfl)
theorem dX13_sumOf_4 : decode cX13_sumOf 4 = .ok (.iload_n 3, 1) := dk_29 (dk_at dksX13_sumOf_0 4 rfl rfl)
theorem dX13_sumOf_5 : decode cX13_sumOf 5 = .ok (.aload_n 0, 1) := dk_42 (dk_at dksX13_sumOf_0 5 rfl rfl)
theorem dX13_sumOf_6 : decode cX13_sumOf 6 = .ok (.getfield 7, 3) := dk_180 0 7 (dk_at dksX13_sumOf_0 6 rfl rfl)
theorem dX13_sumOf_9 : decode cX13_sumOf 9 = .ok (.iconst 0, 1) := dk_3 (dk_at dksX13_sumOf_0 9 rfl rfl)
theorem dX13_sumOf_10 : decode cX13_sumOf 10 = .ok (.iaload, 1) := dk_46 (dk_at dksX13_sumOf_0 10 rfl rfl)
theorem dX13_sumOf_11 : decode cX13_sumOf 11 = .ok (.if_icmp .ge 32, 3) := dk_162 0 32 (dk_at dksX13_sumOf_0 11 rfl rfl)
theorem dX13_sumOf_14 : decode cX13_sumOf 14 = .ok (.iload_n 2, 1) := dk_28 (dk_at dksX13_sumOf_0 14 rfl rfl)
theorem dX13_sumOf_15 : decode cX13_sumOf 15 = .ok (.iload_n 1, 1) := dk_27 (dk_at dksX13_sumOf_0 15 rfl rfl)
theorem dX13_sumOf_16 : decode cX13_sumOf 16 = .ok (.bipush 7, 2) := dk_16 7 (dk_at dksX13_sumOf_0 16 rfl rfl)
theorem dX13_sumOf_18 : decode cX13_sumOf 18 = .ok (.if_icmp .ne 11, 3) := dk_160 0 11 (dk_at dksX13_sumOf_0 18 rfl rfl)
theorem dX13_sumOf_21 : decode cX13_sumOf 21 = .ok (.aload_n 0, 1) := dk_42 (dk_at dksX13_sumOf_0 21 rfl rfl)
theorem dX13_sumOf_22 : decode cX13_sumOf 22 = .ok (.iload_n 3, 1) := dk_29 (dk_at dksX13_sumOf_0 22 rfl rfl)
theorem dX13_sumOf_23 : decode cX13_sumOf 23 = .ok (.invokevirtual 89, 3) := dk_182 0 89 (dk_at dksX13_sumOf_1 0 rfl rfl)
theorem dX13_sumOf_26 : decode cX13_sumOf 26 = .ok (.goto 9, 3) := dk_167 0 9 (dk_at dksX13_sumOf_1 3 rfl rfl)
theorem dX13_sumOf_29 : decode cX13_sumOf 29 = .ok (.aload_n 0, 1) := dk_42 (dk_at dksX13_sumOf_1 6 rfl rfl)
theorem dX13_sumOf_30 : decode cX13_sumOf 30 = .ok (.iload_n 3, 1) := dk_29 (dk_at dksX13_sumOf_1 7 rfl rfl)
theorem dX13_sumOf_31 : decode cX13_sumOf 31 = .ok (.iload_n 1, 1) := dk_27 (dk_at dksX13_sumOf_1 8 rfl rfl)
theorem dX13_sumOf_32 : decode cX13_sumOf 32 = .ok (.invokevirtual 57, 3) := dk_182 0 57 (dk_at dksX13_sumOf_1 9 rfl rfl)
theorem dX13_sumOf_35 : decode cX13_sumOf 35 = .ok (.iadd, 1) := dk_96 (dk_at dksX13_sumOf_1 12 rfl rfl)
theorem dX13_sumOf_36 : decode cX13_sumOf 36 = .ok (.istore_n 2, 1) := dk_61 (dk_at dksX13_sumOf_1 13 rfl rfl)
theorem dX13_sumOf_37 : decode cX13_sumOf 37 = .ok (.iinc 3 1, 3) := dk_132 3 1 (dk_at dksX13_sumOf_1 14 rfl rfl)
theorem dX13_sumOf_40 : decode cX13_sumOf 40 = .ok (.goto (-36), 3) := dk_167 255 220 (dk_at dksX13_sumOf_1 17 rfl rfl)
theorem dX13_sumOf_43 : decode cX13_sumOf 43 = .ok (.iload_n 2, 1) := dk_28 (dk_at dksX13_sumOf_1 20 rfl rfl)
theorem dX13_sumOf_44 : decode cX13_sumOf 44 = .ok (.ireturn, 1) := dk_172 (dk_at dksX13_sumOf_1 21 rfl rfl)
abbrev cX13_strainedOnes : ByteArray := prog_16_method_36_code
def yX13_strainedOnes : MethodName := ⟨RX13, "strainedOnes", "()I"⟩
def dkwX13_strainedOnes_1 : List UInt8 := [182, 0, 95, 164, 0, 9, 4, 28, 120, 167, 0, 4, 3, 128, 60, 132, 2, 1, 167, 255, 220, 27, 172]
abbrev dktX13_strainedOnes_1 : List UInt8 := dkwX13_strainedOnes_1 ++ []
def dkwX13_strainedOnes_0 : List UInt8 := [3, 60, 3, 61, 28, 42, 180, 0, 7, 3, 46, 162, 0, 32, 27, 42, 28, 182, 0, 89, 42, 28]
abbrev dktX13_strainedOnes_0 : List UInt8 := dkwX13_strainedOnes_0 ++ dktX13_strainedOnes_1
theorem dksX13_strainedOnes_0 : cX13_strainedOnes.data.toList.drop 0 = dktX13_strainedOnes_0 := by decide +kernel
theorem dksX13_strainedOnes_1 : cX13_strainedOnes.data.toList.drop 22 = dktX13_strainedOnes_1 := dk_seg dksX13_strainedOnes_0 22 rfl rfl
theorem dX13_strainedOnes_0 : decode cX13_strainedOnes 0 = .ok (.iconst 0, 1) := dk_3 (dk_at dksX13_strainedOnes_0 0 rfl rfl)
theorem dX13_strainedOnes_1 : decode cX13_strainedOnes 1 = .ok (.istore_n 1, 1) := dk_60 (dk_at dksX13_strainedOnes_0 1 rfl rfl)
theorem dX13_strainedOnes_2 : decode cX13_strainedOnes 2 = .ok (.iconst 0, 1) := dk_3 (dk_at dksX13_strainedOnes_0 2 rfl rfl)
theorem dX13_strainedOnes_3 : decode cX13_strainedOnes 3 = .ok (.istore_n 2, 1) := dk_61 (dk_at dksX13_strainedOnes_0 3 rfl rfl)
theorem dX13_strainedOnes_4 : decode cX13_strainedOnes 4 = .ok (.iload_n 2, 1) := dk_28 (dk_at dksX13_strainedOnes_0 4 rfl rfl)
theorem dX13_strainedOnes_5 : decode cX13_strainedOnes 5 = .ok (.aload_n 0, 1) := dk_42 (dk_at dksX13_strainedOnes_0 5 rfl rfl)
theorem dX13_strainedOnes_6 : decode cX13_strainedOnes 6 = .ok (.getfield 7, 3) := dk_180 0 7 (dk_at dksX13_strainedOnes_0 6 rfl rfl)
theorem dX13_strainedOnes_9 : decode cX13_strainedOnes 9 = .ok (.iconst 0, 1) := dk_3 (dk_at dksX13_strainedOnes_0 9 rfl rfl)
theorem dX13_strainedOnes_10 : decode cX13_strainedOnes 10 = .ok (.iaload, 1) := dk_46 (dk_at dksX13_strainedOnes_0 10 rfl rfl)
theorem dX13_strainedOnes_11 : decode cX13_strainedOnes 11 = .ok (.if_icmp .ge 32, 3) := dk_162 0 32 (dk_at dksX13_strainedOnes_0 11 rfl rfl)
theorem dX13_strainedOnes_14 : decode cX13_strainedOnes 14 = .ok (.iload_n 1, 1) := dk_27 (dk_at dksX13_strainedOnes_0 14 rfl rfl)
theorem dX13_strainedOnes_15 : decode cX13_strainedOnes 15 = .ok (.aload_n 0, 1) := dk_42 (dk_at dksX13_strainedOnes_0 15 rfl rfl)
theorem dX13_strainedOnes_16 : decode cX13_strainedOnes 16 = .ok (.iload_n 2, 1) := dk_28 (dk_at dksX13_strainedOnes_0 16 rfl rfl)
theorem dX13_strainedOnes_17 : decode cX13_strainedOnes 17 = .ok (.invokevirtual 89, 3) := dk_182 0 89 (dk_at dksX13_strainedOnes_0 17 rfl rfl)
theorem dX13_strainedOnes_20 : decode cX13_strainedOnes 20 = .ok (.aload_n 0, 1) := dk_42 (dk_at dksX13_strainedOnes_0 20 rfl rfl)
theorem dX13_strainedOnes_21 : decode cX13_strainedOnes 21 = .ok (.iload_n 2, 1) := dk_28 (dk_at dksX13_strainedOnes_0 21 rfl rfl)
theorem dX13_strainedOnes_22 : decode cX13_strainedOnes 22 = .ok (.invokevirtual 95, 3) := dk_182 0 95 (dk_at dksX13_strainedOnes_1 0 rfl rfl)
theorem dX13_strainedOnes_25 : decode cX13_strainedOnes 25 = .ok (.if_icmp .le 9, 3) := dk_164 0 9 (dk_at dksX13_strainedOnes_1 3 rfl rfl)
theorem dX13_strainedOnes_28 : decode cX13_strainedOnes 28 = .ok (.iconst 1, 1) := dk_4 (dk_at dksX13_strainedOnes_1 6 rfl rfl)
theorem dX13_strainedOnes_29 : decode cX13_strainedOnes 29 = .ok (.iload_n 2, 1) := dk_28 (dk_at dksX13_strainedOnes_1 7 rfl rfl)
theorem dX13_strainedOnes_30 : decode cX13_strainedOnes 30 = .ok (.ishl, 1) := dk_120 (dk_at dksX13_strainedOnes_1 8 rfl rfl)
theorem dX13_strainedOnes_31 : decode cX13_strainedOnes 31 = .ok (.goto 4, 3) := dk_167 0 4 (dk_at dksX13_strainedOnes_1 9 rfl rfl)
theorem dX13_strainedOnes_34 : decode cX13_strainedOnes 34 = .ok (.iconst 0, 1) := dk_3 (dk_at dksX13_strainedOnes_1 12 rfl rfl)
theorem dX13_strainedOnes_35 : decode cX13_strainedOnes 35 = .ok (.ior, 1) := dk_128 (dk_at dksX13_strainedOnes_1 13 rfl rfl)
theorem dX13_strainedOnes_36 : decode cX13_strainedOnes 36 = .ok (.istore_n 1, 1) := dk_60 (dk_at dksX13_strainedOnes_1 14 rfl rfl)
theorem dX13_strainedOnes_37 : decode cX13_strainedOnes 37 = .ok (.iinc 2 1, 3) := dk_132 2 1 (dk_at dksX13_strainedOnes_1 15 rfl rfl)
theorem dX13_strainedOnes_40 : decode cX13_strainedOnes 40 = .ok (.goto (-36), 3) := dk_167 255 220 (dk_at dksX13_strainedOnes_1 18 rfl rfl)
theorem dX13_strainedOnes_43 : decode cX13_strainedOnes 43 = .ok (.iload_n 1, 1) := dk_27 (dk_at dksX13_strainedOnes_1 21 rfl rfl)
theorem dX13_strainedOnes_44 : decode cX13_strainedOnes 44 = .ok (.ireturn, 1) := dk_172 (dk_at dksX13_strainedOnes_1 22 rfl rfl)
abbrev cX13_loudest : ByteArray := prog_16_method_37_code
def yX13_loudest : MethodName := ⟨RX13, "loudest", "()I"⟩
def dkwX13_loudest_2 : List UInt8 := [132, 2, 1, 167, 255, 224, 27, 172]
abbrev dktX13_loudest_2 : List UInt8 := dkwX13_loudest_2 ++ []
def dkwX13_loudest_1 : List UInt8 := [162, 0, 28, 42, 28, 182, 0, 89, 42, 27, 182, 0, 89, 164, 0, 7, 28, 167, 0, 4, 27, 60]
abbrev dktX13_loudest_1 : List UInt8 := dkwX13_loudest_1 ++ dktX13_loudest_2
def dkwX13_loudest_0 : List UInt8 := [42, 180, 0, 7, 3, 46, 154, 0, 7, 2, 167, 0, 4, 3, 60, 4, 61, 28, 42, 180, 0, 7, 3, 46]
abbrev dktX13_loudest_0 : List UInt8 := dkwX13_loudest_0 ++ dktX13_loudest_1
theorem dksX13_loudest_0 : cX13_loudest.data.toList.drop 0 = dktX13_loudest_0 := by decide +kernel
theorem dksX13_loudest_1 : cX13_loudest.data.toList.drop 24 = dktX13_loudest_1 := dk_seg dksX13_loudest_0 24 rfl rfl
theorem dksX13_loudest_2 : cX13_loudest.data.toList.drop 46 = dktX13_loudest_2 := dk_seg dksX13_loudest_1 22 rfl rfl
theorem dX13_loudest_0 : decode cX13_loudest 0 = .ok (.aload_n 0, 1) := dk_42 (dk_at dksX13_loudest_0 0 rfl rfl)
theorem dX13_loudest_1 : decode cX13_loudest 1 = .ok (.getfield 7, 3) := dk_180 0 7 (dk_at dksX13_loudest_0 1 rfl rfl)
theorem dX13_loudest_4 : decode cX13_loudest 4 = .ok (.iconst 0, 1) := dk_3 (dk_at dksX13_loudest_0 4 rfl rfl)
theorem dX13_loudest_5 : decode cX13_loudest 5 = .ok (.iaload, 1) := dk_46 (dk_at dksX13_loudest_0 5 rfl rfl)
theorem dX13_loudest_6 : decode cX13_loudest 6 = .ok (.ifCond .ne 7, 3) := dk_154 0 7 (dk_at dksX13_loudest_0 6 rfl rfl)
theorem dX13_loudest_9 : decode cX13_loudest 9 = .ok (.iconst (-1), 1) := dk_2 (dk_at dksX13_loudest_0 9 rfl rfl)
theorem dX13_loudest_10 : decode cX13_loudest 10 = .ok (.goto 4, 3) := dk_167 0 4 (dk_at dksX13_loudest_0 10 rfl rfl)
theorem dX13_loudest_13 : decode cX13_loudest 13 = .ok (.iconst 0, 1) := dk_3 (dk_at dksX13_loudest_0 13 rfl rfl)
theorem dX13_loudest_14 : decode cX13_loudest 14 = .ok (.istore_n 1, 1) := dk_60 (dk_at dksX13_loudest_0 14 rfl rfl)
theorem dX13_loudest_15 : decode cX13_loudest 15 = .ok (.iconst 1, 1) := dk_4 (dk_at dksX13_loudest_0 15 rfl rfl)
theorem dX13_loudest_16 : decode cX13_loudest 16 = .ok (.istore_n 2, 1) := dk_61 (dk_at dksX13_loudest_0 16 rfl rfl)
theorem dX13_loudest_17 : decode cX13_loudest 17 = .ok (.iload_n 2, 1) := dk_28 (dk_at dksX13_loudest_0 17 rfl rfl)
theorem dX13_loudest_18 : decode cX13_loudest 18 = .ok (.aload_n 0, 1) := dk_42 (dk_at dksX13_loudest_0 18 rfl rfl)
theorem dX13_loudest_19 : decode cX13_loudest 19 = .ok (.getfield 7, 3) := dk_180 0 7 (dk_at dksX13_loudest_0 19 rfl rfl)
theorem dX13_loudest_22 : decode cX13_loudest 22 = .ok (.iconst 0, 1) := dk_3 (dk_at dksX13_loudest_0 22 rfl rfl)
theorem dX13_loudest_23 : decode cX13_loudest 23 = .ok (.iaload, 1) := dk_46 (dk_at dksX13_loudest_0 23 rfl rfl)
theorem dX13_loudest_24 : decode cX13_loudest 24 = .ok (.if_icmp .ge 28, 3) := dk_162 0 28 (dk_at dksX13_loudest_1 0 rfl rfl)
theorem dX13_loudest_27 : decode cX13_loudest 27 = .ok (.aload_n 0, 1) := dk_42 (dk_at dksX13_loudest_1 3 rfl rfl)
theorem dX13_loudest_28 : decode cX13_loudest 28 = .ok (.iload_n 2, 1) := dk_28 (dk_at dksX13_loudest_1 4 rfl rfl)
theorem dX13_loudest_29 : decode cX13_loudest 29 = .ok (.invokevirtual 89, 3) := dk_182 0 89 (dk_at dksX13_loudest_1 5 rfl rfl)
theorem dX13_loudest_32 : decode cX13_loudest 32 = .ok (.aload_n 0, 1) := dk_42 (dk_at dksX13_loudest_1 8 rfl rfl)
theorem dX13_loudest_33 : decode cX13_loudest 33 = .ok (.iload_n 1, 1) := dk_27 (dk_at dksX13_loudest_1 9 rfl rfl)
theorem dX13_loudest_34 : decode cX13_loudest 34 = .ok (.invokevirtual 89, 3) := dk_182 0 89 (dk_at dksX13_loudest_1 10 rfl rfl)
theorem dX13_loudest_37 : decode cX13_loudest 37 = .ok (.if_icmp .le 7, 3) := dk_164 0 7 (dk_at dksX13_loudest_1 13 rfl rfl)
theorem dX13_loudest_40 : decode cX13_loudest 40 = .ok (.iload_n 2, 1) := dk_28 (dk_at dksX13_loudest_1 16 rfl rfl)
theorem dX13_loudest_41 : decode cX13_loudest 41 = .ok (.goto 4, 3) := dk_167 0 4 (dk_at dksX13_loudest_1 17 rfl rfl)
theorem dX13_loudest_44 : decode cX13_loudest 44 = .ok (.iload_n 1, 1) := dk_27 (dk_at dksX13_loudest_1 20 rfl rfl)
theorem dX13_loudest_45 : decode cX13_loudest 45 = .ok (.istore_n 1, 1) := dk_60 (dk_at dksX13_loudest_1 21 rfl rfl)
theorem dX13_loudest_46 : decode cX13_loudest 46 = .ok (.iinc 2 1, 3) := dk_132 2 1 (dk_at dksX13_loudest_2 0 rfl rfl)
theorem dX13_loudest_49 : decode cX13_loudest 49 = .ok (.goto (-32), 3) := dk_167 255 224 (dk_at dksX13_loudest_2 3 rfl rfl)
theorem dX13_loudest_52 : decode cX13_loudest 52 = .ok (.iload_n 1, 1) := dk_27 (dk_at dksX13_loudest_2 6 rfl rfl)
theorem dX13_loudest_53 : decode cX13_loudest 53 = .ok (.ireturn, 1) := dk_172 (dk_at dksX13_loudest_2 7 rfl rfl)
abbrev cX13_usedOnes : ByteArray := prog_16_method_38_code
def yX13_usedOnes : MethodName := ⟨RX13, "usedOnes", "()I"⟩
def dkwX13_usedOnes_1 : List UInt8 := [60, 132, 2, 1, 167, 255, 232, 27, 172]
abbrev dktX13_usedOnes_1 : List UInt8 := dkwX13_usedOnes_1 ++ []
def dkwX13_usedOnes_0 : List UInt8 := [3, 60, 3, 61, 28, 42, 180, 0, 7, 3, 46, 162, 0, 20, 27, 4, 42, 28, 4, 182, 0, 57, 120, 128]
abbrev dktX13_usedOnes_0 : List UInt8 := dkwX13_usedOnes_0 ++ dktX13_usedOnes_1
theorem dksX13_usedOnes_0 : cX13_usedOnes.data.toList.drop 0 = dktX13_usedOnes_0 := by decide +kernel
theorem dksX13_usedOnes_1 : cX13_usedOnes.data.toList.drop 24 = dktX13_usedOnes_1 := dk_seg dksX13_usedOnes_0 24 rfl rfl
theorem dX13_usedOnes_0 : decode cX13_usedOnes 0 = .ok (.iconst 0, 1) := dk_3 (dk_at dksX13_usedOnes_0 0 rfl rfl)
theorem dX13_usedOnes_1 : decode cX13_usedOnes 1 = .ok (.istore_n 1, 1) := dk_60 (dk_at dksX13_usedOnes_0 1 rfl rfl)
theorem dX13_usedOnes_2 : decode cX13_usedOnes 2 = .ok (.iconst 0, 1) := dk_3 (dk_at dksX13_usedOnes_0 2 rfl rfl)
theorem dX13_usedOnes_3 : decode cX13_usedOnes 3 = .ok (.istore_n 2, 1) := dk_61 (dk_at dksX13_usedOnes_0 3 rfl rfl)
theorem dX13_usedOnes_4 : decode cX13_usedOnes 4 = .ok (.iload_n 2, 1) := dk_28 (dk_at dksX13_usedOnes_0 4 rfl rfl)
theorem dX13_usedOnes_5 : decode cX13_usedOnes 5 = .ok (.aload_n 0, 1) := dk_42 (dk_at dksX13_usedOnes_0 5 rfl rfl)
theorem dX13_usedOnes_6 : decode cX13_usedOnes 6 = .ok (.getfield 7, 3) := dk_180 0 7 (dk_at dksX13_usedOnes_0 6 rfl rfl)
theorem dX13_usedOnes_9 : decode cX13_usedOnes 9 = .ok (.iconst 0, 1) := dk_3 (dk_at dksX13_usedOnes_0 9 rfl rfl)
theorem dX13_usedOnes_10 : decode cX13_usedOnes 10 = .ok (.iaload, 1) := dk_46 (dk_at dksX13_usedOnes_0 10 rfl rfl)
theorem dX13_usedOnes_11 : decode cX13_usedOnes 11 = .ok (.if_icmp .ge 20, 3) := dk_162 0 20 (dk_at dksX13_usedOnes_0 11 rfl rfl)
theorem dX13_usedOnes_14 : decode cX13_usedOnes 14 = .ok (.iload_n 1, 1) := dk_27 (dk_at dksX13_usedOnes_0 14 rfl rfl)
theorem dX13_usedOnes_15 : decode cX13_usedOnes 15 = .ok (.iconst 1, 1) := dk_4 (dk_at dksX13_usedOnes_0 15 rfl rfl)
theorem dX13_usedOnes_16 : decode cX13_usedOnes 16 = .ok (.aload_n 0, 1) := dk_42 (dk_at dksX13_usedOnes_0 16 rfl rfl)
theorem dX13_usedOnes_17 : decode cX13_usedOnes 17 = .ok (.iload_n 2, 1) := dk_28 (dk_at dksX13_usedOnes_0 17 rfl rfl)
theorem dX13_usedOnes_18 : decode cX13_usedOnes 18 = .ok (.iconst 1, 1) := dk_4 (dk_at dksX13_usedOnes_0 18 rfl rfl)
theorem dX13_usedOnes_19 : decode cX13_usedOnes 19 = .ok (.invokevirtual 57, 3) := dk_182 0 57 (dk_at dksX13_usedOnes_0 19 rfl rfl)
theorem dX13_usedOnes_22 : decode cX13_usedOnes 22 = .ok (.ishl, 1) := dk_120 (dk_at dksX13_usedOnes_0 22 rfl rfl)
theorem dX13_usedOnes_23 : decode cX13_usedOnes 23 = .ok (.ior, 1) := dk_128 (dk_at dksX13_usedOnes_0 23 rfl rfl)
theorem dX13_usedOnes_24 : decode cX13_usedOnes 24 = .ok (.istore_n 1, 1) := dk_60 (dk_at dksX13_usedOnes_1 0 rfl rfl)
theorem dX13_usedOnes_25 : decode cX13_usedOnes 25 = .ok (.iinc 2 1, 3) := dk_132 2 1 (dk_at dksX13_usedOnes_1 1 rfl rfl)
theorem dX13_usedOnes_28 : decode cX13_usedOnes 28 = .ok (.goto (-24), 3) := dk_167 255 232 (dk_at dksX13_usedOnes_1 4 rfl rfl)
theorem dX13_usedOnes_31 : decode cX13_usedOnes 31 = .ok (.iload_n 1, 1) := dk_27 (dk_at dksX13_usedOnes_1 7 rfl rfl)
theorem dX13_usedOnes_32 : decode cX13_usedOnes 32 = .ok (.ireturn, 1) := dk_172 (dk_at dksX13_usedOnes_1 8 rfl rfl)
abbrev cX13_ahead : ByteArray := prog_16_method_42_code
def yX13_ahead : MethodName := ⟨RX13, "ahead", "(III)I"⟩
def dkwX13_ahead_2 : List UInt8 := [153, 0, 13, 42, 27, 28, 29, 182, 0, 150, 167, 0, 9, 42, 18, 37, 182, 0, 39, 172]
abbrev dktX13_ahead_2 : List UInt8 := dkwX13_ahead_2 ++ []
def dkwX13_ahead_1 : List UInt8 := [153, 0, 19, 29, 133, 9, 20, 0, 148, 184, 0, 49, 153, 0, 7, 4, 167, 0, 4, 3, 54, 4, 21, 4]
abbrev dktX13_ahead_1 : List UInt8 := dkwX13_ahead_1 ++ dktX13_ahead_2
def dkwX13_ahead_0 : List UInt8 := [42, 27, 182, 0, 86, 153, 0, 38, 28, 5, 159, 0, 17, 28, 133, 20, 0, 144, 20, 0, 146, 184, 0, 49]
abbrev dktX13_ahead_0 : List UInt8 := dkwX13_ahead_0 ++ dktX13_ahead_1
theorem dksX13_ahead_0 : cX13_ahead.data.toList.drop 0 = dktX13_ahead_0 := by decide +kernel
theorem dksX13_ahead_1 : cX13_ahead.data.toList.drop 24 = dktX13_ahead_1 := dk_seg dksX13_ahead_0 24 rfl rfl
theorem dksX13_ahead_2 : cX13_ahead.data.toList.drop 48 = dktX13_ahead_2 := dk_seg dksX13_ahead_1 24 rfl rfl
theorem dX13_ahead_0 : decode cX13_ahead 0 = .ok (.aload_n 0, 1) := dk_42 (dk_at dksX13_ahead_0 0 rfl rfl)
theorem dX13_ahead_1 : decode cX13_ahead 1 = .ok (.iload_n 1, 1) := dk_27 (dk_at dksX13_ahead_0 1 rfl rfl)
theorem dX13_ahead_2 : decode cX13_ahead 2 = .ok (.invokevirtual 86, 3) := dk_182 0 86 (dk_at dksX13_ahead_0 2 rfl rfl)
theorem dX13_ahead_5 : decode cX13_ahead 5 = .ok (.ifCond .eq 38, 3) := dk_153 0 38 (dk_at dksX13_ahead_0 5 rfl rfl)
theorem dX13_ahead_8 : decode cX13_ahead 8 = .ok (.iload_n 2, 1) := dk_28 (dk_at dksX13_ahead_0 8 rfl rfl)
theorem dX13_ahead_9 : decode cX13_ahead 9 = .ok (.iconst 2, 1) := dk_5 (dk_at dksX13_ahead_0 9 rfl rfl)
theorem dX13_ahead_10 : decode cX13_ahead 10 = .ok (.if_icmp .eq 17, 3) := dk_159 0 17 (dk_at dksX13_ahead_0 10 rfl rfl)
theorem dX13_ahead_13 : decode cX13_ahead 13 = .ok (.iload_n 2, 1) := dk_28 (dk_at dksX13_ahead_0 13 rfl rfl)
theorem dX13_ahead_14 : decode cX13_ahead 14 = .ok (.i2l, 1) := dk_133 (dk_at dksX13_ahead_0 14 rfl rfl)
theorem dX13_ahead_15 : decode cX13_ahead 15 = .ok (.ldc2_w 144, 3) := dk_20 0 144 (dk_at dksX13_ahead_0 15 rfl rfl)
theorem dX13_ahead_18 : decode cX13_ahead 18 = .ok (.ldc2_w 146, 3) := dk_20 0 146 (dk_at dksX13_ahead_0 18 rfl rfl)
theorem dX13_ahead_21 : decode cX13_ahead 21 = .ok (.invokestatic 49, 3) := dk_184 0 49 (dk_at dksX13_ahead_0 21 rfl rfl)
theorem dX13_ahead_24 : decode cX13_ahead 24 = .ok (.ifCond .eq 19, 3) := dk_153 0 19 (dk_at dksX13_ahead_1 0 rfl rfl)
theorem dX13_ahead_27 : decode cX13_ahead 27 = .ok (.iload_n 3, 1) := dk_29 (dk_at dksX13_ahead_1 3 rfl rfl)
theorem dX13_ahead_28 : decode cX13_ahead 28 = .ok (.i2l, 1) := dk_133 (dk_at dksX13_ahead_1 4 rfl rfl)
theorem dX13_ahead_29 : decode cX13_ahead 29 = .ok (.lconst 0, 1) := dk_9 (dk_at dksX13_ahead_1 5 rfl rfl)
theorem dX13_ahead_30 : decode cX13_ahead 30 = .ok (.ldc2_w 148, 3) := dk_20 0 148 (dk_at dksX13_ahead_1 6 rfl rfl)
theorem dX13_ahead_33 : decode cX13_ahead 33 = .ok (.invokestatic 49, 3) := dk_184 0 49 (dk_at dksX13_ahead_1 9 rfl rfl)
theorem dX13_ahead_36 : decode cX13_ahead 36 = .ok (.ifCond .eq 7, 3) := dk_153 0 7 (dk_at dksX13_ahead_1 12 rfl rfl)
theorem dX13_ahead_39 : decode cX13_ahead 39 = .ok (.iconst 1, 1) := dk_4 (dk_at dksX13_ahead_1 15 rfl rfl)
theorem dX13_ahead_40 : decode cX13_ahead 40 = .ok (.goto 4, 3) := dk_167 0 4 (dk_at dksX13_ahead_1 16 rfl rfl)
theorem dX13_ahead_43 : decode cX13_ahead 43 = .ok (.iconst 0, 1) := dk_3 (dk_at dksX13_ahead_1 19 rfl rfl)
theorem dX13_ahead_44 : decode cX13_ahead 44 = .ok (.istore 4, 2) := dk_54 4 (dk_at dksX13_ahead_1 20 rfl rfl)
theorem dX13_ahead_46 : decode cX13_ahead 46 = .ok (.iload 4, 2) := dk_21 4 (dk_at dksX13_ahead_1 22 rfl rfl)
theorem dX13_ahead_48 : decode cX13_ahead 48 = .ok (.ifCond .eq 13, 3) := dk_153 0 13 (dk_at dksX13_ahead_2 0 rfl rfl)
theorem dX13_ahead_51 : decode cX13_ahead 51 = .ok (.aload_n 0, 1) := dk_42 (dk_at dksX13_ahead_2 3 rfl rfl)
theorem dX13_ahead_52 : decode cX13_ahead 52 = .ok (.iload_n 1, 1) := dk_27 (dk_at dksX13_ahead_2 4 rfl rfl)
theorem dX13_ahead_53 : decode cX13_ahead 53 = .ok (.iload_n 2, 1) := dk_28 (dk_at dksX13_ahead_2 5 rfl rfl)
theorem dX13_ahead_54 : decode cX13_ahead 54 = .ok (.iload_n 3, 1) := dk_29 (dk_at dksX13_ahead_2 6 rfl rfl)
theorem dX13_ahead_55 : decode cX13_ahead 55 = .ok (.invokevirtual 150, 3) := dk_182 0 150 (dk_at dksX13_ahead_2 7 rfl rfl)
theorem dX13_ahead_58 : decode cX13_ahead 58 = .ok (.goto 9, 3) := dk_167 0 9 (dk_at dksX13_ahead_2 10 rfl rfl)
theorem dX13_ahead_61 : decode cX13_ahead 61 = .ok (.aload_n 0, 1) := dk_42 (dk_at dksX13_ahead_2 13 rfl rfl)
theorem dX13_ahead_62 : decode cX13_ahead 62 = .ok (.ldc 37, 2) := dk_18 37 (dk_at dksX13_ahead_2 14 rfl rfl)
theorem dX13_ahead_64 : decode cX13_ahead 64 = .ok (.invokevirtual 39, 3) := dk_182 0 39 (dk_at dksX13_ahead_2 16 rfl rfl)
theorem dX13_ahead_67 : decode cX13_ahead 67 = .ok (.ireturn, 1) := dk_172 (dk_at dksX13_ahead_2 19 rfl rfl)
abbrev cX13_then : ByteArray := prog_16_method_40_code
def yX13_then : MethodName := ⟨RX13, "then", "(III)I"⟩
def dkwX13_then_2 : List UInt8 := [184, 0, 140, 21, 4, 172]
abbrev dktX13_then_2 : List UInt8 := dkwX13_then_2 ++ []
def dkwX13_then_1 : List UInt8 := [182, 0, 89, 167, 0, 9, 42, 27, 28, 182, 0, 57, 54, 4, 42, 180, 0, 19, 42, 180, 0, 7]
abbrev dktX13_then_1 : List UInt8 := dkwX13_then_1 ++ dktX13_then_2
def dkwX13_then_0 : List UInt8 := [42, 180, 0, 7, 42, 180, 0, 19, 184, 0, 140, 42, 29, 182, 0, 125, 28, 16, 7, 160, 0, 11, 42, 27]
abbrev dktX13_then_0 : List UInt8 := dkwX13_then_0 ++ dktX13_then_1
theorem dksX13_then_0 : cX13_then.data.toList.drop 0 = dktX13_then_0 := by decide +kernel
theorem dksX13_then_1 : cX13_then.data.toList.drop 24 = dktX13_then_1 := dk_seg dksX13_then_0 24 rfl rfl
theorem dksX13_then_2 : cX13_then.data.toList.drop 46 = dktX13_then_2 := dk_seg dksX13_then_1 22 rfl rfl
theorem dX13_then_0 : decode cX13_then 0 = .ok (.aload_n 0, 1) := dk_42 (dk_at dksX13_then_0 0 rfl rfl)
theorem dX13_then_1 : decode cX13_then 1 = .ok (.getfield 7, 3) := dk_180 0 7 (dk_at dksX13_then_0 1 rfl rfl)
theorem dX13_then_4 : decode cX13_then 4 = .ok (.aload_n 0, 1) := dk_42 (dk_at dksX13_then_0 4 rfl rfl)
theorem dX13_then_5 : decode cX13_then 5 = .ok (.getfield 19, 3) := dk_180 0 19 (dk_at dksX13_then_0 5 rfl rfl)
theorem dX13_then_8 : decode cX13_then 8 = .ok (.invokestatic 140, 3) := dk_184 0 140 (dk_at dksX13_then_0 8 rfl rfl)
theorem dX13_then_11 : decode cX13_then 11 = .ok (.aload_n 0, 1) := dk_42 (dk_at dksX13_then_0 11 rfl rfl)
theorem dX13_then_12 : decode cX13_then 12 = .ok (.iload_n 3, 1) := dk_29 (dk_at dksX13_then_0 12 rfl rfl)
theorem dX13_then_13 : decode cX13_then 13 = .ok (.invokevirtual 125, 3) := dk_182 0 125 (dk_at dksX13_then_0 13 rfl rfl)
theorem dX13_then_16 : decode cX13_then 16 = .ok (.iload_n 2, 1) := dk_28 (dk_at dksX13_then_0 16 rfl rfl)
theorem dX13_then_17 : decode cX13_then 17 = .ok (.bipush 7, 2) := dk_16 7 (dk_at dksX13_then_0 17 rfl rfl)
theorem dX13_then_19 : decode cX13_then 19 = .ok (.if_icmp .ne 11, 3) := dk_160 0 11 (dk_at dksX13_then_0 19 rfl rfl)
theorem dX13_then_22 : decode cX13_then 22 = .ok (.aload_n 0, 1) := dk_42 (dk_at dksX13_then_0 22 rfl rfl)
theorem dX13_then_23 : decode cX13_then 23 = .ok (.iload_n 1, 1) := dk_27 (dk_at dksX13_then_0 23 rfl rfl)
theorem dX13_then_24 : decode cX13_then 24 = .ok (.invokevirtual 89, 3) := dk_182 0 89 (dk_at dksX13_then_1 0 rfl rfl)
theorem dX13_then_27 : decode cX13_then 27 = .ok (.goto 9, 3) := dk_167 0 9 (dk_at dksX13_then_1 3 rfl rfl)
theorem dX13_then_30 : decode cX13_then 30 = .ok (.aload_n 0, 1) := dk_42 (dk_at dksX13_then_1 6 rfl rfl)
theorem dX13_then_31 : decode cX13_then 31 = .ok (.iload_n 1, 1) := dk_27 (dk_at dksX13_then_1 7 rfl rfl)
theorem dX13_then_32 : decode cX13_then 32 = .ok (.iload_n 2, 1) := dk_28 (dk_at dksX13_then_1 8 rfl rfl)
theorem dX13_then_33 : decode cX13_then 33 = .ok (.invokevirtual 57, 3) := dk_182 0 57 (dk_at dksX13_then_1 9 rfl rfl)
theorem dX13_then_36 : decode cX13_then 36 = .ok (.istore 4, 2) := dk_54 4 (dk_at dksX13_then_1 12 rfl rfl)
theorem dX13_then_38 : decode cX13_then 38 = .ok (.aload_n 0, 1) := dk_42 (dk_at dksX13_then_1 14 rfl rfl)
theorem dX13_then_39 : decode cX13_then 39 = .ok (.getfield 19, 3) := dk_180 0 19 (dk_at dksX13_then_1 15 rfl rfl)
theorem dX13_then_42 : decode cX13_then 42 = .ok (.aload_n 0, 1) := dk_42 (dk_at dksX13_then_1 18 rfl rfl)
theorem dX13_then_43 : decode cX13_then 43 = .ok (.getfield 7, 3) := dk_180 0 7 (dk_at dksX13_then_1 19 rfl rfl)
theorem dX13_then_46 : decode cX13_then 46 = .ok (.invokestatic 140, 3) := dk_184 0 140 (dk_at dksX13_then_2 0 rfl rfl)
theorem dX13_then_49 : decode cX13_then 49 = .ok (.iload 4, 2) := dk_21 4 (dk_at dksX13_then_2 3 rfl rfl)
theorem dX13_then_51 : decode cX13_then 51 = .ok (.ireturn, 1) := dk_172 (dk_at dksX13_then_2 5 rfl rfl)
abbrev cX13_copyRow : ByteArray := prog_16_method_5_code
def yX13_copyRow : MethodName := ⟨RX13, "copyRow", "([I[I)V"⟩
def dkwX13_copyRow_0 : List UInt8 := [3, 61, 28, 16, 82, 162, 0, 15, 43, 28, 42, 28, 46, 79, 132, 2, 1, 167, 255, 241, 177]
abbrev dktX13_copyRow_0 : List UInt8 := dkwX13_copyRow_0 ++ []
theorem dksX13_copyRow_0 : cX13_copyRow.data.toList.drop 0 = dktX13_copyRow_0 := by decide +kernel
theorem dX13_copyRow_0 : decode cX13_copyRow 0 = .ok (.iconst 0, 1) := dk_3 (dk_at dksX13_copyRow_0 0 rfl rfl)
theorem dX13_copyRow_1 : decode cX13_copyRow 1 = .ok (.istore_n 2, 1) := dk_61 (dk_at dksX13_copyRow_0 1 rfl rfl)
theorem dX13_copyRow_2 : decode cX13_copyRow 2 = .ok (.iload_n 2, 1) := dk_28 (dk_at dksX13_copyRow_0 2 rfl rfl)
theorem dX13_copyRow_3 : decode cX13_copyRow 3 = .ok (.bipush 82, 2) := dk_16 82 (dk_at dksX13_copyRow_0 3 rfl rfl)
theorem dX13_copyRow_5 : decode cX13_copyRow 5 = .ok (.if_icmp .ge 15, 3) := dk_162 0 15 (dk_at dksX13_copyRow_0 5 rfl rfl)
theorem dX13_copyRow_8 : decode cX13_copyRow 8 = .ok (.aload_n 1, 1) := dk_43 (dk_at dksX13_copyRow_0 8 rfl rfl)
theorem dX13_copyRow_9 : decode cX13_copyRow 9 = .ok (.iload_n 2, 1) := dk_28 (dk_at dksX13_copyRow_0 9 rfl rfl)
theorem dX13_copyRow_10 : decode cX13_copyRow 10 = .ok (.aload_n 0, 1) := dk_42 (dk_at dksX13_copyRow_0 10 rfl rfl)
theorem dX13_copyRow_11 : decode cX13_copyRow 11 = .ok (.iload_n 2, 1) := dk_28 (dk_at dksX13_copyRow_0 11 rfl rfl)
theorem dX13_copyRow_12 : decode cX13_copyRow 12 = .ok (.iaload, 1) := dk_46 (dk_at dksX13_copyRow_0 12 rfl rfl)
theorem dX13_copyRow_13 : decode cX13_copyRow 13 = .ok (.iastore, 1) := dk_79 (dk_at dksX13_copyRow_0 13 rfl rfl)
theorem dX13_copyRow_14 : decode cX13_copyRow 14 = .ok (.iinc 2 1, 3) := dk_132 2 1 (dk_at dksX13_copyRow_0 14 rfl rfl)
theorem dX13_copyRow_17 : decode cX13_copyRow 17 = .ok (.goto (-15), 3) := dk_167 255 241 (dk_at dksX13_copyRow_0 17 rfl rfl)
theorem dX13_copyRow_20 : decode cX13_copyRow 20 = .ok (.return_, 1) := dk_177 (dk_at dksX13_copyRow_0 20 rfl rfl)
abbrev cX13_claps : ByteArray := prog_16_method_43_code
def yX13_claps : MethodName := ⟨RX13, "claps", "(I)I"⟩
def dkwX13_claps_1 : List UInt8 := [182, 0, 39, 172]
abbrev dktX13_claps_1 : List UInt8 := dkwX13_claps_1 ++ []
def dkwX13_claps_0 : List UInt8 := [27, 133, 9, 20, 0, 148, 184, 0, 49, 153, 0, 11, 42, 27, 182, 0, 154, 167, 0, 9, 42, 18, 37]
abbrev dktX13_claps_0 : List UInt8 := dkwX13_claps_0 ++ dktX13_claps_1
theorem dksX13_claps_0 : cX13_claps.data.toList.drop 0 = dktX13_claps_0 := by decide +kernel
theorem dksX13_claps_1 : cX13_claps.data.toList.drop 23 = dktX13_claps_1 := dk_seg dksX13_claps_0 23 rfl rfl
theorem dX13_claps_0 : decode cX13_claps 0 = .ok (.iload_n 1, 1) := dk_27 (dk_at dksX13_claps_0 0 rfl rfl)
theorem dX13_claps_1 : decode cX13_claps 1 = .ok (.i2l, 1) := dk_133 (dk_at dksX13_claps_0 1 rfl rfl)
theorem dX13_claps_2 : decode cX13_claps 2 = .ok (.lconst 0, 1) := dk_9 (dk_at dksX13_claps_0 2 rfl rfl)
theorem dX13_claps_3 : decode cX13_claps 3 = .ok (.ldc2_w 148, 3) := dk_20 0 148 (dk_at dksX13_claps_0 3 rfl rfl)
theorem dX13_claps_6 : decode cX13_claps 6 = .ok (.invokestatic 49, 3) := dk_184 0 49 (dk_at dksX13_claps_0 6 rfl rfl)
theorem dX13_claps_9 : decode cX13_claps 9 = .ok (.ifCond .eq 11, 3) := dk_153 0 11 (dk_at dksX13_claps_0 9 rfl rfl)
theorem dX13_claps_12 : decode cX13_claps 12 = .ok (.aload_n 0, 1) := dk_42 (dk_at dksX13_claps_0 12 rfl rfl)
theorem dX13_claps_13 : decode cX13_claps 13 = .ok (.iload_n 1, 1) := dk_27 (dk_at dksX13_claps_0 13 rfl rfl)
theorem dX13_claps_14 : decode cX13_claps 14 = .ok (.invokevirtual 154, 3) := dk_182 0 154 (dk_at dksX13_claps_0 14 rfl rfl)
theorem dX13_claps_17 : decode cX13_claps 17 = .ok (.goto 9, 3) := dk_167 0 9 (dk_at dksX13_claps_0 17 rfl rfl)
theorem dX13_claps_20 : decode cX13_claps 20 = .ok (.aload_n 0, 1) := dk_42 (dk_at dksX13_claps_0 20 rfl rfl)
theorem dX13_claps_21 : decode cX13_claps 21 = .ok (.ldc 37, 2) := dk_18 37 (dk_at dksX13_claps_0 21 rfl rfl)
theorem dX13_claps_23 : decode cX13_claps 23 = .ok (.invokevirtual 39, 3) := dk_182 0 39 (dk_at dksX13_claps_1 0 rfl rfl)
theorem dX13_claps_26 : decode cX13_claps 26 = .ok (.ireturn, 1) := dk_172 (dk_at dksX13_claps_1 3 rfl rfl)
abbrev cX13_clapsThen : ByteArray := prog_16_method_41_code
def yX13_clapsThen : MethodName := ⟨RX13, "clapsThen", "(I)I"⟩
def dkwX13_clapsThen_1 : List UInt8 := [180, 0, 19, 42, 180, 0, 7, 184, 0, 140, 28, 172]
abbrev dktX13_clapsThen_1 : List UInt8 := dkwX13_clapsThen_1 ++ []
def dkwX13_clapsThen_0 : List UInt8 := [42, 180, 0, 7, 42, 180, 0, 19, 184, 0, 140, 42, 27, 182, 0, 125, 42, 180, 0, 7, 6, 46, 61, 42]
abbrev dktX13_clapsThen_0 : List UInt8 := dkwX13_clapsThen_0 ++ dktX13_clapsThen_1
theorem dksX13_clapsThen_0 : cX13_clapsThen.data.toList.drop 0 = dktX13_clapsThen_0 := by decide +kernel
theorem dksX13_clapsThen_1 : cX13_clapsThen.data.toList.drop 24 = dktX13_clapsThen_1 := dk_seg dksX13_clapsThen_0 24 rfl rfl
theorem dX13_clapsThen_0 : decode cX13_clapsThen 0 = .ok (.aload_n 0, 1) := dk_42 (dk_at dksX13_clapsThen_0 0 rfl rfl)
theorem dX13_clapsThen_1 : decode cX13_clapsThen 1 = .ok (.getfield 7, 3) := dk_180 0 7 (dk_at dksX13_clapsThen_0 1 rfl rfl)
theorem dX13_clapsThen_4 : decode cX13_clapsThen 4 = .ok (.aload_n 0, 1) := dk_42 (dk_at dksX13_clapsThen_0 4 rfl rfl)
theorem dX13_clapsThen_5 : decode cX13_clapsThen 5 = .ok (.getfield 19, 3) := dk_180 0 19 (dk_at dksX13_clapsThen_0 5 rfl rfl)
theorem dX13_clapsThen_8 : decode cX13_clapsThen 8 = .ok (.invokestatic 140, 3) := dk_184 0 140 (dk_at dksX13_clapsThen_0 8 rfl rfl)
theorem dX13_clapsThen_11 : decode cX13_clapsThen 11 = .ok (.aload_n 0, 1) := dk_42 (dk_at dksX13_clapsThen_0 11 rfl rfl)
theorem dX13_clapsThen_12 : decode cX13_clapsThen 12 = .ok (.iload_n 1, 1) := dk_27 (dk_at dksX13_clapsThen_0 12 rfl rfl)
theorem dX13_clapsThen_13 : decode cX13_clapsThen 13 = .ok (.invokevirtual 125, 3) := dk_182 0 125 (dk_at dksX13_clapsThen_0 13 rfl rfl)
theorem dX13_clapsThen_16 : decode cX13_clapsThen 16 = .ok (.aload_n 0, 1) := dk_42 (dk_at dksX13_clapsThen_0 16 rfl rfl)
theorem dX13_clapsThen_17 : decode cX13_clapsThen 17 = .ok (.getfield 7, 3) := dk_180 0 7 (dk_at dksX13_clapsThen_0 17 rfl rfl)
theorem dX13_clapsThen_20 : decode cX13_clapsThen 20 = .ok (.iconst 3, 1) := dk_6 (dk_at dksX13_clapsThen_0 20 rfl rfl)
theorem dX13_clapsThen_21 : decode cX13_clapsThen 21 = .ok (.iaload, 1) := dk_46 (dk_at dksX13_clapsThen_0 21 rfl rfl)
theorem dX13_clapsThen_22 : decode cX13_clapsThen 22 = .ok (.istore_n 2, 1) := dk_61 (dk_at dksX13_clapsThen_0 22 rfl rfl)
theorem dX13_clapsThen_23 : decode cX13_clapsThen 23 = .ok (.aload_n 0, 1) := dk_42 (dk_at dksX13_clapsThen_0 23 rfl rfl)
theorem dX13_clapsThen_24 : decode cX13_clapsThen 24 = .ok (.getfield 19, 3) := dk_180 0 19 (dk_at dksX13_clapsThen_1 0 rfl rfl)
theorem dX13_clapsThen_27 : decode cX13_clapsThen 27 = .ok (.aload_n 0, 1) := dk_42 (dk_at dksX13_clapsThen_1 3 rfl rfl)
theorem dX13_clapsThen_28 : decode cX13_clapsThen 28 = .ok (.getfield 7, 3) := dk_180 0 7 (dk_at dksX13_clapsThen_1 4 rfl rfl)
theorem dX13_clapsThen_31 : decode cX13_clapsThen 31 = .ok (.invokestatic 140, 3) := dk_184 0 140 (dk_at dksX13_clapsThen_1 7 rfl rfl)
theorem dX13_clapsThen_34 : decode cX13_clapsThen 34 = .ok (.iload_n 2, 1) := dk_28 (dk_at dksX13_clapsThen_1 10 rfl rfl)
theorem dX13_clapsThen_35 : decode cX13_clapsThen 35 = .ok (.ireturn, 1) := dk_172 (dk_at dksX13_clapsThen_1 11 rfl rfl)
abbrev cX13_bursts : ByteArray := prog_16_method_44_code
def yX13_bursts : MethodName := ⟨RX13, "bursts", "(I)I"⟩
def dkwX13_bursts_3 : List UInt8 := [180, 0, 7, 184, 0, 140, 29, 16, 100, 163, 0, 7, 29, 167, 0, 9, 42, 18, 38, 182, 0, 39, 172]
abbrev dktX13_bursts_3 : List UInt8 := dkwX13_bursts_3 ++ []
def dkwX13_bursts_2 : List UInt8 := [182, 0, 57, 28, 160, 0, 13, 42, 182, 0, 119, 132, 3, 1, 167, 255, 232, 42, 180, 0, 19, 42]
abbrev dktX13_bursts_2 : List UInt8 := dkwX13_bursts_2 ++ dktX13_bursts_3
def dkwX13_bursts_1 : List UInt8 := [184, 0, 140, 42, 27, 16, 6, 182, 0, 57, 61, 3, 62, 29, 16, 100, 163, 0, 24, 42, 27, 16, 6]
abbrev dktX13_bursts_1 : List UInt8 := dkwX13_bursts_1 ++ dktX13_bursts_2
def dkwX13_bursts_0 : List UInt8 := [42, 27, 182, 0, 86, 154, 0, 10, 42, 18, 37, 182, 0, 39, 172, 42, 180, 0, 7, 42, 180, 0, 19]
abbrev dktX13_bursts_0 : List UInt8 := dkwX13_bursts_0 ++ dktX13_bursts_1
theorem dksX13_bursts_0 : cX13_bursts.data.toList.drop 0 = dktX13_bursts_0 := by decide +kernel
theorem dksX13_bursts_1 : cX13_bursts.data.toList.drop 23 = dktX13_bursts_1 := dk_seg dksX13_bursts_0 23 rfl rfl
theorem dksX13_bursts_2 : cX13_bursts.data.toList.drop 46 = dktX13_bursts_2 := dk_seg dksX13_bursts_1 23 rfl rfl
theorem dksX13_bursts_3 : cX13_bursts.data.toList.drop 68 = dktX13_bursts_3 := dk_seg dksX13_bursts_2 22 rfl rfl
theorem dX13_bursts_0 : decode cX13_bursts 0 = .ok (.aload_n 0, 1) := dk_42 (dk_at dksX13_bursts_0 0 rfl rfl)
theorem dX13_bursts_1 : decode cX13_bursts 1 = .ok (.iload_n 1, 1) := dk_27 (dk_at dksX13_bursts_0 1 rfl rfl)
theorem dX13_bursts_2 : decode cX13_bursts 2 = .ok (.invokevirtual 86, 3) := dk_182 0 86 (dk_at dksX13_bursts_0 2 rfl rfl)
theorem dX13_bursts_5 : decode cX13_bursts 5 = .ok (.ifCond .ne 10, 3) := dk_154 0 10 (dk_at dksX13_bursts_0 5 rfl rfl)
theorem dX13_bursts_8 : decode cX13_bursts 8 = .ok (.aload_n 0, 1) := dk_42 (dk_at dksX13_bursts_0 8 rfl rfl)
theorem dX13_bursts_9 : decode cX13_bursts 9 = .ok (.ldc 37, 2) := dk_18 37 (dk_at dksX13_bursts_0 9 rfl rfl)
theorem dX13_bursts_11 : decode cX13_bursts 11 = .ok (.invokevirtual 39, 3) := dk_182 0 39 (dk_at dksX13_bursts_0 11 rfl rfl)
theorem dX13_bursts_14 : decode cX13_bursts 14 = .ok (.ireturn, 1) := dk_172 (dk_at dksX13_bursts_0 14 rfl rfl)
theorem dX13_bursts_15 : decode cX13_bursts 15 = .ok (.aload_n 0, 1) := dk_42 (dk_at dksX13_bursts_0 15 rfl rfl)
theorem dX13_bursts_16 : decode cX13_bursts 16 = .ok (.getfield 7, 3) := dk_180 0 7 (dk_at dksX13_bursts_0 16 rfl rfl)
theorem dX13_bursts_19 : decode cX13_bursts 19 = .ok (.aload_n 0, 1) := dk_42 (dk_at dksX13_bursts_0 19 rfl rfl)
theorem dX13_bursts_20 : decode cX13_bursts 20 = .ok (.getfield 19, 3) := dk_180 0 19 (dk_at dksX13_bursts_0 20 rfl rfl)
theorem dX13_bursts_23 : decode cX13_bursts 23 = .ok (.invokestatic 140, 3) := dk_184 0 140 (dk_at dksX13_bursts_1 0 rfl rfl)
theorem dX13_bursts_26 : decode cX13_bursts 26 = .ok (.aload_n 0, 1) := dk_42 (dk_at dksX13_bursts_1 3 rfl rfl)
theorem dX13_bursts_27 : decode cX13_bursts 27 = .ok (.iload_n 1, 1) := dk_27 (dk_at dksX13_bursts_1 4 rfl rfl)
theorem dX13_bursts_28 : decode cX13_bursts 28 = .ok (.bipush 6, 2) := dk_16 6 (dk_at dksX13_bursts_1 5 rfl rfl)
theorem dX13_bursts_30 : decode cX13_bursts 30 = .ok (.invokevirtual 57, 3) := dk_182 0 57 (dk_at dksX13_bursts_1 7 rfl rfl)
theorem dX13_bursts_33 : decode cX13_bursts 33 = .ok (.istore_n 2, 1) := dk_61 (dk_at dksX13_bursts_1 10 rfl rfl)
theorem dX13_bursts_34 : decode cX13_bursts 34 = .ok (.iconst 0, 1) := dk_3 (dk_at dksX13_bursts_1 11 rfl rfl)
theorem dX13_bursts_35 : decode cX13_bursts 35 = .ok (.istore_n 3, 1) := dk_62 (dk_at dksX13_bursts_1 12 rfl rfl)
theorem dX13_bursts_36 : decode cX13_bursts 36 = .ok (.iload_n 3, 1) := dk_29 (dk_at dksX13_bursts_1 13 rfl rfl)
theorem dX13_bursts_37 : decode cX13_bursts 37 = .ok (.bipush 100, 2) := dk_16 100 (dk_at dksX13_bursts_1 14 rfl rfl)
theorem dX13_bursts_39 : decode cX13_bursts 39 = .ok (.if_icmp .gt 24, 3) := dk_163 0 24 (dk_at dksX13_bursts_1 16 rfl rfl)
theorem dX13_bursts_42 : decode cX13_bursts 42 = .ok (.aload_n 0, 1) := dk_42 (dk_at dksX13_bursts_1 19 rfl rfl)
theorem dX13_bursts_43 : decode cX13_bursts 43 = .ok (.iload_n 1, 1) := dk_27 (dk_at dksX13_bursts_1 20 rfl rfl)
theorem dX13_bursts_44 : decode cX13_bursts 44 = .ok (.bipush 6, 2) := dk_16 6 (dk_at dksX13_bursts_1 21 rfl rfl)
theorem dX13_bursts_46 : decode cX13_bursts 46 = .ok (.invokevirtual 57, 3) := dk_182 0 57 (dk_at dksX13_bursts_2 0 rfl rfl)
theorem dX13_bursts_49 : decode cX13_bursts 49 = .ok (.iload_n 2, 1) := dk_28 (dk_at dksX13_bursts_2 3 rfl rfl)
theorem dX13_bursts_50 : decode cX13_bursts 50 = .ok (.if_icmp .ne 13, 3) := dk_160 0 13 (dk_at dksX13_bursts_2 4 rfl rfl)
theorem dX13_bursts_53 : decode cX13_bursts 53 = .ok (.aload_n 0, 1) := dk_42 (dk_at dksX13_bursts_2 7 rfl rfl)
theorem dX13_bursts_54 : decode cX13_bursts 54 = .ok (.invokevirtual 119, 3) := dk_182 0 119 (dk_at dksX13_bursts_2 8 rfl rfl)
theorem dX13_bursts_57 : decode cX13_bursts 57 = .ok (.iinc 3 1, 3) := dk_132 3 1 (dk_at dksX13_bursts_2 11 rfl rfl)
theorem dX13_bursts_60 : decode cX13_bursts 60 = .ok (.goto (-24), 3) := dk_167 255 232 (dk_at dksX13_bursts_2 14 rfl rfl)
theorem dX13_bursts_63 : decode cX13_bursts 63 = .ok (.aload_n 0, 1) := dk_42 (dk_at dksX13_bursts_2 17 rfl rfl)
theorem dX13_bursts_64 : decode cX13_bursts 64 = .ok (.getfield 19, 3) := dk_180 0 19 (dk_at dksX13_bursts_2 18 rfl rfl)
theorem dX13_bursts_67 : decode cX13_bursts 67 = .ok (.aload_n 0, 1) := dk_42 (dk_at dksX13_bursts_2 21 rfl rfl)
theorem dX13_bursts_68 : decode cX13_bursts 68 = .ok (.getfield 7, 3) := dk_180 0 7 (dk_at dksX13_bursts_3 0 rfl rfl)
theorem dX13_bursts_71 : decode cX13_bursts 71 = .ok (.invokestatic 140, 3) := dk_184 0 140 (dk_at dksX13_bursts_3 3 rfl rfl)
theorem dX13_bursts_74 : decode cX13_bursts 74 = .ok (.iload_n 3, 1) := dk_29 (dk_at dksX13_bursts_3 6 rfl rfl)
theorem dX13_bursts_75 : decode cX13_bursts 75 = .ok (.bipush 100, 2) := dk_16 100 (dk_at dksX13_bursts_3 7 rfl rfl)
theorem dX13_bursts_77 : decode cX13_bursts 77 = .ok (.if_icmp .gt 7, 3) := dk_163 0 7 (dk_at dksX13_bursts_3 9 rfl rfl)
theorem dX13_bursts_80 : decode cX13_bursts 80 = .ok (.iload_n 3, 1) := dk_29 (dk_at dksX13_bursts_3 12 rfl rfl)
theorem dX13_bursts_81 : decode cX13_bursts 81 = .ok (.goto 9, 3) := dk_167 0 9 (dk_at dksX13_bursts_3 13 rfl rfl)
theorem dX13_bursts_84 : decode cX13_bursts 84 = .ok (.aload_n 0, 1) := dk_42 (dk_at dksX13_bursts_3 16 rfl rfl)
theorem dX13_bursts_85 : decode cX13_bursts 85 = .ok (.ldc 38, 2) := dk_18 38 (dk_at dksX13_bursts_3 17 rfl rfl)
theorem dX13_bursts_87 : decode cX13_bursts 87 = .ok (.invokevirtual 39, 3) := dk_182 0 39 (dk_at dksX13_bursts_3 19 rfl rfl)
theorem dX13_bursts_90 : decode cX13_bursts 90 = .ok (.ireturn, 1) := dk_172 (dk_at dksX13_bursts_3 22 rfl rfl)
abbrev cX13_when : ByteArray := prog_16_method_45_code
def yX13_when : MethodName := ⟨RX13, "when", "(II)I"⟩
def dkwX13_when_3 : List UInt8 := [180, 0, 7, 184, 0, 140, 29, 16, 100, 163, 0, 7, 29, 167, 0, 9, 42, 18, 38, 182, 0, 39, 172]
abbrev dktX13_when_3 : List UInt8 := dkwX13_when_3 ++ []
def dkwX13_when_2 : List UInt8 := [27, 182, 0, 89, 28, 162, 0, 13, 42, 182, 0, 119, 132, 3, 1, 167, 255, 234, 42, 180, 0, 19, 42]
abbrev dktX13_when_2 : List UInt8 := dkwX13_when_2 ++ dktX13_when_3
def dkwX13_when_1 : List UInt8 := [182, 0, 39, 172, 42, 180, 0, 7, 42, 180, 0, 19, 184, 0, 140, 3, 62, 29, 16, 100, 163, 0, 22, 42]
abbrev dktX13_when_1 : List UInt8 := dkwX13_when_1 ++ dktX13_when_2
def dkwX13_when_0 : List UInt8 := [42, 27, 182, 0, 86, 153, 0, 15, 28, 133, 9, 20, 0, 157, 184, 0, 49, 154, 0, 10, 42, 18, 37]
abbrev dktX13_when_0 : List UInt8 := dkwX13_when_0 ++ dktX13_when_1
theorem dksX13_when_0 : cX13_when.data.toList.drop 0 = dktX13_when_0 := by decide +kernel
theorem dksX13_when_1 : cX13_when.data.toList.drop 23 = dktX13_when_1 := dk_seg dksX13_when_0 23 rfl rfl
theorem dksX13_when_2 : cX13_when.data.toList.drop 47 = dktX13_when_2 := dk_seg dksX13_when_1 24 rfl rfl
theorem dksX13_when_3 : cX13_when.data.toList.drop 70 = dktX13_when_3 := dk_seg dksX13_when_2 23 rfl rfl
theorem dX13_when_0 : decode cX13_when 0 = .ok (.aload_n 0, 1) := dk_42 (dk_at dksX13_when_0 0 rfl rfl)
theorem dX13_when_1 : decode cX13_when 1 = .ok (.iload_n 1, 1) := dk_27 (dk_at dksX13_when_0 1 rfl rfl)
theorem dX13_when_2 : decode cX13_when 2 = .ok (.invokevirtual 86, 3) := dk_182 0 86 (dk_at dksX13_when_0 2 rfl rfl)
theorem dX13_when_5 : decode cX13_when 5 = .ok (.ifCond .eq 15, 3) := dk_153 0 15 (dk_at dksX13_when_0 5 rfl rfl)
theorem dX13_when_8 : decode cX13_when 8 = .ok (.iload_n 2, 1) := dk_28 (dk_at dksX13_when_0 8 rfl rfl)
theorem dX13_when_9 : decode cX13_when 9 = .ok (.i2l, 1) := dk_133 (dk_at dksX13_when_0 9 rfl rfl)
theorem dX13_when_10 : decode cX13_when 10 = .ok (.lconst 0, 1) := dk_9 (dk_at dksX13_when_0 10 rfl rfl)
theorem dX13_when_11 : decode cX13_when 11 = .ok (.ldc2_w 157, 3) := dk_20 0 157 (dk_at dksX13_when_0 11 rfl rfl)
theorem dX13_when_14 : decode cX13_when 14 = .ok (.invokestatic 49, 3) := dk_184 0 49 (dk_at dksX13_when_0 14 rfl rfl)
theorem dX13_when_17 : decode cX13_when 17 = .ok (.ifCond .ne 10, 3) := dk_154 0 10 (dk_at dksX13_when_0 17 rfl rfl)
theorem dX13_when_20 : decode cX13_when 20 = .ok (.aload_n 0, 1) := dk_42 (dk_at dksX13_when_0 20 rfl rfl)
theorem dX13_when_21 : decode cX13_when 21 = .ok (.ldc 37, 2) := dk_18 37 (dk_at dksX13_when_0 21 rfl rfl)
theorem dX13_when_23 : decode cX13_when 23 = .ok (.invokevirtual 39, 3) := dk_182 0 39 (dk_at dksX13_when_1 0 rfl rfl)
theorem dX13_when_26 : decode cX13_when 26 = .ok (.ireturn, 1) := dk_172 (dk_at dksX13_when_1 3 rfl rfl)
theorem dX13_when_27 : decode cX13_when 27 = .ok (.aload_n 0, 1) := dk_42 (dk_at dksX13_when_1 4 rfl rfl)
theorem dX13_when_28 : decode cX13_when 28 = .ok (.getfield 7, 3) := dk_180 0 7 (dk_at dksX13_when_1 5 rfl rfl)
theorem dX13_when_31 : decode cX13_when 31 = .ok (.aload_n 0, 1) := dk_42 (dk_at dksX13_when_1 8 rfl rfl)
theorem dX13_when_32 : decode cX13_when 32 = .ok (.getfield 19, 3) := dk_180 0 19 (dk_at dksX13_when_1 9 rfl rfl)
theorem dX13_when_35 : decode cX13_when 35 = .ok (.invokestatic 140, 3) := dk_184 0 140 (dk_at dksX13_when_1 12 rfl rfl)
theorem dX13_when_38 : decode cX13_when 38 = .ok (.iconst 0, 1) := dk_3 (dk_at dksX13_when_1 15 rfl rfl)
theorem dX13_when_39 : decode cX13_when 39 = .ok (.istore_n 3, 1) := dk_62 (dk_at dksX13_when_1 16 rfl rfl)
theorem dX13_when_40 : decode cX13_when 40 = .ok (.iload_n 3, 1) := dk_29 (dk_at dksX13_when_1 17 rfl rfl)
theorem dX13_when_41 : decode cX13_when 41 = .ok (.bipush 100, 2) := dk_16 100 (dk_at dksX13_when_1 18 rfl rfl)
theorem dX13_when_43 : decode cX13_when 43 = .ok (.if_icmp .gt 22, 3) := dk_163 0 22 (dk_at dksX13_when_1 20 rfl rfl)
theorem dX13_when_46 : decode cX13_when 46 = .ok (.aload_n 0, 1) := dk_42 (dk_at dksX13_when_1 23 rfl rfl)
theorem dX13_when_47 : decode cX13_when 47 = .ok (.iload_n 1, 1) := dk_27 (dk_at dksX13_when_2 0 rfl rfl)
theorem dX13_when_48 : decode cX13_when 48 = .ok (.invokevirtual 89, 3) := dk_182 0 89 (dk_at dksX13_when_2 1 rfl rfl)
theorem dX13_when_51 : decode cX13_when 51 = .ok (.iload_n 2, 1) := dk_28 (dk_at dksX13_when_2 4 rfl rfl)
theorem dX13_when_52 : decode cX13_when 52 = .ok (.if_icmp .ge 13, 3) := dk_162 0 13 (dk_at dksX13_when_2 5 rfl rfl)
theorem dX13_when_55 : decode cX13_when 55 = .ok (.aload_n 0, 1) := dk_42 (dk_at dksX13_when_2 8 rfl rfl)
theorem dX13_when_56 : decode cX13_when 56 = .ok (.invokevirtual 119, 3) := dk_182 0 119 (dk_at dksX13_when_2 9 rfl rfl)
theorem dX13_when_59 : decode cX13_when 59 = .ok (.iinc 3 1, 3) := dk_132 3 1 (dk_at dksX13_when_2 12 rfl rfl)
theorem dX13_when_62 : decode cX13_when 62 = .ok (.goto (-22), 3) := dk_167 255 234 (dk_at dksX13_when_2 15 rfl rfl)
theorem dX13_when_65 : decode cX13_when 65 = .ok (.aload_n 0, 1) := dk_42 (dk_at dksX13_when_2 18 rfl rfl)
theorem dX13_when_66 : decode cX13_when 66 = .ok (.getfield 19, 3) := dk_180 0 19 (dk_at dksX13_when_2 19 rfl rfl)
theorem dX13_when_69 : decode cX13_when 69 = .ok (.aload_n 0, 1) := dk_42 (dk_at dksX13_when_2 22 rfl rfl)
theorem dX13_when_70 : decode cX13_when 70 = .ok (.getfield 7, 3) := dk_180 0 7 (dk_at dksX13_when_3 0 rfl rfl)
theorem dX13_when_73 : decode cX13_when 73 = .ok (.invokestatic 140, 3) := dk_184 0 140 (dk_at dksX13_when_3 3 rfl rfl)
theorem dX13_when_76 : decode cX13_when 76 = .ok (.iload_n 3, 1) := dk_29 (dk_at dksX13_when_3 6 rfl rfl)
theorem dX13_when_77 : decode cX13_when 77 = .ok (.bipush 100, 2) := dk_16 100 (dk_at dksX13_when_3 7 rfl rfl)
theorem dX13_when_79 : decode cX13_when 79 = .ok (.if_icmp .gt 7, 3) := dk_163 0 7 (dk_at dksX13_when_3 9 rfl rfl)
theorem dX13_when_82 : decode cX13_when 82 = .ok (.iload_n 3, 1) := dk_29 (dk_at dksX13_when_3 12 rfl rfl)
theorem dX13_when_83 : decode cX13_when 83 = .ok (.goto 9, 3) := dk_167 0 9 (dk_at dksX13_when_3 13 rfl rfl)
theorem dX13_when_86 : decode cX13_when 86 = .ok (.aload_n 0, 1) := dk_42 (dk_at dksX13_when_3 16 rfl rfl)
theorem dX13_when_87 : decode cX13_when 87 = .ok (.ldc 38, 2) := dk_18 38 (dk_at dksX13_when_3 17 rfl rfl)
theorem dX13_when_89 : decode cX13_when 89 = .ok (.invokevirtual 39, 3) := dk_182 0 39 (dk_at dksX13_when_3 19 rfl rfl)
theorem dX13_when_92 : decode cX13_when 92 = .ok (.ireturn, 1) := dk_172 (dk_at dksX13_when_3 22 rfl rfl)
abbrev cX13_chain : ByteArray := prog_16_method_46_code
def yX13_chain : MethodName := ⟨RX13, "chain", "(I)I"⟩
def dkwX13_chain_4 : List UInt8 := [180, 0, 7, 184, 0, 140, 28, 172]
abbrev dktX13_chain_4 : List UInt8 := dkwX13_chain_4 ++ []
def dkwX13_chain_3 : List UInt8 := [164, 0, 9, 4, 29, 120, 167, 0, 4, 3, 128, 61, 132, 3, 1, 167, 255, 212, 42, 180, 0, 19, 42]
abbrev dktX13_chain_3 : List UInt8 := dkwX13_chain_3 ++ dktX13_chain_4
def dkwX13_chain_2 : List UInt8 := [162, 0, 40, 28, 42, 29, 16, 6, 182, 0, 57, 42, 180, 0, 19, 29, 16, 6, 184, 0, 70, 46]
abbrev dktX13_chain_2 : List UInt8 := dkwX13_chain_2 ++ dktX13_chain_3
def dkwX13_chain_1 : List UInt8 := [180, 0, 19, 184, 0, 140, 42, 27, 182, 0, 125, 3, 61, 3, 62, 29, 42, 180, 0, 7, 3, 46]
abbrev dktX13_chain_1 : List UInt8 := dkwX13_chain_1 ++ dktX13_chain_2
def dkwX13_chain_0 : List UInt8 := [27, 133, 9, 20, 0, 122, 184, 0, 49, 154, 0, 10, 42, 18, 37, 182, 0, 39, 172, 42, 180, 0, 7, 42]
abbrev dktX13_chain_0 : List UInt8 := dkwX13_chain_0 ++ dktX13_chain_1
theorem dksX13_chain_0 : cX13_chain.data.toList.drop 0 = dktX13_chain_0 := by decide +kernel
theorem dksX13_chain_1 : cX13_chain.data.toList.drop 24 = dktX13_chain_1 := dk_seg dksX13_chain_0 24 rfl rfl
theorem dksX13_chain_2 : cX13_chain.data.toList.drop 46 = dktX13_chain_2 := dk_seg dksX13_chain_1 22 rfl rfl
theorem dksX13_chain_3 : cX13_chain.data.toList.drop 68 = dktX13_chain_3 := dk_seg dksX13_chain_2 22 rfl rfl
theorem dksX13_chain_4 : cX13_chain.data.toList.drop 91 = dktX13_chain_4 := dk_seg dksX13_chain_3 23 rfl rfl
theorem dX13_chain_0 : decode cX13_chain 0 = .ok (.iload_n 1, 1) := dk_27 (dk_at dksX13_chain_0 0 rfl rfl)
theorem dX13_chain_1 : decode cX13_chain 1 = .ok (.i2l, 1) := dk_133 (dk_at dksX13_chain_0 1 rfl rfl)
theorem dX13_chain_2 : decode cX13_chain 2 = .ok (.lconst 0, 1) := dk_9 (dk_at dksX13_chain_0 2 rfl rfl)
theorem dX13_chain_3 : decode cX13_chain 3 = .ok (.ldc2_w 122, 3) := dk_20 0 122 (dk_at dksX13_chain_0 3 rfl rfl)
theorem dX13_chain_6 : decode cX13_chain 6 = .ok (.invokestatic 49, 3) := dk_184 0 49 (dk_at dksX13_chain_0 6 rfl rfl)
theorem dX13_chain_9 : decode cX13_chain 9 = .ok (.ifCond .ne 10, 3) := dk_154 0 10 (dk_at dksX13_chain_0 9 rfl rfl)
theorem dX13_chain_12 : decode cX13_chain 12 = .ok (.aload_n 0, 1) := dk_42 (dk_at dksX13_chain_0 12 rfl rfl)
theorem dX13_chain_13 : decode cX13_chain 13 = .ok (.ldc 37, 2) := dk_18 37 (dk_at dksX13_chain_0 13 rfl rfl)
theorem dX13_chain_15 : decode cX13_chain 15 = .ok (.invokevirtual 39, 3) := dk_182 0 39 (dk_at dksX13_chain_0 15 rfl rfl)
theorem dX13_chain_18 : decode cX13_chain 18 = .ok (.ireturn, 1) := dk_172 (dk_at dksX13_chain_0 18 rfl rfl)
theorem dX13_chain_19 : decode cX13_chain 19 = .ok (.aload_n 0, 1) := dk_42 (dk_at dksX13_chain_0 19 rfl rfl)
theorem dX13_chain_20 : decode cX13_chain 20 = .ok (.getfield 7, 3) := dk_180 0 7 (dk_at dksX13_chain_0 20 rfl rfl)
theorem dX13_chain_23 : decode cX13_chain 23 = .ok (.aload_n 0, 1) := dk_42 (dk_at dksX13_chain_0 23 rfl rfl)
theorem dX13_chain_24 : decode cX13_chain 24 = .ok (.getfield 19, 3) := dk_180 0 19 (dk_at dksX13_chain_1 0 rfl rfl)
theorem dX13_chain_27 : decode cX13_chain 27 = .ok (.invokestatic 140, 3) := dk_184 0 140 (dk_at dksX13_chain_1 3 rfl rfl)
theorem dX13_chain_30 : decode cX13_chain 30 = .ok (.aload_n 0, 1) := dk_42 (dk_at dksX13_chain_1 6 rfl rfl)
theorem dX13_chain_31 : decode cX13_chain 31 = .ok (.iload_n 1, 1) := dk_27 (dk_at dksX13_chain_1 7 rfl rfl)
theorem dX13_chain_32 : decode cX13_chain 32 = .ok (.invokevirtual 125, 3) := dk_182 0 125 (dk_at dksX13_chain_1 8 rfl rfl)
theorem dX13_chain_35 : decode cX13_chain 35 = .ok (.iconst 0, 1) := dk_3 (dk_at dksX13_chain_1 11 rfl rfl)
theorem dX13_chain_36 : decode cX13_chain 36 = .ok (.istore_n 2, 1) := dk_61 (dk_at dksX13_chain_1 12 rfl rfl)
theorem dX13_chain_37 : decode cX13_chain 37 = .ok (.iconst 0, 1) := dk_3 (dk_at dksX13_chain_1 13 rfl rfl)
theorem dX13_chain_38 : decode cX13_chain 38 = .ok (.istore_n 3, 1) := dk_62 (dk_at dksX13_chain_1 14 rfl rfl)
theorem dX13_chain_39 : decode cX13_chain 39 = .ok (.iload_n 3, 1) := dk_29 (dk_at dksX13_chain_1 15 rfl rfl)
theorem dX13_chain_40 : decode cX13_chain 40 = .ok (.aload_n 0, 1) := dk_42 (dk_at dksX13_chain_1 16 rfl rfl)
theorem dX13_chain_41 : decode cX13_chain 41 = .ok (.getfield 7, 3) := dk_180 0 7 (dk_at dksX13_chain_1 17 rfl rfl)
theorem dX13_chain_44 : decode cX13_chain 44 = .ok (.iconst 0, 1) := dk_3 (dk_at dksX13_chain_1 20 rfl rfl)
theorem dX13_chain_45 : decode cX13_chain 45 = .ok (.iaload, 1) := dk_46 (dk_at dksX13_chain_1 21 rfl rfl)
theorem dX13_chain_46 : decode cX13_chain 46 = .ok (.if_icmp .ge 40, 3) := dk_162 0 40 (dk_at dksX13_chain_2 0 rfl rfl)
theorem dX13_chain_49 : decode cX13_chain 49 = .ok (.iload_n 2, 1) := dk_28 (dk_at dksX13_chain_2 3 rfl rfl)
theorem dX13_chain_50 : decode cX13_chain 50 = .ok (.aload_n 0, 1) := dk_42 (dk_at dksX13_chain_2 4 rfl rfl)
theorem dX13_chain_51 : decode cX13_chain 51 = .ok (.iload_n 3, 1) := dk_29 (dk_at dksX13_chain_2 5 rfl rfl)
theorem dX13_chain_52 : decode cX13_chain 52 = .ok (.bipush 6, 2) := dk_16 6 (dk_at dksX13_chain_2 6 rfl rfl)
theorem dX13_chain_54 : decode cX13_chain 54 = .ok (.invokevirtual 57, 3) := dk_182 0 57 (dk_at dksX13_chain_2 8 rfl rfl)
theorem dX13_chain_57 : decode cX13_chain 57 = .ok (.aload_n 0, 1) := dk_42 (dk_at dksX13_chain_2 11 rfl rfl)
theorem dX13_chain_58 : decode cX13_chain 58 = .ok (.getfield 19, 3) := dk_180 0 19 (dk_at dksX13_chain_2 12 rfl rfl)
theorem dX13_chain_61 : decode cX13_chain 61 = .ok (.iload_n 3, 1) := dk_29 (dk_at dksX13_chain_2 15 rfl rfl)
theorem dX13_chain_62 : decode cX13_chain 62 = .ok (.bipush 6, 2) := dk_16 6 (dk_at dksX13_chain_2 16 rfl rfl)
theorem dX13_chain_64 : decode cX13_chain 64 = .ok (.invokestatic 70, 3) := dk_184 0 70 (dk_at dksX13_chain_2 18 rfl rfl)
theorem dX13_chain_67 : decode cX13_chain 67 = .ok (.iaload, 1) := dk_46 (dk_at dksX13_chain_2 21 rfl rfl)
theorem dX13_chain_68 : decode cX13_chain 68 = .ok (.if_icmp .le 9, 3) := dk_164 0 9 (dk_at dksX13_chain_3 0 rfl rfl)
theorem dX13_chain_71 : decode cX13_chain 71 = .ok (.iconst 1, 1) := dk_4 (dk_at dksX13_chain_3 3 rfl rfl)
theorem dX13_chain_72 : decode cX13_chain 72 = .ok (.iload_n 3, 1) := dk_29 (dk_at dksX13_chain_3 4 rfl rfl)
theorem dX13_chain_73 : decode cX13_chain 73 = .ok (.ishl, 1) := dk_120 (dk_at dksX13_chain_3 5 rfl rfl)
theorem dX13_chain_74 : decode cX13_chain 74 = .ok (.goto 4, 3) := dk_167 0 4 (dk_at dksX13_chain_3 6 rfl rfl)
theorem dX13_chain_77 : decode cX13_chain 77 = .ok (.iconst 0, 1) := dk_3 (dk_at dksX13_chain_3 9 rfl rfl)
theorem dX13_chain_78 : decode cX13_chain 78 = .ok (.ior, 1) := dk_128 (dk_at dksX13_chain_3 10 rfl rfl)
theorem dX13_chain_79 : decode cX13_chain 79 = .ok (.istore_n 2, 1) := dk_61 (dk_at dksX13_chain_3 11 rfl rfl)
theorem dX13_chain_80 : decode cX13_chain 80 = .ok (.iinc 3 1, 3) := dk_132 3 1 (dk_at dksX13_chain_3 12 rfl rfl)
theorem dX13_chain_83 : decode cX13_chain 83 = .ok (.goto (-44), 3) := dk_167 255 212 (dk_at dksX13_chain_3 15 rfl rfl)
theorem dX13_chain_86 : decode cX13_chain 86 = .ok (.aload_n 0, 1) := dk_42 (dk_at dksX13_chain_3 18 rfl rfl)
theorem dX13_chain_87 : decode cX13_chain 87 = .ok (.getfield 19, 3) := dk_180 0 19 (dk_at dksX13_chain_3 19 rfl rfl)
theorem dX13_chain_90 : decode cX13_chain 90 = .ok (.aload_n 0, 1) := dk_42 (dk_at dksX13_chain_3 22 rfl rfl)
theorem dX13_chain_91 : decode cX13_chain 91 = .ok (.getfield 7, 3) := dk_180 0 7 (dk_at dksX13_chain_4 0 rfl rfl)
theorem dX13_chain_94 : decode cX13_chain 94 = .ok (.invokestatic 140, 3) := dk_184 0 140 (dk_at dksX13_chain_4 3 rfl rfl)
theorem dX13_chain_97 : decode cX13_chain 97 = .ok (.iload_n 2, 1) := dk_28 (dk_at dksX13_chain_4 6 rfl rfl)
theorem dX13_chain_98 : decode cX13_chain 98 = .ok (.ireturn, 1) := dk_172 (dk_at dksX13_chain_4 7 rfl rfl)
abbrev cX13_lay : ByteArray := prog_16_method_49_code
def yX13_lay : MethodName := ⟨RX13, "lay", "(II)I"⟩
def dkwX13_lay_1 : List UInt8 := [182, 0, 39, 172]
abbrev dktX13_lay_1 : List UInt8 := dkwX13_lay_1 ++ []
def dkwX13_lay_0 : List UInt8 := [42, 27, 28, 182, 0, 161, 153, 0, 13, 42, 27, 4, 28, 182, 0, 165, 167, 0, 9, 42, 18, 37]
abbrev dktX13_lay_0 : List UInt8 := dkwX13_lay_0 ++ dktX13_lay_1
theorem dksX13_lay_0 : cX13_lay.data.toList.drop 0 = dktX13_lay_0 := by decide +kernel
theorem dksX13_lay_1 : cX13_lay.data.toList.drop 22 = dktX13_lay_1 := dk_seg dksX13_lay_0 22 rfl rfl
theorem dX13_lay_0 : decode cX13_lay 0 = .ok (.aload_n 0, 1) := dk_42 (dk_at dksX13_lay_0 0 rfl rfl)
theorem dX13_lay_1 : decode cX13_lay 1 = .ok (.iload_n 1, 1) := dk_27 (dk_at dksX13_lay_0 1 rfl rfl)
theorem dX13_lay_2 : decode cX13_lay 2 = .ok (.iload_n 2, 1) := dk_28 (dk_at dksX13_lay_0 2 rfl rfl)
theorem dX13_lay_3 : decode cX13_lay 3 = .ok (.invokevirtual 161, 3) := dk_182 0 161 (dk_at dksX13_lay_0 3 rfl rfl)
theorem dX13_lay_6 : decode cX13_lay 6 = .ok (.ifCond .eq 13, 3) := dk_153 0 13 (dk_at dksX13_lay_0 6 rfl rfl)
theorem dX13_lay_9 : decode cX13_lay 9 = .ok (.aload_n 0, 1) := dk_42 (dk_at dksX13_lay_0 9 rfl rfl)
theorem dX13_lay_10 : decode cX13_lay 10 = .ok (.iload_n 1, 1) := dk_27 (dk_at dksX13_lay_0 10 rfl rfl)
theorem dX13_lay_11 : decode cX13_lay 11 = .ok (.iconst 1, 1) := dk_4 (dk_at dksX13_lay_0 11 rfl rfl)
theorem dX13_lay_12 : decode cX13_lay 12 = .ok (.iload_n 2, 1) := dk_28 (dk_at dksX13_lay_0 12 rfl rfl)
theorem dX13_lay_13 : decode cX13_lay 13 = .ok (.invokevirtual 165, 3) := dk_182 0 165 (dk_at dksX13_lay_0 13 rfl rfl)
theorem dX13_lay_16 : decode cX13_lay 16 = .ok (.goto 9, 3) := dk_167 0 9 (dk_at dksX13_lay_0 16 rfl rfl)
theorem dX13_lay_19 : decode cX13_lay 19 = .ok (.aload_n 0, 1) := dk_42 (dk_at dksX13_lay_0 19 rfl rfl)
theorem dX13_lay_20 : decode cX13_lay 20 = .ok (.ldc 37, 2) := dk_18 37 (dk_at dksX13_lay_0 20 rfl rfl)
theorem dX13_lay_22 : decode cX13_lay 22 = .ok (.invokevirtual 39, 3) := dk_182 0 39 (dk_at dksX13_lay_1 0 rfl rfl)
theorem dX13_lay_25 : decode cX13_lay 25 = .ok (.ireturn, 1) := dk_172 (dk_at dksX13_lay_1 3 rfl rfl)
abbrev cX13_isAsked : ByteArray := prog_16_method_47_code
def yX13_isAsked : MethodName := ⟨RX13, "isAsked", "(II)Z"⟩
def dkwX13_isAsked_1 : List UInt8 := [3, 172]
abbrev dktX13_isAsked_1 : List UInt8 := dkwX13_isAsked_1 ++ []
def dkwX13_isAsked_0 : List UInt8 := [42, 27, 182, 0, 86, 153, 0, 19, 28, 133, 9, 20, 0, 159, 184, 0, 49, 153, 0, 7, 4, 167, 0, 4]
abbrev dktX13_isAsked_0 : List UInt8 := dkwX13_isAsked_0 ++ dktX13_isAsked_1
theorem dksX13_isAsked_0 : cX13_isAsked.data.toList.drop 0 = dktX13_isAsked_0 := by decide +kernel
theorem dksX13_isAsked_1 : cX13_isAsked.data.toList.drop 24 = dktX13_isAsked_1 := dk_seg dksX13_isAsked_0 24 rfl rfl
theorem dX13_isAsked_0 : decode cX13_isAsked 0 = .ok (.aload_n 0, 1) := dk_42 (dk_at dksX13_isAsked_0 0 rfl rfl)
theorem dX13_isAsked_1 : decode cX13_isAsked 1 = .ok (.iload_n 1, 1) := dk_27 (dk_at dksX13_isAsked_0 1 rfl rfl)
theorem dX13_isAsked_2 : decode cX13_isAsked 2 = .ok (.invokevirtual 86, 3) := dk_182 0 86 (dk_at dksX13_isAsked_0 2 rfl rfl)
theorem dX13_isAsked_5 : decode cX13_isAsked 5 = .ok (.ifCond .eq 19, 3) := dk_153 0 19 (dk_at dksX13_isAsked_0 5 rfl rfl)
theorem dX13_isAsked_8 : decode cX13_isAsked 8 = .ok (.iload_n 2, 1) := dk_28 (dk_at dksX13_isAsked_0 8 rfl rfl)
theorem dX13_isAsked_9 : decode cX13_isAsked 9 = .ok (.i2l, 1) := dk_133 (dk_at dksX13_isAsked_0 9 rfl rfl)
theorem dX13_isAsked_10 : decode cX13_isAsked 10 = .ok (.lconst 0, 1) := dk_9 (dk_at dksX13_isAsked_0 10 rfl rfl)
theorem dX13_isAsked_11 : decode cX13_isAsked 11 = .ok (.ldc2_w 159, 3) := dk_20 0 159 (dk_at dksX13_isAsked_0 11 rfl rfl)
theorem dX13_isAsked_14 : decode cX13_isAsked 14 = .ok (.invokestatic 49, 3) := dk_184 0 49 (dk_at dksX13_isAsked_0 14 rfl rfl)
theorem dX13_isAsked_17 : decode cX13_isAsked 17 = .ok (.ifCond .eq 7, 3) := dk_153 0 7 (dk_at dksX13_isAsked_0 17 rfl rfl)
theorem dX13_isAsked_20 : decode cX13_isAsked 20 = .ok (.iconst 1, 1) := dk_4 (dk_at dksX13_isAsked_0 20 rfl rfl)
theorem dX13_isAsked_21 : decode cX13_isAsked 21 = .ok (.goto 4, 3) := dk_167 0 4 (dk_at dksX13_isAsked_0 21 rfl rfl)
theorem dX13_isAsked_24 : decode cX13_isAsked 24 = .ok (.iconst 0, 1) := dk_3 (dk_at dksX13_isAsked_1 0 rfl rfl)
theorem dX13_isAsked_25 : decode cX13_isAsked 25 = .ok (.ireturn, 1) := dk_172 (dk_at dksX13_isAsked_1 1 rfl rfl)
abbrev cX13_loudestBy : ByteArray := prog_16_method_48_code
def yX13_loudestBy : MethodName := ⟨RX13, "loudestBy", "(III)I"⟩
def dkwX13_loudestBy_4 : List UInt8 := [21, 5, 172]
abbrev dktX13_loudestBy_4 : List UInt8 := dkwX13_loudestBy_4 ++ []
def dkwX13_loudestBy_3 : List UInt8 := [184, 0, 80, 54, 6, 132, 7, 1, 167, 255, 197, 42, 180, 0, 7, 27, 28, 184, 0, 70, 21, 4, 79]
abbrev dktX13_loudestBy_3 : List UInt8 := dkwX13_loudestBy_3 ++ dktX13_loudestBy_4
def dkwX13_loudestBy_2 : List UInt8 := [54, 8, 21, 8, 21, 6, 164, 0, 8, 21, 7, 167, 0, 5, 21, 5, 54, 5, 21, 6, 21, 8]
abbrev dktX13_loudestBy_2 : List UInt8 := dkwX13_loudestBy_2 ++ dktX13_loudestBy_3
def dkwX13_loudestBy_1 : List UInt8 := [163, 0, 56, 42, 180, 0, 7, 27, 28, 184, 0, 70, 21, 7, 79, 42, 27, 16, 7, 29, 182, 0, 150]
abbrev dktX13_loudestBy_1 : List UInt8 := dkwX13_loudestBy_1 ++ dktX13_loudestBy_2
def dkwX13_loudestBy_0 : List UInt8 := [42, 27, 28, 182, 0, 57, 54, 4, 3, 54, 5, 2, 54, 6, 3, 54, 7, 21, 7, 28, 184, 0, 98]
abbrev dktX13_loudestBy_0 : List UInt8 := dkwX13_loudestBy_0 ++ dktX13_loudestBy_1
theorem dksX13_loudestBy_0 : cX13_loudestBy.data.toList.drop 0 = dktX13_loudestBy_0 := by decide +kernel
theorem dksX13_loudestBy_1 : cX13_loudestBy.data.toList.drop 23 = dktX13_loudestBy_1 := dk_seg dksX13_loudestBy_0 23 rfl rfl
theorem dksX13_loudestBy_2 : cX13_loudestBy.data.toList.drop 46 = dktX13_loudestBy_2 := dk_seg dksX13_loudestBy_1 23 rfl rfl
theorem dksX13_loudestBy_3 : cX13_loudestBy.data.toList.drop 68 = dktX13_loudestBy_3 := dk_seg dksX13_loudestBy_2 22 rfl rfl
theorem dksX13_loudestBy_4 : cX13_loudestBy.data.toList.drop 91 = dktX13_loudestBy_4 := dk_seg dksX13_loudestBy_3 23 rfl rfl
theorem dX13_loudestBy_0 : decode cX13_loudestBy 0 = .ok (.aload_n 0, 1) := dk_42 (dk_at dksX13_loudestBy_0 0 rfl rfl)
theorem dX13_loudestBy_1 : decode cX13_loudestBy 1 = .ok (.iload_n 1, 1) := dk_27 (dk_at dksX13_loudestBy_0 1 rfl rfl)
theorem dX13_loudestBy_2 : decode cX13_loudestBy 2 = .ok (.iload_n 2, 1) := dk_28 (dk_at dksX13_loudestBy_0 2 rfl rfl)
theorem dX13_loudestBy_3 : decode cX13_loudestBy 3 = .ok (.invokevirtual 57, 3) := dk_182 0 57 (dk_at dksX13_loudestBy_0 3 rfl rfl)
theorem dX13_loudestBy_6 : decode cX13_loudestBy 6 = .ok (.istore 4, 2) := dk_54 4 (dk_at dksX13_loudestBy_0 6 rfl rfl)
theorem dX13_loudestBy_8 : decode cX13_loudestBy 8 = .ok (.iconst 0, 1) := dk_3 (dk_at dksX13_loudestBy_0 8 rfl rfl)
theorem dX13_loudestBy_9 : decode cX13_loudestBy 9 = .ok (.istore 5, 2) := dk_54 5 (dk_at dksX13_loudestBy_0 9 rfl rfl)
theorem dX13_loudestBy_11 : decode cX13_loudestBy 11 = .ok (.iconst (-1), 1) := dk_2 (dk_at dksX13_loudestBy_0 11 rfl rfl)
theorem dX13_loudestBy_12 : decode cX13_loudestBy 12 = .ok (.istore 6, 2) := dk_54 6 (dk_at dksX13_loudestBy_0 12 rfl rfl)
theorem dX13_loudestBy_14 : decode cX13_loudestBy 14 = .ok (.iconst 0, 1) := dk_3 (dk_at dksX13_loudestBy_0 14 rfl rfl)
theorem dX13_loudestBy_15 : decode cX13_loudestBy 15 = .ok (.istore 7, 2) := dk_54 7 (dk_at dksX13_loudestBy_0 15 rfl rfl)
theorem dX13_loudestBy_17 : decode cX13_loudestBy 17 = .ok (.iload 7, 2) := dk_21 7 (dk_at dksX13_loudestBy_0 17 rfl rfl)
theorem dX13_loudestBy_19 : decode cX13_loudestBy 19 = .ok (.iload_n 2, 1) := dk_28 (dk_at dksX13_loudestBy_0 19 rfl rfl)
theorem dX13_loudestBy_20 : decode cX13_loudestBy 20 = .ok (.invokestatic 98, 3) := dk_184 0 98 (dk_at dksX13_loudestBy_0 20 rfl rfl)
theorem dX13_loudestBy_23 : decode cX13_loudestBy 23 = .ok (.if_icmp .gt 56, 3) := dk_163 0 56 (dk_at dksX13_loudestBy_1 0 rfl rfl)
theorem dX13_loudestBy_26 : decode cX13_loudestBy 26 = .ok (.aload_n 0, 1) := dk_42 (dk_at dksX13_loudestBy_1 3 rfl rfl)
theorem dX13_loudestBy_27 : decode cX13_loudestBy 27 = .ok (.getfield 7, 3) := dk_180 0 7 (dk_at dksX13_loudestBy_1 4 rfl rfl)
theorem dX13_loudestBy_30 : decode cX13_loudestBy 30 = .ok (.iload_n 1, 1) := dk_27 (dk_at dksX13_loudestBy_1 7 rfl rfl)
theorem dX13_loudestBy_31 : decode cX13_loudestBy 31 = .ok (.iload_n 2, 1) := dk_28 (dk_at dksX13_loudestBy_1 8 rfl rfl)
theorem dX13_loudestBy_32 : decode cX13_loudestBy 32 = .ok (.invokestatic 70, 3) := dk_184 0 70 (dk_at dksX13_loudestBy_1 9 rfl rfl)
theorem dX13_loudestBy_35 : decode cX13_loudestBy 35 = .ok (.iload 7, 2) := dk_21 7 (dk_at dksX13_loudestBy_1 12 rfl rfl)
theorem dX13_loudestBy_37 : decode cX13_loudestBy 37 = .ok (.iastore, 1) := dk_79 (dk_at dksX13_loudestBy_1 14 rfl rfl)
theorem dX13_loudestBy_38 : decode cX13_loudestBy 38 = .ok (.aload_n 0, 1) := dk_42 (dk_at dksX13_loudestBy_1 15 rfl rfl)
theorem dX13_loudestBy_39 : decode cX13_loudestBy 39 = .ok (.iload_n 1, 1) := dk_27 (dk_at dksX13_loudestBy_1 16 rfl rfl)
theorem dX13_loudestBy_40 : decode cX13_loudestBy 40 = .ok (.bipush 7, 2) := dk_16 7 (dk_at dksX13_loudestBy_1 17 rfl rfl)
theorem dX13_loudestBy_42 : decode cX13_loudestBy 42 = .ok (.iload_n 3, 1) := dk_29 (dk_at dksX13_loudestBy_1 19 rfl rfl)
theorem dX13_loudestBy_43 : decode cX13_loudestBy 43 = .ok (.invokevirtual 150, 3) := dk_182 0 150 (dk_at dksX13_loudestBy_1 20 rfl rfl)
theorem dX13_loudestBy_46 : decode cX13_loudestBy 46 = .ok (.istore 8, 2) := dk_54 8 (dk_at dksX13_loudestBy_2 0 rfl rfl)
theorem dX13_loudestBy_48 : decode cX13_loudestBy 48 = .ok (.iload 8, 2) := dk_21 8 (dk_at dksX13_loudestBy_2 2 rfl rfl)
theorem dX13_loudestBy_50 : decode cX13_loudestBy 50 = .ok (.iload 6, 2) := dk_21 6 (dk_at dksX13_loudestBy_2 4 rfl rfl)
theorem dX13_loudestBy_52 : decode cX13_loudestBy 52 = .ok (.if_icmp .le 8, 3) := dk_164 0 8 (dk_at dksX13_loudestBy_2 6 rfl rfl)
theorem dX13_loudestBy_55 : decode cX13_loudestBy 55 = .ok (.iload 7, 2) := dk_21 7 (dk_at dksX13_loudestBy_2 9 rfl rfl)
theorem dX13_loudestBy_57 : decode cX13_loudestBy 57 = .ok (.goto 5, 3) := dk_167 0 5 (dk_at dksX13_loudestBy_2 11 rfl rfl)
theorem dX13_loudestBy_60 : decode cX13_loudestBy 60 = .ok (.iload 5, 2) := dk_21 5 (dk_at dksX13_loudestBy_2 14 rfl rfl)
theorem dX13_loudestBy_62 : decode cX13_loudestBy 62 = .ok (.istore 5, 2) := dk_54 5 (dk_at dksX13_loudestBy_2 16 rfl rfl)
theorem dX13_loudestBy_64 : decode cX13_loudestBy 64 = .ok (.iload 6, 2) := dk_21 6 (dk_at dksX13_loudestBy_2 18 rfl rfl)
theorem dX13_loudestBy_66 : decode cX13_loudestBy 66 = .ok (.iload 8, 2) := dk_21 8 (dk_at dksX13_loudestBy_2 20 rfl rfl)
theorem dX13_loudestBy_68 : decode cX13_loudestBy 68 = .ok (.invokestatic 80, 3) := dk_184 0 80 (dk_at dksX13_loudestBy_3 0 rfl rfl)
theorem dX13_loudestBy_71 : decode cX13_loudestBy 71 = .ok (.istore 6, 2) := dk_54 6 (dk_at dksX13_loudestBy_3 3 rfl rfl)
theorem dX13_loudestBy_73 : decode cX13_loudestBy 73 = .ok (.iinc 7 1, 3) := dk_132 7 1 (dk_at dksX13_loudestBy_3 5 rfl rfl)
theorem dX13_loudestBy_76 : decode cX13_loudestBy 76 = .ok (.goto (-59), 3) := dk_167 255 197 (dk_at dksX13_loudestBy_3 8 rfl rfl)
theorem dX13_loudestBy_79 : decode cX13_loudestBy 79 = .ok (.aload_n 0, 1) := dk_42 (dk_at dksX13_loudestBy_3 11 rfl rfl)
theorem dX13_loudestBy_80 : decode cX13_loudestBy 80 = .ok (.getfield 7, 3) := dk_180 0 7 (dk_at dksX13_loudestBy_3 12 rfl rfl)
theorem dX13_loudestBy_83 : decode cX13_loudestBy 83 = .ok (.iload_n 1, 1) := dk_27 (dk_at dksX13_loudestBy_3 15 rfl rfl)
theorem dX13_loudestBy_84 : decode cX13_loudestBy 84 = .ok (.iload_n 2, 1) := dk_28 (dk_at dksX13_loudestBy_3 16 rfl rfl)
theorem dX13_loudestBy_85 : decode cX13_loudestBy 85 = .ok (.invokestatic 70, 3) := dk_184 0 70 (dk_at dksX13_loudestBy_3 17 rfl rfl)
theorem dX13_loudestBy_88 : decode cX13_loudestBy 88 = .ok (.iload 4, 2) := dk_21 4 (dk_at dksX13_loudestBy_3 20 rfl rfl)
theorem dX13_loudestBy_90 : decode cX13_loudestBy 90 = .ok (.iastore, 1) := dk_79 (dk_at dksX13_loudestBy_3 22 rfl rfl)
theorem dX13_loudestBy_91 : decode cX13_loudestBy 91 = .ok (.iload 5, 2) := dk_21 5 (dk_at dksX13_loudestBy_4 0 rfl rfl)
theorem dX13_loudestBy_93 : decode cX13_loudestBy 93 = .ok (.ireturn, 1) := dk_172 (dk_at dksX13_loudestBy_4 2 rfl rfl)
abbrev cX13_kindFor : ByteArray := prog_16_method_50_code
def yX13_kindFor : MethodName := ⟨RX13, "kindFor", "(II)I"⟩
def dkwX13_kindFor_1 : List UInt8 := [182, 0, 39, 172]
abbrev dktX13_kindFor_1 : List UInt8 := dkwX13_kindFor_1 ++ []
def dkwX13_kindFor_0 : List UInt8 := [42, 27, 28, 182, 0, 161, 153, 0, 13, 42, 27, 3, 28, 182, 0, 165, 167, 0, 9, 42, 18, 37]
abbrev dktX13_kindFor_0 : List UInt8 := dkwX13_kindFor_0 ++ dktX13_kindFor_1
theorem dksX13_kindFor_0 : cX13_kindFor.data.toList.drop 0 = dktX13_kindFor_0 := by decide +kernel
theorem dksX13_kindFor_1 : cX13_kindFor.data.toList.drop 22 = dktX13_kindFor_1 := dk_seg dksX13_kindFor_0 22 rfl rfl
theorem dX13_kindFor_0 : decode cX13_kindFor 0 = .ok (.aload_n 0, 1) := dk_42 (dk_at dksX13_kindFor_0 0 rfl rfl)
theorem dX13_kindFor_1 : decode cX13_kindFor 1 = .ok (.iload_n 1, 1) := dk_27 (dk_at dksX13_kindFor_0 1 rfl rfl)
theorem dX13_kindFor_2 : decode cX13_kindFor 2 = .ok (.iload_n 2, 1) := dk_28 (dk_at dksX13_kindFor_0 2 rfl rfl)
theorem dX13_kindFor_3 : decode cX13_kindFor 3 = .ok (.invokevirtual 161, 3) := dk_182 0 161 (dk_at dksX13_kindFor_0 3 rfl rfl)
theorem dX13_kindFor_6 : decode cX13_kindFor 6 = .ok (.ifCond .eq 13, 3) := dk_153 0 13 (dk_at dksX13_kindFor_0 6 rfl rfl)
theorem dX13_kindFor_9 : decode cX13_kindFor 9 = .ok (.aload_n 0, 1) := dk_42 (dk_at dksX13_kindFor_0 9 rfl rfl)
theorem dX13_kindFor_10 : decode cX13_kindFor 10 = .ok (.iload_n 1, 1) := dk_27 (dk_at dksX13_kindFor_0 10 rfl rfl)
theorem dX13_kindFor_11 : decode cX13_kindFor 11 = .ok (.iconst 0, 1) := dk_3 (dk_at dksX13_kindFor_0 11 rfl rfl)
theorem dX13_kindFor_12 : decode cX13_kindFor 12 = .ok (.iload_n 2, 1) := dk_28 (dk_at dksX13_kindFor_0 12 rfl rfl)
theorem dX13_kindFor_13 : decode cX13_kindFor 13 = .ok (.invokevirtual 165, 3) := dk_182 0 165 (dk_at dksX13_kindFor_0 13 rfl rfl)
theorem dX13_kindFor_16 : decode cX13_kindFor 16 = .ok (.goto 9, 3) := dk_167 0 9 (dk_at dksX13_kindFor_0 16 rfl rfl)
theorem dX13_kindFor_19 : decode cX13_kindFor 19 = .ok (.aload_n 0, 1) := dk_42 (dk_at dksX13_kindFor_0 19 rfl rfl)
theorem dX13_kindFor_20 : decode cX13_kindFor 20 = .ok (.ldc 37, 2) := dk_18 37 (dk_at dksX13_kindFor_0 20 rfl rfl)
theorem dX13_kindFor_22 : decode cX13_kindFor 22 = .ok (.invokevirtual 39, 3) := dk_182 0 39 (dk_at dksX13_kindFor_1 0 rfl rfl)
theorem dX13_kindFor_25 : decode cX13_kindFor 25 = .ok (.ireturn, 1) := dk_172 (dk_at dksX13_kindFor_1 3 rfl rfl)
abbrev cX13_pitchFor : ByteArray := prog_16_method_51_code
def yX13_pitchFor : MethodName := ⟨RX13, "pitchFor", "(II)I"⟩
def dkwX13_pitchFor_1 : List UInt8 := [182, 0, 39, 172]
abbrev dktX13_pitchFor_1 : List UInt8 := dkwX13_pitchFor_1 ++ []
def dkwX13_pitchFor_0 : List UInt8 := [42, 27, 28, 182, 0, 161, 153, 0, 13, 42, 27, 6, 28, 182, 0, 165, 167, 0, 9, 42, 18, 37]
abbrev dktX13_pitchFor_0 : List UInt8 := dkwX13_pitchFor_0 ++ dktX13_pitchFor_1
theorem dksX13_pitchFor_0 : cX13_pitchFor.data.toList.drop 0 = dktX13_pitchFor_0 := by decide +kernel
theorem dksX13_pitchFor_1 : cX13_pitchFor.data.toList.drop 22 = dktX13_pitchFor_1 := dk_seg dksX13_pitchFor_0 22 rfl rfl
theorem dX13_pitchFor_0 : decode cX13_pitchFor 0 = .ok (.aload_n 0, 1) := dk_42 (dk_at dksX13_pitchFor_0 0 rfl rfl)
theorem dX13_pitchFor_1 : decode cX13_pitchFor 1 = .ok (.iload_n 1, 1) := dk_27 (dk_at dksX13_pitchFor_0 1 rfl rfl)
theorem dX13_pitchFor_2 : decode cX13_pitchFor 2 = .ok (.iload_n 2, 1) := dk_28 (dk_at dksX13_pitchFor_0 2 rfl rfl)
theorem dX13_pitchFor_3 : decode cX13_pitchFor 3 = .ok (.invokevirtual 161, 3) := dk_182 0 161 (dk_at dksX13_pitchFor_0 3 rfl rfl)
theorem dX13_pitchFor_6 : decode cX13_pitchFor 6 = .ok (.ifCond .eq 13, 3) := dk_153 0 13 (dk_at dksX13_pitchFor_0 6 rfl rfl)
theorem dX13_pitchFor_9 : decode cX13_pitchFor 9 = .ok (.aload_n 0, 1) := dk_42 (dk_at dksX13_pitchFor_0 9 rfl rfl)
theorem dX13_pitchFor_10 : decode cX13_pitchFor 10 = .ok (.iload_n 1, 1) := dk_27 (dk_at dksX13_pitchFor_0 10 rfl rfl)
theorem dX13_pitchFor_11 : decode cX13_pitchFor 11 = .ok (.iconst 3, 1) := dk_6 (dk_at dksX13_pitchFor_0 11 rfl rfl)
theorem dX13_pitchFor_12 : decode cX13_pitchFor 12 = .ok (.iload_n 2, 1) := dk_28 (dk_at dksX13_pitchFor_0 12 rfl rfl)
theorem dX13_pitchFor_13 : decode cX13_pitchFor 13 = .ok (.invokevirtual 165, 3) := dk_182 0 165 (dk_at dksX13_pitchFor_0 13 rfl rfl)
theorem dX13_pitchFor_16 : decode cX13_pitchFor 16 = .ok (.goto 9, 3) := dk_167 0 9 (dk_at dksX13_pitchFor_0 16 rfl rfl)
theorem dX13_pitchFor_19 : decode cX13_pitchFor 19 = .ok (.aload_n 0, 1) := dk_42 (dk_at dksX13_pitchFor_0 19 rfl rfl)
theorem dX13_pitchFor_20 : decode cX13_pitchFor 20 = .ok (.ldc 37, 2) := dk_18 37 (dk_at dksX13_pitchFor_0 20 rfl rfl)
theorem dX13_pitchFor_22 : decode cX13_pitchFor 22 = .ok (.invokevirtual 39, 3) := dk_182 0 39 (dk_at dksX13_pitchFor_1 0 rfl rfl)
theorem dX13_pitchFor_25 : decode cX13_pitchFor 25 = .ok (.ireturn, 1) := dk_172 (dk_at dksX13_pitchFor_1 3 rfl rfl)
abbrev cX13_hoopsFor : ByteArray := prog_16_method_52_code
def yX13_hoopsFor : MethodName := ⟨RX13, "hoopsFor", "(II)I"⟩
def dkwX13_hoopsFor_4 : List UInt8 := [132, 5, 1, 167, 255, 202, 42, 180, 0, 7, 27, 7, 184, 0, 70, 29, 79, 42, 21, 4, 182, 0, 170, 172]
abbrev dktX13_hoopsFor_4 : List UInt8 := dkwX13_hoopsFor_4 ++ []
def dkwX13_hoopsFor_3 : List UInt8 := [28, 182, 0, 150, 42, 27, 16, 6, 182, 0, 57, 160, 0, 8, 21, 5, 167, 0, 4, 2, 54, 4]
abbrev dktX13_hoopsFor_3 : List UInt8 := dkwX13_hoopsFor_3 ++ dktX13_hoopsFor_4
def dkwX13_hoopsFor_2 : List UInt8 := [163, 0, 52, 21, 4, 156, 0, 47, 42, 180, 0, 7, 27, 7, 184, 0, 70, 21, 5, 79, 42, 27, 16, 6]
abbrev dktX13_hoopsFor_2 : List UInt8 := dkwX13_hoopsFor_2 ++ dktX13_hoopsFor_3
def dkwX13_hoopsFor_1 : List UInt8 := [182, 0, 39, 172, 42, 27, 7, 182, 0, 57, 62, 2, 54, 4, 3, 54, 5, 21, 5, 17, 0, 200]
abbrev dktX13_hoopsFor_1 : List UInt8 := dkwX13_hoopsFor_1 ++ dktX13_hoopsFor_2
def dkwX13_hoopsFor_0 : List UInt8 := [42, 27, 182, 0, 86, 153, 0, 15, 28, 133, 9, 20, 0, 168, 184, 0, 49, 154, 0, 10, 42, 18, 37]
abbrev dktX13_hoopsFor_0 : List UInt8 := dkwX13_hoopsFor_0 ++ dktX13_hoopsFor_1
theorem dksX13_hoopsFor_0 : cX13_hoopsFor.data.toList.drop 0 = dktX13_hoopsFor_0 := by decide +kernel
theorem dksX13_hoopsFor_1 : cX13_hoopsFor.data.toList.drop 23 = dktX13_hoopsFor_1 := dk_seg dksX13_hoopsFor_0 23 rfl rfl
theorem dksX13_hoopsFor_2 : cX13_hoopsFor.data.toList.drop 45 = dktX13_hoopsFor_2 := dk_seg dksX13_hoopsFor_1 22 rfl rfl
theorem dksX13_hoopsFor_3 : cX13_hoopsFor.data.toList.drop 69 = dktX13_hoopsFor_3 := dk_seg dksX13_hoopsFor_2 24 rfl rfl
theorem dksX13_hoopsFor_4 : cX13_hoopsFor.data.toList.drop 91 = dktX13_hoopsFor_4 := dk_seg dksX13_hoopsFor_3 22 rfl rfl
theorem dX13_hoopsFor_0 : decode cX13_hoopsFor 0 = .ok (.aload_n 0, 1) := dk_42 (dk_at dksX13_hoopsFor_0 0 rfl rfl)
theorem dX13_hoopsFor_1 : decode cX13_hoopsFor 1 = .ok (.iload_n 1, 1) := dk_27 (dk_at dksX13_hoopsFor_0 1 rfl rfl)
theorem dX13_hoopsFor_2 : decode cX13_hoopsFor 2 = .ok (.invokevirtual 86, 3) := dk_182 0 86 (dk_at dksX13_hoopsFor_0 2 rfl rfl)
theorem dX13_hoopsFor_5 : decode cX13_hoopsFor 5 = .ok (.ifCond .eq 15, 3) := dk_153 0 15 (dk_at dksX13_hoopsFor_0 5 rfl rfl)
theorem dX13_hoopsFor_8 : decode cX13_hoopsFor 8 = .ok (.iload_n 2, 1) := dk_28 (dk_at dksX13_hoopsFor_0 8 rfl rfl)
theorem dX13_hoopsFor_9 : decode cX13_hoopsFor 9 = .ok (.i2l, 1) := dk_133 (dk_at dksX13_hoopsFor_0 9 rfl rfl)
theorem dX13_hoopsFor_10 : decode cX13_hoopsFor 10 = .ok (.lconst 0, 1) := dk_9 (dk_at dksX13_hoopsFor_0 10 rfl rfl)
theorem dX13_hoopsFor_11 : decode cX13_hoopsFor 11 = .ok (.ldc2_w 168, 3) := dk_20 0 168 (dk_at dksX13_hoopsFor_0 11 rfl rfl)
theorem dX13_hoopsFor_14 : decode cX13_hoopsFor 14 = .ok (.invokestatic 49, 3) := dk_184 0 49 (dk_at dksX13_hoopsFor_0 14 rfl rfl)
theorem dX13_hoopsFor_17 : decode cX13_hoopsFor 17 = .ok (.ifCond .ne 10, 3) := dk_154 0 10 (dk_at dksX13_hoopsFor_0 17 rfl rfl)
theorem dX13_hoopsFor_20 : decode cX13_hoopsFor 20 = .ok (.aload_n 0, 1) := dk_42 (dk_at dksX13_hoopsFor_0 20 rfl rfl)
theorem dX13_hoopsFor_21 : decode cX13_hoopsFor 21 = .ok (.ldc 37, 2) := dk_18 37 (dk_at dksX13_hoopsFor_0 21 rfl rfl)
theorem dX13_hoopsFor_23 : decode cX13_hoopsFor 23 = .ok (.invokevirtual 39, 3) := dk_182 0 39 (dk_at dksX13_hoopsFor_1 0 rfl rfl)
theorem dX13_hoopsFor_26 : decode cX13_hoopsFor 26 = .ok (.ireturn, 1) := dk_172 (dk_at dksX13_hoopsFor_1 3 rfl rfl)
theorem dX13_hoopsFor_27 : decode cX13_hoopsFor 27 = .ok (.aload_n 0, 1) := dk_42 (dk_at dksX13_hoopsFor_1 4 rfl rfl)
theorem dX13_hoopsFor_28 : decode cX13_hoopsFor 28 = .ok (.iload_n 1, 1) := dk_27 (dk_at dksX13_hoopsFor_1 5 rfl rfl)
theorem dX13_hoopsFor_29 : decode cX13_hoopsFor 29 = .ok (.iconst 4, 1) := dk_7 (dk_at dksX13_hoopsFor_1 6 rfl rfl)
theorem dX13_hoopsFor_30 : decode cX13_hoopsFor 30 = .ok (.invokevirtual 57, 3) := dk_182 0 57 (dk_at dksX13_hoopsFor_1 7 rfl rfl)
theorem dX13_hoopsFor_33 : decode cX13_hoopsFor 33 = .ok (.istore_n 3, 1) := dk_62 (dk_at dksX13_hoopsFor_1 10 rfl rfl)
theorem dX13_hoopsFor_34 : decode cX13_hoopsFor 34 = .ok (.iconst (-1), 1) := dk_2 (dk_at dksX13_hoopsFor_1 11 rfl rfl)
theorem dX13_hoopsFor_35 : decode cX13_hoopsFor 35 = .ok (.istore 4, 2) := dk_54 4 (dk_at dksX13_hoopsFor_1 12 rfl rfl)
theorem dX13_hoopsFor_37 : decode cX13_hoopsFor 37 = .ok (.iconst 0, 1) := dk_3 (dk_at dksX13_hoopsFor_1 14 rfl rfl)
theorem dX13_hoopsFor_38 : decode cX13_hoopsFor 38 = .ok (.istore 5, 2) := dk_54 5 (dk_at dksX13_hoopsFor_1 15 rfl rfl)
theorem dX13_hoopsFor_40 : decode cX13_hoopsFor 40 = .ok (.iload 5, 2) := dk_21 5 (dk_at dksX13_hoopsFor_1 17 rfl rfl)
theorem dX13_hoopsFor_42 : decode cX13_hoopsFor 42 = .ok (.sipush 200, 3) := dk_17 0 200 (dk_at dksX13_hoopsFor_1 19 rfl rfl)
theorem dX13_hoopsFor_45 : decode cX13_hoopsFor 45 = .ok (.if_icmp .gt 52, 3) := dk_163 0 52 (dk_at dksX13_hoopsFor_2 0 rfl rfl)
theorem dX13_hoopsFor_48 : decode cX13_hoopsFor 48 = .ok (.iload 4, 2) := dk_21 4 (dk_at dksX13_hoopsFor_2 3 rfl rfl)
theorem dX13_hoopsFor_50 : decode cX13_hoopsFor 50 = .ok (.ifCond .ge 47, 3) := dk_156 0 47 (dk_at dksX13_hoopsFor_2 5 rfl rfl)
theorem dX13_hoopsFor_53 : decode cX13_hoopsFor 53 = .ok (.aload_n 0, 1) := dk_42 (dk_at dksX13_hoopsFor_2 8 rfl rfl)
theorem dX13_hoopsFor_54 : decode cX13_hoopsFor 54 = .ok (.getfield 7, 3) := dk_180 0 7 (dk_at dksX13_hoopsFor_2 9 rfl rfl)
theorem dX13_hoopsFor_57 : decode cX13_hoopsFor 57 = .ok (.iload_n 1, 1) := dk_27 (dk_at dksX13_hoopsFor_2 12 rfl rfl)
theorem dX13_hoopsFor_58 : decode cX13_hoopsFor 58 = .ok (.iconst 4, 1) := dk_7 (dk_at dksX13_hoopsFor_2 13 rfl rfl)
theorem dX13_hoopsFor_59 : decode cX13_hoopsFor 59 = .ok (.invokestatic 70, 3) := dk_184 0 70 (dk_at dksX13_hoopsFor_2 14 rfl rfl)
theorem dX13_hoopsFor_62 : decode cX13_hoopsFor 62 = .ok (.iload 5, 2) := dk_21 5 (dk_at dksX13_hoopsFor_2 17 rfl rfl)
theorem dX13_hoopsFor_64 : decode cX13_hoopsFor 64 = .ok (.iastore, 1) := dk_79 (dk_at dksX13_hoopsFor_2 19 rfl rfl)
theorem dX13_hoopsFor_65 : decode cX13_hoopsFor 65 = .ok (.aload_n 0, 1) := dk_42 (dk_at dksX13_hoopsFor_2 20 rfl rfl)
theorem dX13_hoopsFor_66 : decode cX13_hoopsFor 66 = .ok (.iload_n 1, 1) := dk_27 (dk_at dksX13_hoopsFor_2 21 rfl rfl)
theorem dX13_hoopsFor_67 : decode cX13_hoopsFor 67 = .ok (.bipush 6, 2) := dk_16 6 (dk_at dksX13_hoopsFor_2 22 rfl rfl)
theorem dX13_hoopsFor_69 : decode cX13_hoopsFor 69 = .ok (.iload_n 2, 1) := dk_28 (dk_at dksX13_hoopsFor_3 0 rfl rfl)
theorem dX13_hoopsFor_70 : decode cX13_hoopsFor 70 = .ok (.invokevirtual 150, 3) := dk_182 0 150 (dk_at dksX13_hoopsFor_3 1 rfl rfl)
theorem dX13_hoopsFor_73 : decode cX13_hoopsFor 73 = .ok (.aload_n 0, 1) := dk_42 (dk_at dksX13_hoopsFor_3 4 rfl rfl)
theorem dX13_hoopsFor_74 : decode cX13_hoopsFor 74 = .ok (.iload_n 1, 1) := dk_27 (dk_at dksX13_hoopsFor_3 5 rfl rfl)
theorem dX13_hoopsFor_75 : decode cX13_hoopsFor 75 = .ok (.bipush 6, 2) := dk_16 6 (dk_at dksX13_hoopsFor_3 6 rfl rfl)
theorem dX13_hoopsFor_77 : decode cX13_hoopsFor 77 = .ok (.invokevirtual 57, 3) := dk_182 0 57 (dk_at dksX13_hoopsFor_3 8 rfl rfl)
theorem dX13_hoopsFor_80 : decode cX13_hoopsFor 80 = .ok (.if_icmp .ne 8, 3) := dk_160 0 8 (dk_at dksX13_hoopsFor_3 11 rfl rfl)
theorem dX13_hoopsFor_83 : decode cX13_hoopsFor 83 = .ok (.iload 5, 2) := dk_21 5 (dk_at dksX13_hoopsFor_3 14 rfl rfl)
theorem dX13_hoopsFor_85 : decode cX13_hoopsFor 85 = .ok (.goto 4, 3) := dk_167 0 4 (dk_at dksX13_hoopsFor_3 16 rfl rfl)
theorem dX13_hoopsFor_88 : decode cX13_hoopsFor 88 = .ok (.iconst (-1), 1) := dk_2 (dk_at dksX13_hoopsFor_3 19 rfl rfl)
theorem dX13_hoopsFor_89 : decode cX13_hoopsFor 89 = .ok (.istore 4, 2) := dk_54 4 (dk_at dksX13_hoopsFor_3 20 rfl rfl)
theorem dX13_hoopsFor_91 : decode cX13_hoopsFor 91 = .ok (.iinc 5 1, 3) := dk_132 5 1 (dk_at dksX13_hoopsFor_4 0 rfl rfl)
theorem dX13_hoopsFor_94 : decode cX13_hoopsFor 94 = .ok (.goto (-54), 3) := dk_167 255 202 (dk_at dksX13_hoopsFor_4 3 rfl rfl)
theorem dX13_hoopsFor_97 : decode cX13_hoopsFor 97 = .ok (.aload_n 0, 1) := dk_42 (dk_at dksX13_hoopsFor_4 6 rfl rfl)
theorem dX13_hoopsFor_98 : decode cX13_hoopsFor 98 = .ok (.getfield 7, 3) := dk_180 0 7 (dk_at dksX13_hoopsFor_4 7 rfl rfl)
theorem dX13_hoopsFor_101 : decode cX13_hoopsFor 101 = .ok (.iload_n 1, 1) := dk_27 (dk_at dksX13_hoopsFor_4 10 rfl rfl)
theorem dX13_hoopsFor_102 : decode cX13_hoopsFor 102 = .ok (.iconst 4, 1) := dk_7 (dk_at dksX13_hoopsFor_4 11 rfl rfl)
theorem dX13_hoopsFor_103 : decode cX13_hoopsFor 103 = .ok (.invokestatic 70, 3) := dk_184 0 70 (dk_at dksX13_hoopsFor_4 12 rfl rfl)
theorem dX13_hoopsFor_106 : decode cX13_hoopsFor 106 = .ok (.iload_n 3, 1) := dk_29 (dk_at dksX13_hoopsFor_4 15 rfl rfl)
theorem dX13_hoopsFor_107 : decode cX13_hoopsFor 107 = .ok (.iastore, 1) := dk_79 (dk_at dksX13_hoopsFor_4 16 rfl rfl)
theorem dX13_hoopsFor_108 : decode cX13_hoopsFor 108 = .ok (.aload_n 0, 1) := dk_42 (dk_at dksX13_hoopsFor_4 17 rfl rfl)
theorem dX13_hoopsFor_109 : decode cX13_hoopsFor 109 = .ok (.iload 4, 2) := dk_21 4 (dk_at dksX13_hoopsFor_4 18 rfl rfl)
theorem dX13_hoopsFor_111 : decode cX13_hoopsFor 111 = .ok (.invokevirtual 170, 3) := dk_182 0 170 (dk_at dksX13_hoopsFor_4 20 rfl rfl)
theorem dX13_hoopsFor_114 : decode cX13_hoopsFor 114 = .ok (.ireturn, 1) := dk_172 (dk_at dksX13_hoopsFor_4 23 rfl rfl)
abbrev cX13_orNone : ByteArray := prog_16_method_12_code
def yX13_orNone : MethodName := ⟨RX13, "orNone", "(I)I"⟩
def dkwX13_orNone_0 : List UInt8 := [27, 156, 0, 12, 42, 18, 38, 182, 0, 39, 167, 0, 4, 27, 172]
abbrev dktX13_orNone_0 : List UInt8 := dkwX13_orNone_0 ++ []
theorem dksX13_orNone_0 : cX13_orNone.data.toList.drop 0 = dktX13_orNone_0 := by decide +kernel
theorem dX13_orNone_0 : decode cX13_orNone 0 = .ok (.iload_n 1, 1) := dk_27 (dk_at dksX13_orNone_0 0 rfl rfl)
theorem dX13_orNone_1 : decode cX13_orNone 1 = .ok (.ifCond .ge 12, 3) := dk_156 0 12 (dk_at dksX13_orNone_0 1 rfl rfl)
theorem dX13_orNone_4 : decode cX13_orNone 4 = .ok (.aload_n 0, 1) := dk_42 (dk_at dksX13_orNone_0 4 rfl rfl)
theorem dX13_orNone_5 : decode cX13_orNone 5 = .ok (.ldc 38, 2) := dk_18 38 (dk_at dksX13_orNone_0 5 rfl rfl)
theorem dX13_orNone_7 : decode cX13_orNone 7 = .ok (.invokevirtual 39, 3) := dk_182 0 39 (dk_at dksX13_orNone_0 7 rfl rfl)
theorem dX13_orNone_10 : decode cX13_orNone 10 = .ok (.goto 4, 3) := dk_167 0 4 (dk_at dksX13_orNone_0 10 rfl rfl)
theorem dX13_orNone_13 : decode cX13_orNone 13 = .ok (.iload_n 1, 1) := dk_27 (dk_at dksX13_orNone_0 13 rfl rfl)
theorem dX13_orNone_14 : decode cX13_orNone 14 = .ok (.ireturn, 1) := dk_172 (dk_at dksX13_orNone_0 14 rfl rfl)
abbrev cX13_frostFor : ByteArray := prog_16_method_53_code
def yX13_frostFor : MethodName := ⟨RX13, "frostFor", "(II)I"⟩
def dkwX13_frostFor_4 : List UInt8 := [180, 0, 7, 7, 27, 96, 29, 79, 42, 21, 4, 182, 0, 170, 172]
abbrev dktX13_frostFor_4 : List UInt8 := dkwX13_frostFor_4 ++ []
def dkwX13_frostFor_3 : List UInt8 := [180, 0, 7, 6, 46, 160, 0, 8, 21, 5, 167, 0, 4, 2, 54, 4, 132, 5, 255, 167, 255, 211, 42]
abbrev dktX13_frostFor_3 : List UInt8 := dkwX13_frostFor_3 ++ dktX13_frostFor_4
def dkwX13_frostFor_2 : List UInt8 := [155, 0, 46, 21, 4, 156, 0, 41, 42, 180, 0, 7, 7, 27, 96, 21, 5, 79, 42, 28, 182, 0, 154, 42]
abbrev dktX13_frostFor_2 : List UInt8 := dkwX13_frostFor_2 ++ dktX13_frostFor_3
def dkwX13_frostFor_1 : List UInt8 := [182, 0, 39, 172, 42, 180, 0, 7, 7, 27, 96, 46, 62, 2, 54, 4, 16, 9, 54, 5, 21, 5]
abbrev dktX13_frostFor_1 : List UInt8 := dkwX13_frostFor_1 ++ dktX13_frostFor_2
def dkwX13_frostFor_0 : List UInt8 := [27, 184, 0, 43, 153, 0, 15, 28, 133, 9, 20, 0, 159, 184, 0, 49, 154, 0, 10, 42, 18, 37]
abbrev dktX13_frostFor_0 : List UInt8 := dkwX13_frostFor_0 ++ dktX13_frostFor_1
theorem dksX13_frostFor_0 : cX13_frostFor.data.toList.drop 0 = dktX13_frostFor_0 := by decide +kernel
theorem dksX13_frostFor_1 : cX13_frostFor.data.toList.drop 22 = dktX13_frostFor_1 := dk_seg dksX13_frostFor_0 22 rfl rfl
theorem dksX13_frostFor_2 : cX13_frostFor.data.toList.drop 44 = dktX13_frostFor_2 := dk_seg dksX13_frostFor_1 22 rfl rfl
theorem dksX13_frostFor_3 : cX13_frostFor.data.toList.drop 68 = dktX13_frostFor_3 := dk_seg dksX13_frostFor_2 24 rfl rfl
theorem dksX13_frostFor_4 : cX13_frostFor.data.toList.drop 91 = dktX13_frostFor_4 := dk_seg dksX13_frostFor_3 23 rfl rfl
theorem dX13_frostFor_0 : decode cX13_frostFor 0 = .ok (.iload_n 1, 1) := dk_27 (dk_at dksX13_frostFor_0 0 rfl rfl)
theorem dX13_frostFor_1 : decode cX13_frostFor 1 = .ok (.invokestatic 43, 3) := dk_184 0 43 (dk_at dksX13_frostFor_0 1 rfl rfl)
theorem dX13_frostFor_4 : decode cX13_frostFor 4 = .ok (.ifCond .eq 15, 3) := dk_153 0 15 (dk_at dksX13_frostFor_0 4 rfl rfl)
theorem dX13_frostFor_7 : decode cX13_frostFor 7 = .ok (.iload_n 2, 1) := dk_28 (dk_at dksX13_frostFor_0 7 rfl rfl)
theorem dX13_frostFor_8 : decode cX13_frostFor 8 = .ok (.i2l, 1) := dk_133 (dk_at dksX13_frostFor_0 8 rfl rfl)
theorem dX13_frostFor_9 : decode cX13_frostFor 9 = .ok (.lconst 0, 1) := dk_9 (dk_at dksX13_frostFor_0 9 rfl rfl)
theorem dX13_frostFor_10 : decode cX13_frostFor 10 = .ok (.ldc2_w 159, 3) := dk_20 0 159 (dk_at dksX13_frostFor_0 10 rfl rfl)
theorem dX13_frostFor_13 : decode cX13_frostFor 13 = .ok (.invokestatic 49, 3) := dk_184 0 49 (dk_at dksX13_frostFor_0 13 rfl rfl)
theorem dX13_frostFor_16 : decode cX13_frostFor 16 = .ok (.ifCond .ne 10, 3) := dk_154 0 10 (dk_at dksX13_frostFor_0 16 rfl rfl)
theorem dX13_frostFor_19 : decode cX13_frostFor 19 = .ok (.aload_n 0, 1) := dk_42 (dk_at dksX13_frostFor_0 19 rfl rfl)
theorem dX13_frostFor_20 : decode cX13_frostFor 20 = .ok (.ldc 37, 2) := dk_18 37 (dk_at dksX13_frostFor_0 20 rfl rfl)
theorem dX13_frostFor_22 : decode cX13_frostFor 22 = .ok (.invokevirtual 39, 3) := dk_182 0 39 (dk_at dksX13_frostFor_1 0 rfl rfl)
theorem dX13_frostFor_25 : decode cX13_frostFor 25 = .ok (.ireturn, 1) := dk_172 (dk_at dksX13_frostFor_1 3 rfl rfl)
theorem dX13_frostFor_26 : decode cX13_frostFor 26 = .ok (.aload_n 0, 1) := dk_42 (dk_at dksX13_frostFor_1 4 rfl rfl)
theorem dX13_frostFor_27 : decode cX13_frostFor 27 = .ok (.getfield 7, 3) := dk_180 0 7 (dk_at dksX13_frostFor_1 5 rfl rfl)
theorem dX13_frostFor_30 : decode cX13_frostFor 30 = .ok (.iconst 4, 1) := dk_7 (dk_at dksX13_frostFor_1 8 rfl rfl)
theorem dX13_frostFor_31 : decode cX13_frostFor 31 = .ok (.iload_n 1, 1) := dk_27 (dk_at dksX13_frostFor_1 9 rfl rfl)
theorem dX13_frostFor_32 : decode cX13_frostFor 32 = .ok (.iadd, 1) := dk_96 (dk_at dksX13_frostFor_1 10 rfl rfl)
theorem dX13_frostFor_33 : decode cX13_frostFor 33 = .ok (.iaload, 1) := dk_46 (dk_at dksX13_frostFor_1 11 rfl rfl)
theorem dX13_frostFor_34 : decode cX13_frostFor 34 = .ok (.istore_n 3, 1) := dk_62 (dk_at dksX13_frostFor_1 12 rfl rfl)
theorem dX13_frostFor_35 : decode cX13_frostFor 35 = .ok (.iconst (-1), 1) := dk_2 (dk_at dksX13_frostFor_1 13 rfl rfl)
theorem dX13_frostFor_36 : decode cX13_frostFor 36 = .ok (.istore 4, 2) := dk_54 4 (dk_at dksX13_frostFor_1 14 rfl rfl)
theorem dX13_frostFor_38 : decode cX13_frostFor 38 = .ok (.bipush 9, 2) := dk_16 9 (dk_at dksX13_frostFor_1 16 rfl rfl)
theorem dX13_frostFor_40 : decode cX13_frostFor 40 = .ok (.istore 5, 2) := dk_54 5 (dk_at dksX13_frostFor_1 18 rfl rfl)
theorem dX13_frostFor_42 : decode cX13_frostFor 42 = .ok (.iload 5, 2) := dk_21 5 (dk_at dksX13_frostFor_1 20 rfl rfl)
theorem dX13_frostFor_44 : decode cX13_frostFor 44 = .ok (.ifCond .lt 46, 3) := dk_155 0 46 (dk_at dksX13_frostFor_2 0 rfl rfl)
theorem dX13_frostFor_47 : decode cX13_frostFor 47 = .ok (.iload 4, 2) := dk_21 4 (dk_at dksX13_frostFor_2 3 rfl rfl)
theorem dX13_frostFor_49 : decode cX13_frostFor 49 = .ok (.ifCond .ge 41, 3) := dk_156 0 41 (dk_at dksX13_frostFor_2 5 rfl rfl)
theorem dX13_frostFor_52 : decode cX13_frostFor 52 = .ok (.aload_n 0, 1) := dk_42 (dk_at dksX13_frostFor_2 8 rfl rfl)
theorem dX13_frostFor_53 : decode cX13_frostFor 53 = .ok (.getfield 7, 3) := dk_180 0 7 (dk_at dksX13_frostFor_2 9 rfl rfl)
theorem dX13_frostFor_56 : decode cX13_frostFor 56 = .ok (.iconst 4, 1) := dk_7 (dk_at dksX13_frostFor_2 12 rfl rfl)
theorem dX13_frostFor_57 : decode cX13_frostFor 57 = .ok (.iload_n 1, 1) := dk_27 (dk_at dksX13_frostFor_2 13 rfl rfl)
theorem dX13_frostFor_58 : decode cX13_frostFor 58 = .ok (.iadd, 1) := dk_96 (dk_at dksX13_frostFor_2 14 rfl rfl)
theorem dX13_frostFor_59 : decode cX13_frostFor 59 = .ok (.iload 5, 2) := dk_21 5 (dk_at dksX13_frostFor_2 15 rfl rfl)
theorem dX13_frostFor_61 : decode cX13_frostFor 61 = .ok (.iastore, 1) := dk_79 (dk_at dksX13_frostFor_2 17 rfl rfl)
theorem dX13_frostFor_62 : decode cX13_frostFor 62 = .ok (.aload_n 0, 1) := dk_42 (dk_at dksX13_frostFor_2 18 rfl rfl)
theorem dX13_frostFor_63 : decode cX13_frostFor 63 = .ok (.iload_n 2, 1) := dk_28 (dk_at dksX13_frostFor_2 19 rfl rfl)
theorem dX13_frostFor_64 : decode cX13_frostFor 64 = .ok (.invokevirtual 154, 3) := dk_182 0 154 (dk_at dksX13_frostFor_2 20 rfl rfl)
theorem dX13_frostFor_67 : decode cX13_frostFor 67 = .ok (.aload_n 0, 1) := dk_42 (dk_at dksX13_frostFor_2 23 rfl rfl)
theorem dX13_frostFor_68 : decode cX13_frostFor 68 = .ok (.getfield 7, 3) := dk_180 0 7 (dk_at dksX13_frostFor_3 0 rfl rfl)
theorem dX13_frostFor_71 : decode cX13_frostFor 71 = .ok (.iconst 3, 1) := dk_6 (dk_at dksX13_frostFor_3 3 rfl rfl)
theorem dX13_frostFor_72 : decode cX13_frostFor 72 = .ok (.iaload, 1) := dk_46 (dk_at dksX13_frostFor_3 4 rfl rfl)
theorem dX13_frostFor_73 : decode cX13_frostFor 73 = .ok (.if_icmp .ne 8, 3) := dk_160 0 8 (dk_at dksX13_frostFor_3 5 rfl rfl)
theorem dX13_frostFor_76 : decode cX13_frostFor 76 = .ok (.iload 5, 2) := dk_21 5 (dk_at dksX13_frostFor_3 8 rfl rfl)
theorem dX13_frostFor_78 : decode cX13_frostFor 78 = .ok (.goto 4, 3) := dk_167 0 4 (dk_at dksX13_frostFor_3 10 rfl rfl)
theorem dX13_frostFor_81 : decode cX13_frostFor 81 = .ok (.iconst (-1), 1) := dk_2 (dk_at dksX13_frostFor_3 13 rfl rfl)
theorem dX13_frostFor_82 : decode cX13_frostFor 82 = .ok (.istore 4, 2) := dk_54 4 (dk_at dksX13_frostFor_3 14 rfl rfl)
theorem dX13_frostFor_84 : decode cX13_frostFor 84 = .ok (.iinc 5 (-1), 3) := dk_132 5 255 (dk_at dksX13_frostFor_3 16 rfl rfl)
theorem dX13_frostFor_87 : decode cX13_frostFor 87 = .ok (.goto (-45), 3) := dk_167 255 211 (dk_at dksX13_frostFor_3 19 rfl rfl)
theorem dX13_frostFor_90 : decode cX13_frostFor 90 = .ok (.aload_n 0, 1) := dk_42 (dk_at dksX13_frostFor_3 22 rfl rfl)
theorem dX13_frostFor_91 : decode cX13_frostFor 91 = .ok (.getfield 7, 3) := dk_180 0 7 (dk_at dksX13_frostFor_4 0 rfl rfl)
theorem dX13_frostFor_94 : decode cX13_frostFor 94 = .ok (.iconst 4, 1) := dk_7 (dk_at dksX13_frostFor_4 3 rfl rfl)
theorem dX13_frostFor_95 : decode cX13_frostFor 95 = .ok (.iload_n 1, 1) := dk_27 (dk_at dksX13_frostFor_4 4 rfl rfl)
theorem dX13_frostFor_96 : decode cX13_frostFor 96 = .ok (.iadd, 1) := dk_96 (dk_at dksX13_frostFor_4 5 rfl rfl)
theorem dX13_frostFor_97 : decode cX13_frostFor 97 = .ok (.iload_n 3, 1) := dk_29 (dk_at dksX13_frostFor_4 6 rfl rfl)
theorem dX13_frostFor_98 : decode cX13_frostFor 98 = .ok (.iastore, 1) := dk_79 (dk_at dksX13_frostFor_4 7 rfl rfl)
theorem dX13_frostFor_99 : decode cX13_frostFor 99 = .ok (.aload_n 0, 1) := dk_42 (dk_at dksX13_frostFor_4 8 rfl rfl)
theorem dX13_frostFor_100 : decode cX13_frostFor 100 = .ok (.iload 4, 2) := dk_21 4 (dk_at dksX13_frostFor_4 9 rfl rfl)
theorem dX13_frostFor_102 : decode cX13_frostFor 102 = .ok (.invokevirtual 170, 3) := dk_182 0 170 (dk_at dksX13_frostFor_4 11 rfl rfl)
theorem dX13_frostFor_105 : decode cX13_frostFor 105 = .ok (.ireturn, 1) := dk_172 (dk_at dksX13_frostFor_4 14 rfl rfl)
abbrev cX13_empty : ByteArray := prog_16_method_54_code
def yX13_empty : MethodName := ⟨RX13, "empty", "(I)I"⟩
def dkwX13_empty_8 : List UInt8 := [42, 180, 0, 7, 184, 0, 140, 132, 4, 1, 167, 255, 105, 42, 29, 182, 0, 170, 172]
abbrev dktX13_empty_8 : List UInt8 := dkwX13_empty_8 ++ []
def dkwX13_empty_7 : List UInt8 := [182, 0, 125, 42, 180, 0, 7, 6, 46, 28, 160, 0, 8, 21, 4, 167, 0, 4, 29, 62, 42, 180, 0, 19]
abbrev dktX13_empty_7 : List UInt8 := dkwX13_empty_7 ++ dktX13_empty_8
def dkwX13_empty_6 : List UInt8 := [160, 0, 7, 3, 167, 0, 10, 42, 21, 5, 8, 182, 0, 57, 79, 132, 5, 1, 167, 255, 176, 42, 27]
abbrev dktX13_empty_6 : List UInt8 := dkwX13_empty_6 ++ dktX13_empty_7
def dkwX13_empty_5 : List UInt8 := [182, 0, 57, 79, 42, 180, 0, 7, 21, 5, 8, 184, 0, 70, 21, 4, 21, 5, 122, 4, 126, 4]
abbrev dktX13_empty_5 : List UInt8 := dkwX13_empty_5 ++ dktX13_empty_6
def dkwX13_empty_4 : List UInt8 := [184, 0, 70, 21, 4, 21, 5, 122, 4, 126, 4, 160, 0, 7, 3, 167, 0, 10, 42, 21, 5, 5]
abbrev dktX13_empty_4 : List UInt8 := dkwX13_empty_4 ++ dktX13_empty_5
def dkwX13_empty_3 : List UInt8 := [162, 0, 122, 3, 54, 5, 21, 5, 42, 180, 0, 7, 3, 46, 162, 0, 75, 42, 180, 0, 7, 21, 5, 5]
abbrev dktX13_empty_3 : List UInt8 := dkwX13_empty_3 ++ dktX13_empty_4
def dkwX13_empty_2 : List UInt8 := [180, 0, 7, 3, 46, 120, 162, 0, 144, 29, 155, 0, 15, 21, 4, 184, 0, 83, 29, 184, 0, 83]
abbrev dktX13_empty_2 : List UInt8 := dkwX13_empty_2 ++ dktX13_empty_3
def dkwX13_empty_1 : List UInt8 := [46, 61, 2, 62, 42, 180, 0, 7, 42, 180, 0, 19, 184, 0, 140, 3, 54, 4, 21, 4, 4, 42]
abbrev dktX13_empty_1 : List UInt8 := dkwX13_empty_1 ++ dktX13_empty_2
def dkwX13_empty_0 : List UInt8 := [27, 133, 9, 20, 0, 173, 184, 0, 49, 154, 0, 10, 42, 18, 37, 182, 0, 39, 172, 42, 180, 0, 7, 6]
abbrev dktX13_empty_0 : List UInt8 := dkwX13_empty_0 ++ dktX13_empty_1
theorem dksX13_empty_0 : cX13_empty.data.toList.drop 0 = dktX13_empty_0 := by decide +kernel
theorem dksX13_empty_1 : cX13_empty.data.toList.drop 24 = dktX13_empty_1 := dk_seg dksX13_empty_0 24 rfl rfl
theorem dksX13_empty_2 : cX13_empty.data.toList.drop 46 = dktX13_empty_2 := dk_seg dksX13_empty_1 22 rfl rfl
theorem dksX13_empty_3 : cX13_empty.data.toList.drop 68 = dktX13_empty_3 := dk_seg dksX13_empty_2 22 rfl rfl
theorem dksX13_empty_4 : cX13_empty.data.toList.drop 92 = dktX13_empty_4 := dk_seg dksX13_empty_3 24 rfl rfl
theorem dksX13_empty_5 : cX13_empty.data.toList.drop 114 = dktX13_empty_5 := dk_seg dksX13_empty_4 22 rfl rfl
theorem dksX13_empty_6 : cX13_empty.data.toList.drop 136 = dktX13_empty_6 := dk_seg dksX13_empty_5 22 rfl rfl
theorem dksX13_empty_7 : cX13_empty.data.toList.drop 159 = dktX13_empty_7 := dk_seg dksX13_empty_6 23 rfl rfl
theorem dksX13_empty_8 : cX13_empty.data.toList.drop 183 = dktX13_empty_8 := dk_seg dksX13_empty_7 24 rfl rfl
theorem dX13_empty_0 : decode cX13_empty 0 = .ok (.iload_n 1, 1) := dk_27 (dk_at dksX13_empty_0 0 rfl rfl)
theorem dX13_empty_1 : decode cX13_empty 1 = .ok (.i2l, 1) := dk_133 (dk_at dksX13_empty_0 1 rfl rfl)
theorem dX13_empty_2 : decode cX13_empty 2 = .ok (.lconst 0, 1) := dk_9 (dk_at dksX13_empty_0 2 rfl rfl)
theorem dX13_empty_3 : decode cX13_empty 3 = .ok (.ldc2_w 173, 3) := dk_20 0 173 (dk_at dksX13_empty_0 3 rfl rfl)
theorem dX13_empty_6 : decode cX13_empty 6 = .ok (.invokestatic 49, 3) := dk_184 0 49 (dk_at dksX13_empty_0 6 rfl rfl)
theorem dX13_empty_9 : decode cX13_empty 9 = .ok (.ifCond .ne 10, 3) := dk_154 0 10 (dk_at dksX13_empty_0 9 rfl rfl)
theorem dX13_empty_12 : decode cX13_empty 12 = .ok (.aload_n 0, 1) := dk_42 (dk_at dksX13_empty_0 12 rfl rfl)
theorem dX13_empty_13 : decode cX13_empty 13 = .ok (.ldc 37, 2) := dk_18 37 (dk_at dksX13_empty_0 13 rfl rfl)
theorem dX13_empty_15 : decode cX13_empty 15 = .ok (.invokevirtual 39, 3) := dk_182 0 39 (dk_at dksX13_empty_0 15 rfl rfl)
theorem dX13_empty_18 : decode cX13_empty 18 = .ok (.ireturn, 1) := dk_172 (dk_at dksX13_empty_0 18 rfl rfl)
theorem dX13_empty_19 : decode cX13_empty 19 = .ok (.aload_n 0, 1) := dk_42 (dk_at dksX13_empty_0 19 rfl rfl)
theorem dX13_empty_20 : decode cX13_empty 20 = .ok (.getfield 7, 3) := dk_180 0 7 (dk_at dksX13_empty_0 20 rfl rfl)
theorem dX13_empty_23 : decode cX13_empty 23 = .ok (.iconst 3, 1) := dk_6 (dk_at dksX13_empty_0 23 rfl rfl)
theorem dX13_empty_24 : decode cX13_empty 24 = .ok (.iaload, 1) := dk_46 (dk_at dksX13_empty_1 0 rfl rfl)
theorem dX13_empty_25 : decode cX13_empty 25 = .ok (.istore_n 2, 1) := dk_61 (dk_at dksX13_empty_1 1 rfl rfl)
theorem dX13_empty_26 : decode cX13_empty 26 = .ok (.iconst (-1), 1) := dk_2 (dk_at dksX13_empty_1 2 rfl rfl)
theorem dX13_empty_27 : decode cX13_empty 27 = .ok (.istore_n 3, 1) := dk_62 (dk_at dksX13_empty_1 3 rfl rfl)
theorem dX13_empty_28 : decode cX13_empty 28 = .ok (.aload_n 0, 1) := dk_42 (dk_at dksX13_empty_1 4 rfl rfl)
theorem dX13_empty_29 : decode cX13_empty 29 = .ok (.getfield 7, 3) := dk_180 0 7 (dk_at dksX13_empty_1 5 rfl rfl)
theorem dX13_empty_32 : decode cX13_empty 32 = .ok (.aload_n 0, 1) := dk_42 (dk_at dksX13_empty_1 8 rfl rfl)
theorem dX13_empty_33 : decode cX13_empty 33 = .ok (.getfield 19, 3) := dk_180 0 19 (dk_at dksX13_empty_1 9 rfl rfl)
theorem dX13_empty_36 : decode cX13_empty 36 = .ok (.invokestatic 140, 3) := dk_184 0 140 (dk_at dksX13_empty_1 12 rfl rfl)
theorem dX13_empty_39 : decode cX13_empty 39 = .ok (.iconst 0, 1) := dk_3 (dk_at dksX13_empty_1 15 rfl rfl)
theorem dX13_empty_40 : decode cX13_empty 40 = .ok (.istore 4, 2) := dk_54 4 (dk_at dksX13_empty_1 16 rfl rfl)
theorem dX13_empty_42 : decode cX13_empty 42 = .ok (.iload 4, 2) := dk_21 4 (dk_at dksX13_empty_1 18 rfl rfl)
theorem dX13_empty_44 : decode cX13_empty 44 = .ok (.iconst 1, 1) := dk_4 (dk_at dksX13_empty_1 20 rfl rfl)
theorem dX13_empty_45 : decode cX13_empty 45 = .ok (.aload_n 0, 1) := dk_42 (dk_at dksX13_empty_1 21 rfl rfl)
theorem dX13_empty_46 : decode cX13_empty 46 = .ok (.getfield 7, 3) := dk_180 0 7 (dk_at dksX13_empty_2 0 rfl rfl)
theorem dX13_empty_49 : decode cX13_empty 49 = .ok (.iconst 0, 1) := dk_3 (dk_at dksX13_empty_2 3 rfl rfl)
theorem dX13_empty_50 : decode cX13_empty 50 = .ok (.iaload, 1) := dk_46 (dk_at dksX13_empty_2 4 rfl rfl)
theorem dX13_empty_51 : decode cX13_empty 51 = .ok (.ishl, 1) := dk_120 (dk_at dksX13_empty_2 5 rfl rfl)
theorem dX13_empty_52 : decode cX13_empty 52 = .ok (.if_icmp .ge 144, 3) := dk_162 0 144 (dk_at dksX13_empty_2 6 rfl rfl)
theorem dX13_empty_55 : decode cX13_empty 55 = .ok (.iload_n 3, 1) := dk_29 (dk_at dksX13_empty_2 9 rfl rfl)
theorem dX13_empty_56 : decode cX13_empty 56 = .ok (.ifCond .lt 15, 3) := dk_155 0 15 (dk_at dksX13_empty_2 10 rfl rfl)
theorem dX13_empty_59 : decode cX13_empty 59 = .ok (.iload 4, 2) := dk_21 4 (dk_at dksX13_empty_2 13 rfl rfl)
theorem dX13_empty_61 : decode cX13_empty 61 = .ok (.invokestatic 83, 3) := dk_184 0 83 (dk_at dksX13_empty_2 15 rfl rfl)
theorem dX13_empty_64 : decode cX13_empty 64 = .ok (.iload_n 3, 1) := dk_29 (dk_at dksX13_empty_2 18 rfl rfl)
theorem dX13_empty_65 : decode cX13_empty 65 = .ok (.invokestatic 83, 3) := dk_184 0 83 (dk_at dksX13_empty_2 19 rfl rfl)
theorem dX13_empty_68 : decode cX13_empty 68 = .ok (.if_icmp .ge 122, 3) := dk_162 0 122 (dk_at dksX13_empty_3 0 rfl rfl)
theorem dX13_empty_71 : decode cX13_empty 71 = .ok (.iconst 0, 1) := dk_3 (dk_at dksX13_empty_3 3 rfl rfl)
theorem dX13_empty_72 : decode cX13_empty 72 = .ok (.istore 5, 2) := dk_54 5 (dk_at dksX13_empty_3 4 rfl rfl)
theorem dX13_empty_74 : decode cX13_empty 74 = .ok (.iload 5, 2) := dk_21 5 (dk_at dksX13_empty_3 6 rfl rfl)
theorem dX13_empty_76 : decode cX13_empty 76 = .ok (.aload_n 0, 1) := dk_42 (dk_at dksX13_empty_3 8 rfl rfl)
theorem dX13_empty_77 : decode cX13_empty 77 = .ok (.getfield 7, 3) := dk_180 0 7 (dk_at dksX13_empty_3 9 rfl rfl)
theorem dX13_empty_80 : decode cX13_empty 80 = .ok (.iconst 0, 1) := dk_3 (dk_at dksX13_empty_3 12 rfl rfl)
theorem dX13_empty_81 : decode cX13_empty 81 = .ok (.iaload, 1) := dk_46 (dk_at dksX13_empty_3 13 rfl rfl)
theorem dX13_empty_82 : decode cX13_empty 82 = .ok (.if_icmp .ge 75, 3) := dk_162 0 75 (dk_at dksX13_empty_3 14 rfl rfl)
theorem dX13_empty_85 : decode cX13_empty 85 = .ok (.aload_n 0, 1) := dk_42 (dk_at dksX13_empty_3 17 rfl rfl)
theorem dX13_empty_86 : decode cX13_empty 86 = .ok (.getfield 7, 3) := dk_180 0 7 (dk_at dksX13_empty_3 18 rfl rfl)
theorem dX13_empty_89 : decode cX13_empty 89 = .ok (.iload 5, 2) := dk_21 5 (dk_at dksX13_empty_3 21 rfl rfl)
theorem dX13_empty_91 : decode cX13_empty 91 = .ok (.iconst 2, 1) := dk_5 (dk_at dksX13_empty_3 23 rfl rfl)
theorem dX13_empty_92 : decode cX13_empty 92 = .ok (.invokestatic 70, 3) := dk_184 0 70 (dk_at dksX13_empty_4 0 rfl rfl)
theorem dX13_empty_95 : decode cX13_empty 95 = .ok (.iload 4, 2) := dk_21 4 (dk_at dksX13_empty_4 3 rfl rfl)
theorem dX13_empty_97 : decode cX13_empty 97 = .ok (.iload 5, 2) := dk_21 5 (dk_at dksX13_empty_4 5 rfl rfl)
theorem dX13_empty_99 : decode cX13_empty 99 = .ok (.ishr, 1) := dk_122 (dk_at dksX13_empty_4 7 rfl rfl)
theorem dX13_empty_100 : decode cX13_empty 100 = .ok (.iconst 1, 1) := dk_4 (dk_at dksX13_empty_4 8 rfl rfl)
theorem dX13_empty_101 : decode cX13_empty 101 = .ok (.iand, 1) := dk_126 (dk_at dksX13_empty_4 9 rfl rfl)
theorem dX13_empty_102 : decode cX13_empty 102 = .ok (.iconst 1, 1) := dk_4 (dk_at dksX13_empty_4 10 rfl rfl)
theorem dX13_empty_103 : decode cX13_empty 103 = .ok (.if_icmp .ne 7, 3) := dk_160 0 7 (dk_at dksX13_empty_4 11 rfl rfl)
theorem dX13_empty_106 : decode cX13_empty 106 = .ok (.iconst 0, 1) := dk_3 (dk_at dksX13_empty_4 14 rfl rfl)
theorem dX13_empty_107 : decode cX13_empty 107 = .ok (.goto 10, 3) := dk_167 0 10 (dk_at dksX13_empty_4 15 rfl rfl)
theorem dX13_empty_110 : decode cX13_empty 110 = .ok (.aload_n 0, 1) := dk_42 (dk_at dksX13_empty_4 18 rfl rfl)
theorem dX13_empty_111 : decode cX13_empty 111 = .ok (.iload 5, 2) := dk_21 5 (dk_at dksX13_empty_4 19 rfl rfl)
theorem dX13_empty_113 : decode cX13_empty 113 = .ok (.iconst 2, 1) := dk_5 (dk_at dksX13_empty_4 21 rfl rfl)
theorem dX13_empty_114 : decode cX13_empty 114 = .ok (.invokevirtual 57, 3) := dk_182 0 57 (dk_at dksX13_empty_5 0 rfl rfl)
theorem dX13_empty_117 : decode cX13_empty 117 = .ok (.iastore, 1) := dk_79 (dk_at dksX13_empty_5 3 rfl rfl)
theorem dX13_empty_118 : decode cX13_empty 118 = .ok (.aload_n 0, 1) := dk_42 (dk_at dksX13_empty_5 4 rfl rfl)
theorem dX13_empty_119 : decode cX13_empty 119 = .ok (.getfield 7, 3) := dk_180 0 7 (dk_at dksX13_empty_5 5 rfl rfl)
theorem dX13_empty_122 : decode cX13_empty 122 = .ok (.iload 5, 2) := dk_21 5 (dk_at dksX13_empty_5 8 rfl rfl)
theorem dX13_empty_124 : decode cX13_empty 124 = .ok (.iconst 5, 1) := dk_8 (dk_at dksX13_empty_5 10 rfl rfl)
theorem dX13_empty_125 : decode cX13_empty 125 = .ok (.invokestatic 70, 3) := dk_184 0 70 (dk_at dksX13_empty_5 11 rfl rfl)
theorem dX13_empty_128 : decode cX13_empty 128 = .ok (.iload 4, 2) := dk_21 4 (dk_at dksX13_empty_5 14 rfl rfl)
theorem dX13_empty_130 : decode cX13_empty 130 = .ok (.iload 5, 2) := dk_21 5 (dk_at dksX13_empty_5 16 rfl rfl)
theorem dX13_empty_132 : decode cX13_empty 132 = .ok (.ishr, 1) := dk_122 (dk_at dksX13_empty_5 18 rfl rfl)
theorem dX13_empty_133 : decode cX13_empty 133 = .ok (.iconst 1, 1) := dk_4 (dk_at dksX13_empty_5 19 rfl rfl)
theorem dX13_empty_134 : decode cX13_empty 134 = .ok (.iand, 1) := dk_126 (dk_at dksX13_empty_5 20 rfl rfl)
theorem dX13_empty_135 : decode cX13_empty 135 = .ok (.iconst 1, 1) := dk_4 (dk_at dksX13_empty_5 21 rfl rfl)
theorem dX13_empty_136 : decode cX13_empty 136 = .ok (.if_icmp .ne 7, 3) := dk_160 0 7 (dk_at dksX13_empty_6 0 rfl rfl)
theorem dX13_empty_139 : decode cX13_empty 139 = .ok (.iconst 0, 1) := dk_3 (dk_at dksX13_empty_6 3 rfl rfl)
theorem dX13_empty_140 : decode cX13_empty 140 = .ok (.goto 10, 3) := dk_167 0 10 (dk_at dksX13_empty_6 4 rfl rfl)
theorem dX13_empty_143 : decode cX13_empty 143 = .ok (.aload_n 0, 1) := dk_42 (dk_at dksX13_empty_6 7 rfl rfl)
theorem dX13_empty_144 : decode cX13_empty 144 = .ok (.iload 5, 2) := dk_21 5 (dk_at dksX13_empty_6 8 rfl rfl)
theorem dX13_empty_146 : decode cX13_empty 146 = .ok (.iconst 5, 1) := dk_8 (dk_at dksX13_empty_6 10 rfl rfl)
theorem dX13_empty_147 : decode cX13_empty 147 = .ok (.invokevirtual 57, 3) := dk_182 0 57 (dk_at dksX13_empty_6 11 rfl rfl)
theorem dX13_empty_150 : decode cX13_empty 150 = .ok (.iastore, 1) := dk_79 (dk_at dksX13_empty_6 14 rfl rfl)
theorem dX13_empty_151 : decode cX13_empty 151 = .ok (.iinc 5 1, 3) := dk_132 5 1 (dk_at dksX13_empty_6 15 rfl rfl)
theorem dX13_empty_154 : decode cX13_empty 154 = .ok (.goto (-80), 3) := dk_167 255 176 (dk_at dksX13_empty_6 18 rfl rfl)
theorem dX13_empty_157 : decode cX13_empty 157 = .ok (.aload_n 0, 1) := dk_42 (dk_at dksX13_empty_6 21 rfl rfl)
theorem dX13_empty_158 : decode cX13_empty 158 = .ok (.iload_n 1, 1) := dk_27 (dk_at dksX13_empty_6 22 rfl rfl)
theorem dX13_empty_159 : decode cX13_empty 159 = .ok (.invokevirtual 125, 3) := dk_182 0 125 (dk_at dksX13_empty_7 0 rfl rfl)
theorem dX13_empty_162 : decode cX13_empty 162 = .ok (.aload_n 0, 1) := dk_42 (dk_at dksX13_empty_7 3 rfl rfl)
theorem dX13_empty_163 : decode cX13_empty 163 = .ok (.getfield 7, 3) := dk_180 0 7 (dk_at dksX13_empty_7 4 rfl rfl)
theorem dX13_empty_166 : decode cX13_empty 166 = .ok (.iconst 3, 1) := dk_6 (dk_at dksX13_empty_7 7 rfl rfl)
theorem dX13_empty_167 : decode cX13_empty 167 = .ok (.iaload, 1) := dk_46 (dk_at dksX13_empty_7 8 rfl rfl)
theorem dX13_empty_168 : decode cX13_empty 168 = .ok (.iload_n 2, 1) := dk_28 (dk_at dksX13_empty_7 9 rfl rfl)
theorem dX13_empty_169 : decode cX13_empty 169 = .ok (.if_icmp .ne 8, 3) := dk_160 0 8 (dk_at dksX13_empty_7 10 rfl rfl)
theorem dX13_empty_172 : decode cX13_empty 172 = .ok (.iload 4, 2) := dk_21 4 (dk_at dksX13_empty_7 13 rfl rfl)
theorem dX13_empty_174 : decode cX13_empty 174 = .ok (.goto 4, 3) := dk_167 0 4 (dk_at dksX13_empty_7 15 rfl rfl)
theorem dX13_empty_177 : decode cX13_empty 177 = .ok (.iload_n 3, 1) := dk_29 (dk_at dksX13_empty_7 18 rfl rfl)
theorem dX13_empty_178 : decode cX13_empty 178 = .ok (.istore_n 3, 1) := dk_62 (dk_at dksX13_empty_7 19 rfl rfl)
theorem dX13_empty_179 : decode cX13_empty 179 = .ok (.aload_n 0, 1) := dk_42 (dk_at dksX13_empty_7 20 rfl rfl)
theorem dX13_empty_180 : decode cX13_empty 180 = .ok (.getfield 19, 3) := dk_180 0 19 (dk_at dksX13_empty_7 21 rfl rfl)
theorem dX13_empty_183 : decode cX13_empty 183 = .ok (.aload_n 0, 1) := dk_42 (dk_at dksX13_empty_8 0 rfl rfl)
theorem dX13_empty_184 : decode cX13_empty 184 = .ok (.getfield 7, 3) := dk_180 0 7 (dk_at dksX13_empty_8 1 rfl rfl)
theorem dX13_empty_187 : decode cX13_empty 187 = .ok (.invokestatic 140, 3) := dk_184 0 140 (dk_at dksX13_empty_8 4 rfl rfl)
theorem dX13_empty_190 : decode cX13_empty 190 = .ok (.iinc 4 1, 3) := dk_132 4 1 (dk_at dksX13_empty_8 7 rfl rfl)
theorem dX13_empty_193 : decode cX13_empty 193 = .ok (.goto (-151), 3) := dk_167 255 105 (dk_at dksX13_empty_8 10 rfl rfl)
theorem dX13_empty_196 : decode cX13_empty 196 = .ok (.aload_n 0, 1) := dk_42 (dk_at dksX13_empty_8 13 rfl rfl)
theorem dX13_empty_197 : decode cX13_empty 197 = .ok (.iload_n 3, 1) := dk_29 (dk_at dksX13_empty_8 14 rfl rfl)
theorem dX13_empty_198 : decode cX13_empty 198 = .ok (.invokevirtual 170, 3) := dk_182 0 170 (dk_at dksX13_empty_8 15 rfl rfl)
theorem dX13_empty_201 : decode cX13_empty 201 = .ok (.ireturn, 1) := dk_172 (dk_at dksX13_empty_8 18 rfl rfl)
abbrev cX13_blend : ByteArray := prog_16_method_56_code
def yX13_blend : MethodName := ⟨RX13, "blend", "(I)I"⟩
def dkwX13_blend_1 : List UInt8 := [182, 0, 175, 167, 0, 9, 42, 18, 37, 182, 0, 39, 172]
abbrev dktX13_blend_1 : List UInt8 := dkwX13_blend_1 ++ []
def dkwX13_blend_0 : List UInt8 := [27, 133, 9, 4, 42, 180, 0, 7, 3, 46, 120, 4, 100, 133, 184, 0, 49, 153, 0, 11, 42, 27]
abbrev dktX13_blend_0 : List UInt8 := dkwX13_blend_0 ++ dktX13_blend_1
theorem dksX13_blend_0 : cX13_blend.data.toList.drop 0 = dktX13_blend_0 := by decide +kernel
theorem dksX13_blend_1 : cX13_blend.data.toList.drop 22 = dktX13_blend_1 := dk_seg dksX13_blend_0 22 rfl rfl
theorem dX13_blend_0 : decode cX13_blend 0 = .ok (.iload_n 1, 1) := dk_27 (dk_at dksX13_blend_0 0 rfl rfl)
theorem dX13_blend_1 : decode cX13_blend 1 = .ok (.i2l, 1) := dk_133 (dk_at dksX13_blend_0 1 rfl rfl)
theorem dX13_blend_2 : decode cX13_blend 2 = .ok (.lconst 0, 1) := dk_9 (dk_at dksX13_blend_0 2 rfl rfl)
theorem dX13_blend_3 : decode cX13_blend 3 = .ok (.iconst 1, 1) := dk_4 (dk_at dksX13_blend_0 3 rfl rfl)
theorem dX13_blend_4 : decode cX13_blend 4 = .ok (.aload_n 0, 1) := dk_42 (dk_at dksX13_blend_0 4 rfl rfl)
theorem dX13_blend_5 : decode cX13_blend 5 = .ok (.getfield 7, 3) := dk_180 0 7 (dk_at dksX13_blend_0 5 rfl rfl)
theorem dX13_blend_8 : decode cX13_blend 8 = .ok (.iconst 0, 1) := dk_3 (dk_at dksX13_blend_0 8 rfl rfl)
theorem dX13_blend_9 : decode cX13_blend 9 = .ok (.iaload, 1) := dk_46 (dk_at dksX13_blend_0 9 rfl rfl)
theorem dX13_blend_10 : decode cX13_blend 10 = .ok (.ishl, 1) := dk_120 (dk_at dksX13_blend_0 10 rfl rfl)
theorem dX13_blend_11 : decode cX13_blend 11 = .ok (.iconst 1, 1) := dk_4 (dk_at dksX13_blend_0 11 rfl rfl)
theorem dX13_blend_12 : decode cX13_blend 12 = .ok (.isub, 1) := dk_100 (dk_at dksX13_blend_0 12 rfl rfl)
theorem dX13_blend_13 : decode cX13_blend 13 = .ok (.i2l, 1) := dk_133 (dk_at dksX13_blend_0 13 rfl rfl)
theorem dX13_blend_14 : decode cX13_blend 14 = .ok (.invokestatic 49, 3) := dk_184 0 49 (dk_at dksX13_blend_0 14 rfl rfl)
theorem dX13_blend_17 : decode cX13_blend 17 = .ok (.ifCond .eq 11, 3) := dk_153 0 11 (dk_at dksX13_blend_0 17 rfl rfl)
theorem dX13_blend_20 : decode cX13_blend 20 = .ok (.aload_n 0, 1) := dk_42 (dk_at dksX13_blend_0 20 rfl rfl)
theorem dX13_blend_21 : decode cX13_blend 21 = .ok (.iload_n 1, 1) := dk_27 (dk_at dksX13_blend_0 21 rfl rfl)
theorem dX13_blend_22 : decode cX13_blend 22 = .ok (.invokevirtual 175, 3) := dk_182 0 175 (dk_at dksX13_blend_1 0 rfl rfl)
theorem dX13_blend_25 : decode cX13_blend 25 = .ok (.goto 9, 3) := dk_167 0 9 (dk_at dksX13_blend_1 3 rfl rfl)
theorem dX13_blend_28 : decode cX13_blend 28 = .ok (.aload_n 0, 1) := dk_42 (dk_at dksX13_blend_1 6 rfl rfl)
theorem dX13_blend_29 : decode cX13_blend 29 = .ok (.ldc 37, 2) := dk_18 37 (dk_at dksX13_blend_1 7 rfl rfl)
theorem dX13_blend_31 : decode cX13_blend 31 = .ok (.invokevirtual 39, 3) := dk_182 0 39 (dk_at dksX13_blend_1 9 rfl rfl)
theorem dX13_blend_34 : decode cX13_blend 34 = .ok (.ireturn, 1) := dk_172 (dk_at dksX13_blend_1 12 rfl rfl)
abbrev cX13_blendOf : ByteArray := prog_16_method_55_code
def yX13_blendOf : MethodName := ⟨RX13, "blendOf", "(I)I"⟩
def dkwX13_blendOf_1 : List UInt8 := [42, 29, 182, 0, 89, 167, 0, 4, 3, 96, 61, 132, 3, 1, 167, 255, 222, 28, 172]
abbrev dktX13_blendOf_1 : List UInt8 := dkwX13_blendOf_1 ++ []
def dkwX13_blendOf_0 : List UInt8 := [3, 61, 3, 62, 29, 42, 180, 0, 7, 3, 46, 162, 0, 30, 28, 27, 29, 122, 4, 126, 4, 160, 0, 11]
abbrev dktX13_blendOf_0 : List UInt8 := dkwX13_blendOf_0 ++ dktX13_blendOf_1
theorem dksX13_blendOf_0 : cX13_blendOf.data.toList.drop 0 = dktX13_blendOf_0 := by decide +kernel
theorem dksX13_blendOf_1 : cX13_blendOf.data.toList.drop 24 = dktX13_blendOf_1 := dk_seg dksX13_blendOf_0 24 rfl rfl
theorem dX13_blendOf_0 : decode cX13_blendOf 0 = .ok (.iconst 0, 1) := dk_3 (dk_at dksX13_blendOf_0 0 rfl rfl)
theorem dX13_blendOf_1 : decode cX13_blendOf 1 = .ok (.istore_n 2, 1) := dk_61 (dk_at dksX13_blendOf_0 1 rfl rfl)
theorem dX13_blendOf_2 : decode cX13_blendOf 2 = .ok (.iconst 0, 1) := dk_3 (dk_at dksX13_blendOf_0 2 rfl rfl)
theorem dX13_blendOf_3 : decode cX13_blendOf 3 = .ok (.istore_n 3, 1) := dk_62 (dk_at dksX13_blendOf_0 3 rfl rfl)
theorem dX13_blendOf_4 : decode cX13_blendOf 4 = .ok (.iload_n 3, 1) := dk_29 (dk_at dksX13_blendOf_0 4 rfl rfl)
theorem dX13_blendOf_5 : decode cX13_blendOf 5 = .ok (.aload_n 0, 1) := dk_42 (dk_at dksX13_blendOf_0 5 rfl rfl)
theorem dX13_blendOf_6 : decode cX13_blendOf 6 = .ok (.getfield 7, 3) := dk_180 0 7 (dk_at dksX13_blendOf_0 6 rfl rfl)
theorem dX13_blendOf_9 : decode cX13_blendOf 9 = .ok (.iconst 0, 1) := dk_3 (dk_at dksX13_blendOf_0 9 rfl rfl)
theorem dX13_blendOf_10 : decode cX13_blendOf 10 = .ok (.iaload, 1) := dk_46 (dk_at dksX13_blendOf_0 10 rfl rfl)
theorem dX13_blendOf_11 : decode cX13_blendOf 11 = .ok (.if_icmp .ge 30, 3) := dk_162 0 30 (dk_at dksX13_blendOf_0 11 rfl rfl)
theorem dX13_blendOf_14 : decode cX13_blendOf 14 = .ok (.iload_n 2, 1) := dk_28 (dk_at dksX13_blendOf_0 14 rfl rfl)
theorem dX13_blendOf_15 : decode cX13_blendOf 15 = .ok (.iload_n 1, 1) := dk_27 (dk_at dksX13_blendOf_0 15 rfl rfl)
theorem dX13_blendOf_16 : decode cX13_blendOf 16 = .ok (.iload_n 3, 1) := dk_29 (dk_at dksX13_blendOf_0 16 rfl rfl)
theorem dX13_blendOf_17 : decode cX13_blendOf 17 = .ok (.ishr, 1) := dk_122 (dk_at dksX13_blendOf_0 17 rfl rfl)
theorem dX13_blendOf_18 : decode cX13_blendOf 18 = .ok (.iconst 1, 1) := dk_4 (dk_at dksX13_blendOf_0 18 rfl rfl)
theorem dX13_blendOf_19 : decode cX13_blendOf 19 = .ok (.iand, 1) := dk_126 (dk_at dksX13_blendOf_0 19 rfl rfl)
theorem dX13_blendOf_20 : decode cX13_blendOf 20 = .ok (.iconst 1, 1) := dk_4 (dk_at dksX13_blendOf_0 20 rfl rfl)
theorem dX13_blendOf_21 : decode cX13_blendOf 21 = .ok (.if_icmp .ne 11, 3) := dk_160 0 11 (dk_at dksX13_blendOf_0 21 rfl rfl)
theorem dX13_blendOf_24 : decode cX13_blendOf 24 = .ok (.aload_n 0, 1) := dk_42 (dk_at dksX13_blendOf_1 0 rfl rfl)
theorem dX13_blendOf_25 : decode cX13_blendOf 25 = .ok (.iload_n 3, 1) := dk_29 (dk_at dksX13_blendOf_1 1 rfl rfl)
theorem dX13_blendOf_26 : decode cX13_blendOf 26 = .ok (.invokevirtual 89, 3) := dk_182 0 89 (dk_at dksX13_blendOf_1 2 rfl rfl)
theorem dX13_blendOf_29 : decode cX13_blendOf 29 = .ok (.goto 4, 3) := dk_167 0 4 (dk_at dksX13_blendOf_1 5 rfl rfl)
theorem dX13_blendOf_32 : decode cX13_blendOf 32 = .ok (.iconst 0, 1) := dk_3 (dk_at dksX13_blendOf_1 8 rfl rfl)
theorem dX13_blendOf_33 : decode cX13_blendOf 33 = .ok (.iadd, 1) := dk_96 (dk_at dksX13_blendOf_1 9 rfl rfl)
theorem dX13_blendOf_34 : decode cX13_blendOf 34 = .ok (.istore_n 2, 1) := dk_61 (dk_at dksX13_blendOf_1 10 rfl rfl)
theorem dX13_blendOf_35 : decode cX13_blendOf 35 = .ok (.iinc 3 1, 3) := dk_132 3 1 (dk_at dksX13_blendOf_1 11 rfl rfl)
theorem dX13_blendOf_38 : decode cX13_blendOf 38 = .ok (.goto (-34), 3) := dk_167 255 222 (dk_at dksX13_blendOf_1 14 rfl rfl)
theorem dX13_blendOf_41 : decode cX13_blendOf 41 = .ok (.iload_n 2, 1) := dk_28 (dk_at dksX13_blendOf_1 17 rfl rfl)
theorem dX13_blendOf_42 : decode cX13_blendOf 42 = .ok (.ireturn, 1) := dk_172 (dk_at dksX13_blendOf_1 18 rfl rfl)
abbrev cX13_order : ByteArray := prog_16_method_57_code
def yX13_order : MethodName := ⟨RX13, "order", "(I)I"⟩
def dkwX13_order_3 : List UInt8 := [42, 28, 182, 0, 170, 172]
abbrev dktX13_order_3 : List UInt8 := dkwX13_order_3 ++ []
def dkwX13_order_2 : List UInt8 := [162, 0, 16, 42, 29, 182, 0, 175, 27, 160, 0, 7, 29, 167, 0, 4, 28, 61, 132, 3, 1, 167, 255, 211]
abbrev dktX13_order_2 : List UInt8 := dkwX13_order_2 ++ dktX13_order_3
def dkwX13_order_1 : List UInt8 := [4, 42, 180, 0, 7, 3, 46, 120, 162, 0, 39, 28, 155, 0, 14, 29, 184, 0, 83, 28, 184, 0, 83]
abbrev dktX13_order_1 : List UInt8 := dkwX13_order_1 ++ dktX13_order_2
def dkwX13_order_0 : List UInt8 := [27, 133, 9, 20, 0, 178, 184, 0, 49, 154, 0, 10, 42, 18, 37, 182, 0, 39, 172, 2, 61, 3, 62, 29]
abbrev dktX13_order_0 : List UInt8 := dkwX13_order_0 ++ dktX13_order_1
theorem dksX13_order_0 : cX13_order.data.toList.drop 0 = dktX13_order_0 := by decide +kernel
theorem dksX13_order_1 : cX13_order.data.toList.drop 24 = dktX13_order_1 := dk_seg dksX13_order_0 24 rfl rfl
theorem dksX13_order_2 : cX13_order.data.toList.drop 47 = dktX13_order_2 := dk_seg dksX13_order_1 23 rfl rfl
theorem dksX13_order_3 : cX13_order.data.toList.drop 71 = dktX13_order_3 := dk_seg dksX13_order_2 24 rfl rfl
theorem dX13_order_0 : decode cX13_order 0 = .ok (.iload_n 1, 1) := dk_27 (dk_at dksX13_order_0 0 rfl rfl)
theorem dX13_order_1 : decode cX13_order 1 = .ok (.i2l, 1) := dk_133 (dk_at dksX13_order_0 1 rfl rfl)
theorem dX13_order_2 : decode cX13_order 2 = .ok (.lconst 0, 1) := dk_9 (dk_at dksX13_order_0 2 rfl rfl)
theorem dX13_order_3 : decode cX13_order 3 = .ok (.ldc2_w 178, 3) := dk_20 0 178 (dk_at dksX13_order_0 3 rfl rfl)
theorem dX13_order_6 : decode cX13_order 6 = .ok (.invokestatic 49, 3) := dk_184 0 49 (dk_at dksX13_order_0 6 rfl rfl)
theorem dX13_order_9 : decode cX13_order 9 = .ok (.ifCond .ne 10, 3) := dk_154 0 10 (dk_at dksX13_order_0 9 rfl rfl)
theorem dX13_order_12 : decode cX13_order 12 = .ok (.aload_n 0, 1) := dk_42 (dk_at dksX13_order_0 12 rfl rfl)
theorem dX13_order_13 : decode cX13_order 13 = .ok (.ldc 37, 2) := dk_18 37 (dk_at dksX13_order_0 13 rfl rfl)
theorem dX13_order_15 : decode cX13_order 15 = .ok (.invokevirtual 39, 3) := dk_182 0 39 (dk_at dksX13_order_0 15 rfl rfl)
theorem dX13_order_18 : decode cX13_order 18 = .ok (.ireturn, 1) := dk_172 (dk_at dksX13_order_0 18 rfl rfl)
theorem dX13_order_19 : decode cX13_order 19 = .ok (.iconst (-1), 1) := dk_2 (dk_at dksX13_order_0 19 rfl rfl)
theorem dX13_order_20 : decode cX13_order 20 = .ok (.istore_n 2, 1) := dk_61 (dk_at dksX13_order_0 20 rfl rfl)
theorem dX13_order_21 : decode cX13_order 21 = .ok (.iconst 0, 1) := dk_3 (dk_at dksX13_order_0 21 rfl rfl)
theorem dX13_order_22 : decode cX13_order 22 = .ok (.istore_n 3, 1) := dk_62 (dk_at dksX13_order_0 22 rfl rfl)
theorem dX13_order_23 : decode cX13_order 23 = .ok (.iload_n 3, 1) := dk_29 (dk_at dksX13_order_0 23 rfl rfl)
theorem dX13_order_24 : decode cX13_order 24 = .ok (.iconst 1, 1) := dk_4 (dk_at dksX13_order_1 0 rfl rfl)
theorem dX13_order_25 : decode cX13_order 25 = .ok (.aload_n 0, 1) := dk_42 (dk_at dksX13_order_1 1 rfl rfl)
theorem dX13_order_26 : decode cX13_order 26 = .ok (.getfield 7, 3) := dk_180 0 7 (dk_at dksX13_order_1 2 rfl rfl)
theorem dX13_order_29 : decode cX13_order 29 = .ok (.iconst 0, 1) := dk_3 (dk_at dksX13_order_1 5 rfl rfl)
theorem dX13_order_30 : decode cX13_order 30 = .ok (.iaload, 1) := dk_46 (dk_at dksX13_order_1 6 rfl rfl)
theorem dX13_order_31 : decode cX13_order 31 = .ok (.ishl, 1) := dk_120 (dk_at dksX13_order_1 7 rfl rfl)
theorem dX13_order_32 : decode cX13_order 32 = .ok (.if_icmp .ge 39, 3) := dk_162 0 39 (dk_at dksX13_order_1 8 rfl rfl)
theorem dX13_order_35 : decode cX13_order 35 = .ok (.iload_n 2, 1) := dk_28 (dk_at dksX13_order_1 11 rfl rfl)
theorem dX13_order_36 : decode cX13_order 36 = .ok (.ifCond .lt 14, 3) := dk_155 0 14 (dk_at dksX13_order_1 12 rfl rfl)
theorem dX13_order_39 : decode cX13_order 39 = .ok (.iload_n 3, 1) := dk_29 (dk_at dksX13_order_1 15 rfl rfl)
theorem dX13_order_40 : decode cX13_order 40 = .ok (.invokestatic 83, 3) := dk_184 0 83 (dk_at dksX13_order_1 16 rfl rfl)
theorem dX13_order_43 : decode cX13_order 43 = .ok (.iload_n 2, 1) := dk_28 (dk_at dksX13_order_1 19 rfl rfl)
theorem dX13_order_44 : decode cX13_order 44 = .ok (.invokestatic 83, 3) := dk_184 0 83 (dk_at dksX13_order_1 20 rfl rfl)
theorem dX13_order_47 : decode cX13_order 47 = .ok (.if_icmp .ge 16, 3) := dk_162 0 16 (dk_at dksX13_order_2 0 rfl rfl)
theorem dX13_order_50 : decode cX13_order 50 = .ok (.aload_n 0, 1) := dk_42 (dk_at dksX13_order_2 3 rfl rfl)
theorem dX13_order_51 : decode cX13_order 51 = .ok (.iload_n 3, 1) := dk_29 (dk_at dksX13_order_2 4 rfl rfl)
theorem dX13_order_52 : decode cX13_order 52 = .ok (.invokevirtual 175, 3) := dk_182 0 175 (dk_at dksX13_order_2 5 rfl rfl)
theorem dX13_order_55 : decode cX13_order 55 = .ok (.iload_n 1, 1) := dk_27 (dk_at dksX13_order_2 8 rfl rfl)
theorem dX13_order_56 : decode cX13_order 56 = .ok (.if_icmp .ne 7, 3) := dk_160 0 7 (dk_at dksX13_order_2 9 rfl rfl)
theorem dX13_order_59 : decode cX13_order 59 = .ok (.iload_n 3, 1) := dk_29 (dk_at dksX13_order_2 12 rfl rfl)
theorem dX13_order_60 : decode cX13_order 60 = .ok (.goto 4, 3) := dk_167 0 4 (dk_at dksX13_order_2 13 rfl rfl)
theorem dX13_order_63 : decode cX13_order 63 = .ok (.iload_n 2, 1) := dk_28 (dk_at dksX13_order_2 16 rfl rfl)
theorem dX13_order_64 : decode cX13_order 64 = .ok (.istore_n 2, 1) := dk_61 (dk_at dksX13_order_2 17 rfl rfl)
theorem dX13_order_65 : decode cX13_order 65 = .ok (.iinc 3 1, 3) := dk_132 3 1 (dk_at dksX13_order_2 18 rfl rfl)
theorem dX13_order_68 : decode cX13_order 68 = .ok (.goto (-45), 3) := dk_167 255 211 (dk_at dksX13_order_2 21 rfl rfl)
theorem dX13_order_71 : decode cX13_order 71 = .ok (.aload_n 0, 1) := dk_42 (dk_at dksX13_order_3 0 rfl rfl)
theorem dX13_order_72 : decode cX13_order 72 = .ok (.iload_n 2, 1) := dk_28 (dk_at dksX13_order_3 1 rfl rfl)
theorem dX13_order_73 : decode cX13_order 73 = .ok (.invokevirtual 170, 3) := dk_182 0 170 (dk_at dksX13_order_3 2 rfl rfl)
theorem dX13_order_76 : decode cX13_order 76 = .ok (.ireturn, 1) := dk_172 (dk_at dksX13_order_3 5 rfl rfl)
abbrev cX13_blends : ByteArray := prog_16_method_58_code
def yX13_blends : MethodName := ⟨RX13, "blends", "(II)I"⟩
def dkwX13_blends_3 : List UInt8 := [167, 0, 4, 3, 96, 62, 132, 4, 1, 167, 255, 215, 29, 172]
abbrev dktX13_blends_3 : List UInt8 := dkwX13_blends_3 ++ []
def dkwX13_blends_2 : List UInt8 := [162, 0, 34, 29, 42, 21, 4, 182, 0, 175, 133, 27, 133, 28, 133, 184, 0, 49, 153, 0, 7, 4]
abbrev dktX13_blends_2 : List UInt8 := dkwX13_blends_2 ++ dktX13_blends_3
def dkwX13_blends_1 : List UInt8 := [42, 18, 37, 182, 0, 39, 172, 3, 62, 3, 54, 4, 21, 4, 4, 42, 180, 0, 7, 3, 46, 120]
abbrev dktX13_blends_1 : List UInt8 := dkwX13_blends_1 ++ dktX13_blends_2
def dkwX13_blends_0 : List UInt8 := [27, 133, 9, 20, 0, 178, 184, 0, 49, 153, 0, 15, 28, 133, 9, 20, 0, 178, 184, 0, 49, 154, 0, 10]
abbrev dktX13_blends_0 : List UInt8 := dkwX13_blends_0 ++ dktX13_blends_1
theorem dksX13_blends_0 : cX13_blends.data.toList.drop 0 = dktX13_blends_0 := by decide +kernel
theorem dksX13_blends_1 : cX13_blends.data.toList.drop 24 = dktX13_blends_1 := dk_seg dksX13_blends_0 24 rfl rfl
theorem dksX13_blends_2 : cX13_blends.data.toList.drop 46 = dktX13_blends_2 := dk_seg dksX13_blends_1 22 rfl rfl
theorem dksX13_blends_3 : cX13_blends.data.toList.drop 68 = dktX13_blends_3 := dk_seg dksX13_blends_2 22 rfl rfl
theorem dX13_blends_0 : decode cX13_blends 0 = .ok (.iload_n 1, 1) := dk_27 (dk_at dksX13_blends_0 0 rfl rfl)
theorem dX13_blends_1 : decode cX13_blends 1 = .ok (.i2l, 1) := dk_133 (dk_at dksX13_blends_0 1 rfl rfl)
theorem dX13_blends_2 : decode cX13_blends 2 = .ok (.lconst 0, 1) := dk_9 (dk_at dksX13_blends_0 2 rfl rfl)
theorem dX13_blends_3 : decode cX13_blends 3 = .ok (.ldc2_w 178, 3) := dk_20 0 178 (dk_at dksX13_blends_0 3 rfl rfl)
theorem dX13_blends_6 : decode cX13_blends 6 = .ok (.invokestatic 49, 3) := dk_184 0 49 (dk_at dksX13_blends_0 6 rfl rfl)
theorem dX13_blends_9 : decode cX13_blends 9 = .ok (.ifCond .eq 15, 3) := dk_153 0 15 (dk_at dksX13_blends_0 9 rfl rfl)
theorem dX13_blends_12 : decode cX13_blends 12 = .ok (.iload_n 2, 1) := dk_28 (dk_at dksX13_blends_0 12 rfl rfl)
theorem dX13_blends_13 : decode cX13_blends 13 = .ok (.i2l, 1) := dk_133 (dk_at dksX13_blends_0 13 rfl rfl)
theorem dX13_blends_14 : decode cX13_blends 14 = .ok (.lconst 0, 1) := dk_9 (dk_at dksX13_blends_0 14 rfl rfl)
theorem dX13_blends_15 : decode cX13_blends 15 = .ok (.ldc2_w 178, 3) := dk_20 0 178 (dk_at dksX13_blends_0 15 rfl rfl)
theorem dX13_blends_18 : decode cX13_blends 18 = .ok (.invokestatic 49, 3) := dk_184 0 49 (dk_at dksX13_blends_0 18 rfl rfl)
theorem dX13_blends_21 : decode cX13_blends 21 = .ok (.ifCond .ne 10, 3) := dk_154 0 10 (dk_at dksX13_blends_0 21 rfl rfl)
theorem dX13_blends_24 : decode cX13_blends 24 = .ok (.aload_n 0, 1) := dk_42 (dk_at dksX13_blends_1 0 rfl rfl)
theorem dX13_blends_25 : decode cX13_blends 25 = .ok (.ldc 37, 2) := dk_18 37 (dk_at dksX13_blends_1 1 rfl rfl)
theorem dX13_blends_27 : decode cX13_blends 27 = .ok (.invokevirtual 39, 3) := dk_182 0 39 (dk_at dksX13_blends_1 3 rfl rfl)
theorem dX13_blends_30 : decode cX13_blends 30 = .ok (.ireturn, 1) := dk_172 (dk_at dksX13_blends_1 6 rfl rfl)
theorem dX13_blends_31 : decode cX13_blends 31 = .ok (.iconst 0, 1) := dk_3 (dk_at dksX13_blends_1 7 rfl rfl)
theorem dX13_blends_32 : decode cX13_blends 32 = .ok (.istore_n 3, 1) := dk_62 (dk_at dksX13_blends_1 8 rfl rfl)
theorem dX13_blends_33 : decode cX13_blends 33 = .ok (.iconst 0, 1) := dk_3 (dk_at dksX13_blends_1 9 rfl rfl)
theorem dX13_blends_34 : decode cX13_blends 34 = .ok (.istore 4, 2) := dk_54 4 (dk_at dksX13_blends_1 10 rfl rfl)
theorem dX13_blends_36 : decode cX13_blends 36 = .ok (.iload 4, 2) := dk_21 4 (dk_at dksX13_blends_1 12 rfl rfl)
theorem dX13_blends_38 : decode cX13_blends 38 = .ok (.iconst 1, 1) := dk_4 (dk_at dksX13_blends_1 14 rfl rfl)
theorem dX13_blends_39 : decode cX13_blends 39 = .ok (.aload_n 0, 1) := dk_42 (dk_at dksX13_blends_1 15 rfl rfl)
theorem dX13_blends_40 : decode cX13_blends 40 = .ok (.getfield 7, 3) := dk_180 0 7 (dk_at dksX13_blends_1 16 rfl rfl)
theorem dX13_blends_43 : decode cX13_blends 43 = .ok (.iconst 0, 1) := dk_3 (dk_at dksX13_blends_1 19 rfl rfl)
theorem dX13_blends_44 : decode cX13_blends 44 = .ok (.iaload, 1) := dk_46 (dk_at dksX13_blends_1 20 rfl rfl)
theorem dX13_blends_45 : decode cX13_blends 45 = .ok (.ishl, 1) := dk_120 (dk_at dksX13_blends_1 21 rfl rfl)
theorem dX13_blends_46 : decode cX13_blends 46 = .ok (.if_icmp .ge 34, 3) := dk_162 0 34 (dk_at dksX13_blends_2 0 rfl rfl)
theorem dX13_blends_49 : decode cX13_blends 49 = .ok (.iload_n 3, 1) := dk_29 (dk_at dksX13_blends_2 3 rfl rfl)
theorem dX13_blends_50 : decode cX13_blends 50 = .ok (.aload_n 0, 1) := dk_42 (dk_at dksX13_blends_2 4 rfl rfl)
theorem dX13_blends_51 : decode cX13_blends 51 = .ok (.iload 4, 2) := dk_21 4 (dk_at dksX13_blends_2 5 rfl rfl)
theorem dX13_blends_53 : decode cX13_blends 53 = .ok (.invokevirtual 175, 3) := dk_182 0 175 (dk_at dksX13_blends_2 7 rfl rfl)
theorem dX13_blends_56 : decode cX13_blends 56 = .ok (.i2l, 1) := dk_133 (dk_at dksX13_blends_2 10 rfl rfl)
theorem dX13_blends_57 : decode cX13_blends 57 = .ok (.iload_n 1, 1) := dk_27 (dk_at dksX13_blends_2 11 rfl rfl)
theorem dX13_blends_58 : decode cX13_blends 58 = .ok (.i2l, 1) := dk_133 (dk_at dksX13_blends_2 12 rfl rfl)
theorem dX13_blends_59 : decode cX13_blends 59 = .ok (.iload_n 2, 1) := dk_28 (dk_at dksX13_blends_2 13 rfl rfl)
theorem dX13_blends_60 : decode cX13_blends 60 = .ok (.i2l, 1) := dk_133 (dk_at dksX13_blends_2 14 rfl rfl)
theorem dX13_blends_61 : decode cX13_blends 61 = .ok (.invokestatic 49, 3) := dk_184 0 49 (dk_at dksX13_blends_2 15 rfl rfl)
theorem dX13_blends_64 : decode cX13_blends 64 = .ok (.ifCond .eq 7, 3) := dk_153 0 7 (dk_at dksX13_blends_2 18 rfl rfl)
theorem dX13_blends_67 : decode cX13_blends 67 = .ok (.iconst 1, 1) := dk_4 (dk_at dksX13_blends_2 21 rfl rfl)
theorem dX13_blends_68 : decode cX13_blends 68 = .ok (.goto 4, 3) := dk_167 0 4 (dk_at dksX13_blends_3 0 rfl rfl)
theorem dX13_blends_71 : decode cX13_blends 71 = .ok (.iconst 0, 1) := dk_3 (dk_at dksX13_blends_3 3 rfl rfl)
theorem dX13_blends_72 : decode cX13_blends 72 = .ok (.iadd, 1) := dk_96 (dk_at dksX13_blends_3 4 rfl rfl)
theorem dX13_blends_73 : decode cX13_blends 73 = .ok (.istore_n 3, 1) := dk_62 (dk_at dksX13_blends_3 5 rfl rfl)
theorem dX13_blends_74 : decode cX13_blends 74 = .ok (.iinc 4 1, 3) := dk_132 4 1 (dk_at dksX13_blends_3 6 rfl rfl)
theorem dX13_blends_77 : decode cX13_blends 77 = .ok (.goto (-41), 3) := dk_167 255 215 (dk_at dksX13_blends_3 9 rfl rfl)
theorem dX13_blends_80 : decode cX13_blends 80 = .ok (.iload_n 3, 1) := dk_29 (dk_at dksX13_blends_3 12 rfl rfl)
theorem dX13_blends_81 : decode cX13_blends 81 = .ok (.ireturn, 1) := dk_172 (dk_at dksX13_blends_3 13 rfl rfl)
abbrev cX13_fits : ByteArray := prog_16_method_62_code
def yX13_fits : MethodName := ⟨RX13, "fits", "(II)I"⟩
def dkwX13_fits_1 : List UInt8 := [180, 0, 180, 172]
abbrev dktX13_fits_1 : List UInt8 := dkwX13_fits_1 ++ []
def dkwX13_fits_0 : List UInt8 := [42, 27, 28, 182, 0, 193, 62, 29, 153, 0, 9, 42, 29, 182, 0, 39, 172, 42, 27, 28, 182, 0, 196, 42]
abbrev dktX13_fits_0 : List UInt8 := dkwX13_fits_0 ++ dktX13_fits_1
theorem dksX13_fits_0 : cX13_fits.data.toList.drop 0 = dktX13_fits_0 := by decide +kernel
theorem dksX13_fits_1 : cX13_fits.data.toList.drop 24 = dktX13_fits_1 := dk_seg dksX13_fits_0 24 rfl rfl
theorem dX13_fits_0 : decode cX13_fits 0 = .ok (.aload_n 0, 1) := dk_42 (dk_at dksX13_fits_0 0 rfl rfl)
theorem dX13_fits_1 : decode cX13_fits 1 = .ok (.iload_n 1, 1) := dk_27 (dk_at dksX13_fits_0 1 rfl rfl)
theorem dX13_fits_2 : decode cX13_fits 2 = .ok (.iload_n 2, 1) := dk_28 (dk_at dksX13_fits_0 2 rfl rfl)
theorem dX13_fits_3 : decode cX13_fits 3 = .ok (.invokevirtual 193, 3) := dk_182 0 193 (dk_at dksX13_fits_0 3 rfl rfl)
theorem dX13_fits_6 : decode cX13_fits 6 = .ok (.istore_n 3, 1) := dk_62 (dk_at dksX13_fits_0 6 rfl rfl)
theorem dX13_fits_7 : decode cX13_fits 7 = .ok (.iload_n 3, 1) := dk_29 (dk_at dksX13_fits_0 7 rfl rfl)
theorem dX13_fits_8 : decode cX13_fits 8 = .ok (.ifCond .eq 9, 3) := dk_153 0 9 (dk_at dksX13_fits_0 8 rfl rfl)
theorem dX13_fits_11 : decode cX13_fits 11 = .ok (.aload_n 0, 1) := dk_42 (dk_at dksX13_fits_0 11 rfl rfl)
theorem dX13_fits_12 : decode cX13_fits 12 = .ok (.iload_n 3, 1) := dk_29 (dk_at dksX13_fits_0 12 rfl rfl)
theorem dX13_fits_13 : decode cX13_fits 13 = .ok (.invokevirtual 39, 3) := dk_182 0 39 (dk_at dksX13_fits_0 13 rfl rfl)
theorem dX13_fits_16 : decode cX13_fits 16 = .ok (.ireturn, 1) := dk_172 (dk_at dksX13_fits_0 16 rfl rfl)
theorem dX13_fits_17 : decode cX13_fits 17 = .ok (.aload_n 0, 1) := dk_42 (dk_at dksX13_fits_0 17 rfl rfl)
theorem dX13_fits_18 : decode cX13_fits 18 = .ok (.iload_n 1, 1) := dk_27 (dk_at dksX13_fits_0 18 rfl rfl)
theorem dX13_fits_19 : decode cX13_fits 19 = .ok (.iload_n 2, 1) := dk_28 (dk_at dksX13_fits_0 19 rfl rfl)
theorem dX13_fits_20 : decode cX13_fits 20 = .ok (.invokevirtual 196, 3) := dk_182 0 196 (dk_at dksX13_fits_0 20 rfl rfl)
theorem dX13_fits_23 : decode cX13_fits 23 = .ok (.aload_n 0, 1) := dk_42 (dk_at dksX13_fits_0 23 rfl rfl)
theorem dX13_fits_24 : decode cX13_fits 24 = .ok (.getfield 180, 3) := dk_180 0 180 (dk_at dksX13_fits_1 0 rfl rfl)
theorem dX13_fits_27 : decode cX13_fits 27 = .ok (.ireturn, 1) := dk_172 (dk_at dksX13_fits_1 3 rfl rfl)
abbrev cX13_wantsFor : ByteArray := prog_16_method_61_code
def yX13_wantsFor : MethodName := ⟨RX13, "wantsFor", "(II)I"⟩
def dkwX13_wantsFor_1 : List UInt8 := [3, 167, 0, 5, 18, 37, 172]
abbrev dktX13_wantsFor_1 : List UInt8 := dkwX13_wantsFor_1 ++ []
def dkwX13_wantsFor_0 : List UInt8 := [42, 27, 182, 0, 190, 153, 0, 11, 42, 27, 182, 0, 190, 167, 0, 17, 42, 28, 182, 0, 86, 153, 0, 7]
abbrev dktX13_wantsFor_0 : List UInt8 := dkwX13_wantsFor_0 ++ dktX13_wantsFor_1
theorem dksX13_wantsFor_0 : cX13_wantsFor.data.toList.drop 0 = dktX13_wantsFor_0 := by decide +kernel
theorem dksX13_wantsFor_1 : cX13_wantsFor.data.toList.drop 24 = dktX13_wantsFor_1 := dk_seg dksX13_wantsFor_0 24 rfl rfl
theorem dX13_wantsFor_0 : decode cX13_wantsFor 0 = .ok (.aload_n 0, 1) := dk_42 (dk_at dksX13_wantsFor_0 0 rfl rfl)
theorem dX13_wantsFor_1 : decode cX13_wantsFor 1 = .ok (.iload_n 1, 1) := dk_27 (dk_at dksX13_wantsFor_0 1 rfl rfl)
theorem dX13_wantsFor_2 : decode cX13_wantsFor 2 = .ok (.invokevirtual 190, 3) := dk_182 0 190 (dk_at dksX13_wantsFor_0 2 rfl rfl)
theorem dX13_wantsFor_5 : decode cX13_wantsFor 5 = .ok (.ifCond .eq 11, 3) := dk_153 0 11 (dk_at dksX13_wantsFor_0 5 rfl rfl)
theorem dX13_wantsFor_8 : decode cX13_wantsFor 8 = .ok (.aload_n 0, 1) := dk_42 (dk_at dksX13_wantsFor_0 8 rfl rfl)
theorem dX13_wantsFor_9 : decode cX13_wantsFor 9 = .ok (.iload_n 1, 1) := dk_27 (dk_at dksX13_wantsFor_0 9 rfl rfl)
theorem dX13_wantsFor_10 : decode cX13_wantsFor 10 = .ok (.invokevirtual 190, 3) := dk_182 0 190 (dk_at dksX13_wantsFor_0 10 rfl rfl)
theorem dX13_wantsFor_13 : decode cX13_wantsFor 13 = .ok (.goto 17, 3) := dk_167 0 17 (dk_at dksX13_wantsFor_0 13 rfl rfl)
theorem dX13_wantsFor_16 : decode cX13_wantsFor 16 = .ok (.aload_n 0, 1) := dk_42 (dk_at dksX13_wantsFor_0 16 rfl rfl)
theorem dX13_wantsFor_17 : decode cX13_wantsFor 17 = .ok (.iload_n 2, 1) := dk_28 (dk_at dksX13_wantsFor_0 17 rfl rfl)
theorem dX13_wantsFor_18 : decode cX13_wantsFor 18 = .ok (.invokevirtual 86, 3) := dk_182 0 86 (dk_at dksX13_wantsFor_0 18 rfl rfl)
theorem dX13_wantsFor_21 : decode cX13_wantsFor 21 = .ok (.ifCond .eq 7, 3) := dk_153 0 7 (dk_at dksX13_wantsFor_0 21 rfl rfl)
theorem dX13_wantsFor_24 : decode cX13_wantsFor 24 = .ok (.iconst 0, 1) := dk_3 (dk_at dksX13_wantsFor_1 0 rfl rfl)
theorem dX13_wantsFor_25 : decode cX13_wantsFor 25 = .ok (.goto 5, 3) := dk_167 0 5 (dk_at dksX13_wantsFor_1 1 rfl rfl)
theorem dX13_wantsFor_28 : decode cX13_wantsFor 28 = .ok (.ldc 37, 2) := dk_18 37 (dk_at dksX13_wantsFor_1 4 rfl rfl)
theorem dX13_wantsFor_30 : decode cX13_wantsFor 30 = .ok (.ireturn, 1) := dk_172 (dk_at dksX13_wantsFor_1 6 rfl rfl)
abbrev cX13_wants : ByteArray := prog_16_method_95_code
def yX13_wants : MethodName := ⟨RX13, "wants", "(I)I"⟩
def dkwX13_wants_1 : List UInt8 := [167, 0, 4, 3, 172]
abbrev dktX13_wants_1 : List UInt8 := dkwX13_wants_1 ++ []
def dkwX13_wants_0 : List UInt8 := [27, 184, 1, 27, 154, 0, 8, 18, 37, 167, 0, 19, 42, 180, 0, 28, 27, 46, 156, 0, 9, 19, 1, 22]
abbrev dktX13_wants_0 : List UInt8 := dkwX13_wants_0 ++ dktX13_wants_1
theorem dksX13_wants_0 : cX13_wants.data.toList.drop 0 = dktX13_wants_0 := by decide +kernel
theorem dksX13_wants_1 : cX13_wants.data.toList.drop 24 = dktX13_wants_1 := dk_seg dksX13_wants_0 24 rfl rfl
theorem dX13_wants_0 : decode cX13_wants 0 = .ok (.iload_n 1, 1) := dk_27 (dk_at dksX13_wants_0 0 rfl rfl)
theorem dX13_wants_1 : decode cX13_wants 1 = .ok (.invokestatic 283, 3) := dk_184 1 27 (dk_at dksX13_wants_0 1 rfl rfl)
theorem dX13_wants_4 : decode cX13_wants 4 = .ok (.ifCond .ne 8, 3) := dk_154 0 8 (dk_at dksX13_wants_0 4 rfl rfl)
theorem dX13_wants_7 : decode cX13_wants 7 = .ok (.ldc 37, 2) := dk_18 37 (dk_at dksX13_wants_0 7 rfl rfl)
theorem dX13_wants_9 : decode cX13_wants 9 = .ok (.goto 19, 3) := dk_167 0 19 (dk_at dksX13_wants_0 9 rfl rfl)
theorem dX13_wants_12 : decode cX13_wants 12 = .ok (.aload_n 0, 1) := dk_42 (dk_at dksX13_wants_0 12 rfl rfl)
theorem dX13_wants_13 : decode cX13_wants 13 = .ok (.getfield 28, 3) := dk_180 0 28 (dk_at dksX13_wants_0 13 rfl rfl)
theorem dX13_wants_16 : decode cX13_wants 16 = .ok (.iload_n 1, 1) := dk_27 (dk_at dksX13_wants_0 16 rfl rfl)
theorem dX13_wants_17 : decode cX13_wants 17 = .ok (.iaload, 1) := dk_46 (dk_at dksX13_wants_0 17 rfl rfl)
theorem dX13_wants_18 : decode cX13_wants 18 = .ok (.ifCond .ge 9, 3) := dk_156 0 9 (dk_at dksX13_wants_0 18 rfl rfl)
theorem dX13_wants_21 : decode cX13_wants 21 = .ok (.ldc_w 278, 3) := dk_19 1 22 (dk_at dksX13_wants_0 21 rfl rfl)
theorem dX13_wants_24 : decode cX13_wants 24 = .ok (.goto 4, 3) := dk_167 0 4 (dk_at dksX13_wants_1 0 rfl rfl)
theorem dX13_wants_27 : decode cX13_wants 27 = .ok (.iconst 0, 1) := dk_3 (dk_at dksX13_wants_1 3 rfl rfl)
theorem dX13_wants_28 : decode cX13_wants 28 = .ok (.ireturn, 1) := dk_172 (dk_at dksX13_wants_1 4 rfl rfl)
abbrev cX13_isSheet : ByteArray := prog_16_method_91_code
def yX13_isSheet : MethodName := ⟨RX13, "isSheet", "(I)Z"⟩
def dkwX13_isSheet_0 : List UInt8 := [26, 155, 0, 12, 26, 7, 162, 0, 7, 4, 167, 0, 4, 3, 172]
abbrev dktX13_isSheet_0 : List UInt8 := dkwX13_isSheet_0 ++ []
theorem dksX13_isSheet_0 : cX13_isSheet.data.toList.drop 0 = dktX13_isSheet_0 := by decide +kernel
theorem dX13_isSheet_0 : decode cX13_isSheet 0 = .ok (.iload_n 0, 1) := dk_26 (dk_at dksX13_isSheet_0 0 rfl rfl)
theorem dX13_isSheet_1 : decode cX13_isSheet 1 = .ok (.ifCond .lt 12, 3) := dk_155 0 12 (dk_at dksX13_isSheet_0 1 rfl rfl)
theorem dX13_isSheet_4 : decode cX13_isSheet 4 = .ok (.iload_n 0, 1) := dk_26 (dk_at dksX13_isSheet_0 4 rfl rfl)
theorem dX13_isSheet_5 : decode cX13_isSheet 5 = .ok (.iconst 4, 1) := dk_7 (dk_at dksX13_isSheet_0 5 rfl rfl)
theorem dX13_isSheet_6 : decode cX13_isSheet 6 = .ok (.if_icmp .ge 7, 3) := dk_162 0 7 (dk_at dksX13_isSheet_0 6 rfl rfl)
theorem dX13_isSheet_9 : decode cX13_isSheet 9 = .ok (.iconst 1, 1) := dk_4 (dk_at dksX13_isSheet_0 9 rfl rfl)
theorem dX13_isSheet_10 : decode cX13_isSheet 10 = .ok (.goto 4, 3) := dk_167 0 4 (dk_at dksX13_isSheet_0 10 rfl rfl)
theorem dX13_isSheet_13 : decode cX13_isSheet 13 = .ok (.iconst 0, 1) := dk_3 (dk_at dksX13_isSheet_0 13 rfl rfl)
theorem dX13_isSheet_14 : decode cX13_isSheet 14 = .ok (.ireturn, 1) := dk_172 (dk_at dksX13_isSheet_0 14 rfl rfl)
abbrev cX13_findsFits : ByteArray := prog_16_method_60_code
def yX13_findsFits : MethodName := ⟨RX13, "findsFits", "(II)V"⟩
def dkwX13_findsFits_3 : List UInt8 := [28, 5, 184, 0, 70, 29, 79, 177]
abbrev dktX13_findsFits_3 : List UInt8 := dkwX13_findsFits_3 ++ []
def dkwX13_findsFits_2 : List UInt8 := [180, 0, 180, 4, 96, 181, 0, 180, 42, 21, 4, 181, 0, 187, 132, 4, 255, 167, 255, 211, 42, 180, 0, 7]
abbrev dktX13_findsFits_2 : List UInt8 := dkwX13_findsFits_2 ++ dktX13_findsFits_3
def dkwX13_findsFits_1 : List UInt8 := [180, 0, 7, 28, 5, 184, 0, 70, 21, 4, 79, 42, 27, 6, 182, 0, 184, 153, 0, 19, 42, 89]
abbrev dktX13_findsFits_1 : List UInt8 := dkwX13_findsFits_1 ++ dktX13_findsFits_2
def dkwX13_findsFits_0 : List UInt8 := [42, 28, 5, 182, 0, 57, 62, 42, 3, 181, 0, 180, 16, 100, 54, 4, 21, 4, 155, 0, 46, 42]
abbrev dktX13_findsFits_0 : List UInt8 := dkwX13_findsFits_0 ++ dktX13_findsFits_1
theorem dksX13_findsFits_0 : cX13_findsFits.data.toList.drop 0 = dktX13_findsFits_0 := by decide +kernel
theorem dksX13_findsFits_1 : cX13_findsFits.data.toList.drop 22 = dktX13_findsFits_1 := dk_seg dksX13_findsFits_0 22 rfl rfl
theorem dksX13_findsFits_2 : cX13_findsFits.data.toList.drop 44 = dktX13_findsFits_2 := dk_seg dksX13_findsFits_1 22 rfl rfl
theorem dksX13_findsFits_3 : cX13_findsFits.data.toList.drop 68 = dktX13_findsFits_3 := dk_seg dksX13_findsFits_2 24 rfl rfl
theorem dX13_findsFits_0 : decode cX13_findsFits 0 = .ok (.aload_n 0, 1) := dk_42 (dk_at dksX13_findsFits_0 0 rfl rfl)
theorem dX13_findsFits_1 : decode cX13_findsFits 1 = .ok (.iload_n 2, 1) := dk_28 (dk_at dksX13_findsFits_0 1 rfl rfl)
theorem dX13_findsFits_2 : decode cX13_findsFits 2 = .ok (.iconst 2, 1) := dk_5 (dk_at dksX13_findsFits_0 2 rfl rfl)
theorem dX13_findsFits_3 : decode cX13_findsFits 3 = .ok (.invokevirtual 57, 3) := dk_182 0 57 (dk_at dksX13_findsFits_0 3 rfl rfl)
theorem dX13_findsFits_6 : decode cX13_findsFits 6 = .ok (.istore_n 3, 1) := dk_62 (dk_at dksX13_findsFits_0 6 rfl rfl)
theorem dX13_findsFits_7 : decode cX13_findsFits 7 = .ok (.aload_n 0, 1) := dk_42 (dk_at dksX13_findsFits_0 7 rfl rfl)
theorem dX13_findsFits_8 : decode cX13_findsFits 8 = .ok (.iconst 0, 1) := dk_3 (dk_at dksX13_findsFits_0 8 rfl rfl)
theorem dX13_findsFits_9 : decode cX13_findsFits 9 = .ok (.putfield 180, 3) := dk_181 0 180 (dk_at dksX13_findsFits_0 9 rfl rfl)
theorem dX13_findsFits_12 : decode cX13_findsFits 12 = .ok (.bipush 100, 2) := dk_16 100 (dk_at dksX13_findsFits_0 12 rfl rfl)
theorem dX13_findsFits_14 : decode cX13_findsFits 14 = .ok (.istore 4, 2) := dk_54 4 (dk_at dksX13_findsFits_0 14 rfl rfl)
theorem dX13_findsFits_16 : decode cX13_findsFits 16 = .ok (.iload 4, 2) := dk_21 4 (dk_at dksX13_findsFits_0 16 rfl rfl)
theorem dX13_findsFits_18 : decode cX13_findsFits 18 = .ok (.ifCond .lt 46, 3) := dk_155 0 46 (dk_at dksX13_findsFits_0 18 rfl rfl)
theorem dX13_findsFits_21 : decode cX13_findsFits 21 = .ok (.aload_n 0, 1) := dk_42 (dk_at dksX13_findsFits_0 21 rfl rfl)
theorem dX13_findsFits_22 : decode cX13_findsFits 22 = .ok (.getfield 7, 3) := dk_180 0 7 (dk_at dksX13_findsFits_1 0 rfl rfl)
theorem dX13_findsFits_25 : decode cX13_findsFits 25 = .ok (.iload_n 2, 1) := dk_28 (dk_at dksX13_findsFits_1 3 rfl rfl)
theorem dX13_findsFits_26 : decode cX13_findsFits 26 = .ok (.iconst 2, 1) := dk_5 (dk_at dksX13_findsFits_1 4 rfl rfl)
theorem dX13_findsFits_27 : decode cX13_findsFits 27 = .ok (.invokestatic 70, 3) := dk_184 0 70 (dk_at dksX13_findsFits_1 5 rfl rfl)
theorem dX13_findsFits_30 : decode cX13_findsFits 30 = .ok (.iload 4, 2) := dk_21 4 (dk_at dksX13_findsFits_1 8 rfl rfl)
theorem dX13_findsFits_32 : decode cX13_findsFits 32 = .ok (.iastore, 1) := dk_79 (dk_at dksX13_findsFits_1 10 rfl rfl)
theorem dX13_findsFits_33 : decode cX13_findsFits 33 = .ok (.aload_n 0, 1) := dk_42 (dk_at dksX13_findsFits_1 11 rfl rfl)
theorem dX13_findsFits_34 : decode cX13_findsFits 34 = .ok (.iload_n 1, 1) := dk_27 (dk_at dksX13_findsFits_1 12 rfl rfl)
theorem dX13_findsFits_35 : decode cX13_findsFits 35 = .ok (.iconst 3, 1) := dk_6 (dk_at dksX13_findsFits_1 13 rfl rfl)
theorem dX13_findsFits_36 : decode cX13_findsFits 36 = .ok (.invokevirtual 184, 3) := dk_182 0 184 (dk_at dksX13_findsFits_1 14 rfl rfl)
theorem dX13_findsFits_39 : decode cX13_findsFits 39 = .ok (.ifCond .eq 19, 3) := dk_153 0 19 (dk_at dksX13_findsFits_1 17 rfl rfl)
theorem dX13_findsFits_42 : decode cX13_findsFits 42 = .ok (.aload_n 0, 1) := dk_42 (dk_at dksX13_findsFits_1 20 rfl rfl)
theorem dX13_findsFits_43 : decode cX13_findsFits 43 = .ok (.dup, 1) := dk_89 (dk_at dksX13_findsFits_1 21 rfl rfl)
theorem dX13_findsFits_44 : decode cX13_findsFits 44 = .ok (.getfield 180, 3) := dk_180 0 180 (dk_at dksX13_findsFits_2 0 rfl rfl)
theorem dX13_findsFits_47 : decode cX13_findsFits 47 = .ok (.iconst 1, 1) := dk_4 (dk_at dksX13_findsFits_2 3 rfl rfl)
theorem dX13_findsFits_48 : decode cX13_findsFits 48 = .ok (.iadd, 1) := dk_96 (dk_at dksX13_findsFits_2 4 rfl rfl)
theorem dX13_findsFits_49 : decode cX13_findsFits 49 = .ok (.putfield 180, 3) := dk_181 0 180 (dk_at dksX13_findsFits_2 5 rfl rfl)
theorem dX13_findsFits_52 : decode cX13_findsFits 52 = .ok (.aload_n 0, 1) := dk_42 (dk_at dksX13_findsFits_2 8 rfl rfl)
theorem dX13_findsFits_53 : decode cX13_findsFits 53 = .ok (.iload 4, 2) := dk_21 4 (dk_at dksX13_findsFits_2 9 rfl rfl)
theorem dX13_findsFits_55 : decode cX13_findsFits 55 = .ok (.putfield 187, 3) := dk_181 0 187 (dk_at dksX13_findsFits_2 11 rfl rfl)
theorem dX13_findsFits_58 : decode cX13_findsFits 58 = .ok (.iinc 4 (-1), 3) := dk_132 4 255 (dk_at dksX13_findsFits_2 14 rfl rfl)
theorem dX13_findsFits_61 : decode cX13_findsFits 61 = .ok (.goto (-45), 3) := dk_167 255 211 (dk_at dksX13_findsFits_2 17 rfl rfl)
theorem dX13_findsFits_64 : decode cX13_findsFits 64 = .ok (.aload_n 0, 1) := dk_42 (dk_at dksX13_findsFits_2 20 rfl rfl)
theorem dX13_findsFits_65 : decode cX13_findsFits 65 = .ok (.getfield 7, 3) := dk_180 0 7 (dk_at dksX13_findsFits_2 21 rfl rfl)
theorem dX13_findsFits_68 : decode cX13_findsFits 68 = .ok (.iload_n 2, 1) := dk_28 (dk_at dksX13_findsFits_3 0 rfl rfl)
theorem dX13_findsFits_69 : decode cX13_findsFits 69 = .ok (.iconst 2, 1) := dk_5 (dk_at dksX13_findsFits_3 1 rfl rfl)
theorem dX13_findsFits_70 : decode cX13_findsFits 70 = .ok (.invokestatic 70, 3) := dk_184 0 70 (dk_at dksX13_findsFits_3 2 rfl rfl)
theorem dX13_findsFits_73 : decode cX13_findsFits 73 = .ok (.iload_n 3, 1) := dk_29 (dk_at dksX13_findsFits_3 5 rfl rfl)
theorem dX13_findsFits_74 : decode cX13_findsFits 74 = .ok (.iastore, 1) := dk_79 (dk_at dksX13_findsFits_3 6 rfl rfl)
theorem dX13_findsFits_75 : decode cX13_findsFits 75 = .ok (.return_, 1) := dk_177 (dk_at dksX13_findsFits_3 7 rfl rfl)
abbrev cX13_isTold : ByteArray := prog_16_method_59_code
def yX13_isTold : MethodName := ⟨RX13, "isTold", "(II)Z"⟩
def dkwX13_isTold_3 : List UInt8 := [132, 4, 1, 167, 255, 197, 42, 180, 0, 19, 42, 180, 0, 7, 184, 0, 140, 29, 172]
abbrev dktX13_isTold_3 : List UInt8 := dkwX13_isTold_3 ++ []
def dkwX13_isTold_2 : List UInt8 := [159, 0, 14, 21, 5, 42, 180, 0, 7, 28, 46, 160, 0, 7, 4, 167, 0, 4, 3, 62, 42, 182, 0, 119]
abbrev dktX13_isTold_2 : List UInt8 := dkwX13_isTold_2 ++ dktX13_isTold_3
def dkwX13_isTold_1 : List UInt8 := [162, 0, 54, 29, 153, 0, 50, 42, 180, 0, 34, 16, 40, 27, 104, 21, 4, 96, 46, 54, 5, 21, 5, 2]
abbrev dktX13_isTold_1 : List UInt8 := dkwX13_isTold_1 ++ dktX13_isTold_2
def dkwX13_isTold_0 : List UInt8 := [42, 180, 0, 7, 42, 180, 0, 19, 184, 0, 140, 4, 62, 3, 54, 4, 21, 4, 42, 180, 0, 31, 27, 46]
abbrev dktX13_isTold_0 : List UInt8 := dkwX13_isTold_0 ++ dktX13_isTold_1
theorem dksX13_isTold_0 : cX13_isTold.data.toList.drop 0 = dktX13_isTold_0 := by decide +kernel
theorem dksX13_isTold_1 : cX13_isTold.data.toList.drop 24 = dktX13_isTold_1 := dk_seg dksX13_isTold_0 24 rfl rfl
theorem dksX13_isTold_2 : cX13_isTold.data.toList.drop 48 = dktX13_isTold_2 := dk_seg dksX13_isTold_1 24 rfl rfl
theorem dksX13_isTold_3 : cX13_isTold.data.toList.drop 72 = dktX13_isTold_3 := dk_seg dksX13_isTold_2 24 rfl rfl
theorem dX13_isTold_0 : decode cX13_isTold 0 = .ok (.aload_n 0, 1) := dk_42 (dk_at dksX13_isTold_0 0 rfl rfl)
theorem dX13_isTold_1 : decode cX13_isTold 1 = .ok (.getfield 7, 3) := dk_180 0 7 (dk_at dksX13_isTold_0 1 rfl rfl)
theorem dX13_isTold_4 : decode cX13_isTold 4 = .ok (.aload_n 0, 1) := dk_42 (dk_at dksX13_isTold_0 4 rfl rfl)
theorem dX13_isTold_5 : decode cX13_isTold 5 = .ok (.getfield 19, 3) := dk_180 0 19 (dk_at dksX13_isTold_0 5 rfl rfl)
theorem dX13_isTold_8 : decode cX13_isTold 8 = .ok (.invokestatic 140, 3) := dk_184 0 140 (dk_at dksX13_isTold_0 8 rfl rfl)
theorem dX13_isTold_11 : decode cX13_isTold 11 = .ok (.iconst 1, 1) := dk_4 (dk_at dksX13_isTold_0 11 rfl rfl)
theorem dX13_isTold_12 : decode cX13_isTold 12 = .ok (.istore_n 3, 1) := dk_62 (dk_at dksX13_isTold_0 12 rfl rfl)
theorem dX13_isTold_13 : decode cX13_isTold 13 = .ok (.iconst 0, 1) := dk_3 (dk_at dksX13_isTold_0 13 rfl rfl)
theorem dX13_isTold_14 : decode cX13_isTold 14 = .ok (.istore 4, 2) := dk_54 4 (dk_at dksX13_isTold_0 14 rfl rfl)
theorem dX13_isTold_16 : decode cX13_isTold 16 = .ok (.iload 4, 2) := dk_21 4 (dk_at dksX13_isTold_0 16 rfl rfl)
theorem dX13_isTold_18 : decode cX13_isTold 18 = .ok (.aload_n 0, 1) := dk_42 (dk_at dksX13_isTold_0 18 rfl rfl)
theorem dX13_isTold_19 : decode cX13_isTold 19 = .ok (.getfield 31, 3) := dk_180 0 31 (dk_at dksX13_isTold_0 19 rfl rfl)
theorem dX13_isTold_22 : decode cX13_isTold 22 = .ok (.iload_n 1, 1) := dk_27 (dk_at dksX13_isTold_0 22 rfl rfl)
theorem dX13_isTold_23 : decode cX13_isTold 23 = .ok (.iaload, 1) := dk_46 (dk_at dksX13_isTold_0 23 rfl rfl)
theorem dX13_isTold_24 : decode cX13_isTold 24 = .ok (.if_icmp .ge 54, 3) := dk_162 0 54 (dk_at dksX13_isTold_1 0 rfl rfl)
theorem dX13_isTold_27 : decode cX13_isTold 27 = .ok (.iload_n 3, 1) := dk_29 (dk_at dksX13_isTold_1 3 rfl rfl)
theorem dX13_isTold_28 : decode cX13_isTold 28 = .ok (.ifCond .eq 50, 3) := dk_153 0 50 (dk_at dksX13_isTold_1 4 rfl rfl)
theorem dX13_isTold_31 : decode cX13_isTold 31 = .ok (.aload_n 0, 1) := dk_42 (dk_at dksX13_isTold_1 7 rfl rfl)
theorem dX13_isTold_32 : decode cX13_isTold 32 = .ok (.getfield 34, 3) := dk_180 0 34 (dk_at dksX13_isTold_1 8 rfl rfl)
theorem dX13_isTold_35 : decode cX13_isTold 35 = .ok (.bipush 40, 2) := dk_16 40 (dk_at dksX13_isTold_1 11 rfl rfl)
theorem dX13_isTold_37 : decode cX13_isTold 37 = .ok (.iload_n 1, 1) := dk_27 (dk_at dksX13_isTold_1 13 rfl rfl)
theorem dX13_isTold_38 : decode cX13_isTold 38 = .ok (.imul, 1) := dk_104 (dk_at dksX13_isTold_1 14 rfl rfl)
theorem dX13_isTold_39 : decode cX13_isTold 39 = .ok (.iload 4, 2) := dk_21 4 (dk_at dksX13_isTold_1 15 rfl rfl)
theorem dX13_isTold_41 : decode cX13_isTold 41 = .ok (.iadd, 1) := dk_96 (dk_at dksX13_isTold_1 17 rfl rfl)
theorem dX13_isTold_42 : decode cX13_isTold 42 = .ok (.iaload, 1) := dk_46 (dk_at dksX13_isTold_1 18 rfl rfl)
theorem dX13_isTold_43 : decode cX13_isTold 43 = .ok (.istore 5, 2) := dk_54 5 (dk_at dksX13_isTold_1 19 rfl rfl)
theorem dX13_isTold_45 : decode cX13_isTold 45 = .ok (.iload 5, 2) := dk_21 5 (dk_at dksX13_isTold_1 21 rfl rfl)
theorem dX13_isTold_47 : decode cX13_isTold 47 = .ok (.iconst (-1), 1) := dk_2 (dk_at dksX13_isTold_1 23 rfl rfl)
theorem dX13_isTold_48 : decode cX13_isTold 48 = .ok (.if_icmp .eq 14, 3) := dk_159 0 14 (dk_at dksX13_isTold_2 0 rfl rfl)
theorem dX13_isTold_51 : decode cX13_isTold 51 = .ok (.iload 5, 2) := dk_21 5 (dk_at dksX13_isTold_2 3 rfl rfl)
theorem dX13_isTold_53 : decode cX13_isTold 53 = .ok (.aload_n 0, 1) := dk_42 (dk_at dksX13_isTold_2 5 rfl rfl)
theorem dX13_isTold_54 : decode cX13_isTold 54 = .ok (.getfield 7, 3) := dk_180 0 7 (dk_at dksX13_isTold_2 6 rfl rfl)
theorem dX13_isTold_57 : decode cX13_isTold 57 = .ok (.iload_n 2, 1) := dk_28 (dk_at dksX13_isTold_2 9 rfl rfl)
theorem dX13_isTold_58 : decode cX13_isTold 58 = .ok (.iaload, 1) := dk_46 (dk_at dksX13_isTold_2 10 rfl rfl)
theorem dX13_isTold_59 : decode cX13_isTold 59 = .ok (.if_icmp .ne 7, 3) := dk_160 0 7 (dk_at dksX13_isTold_2 11 rfl rfl)
theorem dX13_isTold_62 : decode cX13_isTold 62 = .ok (.iconst 1, 1) := dk_4 (dk_at dksX13_isTold_2 14 rfl rfl)
theorem dX13_isTold_63 : decode cX13_isTold 63 = .ok (.goto 4, 3) := dk_167 0 4 (dk_at dksX13_isTold_2 15 rfl rfl)
theorem dX13_isTold_66 : decode cX13_isTold 66 = .ok (.iconst 0, 1) := dk_3 (dk_at dksX13_isTold_2 18 rfl rfl)
theorem dX13_isTold_67 : decode cX13_isTold 67 = .ok (.istore_n 3, 1) := dk_62 (dk_at dksX13_isTold_2 19 rfl rfl)
theorem dX13_isTold_68 : decode cX13_isTold 68 = .ok (.aload_n 0, 1) := dk_42 (dk_at dksX13_isTold_2 20 rfl rfl)
theorem dX13_isTold_69 : decode cX13_isTold 69 = .ok (.invokevirtual 119, 3) := dk_182 0 119 (dk_at dksX13_isTold_2 21 rfl rfl)
theorem dX13_isTold_72 : decode cX13_isTold 72 = .ok (.iinc 4 1, 3) := dk_132 4 1 (dk_at dksX13_isTold_3 0 rfl rfl)
theorem dX13_isTold_75 : decode cX13_isTold 75 = .ok (.goto (-59), 3) := dk_167 255 197 (dk_at dksX13_isTold_3 3 rfl rfl)
theorem dX13_isTold_78 : decode cX13_isTold 78 = .ok (.aload_n 0, 1) := dk_42 (dk_at dksX13_isTold_3 6 rfl rfl)
theorem dX13_isTold_79 : decode cX13_isTold 79 = .ok (.getfield 19, 3) := dk_180 0 19 (dk_at dksX13_isTold_3 7 rfl rfl)
theorem dX13_isTold_82 : decode cX13_isTold 82 = .ok (.aload_n 0, 1) := dk_42 (dk_at dksX13_isTold_3 10 rfl rfl)
theorem dX13_isTold_83 : decode cX13_isTold 83 = .ok (.getfield 7, 3) := dk_180 0 7 (dk_at dksX13_isTold_3 11 rfl rfl)
theorem dX13_isTold_86 : decode cX13_isTold 86 = .ok (.invokestatic 140, 3) := dk_184 0 140 (dk_at dksX13_isTold_3 14 rfl rfl)
theorem dX13_isTold_89 : decode cX13_isTold 89 = .ok (.iload_n 3, 1) := dk_29 (dk_at dksX13_isTold_3 17 rfl rfl)
theorem dX13_isTold_90 : decode cX13_isTold 90 = .ok (.ireturn, 1) := dk_172 (dk_at dksX13_isTold_3 18 rfl rfl)
abbrev cX13_pealed : ByteArray := prog_16_method_63_code
def yX13_pealed : MethodName := ⟨RX13, "pealed", "(II)I"⟩
def dkwX13_pealed_1 : List UInt8 := [180, 0, 180, 158, 0, 10, 42, 180, 0, 187, 167, 0, 9, 42, 18, 38, 182, 0, 39, 172]
abbrev dktX13_pealed_1 : List UInt8 := dkwX13_pealed_1 ++ []
def dkwX13_pealed_0 : List UInt8 := [42, 27, 28, 182, 0, 193, 62, 29, 153, 0, 9, 42, 29, 182, 0, 39, 172, 42, 27, 28, 182, 0, 196, 42]
abbrev dktX13_pealed_0 : List UInt8 := dkwX13_pealed_0 ++ dktX13_pealed_1
theorem dksX13_pealed_0 : cX13_pealed.data.toList.drop 0 = dktX13_pealed_0 := by decide +kernel
theorem dksX13_pealed_1 : cX13_pealed.data.toList.drop 24 = dktX13_pealed_1 := dk_seg dksX13_pealed_0 24 rfl rfl
theorem dX13_pealed_0 : decode cX13_pealed 0 = .ok (.aload_n 0, 1) := dk_42 (dk_at dksX13_pealed_0 0 rfl rfl)
theorem dX13_pealed_1 : decode cX13_pealed 1 = .ok (.iload_n 1, 1) := dk_27 (dk_at dksX13_pealed_0 1 rfl rfl)
theorem dX13_pealed_2 : decode cX13_pealed 2 = .ok (.iload_n 2, 1) := dk_28 (dk_at dksX13_pealed_0 2 rfl rfl)
theorem dX13_pealed_3 : decode cX13_pealed 3 = .ok (.invokevirtual 193, 3) := dk_182 0 193 (dk_at dksX13_pealed_0 3 rfl rfl)
theorem dX13_pealed_6 : decode cX13_pealed 6 = .ok (.istore_n 3, 1) := dk_62 (dk_at dksX13_pealed_0 6 rfl rfl)
theorem dX13_pealed_7 : decode cX13_pealed 7 = .ok (.iload_n 3, 1) := dk_29 (dk_at dksX13_pealed_0 7 rfl rfl)
theorem dX13_pealed_8 : decode cX13_pealed 8 = .ok (.ifCond .eq 9, 3) := dk_153 0 9 (dk_at dksX13_pealed_0 8 rfl rfl)
theorem dX13_pealed_11 : decode cX13_pealed 11 = .ok (.aload_n 0, 1) := dk_42 (dk_at dksX13_pealed_0 11 rfl rfl)
theorem dX13_pealed_12 : decode cX13_pealed 12 = .ok (.iload_n 3, 1) := dk_29 (dk_at dksX13_pealed_0 12 rfl rfl)
theorem dX13_pealed_13 : decode cX13_pealed 13 = .ok (.invokevirtual 39, 3) := dk_182 0 39 (dk_at dksX13_pealed_0 13 rfl rfl)
theorem dX13_pealed_16 : decode cX13_pealed 16 = .ok (.ireturn, 1) := dk_172 (dk_at dksX13_pealed_0 16 rfl rfl)
theorem dX13_pealed_17 : decode cX13_pealed 17 = .ok (.aload_n 0, 1) := dk_42 (dk_at dksX13_pealed_0 17 rfl rfl)
theorem dX13_pealed_18 : decode cX13_pealed 18 = .ok (.iload_n 1, 1) := dk_27 (dk_at dksX13_pealed_0 18 rfl rfl)
theorem dX13_pealed_19 : decode cX13_pealed 19 = .ok (.iload_n 2, 1) := dk_28 (dk_at dksX13_pealed_0 19 rfl rfl)
theorem dX13_pealed_20 : decode cX13_pealed 20 = .ok (.invokevirtual 196, 3) := dk_182 0 196 (dk_at dksX13_pealed_0 20 rfl rfl)
theorem dX13_pealed_23 : decode cX13_pealed 23 = .ok (.aload_n 0, 1) := dk_42 (dk_at dksX13_pealed_0 23 rfl rfl)
theorem dX13_pealed_24 : decode cX13_pealed 24 = .ok (.getfield 180, 3) := dk_180 0 180 (dk_at dksX13_pealed_1 0 rfl rfl)
theorem dX13_pealed_27 : decode cX13_pealed 27 = .ok (.ifCond .le 10, 3) := dk_158 0 10 (dk_at dksX13_pealed_1 3 rfl rfl)
theorem dX13_pealed_30 : decode cX13_pealed 30 = .ok (.aload_n 0, 1) := dk_42 (dk_at dksX13_pealed_1 6 rfl rfl)
theorem dX13_pealed_31 : decode cX13_pealed 31 = .ok (.getfield 187, 3) := dk_180 0 187 (dk_at dksX13_pealed_1 7 rfl rfl)
theorem dX13_pealed_34 : decode cX13_pealed 34 = .ok (.goto 9, 3) := dk_167 0 9 (dk_at dksX13_pealed_1 10 rfl rfl)
theorem dX13_pealed_37 : decode cX13_pealed 37 = .ok (.aload_n 0, 1) := dk_42 (dk_at dksX13_pealed_1 13 rfl rfl)
theorem dX13_pealed_38 : decode cX13_pealed 38 = .ok (.ldc 38, 2) := dk_18 38 (dk_at dksX13_pealed_1 14 rfl rfl)
theorem dX13_pealed_40 : decode cX13_pealed 40 = .ok (.invokevirtual 39, 3) := dk_182 0 39 (dk_at dksX13_pealed_1 16 rfl rfl)
theorem dX13_pealed_43 : decode cX13_pealed 43 = .ok (.ireturn, 1) := dk_172 (dk_at dksX13_pealed_1 19 rfl rfl)
abbrev cX13_kinds : ByteArray := prog_16_method_64_code
def yX13_kinds : MethodName := ⟨RX13, "kinds", "(II)I"⟩
def dkwX13_kinds_4 : List UInt8 := [79, 21, 5, 172]
abbrev dktX13_kinds_4 : List UInt8 := dkwX13_kinds_4 ++ []
def dkwX13_kinds_3 : List UInt8 := [167, 0, 4, 3, 128, 54, 5, 132, 6, 1, 167, 255, 208, 42, 180, 0, 7, 28, 3, 184, 0, 70, 21, 4]
abbrev dktX13_kinds_3 : List UInt8 := dkwX13_kinds_3 ++ dktX13_kinds_4
def dkwX13_kinds_2 : List UInt8 := [21, 6, 79, 21, 5, 42, 27, 28, 5, 184, 0, 70, 182, 0, 184, 153, 0, 10, 4, 21, 6, 120]
abbrev dktX13_kinds_2 : List UInt8 := dkwX13_kinds_2 ++ dktX13_kinds_3
def dkwX13_kinds_1 : List UInt8 := [54, 4, 3, 54, 5, 3, 54, 6, 21, 6, 16, 6, 163, 0, 47, 42, 180, 0, 7, 28, 3, 184, 0, 70]
abbrev dktX13_kinds_1 : List UInt8 := dkwX13_kinds_1 ++ dktX13_kinds_2
def dkwX13_kinds_0 : List UInt8 := [42, 27, 28, 182, 0, 193, 62, 29, 153, 0, 9, 42, 29, 182, 0, 39, 172, 42, 28, 3, 182, 0, 57]
abbrev dktX13_kinds_0 : List UInt8 := dkwX13_kinds_0 ++ dktX13_kinds_1
theorem dksX13_kinds_0 : cX13_kinds.data.toList.drop 0 = dktX13_kinds_0 := by decide +kernel
theorem dksX13_kinds_1 : cX13_kinds.data.toList.drop 23 = dktX13_kinds_1 := dk_seg dksX13_kinds_0 23 rfl rfl
theorem dksX13_kinds_2 : cX13_kinds.data.toList.drop 47 = dktX13_kinds_2 := dk_seg dksX13_kinds_1 24 rfl rfl
theorem dksX13_kinds_3 : cX13_kinds.data.toList.drop 69 = dktX13_kinds_3 := dk_seg dksX13_kinds_2 22 rfl rfl
theorem dksX13_kinds_4 : cX13_kinds.data.toList.drop 93 = dktX13_kinds_4 := dk_seg dksX13_kinds_3 24 rfl rfl
theorem dX13_kinds_0 : decode cX13_kinds 0 = .ok (.aload_n 0, 1) := dk_42 (dk_at dksX13_kinds_0 0 rfl rfl)
theorem dX13_kinds_1 : decode cX13_kinds 1 = .ok (.iload_n 1, 1) := dk_27 (dk_at dksX13_kinds_0 1 rfl rfl)
theorem dX13_kinds_2 : decode cX13_kinds 2 = .ok (.iload_n 2, 1) := dk_28 (dk_at dksX13_kinds_0 2 rfl rfl)
theorem dX13_kinds_3 : decode cX13_kinds 3 = .ok (.invokevirtual 193, 3) := dk_182 0 193 (dk_at dksX13_kinds_0 3 rfl rfl)
theorem dX13_kinds_6 : decode cX13_kinds 6 = .ok (.istore_n 3, 1) := dk_62 (dk_at dksX13_kinds_0 6 rfl rfl)
theorem dX13_kinds_7 : decode cX13_kinds 7 = .ok (.iload_n 3, 1) := dk_29 (dk_at dksX13_kinds_0 7 rfl rfl)
theorem dX13_kinds_8 : decode cX13_kinds 8 = .ok (.ifCond .eq 9, 3) := dk_153 0 9 (dk_at dksX13_kinds_0 8 rfl rfl)
theorem dX13_kinds_11 : decode cX13_kinds 11 = .ok (.aload_n 0, 1) := dk_42 (dk_at dksX13_kinds_0 11 rfl rfl)
theorem dX13_kinds_12 : decode cX13_kinds 12 = .ok (.iload_n 3, 1) := dk_29 (dk_at dksX13_kinds_0 12 rfl rfl)
theorem dX13_kinds_13 : decode cX13_kinds 13 = .ok (.invokevirtual 39, 3) := dk_182 0 39 (dk_at dksX13_kinds_0 13 rfl rfl)
theorem dX13_kinds_16 : decode cX13_kinds 16 = .ok (.ireturn, 1) := dk_172 (dk_at dksX13_kinds_0 16 rfl rfl)
theorem dX13_kinds_17 : decode cX13_kinds 17 = .ok (.aload_n 0, 1) := dk_42 (dk_at dksX13_kinds_0 17 rfl rfl)
theorem dX13_kinds_18 : decode cX13_kinds 18 = .ok (.iload_n 2, 1) := dk_28 (dk_at dksX13_kinds_0 18 rfl rfl)
theorem dX13_kinds_19 : decode cX13_kinds 19 = .ok (.iconst 0, 1) := dk_3 (dk_at dksX13_kinds_0 19 rfl rfl)
theorem dX13_kinds_20 : decode cX13_kinds 20 = .ok (.invokevirtual 57, 3) := dk_182 0 57 (dk_at dksX13_kinds_0 20 rfl rfl)
theorem dX13_kinds_23 : decode cX13_kinds 23 = .ok (.istore 4, 2) := dk_54 4 (dk_at dksX13_kinds_1 0 rfl rfl)
theorem dX13_kinds_25 : decode cX13_kinds 25 = .ok (.iconst 0, 1) := dk_3 (dk_at dksX13_kinds_1 2 rfl rfl)
theorem dX13_kinds_26 : decode cX13_kinds 26 = .ok (.istore 5, 2) := dk_54 5 (dk_at dksX13_kinds_1 3 rfl rfl)
theorem dX13_kinds_28 : decode cX13_kinds 28 = .ok (.iconst 0, 1) := dk_3 (dk_at dksX13_kinds_1 5 rfl rfl)
theorem dX13_kinds_29 : decode cX13_kinds 29 = .ok (.istore 6, 2) := dk_54 6 (dk_at dksX13_kinds_1 6 rfl rfl)
theorem dX13_kinds_31 : decode cX13_kinds 31 = .ok (.iload 6, 2) := dk_21 6 (dk_at dksX13_kinds_1 8 rfl rfl)
theorem dX13_kinds_33 : decode cX13_kinds 33 = .ok (.bipush 6, 2) := dk_16 6 (dk_at dksX13_kinds_1 10 rfl rfl)
theorem dX13_kinds_35 : decode cX13_kinds 35 = .ok (.if_icmp .gt 47, 3) := dk_163 0 47 (dk_at dksX13_kinds_1 12 rfl rfl)
theorem dX13_kinds_38 : decode cX13_kinds 38 = .ok (.aload_n 0, 1) := dk_42 (dk_at dksX13_kinds_1 15 rfl rfl)
theorem dX13_kinds_39 : decode cX13_kinds 39 = .ok (.getfield 7, 3) := dk_180 0 7 (dk_at dksX13_kinds_1 16 rfl rfl)
theorem dX13_kinds_42 : decode cX13_kinds 42 = .ok (.iload_n 2, 1) := dk_28 (dk_at dksX13_kinds_1 19 rfl rfl)
theorem dX13_kinds_43 : decode cX13_kinds 43 = .ok (.iconst 0, 1) := dk_3 (dk_at dksX13_kinds_1 20 rfl rfl)
theorem dX13_kinds_44 : decode cX13_kinds 44 = .ok (.invokestatic 70, 3) := dk_184 0 70 (dk_at dksX13_kinds_1 21 rfl rfl)
theorem dX13_kinds_47 : decode cX13_kinds 47 = .ok (.iload 6, 2) := dk_21 6 (dk_at dksX13_kinds_2 0 rfl rfl)
theorem dX13_kinds_49 : decode cX13_kinds 49 = .ok (.iastore, 1) := dk_79 (dk_at dksX13_kinds_2 2 rfl rfl)
theorem dX13_kinds_50 : decode cX13_kinds 50 = .ok (.iload 5, 2) := dk_21 5 (dk_at dksX13_kinds_2 3 rfl rfl)
theorem dX13_kinds_52 : decode cX13_kinds 52 = .ok (.aload_n 0, 1) := dk_42 (dk_at dksX13_kinds_2 5 rfl rfl)
theorem dX13_kinds_53 : decode cX13_kinds 53 = .ok (.iload_n 1, 1) := dk_27 (dk_at dksX13_kinds_2 6 rfl rfl)
theorem dX13_kinds_54 : decode cX13_kinds 54 = .ok (.iload_n 2, 1) := dk_28 (dk_at dksX13_kinds_2 7 rfl rfl)
theorem dX13_kinds_55 : decode cX13_kinds 55 = .ok (.iconst 2, 1) := dk_5 (dk_at dksX13_kinds_2 8 rfl rfl)
theorem dX13_kinds_56 : decode cX13_kinds 56 = .ok (.invokestatic 70, 3) := dk_184 0 70 (dk_at dksX13_kinds_2 9 rfl rfl)
theorem dX13_kinds_59 : decode cX13_kinds 59 = .ok (.invokevirtual 184, 3) := dk_182 0 184 (dk_at dksX13_kinds_2 12 rfl rfl)
theorem dX13_kinds_62 : decode cX13_kinds 62 = .ok (.ifCond .eq 10, 3) := dk_153 0 10 (dk_at dksX13_kinds_2 15 rfl rfl)
theorem dX13_kinds_65 : decode cX13_kinds 65 = .ok (.iconst 1, 1) := dk_4 (dk_at dksX13_kinds_2 18 rfl rfl)
theorem dX13_kinds_66 : decode cX13_kinds 66 = .ok (.iload 6, 2) := dk_21 6 (dk_at dksX13_kinds_2 19 rfl rfl)
theorem dX13_kinds_68 : decode cX13_kinds 68 = .ok (.ishl, 1) := dk_120 (dk_at dksX13_kinds_2 21 rfl rfl)
theorem dX13_kinds_69 : decode cX13_kinds 69 = .ok (.goto 4, 3) := dk_167 0 4 (dk_at dksX13_kinds_3 0 rfl rfl)
theorem dX13_kinds_72 : decode cX13_kinds 72 = .ok (.iconst 0, 1) := dk_3 (dk_at dksX13_kinds_3 3 rfl rfl)
theorem dX13_kinds_73 : decode cX13_kinds 73 = .ok (.ior, 1) := dk_128 (dk_at dksX13_kinds_3 4 rfl rfl)
theorem dX13_kinds_74 : decode cX13_kinds 74 = .ok (.istore 5, 2) := dk_54 5 (dk_at dksX13_kinds_3 5 rfl rfl)
theorem dX13_kinds_76 : decode cX13_kinds 76 = .ok (.iinc 6 1, 3) := dk_132 6 1 (dk_at dksX13_kinds_3 7 rfl rfl)
theorem dX13_kinds_79 : decode cX13_kinds 79 = .ok (.goto (-48), 3) := dk_167 255 208 (dk_at dksX13_kinds_3 10 rfl rfl)
theorem dX13_kinds_82 : decode cX13_kinds 82 = .ok (.aload_n 0, 1) := dk_42 (dk_at dksX13_kinds_3 13 rfl rfl)
theorem dX13_kinds_83 : decode cX13_kinds 83 = .ok (.getfield 7, 3) := dk_180 0 7 (dk_at dksX13_kinds_3 14 rfl rfl)
theorem dX13_kinds_86 : decode cX13_kinds 86 = .ok (.iload_n 2, 1) := dk_28 (dk_at dksX13_kinds_3 17 rfl rfl)
theorem dX13_kinds_87 : decode cX13_kinds 87 = .ok (.iconst 0, 1) := dk_3 (dk_at dksX13_kinds_3 18 rfl rfl)
theorem dX13_kinds_88 : decode cX13_kinds 88 = .ok (.invokestatic 70, 3) := dk_184 0 70 (dk_at dksX13_kinds_3 19 rfl rfl)
theorem dX13_kinds_91 : decode cX13_kinds 91 = .ok (.iload 4, 2) := dk_21 4 (dk_at dksX13_kinds_3 22 rfl rfl)
theorem dX13_kinds_93 : decode cX13_kinds 93 = .ok (.iastore, 1) := dk_79 (dk_at dksX13_kinds_4 0 rfl rfl)
theorem dX13_kinds_94 : decode cX13_kinds 94 = .ok (.iload 5, 2) := dk_21 5 (dk_at dksX13_kinds_4 1 rfl rfl)
theorem dX13_kinds_96 : decode cX13_kinds 96 = .ok (.ireturn, 1) := dk_172 (dk_at dksX13_kinds_4 3 rfl rfl)
abbrev cX13_storms : ByteArray := prog_16_method_66_code
def yX13_storms : MethodName := ⟨RX13, "storms", "(I)I"⟩
def dkwX13_storms_3 : List UInt8 := [182, 0, 119, 132, 2, 1, 167, 255, 220, 42, 180, 0, 7, 6, 46, 172]
abbrev dktX13_storms_3 : List UInt8 := dkwX13_storms_3 ++ []
def dkwX13_storms_2 : List UInt8 := [182, 0, 200, 16, 6, 112, 62, 42, 180, 0, 7, 16, 10, 29, 96, 42, 182, 0, 200, 16, 100, 112, 79, 42]
abbrev dktX13_storms_2 : List UInt8 := dkwX13_storms_2 ++ dktX13_storms_3
def dkwX13_storms_1 : List UInt8 := [46, 27, 96, 18, 107, 164, 0, 10, 42, 18, 124, 182, 0, 39, 172, 3, 61, 28, 27, 162, 0, 37, 42]
abbrev dktX13_storms_1 : List UInt8 := dkwX13_storms_1 ++ dktX13_storms_2
def dkwX13_storms_0 : List UInt8 := [27, 133, 10, 20, 0, 168, 184, 0, 49, 154, 0, 10, 42, 18, 37, 182, 0, 39, 172, 42, 180, 0, 7, 4]
abbrev dktX13_storms_0 : List UInt8 := dkwX13_storms_0 ++ dktX13_storms_1
theorem dksX13_storms_0 : cX13_storms.data.toList.drop 0 = dktX13_storms_0 := by decide +kernel
theorem dksX13_storms_1 : cX13_storms.data.toList.drop 24 = dktX13_storms_1 := dk_seg dksX13_storms_0 24 rfl rfl
theorem dksX13_storms_2 : cX13_storms.data.toList.drop 47 = dktX13_storms_2 := dk_seg dksX13_storms_1 23 rfl rfl
theorem dksX13_storms_3 : cX13_storms.data.toList.drop 71 = dktX13_storms_3 := dk_seg dksX13_storms_2 24 rfl rfl
theorem dX13_storms_0 : decode cX13_storms 0 = .ok (.iload_n 1, 1) := dk_27 (dk_at dksX13_storms_0 0 rfl rfl)
theorem dX13_storms_1 : decode cX13_storms 1 = .ok (.i2l, 1) := dk_133 (dk_at dksX13_storms_0 1 rfl rfl)
theorem dX13_storms_2 : decode cX13_storms 2 = .ok (.lconst 1, 1) := dk_10 (dk_at dksX13_storms_0 2 rfl rfl)
theorem dX13_storms_3 : decode cX13_storms 3 = .ok (.ldc2_w 168, 3) := dk_20 0 168 (dk_at dksX13_storms_0 3 rfl rfl)
theorem dX13_storms_6 : decode cX13_storms 6 = .ok (.invokestatic 49, 3) := dk_184 0 49 (dk_at dksX13_storms_0 6 rfl rfl)
theorem dX13_storms_9 : decode cX13_storms 9 = .ok (.ifCond .ne 10, 3) := dk_154 0 10 (dk_at dksX13_storms_0 9 rfl rfl)
theorem dX13_storms_12 : decode cX13_storms 12 = .ok (.aload_n 0, 1) := dk_42 (dk_at dksX13_storms_0 12 rfl rfl)
theorem dX13_storms_13 : decode cX13_storms 13 = .ok (.ldc 37, 2) := dk_18 37 (dk_at dksX13_storms_0 13 rfl rfl)
theorem dX13_storms_15 : decode cX13_storms 15 = .ok (.invokevirtual 39, 3) := dk_182 0 39 (dk_at dksX13_storms_0 15 rfl rfl)
theorem dX13_storms_18 : decode cX13_storms 18 = .ok (.ireturn, 1) := dk_172 (dk_at dksX13_storms_0 18 rfl rfl)
theorem dX13_storms_19 : decode cX13_storms 19 = .ok (.aload_n 0, 1) := dk_42 (dk_at dksX13_storms_0 19 rfl rfl)
theorem dX13_storms_20 : decode cX13_storms 20 = .ok (.getfield 7, 3) := dk_180 0 7 (dk_at dksX13_storms_0 20 rfl rfl)
theorem dX13_storms_23 : decode cX13_storms 23 = .ok (.iconst 1, 1) := dk_4 (dk_at dksX13_storms_0 23 rfl rfl)
theorem dX13_storms_24 : decode cX13_storms 24 = .ok (.iaload, 1) := dk_46 (dk_at dksX13_storms_1 0 rfl rfl)
theorem dX13_storms_25 : decode cX13_storms 25 = .ok (.iload_n 1, 1) := dk_27 (dk_at dksX13_storms_1 1 rfl rfl)
theorem dX13_storms_26 : decode cX13_storms 26 = .ok (.iadd, 1) := dk_96 (dk_at dksX13_storms_1 2 rfl rfl)
theorem dX13_storms_27 : decode cX13_storms 27 = .ok (.ldc 107, 2) := dk_18 107 (dk_at dksX13_storms_1 3 rfl rfl)
theorem dX13_storms_29 : decode cX13_storms 29 = .ok (.if_icmp .le 10, 3) := dk_164 0 10 (dk_at dksX13_storms_1 5 rfl rfl)
theorem dX13_storms_32 : decode cX13_storms 32 = .ok (.aload_n 0, 1) := dk_42 (dk_at dksX13_storms_1 8 rfl rfl)
theorem dX13_storms_33 : decode cX13_storms 33 = .ok (.ldc 124, 2) := dk_18 124 (dk_at dksX13_storms_1 9 rfl rfl)
theorem dX13_storms_35 : decode cX13_storms 35 = .ok (.invokevirtual 39, 3) := dk_182 0 39 (dk_at dksX13_storms_1 11 rfl rfl)
theorem dX13_storms_38 : decode cX13_storms 38 = .ok (.ireturn, 1) := dk_172 (dk_at dksX13_storms_1 14 rfl rfl)
theorem dX13_storms_39 : decode cX13_storms 39 = .ok (.iconst 0, 1) := dk_3 (dk_at dksX13_storms_1 15 rfl rfl)
theorem dX13_storms_40 : decode cX13_storms 40 = .ok (.istore_n 2, 1) := dk_61 (dk_at dksX13_storms_1 16 rfl rfl)
theorem dX13_storms_41 : decode cX13_storms 41 = .ok (.iload_n 2, 1) := dk_28 (dk_at dksX13_storms_1 17 rfl rfl)
theorem dX13_storms_42 : decode cX13_storms 42 = .ok (.iload_n 1, 1) := dk_27 (dk_at dksX13_storms_1 18 rfl rfl)
theorem dX13_storms_43 : decode cX13_storms 43 = .ok (.if_icmp .ge 37, 3) := dk_162 0 37 (dk_at dksX13_storms_1 19 rfl rfl)
theorem dX13_storms_46 : decode cX13_storms 46 = .ok (.aload_n 0, 1) := dk_42 (dk_at dksX13_storms_1 22 rfl rfl)
theorem dX13_storms_47 : decode cX13_storms 47 = .ok (.invokevirtual 200, 3) := dk_182 0 200 (dk_at dksX13_storms_2 0 rfl rfl)
theorem dX13_storms_50 : decode cX13_storms 50 = .ok (.bipush 6, 2) := dk_16 6 (dk_at dksX13_storms_2 3 rfl rfl)
theorem dX13_storms_52 : decode cX13_storms 52 = .ok (.irem, 1) := dk_112 (dk_at dksX13_storms_2 5 rfl rfl)
theorem dX13_storms_53 : decode cX13_storms 53 = .ok (.istore_n 3, 1) := dk_62 (dk_at dksX13_storms_2 6 rfl rfl)
theorem dX13_storms_54 : decode cX13_storms 54 = .ok (.aload_n 0, 1) := dk_42 (dk_at dksX13_storms_2 7 rfl rfl)
theorem dX13_storms_55 : decode cX13_storms 55 = .ok (.getfield 7, 3) := dk_180 0 7 (dk_at dksX13_storms_2 8 rfl rfl)
theorem dX13_storms_58 : decode cX13_storms 58 = .ok (.bipush 10, 2) := dk_16 10 (dk_at dksX13_storms_2 11 rfl rfl)
theorem dX13_storms_60 : decode cX13_storms 60 = .ok (.iload_n 3, 1) := dk_29 (dk_at dksX13_storms_2 13 rfl rfl)
theorem dX13_storms_61 : decode cX13_storms 61 = .ok (.iadd, 1) := dk_96 (dk_at dksX13_storms_2 14 rfl rfl)
theorem dX13_storms_62 : decode cX13_storms 62 = .ok (.aload_n 0, 1) := dk_42 (dk_at dksX13_storms_2 15 rfl rfl)
theorem dX13_storms_63 : decode cX13_storms 63 = .ok (.invokevirtual 200, 3) := dk_182 0 200 (dk_at dksX13_storms_2 16 rfl rfl)
theorem dX13_storms_66 : decode cX13_storms 66 = .ok (.bipush 100, 2) := dk_16 100 (dk_at dksX13_storms_2 19 rfl rfl)
theorem dX13_storms_68 : decode cX13_storms 68 = .ok (.irem, 1) := dk_112 (dk_at dksX13_storms_2 21 rfl rfl)
theorem dX13_storms_69 : decode cX13_storms 69 = .ok (.iastore, 1) := dk_79 (dk_at dksX13_storms_2 22 rfl rfl)
theorem dX13_storms_70 : decode cX13_storms 70 = .ok (.aload_n 0, 1) := dk_42 (dk_at dksX13_storms_2 23 rfl rfl)
theorem dX13_storms_71 : decode cX13_storms 71 = .ok (.invokevirtual 119, 3) := dk_182 0 119 (dk_at dksX13_storms_3 0 rfl rfl)
theorem dX13_storms_74 : decode cX13_storms 74 = .ok (.iinc 2 1, 3) := dk_132 2 1 (dk_at dksX13_storms_3 3 rfl rfl)
theorem dX13_storms_77 : decode cX13_storms 77 = .ok (.goto (-36), 3) := dk_167 255 220 (dk_at dksX13_storms_3 6 rfl rfl)
theorem dX13_storms_80 : decode cX13_storms 80 = .ok (.aload_n 0, 1) := dk_42 (dk_at dksX13_storms_3 9 rfl rfl)
theorem dX13_storms_81 : decode cX13_storms 81 = .ok (.getfield 7, 3) := dk_180 0 7 (dk_at dksX13_storms_3 10 rfl rfl)
theorem dX13_storms_84 : decode cX13_storms 84 = .ok (.iconst 3, 1) := dk_6 (dk_at dksX13_storms_3 13 rfl rfl)
theorem dX13_storms_85 : decode cX13_storms 85 = .ok (.iaload, 1) := dk_46 (dk_at dksX13_storms_3 14 rfl rfl)
theorem dX13_storms_86 : decode cX13_storms 86 = .ok (.ireturn, 1) := dk_172 (dk_at dksX13_storms_3 15 rfl rfl)
abbrev cX13_draw : ByteArray := prog_16_method_65_code
def yX13_draw : MethodName := ⟨RX13, "draw", "()I"⟩
def dkwX13_draw_1 : List UInt8 := [46, 16, 8, 124, 172]
abbrev dktX13_draw_1 : List UInt8 := dkwX13_draw_1 ++ []
def dkwX13_draw_0 : List UInt8 := [42, 180, 0, 7, 5, 42, 180, 0, 7, 5, 46, 18, 199, 104, 17, 48, 57, 96, 79, 42, 180, 0, 7, 5]
abbrev dktX13_draw_0 : List UInt8 := dkwX13_draw_0 ++ dktX13_draw_1
theorem dksX13_draw_0 : cX13_draw.data.toList.drop 0 = dktX13_draw_0 := by decide +kernel
theorem dksX13_draw_1 : cX13_draw.data.toList.drop 24 = dktX13_draw_1 := dk_seg dksX13_draw_0 24 rfl rfl
theorem dX13_draw_0 : decode cX13_draw 0 = .ok (.aload_n 0, 1) := dk_42 (dk_at dksX13_draw_0 0 rfl rfl)
theorem dX13_draw_1 : decode cX13_draw 1 = .ok (.getfield 7, 3) := dk_180 0 7 (dk_at dksX13_draw_0 1 rfl rfl)
theorem dX13_draw_4 : decode cX13_draw 4 = .ok (.iconst 2, 1) := dk_5 (dk_at dksX13_draw_0 4 rfl rfl)
theorem dX13_draw_5 : decode cX13_draw 5 = .ok (.aload_n 0, 1) := dk_42 (dk_at dksX13_draw_0 5 rfl rfl)
theorem dX13_draw_6 : decode cX13_draw 6 = .ok (.getfield 7, 3) := dk_180 0 7 (dk_at dksX13_draw_0 6 rfl rfl)
theorem dX13_draw_9 : decode cX13_draw 9 = .ok (.iconst 2, 1) := dk_5 (dk_at dksX13_draw_0 9 rfl rfl)
theorem dX13_draw_10 : decode cX13_draw 10 = .ok (.iaload, 1) := dk_46 (dk_at dksX13_draw_0 10 rfl rfl)
theorem dX13_draw_11 : decode cX13_draw 11 = .ok (.ldc 199, 2) := dk_18 199 (dk_at dksX13_draw_0 11 rfl rfl)
theorem dX13_draw_13 : decode cX13_draw 13 = .ok (.imul, 1) := dk_104 (dk_at dksX13_draw_0 13 rfl rfl)
theorem dX13_draw_14 : decode cX13_draw 14 = .ok (.sipush 12345, 3) := dk_17 48 57 (dk_at dksX13_draw_0 14 rfl rfl)
theorem dX13_draw_17 : decode cX13_draw 17 = .ok (.iadd, 1) := dk_96 (dk_at dksX13_draw_0 17 rfl rfl)
theorem dX13_draw_18 : decode cX13_draw 18 = .ok (.iastore, 1) := dk_79 (dk_at dksX13_draw_0 18 rfl rfl)
theorem dX13_draw_19 : decode cX13_draw 19 = .ok (.aload_n 0, 1) := dk_42 (dk_at dksX13_draw_0 19 rfl rfl)
theorem dX13_draw_20 : decode cX13_draw 20 = .ok (.getfield 7, 3) := dk_180 0 7 (dk_at dksX13_draw_0 20 rfl rfl)
theorem dX13_draw_23 : decode cX13_draw 23 = .ok (.iconst 2, 1) := dk_5 (dk_at dksX13_draw_0 23 rfl rfl)
theorem dX13_draw_24 : decode cX13_draw 24 = .ok (.iaload, 1) := dk_46 (dk_at dksX13_draw_1 0 rfl rfl)
theorem dX13_draw_25 : decode cX13_draw 25 = .ok (.bipush 8, 2) := dk_16 8 (dk_at dksX13_draw_1 1 rfl rfl)
theorem dX13_draw_27 : decode cX13_draw 27 = .ok (.iushr, 1) := dk_124 (dk_at dksX13_draw_1 3 rfl rfl)
theorem dX13_draw_28 : decode cX13_draw 28 = .ok (.ireturn, 1) := dk_172 (dk_at dksX13_draw_1 4 rfl rfl)
abbrev cX13_odds : ByteArray := prog_16_method_67_code
def yX13_odds : MethodName := ⟨RX13, "odds", "(II)J"⟩
def dkwX13_odds_5 : List UInt8 := [167, 0, 8, 22, 5, 22, 8, 109, 173]
abbrev dktX13_odds_5 : List UInt8 := dkwX13_odds_5 ++ []
def dkwX13_odds_4 : List UInt8 := [113, 55, 12, 22, 10, 55, 8, 22, 12, 55, 10, 167, 255, 234, 28, 154, 0, 10, 33, 22, 8, 109]
abbrev dktX13_odds_4 : List UInt8 := dkwX13_odds_4 ++ dktX13_odds_5
def dkwX13_odds_3 : List UInt8 := [132, 8, 1, 167, 255, 233, 22, 5, 55, 8, 33, 55, 10, 22, 10, 9, 148, 153, 0, 21, 22, 8, 22, 10]
abbrev dktX13_odds_3 : List UInt8 := dkwX13_odds_3 ++ dktX13_odds_4
def dkwX13_odds_2 : List UInt8 := [3, 54, 8, 21, 8, 27, 162, 0, 23, 33, 21, 7, 133, 105, 66, 22, 5, 20, 0, 73, 105, 55, 5]
abbrev dktX13_odds_2 : List UInt8 := dkwX13_odds_2 ++ dktX13_odds_3
def dkwX13_odds_1 : List UInt8 := [18, 37, 182, 0, 39, 133, 173, 10, 66, 10, 55, 5, 16, 6, 42, 182, 0, 137, 184, 0, 83, 100, 54, 7]
abbrev dktX13_odds_1 : List UInt8 := dkwX13_odds_1 ++ dktX13_odds_2
def dkwX13_odds_0 : List UInt8 := [27, 133, 9, 20, 0, 203, 184, 0, 49, 153, 0, 13, 28, 133, 9, 10, 184, 0, 49, 154, 0, 11, 42]
abbrev dktX13_odds_0 : List UInt8 := dkwX13_odds_0 ++ dktX13_odds_1
theorem dksX13_odds_0 : cX13_odds.data.toList.drop 0 = dktX13_odds_0 := by decide +kernel
theorem dksX13_odds_1 : cX13_odds.data.toList.drop 23 = dktX13_odds_1 := dk_seg dksX13_odds_0 23 rfl rfl
theorem dksX13_odds_2 : cX13_odds.data.toList.drop 47 = dktX13_odds_2 := dk_seg dksX13_odds_1 24 rfl rfl
theorem dksX13_odds_3 : cX13_odds.data.toList.drop 70 = dktX13_odds_3 := dk_seg dksX13_odds_2 23 rfl rfl
theorem dksX13_odds_4 : cX13_odds.data.toList.drop 94 = dktX13_odds_4 := dk_seg dksX13_odds_3 24 rfl rfl
theorem dksX13_odds_5 : cX13_odds.data.toList.drop 116 = dktX13_odds_5 := dk_seg dksX13_odds_4 22 rfl rfl
theorem dX13_odds_0 : decode cX13_odds 0 = .ok (.iload_n 1, 1) := dk_27 (dk_at dksX13_odds_0 0 rfl rfl)
theorem dX13_odds_1 : decode cX13_odds 1 = .ok (.i2l, 1) := dk_133 (dk_at dksX13_odds_0 1 rfl rfl)
theorem dX13_odds_2 : decode cX13_odds 2 = .ok (.lconst 0, 1) := dk_9 (dk_at dksX13_odds_0 2 rfl rfl)
theorem dX13_odds_3 : decode cX13_odds 3 = .ok (.ldc2_w 203, 3) := dk_20 0 203 (dk_at dksX13_odds_0 3 rfl rfl)
theorem dX13_odds_6 : decode cX13_odds 6 = .ok (.invokestatic 49, 3) := dk_184 0 49 (dk_at dksX13_odds_0 6 rfl rfl)
theorem dX13_odds_9 : decode cX13_odds 9 = .ok (.ifCond .eq 13, 3) := dk_153 0 13 (dk_at dksX13_odds_0 9 rfl rfl)
theorem dX13_odds_12 : decode cX13_odds 12 = .ok (.iload_n 2, 1) := dk_28 (dk_at dksX13_odds_0 12 rfl rfl)
theorem dX13_odds_13 : decode cX13_odds 13 = .ok (.i2l, 1) := dk_133 (dk_at dksX13_odds_0 13 rfl rfl)
theorem dX13_odds_14 : decode cX13_odds 14 = .ok (.lconst 0, 1) := dk_9 (dk_at dksX13_odds_0 14 rfl rfl)
theorem dX13_odds_15 : decode cX13_odds 15 = .ok (.lconst 1, 1) := dk_10 (dk_at dksX13_odds_0 15 rfl rfl)
theorem dX13_odds_16 : decode cX13_odds 16 = .ok (.invokestatic 49, 3) := dk_184 0 49 (dk_at dksX13_odds_0 16 rfl rfl)
theorem dX13_odds_19 : decode cX13_odds 19 = .ok (.ifCond .ne 11, 3) := dk_154 0 11 (dk_at dksX13_odds_0 19 rfl rfl)
theorem dX13_odds_22 : decode cX13_odds 22 = .ok (.aload_n 0, 1) := dk_42 (dk_at dksX13_odds_0 22 rfl rfl)
theorem dX13_odds_23 : decode cX13_odds 23 = .ok (.ldc 37, 2) := dk_18 37 (dk_at dksX13_odds_1 0 rfl rfl)
theorem dX13_odds_25 : decode cX13_odds 25 = .ok (.invokevirtual 39, 3) := dk_182 0 39 (dk_at dksX13_odds_1 2 rfl rfl)
theorem dX13_odds_28 : decode cX13_odds 28 = .ok (.i2l, 1) := dk_133 (dk_at dksX13_odds_1 5 rfl rfl)
theorem dX13_odds_29 : decode cX13_odds 29 = .ok (.lreturn, 1) := dk_173 (dk_at dksX13_odds_1 6 rfl rfl)
theorem dX13_odds_30 : decode cX13_odds 30 = .ok (.lconst 1, 1) := dk_10 (dk_at dksX13_odds_1 7 rfl rfl)
theorem dX13_odds_31 : decode cX13_odds 31 = .ok (.lstore_n 3, 1) := dk_66 (dk_at dksX13_odds_1 8 rfl rfl)
theorem dX13_odds_32 : decode cX13_odds 32 = .ok (.lconst 1, 1) := dk_10 (dk_at dksX13_odds_1 9 rfl rfl)
theorem dX13_odds_33 : decode cX13_odds 33 = .ok (.lstore 5, 2) := dk_55 5 (dk_at dksX13_odds_1 10 rfl rfl)
theorem dX13_odds_35 : decode cX13_odds 35 = .ok (.bipush 6, 2) := dk_16 6 (dk_at dksX13_odds_1 12 rfl rfl)
theorem dX13_odds_37 : decode cX13_odds 37 = .ok (.aload_n 0, 1) := dk_42 (dk_at dksX13_odds_1 14 rfl rfl)
theorem dX13_odds_38 : decode cX13_odds 38 = .ok (.invokevirtual 137, 3) := dk_182 0 137 (dk_at dksX13_odds_1 15 rfl rfl)
theorem dX13_odds_41 : decode cX13_odds 41 = .ok (.invokestatic 83, 3) := dk_184 0 83 (dk_at dksX13_odds_1 18 rfl rfl)
theorem dX13_odds_44 : decode cX13_odds 44 = .ok (.isub, 1) := dk_100 (dk_at dksX13_odds_1 21 rfl rfl)
theorem dX13_odds_45 : decode cX13_odds 45 = .ok (.istore 7, 2) := dk_54 7 (dk_at dksX13_odds_1 22 rfl rfl)
theorem dX13_odds_47 : decode cX13_odds 47 = .ok (.iconst 0, 1) := dk_3 (dk_at dksX13_odds_2 0 rfl rfl)
theorem dX13_odds_48 : decode cX13_odds 48 = .ok (.istore 8, 2) := dk_54 8 (dk_at dksX13_odds_2 1 rfl rfl)
theorem dX13_odds_50 : decode cX13_odds 50 = .ok (.iload 8, 2) := dk_21 8 (dk_at dksX13_odds_2 3 rfl rfl)
theorem dX13_odds_52 : decode cX13_odds 52 = .ok (.iload_n 1, 1) := dk_27 (dk_at dksX13_odds_2 5 rfl rfl)
theorem dX13_odds_53 : decode cX13_odds 53 = .ok (.if_icmp .ge 23, 3) := dk_162 0 23 (dk_at dksX13_odds_2 6 rfl rfl)
theorem dX13_odds_56 : decode cX13_odds 56 = .ok (.lload_n 3, 1) := dk_33 (dk_at dksX13_odds_2 9 rfl rfl)
theorem dX13_odds_57 : decode cX13_odds 57 = .ok (.iload 7, 2) := dk_21 7 (dk_at dksX13_odds_2 10 rfl rfl)
theorem dX13_odds_59 : decode cX13_odds 59 = .ok (.i2l, 1) := dk_133 (dk_at dksX13_odds_2 12 rfl rfl)
theorem dX13_odds_60 : decode cX13_odds 60 = .ok (.lmul, 1) := dk_105 (dk_at dksX13_odds_2 13 rfl rfl)
theorem dX13_odds_61 : decode cX13_odds 61 = .ok (.lstore_n 3, 1) := dk_66 (dk_at dksX13_odds_2 14 rfl rfl)
theorem dX13_odds_62 : decode cX13_odds 62 = .ok (.lload 5, 2) := dk_22 5 (dk_at dksX13_odds_2 15 rfl rfl)
theorem dX13_odds_64 : decode cX13_odds 64 = .ok (.ldc2_w 73, 3) := dk_20 0 73 (dk_at dksX13_odds_2 17 rfl rfl)
theorem dX13_odds_67 : decode cX13_odds 67 = .ok (.lmul, 1) := dk_105 (dk_at dksX13_odds_2 20 rfl rfl)
theorem dX13_odds_68 : decode cX13_odds 68 = .ok (.lstore 5, 2) := dk_55 5 (dk_at dksX13_odds_2 21 rfl rfl)
theorem dX13_odds_70 : decode cX13_odds 70 = .ok (.iinc 8 1, 3) := dk_132 8 1 (dk_at dksX13_odds_3 0 rfl rfl)
theorem dX13_odds_73 : decode cX13_odds 73 = .ok (.goto (-23), 3) := dk_167 255 233 (dk_at dksX13_odds_3 3 rfl rfl)
theorem dX13_odds_76 : decode cX13_odds 76 = .ok (.lload 5, 2) := dk_22 5 (dk_at dksX13_odds_3 6 rfl rfl)
theorem dX13_odds_78 : decode cX13_odds 78 = .ok (.lstore 8, 2) := dk_55 8 (dk_at dksX13_odds_3 8 rfl rfl)
theorem dX13_odds_80 : decode cX13_odds 80 = .ok (.lload_n 3, 1) := dk_33 (dk_at dksX13_odds_3 10 rfl rfl)
theorem dX13_odds_81 : decode cX13_odds 81 = .ok (.lstore 10, 2) := dk_55 10 (dk_at dksX13_odds_3 11 rfl rfl)
theorem dX13_odds_83 : decode cX13_odds 83 = .ok (.lload 10, 2) := dk_22 10 (dk_at dksX13_odds_3 13 rfl rfl)
theorem dX13_odds_85 : decode cX13_odds 85 = .ok (.lconst 0, 1) := dk_9 (dk_at dksX13_odds_3 15 rfl rfl)
theorem dX13_odds_86 : decode cX13_odds 86 = .ok (.lcmp, 1) := dk_148 (dk_at dksX13_odds_3 16 rfl rfl)
theorem dX13_odds_87 : decode cX13_odds 87 = .ok (.ifCond .eq 21, 3) := dk_153 0 21 (dk_at dksX13_odds_3 17 rfl rfl)
theorem dX13_odds_90 : decode cX13_odds 90 = .ok (.lload 8, 2) := dk_22 8 (dk_at dksX13_odds_3 20 rfl rfl)
theorem dX13_odds_92 : decode cX13_odds 92 = .ok (.lload 10, 2) := dk_22 10 (dk_at dksX13_odds_3 22 rfl rfl)
theorem dX13_odds_94 : decode cX13_odds 94 = .ok (.lrem, 1) := dk_113 (dk_at dksX13_odds_4 0 rfl rfl)
theorem dX13_odds_95 : decode cX13_odds 95 = .ok (.lstore 12, 2) := dk_55 12 (dk_at dksX13_odds_4 1 rfl rfl)
theorem dX13_odds_97 : decode cX13_odds 97 = .ok (.lload 10, 2) := dk_22 10 (dk_at dksX13_odds_4 3 rfl rfl)
theorem dX13_odds_99 : decode cX13_odds 99 = .ok (.lstore 8, 2) := dk_55 8 (dk_at dksX13_odds_4 5 rfl rfl)
theorem dX13_odds_101 : decode cX13_odds 101 = .ok (.lload 12, 2) := dk_22 12 (dk_at dksX13_odds_4 7 rfl rfl)
theorem dX13_odds_103 : decode cX13_odds 103 = .ok (.lstore 10, 2) := dk_55 10 (dk_at dksX13_odds_4 9 rfl rfl)
theorem dX13_odds_105 : decode cX13_odds 105 = .ok (.goto (-22), 3) := dk_167 255 234 (dk_at dksX13_odds_4 11 rfl rfl)
theorem dX13_odds_108 : decode cX13_odds 108 = .ok (.iload_n 2, 1) := dk_28 (dk_at dksX13_odds_4 14 rfl rfl)
theorem dX13_odds_109 : decode cX13_odds 109 = .ok (.ifCond .ne 10, 3) := dk_154 0 10 (dk_at dksX13_odds_4 15 rfl rfl)
theorem dX13_odds_112 : decode cX13_odds 112 = .ok (.lload_n 3, 1) := dk_33 (dk_at dksX13_odds_4 18 rfl rfl)
theorem dX13_odds_113 : decode cX13_odds 113 = .ok (.lload 8, 2) := dk_22 8 (dk_at dksX13_odds_4 19 rfl rfl)
theorem dX13_odds_115 : decode cX13_odds 115 = .ok (.ldiv, 1) := dk_109 (dk_at dksX13_odds_4 21 rfl rfl)
theorem dX13_odds_116 : decode cX13_odds 116 = .ok (.goto 8, 3) := dk_167 0 8 (dk_at dksX13_odds_5 0 rfl rfl)
theorem dX13_odds_119 : decode cX13_odds 119 = .ok (.lload 5, 2) := dk_22 5 (dk_at dksX13_odds_5 3 rfl rfl)
theorem dX13_odds_121 : decode cX13_odds 121 = .ok (.lload 8, 2) := dk_22 8 (dk_at dksX13_odds_5 5 rfl rfl)
theorem dX13_odds_123 : decode cX13_odds 123 = .ok (.ldiv, 1) := dk_109 (dk_at dksX13_odds_5 7 rfl rfl)
theorem dX13_odds_124 : decode cX13_odds 124 = .ok (.lreturn, 1) := dk_173 (dk_at dksX13_odds_5 8 rfl rfl)
abbrev cX13_seed : ByteArray := prog_16_method_68_code
def yX13_seed : MethodName := ⟨RX13, "seed", "(I)I"⟩
def dkwX13_seed_0 : List UInt8 := [42, 5, 27, 182, 0, 53, 172]
abbrev dktX13_seed_0 : List UInt8 := dkwX13_seed_0 ++ []
theorem dksX13_seed_0 : cX13_seed.data.toList.drop 0 = dktX13_seed_0 := by decide +kernel
theorem dX13_seed_0 : decode cX13_seed 0 = .ok (.aload_n 0, 1) := dk_42 (dk_at dksX13_seed_0 0 rfl rfl)
theorem dX13_seed_1 : decode cX13_seed 1 = .ok (.iconst 2, 1) := dk_5 (dk_at dksX13_seed_0 1 rfl rfl)
theorem dX13_seed_2 : decode cX13_seed 2 = .ok (.iload_n 1, 1) := dk_27 (dk_at dksX13_seed_0 2 rfl rfl)
theorem dX13_seed_3 : decode cX13_seed 3 = .ok (.invokevirtual 53, 3) := dk_182 0 53 (dk_at dksX13_seed_0 3 rfl rfl)
theorem dX13_seed_6 : decode cX13_seed 6 = .ok (.ireturn, 1) := dk_172 (dk_at dksX13_seed_0 6 rfl rfl)
abbrev cX13_feed : ByteArray := prog_16_method_69_code
def yX13_feed : MethodName := ⟨RX13, "feed", "(II)I"⟩
def dkwX13_feed_3 : List UInt8 := [96, 181, 0, 207, 132, 3, 255, 167, 255, 220, 42, 180, 0, 207, 172]
abbrev dktX13_feed_3 : List UInt8 := dkwX13_feed_3 ++ []
def dkwX13_feed_2 : List UInt8 := [180, 0, 25, 42, 180, 0, 207, 27, 16, 8, 29, 104, 122, 17, 0, 255, 126, 79, 42, 89, 180, 0, 207, 4]
abbrev dktX13_feed_2 : List UInt8 := dkwX13_feed_2 ++ dktX13_feed_3
def dkwX13_feed_1 : List UInt8 := [96, 16, 120, 164, 0, 10, 42, 18, 75, 182, 0, 39, 172, 28, 4, 100, 62, 29, 155, 0, 38, 42]
abbrev dktX13_feed_1 : List UInt8 := dkwX13_feed_1 ++ dktX13_feed_2
def dkwX13_feed_0 : List UInt8 := [28, 133, 10, 20, 0, 205, 184, 0, 49, 154, 0, 10, 42, 18, 37, 182, 0, 39, 172, 42, 180, 0, 207, 28]
abbrev dktX13_feed_0 : List UInt8 := dkwX13_feed_0 ++ dktX13_feed_1
theorem dksX13_feed_0 : cX13_feed.data.toList.drop 0 = dktX13_feed_0 := by decide +kernel
theorem dksX13_feed_1 : cX13_feed.data.toList.drop 24 = dktX13_feed_1 := dk_seg dksX13_feed_0 24 rfl rfl
theorem dksX13_feed_2 : cX13_feed.data.toList.drop 46 = dktX13_feed_2 := dk_seg dksX13_feed_1 22 rfl rfl
theorem dksX13_feed_3 : cX13_feed.data.toList.drop 70 = dktX13_feed_3 := dk_seg dksX13_feed_2 24 rfl rfl
theorem dX13_feed_0 : decode cX13_feed 0 = .ok (.iload_n 2, 1) := dk_28 (dk_at dksX13_feed_0 0 rfl rfl)
theorem dX13_feed_1 : decode cX13_feed 1 = .ok (.i2l, 1) := dk_133 (dk_at dksX13_feed_0 1 rfl rfl)
theorem dX13_feed_2 : decode cX13_feed 2 = .ok (.lconst 1, 1) := dk_10 (dk_at dksX13_feed_0 2 rfl rfl)
theorem dX13_feed_3 : decode cX13_feed 3 = .ok (.ldc2_w 205, 3) := dk_20 0 205 (dk_at dksX13_feed_0 3 rfl rfl)
theorem dX13_feed_6 : decode cX13_feed 6 = .ok (.invokestatic 49, 3) := dk_184 0 49 (dk_at dksX13_feed_0 6 rfl rfl)
theorem dX13_feed_9 : decode cX13_feed 9 = .ok (.ifCond .ne 10, 3) := dk_154 0 10 (dk_at dksX13_feed_0 9 rfl rfl)
theorem dX13_feed_12 : decode cX13_feed 12 = .ok (.aload_n 0, 1) := dk_42 (dk_at dksX13_feed_0 12 rfl rfl)
theorem dX13_feed_13 : decode cX13_feed 13 = .ok (.ldc 37, 2) := dk_18 37 (dk_at dksX13_feed_0 13 rfl rfl)
theorem dX13_feed_15 : decode cX13_feed 15 = .ok (.invokevirtual 39, 3) := dk_182 0 39 (dk_at dksX13_feed_0 15 rfl rfl)
theorem dX13_feed_18 : decode cX13_feed 18 = .ok (.ireturn, 1) := dk_172 (dk_at dksX13_feed_0 18 rfl rfl)
theorem dX13_feed_19 : decode cX13_feed 19 = .ok (.aload_n 0, 1) := dk_42 (dk_at dksX13_feed_0 19 rfl rfl)
theorem dX13_feed_20 : decode cX13_feed 20 = .ok (.getfield 207, 3) := dk_180 0 207 (dk_at dksX13_feed_0 20 rfl rfl)
theorem dX13_feed_23 : decode cX13_feed 23 = .ok (.iload_n 2, 1) := dk_28 (dk_at dksX13_feed_0 23 rfl rfl)
theorem dX13_feed_24 : decode cX13_feed 24 = .ok (.iadd, 1) := dk_96 (dk_at dksX13_feed_1 0 rfl rfl)
theorem dX13_feed_25 : decode cX13_feed 25 = .ok (.bipush 120, 2) := dk_16 120 (dk_at dksX13_feed_1 1 rfl rfl)
theorem dX13_feed_27 : decode cX13_feed 27 = .ok (.if_icmp .le 10, 3) := dk_164 0 10 (dk_at dksX13_feed_1 3 rfl rfl)
theorem dX13_feed_30 : decode cX13_feed 30 = .ok (.aload_n 0, 1) := dk_42 (dk_at dksX13_feed_1 6 rfl rfl)
theorem dX13_feed_31 : decode cX13_feed 31 = .ok (.ldc 75, 2) := dk_18 75 (dk_at dksX13_feed_1 7 rfl rfl)
theorem dX13_feed_33 : decode cX13_feed 33 = .ok (.invokevirtual 39, 3) := dk_182 0 39 (dk_at dksX13_feed_1 9 rfl rfl)
theorem dX13_feed_36 : decode cX13_feed 36 = .ok (.ireturn, 1) := dk_172 (dk_at dksX13_feed_1 12 rfl rfl)
theorem dX13_feed_37 : decode cX13_feed 37 = .ok (.iload_n 2, 1) := dk_28 (dk_at dksX13_feed_1 13 rfl rfl)
theorem dX13_feed_38 : decode cX13_feed 38 = .ok (.iconst 1, 1) := dk_4 (dk_at dksX13_feed_1 14 rfl rfl)
theorem dX13_feed_39 : decode cX13_feed 39 = .ok (.isub, 1) := dk_100 (dk_at dksX13_feed_1 15 rfl rfl)
theorem dX13_feed_40 : decode cX13_feed 40 = .ok (.istore_n 3, 1) := dk_62 (dk_at dksX13_feed_1 16 rfl rfl)
theorem dX13_feed_41 : decode cX13_feed 41 = .ok (.iload_n 3, 1) := dk_29 (dk_at dksX13_feed_1 17 rfl rfl)
theorem dX13_feed_42 : decode cX13_feed 42 = .ok (.ifCond .lt 38, 3) := dk_155 0 38 (dk_at dksX13_feed_1 18 rfl rfl)
theorem dX13_feed_45 : decode cX13_feed 45 = .ok (.aload_n 0, 1) := dk_42 (dk_at dksX13_feed_1 21 rfl rfl)
theorem dX13_feed_46 : decode cX13_feed 46 = .ok (.getfield 25, 3) := dk_180 0 25 (dk_at dksX13_feed_2 0 rfl rfl)
theorem dX13_feed_49 : decode cX13_feed 49 = .ok (.aload_n 0, 1) := dk_42 (dk_at dksX13_feed_2 3 rfl rfl)
theorem dX13_feed_50 : decode cX13_feed 50 = .ok (.getfield 207, 3) := dk_180 0 207 (dk_at dksX13_feed_2 4 rfl rfl)
theorem dX13_feed_53 : decode cX13_feed 53 = .ok (.iload_n 1, 1) := dk_27 (dk_at dksX13_feed_2 7 rfl rfl)
theorem dX13_feed_54 : decode cX13_feed 54 = .ok (.bipush 8, 2) := dk_16 8 (dk_at dksX13_feed_2 8 rfl rfl)
theorem dX13_feed_56 : decode cX13_feed 56 = .ok (.iload_n 3, 1) := dk_29 (dk_at dksX13_feed_2 10 rfl rfl)
theorem dX13_feed_57 : decode cX13_feed 57 = .ok (.imul, 1) := dk_104 (dk_at dksX13_feed_2 11 rfl rfl)
theorem dX13_feed_58 : decode cX13_feed 58 = .ok (.ishr, 1) := dk_122 (dk_at dksX13_feed_2 12 rfl rfl)
theorem dX13_feed_59 : decode cX13_feed 59 = .ok (.sipush 255, 3) := dk_17 0 255 (dk_at dksX13_feed_2 13 rfl rfl)
theorem dX13_feed_62 : decode cX13_feed 62 = .ok (.iand, 1) := dk_126 (dk_at dksX13_feed_2 16 rfl rfl)
theorem dX13_feed_63 : decode cX13_feed 63 = .ok (.iastore, 1) := dk_79 (dk_at dksX13_feed_2 17 rfl rfl)
theorem dX13_feed_64 : decode cX13_feed 64 = .ok (.aload_n 0, 1) := dk_42 (dk_at dksX13_feed_2 18 rfl rfl)
theorem dX13_feed_65 : decode cX13_feed 65 = .ok (.dup, 1) := dk_89 (dk_at dksX13_feed_2 19 rfl rfl)
theorem dX13_feed_66 : decode cX13_feed 66 = .ok (.getfield 207, 3) := dk_180 0 207 (dk_at dksX13_feed_2 20 rfl rfl)
theorem dX13_feed_69 : decode cX13_feed 69 = .ok (.iconst 1, 1) := dk_4 (dk_at dksX13_feed_2 23 rfl rfl)
theorem dX13_feed_70 : decode cX13_feed 70 = .ok (.iadd, 1) := dk_96 (dk_at dksX13_feed_3 0 rfl rfl)
theorem dX13_feed_71 : decode cX13_feed 71 = .ok (.putfield 207, 3) := dk_181 0 207 (dk_at dksX13_feed_3 1 rfl rfl)
theorem dX13_feed_74 : decode cX13_feed 74 = .ok (.iinc 3 (-1), 3) := dk_132 3 255 (dk_at dksX13_feed_3 4 rfl rfl)
theorem dX13_feed_77 : decode cX13_feed 77 = .ok (.goto (-36), 3) := dk_167 255 220 (dk_at dksX13_feed_3 7 rfl rfl)
theorem dX13_feed_80 : decode cX13_feed 80 = .ok (.aload_n 0, 1) := dk_42 (dk_at dksX13_feed_3 10 rfl rfl)
theorem dX13_feed_81 : decode cX13_feed 81 = .ok (.getfield 207, 3) := dk_180 0 207 (dk_at dksX13_feed_3 11 rfl rfl)
theorem dX13_feed_84 : decode cX13_feed 84 = .ok (.ireturn, 1) := dk_172 (dk_at dksX13_feed_3 14 rfl rfl)
abbrev cX13_wipe : ByteArray := prog_16_method_70_code
def yX13_wipe : MethodName := ⟨RX13, "wipe", "()I"⟩
def dkwX13_wipe_0 : List UInt8 := [42, 180, 0, 207, 60, 42, 3, 181, 0, 207, 27, 172]
abbrev dktX13_wipe_0 : List UInt8 := dkwX13_wipe_0 ++ []
theorem dksX13_wipe_0 : cX13_wipe.data.toList.drop 0 = dktX13_wipe_0 := by decide +kernel
theorem dX13_wipe_0 : decode cX13_wipe 0 = .ok (.aload_n 0, 1) := dk_42 (dk_at dksX13_wipe_0 0 rfl rfl)
theorem dX13_wipe_1 : decode cX13_wipe 1 = .ok (.getfield 207, 3) := dk_180 0 207 (dk_at dksX13_wipe_0 1 rfl rfl)
theorem dX13_wipe_4 : decode cX13_wipe 4 = .ok (.istore_n 1, 1) := dk_60 (dk_at dksX13_wipe_0 4 rfl rfl)
theorem dX13_wipe_5 : decode cX13_wipe 5 = .ok (.aload_n 0, 1) := dk_42 (dk_at dksX13_wipe_0 5 rfl rfl)
theorem dX13_wipe_6 : decode cX13_wipe 6 = .ok (.iconst 0, 1) := dk_3 (dk_at dksX13_wipe_0 6 rfl rfl)
theorem dX13_wipe_7 : decode cX13_wipe 7 = .ok (.putfield 207, 3) := dk_181 0 207 (dk_at dksX13_wipe_0 7 rfl rfl)
theorem dX13_wipe_10 : decode cX13_wipe 10 = .ok (.iload_n 1, 1) := dk_27 (dk_at dksX13_wipe_0 10 rfl rfl)
theorem dX13_wipe_11 : decode cX13_wipe 11 = .ok (.ireturn, 1) := dk_172 (dk_at dksX13_wipe_0 11 rfl rfl)
abbrev cX13_text : ByteArray := prog_16_method_87_code
def yX13_text : MethodName := ⟨RX13, "text", "()I"⟩
def dkwX13_text_4 : List UInt8 := [180, 0, 7, 184, 0, 140, 28, 153, 0, 7, 27, 167, 0, 9, 2, 42, 180, 0, 231, 100, 172]
abbrev dktX13_text_4 : List UInt8 := dkwX13_text_4 ++ []
def dkwX13_text_3 : List UInt8 := [153, 0, 7, 4, 167, 0, 4, 3, 61, 42, 3, 181, 0, 207, 28, 154, 0, 14, 42, 180, 0, 16, 42]
abbrev dktX13_text_3 : List UInt8 := dkwX13_text_3 ++ dktX13_text_4
def dkwX13_text_2 : List UInt8 := [61, 132, 1, 1, 167, 255, 232, 28, 153, 0, 21, 42, 180, 0, 225, 153, 0, 10, 42, 182, 0, 241]
abbrev dktX13_text_2 : List UInt8 := dkwX13_text_2 ++ dktX13_text_3
def dkwX13_text_1 : List UInt8 := [182, 1, 19, 61, 28, 153, 0, 26, 42, 180, 0, 225, 6, 160, 0, 18, 42, 182, 1, 0, 42, 182, 1, 19]
abbrev dktX13_text_1 : List UInt8 := dkwX13_text_1 ++ dktX13_text_2
def dkwX13_text_0 : List UInt8 := [42, 180, 0, 7, 42, 180, 0, 16, 184, 0, 140, 42, 3, 181, 0, 210, 42, 182, 1, 0, 4, 60, 42]
abbrev dktX13_text_0 : List UInt8 := dkwX13_text_0 ++ dktX13_text_1
theorem dksX13_text_0 : cX13_text.data.toList.drop 0 = dktX13_text_0 := by decide +kernel
theorem dksX13_text_1 : cX13_text.data.toList.drop 23 = dktX13_text_1 := dk_seg dksX13_text_0 23 rfl rfl
theorem dksX13_text_2 : cX13_text.data.toList.drop 47 = dktX13_text_2 := dk_seg dksX13_text_1 24 rfl rfl
theorem dksX13_text_3 : cX13_text.data.toList.drop 69 = dktX13_text_3 := dk_seg dksX13_text_2 22 rfl rfl
theorem dksX13_text_4 : cX13_text.data.toList.drop 92 = dktX13_text_4 := dk_seg dksX13_text_3 23 rfl rfl
theorem dX13_text_0 : decode cX13_text 0 = .ok (.aload_n 0, 1) := dk_42 (dk_at dksX13_text_0 0 rfl rfl)
theorem dX13_text_1 : decode cX13_text 1 = .ok (.getfield 7, 3) := dk_180 0 7 (dk_at dksX13_text_0 1 rfl rfl)
theorem dX13_text_4 : decode cX13_text 4 = .ok (.aload_n 0, 1) := dk_42 (dk_at dksX13_text_0 4 rfl rfl)
theorem dX13_text_5 : decode cX13_text 5 = .ok (.getfield 16, 3) := dk_180 0 16 (dk_at dksX13_text_0 5 rfl rfl)
theorem dX13_text_8 : decode cX13_text 8 = .ok (.invokestatic 140, 3) := dk_184 0 140 (dk_at dksX13_text_0 8 rfl rfl)
theorem dX13_text_11 : decode cX13_text 11 = .ok (.aload_n 0, 1) := dk_42 (dk_at dksX13_text_0 11 rfl rfl)
theorem dX13_text_12 : decode cX13_text 12 = .ok (.iconst 0, 1) := dk_3 (dk_at dksX13_text_0 12 rfl rfl)
theorem dX13_text_13 : decode cX13_text 13 = .ok (.putfield 210, 3) := dk_181 0 210 (dk_at dksX13_text_0 13 rfl rfl)
theorem dX13_text_16 : decode cX13_text 16 = .ok (.aload_n 0, 1) := dk_42 (dk_at dksX13_text_0 16 rfl rfl)
theorem dX13_text_17 : decode cX13_text 17 = .ok (.invokevirtual 256, 3) := dk_182 1 0 (dk_at dksX13_text_0 17 rfl rfl)
theorem dX13_text_20 : decode cX13_text 20 = .ok (.iconst 1, 1) := dk_4 (dk_at dksX13_text_0 20 rfl rfl)
theorem dX13_text_21 : decode cX13_text 21 = .ok (.istore_n 1, 1) := dk_60 (dk_at dksX13_text_0 21 rfl rfl)
theorem dX13_text_22 : decode cX13_text 22 = .ok (.aload_n 0, 1) := dk_42 (dk_at dksX13_text_0 22 rfl rfl)
theorem dX13_text_23 : decode cX13_text 23 = .ok (.invokevirtual 275, 3) := dk_182 1 19 (dk_at dksX13_text_1 0 rfl rfl)
theorem dX13_text_26 : decode cX13_text 26 = .ok (.istore_n 2, 1) := dk_61 (dk_at dksX13_text_1 3 rfl rfl)
theorem dX13_text_27 : decode cX13_text 27 = .ok (.iload_n 2, 1) := dk_28 (dk_at dksX13_text_1 4 rfl rfl)
theorem dX13_text_28 : decode cX13_text 28 = .ok (.ifCond .eq 26, 3) := dk_153 0 26 (dk_at dksX13_text_1 5 rfl rfl)
theorem dX13_text_31 : decode cX13_text 31 = .ok (.aload_n 0, 1) := dk_42 (dk_at dksX13_text_1 8 rfl rfl)
theorem dX13_text_32 : decode cX13_text 32 = .ok (.getfield 225, 3) := dk_180 0 225 (dk_at dksX13_text_1 9 rfl rfl)
theorem dX13_text_35 : decode cX13_text 35 = .ok (.iconst 3, 1) := dk_6 (dk_at dksX13_text_1 12 rfl rfl)
theorem dX13_text_36 : decode cX13_text 36 = .ok (.if_icmp .ne 18, 3) := dk_160 0 18 (dk_at dksX13_text_1 13 rfl rfl)
theorem dX13_text_39 : decode cX13_text 39 = .ok (.aload_n 0, 1) := dk_42 (dk_at dksX13_text_1 16 rfl rfl)
theorem dX13_text_40 : decode cX13_text 40 = .ok (.invokevirtual 256, 3) := dk_182 1 0 (dk_at dksX13_text_1 17 rfl rfl)
theorem dX13_text_43 : decode cX13_text 43 = .ok (.aload_n 0, 1) := dk_42 (dk_at dksX13_text_1 20 rfl rfl)
theorem dX13_text_44 : decode cX13_text 44 = .ok (.invokevirtual 275, 3) := dk_182 1 19 (dk_at dksX13_text_1 21 rfl rfl)
theorem dX13_text_47 : decode cX13_text 47 = .ok (.istore_n 2, 1) := dk_61 (dk_at dksX13_text_2 0 rfl rfl)
theorem dX13_text_48 : decode cX13_text 48 = .ok (.iinc 1 1, 3) := dk_132 1 1 (dk_at dksX13_text_2 1 rfl rfl)
theorem dX13_text_51 : decode cX13_text 51 = .ok (.goto (-24), 3) := dk_167 255 232 (dk_at dksX13_text_2 4 rfl rfl)
theorem dX13_text_54 : decode cX13_text 54 = .ok (.iload_n 2, 1) := dk_28 (dk_at dksX13_text_2 7 rfl rfl)
theorem dX13_text_55 : decode cX13_text 55 = .ok (.ifCond .eq 21, 3) := dk_153 0 21 (dk_at dksX13_text_2 8 rfl rfl)
theorem dX13_text_58 : decode cX13_text 58 = .ok (.aload_n 0, 1) := dk_42 (dk_at dksX13_text_2 11 rfl rfl)
theorem dX13_text_59 : decode cX13_text 59 = .ok (.getfield 225, 3) := dk_180 0 225 (dk_at dksX13_text_2 12 rfl rfl)
theorem dX13_text_62 : decode cX13_text 62 = .ok (.ifCond .eq 10, 3) := dk_153 0 10 (dk_at dksX13_text_2 15 rfl rfl)
theorem dX13_text_65 : decode cX13_text 65 = .ok (.aload_n 0, 1) := dk_42 (dk_at dksX13_text_2 18 rfl rfl)
theorem dX13_text_66 : decode cX13_text 66 = .ok (.invokevirtual 241, 3) := dk_182 0 241 (dk_at dksX13_text_2 19 rfl rfl)
theorem dX13_text_69 : decode cX13_text 69 = .ok (.ifCond .eq 7, 3) := dk_153 0 7 (dk_at dksX13_text_3 0 rfl rfl)
theorem dX13_text_72 : decode cX13_text 72 = .ok (.iconst 1, 1) := dk_4 (dk_at dksX13_text_3 3 rfl rfl)
theorem dX13_text_73 : decode cX13_text 73 = .ok (.goto 4, 3) := dk_167 0 4 (dk_at dksX13_text_3 4 rfl rfl)
theorem dX13_text_76 : decode cX13_text 76 = .ok (.iconst 0, 1) := dk_3 (dk_at dksX13_text_3 7 rfl rfl)
theorem dX13_text_77 : decode cX13_text 77 = .ok (.istore_n 2, 1) := dk_61 (dk_at dksX13_text_3 8 rfl rfl)
theorem dX13_text_78 : decode cX13_text 78 = .ok (.aload_n 0, 1) := dk_42 (dk_at dksX13_text_3 9 rfl rfl)
theorem dX13_text_79 : decode cX13_text 79 = .ok (.iconst 0, 1) := dk_3 (dk_at dksX13_text_3 10 rfl rfl)
theorem dX13_text_80 : decode cX13_text 80 = .ok (.putfield 207, 3) := dk_181 0 207 (dk_at dksX13_text_3 11 rfl rfl)
theorem dX13_text_83 : decode cX13_text 83 = .ok (.iload_n 2, 1) := dk_28 (dk_at dksX13_text_3 14 rfl rfl)
theorem dX13_text_84 : decode cX13_text 84 = .ok (.ifCond .ne 14, 3) := dk_154 0 14 (dk_at dksX13_text_3 15 rfl rfl)
theorem dX13_text_87 : decode cX13_text 87 = .ok (.aload_n 0, 1) := dk_42 (dk_at dksX13_text_3 18 rfl rfl)
theorem dX13_text_88 : decode cX13_text 88 = .ok (.getfield 16, 3) := dk_180 0 16 (dk_at dksX13_text_3 19 rfl rfl)
theorem dX13_text_91 : decode cX13_text 91 = .ok (.aload_n 0, 1) := dk_42 (dk_at dksX13_text_3 22 rfl rfl)
theorem dX13_text_92 : decode cX13_text 92 = .ok (.getfield 7, 3) := dk_180 0 7 (dk_at dksX13_text_4 0 rfl rfl)
theorem dX13_text_95 : decode cX13_text 95 = .ok (.invokestatic 140, 3) := dk_184 0 140 (dk_at dksX13_text_4 3 rfl rfl)
theorem dX13_text_98 : decode cX13_text 98 = .ok (.iload_n 2, 1) := dk_28 (dk_at dksX13_text_4 6 rfl rfl)
theorem dX13_text_99 : decode cX13_text 99 = .ok (.ifCond .eq 7, 3) := dk_153 0 7 (dk_at dksX13_text_4 7 rfl rfl)
theorem dX13_text_102 : decode cX13_text 102 = .ok (.iload_n 1, 1) := dk_27 (dk_at dksX13_text_4 10 rfl rfl)
theorem dX13_text_103 : decode cX13_text 103 = .ok (.goto 9, 3) := dk_167 0 9 (dk_at dksX13_text_4 11 rfl rfl)
theorem dX13_text_106 : decode cX13_text 106 = .ok (.iconst (-1), 1) := dk_2 (dk_at dksX13_text_4 14 rfl rfl)
theorem dX13_text_107 : decode cX13_text 107 = .ok (.aload_n 0, 1) := dk_42 (dk_at dksX13_text_4 15 rfl rfl)
theorem dX13_text_108 : decode cX13_text 108 = .ok (.getfield 231, 3) := dk_180 0 231 (dk_at dksX13_text_4 16 rfl rfl)
theorem dX13_text_111 : decode cX13_text 111 = .ok (.isub, 1) := dk_100 (dk_at dksX13_text_4 19 rfl rfl)
theorem dX13_text_112 : decode cX13_text 112 = .ok (.ireturn, 1) := dk_172 (dk_at dksX13_text_4 20 rfl rfl)
abbrev cX13_nextToken : ByteArray := prog_16_method_74_code
def yX13_nextToken : MethodName := ⟨RX13, "nextToken", "()V"⟩
def dkwX13_nextToken_10 : List UInt8 := [181, 0, 210, 177]
abbrev dktX13_nextToken_10 : List UInt8 := dkwX13_nextToken_10 ++ []
def dkwX13_nextToken_9 : List UInt8 := [167, 255, 184, 42, 89, 180, 0, 210, 42, 180, 0, 225, 5, 164, 0, 7, 4, 167, 0, 4, 3, 96]
abbrev dktX13_nextToken_9 : List UInt8 := dkwX13_nextToken_9 ++ dktX13_nextToken_10
def dkwX13_nextToken_8 : List UInt8 := [180, 0, 210, 182, 0, 216, 96, 16, 48, 100, 181, 0, 228, 42, 89, 180, 0, 210, 4, 96, 181, 0, 210]
abbrev dktX13_nextToken_8 : List UInt8 := dkwX13_nextToken_8 ++ dktX13_nextToken_9
def dkwX13_nextToken_7 : List UInt8 := [17, 3, 231, 164, 0, 10, 42, 180, 0, 228, 167, 0, 22, 16, 10, 42, 180, 0, 228, 104, 42, 42]
abbrev dktX13_nextToken_7 : List UInt8 := dkwX13_nextToken_7 ++ dktX13_nextToken_8
def dkwX13_nextToken_6 : List UInt8 := [160, 0, 70, 42, 42, 180, 0, 210, 182, 0, 216, 184, 0, 222, 153, 0, 56, 42, 42, 180, 0, 228]
abbrev dktX13_nextToken_6 : List UInt8 := dkwX13_nextToken_6 ++ dktX13_nextToken_7
def dkwX13_nextToken_5 : List UInt8 := [184, 0, 219, 153, 0, 16, 42, 89, 180, 0, 210, 4, 96, 181, 0, 210, 167, 255, 224, 42, 180, 0, 225, 5]
abbrev dktX13_nextToken_5 : List UInt8 := dkwX13_nextToken_5 ++ dktX13_nextToken_6
def dkwX13_nextToken_4 : List UInt8 := [181, 0, 225, 42, 3, 181, 0, 228, 42, 180, 0, 225, 4, 160, 0, 30, 42, 42, 180, 0, 210, 182, 0, 216]
abbrev dktX13_nextToken_4 : List UInt8 := dkwX13_nextToken_4 ++ dktX13_nextToken_5
def dkwX13_nextToken_3 : List UInt8 := [27, 184, 0, 222, 153, 0, 7, 5, 167, 0, 14, 27, 16, 59, 160, 0, 7, 6, 167, 0, 4, 7]
abbrev dktX13_nextToken_3 : List UInt8 := dkwX13_nextToken_3 ++ dktX13_nextToken_4
def dkwX13_nextToken_2 : List UInt8 := [182, 0, 216, 60, 42, 27, 156, 0, 7, 3, 167, 0, 36, 27, 184, 0, 219, 153, 0, 7, 4, 167, 0, 25]
abbrev dktX13_nextToken_2 : List UInt8 := dkwX13_nextToken_2 ++ dktX13_nextToken_3
def dkwX13_nextToken_1 : List UInt8 := [180, 0, 213, 4, 96, 181, 0, 213, 167, 255, 233, 42, 42, 180, 0, 213, 181, 0, 210, 42, 42, 180, 0, 213]
abbrev dktX13_nextToken_1 : List UInt8 := dkwX13_nextToken_1 ++ dktX13_nextToken_2
def dkwX13_nextToken_0 : List UInt8 := [42, 42, 180, 0, 210, 181, 0, 213, 42, 42, 180, 0, 213, 182, 0, 216, 16, 32, 160, 0, 16, 42, 89]
abbrev dktX13_nextToken_0 : List UInt8 := dkwX13_nextToken_0 ++ dktX13_nextToken_1
theorem dksX13_nextToken_0 : cX13_nextToken.data.toList.drop 0 = dktX13_nextToken_0 := by decide +kernel
theorem dksX13_nextToken_1 : cX13_nextToken.data.toList.drop 23 = dktX13_nextToken_1 := dk_seg dksX13_nextToken_0 23 rfl rfl
theorem dksX13_nextToken_2 : cX13_nextToken.data.toList.drop 47 = dktX13_nextToken_2 := dk_seg dksX13_nextToken_1 24 rfl rfl
theorem dksX13_nextToken_3 : cX13_nextToken.data.toList.drop 71 = dktX13_nextToken_3 := dk_seg dksX13_nextToken_2 24 rfl rfl
theorem dksX13_nextToken_4 : cX13_nextToken.data.toList.drop 93 = dktX13_nextToken_4 := dk_seg dksX13_nextToken_3 22 rfl rfl
theorem dksX13_nextToken_5 : cX13_nextToken.data.toList.drop 117 = dktX13_nextToken_5 := dk_seg dksX13_nextToken_4 24 rfl rfl
theorem dksX13_nextToken_6 : cX13_nextToken.data.toList.drop 141 = dktX13_nextToken_6 := dk_seg dksX13_nextToken_5 24 rfl rfl
theorem dksX13_nextToken_7 : cX13_nextToken.data.toList.drop 163 = dktX13_nextToken_7 := dk_seg dksX13_nextToken_6 22 rfl rfl
theorem dksX13_nextToken_8 : cX13_nextToken.data.toList.drop 185 = dktX13_nextToken_8 := dk_seg dksX13_nextToken_7 22 rfl rfl
theorem dksX13_nextToken_9 : cX13_nextToken.data.toList.drop 208 = dktX13_nextToken_9 := dk_seg dksX13_nextToken_8 23 rfl rfl
theorem dksX13_nextToken_10 : cX13_nextToken.data.toList.drop 230 = dktX13_nextToken_10 := dk_seg dksX13_nextToken_9 22 rfl rfl
theorem dX13_nextToken_0 : decode cX13_nextToken 0 = .ok (.aload_n 0, 1) := dk_42 (dk_at dksX13_nextToken_0 0 rfl rfl)
theorem dX13_nextToken_1 : decode cX13_nextToken 1 = .ok (.aload_n 0, 1) := dk_42 (dk_at dksX13_nextToken_0 1 rfl rfl)
theorem dX13_nextToken_2 : decode cX13_nextToken 2 = .ok (.getfield 210, 3) := dk_180 0 210 (dk_at dksX13_nextToken_0 2 rfl rfl)
theorem dX13_nextToken_5 : decode cX13_nextToken 5 = .ok (.putfield 213, 3) := dk_181 0 213 (dk_at dksX13_nextToken_0 5 rfl rfl)
theorem dX13_nextToken_8 : decode cX13_nextToken 8 = .ok (.aload_n 0, 1) := dk_42 (dk_at dksX13_nextToken_0 8 rfl rfl)
theorem dX13_nextToken_9 : decode cX13_nextToken 9 = .ok (.aload_n 0, 1) := dk_42 (dk_at dksX13_nextToken_0 9 rfl rfl)
theorem dX13_nextToken_10 : decode cX13_nextToken 10 = .ok (.getfield 213, 3) := dk_180 0 213 (dk_at dksX13_nextToken_0 10 rfl rfl)
theorem dX13_nextToken_13 : decode cX13_nextToken 13 = .ok (.invokevirtual 216, 3) := dk_182 0 216 (dk_at dksX13_nextToken_0 13 rfl rfl)
theorem dX13_nextToken_16 : decode cX13_nextToken 16 = .ok (.bipush 32, 2) := dk_16 32 (dk_at dksX13_nextToken_0 16 rfl rfl)
theorem dX13_nextToken_18 : decode cX13_nextToken 18 = .ok (.if_icmp .ne 16, 3) := dk_160 0 16 (dk_at dksX13_nextToken_0 18 rfl rfl)
theorem dX13_nextToken_21 : decode cX13_nextToken 21 = .ok (.aload_n 0, 1) := dk_42 (dk_at dksX13_nextToken_0 21 rfl rfl)
theorem dX13_nextToken_22 : decode cX13_nextToken 22 = .ok (.dup, 1) := dk_89 (dk_at dksX13_nextToken_0 22 rfl rfl)
theorem dX13_nextToken_23 : decode cX13_nextToken 23 = .ok (.getfield 213, 3) := dk_180 0 213 (dk_at dksX13_nextToken_1 0 rfl rfl)
theorem dX13_nextToken_26 : decode cX13_nextToken 26 = .ok (.iconst 1, 1) := dk_4 (dk_at dksX13_nextToken_1 3 rfl rfl)
theorem dX13_nextToken_27 : decode cX13_nextToken 27 = .ok (.iadd, 1) := dk_96 (dk_at dksX13_nextToken_1 4 rfl rfl)
theorem dX13_nextToken_28 : decode cX13_nextToken 28 = .ok (.putfield 213, 3) := dk_181 0 213 (dk_at dksX13_nextToken_1 5 rfl rfl)
theorem dX13_nextToken_31 : decode cX13_nextToken 31 = .ok (.goto (-23), 3) := dk_167 255 233 (dk_at dksX13_nextToken_1 8 rfl rfl)
theorem dX13_nextToken_34 : decode cX13_nextToken 34 = .ok (.aload_n 0, 1) := dk_42 (dk_at dksX13_nextToken_1 11 rfl rfl)
theorem dX13_nextToken_35 : decode cX13_nextToken 35 = .ok (.aload_n 0, 1) := dk_42 (dk_at dksX13_nextToken_1 12 rfl rfl)
theorem dX13_nextToken_36 : decode cX13_nextToken 36 = .ok (.getfield 213, 3) := dk_180 0 213 (dk_at dksX13_nextToken_1 13 rfl rfl)
theorem dX13_nextToken_39 : decode cX13_nextToken 39 = .ok (.putfield 210, 3) := dk_181 0 210 (dk_at dksX13_nextToken_1 16 rfl rfl)
theorem dX13_nextToken_42 : decode cX13_nextToken 42 = .ok (.aload_n 0, 1) := dk_42 (dk_at dksX13_nextToken_1 19 rfl rfl)
theorem dX13_nextToken_43 : decode cX13_nextToken 43 = .ok (.aload_n 0, 1) := dk_42 (dk_at dksX13_nextToken_1 20 rfl rfl)
theorem dX13_nextToken_44 : decode cX13_nextToken 44 = .ok (.getfield 213, 3) := dk_180 0 213 (dk_at dksX13_nextToken_1 21 rfl rfl)
theorem dX13_nextToken_47 : decode cX13_nextToken 47 = .ok (.invokevirtual 216, 3) := dk_182 0 216 (dk_at dksX13_nextToken_2 0 rfl rfl)
theorem dX13_nextToken_50 : decode cX13_nextToken 50 = .ok (.istore_n 1, 1) := dk_60 (dk_at dksX13_nextToken_2 3 rfl rfl)
theorem dX13_nextToken_51 : decode cX13_nextToken 51 = .ok (.aload_n 0, 1) := dk_42 (dk_at dksX13_nextToken_2 4 rfl rfl)
theorem dX13_nextToken_52 : decode cX13_nextToken 52 = .ok (.iload_n 1, 1) := dk_27 (dk_at dksX13_nextToken_2 5 rfl rfl)
theorem dX13_nextToken_53 : decode cX13_nextToken 53 = .ok (.ifCond .ge 7, 3) := dk_156 0 7 (dk_at dksX13_nextToken_2 6 rfl rfl)
theorem dX13_nextToken_56 : decode cX13_nextToken 56 = .ok (.iconst 0, 1) := dk_3 (dk_at dksX13_nextToken_2 9 rfl rfl)
theorem dX13_nextToken_57 : decode cX13_nextToken 57 = .ok (.goto 36, 3) := dk_167 0 36 (dk_at dksX13_nextToken_2 10 rfl rfl)
theorem dX13_nextToken_60 : decode cX13_nextToken 60 = .ok (.iload_n 1, 1) := dk_27 (dk_at dksX13_nextToken_2 13 rfl rfl)
theorem dX13_nextToken_61 : decode cX13_nextToken 61 = .ok (.invokestatic 219, 3) := dk_184 0 219 (dk_at dksX13_nextToken_2 14 rfl rfl)
theorem dX13_nextToken_64 : decode cX13_nextToken 64 = .ok (.ifCond .eq 7, 3) := dk_153 0 7 (dk_at dksX13_nextToken_2 17 rfl rfl)
theorem dX13_nextToken_67 : decode cX13_nextToken 67 = .ok (.iconst 1, 1) := dk_4 (dk_at dksX13_nextToken_2 20 rfl rfl)
theorem dX13_nextToken_68 : decode cX13_nextToken 68 = .ok (.goto 25, 3) := dk_167 0 25 (dk_at dksX13_nextToken_2 21 rfl rfl)
theorem dX13_nextToken_71 : decode cX13_nextToken 71 = .ok (.iload_n 1, 1) := dk_27 (dk_at dksX13_nextToken_3 0 rfl rfl)
theorem dX13_nextToken_72 : decode cX13_nextToken 72 = .ok (.invokestatic 222, 3) := dk_184 0 222 (dk_at dksX13_nextToken_3 1 rfl rfl)
theorem dX13_nextToken_75 : decode cX13_nextToken 75 = .ok (.ifCond .eq 7, 3) := dk_153 0 7 (dk_at dksX13_nextToken_3 4 rfl rfl)
theorem dX13_nextToken_78 : decode cX13_nextToken 78 = .ok (.iconst 2, 1) := dk_5 (dk_at dksX13_nextToken_3 7 rfl rfl)
theorem dX13_nextToken_79 : decode cX13_nextToken 79 = .ok (.goto 14, 3) := dk_167 0 14 (dk_at dksX13_nextToken_3 8 rfl rfl)
theorem dX13_nextToken_82 : decode cX13_nextToken 82 = .ok (.iload_n 1, 1) := dk_27 (dk_at dksX13_nextToken_3 11 rfl rfl)
theorem dX13_nextToken_83 : decode cX13_nextToken 83 = .ok (.bipush 59, 2) := dk_16 59 (dk_at dksX13_nextToken_3 12 rfl rfl)
theorem dX13_nextToken_85 : decode cX13_nextToken 85 = .ok (.if_icmp .ne 7, 3) := dk_160 0 7 (dk_at dksX13_nextToken_3 14 rfl rfl)
theorem dX13_nextToken_88 : decode cX13_nextToken 88 = .ok (.iconst 3, 1) := dk_6 (dk_at dksX13_nextToken_3 17 rfl rfl)
theorem dX13_nextToken_89 : decode cX13_nextToken 89 = .ok (.goto 4, 3) := dk_167 0 4 (dk_at dksX13_nextToken_3 18 rfl rfl)
theorem dX13_nextToken_92 : decode cX13_nextToken 92 = .ok (.iconst 4, 1) := dk_7 (dk_at dksX13_nextToken_3 21 rfl rfl)
theorem dX13_nextToken_93 : decode cX13_nextToken 93 = .ok (.putfield 225, 3) := dk_181 0 225 (dk_at dksX13_nextToken_4 0 rfl rfl)
theorem dX13_nextToken_96 : decode cX13_nextToken 96 = .ok (.aload_n 0, 1) := dk_42 (dk_at dksX13_nextToken_4 3 rfl rfl)
theorem dX13_nextToken_97 : decode cX13_nextToken 97 = .ok (.iconst 0, 1) := dk_3 (dk_at dksX13_nextToken_4 4 rfl rfl)
theorem dX13_nextToken_98 : decode cX13_nextToken 98 = .ok (.putfield 228, 3) := dk_181 0 228 (dk_at dksX13_nextToken_4 5 rfl rfl)
theorem dX13_nextToken_101 : decode cX13_nextToken 101 = .ok (.aload_n 0, 1) := dk_42 (dk_at dksX13_nextToken_4 8 rfl rfl)
theorem dX13_nextToken_102 : decode cX13_nextToken 102 = .ok (.getfield 225, 3) := dk_180 0 225 (dk_at dksX13_nextToken_4 9 rfl rfl)
theorem dX13_nextToken_105 : decode cX13_nextToken 105 = .ok (.iconst 1, 1) := dk_4 (dk_at dksX13_nextToken_4 12 rfl rfl)
theorem dX13_nextToken_106 : decode cX13_nextToken 106 = .ok (.if_icmp .ne 30, 3) := dk_160 0 30 (dk_at dksX13_nextToken_4 13 rfl rfl)
theorem dX13_nextToken_109 : decode cX13_nextToken 109 = .ok (.aload_n 0, 1) := dk_42 (dk_at dksX13_nextToken_4 16 rfl rfl)
theorem dX13_nextToken_110 : decode cX13_nextToken 110 = .ok (.aload_n 0, 1) := dk_42 (dk_at dksX13_nextToken_4 17 rfl rfl)
theorem dX13_nextToken_111 : decode cX13_nextToken 111 = .ok (.getfield 210, 3) := dk_180 0 210 (dk_at dksX13_nextToken_4 18 rfl rfl)
theorem dX13_nextToken_114 : decode cX13_nextToken 114 = .ok (.invokevirtual 216, 3) := dk_182 0 216 (dk_at dksX13_nextToken_4 21 rfl rfl)
theorem dX13_nextToken_117 : decode cX13_nextToken 117 = .ok (.invokestatic 219, 3) := dk_184 0 219 (dk_at dksX13_nextToken_5 0 rfl rfl)
theorem dX13_nextToken_120 : decode cX13_nextToken 120 = .ok (.ifCond .eq 16, 3) := dk_153 0 16 (dk_at dksX13_nextToken_5 3 rfl rfl)
theorem dX13_nextToken_123 : decode cX13_nextToken 123 = .ok (.aload_n 0, 1) := dk_42 (dk_at dksX13_nextToken_5 6 rfl rfl)
theorem dX13_nextToken_124 : decode cX13_nextToken 124 = .ok (.dup, 1) := dk_89 (dk_at dksX13_nextToken_5 7 rfl rfl)
theorem dX13_nextToken_125 : decode cX13_nextToken 125 = .ok (.getfield 210, 3) := dk_180 0 210 (dk_at dksX13_nextToken_5 8 rfl rfl)
theorem dX13_nextToken_128 : decode cX13_nextToken 128 = .ok (.iconst 1, 1) := dk_4 (dk_at dksX13_nextToken_5 11 rfl rfl)
theorem dX13_nextToken_129 : decode cX13_nextToken 129 = .ok (.iadd, 1) := dk_96 (dk_at dksX13_nextToken_5 12 rfl rfl)
theorem dX13_nextToken_130 : decode cX13_nextToken 130 = .ok (.putfield 210, 3) := dk_181 0 210 (dk_at dksX13_nextToken_5 13 rfl rfl)
theorem dX13_nextToken_133 : decode cX13_nextToken 133 = .ok (.goto (-32), 3) := dk_167 255 224 (dk_at dksX13_nextToken_5 16 rfl rfl)
theorem dX13_nextToken_136 : decode cX13_nextToken 136 = .ok (.aload_n 0, 1) := dk_42 (dk_at dksX13_nextToken_5 19 rfl rfl)
theorem dX13_nextToken_137 : decode cX13_nextToken 137 = .ok (.getfield 225, 3) := dk_180 0 225 (dk_at dksX13_nextToken_5 20 rfl rfl)
theorem dX13_nextToken_140 : decode cX13_nextToken 140 = .ok (.iconst 2, 1) := dk_5 (dk_at dksX13_nextToken_5 23 rfl rfl)
theorem dX13_nextToken_141 : decode cX13_nextToken 141 = .ok (.if_icmp .ne 70, 3) := dk_160 0 70 (dk_at dksX13_nextToken_6 0 rfl rfl)
theorem dX13_nextToken_144 : decode cX13_nextToken 144 = .ok (.aload_n 0, 1) := dk_42 (dk_at dksX13_nextToken_6 3 rfl rfl)
theorem dX13_nextToken_145 : decode cX13_nextToken 145 = .ok (.aload_n 0, 1) := dk_42 (dk_at dksX13_nextToken_6 4 rfl rfl)
theorem dX13_nextToken_146 : decode cX13_nextToken 146 = .ok (.getfield 210, 3) := dk_180 0 210 (dk_at dksX13_nextToken_6 5 rfl rfl)
theorem dX13_nextToken_149 : decode cX13_nextToken 149 = .ok (.invokevirtual 216, 3) := dk_182 0 216 (dk_at dksX13_nextToken_6 8 rfl rfl)
theorem dX13_nextToken_152 : decode cX13_nextToken 152 = .ok (.invokestatic 222, 3) := dk_184 0 222 (dk_at dksX13_nextToken_6 11 rfl rfl)
theorem dX13_nextToken_155 : decode cX13_nextToken 155 = .ok (.ifCond .eq 56, 3) := dk_153 0 56 (dk_at dksX13_nextToken_6 14 rfl rfl)
theorem dX13_nextToken_158 : decode cX13_nextToken 158 = .ok (.aload_n 0, 1) := dk_42 (dk_at dksX13_nextToken_6 17 rfl rfl)
theorem dX13_nextToken_159 : decode cX13_nextToken 159 = .ok (.aload_n 0, 1) := dk_42 (dk_at dksX13_nextToken_6 18 rfl rfl)
theorem dX13_nextToken_160 : decode cX13_nextToken 160 = .ok (.getfield 228, 3) := dk_180 0 228 (dk_at dksX13_nextToken_6 19 rfl rfl)
theorem dX13_nextToken_163 : decode cX13_nextToken 163 = .ok (.sipush 999, 3) := dk_17 3 231 (dk_at dksX13_nextToken_7 0 rfl rfl)
theorem dX13_nextToken_166 : decode cX13_nextToken 166 = .ok (.if_icmp .le 10, 3) := dk_164 0 10 (dk_at dksX13_nextToken_7 3 rfl rfl)
theorem dX13_nextToken_169 : decode cX13_nextToken 169 = .ok (.aload_n 0, 1) := dk_42 (dk_at dksX13_nextToken_7 6 rfl rfl)
theorem dX13_nextToken_170 : decode cX13_nextToken 170 = .ok (.getfield 228, 3) := dk_180 0 228 (dk_at dksX13_nextToken_7 7 rfl rfl)
theorem dX13_nextToken_173 : decode cX13_nextToken 173 = .ok (.goto 22, 3) := dk_167 0 22 (dk_at dksX13_nextToken_7 10 rfl rfl)
theorem dX13_nextToken_176 : decode cX13_nextToken 176 = .ok (.bipush 10, 2) := dk_16 10 (dk_at dksX13_nextToken_7 13 rfl rfl)
theorem dX13_nextToken_178 : decode cX13_nextToken 178 = .ok (.aload_n 0, 1) := dk_42 (dk_at dksX13_nextToken_7 15 rfl rfl)
theorem dX13_nextToken_179 : decode cX13_nextToken 179 = .ok (.getfield 228, 3) := dk_180 0 228 (dk_at dksX13_nextToken_7 16 rfl rfl)
theorem dX13_nextToken_182 : decode cX13_nextToken 182 = .ok (.imul, 1) := dk_104 (dk_at dksX13_nextToken_7 19 rfl rfl)
theorem dX13_nextToken_183 : decode cX13_nextToken 183 = .ok (.aload_n 0, 1) := dk_42 (dk_at dksX13_nextToken_7 20 rfl rfl)
theorem dX13_nextToken_184 : decode cX13_nextToken 184 = .ok (.aload_n 0, 1) := dk_42 (dk_at dksX13_nextToken_7 21 rfl rfl)
theorem dX13_nextToken_185 : decode cX13_nextToken 185 = .ok (.getfield 210, 3) := dk_180 0 210 (dk_at dksX13_nextToken_8 0 rfl rfl)
theorem dX13_nextToken_188 : decode cX13_nextToken 188 = .ok (.invokevirtual 216, 3) := dk_182 0 216 (dk_at dksX13_nextToken_8 3 rfl rfl)
theorem dX13_nextToken_191 : decode cX13_nextToken 191 = .ok (.iadd, 1) := dk_96 (dk_at dksX13_nextToken_8 6 rfl rfl)
theorem dX13_nextToken_192 : decode cX13_nextToken 192 = .ok (.bipush 48, 2) := dk_16 48 (dk_at dksX13_nextToken_8 7 rfl rfl)
theorem dX13_nextToken_194 : decode cX13_nextToken 194 = .ok (.isub, 1) := dk_100 (dk_at dksX13_nextToken_8 9 rfl rfl)
theorem dX13_nextToken_195 : decode cX13_nextToken 195 = .ok (.putfield 228, 3) := dk_181 0 228 (dk_at dksX13_nextToken_8 10 rfl rfl)
theorem dX13_nextToken_198 : decode cX13_nextToken 198 = .ok (.aload_n 0, 1) := dk_42 (dk_at dksX13_nextToken_8 13 rfl rfl)
theorem dX13_nextToken_199 : decode cX13_nextToken 199 = .ok (.dup, 1) := dk_89 (dk_at dksX13_nextToken_8 14 rfl rfl)
theorem dX13_nextToken_200 : decode cX13_nextToken 200 = .ok (.getfield 210, 3) := dk_180 0 210 (dk_at dksX13_nextToken_8 15 rfl rfl)
theorem dX13_nextToken_203 : decode cX13_nextToken 203 = .ok (.iconst 1, 1) := dk_4 (dk_at dksX13_nextToken_8 18 rfl rfl)
theorem dX13_nextToken_204 : decode cX13_nextToken 204 = .ok (.iadd, 1) := dk_96 (dk_at dksX13_nextToken_8 19 rfl rfl)
theorem dX13_nextToken_205 : decode cX13_nextToken 205 = .ok (.putfield 210, 3) := dk_181 0 210 (dk_at dksX13_nextToken_8 20 rfl rfl)
theorem dX13_nextToken_208 : decode cX13_nextToken 208 = .ok (.goto (-72), 3) := dk_167 255 184 (dk_at dksX13_nextToken_9 0 rfl rfl)
theorem dX13_nextToken_211 : decode cX13_nextToken 211 = .ok (.aload_n 0, 1) := dk_42 (dk_at dksX13_nextToken_9 3 rfl rfl)
theorem dX13_nextToken_212 : decode cX13_nextToken 212 = .ok (.dup, 1) := dk_89 (dk_at dksX13_nextToken_9 4 rfl rfl)
theorem dX13_nextToken_213 : decode cX13_nextToken 213 = .ok (.getfield 210, 3) := dk_180 0 210 (dk_at dksX13_nextToken_9 5 rfl rfl)
theorem dX13_nextToken_216 : decode cX13_nextToken 216 = .ok (.aload_n 0, 1) := dk_42 (dk_at dksX13_nextToken_9 8 rfl rfl)
theorem dX13_nextToken_217 : decode cX13_nextToken 217 = .ok (.getfield 225, 3) := dk_180 0 225 (dk_at dksX13_nextToken_9 9 rfl rfl)
theorem dX13_nextToken_220 : decode cX13_nextToken 220 = .ok (.iconst 2, 1) := dk_5 (dk_at dksX13_nextToken_9 12 rfl rfl)
theorem dX13_nextToken_221 : decode cX13_nextToken 221 = .ok (.if_icmp .le 7, 3) := dk_164 0 7 (dk_at dksX13_nextToken_9 13 rfl rfl)
theorem dX13_nextToken_224 : decode cX13_nextToken 224 = .ok (.iconst 1, 1) := dk_4 (dk_at dksX13_nextToken_9 16 rfl rfl)
theorem dX13_nextToken_225 : decode cX13_nextToken 225 = .ok (.goto 4, 3) := dk_167 0 4 (dk_at dksX13_nextToken_9 17 rfl rfl)
theorem dX13_nextToken_228 : decode cX13_nextToken 228 = .ok (.iconst 0, 1) := dk_3 (dk_at dksX13_nextToken_9 20 rfl rfl)
theorem dX13_nextToken_229 : decode cX13_nextToken 229 = .ok (.iadd, 1) := dk_96 (dk_at dksX13_nextToken_9 21 rfl rfl)
theorem dX13_nextToken_230 : decode cX13_nextToken 230 = .ok (.putfield 210, 3) := dk_181 0 210 (dk_at dksX13_nextToken_10 0 rfl rfl)
theorem dX13_nextToken_233 : decode cX13_nextToken 233 = .ok (.return_, 1) := dk_177 (dk_at dksX13_nextToken_10 3 rfl rfl)
abbrev cX13_byteAt : ByteArray := prog_16_method_73_code
def yX13_byteAt : MethodName := ⟨RX13, "byteAt", "(I)I"⟩
def dkwX13_byteAt_0 : List UInt8 := [27, 42, 180, 0, 207, 162, 0, 12, 42, 180, 0, 25, 27, 46, 167, 0, 4, 2, 172]
abbrev dktX13_byteAt_0 : List UInt8 := dkwX13_byteAt_0 ++ []
theorem dksX13_byteAt_0 : cX13_byteAt.data.toList.drop 0 = dktX13_byteAt_0 := by decide +kernel
theorem dX13_byteAt_0 : decode cX13_byteAt 0 = .ok (.iload_n 1, 1) := dk_27 (dk_at dksX13_byteAt_0 0 rfl rfl)
theorem dX13_byteAt_1 : decode cX13_byteAt 1 = .ok (.aload_n 0, 1) := dk_42 (dk_at dksX13_byteAt_0 1 rfl rfl)
theorem dX13_byteAt_2 : decode cX13_byteAt 2 = .ok (.getfield 207, 3) := dk_180 0 207 (dk_at dksX13_byteAt_0 2 rfl rfl)
theorem dX13_byteAt_5 : decode cX13_byteAt 5 = .ok (.if_icmp .ge 12, 3) := dk_162 0 12 (dk_at dksX13_byteAt_0 5 rfl rfl)
theorem dX13_byteAt_8 : decode cX13_byteAt 8 = .ok (.aload_n 0, 1) := dk_42 (dk_at dksX13_byteAt_0 8 rfl rfl)
theorem dX13_byteAt_9 : decode cX13_byteAt 9 = .ok (.getfield 25, 3) := dk_180 0 25 (dk_at dksX13_byteAt_0 9 rfl rfl)
theorem dX13_byteAt_12 : decode cX13_byteAt 12 = .ok (.iload_n 1, 1) := dk_27 (dk_at dksX13_byteAt_0 12 rfl rfl)
theorem dX13_byteAt_13 : decode cX13_byteAt 13 = .ok (.iaload, 1) := dk_46 (dk_at dksX13_byteAt_0 13 rfl rfl)
theorem dX13_byteAt_14 : decode cX13_byteAt 14 = .ok (.goto 4, 3) := dk_167 0 4 (dk_at dksX13_byteAt_0 14 rfl rfl)
theorem dX13_byteAt_17 : decode cX13_byteAt 17 = .ok (.iconst (-1), 1) := dk_2 (dk_at dksX13_byteAt_0 17 rfl rfl)
theorem dX13_byteAt_18 : decode cX13_byteAt 18 = .ok (.ireturn, 1) := dk_172 (dk_at dksX13_byteAt_0 18 rfl rfl)
abbrev cX13_isLetter : ByteArray := prog_16_method_71_code
def yX13_isLetter : MethodName := ⟨RX13, "isLetter", "(I)Z"⟩
def dkwX13_isLetter_0 : List UInt8 := [26, 16, 97, 161, 0, 13, 26, 16, 122, 163, 0, 7, 4, 167, 0, 4, 3, 172]
abbrev dktX13_isLetter_0 : List UInt8 := dkwX13_isLetter_0 ++ []
theorem dksX13_isLetter_0 : cX13_isLetter.data.toList.drop 0 = dktX13_isLetter_0 := by decide +kernel
theorem dX13_isLetter_0 : decode cX13_isLetter 0 = .ok (.iload_n 0, 1) := dk_26 (dk_at dksX13_isLetter_0 0 rfl rfl)
theorem dX13_isLetter_1 : decode cX13_isLetter 1 = .ok (.bipush 97, 2) := dk_16 97 (dk_at dksX13_isLetter_0 1 rfl rfl)
theorem dX13_isLetter_3 : decode cX13_isLetter 3 = .ok (.if_icmp .lt 13, 3) := dk_161 0 13 (dk_at dksX13_isLetter_0 3 rfl rfl)
theorem dX13_isLetter_6 : decode cX13_isLetter 6 = .ok (.iload_n 0, 1) := dk_26 (dk_at dksX13_isLetter_0 6 rfl rfl)
theorem dX13_isLetter_7 : decode cX13_isLetter 7 = .ok (.bipush 122, 2) := dk_16 122 (dk_at dksX13_isLetter_0 7 rfl rfl)
theorem dX13_isLetter_9 : decode cX13_isLetter 9 = .ok (.if_icmp .gt 7, 3) := dk_163 0 7 (dk_at dksX13_isLetter_0 9 rfl rfl)
theorem dX13_isLetter_12 : decode cX13_isLetter 12 = .ok (.iconst 1, 1) := dk_4 (dk_at dksX13_isLetter_0 12 rfl rfl)
theorem dX13_isLetter_13 : decode cX13_isLetter 13 = .ok (.goto 4, 3) := dk_167 0 4 (dk_at dksX13_isLetter_0 13 rfl rfl)
theorem dX13_isLetter_16 : decode cX13_isLetter 16 = .ok (.iconst 0, 1) := dk_3 (dk_at dksX13_isLetter_0 16 rfl rfl)
theorem dX13_isLetter_17 : decode cX13_isLetter 17 = .ok (.ireturn, 1) := dk_172 (dk_at dksX13_isLetter_0 17 rfl rfl)
abbrev cX13_isDigit : ByteArray := prog_16_method_72_code
def yX13_isDigit : MethodName := ⟨RX13, "isDigit", "(I)Z"⟩
def dkwX13_isDigit_0 : List UInt8 := [26, 16, 48, 161, 0, 13, 26, 16, 57, 163, 0, 7, 4, 167, 0, 4, 3, 172]
abbrev dktX13_isDigit_0 : List UInt8 := dkwX13_isDigit_0 ++ []
theorem dksX13_isDigit_0 : cX13_isDigit.data.toList.drop 0 = dktX13_isDigit_0 := by decide +kernel
theorem dX13_isDigit_0 : decode cX13_isDigit 0 = .ok (.iload_n 0, 1) := dk_26 (dk_at dksX13_isDigit_0 0 rfl rfl)
theorem dX13_isDigit_1 : decode cX13_isDigit 1 = .ok (.bipush 48, 2) := dk_16 48 (dk_at dksX13_isDigit_0 1 rfl rfl)
theorem dX13_isDigit_3 : decode cX13_isDigit 3 = .ok (.if_icmp .lt 13, 3) := dk_161 0 13 (dk_at dksX13_isDigit_0 3 rfl rfl)
theorem dX13_isDigit_6 : decode cX13_isDigit 6 = .ok (.iload_n 0, 1) := dk_26 (dk_at dksX13_isDigit_0 6 rfl rfl)
theorem dX13_isDigit_7 : decode cX13_isDigit 7 = .ok (.bipush 57, 2) := dk_16 57 (dk_at dksX13_isDigit_0 7 rfl rfl)
theorem dX13_isDigit_9 : decode cX13_isDigit 9 = .ok (.if_icmp .gt 7, 3) := dk_163 0 7 (dk_at dksX13_isDigit_0 9 rfl rfl)
theorem dX13_isDigit_12 : decode cX13_isDigit 12 = .ok (.iconst 1, 1) := dk_4 (dk_at dksX13_isDigit_0 12 rfl rfl)
theorem dX13_isDigit_13 : decode cX13_isDigit 13 = .ok (.goto 4, 3) := dk_167 0 4 (dk_at dksX13_isDigit_0 13 rfl rfl)
theorem dX13_isDigit_16 : decode cX13_isDigit 16 = .ok (.iconst 0, 1) := dk_3 (dk_at dksX13_isDigit_0 16 rfl rfl)
theorem dX13_isDigit_17 : decode cX13_isDigit 17 = .ok (.ireturn, 1) := dk_172 (dk_at dksX13_isDigit_0 17 rfl rfl)
abbrev cX13_itemHere : ByteArray := prog_16_method_86_code
def yX13_itemHere : MethodName := ⟨RX13, "itemHere", "()Z"⟩
def dkwX13_itemHere_3 : List UInt8 := [172]
abbrev dktX13_itemHere_3 : List UInt8 := dkwX13_itemHere_3 ++ []
def dkwX13_itemHere_2 : List UInt8 := [16, 115, 16, 116, 182, 0, 248, 153, 0, 13, 42, 7, 16, 9, 182, 1, 16, 167, 0, 7, 42, 182, 0, 241]
abbrev dktX13_itemHere_2 : List UInt8 := dkwX13_itemHere_2 ++ dktX13_itemHere_3
def dkwX13_itemHere_1 : List UInt8 := [16, 109, 182, 0, 248, 153, 0, 12, 42, 16, 10, 16, 99, 182, 1, 16, 172, 42, 16, 102, 16, 114, 16, 111]
abbrev dktX13_itemHere_1 : List UInt8 := dkwX13_itemHere_1 ++ dktX13_itemHere_2
def dkwX13_itemHere_0 : List UInt8 := [42, 182, 1, 10, 60, 27, 155, 0, 9, 42, 27, 182, 1, 13, 172, 42, 16, 115, 16, 116, 16, 111, 16, 114]
abbrev dktX13_itemHere_0 : List UInt8 := dkwX13_itemHere_0 ++ dktX13_itemHere_1
theorem dksX13_itemHere_0 : cX13_itemHere.data.toList.drop 0 = dktX13_itemHere_0 := by decide +kernel
theorem dksX13_itemHere_1 : cX13_itemHere.data.toList.drop 24 = dktX13_itemHere_1 := dk_seg dksX13_itemHere_0 24 rfl rfl
theorem dksX13_itemHere_2 : cX13_itemHere.data.toList.drop 48 = dktX13_itemHere_2 := dk_seg dksX13_itemHere_1 24 rfl rfl
theorem dksX13_itemHere_3 : cX13_itemHere.data.toList.drop 72 = dktX13_itemHere_3 := dk_seg dksX13_itemHere_2 24 rfl rfl
theorem dX13_itemHere_0 : decode cX13_itemHere 0 = .ok (.aload_n 0, 1) := dk_42 (dk_at dksX13_itemHere_0 0 rfl rfl)
theorem dX13_itemHere_1 : decode cX13_itemHere 1 = .ok (.invokevirtual 266, 3) := dk_182 1 10 (dk_at dksX13_itemHere_0 1 rfl rfl)
theorem dX13_itemHere_4 : decode cX13_itemHere 4 = .ok (.istore_n 1, 1) := dk_60 (dk_at dksX13_itemHere_0 4 rfl rfl)
theorem dX13_itemHere_5 : decode cX13_itemHere 5 = .ok (.iload_n 1, 1) := dk_27 (dk_at dksX13_itemHere_0 5 rfl rfl)
theorem dX13_itemHere_6 : decode cX13_itemHere 6 = .ok (.ifCond .lt 9, 3) := dk_155 0 9 (dk_at dksX13_itemHere_0 6 rfl rfl)
theorem dX13_itemHere_9 : decode cX13_itemHere 9 = .ok (.aload_n 0, 1) := dk_42 (dk_at dksX13_itemHere_0 9 rfl rfl)
theorem dX13_itemHere_10 : decode cX13_itemHere 10 = .ok (.iload_n 1, 1) := dk_27 (dk_at dksX13_itemHere_0 10 rfl rfl)
theorem dX13_itemHere_11 : decode cX13_itemHere 11 = .ok (.invokevirtual 269, 3) := dk_182 1 13 (dk_at dksX13_itemHere_0 11 rfl rfl)
theorem dX13_itemHere_14 : decode cX13_itemHere 14 = .ok (.ireturn, 1) := dk_172 (dk_at dksX13_itemHere_0 14 rfl rfl)
theorem dX13_itemHere_15 : decode cX13_itemHere 15 = .ok (.aload_n 0, 1) := dk_42 (dk_at dksX13_itemHere_0 15 rfl rfl)
theorem dX13_itemHere_16 : decode cX13_itemHere 16 = .ok (.bipush 115, 2) := dk_16 115 (dk_at dksX13_itemHere_0 16 rfl rfl)
theorem dX13_itemHere_18 : decode cX13_itemHere 18 = .ok (.bipush 116, 2) := dk_16 116 (dk_at dksX13_itemHere_0 18 rfl rfl)
theorem dX13_itemHere_20 : decode cX13_itemHere 20 = .ok (.bipush 111, 2) := dk_16 111 (dk_at dksX13_itemHere_0 20 rfl rfl)
theorem dX13_itemHere_22 : decode cX13_itemHere 22 = .ok (.bipush 114, 2) := dk_16 114 (dk_at dksX13_itemHere_0 22 rfl rfl)
theorem dX13_itemHere_24 : decode cX13_itemHere 24 = .ok (.bipush 109, 2) := dk_16 109 (dk_at dksX13_itemHere_1 0 rfl rfl)
theorem dX13_itemHere_26 : decode cX13_itemHere 26 = .ok (.invokevirtual 248, 3) := dk_182 0 248 (dk_at dksX13_itemHere_1 2 rfl rfl)
theorem dX13_itemHere_29 : decode cX13_itemHere 29 = .ok (.ifCond .eq 12, 3) := dk_153 0 12 (dk_at dksX13_itemHere_1 5 rfl rfl)
theorem dX13_itemHere_32 : decode cX13_itemHere 32 = .ok (.aload_n 0, 1) := dk_42 (dk_at dksX13_itemHere_1 8 rfl rfl)
theorem dX13_itemHere_33 : decode cX13_itemHere 33 = .ok (.bipush 10, 2) := dk_16 10 (dk_at dksX13_itemHere_1 9 rfl rfl)
theorem dX13_itemHere_35 : decode cX13_itemHere 35 = .ok (.bipush 99, 2) := dk_16 99 (dk_at dksX13_itemHere_1 11 rfl rfl)
theorem dX13_itemHere_37 : decode cX13_itemHere 37 = .ok (.invokevirtual 272, 3) := dk_182 1 16 (dk_at dksX13_itemHere_1 13 rfl rfl)
theorem dX13_itemHere_40 : decode cX13_itemHere 40 = .ok (.ireturn, 1) := dk_172 (dk_at dksX13_itemHere_1 16 rfl rfl)
theorem dX13_itemHere_41 : decode cX13_itemHere 41 = .ok (.aload_n 0, 1) := dk_42 (dk_at dksX13_itemHere_1 17 rfl rfl)
theorem dX13_itemHere_42 : decode cX13_itemHere 42 = .ok (.bipush 102, 2) := dk_16 102 (dk_at dksX13_itemHere_1 18 rfl rfl)
theorem dX13_itemHere_44 : decode cX13_itemHere 44 = .ok (.bipush 114, 2) := dk_16 114 (dk_at dksX13_itemHere_1 20 rfl rfl)
theorem dX13_itemHere_46 : decode cX13_itemHere 46 = .ok (.bipush 111, 2) := dk_16 111 (dk_at dksX13_itemHere_1 22 rfl rfl)
theorem dX13_itemHere_48 : decode cX13_itemHere 48 = .ok (.bipush 115, 2) := dk_16 115 (dk_at dksX13_itemHere_2 0 rfl rfl)
theorem dX13_itemHere_50 : decode cX13_itemHere 50 = .ok (.bipush 116, 2) := dk_16 116 (dk_at dksX13_itemHere_2 2 rfl rfl)
theorem dX13_itemHere_52 : decode cX13_itemHere 52 = .ok (.invokevirtual 248, 3) := dk_182 0 248 (dk_at dksX13_itemHere_2 4 rfl rfl)
theorem dX13_itemHere_55 : decode cX13_itemHere 55 = .ok (.ifCond .eq 13, 3) := dk_153 0 13 (dk_at dksX13_itemHere_2 7 rfl rfl)
theorem dX13_itemHere_58 : decode cX13_itemHere 58 = .ok (.aload_n 0, 1) := dk_42 (dk_at dksX13_itemHere_2 10 rfl rfl)
theorem dX13_itemHere_59 : decode cX13_itemHere 59 = .ok (.iconst 4, 1) := dk_7 (dk_at dksX13_itemHere_2 11 rfl rfl)
theorem dX13_itemHere_60 : decode cX13_itemHere 60 = .ok (.bipush 9, 2) := dk_16 9 (dk_at dksX13_itemHere_2 12 rfl rfl)
theorem dX13_itemHere_62 : decode cX13_itemHere 62 = .ok (.invokevirtual 272, 3) := dk_182 1 16 (dk_at dksX13_itemHere_2 14 rfl rfl)
theorem dX13_itemHere_65 : decode cX13_itemHere 65 = .ok (.goto 7, 3) := dk_167 0 7 (dk_at dksX13_itemHere_2 17 rfl rfl)
theorem dX13_itemHere_68 : decode cX13_itemHere 68 = .ok (.aload_n 0, 1) := dk_42 (dk_at dksX13_itemHere_2 20 rfl rfl)
theorem dX13_itemHere_69 : decode cX13_itemHere 69 = .ok (.invokevirtual 241, 3) := dk_182 0 241 (dk_at dksX13_itemHere_2 21 rfl rfl)
theorem dX13_itemHere_72 : decode cX13_itemHere 72 = .ok (.ireturn, 1) := dk_172 (dk_at dksX13_itemHere_3 0 rfl rfl)
abbrev cX13_kindHere : ByteArray := prog_16_method_82_code
def yX13_kindHere : MethodName := ⟨RX13, "kindHere", "()I"⟩
def dkwX13_kindHere_5 : List UInt8 := [16, 100, 182, 0, 252, 153, 0, 8, 16, 6, 167, 0, 4, 2, 172]
abbrev dktX13_kindHere_5 : List UInt8 := dkwX13_kindHere_5 ++ []
def dkwX13_kindHere_4 : List UInt8 := [16, 97, 16, 116, 182, 0, 245, 153, 0, 5, 8, 172, 42, 16, 102, 16, 111, 16, 114, 16, 103, 16, 101]
abbrev dktX13_kindHere_4 : List UInt8 := dkwX13_kindHere_4 ++ dktX13_kindHere_5
def dkwX13_kindHere_3 : List UInt8 := [6, 172, 42, 16, 101, 16, 99, 16, 104, 16, 111, 182, 0, 245, 153, 0, 5, 7, 172, 42, 16, 104, 16, 101]
abbrev dktX13_kindHere_3 : List UInt8 := dkwX13_kindHere_3 ++ dktX13_kindHere_4
def dkwX13_kindHere_2 : List UInt8 := [153, 0, 5, 5, 172, 42, 16, 109, 16, 101, 16, 108, 16, 108, 16, 111, 16, 119, 182, 0, 252, 153, 0, 5]
abbrev dktX13_kindHere_2 : List UInt8 := dkwX13_kindHere_2 ++ dktX13_kindHere_3
def dkwX13_kindHere_1 : List UInt8 := [16, 99, 16, 107, 182, 0, 248, 153, 0, 5, 4, 172, 42, 16, 114, 16, 111, 16, 108, 16, 108, 182, 0, 245]
abbrev dktX13_kindHere_1 : List UInt8 := dkwX13_kindHere_1 ++ dktX13_kindHere_2
def dkwX13_kindHere_0 : List UInt8 := [42, 16, 99, 16, 97, 16, 115, 16, 107, 182, 0, 245, 153, 0, 5, 3, 172, 42, 16, 99, 16, 114, 16, 97]
abbrev dktX13_kindHere_0 : List UInt8 := dkwX13_kindHere_0 ++ dktX13_kindHere_1
theorem dksX13_kindHere_0 : cX13_kindHere.data.toList.drop 0 = dktX13_kindHere_0 := by decide +kernel
theorem dksX13_kindHere_1 : cX13_kindHere.data.toList.drop 24 = dktX13_kindHere_1 := dk_seg dksX13_kindHere_0 24 rfl rfl
theorem dksX13_kindHere_2 : cX13_kindHere.data.toList.drop 48 = dktX13_kindHere_2 := dk_seg dksX13_kindHere_1 24 rfl rfl
theorem dksX13_kindHere_3 : cX13_kindHere.data.toList.drop 72 = dktX13_kindHere_3 := dk_seg dksX13_kindHere_2 24 rfl rfl
theorem dksX13_kindHere_4 : cX13_kindHere.data.toList.drop 96 = dktX13_kindHere_4 := dk_seg dksX13_kindHere_3 24 rfl rfl
theorem dksX13_kindHere_5 : cX13_kindHere.data.toList.drop 119 = dktX13_kindHere_5 := dk_seg dksX13_kindHere_4 23 rfl rfl
theorem dX13_kindHere_0 : decode cX13_kindHere 0 = .ok (.aload_n 0, 1) := dk_42 (dk_at dksX13_kindHere_0 0 rfl rfl)
theorem dX13_kindHere_1 : decode cX13_kindHere 1 = .ok (.bipush 99, 2) := dk_16 99 (dk_at dksX13_kindHere_0 1 rfl rfl)
theorem dX13_kindHere_3 : decode cX13_kindHere 3 = .ok (.bipush 97, 2) := dk_16 97 (dk_at dksX13_kindHere_0 3 rfl rfl)
theorem dX13_kindHere_5 : decode cX13_kindHere 5 = .ok (.bipush 115, 2) := dk_16 115 (dk_at dksX13_kindHere_0 5 rfl rfl)
theorem dX13_kindHere_7 : decode cX13_kindHere 7 = .ok (.bipush 107, 2) := dk_16 107 (dk_at dksX13_kindHere_0 7 rfl rfl)
theorem dX13_kindHere_9 : decode cX13_kindHere 9 = .ok (.invokevirtual 245, 3) := dk_182 0 245 (dk_at dksX13_kindHere_0 9 rfl rfl)
theorem dX13_kindHere_12 : decode cX13_kindHere 12 = .ok (.ifCond .eq 5, 3) := dk_153 0 5 (dk_at dksX13_kindHere_0 12 rfl rfl)
theorem dX13_kindHere_15 : decode cX13_kindHere 15 = .ok (.iconst 0, 1) := dk_3 (dk_at dksX13_kindHere_0 15 rfl rfl)
theorem dX13_kindHere_16 : decode cX13_kindHere 16 = .ok (.ireturn, 1) := dk_172 (dk_at dksX13_kindHere_0 16 rfl rfl)
theorem dX13_kindHere_17 : decode cX13_kindHere 17 = .ok (.aload_n 0, 1) := dk_42 (dk_at dksX13_kindHere_0 17 rfl rfl)
theorem dX13_kindHere_18 : decode cX13_kindHere 18 = .ok (.bipush 99, 2) := dk_16 99 (dk_at dksX13_kindHere_0 18 rfl rfl)
theorem dX13_kindHere_20 : decode cX13_kindHere 20 = .ok (.bipush 114, 2) := dk_16 114 (dk_at dksX13_kindHere_0 20 rfl rfl)
theorem dX13_kindHere_22 : decode cX13_kindHere 22 = .ok (.bipush 97, 2) := dk_16 97 (dk_at dksX13_kindHere_0 22 rfl rfl)
theorem dX13_kindHere_24 : decode cX13_kindHere 24 = .ok (.bipush 99, 2) := dk_16 99 (dk_at dksX13_kindHere_1 0 rfl rfl)
theorem dX13_kindHere_26 : decode cX13_kindHere 26 = .ok (.bipush 107, 2) := dk_16 107 (dk_at dksX13_kindHere_1 2 rfl rfl)
theorem dX13_kindHere_28 : decode cX13_kindHere 28 = .ok (.invokevirtual 248, 3) := dk_182 0 248 (dk_at dksX13_kindHere_1 4 rfl rfl)
theorem dX13_kindHere_31 : decode cX13_kindHere 31 = .ok (.ifCond .eq 5, 3) := dk_153 0 5 (dk_at dksX13_kindHere_1 7 rfl rfl)
theorem dX13_kindHere_34 : decode cX13_kindHere 34 = .ok (.iconst 1, 1) := dk_4 (dk_at dksX13_kindHere_1 10 rfl rfl)
theorem dX13_kindHere_35 : decode cX13_kindHere 35 = .ok (.ireturn, 1) := dk_172 (dk_at dksX13_kindHere_1 11 rfl rfl)
theorem dX13_kindHere_36 : decode cX13_kindHere 36 = .ok (.aload_n 0, 1) := dk_42 (dk_at dksX13_kindHere_1 12 rfl rfl)
theorem dX13_kindHere_37 : decode cX13_kindHere 37 = .ok (.bipush 114, 2) := dk_16 114 (dk_at dksX13_kindHere_1 13 rfl rfl)
theorem dX13_kindHere_39 : decode cX13_kindHere 39 = .ok (.bipush 111, 2) := dk_16 111 (dk_at dksX13_kindHere_1 15 rfl rfl)
theorem dX13_kindHere_41 : decode cX13_kindHere 41 = .ok (.bipush 108, 2) := dk_16 108 (dk_at dksX13_kindHere_1 17 rfl rfl)
theorem dX13_kindHere_43 : decode cX13_kindHere 43 = .ok (.bipush 108, 2) := dk_16 108 (dk_at dksX13_kindHere_1 19 rfl rfl)
theorem dX13_kindHere_45 : decode cX13_kindHere 45 = .ok (.invokevirtual 245, 3) := dk_182 0 245 (dk_at dksX13_kindHere_1 21 rfl rfl)
theorem dX13_kindHere_48 : decode cX13_kindHere 48 = .ok (.ifCond .eq 5, 3) := dk_153 0 5 (dk_at dksX13_kindHere_2 0 rfl rfl)
theorem dX13_kindHere_51 : decode cX13_kindHere 51 = .ok (.iconst 2, 1) := dk_5 (dk_at dksX13_kindHere_2 3 rfl rfl)
theorem dX13_kindHere_52 : decode cX13_kindHere 52 = .ok (.ireturn, 1) := dk_172 (dk_at dksX13_kindHere_2 4 rfl rfl)
theorem dX13_kindHere_53 : decode cX13_kindHere 53 = .ok (.aload_n 0, 1) := dk_42 (dk_at dksX13_kindHere_2 5 rfl rfl)
theorem dX13_kindHere_54 : decode cX13_kindHere 54 = .ok (.bipush 109, 2) := dk_16 109 (dk_at dksX13_kindHere_2 6 rfl rfl)
theorem dX13_kindHere_56 : decode cX13_kindHere 56 = .ok (.bipush 101, 2) := dk_16 101 (dk_at dksX13_kindHere_2 8 rfl rfl)
theorem dX13_kindHere_58 : decode cX13_kindHere 58 = .ok (.bipush 108, 2) := dk_16 108 (dk_at dksX13_kindHere_2 10 rfl rfl)
theorem dX13_kindHere_60 : decode cX13_kindHere 60 = .ok (.bipush 108, 2) := dk_16 108 (dk_at dksX13_kindHere_2 12 rfl rfl)
theorem dX13_kindHere_62 : decode cX13_kindHere 62 = .ok (.bipush 111, 2) := dk_16 111 (dk_at dksX13_kindHere_2 14 rfl rfl)
theorem dX13_kindHere_64 : decode cX13_kindHere 64 = .ok (.bipush 119, 2) := dk_16 119 (dk_at dksX13_kindHere_2 16 rfl rfl)
theorem dX13_kindHere_66 : decode cX13_kindHere 66 = .ok (.invokevirtual 252, 3) := dk_182 0 252 (dk_at dksX13_kindHere_2 18 rfl rfl)
theorem dX13_kindHere_69 : decode cX13_kindHere 69 = .ok (.ifCond .eq 5, 3) := dk_153 0 5 (dk_at dksX13_kindHere_2 21 rfl rfl)
theorem dX13_kindHere_72 : decode cX13_kindHere 72 = .ok (.iconst 3, 1) := dk_6 (dk_at dksX13_kindHere_3 0 rfl rfl)
theorem dX13_kindHere_73 : decode cX13_kindHere 73 = .ok (.ireturn, 1) := dk_172 (dk_at dksX13_kindHere_3 1 rfl rfl)
theorem dX13_kindHere_74 : decode cX13_kindHere 74 = .ok (.aload_n 0, 1) := dk_42 (dk_at dksX13_kindHere_3 2 rfl rfl)
theorem dX13_kindHere_75 : decode cX13_kindHere 75 = .ok (.bipush 101, 2) := dk_16 101 (dk_at dksX13_kindHere_3 3 rfl rfl)
theorem dX13_kindHere_77 : decode cX13_kindHere 77 = .ok (.bipush 99, 2) := dk_16 99 (dk_at dksX13_kindHere_3 5 rfl rfl)
theorem dX13_kindHere_79 : decode cX13_kindHere 79 = .ok (.bipush 104, 2) := dk_16 104 (dk_at dksX13_kindHere_3 7 rfl rfl)
theorem dX13_kindHere_81 : decode cX13_kindHere 81 = .ok (.bipush 111, 2) := dk_16 111 (dk_at dksX13_kindHere_3 9 rfl rfl)
theorem dX13_kindHere_83 : decode cX13_kindHere 83 = .ok (.invokevirtual 245, 3) := dk_182 0 245 (dk_at dksX13_kindHere_3 11 rfl rfl)
theorem dX13_kindHere_86 : decode cX13_kindHere 86 = .ok (.ifCond .eq 5, 3) := dk_153 0 5 (dk_at dksX13_kindHere_3 14 rfl rfl)
theorem dX13_kindHere_89 : decode cX13_kindHere 89 = .ok (.iconst 4, 1) := dk_7 (dk_at dksX13_kindHere_3 17 rfl rfl)
theorem dX13_kindHere_90 : decode cX13_kindHere 90 = .ok (.ireturn, 1) := dk_172 (dk_at dksX13_kindHere_3 18 rfl rfl)
theorem dX13_kindHere_91 : decode cX13_kindHere 91 = .ok (.aload_n 0, 1) := dk_42 (dk_at dksX13_kindHere_3 19 rfl rfl)
theorem dX13_kindHere_92 : decode cX13_kindHere 92 = .ok (.bipush 104, 2) := dk_16 104 (dk_at dksX13_kindHere_3 20 rfl rfl)
theorem dX13_kindHere_94 : decode cX13_kindHere 94 = .ok (.bipush 101, 2) := dk_16 101 (dk_at dksX13_kindHere_3 22 rfl rfl)
theorem dX13_kindHere_96 : decode cX13_kindHere 96 = .ok (.bipush 97, 2) := dk_16 97 (dk_at dksX13_kindHere_4 0 rfl rfl)
theorem dX13_kindHere_98 : decode cX13_kindHere 98 = .ok (.bipush 116, 2) := dk_16 116 (dk_at dksX13_kindHere_4 2 rfl rfl)
theorem dX13_kindHere_100 : decode cX13_kindHere 100 = .ok (.invokevirtual 245, 3) := dk_182 0 245 (dk_at dksX13_kindHere_4 4 rfl rfl)
theorem dX13_kindHere_103 : decode cX13_kindHere 103 = .ok (.ifCond .eq 5, 3) := dk_153 0 5 (dk_at dksX13_kindHere_4 7 rfl rfl)
theorem dX13_kindHere_106 : decode cX13_kindHere 106 = .ok (.iconst 5, 1) := dk_8 (dk_at dksX13_kindHere_4 10 rfl rfl)
theorem dX13_kindHere_107 : decode cX13_kindHere 107 = .ok (.ireturn, 1) := dk_172 (dk_at dksX13_kindHere_4 11 rfl rfl)
theorem dX13_kindHere_108 : decode cX13_kindHere 108 = .ok (.aload_n 0, 1) := dk_42 (dk_at dksX13_kindHere_4 12 rfl rfl)
theorem dX13_kindHere_109 : decode cX13_kindHere 109 = .ok (.bipush 102, 2) := dk_16 102 (dk_at dksX13_kindHere_4 13 rfl rfl)
theorem dX13_kindHere_111 : decode cX13_kindHere 111 = .ok (.bipush 111, 2) := dk_16 111 (dk_at dksX13_kindHere_4 15 rfl rfl)
theorem dX13_kindHere_113 : decode cX13_kindHere 113 = .ok (.bipush 114, 2) := dk_16 114 (dk_at dksX13_kindHere_4 17 rfl rfl)
theorem dX13_kindHere_115 : decode cX13_kindHere 115 = .ok (.bipush 103, 2) := dk_16 103 (dk_at dksX13_kindHere_4 19 rfl rfl)
theorem dX13_kindHere_117 : decode cX13_kindHere 117 = .ok (.bipush 101, 2) := dk_16 101 (dk_at dksX13_kindHere_4 21 rfl rfl)
theorem dX13_kindHere_119 : decode cX13_kindHere 119 = .ok (.bipush 100, 2) := dk_16 100 (dk_at dksX13_kindHere_5 0 rfl rfl)
theorem dX13_kindHere_121 : decode cX13_kindHere 121 = .ok (.invokevirtual 252, 3) := dk_182 0 252 (dk_at dksX13_kindHere_5 2 rfl rfl)
theorem dX13_kindHere_124 : decode cX13_kindHere 124 = .ok (.ifCond .eq 8, 3) := dk_153 0 8 (dk_at dksX13_kindHere_5 5 rfl rfl)
theorem dX13_kindHere_127 : decode cX13_kindHere 127 = .ok (.bipush 6, 2) := dk_16 6 (dk_at dksX13_kindHere_5 8 rfl rfl)
theorem dX13_kindHere_129 : decode cX13_kindHere 129 = .ok (.goto 4, 3) := dk_167 0 4 (dk_at dksX13_kindHere_5 10 rfl rfl)
theorem dX13_kindHere_132 : decode cX13_kindHere 132 = .ok (.iconst (-1), 1) := dk_2 (dk_at dksX13_kindHere_5 13 rfl rfl)
theorem dX13_kindHere_133 : decode cX13_kindHere 133 = .ok (.ireturn, 1) := dk_172 (dk_at dksX13_kindHere_5 14 rfl rfl)
abbrev cX13_isFour : ByteArray := prog_16_method_78_code
def yX13_isFour : MethodName := ⟨RX13, "isFour", "(IIII)Z"⟩
def dkwX13_isFour_1 : List UInt8 := [21, 4, 182, 0, 237, 153, 0, 7, 4, 167, 0, 4, 3, 172]
abbrev dktX13_isFour_1 : List UInt8 := dkwX13_isFour_1 ++ []
def dkwX13_isFour_0 : List UInt8 := [42, 7, 182, 0, 234, 153, 0, 30, 42, 3, 27, 28, 29, 182, 0, 237, 153, 0, 19, 42, 4, 28, 29]
abbrev dktX13_isFour_0 : List UInt8 := dkwX13_isFour_0 ++ dktX13_isFour_1
theorem dksX13_isFour_0 : cX13_isFour.data.toList.drop 0 = dktX13_isFour_0 := by decide +kernel
theorem dksX13_isFour_1 : cX13_isFour.data.toList.drop 23 = dktX13_isFour_1 := dk_seg dksX13_isFour_0 23 rfl rfl
theorem dX13_isFour_0 : decode cX13_isFour 0 = .ok (.aload_n 0, 1) := dk_42 (dk_at dksX13_isFour_0 0 rfl rfl)
theorem dX13_isFour_1 : decode cX13_isFour 1 = .ok (.iconst 4, 1) := dk_7 (dk_at dksX13_isFour_0 1 rfl rfl)
theorem dX13_isFour_2 : decode cX13_isFour 2 = .ok (.invokevirtual 234, 3) := dk_182 0 234 (dk_at dksX13_isFour_0 2 rfl rfl)
theorem dX13_isFour_5 : decode cX13_isFour 5 = .ok (.ifCond .eq 30, 3) := dk_153 0 30 (dk_at dksX13_isFour_0 5 rfl rfl)
theorem dX13_isFour_8 : decode cX13_isFour 8 = .ok (.aload_n 0, 1) := dk_42 (dk_at dksX13_isFour_0 8 rfl rfl)
theorem dX13_isFour_9 : decode cX13_isFour 9 = .ok (.iconst 0, 1) := dk_3 (dk_at dksX13_isFour_0 9 rfl rfl)
theorem dX13_isFour_10 : decode cX13_isFour 10 = .ok (.iload_n 1, 1) := dk_27 (dk_at dksX13_isFour_0 10 rfl rfl)
theorem dX13_isFour_11 : decode cX13_isFour 11 = .ok (.iload_n 2, 1) := dk_28 (dk_at dksX13_isFour_0 11 rfl rfl)
theorem dX13_isFour_12 : decode cX13_isFour 12 = .ok (.iload_n 3, 1) := dk_29 (dk_at dksX13_isFour_0 12 rfl rfl)
theorem dX13_isFour_13 : decode cX13_isFour 13 = .ok (.invokevirtual 237, 3) := dk_182 0 237 (dk_at dksX13_isFour_0 13 rfl rfl)
theorem dX13_isFour_16 : decode cX13_isFour 16 = .ok (.ifCond .eq 19, 3) := dk_153 0 19 (dk_at dksX13_isFour_0 16 rfl rfl)
theorem dX13_isFour_19 : decode cX13_isFour 19 = .ok (.aload_n 0, 1) := dk_42 (dk_at dksX13_isFour_0 19 rfl rfl)
theorem dX13_isFour_20 : decode cX13_isFour 20 = .ok (.iconst 1, 1) := dk_4 (dk_at dksX13_isFour_0 20 rfl rfl)
theorem dX13_isFour_21 : decode cX13_isFour 21 = .ok (.iload_n 2, 1) := dk_28 (dk_at dksX13_isFour_0 21 rfl rfl)
theorem dX13_isFour_22 : decode cX13_isFour 22 = .ok (.iload_n 3, 1) := dk_29 (dk_at dksX13_isFour_0 22 rfl rfl)
theorem dX13_isFour_23 : decode cX13_isFour 23 = .ok (.iload 4, 2) := dk_21 4 (dk_at dksX13_isFour_1 0 rfl rfl)
theorem dX13_isFour_25 : decode cX13_isFour 25 = .ok (.invokevirtual 237, 3) := dk_182 0 237 (dk_at dksX13_isFour_1 2 rfl rfl)
theorem dX13_isFour_28 : decode cX13_isFour 28 = .ok (.ifCond .eq 7, 3) := dk_153 0 7 (dk_at dksX13_isFour_1 5 rfl rfl)
theorem dX13_isFour_31 : decode cX13_isFour 31 = .ok (.iconst 1, 1) := dk_4 (dk_at dksX13_isFour_1 8 rfl rfl)
theorem dX13_isFour_32 : decode cX13_isFour 32 = .ok (.goto 4, 3) := dk_167 0 4 (dk_at dksX13_isFour_1 9 rfl rfl)
theorem dX13_isFour_35 : decode cX13_isFour 35 = .ok (.iconst 0, 1) := dk_3 (dk_at dksX13_isFour_1 12 rfl rfl)
theorem dX13_isFour_36 : decode cX13_isFour 36 = .ok (.ireturn, 1) := dk_172 (dk_at dksX13_isFour_1 13 rfl rfl)
abbrev cX13_isWord : ByteArray := prog_16_method_76_code
def yX13_isWord : MethodName := ⟨RX13, "isWord", "(I)Z"⟩
def dkwX13_isWord_1 : List UInt8 := [167, 0, 4, 3, 172]
abbrev dktX13_isWord_1 : List UInt8 := dkwX13_isWord_1 ++ []
def dkwX13_isWord_0 : List UInt8 := [42, 180, 0, 225, 4, 160, 0, 20, 42, 180, 0, 210, 42, 180, 0, 213, 100, 27, 160, 0, 7, 4]
abbrev dktX13_isWord_0 : List UInt8 := dkwX13_isWord_0 ++ dktX13_isWord_1
theorem dksX13_isWord_0 : cX13_isWord.data.toList.drop 0 = dktX13_isWord_0 := by decide +kernel
theorem dksX13_isWord_1 : cX13_isWord.data.toList.drop 22 = dktX13_isWord_1 := dk_seg dksX13_isWord_0 22 rfl rfl
theorem dX13_isWord_0 : decode cX13_isWord 0 = .ok (.aload_n 0, 1) := dk_42 (dk_at dksX13_isWord_0 0 rfl rfl)
theorem dX13_isWord_1 : decode cX13_isWord 1 = .ok (.getfield 225, 3) := dk_180 0 225 (dk_at dksX13_isWord_0 1 rfl rfl)
theorem dX13_isWord_4 : decode cX13_isWord 4 = .ok (.iconst 1, 1) := dk_4 (dk_at dksX13_isWord_0 4 rfl rfl)
theorem dX13_isWord_5 : decode cX13_isWord 5 = .ok (.if_icmp .ne 20, 3) := dk_160 0 20 (dk_at dksX13_isWord_0 5 rfl rfl)
theorem dX13_isWord_8 : decode cX13_isWord 8 = .ok (.aload_n 0, 1) := dk_42 (dk_at dksX13_isWord_0 8 rfl rfl)
theorem dX13_isWord_9 : decode cX13_isWord 9 = .ok (.getfield 210, 3) := dk_180 0 210 (dk_at dksX13_isWord_0 9 rfl rfl)
theorem dX13_isWord_12 : decode cX13_isWord 12 = .ok (.aload_n 0, 1) := dk_42 (dk_at dksX13_isWord_0 12 rfl rfl)
theorem dX13_isWord_13 : decode cX13_isWord 13 = .ok (.getfield 213, 3) := dk_180 0 213 (dk_at dksX13_isWord_0 13 rfl rfl)
theorem dX13_isWord_16 : decode cX13_isWord 16 = .ok (.isub, 1) := dk_100 (dk_at dksX13_isWord_0 16 rfl rfl)
theorem dX13_isWord_17 : decode cX13_isWord 17 = .ok (.iload_n 1, 1) := dk_27 (dk_at dksX13_isWord_0 17 rfl rfl)
theorem dX13_isWord_18 : decode cX13_isWord 18 = .ok (.if_icmp .ne 7, 3) := dk_160 0 7 (dk_at dksX13_isWord_0 18 rfl rfl)
theorem dX13_isWord_21 : decode cX13_isWord 21 = .ok (.iconst 1, 1) := dk_4 (dk_at dksX13_isWord_0 21 rfl rfl)
theorem dX13_isWord_22 : decode cX13_isWord 22 = .ok (.goto 4, 3) := dk_167 0 4 (dk_at dksX13_isWord_1 0 rfl rfl)
theorem dX13_isWord_25 : decode cX13_isWord 25 = .ok (.iconst 0, 1) := dk_3 (dk_at dksX13_isWord_1 3 rfl rfl)
theorem dX13_isWord_26 : decode cX13_isWord 26 = .ok (.ireturn, 1) := dk_172 (dk_at dksX13_isWord_1 4 rfl rfl)
abbrev cX13_has3 : ByteArray := prog_16_method_75_code
def yX13_has3 : MethodName := ⟨RX13, "has3", "(IIII)Z"⟩
def dkwX13_has3_2 : List UInt8 := [4, 167, 0, 4, 3, 172]
abbrev dktX13_has3_2 : List UInt8 := dkwX13_has3_2 ++ []
def dkwX13_has3_1 : List UInt8 := [182, 0, 216, 29, 160, 0, 24, 42, 42, 180, 0, 213, 27, 96, 5, 96, 182, 0, 216, 21, 4, 160, 0, 7]
abbrev dktX13_has3_1 : List UInt8 := dkwX13_has3_1 ++ dktX13_has3_2
def dkwX13_has3_0 : List UInt8 := [42, 42, 180, 0, 213, 27, 96, 182, 0, 216, 28, 160, 0, 40, 42, 42, 180, 0, 213, 27, 96, 4, 96]
abbrev dktX13_has3_0 : List UInt8 := dkwX13_has3_0 ++ dktX13_has3_1
theorem dksX13_has3_0 : cX13_has3.data.toList.drop 0 = dktX13_has3_0 := by decide +kernel
theorem dksX13_has3_1 : cX13_has3.data.toList.drop 23 = dktX13_has3_1 := dk_seg dksX13_has3_0 23 rfl rfl
theorem dksX13_has3_2 : cX13_has3.data.toList.drop 47 = dktX13_has3_2 := dk_seg dksX13_has3_1 24 rfl rfl
theorem dX13_has3_0 : decode cX13_has3 0 = .ok (.aload_n 0, 1) := dk_42 (dk_at dksX13_has3_0 0 rfl rfl)
theorem dX13_has3_1 : decode cX13_has3 1 = .ok (.aload_n 0, 1) := dk_42 (dk_at dksX13_has3_0 1 rfl rfl)
theorem dX13_has3_2 : decode cX13_has3 2 = .ok (.getfield 213, 3) := dk_180 0 213 (dk_at dksX13_has3_0 2 rfl rfl)
theorem dX13_has3_5 : decode cX13_has3 5 = .ok (.iload_n 1, 1) := dk_27 (dk_at dksX13_has3_0 5 rfl rfl)
theorem dX13_has3_6 : decode cX13_has3 6 = .ok (.iadd, 1) := dk_96 (dk_at dksX13_has3_0 6 rfl rfl)
theorem dX13_has3_7 : decode cX13_has3 7 = .ok (.invokevirtual 216, 3) := dk_182 0 216 (dk_at dksX13_has3_0 7 rfl rfl)
theorem dX13_has3_10 : decode cX13_has3 10 = .ok (.iload_n 2, 1) := dk_28 (dk_at dksX13_has3_0 10 rfl rfl)
theorem dX13_has3_11 : decode cX13_has3 11 = .ok (.if_icmp .ne 40, 3) := dk_160 0 40 (dk_at dksX13_has3_0 11 rfl rfl)
theorem dX13_has3_14 : decode cX13_has3 14 = .ok (.aload_n 0, 1) := dk_42 (dk_at dksX13_has3_0 14 rfl rfl)
theorem dX13_has3_15 : decode cX13_has3 15 = .ok (.aload_n 0, 1) := dk_42 (dk_at dksX13_has3_0 15 rfl rfl)
theorem dX13_has3_16 : decode cX13_has3 16 = .ok (.getfield 213, 3) := dk_180 0 213 (dk_at dksX13_has3_0 16 rfl rfl)
theorem dX13_has3_19 : decode cX13_has3 19 = .ok (.iload_n 1, 1) := dk_27 (dk_at dksX13_has3_0 19 rfl rfl)
theorem dX13_has3_20 : decode cX13_has3 20 = .ok (.iadd, 1) := dk_96 (dk_at dksX13_has3_0 20 rfl rfl)
theorem dX13_has3_21 : decode cX13_has3 21 = .ok (.iconst 1, 1) := dk_4 (dk_at dksX13_has3_0 21 rfl rfl)
theorem dX13_has3_22 : decode cX13_has3 22 = .ok (.iadd, 1) := dk_96 (dk_at dksX13_has3_0 22 rfl rfl)
theorem dX13_has3_23 : decode cX13_has3 23 = .ok (.invokevirtual 216, 3) := dk_182 0 216 (dk_at dksX13_has3_1 0 rfl rfl)
theorem dX13_has3_26 : decode cX13_has3 26 = .ok (.iload_n 3, 1) := dk_29 (dk_at dksX13_has3_1 3 rfl rfl)
theorem dX13_has3_27 : decode cX13_has3 27 = .ok (.if_icmp .ne 24, 3) := dk_160 0 24 (dk_at dksX13_has3_1 4 rfl rfl)
theorem dX13_has3_30 : decode cX13_has3 30 = .ok (.aload_n 0, 1) := dk_42 (dk_at dksX13_has3_1 7 rfl rfl)
theorem dX13_has3_31 : decode cX13_has3 31 = .ok (.aload_n 0, 1) := dk_42 (dk_at dksX13_has3_1 8 rfl rfl)
theorem dX13_has3_32 : decode cX13_has3 32 = .ok (.getfield 213, 3) := dk_180 0 213 (dk_at dksX13_has3_1 9 rfl rfl)
theorem dX13_has3_35 : decode cX13_has3 35 = .ok (.iload_n 1, 1) := dk_27 (dk_at dksX13_has3_1 12 rfl rfl)
theorem dX13_has3_36 : decode cX13_has3 36 = .ok (.iadd, 1) := dk_96 (dk_at dksX13_has3_1 13 rfl rfl)
theorem dX13_has3_37 : decode cX13_has3 37 = .ok (.iconst 2, 1) := dk_5 (dk_at dksX13_has3_1 14 rfl rfl)
theorem dX13_has3_38 : decode cX13_has3 38 = .ok (.iadd, 1) := dk_96 (dk_at dksX13_has3_1 15 rfl rfl)
theorem dX13_has3_39 : decode cX13_has3 39 = .ok (.invokevirtual 216, 3) := dk_182 0 216 (dk_at dksX13_has3_1 16 rfl rfl)
theorem dX13_has3_42 : decode cX13_has3 42 = .ok (.iload 4, 2) := dk_21 4 (dk_at dksX13_has3_1 19 rfl rfl)
theorem dX13_has3_44 : decode cX13_has3 44 = .ok (.if_icmp .ne 7, 3) := dk_160 0 7 (dk_at dksX13_has3_1 21 rfl rfl)
theorem dX13_has3_47 : decode cX13_has3 47 = .ok (.iconst 1, 1) := dk_4 (dk_at dksX13_has3_2 0 rfl rfl)
theorem dX13_has3_48 : decode cX13_has3 48 = .ok (.goto 4, 3) := dk_167 0 4 (dk_at dksX13_has3_2 1 rfl rfl)
theorem dX13_has3_51 : decode cX13_has3 51 = .ok (.iconst 0, 1) := dk_3 (dk_at dksX13_has3_2 4 rfl rfl)
theorem dX13_has3_52 : decode cX13_has3 52 = .ok (.ireturn, 1) := dk_172 (dk_at dksX13_has3_2 5 rfl rfl)
abbrev cX13_isFive : ByteArray := prog_16_method_79_code
def yX13_isFive : MethodName := ⟨RX13, "isFive", "(IIIII)Z"⟩
def dkwX13_isFive_1 : List UInt8 := [21, 5, 182, 0, 237, 153, 0, 7, 4, 167, 0, 4, 3, 172]
abbrev dktX13_isFive_1 : List UInt8 := dkwX13_isFive_1 ++ []
def dkwX13_isFive_0 : List UInt8 := [42, 8, 182, 0, 234, 153, 0, 31, 42, 3, 27, 28, 29, 182, 0, 237, 153, 0, 20, 42, 5, 29, 21, 4]
abbrev dktX13_isFive_0 : List UInt8 := dkwX13_isFive_0 ++ dktX13_isFive_1
theorem dksX13_isFive_0 : cX13_isFive.data.toList.drop 0 = dktX13_isFive_0 := by decide +kernel
theorem dksX13_isFive_1 : cX13_isFive.data.toList.drop 24 = dktX13_isFive_1 := dk_seg dksX13_isFive_0 24 rfl rfl
theorem dX13_isFive_0 : decode cX13_isFive 0 = .ok (.aload_n 0, 1) := dk_42 (dk_at dksX13_isFive_0 0 rfl rfl)
theorem dX13_isFive_1 : decode cX13_isFive 1 = .ok (.iconst 5, 1) := dk_8 (dk_at dksX13_isFive_0 1 rfl rfl)
theorem dX13_isFive_2 : decode cX13_isFive 2 = .ok (.invokevirtual 234, 3) := dk_182 0 234 (dk_at dksX13_isFive_0 2 rfl rfl)
theorem dX13_isFive_5 : decode cX13_isFive 5 = .ok (.ifCond .eq 31, 3) := dk_153 0 31 (dk_at dksX13_isFive_0 5 rfl rfl)
theorem dX13_isFive_8 : decode cX13_isFive 8 = .ok (.aload_n 0, 1) := dk_42 (dk_at dksX13_isFive_0 8 rfl rfl)
theorem dX13_isFive_9 : decode cX13_isFive 9 = .ok (.iconst 0, 1) := dk_3 (dk_at dksX13_isFive_0 9 rfl rfl)
theorem dX13_isFive_10 : decode cX13_isFive 10 = .ok (.iload_n 1, 1) := dk_27 (dk_at dksX13_isFive_0 10 rfl rfl)
theorem dX13_isFive_11 : decode cX13_isFive 11 = .ok (.iload_n 2, 1) := dk_28 (dk_at dksX13_isFive_0 11 rfl rfl)
theorem dX13_isFive_12 : decode cX13_isFive 12 = .ok (.iload_n 3, 1) := dk_29 (dk_at dksX13_isFive_0 12 rfl rfl)
theorem dX13_isFive_13 : decode cX13_isFive 13 = .ok (.invokevirtual 237, 3) := dk_182 0 237 (dk_at dksX13_isFive_0 13 rfl rfl)
theorem dX13_isFive_16 : decode cX13_isFive 16 = .ok (.ifCond .eq 20, 3) := dk_153 0 20 (dk_at dksX13_isFive_0 16 rfl rfl)
theorem dX13_isFive_19 : decode cX13_isFive 19 = .ok (.aload_n 0, 1) := dk_42 (dk_at dksX13_isFive_0 19 rfl rfl)
theorem dX13_isFive_20 : decode cX13_isFive 20 = .ok (.iconst 2, 1) := dk_5 (dk_at dksX13_isFive_0 20 rfl rfl)
theorem dX13_isFive_21 : decode cX13_isFive 21 = .ok (.iload_n 3, 1) := dk_29 (dk_at dksX13_isFive_0 21 rfl rfl)
theorem dX13_isFive_22 : decode cX13_isFive 22 = .ok (.iload 4, 2) := dk_21 4 (dk_at dksX13_isFive_0 22 rfl rfl)
theorem dX13_isFive_24 : decode cX13_isFive 24 = .ok (.iload 5, 2) := dk_21 5 (dk_at dksX13_isFive_1 0 rfl rfl)
theorem dX13_isFive_26 : decode cX13_isFive 26 = .ok (.invokevirtual 237, 3) := dk_182 0 237 (dk_at dksX13_isFive_1 2 rfl rfl)
theorem dX13_isFive_29 : decode cX13_isFive 29 = .ok (.ifCond .eq 7, 3) := dk_153 0 7 (dk_at dksX13_isFive_1 5 rfl rfl)
theorem dX13_isFive_32 : decode cX13_isFive 32 = .ok (.iconst 1, 1) := dk_4 (dk_at dksX13_isFive_1 8 rfl rfl)
theorem dX13_isFive_33 : decode cX13_isFive 33 = .ok (.goto 4, 3) := dk_167 0 4 (dk_at dksX13_isFive_1 9 rfl rfl)
theorem dX13_isFive_36 : decode cX13_isFive 36 = .ok (.iconst 0, 1) := dk_3 (dk_at dksX13_isFive_1 12 rfl rfl)
theorem dX13_isFive_37 : decode cX13_isFive 37 = .ok (.ireturn, 1) := dk_172 (dk_at dksX13_isFive_1 13 rfl rfl)
abbrev cX13_isSix : ByteArray := prog_16_method_80_code
def yX13_isSix : MethodName := ⟨RX13, "isSix", "(IIIIII)Z"⟩
def dkwX13_isSix_1 : List UInt8 := [21, 5, 21, 6, 182, 0, 237, 153, 0, 7, 4, 167, 0, 4, 3, 172]
abbrev dktX13_isSix_1 : List UInt8 := dkwX13_isSix_1 ++ []
def dkwX13_isSix_0 : List UInt8 := [42, 16, 6, 182, 0, 234, 153, 0, 32, 42, 3, 27, 28, 29, 182, 0, 237, 153, 0, 21, 42, 6, 21, 4]
abbrev dktX13_isSix_0 : List UInt8 := dkwX13_isSix_0 ++ dktX13_isSix_1
theorem dksX13_isSix_0 : cX13_isSix.data.toList.drop 0 = dktX13_isSix_0 := by decide +kernel
theorem dksX13_isSix_1 : cX13_isSix.data.toList.drop 24 = dktX13_isSix_1 := dk_seg dksX13_isSix_0 24 rfl rfl
theorem dX13_isSix_0 : decode cX13_isSix 0 = .ok (.aload_n 0, 1) := dk_42 (dk_at dksX13_isSix_0 0 rfl rfl)
theorem dX13_isSix_1 : decode cX13_isSix 1 = .ok (.bipush 6, 2) := dk_16 6 (dk_at dksX13_isSix_0 1 rfl rfl)
theorem dX13_isSix_3 : decode cX13_isSix 3 = .ok (.invokevirtual 234, 3) := dk_182 0 234 (dk_at dksX13_isSix_0 3 rfl rfl)
theorem dX13_isSix_6 : decode cX13_isSix 6 = .ok (.ifCond .eq 32, 3) := dk_153 0 32 (dk_at dksX13_isSix_0 6 rfl rfl)
theorem dX13_isSix_9 : decode cX13_isSix 9 = .ok (.aload_n 0, 1) := dk_42 (dk_at dksX13_isSix_0 9 rfl rfl)
theorem dX13_isSix_10 : decode cX13_isSix 10 = .ok (.iconst 0, 1) := dk_3 (dk_at dksX13_isSix_0 10 rfl rfl)
theorem dX13_isSix_11 : decode cX13_isSix 11 = .ok (.iload_n 1, 1) := dk_27 (dk_at dksX13_isSix_0 11 rfl rfl)
theorem dX13_isSix_12 : decode cX13_isSix 12 = .ok (.iload_n 2, 1) := dk_28 (dk_at dksX13_isSix_0 12 rfl rfl)
theorem dX13_isSix_13 : decode cX13_isSix 13 = .ok (.iload_n 3, 1) := dk_29 (dk_at dksX13_isSix_0 13 rfl rfl)
theorem dX13_isSix_14 : decode cX13_isSix 14 = .ok (.invokevirtual 237, 3) := dk_182 0 237 (dk_at dksX13_isSix_0 14 rfl rfl)
theorem dX13_isSix_17 : decode cX13_isSix 17 = .ok (.ifCond .eq 21, 3) := dk_153 0 21 (dk_at dksX13_isSix_0 17 rfl rfl)
theorem dX13_isSix_20 : decode cX13_isSix 20 = .ok (.aload_n 0, 1) := dk_42 (dk_at dksX13_isSix_0 20 rfl rfl)
theorem dX13_isSix_21 : decode cX13_isSix 21 = .ok (.iconst 3, 1) := dk_6 (dk_at dksX13_isSix_0 21 rfl rfl)
theorem dX13_isSix_22 : decode cX13_isSix 22 = .ok (.iload 4, 2) := dk_21 4 (dk_at dksX13_isSix_0 22 rfl rfl)
theorem dX13_isSix_24 : decode cX13_isSix 24 = .ok (.iload 5, 2) := dk_21 5 (dk_at dksX13_isSix_1 0 rfl rfl)
theorem dX13_isSix_26 : decode cX13_isSix 26 = .ok (.iload 6, 2) := dk_21 6 (dk_at dksX13_isSix_1 2 rfl rfl)
theorem dX13_isSix_28 : decode cX13_isSix 28 = .ok (.invokevirtual 237, 3) := dk_182 0 237 (dk_at dksX13_isSix_1 4 rfl rfl)
theorem dX13_isSix_31 : decode cX13_isSix 31 = .ok (.ifCond .eq 7, 3) := dk_153 0 7 (dk_at dksX13_isSix_1 7 rfl rfl)
theorem dX13_isSix_34 : decode cX13_isSix 34 = .ok (.iconst 1, 1) := dk_4 (dk_at dksX13_isSix_1 10 rfl rfl)
theorem dX13_isSix_35 : decode cX13_isSix 35 = .ok (.goto 4, 3) := dk_167 0 4 (dk_at dksX13_isSix_1 11 rfl rfl)
theorem dX13_isSix_38 : decode cX13_isSix 38 = .ok (.iconst 0, 1) := dk_3 (dk_at dksX13_isSix_1 14 rfl rfl)
theorem dX13_isSix_39 : decode cX13_isSix 39 = .ok (.ireturn, 1) := dk_172 (dk_at dksX13_isSix_1 15 rfl rfl)
abbrev cX13_caskHere : ByteArray := prog_16_method_84_code
def yX13_caskHere : MethodName := ⟨RX13, "caskHere", "(I)Z"⟩
def dkwX13_caskHere_7 : List UInt8 := [17, 3, 231, 182, 1, 6, 153, 0, 7, 4, 167, 0, 4, 3, 172]
abbrev dktX13_caskHere_7 : List UInt8 := dkwX13_caskHere_7 ++ []
def dkwX13_caskHere_6 : List UInt8 := [153, 0, 36, 42, 42, 16, 104, 16, 111, 16, 111, 16, 112, 16, 115, 182, 0, 248, 28, 7, 184, 0, 70]
abbrev dktX13_caskHere_6 : List UInt8 := dkwX13_caskHere_6 ++ dktX13_caskHere_7
def dkwX13_caskHere_5 : List UInt8 := [42, 16, 112, 16, 105, 16, 116, 16, 99, 16, 104, 182, 0, 248, 28, 6, 184, 0, 70, 16, 11, 182, 1, 6]
abbrev dktX13_caskHere_5 : List UInt8 := dkwX13_caskHere_5 ++ dktX13_caskHere_6
def dkwX13_caskHere_4 : List UInt8 := [16, 101, 16, 97, 16, 108, 182, 0, 245, 28, 5, 184, 0, 70, 17, 3, 231, 182, 1, 6, 153, 0, 64, 42]
abbrev dktX13_caskHere_4 : List UInt8 := dkwX13_caskHere_4 ++ dktX13_caskHere_5
def dkwX13_caskHere_3 : List UInt8 := [160, 0, 7, 4, 167, 0, 4, 3, 28, 4, 184, 0, 70, 8, 182, 1, 6, 153, 0, 91, 42, 42, 16, 112]
abbrev dktX13_caskHere_3 : List UInt8 := dkwX13_caskHere_3 ++ dktX13_caskHere_4
def dkwX13_caskHere_2 : List UInt8 := [180, 0, 213, 182, 0, 216, 16, 105, 160, 0, 22, 42, 42, 180, 0, 213, 4, 96, 182, 0, 216, 16, 110]
abbrev dktX13_caskHere_2 : List UInt8 := dkwX13_caskHere_2 ++ dktX13_caskHere_3
def dkwX13_caskHere_1 : List UInt8 := [180, 0, 7, 3, 46, 4, 100, 61, 42, 182, 1, 0, 42, 42, 5, 182, 0, 234, 153, 0, 35, 42, 42]
abbrev dktX13_caskHere_1 : List UInt8 := dkwX13_caskHere_1 ++ dktX13_caskHere_2
def dkwX13_caskHere_0 : List UInt8 := [42, 180, 0, 7, 3, 46, 16, 8, 160, 0, 8, 42, 182, 0, 241, 172, 42, 27, 3, 182, 0, 76, 42]
abbrev dktX13_caskHere_0 : List UInt8 := dkwX13_caskHere_0 ++ dktX13_caskHere_1
theorem dksX13_caskHere_0 : cX13_caskHere.data.toList.drop 0 = dktX13_caskHere_0 := by decide +kernel
theorem dksX13_caskHere_1 : cX13_caskHere.data.toList.drop 23 = dktX13_caskHere_1 := dk_seg dksX13_caskHere_0 23 rfl rfl
theorem dksX13_caskHere_2 : cX13_caskHere.data.toList.drop 46 = dktX13_caskHere_2 := dk_seg dksX13_caskHere_1 23 rfl rfl
theorem dksX13_caskHere_3 : cX13_caskHere.data.toList.drop 69 = dktX13_caskHere_3 := dk_seg dksX13_caskHere_2 23 rfl rfl
theorem dksX13_caskHere_4 : cX13_caskHere.data.toList.drop 93 = dktX13_caskHere_4 := dk_seg dksX13_caskHere_3 24 rfl rfl
theorem dksX13_caskHere_5 : cX13_caskHere.data.toList.drop 117 = dktX13_caskHere_5 := dk_seg dksX13_caskHere_4 24 rfl rfl
theorem dksX13_caskHere_6 : cX13_caskHere.data.toList.drop 141 = dktX13_caskHere_6 := dk_seg dksX13_caskHere_5 24 rfl rfl
theorem dksX13_caskHere_7 : cX13_caskHere.data.toList.drop 164 = dktX13_caskHere_7 := dk_seg dksX13_caskHere_6 23 rfl rfl
theorem dX13_caskHere_0 : decode cX13_caskHere 0 = .ok (.aload_n 0, 1) := dk_42 (dk_at dksX13_caskHere_0 0 rfl rfl)
theorem dX13_caskHere_1 : decode cX13_caskHere 1 = .ok (.getfield 7, 3) := dk_180 0 7 (dk_at dksX13_caskHere_0 1 rfl rfl)
theorem dX13_caskHere_4 : decode cX13_caskHere 4 = .ok (.iconst 0, 1) := dk_3 (dk_at dksX13_caskHere_0 4 rfl rfl)
theorem dX13_caskHere_5 : decode cX13_caskHere 5 = .ok (.iaload, 1) := dk_46 (dk_at dksX13_caskHere_0 5 rfl rfl)
theorem dX13_caskHere_6 : decode cX13_caskHere 6 = .ok (.bipush 8, 2) := dk_16 8 (dk_at dksX13_caskHere_0 6 rfl rfl)
theorem dX13_caskHere_8 : decode cX13_caskHere 8 = .ok (.if_icmp .ne 8, 3) := dk_160 0 8 (dk_at dksX13_caskHere_0 8 rfl rfl)
theorem dX13_caskHere_11 : decode cX13_caskHere 11 = .ok (.aload_n 0, 1) := dk_42 (dk_at dksX13_caskHere_0 11 rfl rfl)
theorem dX13_caskHere_12 : decode cX13_caskHere 12 = .ok (.invokevirtual 241, 3) := dk_182 0 241 (dk_at dksX13_caskHere_0 12 rfl rfl)
theorem dX13_caskHere_15 : decode cX13_caskHere 15 = .ok (.ireturn, 1) := dk_172 (dk_at dksX13_caskHere_0 15 rfl rfl)
theorem dX13_caskHere_16 : decode cX13_caskHere 16 = .ok (.aload_n 0, 1) := dk_42 (dk_at dksX13_caskHere_0 16 rfl rfl)
theorem dX13_caskHere_17 : decode cX13_caskHere 17 = .ok (.iload_n 1, 1) := dk_27 (dk_at dksX13_caskHere_0 17 rfl rfl)
theorem dX13_caskHere_18 : decode cX13_caskHere 18 = .ok (.iconst 0, 1) := dk_3 (dk_at dksX13_caskHere_0 18 rfl rfl)
theorem dX13_caskHere_19 : decode cX13_caskHere 19 = .ok (.invokevirtual 76, 3) := dk_182 0 76 (dk_at dksX13_caskHere_0 19 rfl rfl)
theorem dX13_caskHere_22 : decode cX13_caskHere 22 = .ok (.aload_n 0, 1) := dk_42 (dk_at dksX13_caskHere_0 22 rfl rfl)
theorem dX13_caskHere_23 : decode cX13_caskHere 23 = .ok (.getfield 7, 3) := dk_180 0 7 (dk_at dksX13_caskHere_1 0 rfl rfl)
theorem dX13_caskHere_26 : decode cX13_caskHere 26 = .ok (.iconst 0, 1) := dk_3 (dk_at dksX13_caskHere_1 3 rfl rfl)
theorem dX13_caskHere_27 : decode cX13_caskHere 27 = .ok (.iaload, 1) := dk_46 (dk_at dksX13_caskHere_1 4 rfl rfl)
theorem dX13_caskHere_28 : decode cX13_caskHere 28 = .ok (.iconst 1, 1) := dk_4 (dk_at dksX13_caskHere_1 5 rfl rfl)
theorem dX13_caskHere_29 : decode cX13_caskHere 29 = .ok (.isub, 1) := dk_100 (dk_at dksX13_caskHere_1 6 rfl rfl)
theorem dX13_caskHere_30 : decode cX13_caskHere 30 = .ok (.istore_n 2, 1) := dk_61 (dk_at dksX13_caskHere_1 7 rfl rfl)
theorem dX13_caskHere_31 : decode cX13_caskHere 31 = .ok (.aload_n 0, 1) := dk_42 (dk_at dksX13_caskHere_1 8 rfl rfl)
theorem dX13_caskHere_32 : decode cX13_caskHere 32 = .ok (.invokevirtual 256, 3) := dk_182 1 0 (dk_at dksX13_caskHere_1 9 rfl rfl)
theorem dX13_caskHere_35 : decode cX13_caskHere 35 = .ok (.aload_n 0, 1) := dk_42 (dk_at dksX13_caskHere_1 12 rfl rfl)
theorem dX13_caskHere_36 : decode cX13_caskHere 36 = .ok (.aload_n 0, 1) := dk_42 (dk_at dksX13_caskHere_1 13 rfl rfl)
theorem dX13_caskHere_37 : decode cX13_caskHere 37 = .ok (.iconst 2, 1) := dk_5 (dk_at dksX13_caskHere_1 14 rfl rfl)
theorem dX13_caskHere_38 : decode cX13_caskHere 38 = .ok (.invokevirtual 234, 3) := dk_182 0 234 (dk_at dksX13_caskHere_1 15 rfl rfl)
theorem dX13_caskHere_41 : decode cX13_caskHere 41 = .ok (.ifCond .eq 35, 3) := dk_153 0 35 (dk_at dksX13_caskHere_1 18 rfl rfl)
theorem dX13_caskHere_44 : decode cX13_caskHere 44 = .ok (.aload_n 0, 1) := dk_42 (dk_at dksX13_caskHere_1 21 rfl rfl)
theorem dX13_caskHere_45 : decode cX13_caskHere 45 = .ok (.aload_n 0, 1) := dk_42 (dk_at dksX13_caskHere_1 22 rfl rfl)
theorem dX13_caskHere_46 : decode cX13_caskHere 46 = .ok (.getfield 213, 3) := dk_180 0 213 (dk_at dksX13_caskHere_2 0 rfl rfl)
theorem dX13_caskHere_49 : decode cX13_caskHere 49 = .ok (.invokevirtual 216, 3) := dk_182 0 216 (dk_at dksX13_caskHere_2 3 rfl rfl)
theorem dX13_caskHere_52 : decode cX13_caskHere 52 = .ok (.bipush 105, 2) := dk_16 105 (dk_at dksX13_caskHere_2 6 rfl rfl)
theorem dX13_caskHere_54 : decode cX13_caskHere 54 = .ok (.if_icmp .ne 22, 3) := dk_160 0 22 (dk_at dksX13_caskHere_2 8 rfl rfl)
theorem dX13_caskHere_57 : decode cX13_caskHere 57 = .ok (.aload_n 0, 1) := dk_42 (dk_at dksX13_caskHere_2 11 rfl rfl)
theorem dX13_caskHere_58 : decode cX13_caskHere 58 = .ok (.aload_n 0, 1) := dk_42 (dk_at dksX13_caskHere_2 12 rfl rfl)
theorem dX13_caskHere_59 : decode cX13_caskHere 59 = .ok (.getfield 213, 3) := dk_180 0 213 (dk_at dksX13_caskHere_2 13 rfl rfl)
theorem dX13_caskHere_62 : decode cX13_caskHere 62 = .ok (.iconst 1, 1) := dk_4 (dk_at dksX13_caskHere_2 16 rfl rfl)
theorem dX13_caskHere_63 : decode cX13_caskHere 63 = .ok (.iadd, 1) := dk_96 (dk_at dksX13_caskHere_2 17 rfl rfl)
theorem dX13_caskHere_64 : decode cX13_caskHere 64 = .ok (.invokevirtual 216, 3) := dk_182 0 216 (dk_at dksX13_caskHere_2 18 rfl rfl)
theorem dX13_caskHere_67 : decode cX13_caskHere 67 = .ok (.bipush 110, 2) := dk_16 110 (dk_at dksX13_caskHere_2 21 rfl rfl)
theorem dX13_caskHere_69 : decode cX13_caskHere 69 = .ok (.if_icmp .ne 7, 3) := dk_160 0 7 (dk_at dksX13_caskHere_3 0 rfl rfl)
theorem dX13_caskHere_72 : decode cX13_caskHere 72 = .ok (.iconst 1, 1) := dk_4 (dk_at dksX13_caskHere_3 3 rfl rfl)
theorem dX13_caskHere_73 : decode cX13_caskHere 73 = .ok (.goto 4, 3) := dk_167 0 4 (dk_at dksX13_caskHere_3 4 rfl rfl)
theorem dX13_caskHere_76 : decode cX13_caskHere 76 = .ok (.iconst 0, 1) := dk_3 (dk_at dksX13_caskHere_3 7 rfl rfl)
theorem dX13_caskHere_77 : decode cX13_caskHere 77 = .ok (.iload_n 2, 1) := dk_28 (dk_at dksX13_caskHere_3 8 rfl rfl)
theorem dX13_caskHere_78 : decode cX13_caskHere 78 = .ok (.iconst 1, 1) := dk_4 (dk_at dksX13_caskHere_3 9 rfl rfl)
theorem dX13_caskHere_79 : decode cX13_caskHere 79 = .ok (.invokestatic 70, 3) := dk_184 0 70 (dk_at dksX13_caskHere_3 10 rfl rfl)
theorem dX13_caskHere_82 : decode cX13_caskHere 82 = .ok (.iconst 5, 1) := dk_8 (dk_at dksX13_caskHere_3 13 rfl rfl)
theorem dX13_caskHere_83 : decode cX13_caskHere 83 = .ok (.invokevirtual 262, 3) := dk_182 1 6 (dk_at dksX13_caskHere_3 14 rfl rfl)
theorem dX13_caskHere_86 : decode cX13_caskHere 86 = .ok (.ifCond .eq 91, 3) := dk_153 0 91 (dk_at dksX13_caskHere_3 17 rfl rfl)
theorem dX13_caskHere_89 : decode cX13_caskHere 89 = .ok (.aload_n 0, 1) := dk_42 (dk_at dksX13_caskHere_3 20 rfl rfl)
theorem dX13_caskHere_90 : decode cX13_caskHere 90 = .ok (.aload_n 0, 1) := dk_42 (dk_at dksX13_caskHere_3 21 rfl rfl)
theorem dX13_caskHere_91 : decode cX13_caskHere 91 = .ok (.bipush 112, 2) := dk_16 112 (dk_at dksX13_caskHere_3 22 rfl rfl)
theorem dX13_caskHere_93 : decode cX13_caskHere 93 = .ok (.bipush 101, 2) := dk_16 101 (dk_at dksX13_caskHere_4 0 rfl rfl)
theorem dX13_caskHere_95 : decode cX13_caskHere 95 = .ok (.bipush 97, 2) := dk_16 97 (dk_at dksX13_caskHere_4 2 rfl rfl)
theorem dX13_caskHere_97 : decode cX13_caskHere 97 = .ok (.bipush 108, 2) := dk_16 108 (dk_at dksX13_caskHere_4 4 rfl rfl)
theorem dX13_caskHere_99 : decode cX13_caskHere 99 = .ok (.invokevirtual 245, 3) := dk_182 0 245 (dk_at dksX13_caskHere_4 6 rfl rfl)
theorem dX13_caskHere_102 : decode cX13_caskHere 102 = .ok (.iload_n 2, 1) := dk_28 (dk_at dksX13_caskHere_4 9 rfl rfl)
theorem dX13_caskHere_103 : decode cX13_caskHere 103 = .ok (.iconst 2, 1) := dk_5 (dk_at dksX13_caskHere_4 10 rfl rfl)
theorem dX13_caskHere_104 : decode cX13_caskHere 104 = .ok (.invokestatic 70, 3) := dk_184 0 70 (dk_at dksX13_caskHere_4 11 rfl rfl)
theorem dX13_caskHere_107 : decode cX13_caskHere 107 = .ok (.sipush 999, 3) := dk_17 3 231 (dk_at dksX13_caskHere_4 14 rfl rfl)
theorem dX13_caskHere_110 : decode cX13_caskHere 110 = .ok (.invokevirtual 262, 3) := dk_182 1 6 (dk_at dksX13_caskHere_4 17 rfl rfl)
theorem dX13_caskHere_113 : decode cX13_caskHere 113 = .ok (.ifCond .eq 64, 3) := dk_153 0 64 (dk_at dksX13_caskHere_4 20 rfl rfl)
theorem dX13_caskHere_116 : decode cX13_caskHere 116 = .ok (.aload_n 0, 1) := dk_42 (dk_at dksX13_caskHere_4 23 rfl rfl)
theorem dX13_caskHere_117 : decode cX13_caskHere 117 = .ok (.aload_n 0, 1) := dk_42 (dk_at dksX13_caskHere_5 0 rfl rfl)
theorem dX13_caskHere_118 : decode cX13_caskHere 118 = .ok (.bipush 112, 2) := dk_16 112 (dk_at dksX13_caskHere_5 1 rfl rfl)
theorem dX13_caskHere_120 : decode cX13_caskHere 120 = .ok (.bipush 105, 2) := dk_16 105 (dk_at dksX13_caskHere_5 3 rfl rfl)
theorem dX13_caskHere_122 : decode cX13_caskHere 122 = .ok (.bipush 116, 2) := dk_16 116 (dk_at dksX13_caskHere_5 5 rfl rfl)
theorem dX13_caskHere_124 : decode cX13_caskHere 124 = .ok (.bipush 99, 2) := dk_16 99 (dk_at dksX13_caskHere_5 7 rfl rfl)
theorem dX13_caskHere_126 : decode cX13_caskHere 126 = .ok (.bipush 104, 2) := dk_16 104 (dk_at dksX13_caskHere_5 9 rfl rfl)
theorem dX13_caskHere_128 : decode cX13_caskHere 128 = .ok (.invokevirtual 248, 3) := dk_182 0 248 (dk_at dksX13_caskHere_5 11 rfl rfl)
theorem dX13_caskHere_131 : decode cX13_caskHere 131 = .ok (.iload_n 2, 1) := dk_28 (dk_at dksX13_caskHere_5 14 rfl rfl)
theorem dX13_caskHere_132 : decode cX13_caskHere 132 = .ok (.iconst 3, 1) := dk_6 (dk_at dksX13_caskHere_5 15 rfl rfl)
theorem dX13_caskHere_133 : decode cX13_caskHere 133 = .ok (.invokestatic 70, 3) := dk_184 0 70 (dk_at dksX13_caskHere_5 16 rfl rfl)
theorem dX13_caskHere_136 : decode cX13_caskHere 136 = .ok (.bipush 11, 2) := dk_16 11 (dk_at dksX13_caskHere_5 19 rfl rfl)
theorem dX13_caskHere_138 : decode cX13_caskHere 138 = .ok (.invokevirtual 262, 3) := dk_182 1 6 (dk_at dksX13_caskHere_5 21 rfl rfl)
theorem dX13_caskHere_141 : decode cX13_caskHere 141 = .ok (.ifCond .eq 36, 3) := dk_153 0 36 (dk_at dksX13_caskHere_6 0 rfl rfl)
theorem dX13_caskHere_144 : decode cX13_caskHere 144 = .ok (.aload_n 0, 1) := dk_42 (dk_at dksX13_caskHere_6 3 rfl rfl)
theorem dX13_caskHere_145 : decode cX13_caskHere 145 = .ok (.aload_n 0, 1) := dk_42 (dk_at dksX13_caskHere_6 4 rfl rfl)
theorem dX13_caskHere_146 : decode cX13_caskHere 146 = .ok (.bipush 104, 2) := dk_16 104 (dk_at dksX13_caskHere_6 5 rfl rfl)
theorem dX13_caskHere_148 : decode cX13_caskHere 148 = .ok (.bipush 111, 2) := dk_16 111 (dk_at dksX13_caskHere_6 7 rfl rfl)
theorem dX13_caskHere_150 : decode cX13_caskHere 150 = .ok (.bipush 111, 2) := dk_16 111 (dk_at dksX13_caskHere_6 9 rfl rfl)
theorem dX13_caskHere_152 : decode cX13_caskHere 152 = .ok (.bipush 112, 2) := dk_16 112 (dk_at dksX13_caskHere_6 11 rfl rfl)
theorem dX13_caskHere_154 : decode cX13_caskHere 154 = .ok (.bipush 115, 2) := dk_16 115 (dk_at dksX13_caskHere_6 13 rfl rfl)
theorem dX13_caskHere_156 : decode cX13_caskHere 156 = .ok (.invokevirtual 248, 3) := dk_182 0 248 (dk_at dksX13_caskHere_6 15 rfl rfl)
theorem dX13_caskHere_159 : decode cX13_caskHere 159 = .ok (.iload_n 2, 1) := dk_28 (dk_at dksX13_caskHere_6 18 rfl rfl)
theorem dX13_caskHere_160 : decode cX13_caskHere 160 = .ok (.iconst 4, 1) := dk_7 (dk_at dksX13_caskHere_6 19 rfl rfl)
theorem dX13_caskHere_161 : decode cX13_caskHere 161 = .ok (.invokestatic 70, 3) := dk_184 0 70 (dk_at dksX13_caskHere_6 20 rfl rfl)
theorem dX13_caskHere_164 : decode cX13_caskHere 164 = .ok (.sipush 999, 3) := dk_17 3 231 (dk_at dksX13_caskHere_7 0 rfl rfl)
theorem dX13_caskHere_167 : decode cX13_caskHere 167 = .ok (.invokevirtual 262, 3) := dk_182 1 6 (dk_at dksX13_caskHere_7 3 rfl rfl)
theorem dX13_caskHere_170 : decode cX13_caskHere 170 = .ok (.ifCond .eq 7, 3) := dk_153 0 7 (dk_at dksX13_caskHere_7 6 rfl rfl)
theorem dX13_caskHere_173 : decode cX13_caskHere 173 = .ok (.iconst 1, 1) := dk_4 (dk_at dksX13_caskHere_7 9 rfl rfl)
theorem dX13_caskHere_174 : decode cX13_caskHere 174 = .ok (.goto 4, 3) := dk_167 0 4 (dk_at dksX13_caskHere_7 10 rfl rfl)
theorem dX13_caskHere_177 : decode cX13_caskHere 177 = .ok (.iconst 0, 1) := dk_3 (dk_at dksX13_caskHere_7 13 rfl rfl)
theorem dX13_caskHere_178 : decode cX13_caskHere 178 = .ok (.ireturn, 1) := dk_172 (dk_at dksX13_caskHere_7 14 rfl rfl)
abbrev cX13_fails : ByteArray := prog_16_method_77_code
def yX13_fails : MethodName := ⟨RX13, "fails", "()Z"⟩
def dkwX13_fails_0 : List UInt8 := [42, 42, 180, 0, 213, 181, 0, 231, 3, 172]
abbrev dktX13_fails_0 : List UInt8 := dkwX13_fails_0 ++ []
theorem dksX13_fails_0 : cX13_fails.data.toList.drop 0 = dktX13_fails_0 := by decide +kernel
theorem dX13_fails_0 : decode cX13_fails 0 = .ok (.aload_n 0, 1) := dk_42 (dk_at dksX13_fails_0 0 rfl rfl)
theorem dX13_fails_1 : decode cX13_fails 1 = .ok (.aload_n 0, 1) := dk_42 (dk_at dksX13_fails_0 1 rfl rfl)
theorem dX13_fails_2 : decode cX13_fails 2 = .ok (.getfield 213, 3) := dk_180 0 213 (dk_at dksX13_fails_0 2 rfl rfl)
theorem dX13_fails_5 : decode cX13_fails 5 = .ok (.putfield 231, 3) := dk_181 0 231 (dk_at dksX13_fails_0 5 rfl rfl)
theorem dX13_fails_8 : decode cX13_fails 8 = .ok (.iconst 0, 1) := dk_3 (dk_at dksX13_fails_0 8 rfl rfl)
theorem dX13_fails_9 : decode cX13_fails 9 = .ok (.ireturn, 1) := dk_172 (dk_at dksX13_fails_0 9 rfl rfl)
abbrev cX13_perhaps : ByteArray := prog_16_method_83_code
def yX13_perhaps : MethodName := ⟨RX13, "perhaps", "(ZII)Z"⟩
def dkwX13_perhaps_1 : List UInt8 := [180, 0, 7, 28, 42, 180, 0, 228, 79, 42, 182, 1, 0, 4, 172]
abbrev dktX13_perhaps_1 : List UInt8 := dkwX13_perhaps_1 ++ []
def dkwX13_perhaps_0 : List UInt8 := [27, 154, 0, 5, 4, 172, 42, 182, 1, 0, 42, 3, 29, 182, 1, 3, 154, 0, 5, 3, 172, 42]
abbrev dktX13_perhaps_0 : List UInt8 := dkwX13_perhaps_0 ++ dktX13_perhaps_1
theorem dksX13_perhaps_0 : cX13_perhaps.data.toList.drop 0 = dktX13_perhaps_0 := by decide +kernel
theorem dksX13_perhaps_1 : cX13_perhaps.data.toList.drop 22 = dktX13_perhaps_1 := dk_seg dksX13_perhaps_0 22 rfl rfl
theorem dX13_perhaps_0 : decode cX13_perhaps 0 = .ok (.iload_n 1, 1) := dk_27 (dk_at dksX13_perhaps_0 0 rfl rfl)
theorem dX13_perhaps_1 : decode cX13_perhaps 1 = .ok (.ifCond .ne 5, 3) := dk_154 0 5 (dk_at dksX13_perhaps_0 1 rfl rfl)
theorem dX13_perhaps_4 : decode cX13_perhaps 4 = .ok (.iconst 1, 1) := dk_4 (dk_at dksX13_perhaps_0 4 rfl rfl)
theorem dX13_perhaps_5 : decode cX13_perhaps 5 = .ok (.ireturn, 1) := dk_172 (dk_at dksX13_perhaps_0 5 rfl rfl)
theorem dX13_perhaps_6 : decode cX13_perhaps 6 = .ok (.aload_n 0, 1) := dk_42 (dk_at dksX13_perhaps_0 6 rfl rfl)
theorem dX13_perhaps_7 : decode cX13_perhaps 7 = .ok (.invokevirtual 256, 3) := dk_182 1 0 (dk_at dksX13_perhaps_0 7 rfl rfl)
theorem dX13_perhaps_10 : decode cX13_perhaps 10 = .ok (.aload_n 0, 1) := dk_42 (dk_at dksX13_perhaps_0 10 rfl rfl)
theorem dX13_perhaps_11 : decode cX13_perhaps 11 = .ok (.iconst 0, 1) := dk_3 (dk_at dksX13_perhaps_0 11 rfl rfl)
theorem dX13_perhaps_12 : decode cX13_perhaps 12 = .ok (.iload_n 3, 1) := dk_29 (dk_at dksX13_perhaps_0 12 rfl rfl)
theorem dX13_perhaps_13 : decode cX13_perhaps 13 = .ok (.invokevirtual 259, 3) := dk_182 1 3 (dk_at dksX13_perhaps_0 13 rfl rfl)
theorem dX13_perhaps_16 : decode cX13_perhaps 16 = .ok (.ifCond .ne 5, 3) := dk_154 0 5 (dk_at dksX13_perhaps_0 16 rfl rfl)
theorem dX13_perhaps_19 : decode cX13_perhaps 19 = .ok (.iconst 0, 1) := dk_3 (dk_at dksX13_perhaps_0 19 rfl rfl)
theorem dX13_perhaps_20 : decode cX13_perhaps 20 = .ok (.ireturn, 1) := dk_172 (dk_at dksX13_perhaps_0 20 rfl rfl)
theorem dX13_perhaps_21 : decode cX13_perhaps 21 = .ok (.aload_n 0, 1) := dk_42 (dk_at dksX13_perhaps_0 21 rfl rfl)
theorem dX13_perhaps_22 : decode cX13_perhaps 22 = .ok (.getfield 7, 3) := dk_180 0 7 (dk_at dksX13_perhaps_1 0 rfl rfl)
theorem dX13_perhaps_25 : decode cX13_perhaps 25 = .ok (.iload_n 2, 1) := dk_28 (dk_at dksX13_perhaps_1 3 rfl rfl)
theorem dX13_perhaps_26 : decode cX13_perhaps 26 = .ok (.aload_n 0, 1) := dk_42 (dk_at dksX13_perhaps_1 4 rfl rfl)
theorem dX13_perhaps_27 : decode cX13_perhaps 27 = .ok (.getfield 228, 3) := dk_180 0 228 (dk_at dksX13_perhaps_1 5 rfl rfl)
theorem dX13_perhaps_30 : decode cX13_perhaps 30 = .ok (.iastore, 1) := dk_79 (dk_at dksX13_perhaps_1 8 rfl rfl)
theorem dX13_perhaps_31 : decode cX13_perhaps 31 = .ok (.aload_n 0, 1) := dk_42 (dk_at dksX13_perhaps_1 9 rfl rfl)
theorem dX13_perhaps_32 : decode cX13_perhaps 32 = .ok (.invokevirtual 256, 3) := dk_182 1 0 (dk_at dksX13_perhaps_1 10 rfl rfl)
theorem dX13_perhaps_35 : decode cX13_perhaps 35 = .ok (.iconst 1, 1) := dk_4 (dk_at dksX13_perhaps_1 13 rfl rfl)
theorem dX13_perhaps_36 : decode cX13_perhaps 36 = .ok (.ireturn, 1) := dk_172 (dk_at dksX13_perhaps_1 14 rfl rfl)
abbrev cX13_isNumber : ByteArray := prog_16_method_81_code
def yX13_isNumber : MethodName := ⟨RX13, "isNumber", "(II)Z"⟩
def dkwX13_isNumber_1 : List UInt8 := [182, 0, 241, 153, 0, 7, 4, 167, 0, 4, 3, 172]
abbrev dktX13_isNumber_1 : List UInt8 := dkwX13_isNumber_1 ++ []
def dkwX13_isNumber_0 : List UInt8 := [42, 180, 0, 225, 5, 160, 0, 18, 42, 180, 0, 228, 133, 27, 133, 28, 133, 184, 0, 49, 154, 0, 10, 42]
abbrev dktX13_isNumber_0 : List UInt8 := dkwX13_isNumber_0 ++ dktX13_isNumber_1
theorem dksX13_isNumber_0 : cX13_isNumber.data.toList.drop 0 = dktX13_isNumber_0 := by decide +kernel
theorem dksX13_isNumber_1 : cX13_isNumber.data.toList.drop 24 = dktX13_isNumber_1 := dk_seg dksX13_isNumber_0 24 rfl rfl
theorem dX13_isNumber_0 : decode cX13_isNumber 0 = .ok (.aload_n 0, 1) := dk_42 (dk_at dksX13_isNumber_0 0 rfl rfl)
theorem dX13_isNumber_1 : decode cX13_isNumber 1 = .ok (.getfield 225, 3) := dk_180 0 225 (dk_at dksX13_isNumber_0 1 rfl rfl)
theorem dX13_isNumber_4 : decode cX13_isNumber 4 = .ok (.iconst 2, 1) := dk_5 (dk_at dksX13_isNumber_0 4 rfl rfl)
theorem dX13_isNumber_5 : decode cX13_isNumber 5 = .ok (.if_icmp .ne 18, 3) := dk_160 0 18 (dk_at dksX13_isNumber_0 5 rfl rfl)
theorem dX13_isNumber_8 : decode cX13_isNumber 8 = .ok (.aload_n 0, 1) := dk_42 (dk_at dksX13_isNumber_0 8 rfl rfl)
theorem dX13_isNumber_9 : decode cX13_isNumber 9 = .ok (.getfield 228, 3) := dk_180 0 228 (dk_at dksX13_isNumber_0 9 rfl rfl)
theorem dX13_isNumber_12 : decode cX13_isNumber 12 = .ok (.i2l, 1) := dk_133 (dk_at dksX13_isNumber_0 12 rfl rfl)
theorem dX13_isNumber_13 : decode cX13_isNumber 13 = .ok (.iload_n 1, 1) := dk_27 (dk_at dksX13_isNumber_0 13 rfl rfl)
theorem dX13_isNumber_14 : decode cX13_isNumber 14 = .ok (.i2l, 1) := dk_133 (dk_at dksX13_isNumber_0 14 rfl rfl)
theorem dX13_isNumber_15 : decode cX13_isNumber 15 = .ok (.iload_n 2, 1) := dk_28 (dk_at dksX13_isNumber_0 15 rfl rfl)
theorem dX13_isNumber_16 : decode cX13_isNumber 16 = .ok (.i2l, 1) := dk_133 (dk_at dksX13_isNumber_0 16 rfl rfl)
theorem dX13_isNumber_17 : decode cX13_isNumber 17 = .ok (.invokestatic 49, 3) := dk_184 0 49 (dk_at dksX13_isNumber_0 17 rfl rfl)
theorem dX13_isNumber_20 : decode cX13_isNumber 20 = .ok (.ifCond .ne 10, 3) := dk_154 0 10 (dk_at dksX13_isNumber_0 20 rfl rfl)
theorem dX13_isNumber_23 : decode cX13_isNumber 23 = .ok (.aload_n 0, 1) := dk_42 (dk_at dksX13_isNumber_0 23 rfl rfl)
theorem dX13_isNumber_24 : decode cX13_isNumber 24 = .ok (.invokevirtual 241, 3) := dk_182 0 241 (dk_at dksX13_isNumber_1 0 rfl rfl)
theorem dX13_isNumber_27 : decode cX13_isNumber 27 = .ok (.ifCond .eq 7, 3) := dk_153 0 7 (dk_at dksX13_isNumber_1 3 rfl rfl)
theorem dX13_isNumber_30 : decode cX13_isNumber 30 = .ok (.iconst 1, 1) := dk_4 (dk_at dksX13_isNumber_1 6 rfl rfl)
theorem dX13_isNumber_31 : decode cX13_isNumber 31 = .ok (.goto 4, 3) := dk_167 0 4 (dk_at dksX13_isNumber_1 7 rfl rfl)
theorem dX13_isNumber_34 : decode cX13_isNumber 34 = .ok (.iconst 0, 1) := dk_3 (dk_at dksX13_isNumber_1 10 rfl rfl)
theorem dX13_isNumber_35 : decode cX13_isNumber 35 = .ok (.ireturn, 1) := dk_172 (dk_at dksX13_isNumber_1 11 rfl rfl)
abbrev cX13_cellarHere : ByteArray := prog_16_method_85_code
def yX13_cellarHere : MethodName := ⟨RX13, "cellarHere", "(II)Z"⟩
def dkwX13_cellarHere_1 : List UInt8 := [182, 1, 6, 153, 0, 7, 4, 167, 0, 4, 3, 172]
abbrev dktX13_cellarHere_1 : List UInt8 := dkwX13_cellarHere_1 ++ []
def dkwX13_cellarHere_0 : List UInt8 := [42, 182, 1, 0, 42, 3, 8, 182, 1, 3, 153, 0, 22, 42, 4, 27, 42, 180, 0, 228, 96, 28]
abbrev dktX13_cellarHere_0 : List UInt8 := dkwX13_cellarHere_0 ++ dktX13_cellarHere_1
theorem dksX13_cellarHere_0 : cX13_cellarHere.data.toList.drop 0 = dktX13_cellarHere_0 := by decide +kernel
theorem dksX13_cellarHere_1 : cX13_cellarHere.data.toList.drop 22 = dktX13_cellarHere_1 := dk_seg dksX13_cellarHere_0 22 rfl rfl
theorem dX13_cellarHere_0 : decode cX13_cellarHere 0 = .ok (.aload_n 0, 1) := dk_42 (dk_at dksX13_cellarHere_0 0 rfl rfl)
theorem dX13_cellarHere_1 : decode cX13_cellarHere 1 = .ok (.invokevirtual 256, 3) := dk_182 1 0 (dk_at dksX13_cellarHere_0 1 rfl rfl)
theorem dX13_cellarHere_4 : decode cX13_cellarHere 4 = .ok (.aload_n 0, 1) := dk_42 (dk_at dksX13_cellarHere_0 4 rfl rfl)
theorem dX13_cellarHere_5 : decode cX13_cellarHere 5 = .ok (.iconst 0, 1) := dk_3 (dk_at dksX13_cellarHere_0 5 rfl rfl)
theorem dX13_cellarHere_6 : decode cX13_cellarHere 6 = .ok (.iconst 5, 1) := dk_8 (dk_at dksX13_cellarHere_0 6 rfl rfl)
theorem dX13_cellarHere_7 : decode cX13_cellarHere 7 = .ok (.invokevirtual 259, 3) := dk_182 1 3 (dk_at dksX13_cellarHere_0 7 rfl rfl)
theorem dX13_cellarHere_10 : decode cX13_cellarHere 10 = .ok (.ifCond .eq 22, 3) := dk_153 0 22 (dk_at dksX13_cellarHere_0 10 rfl rfl)
theorem dX13_cellarHere_13 : decode cX13_cellarHere 13 = .ok (.aload_n 0, 1) := dk_42 (dk_at dksX13_cellarHere_0 13 rfl rfl)
theorem dX13_cellarHere_14 : decode cX13_cellarHere 14 = .ok (.iconst 1, 1) := dk_4 (dk_at dksX13_cellarHere_0 14 rfl rfl)
theorem dX13_cellarHere_15 : decode cX13_cellarHere 15 = .ok (.iload_n 1, 1) := dk_27 (dk_at dksX13_cellarHere_0 15 rfl rfl)
theorem dX13_cellarHere_16 : decode cX13_cellarHere 16 = .ok (.aload_n 0, 1) := dk_42 (dk_at dksX13_cellarHere_0 16 rfl rfl)
theorem dX13_cellarHere_17 : decode cX13_cellarHere 17 = .ok (.getfield 228, 3) := dk_180 0 228 (dk_at dksX13_cellarHere_0 17 rfl rfl)
theorem dX13_cellarHere_20 : decode cX13_cellarHere 20 = .ok (.iadd, 1) := dk_96 (dk_at dksX13_cellarHere_0 20 rfl rfl)
theorem dX13_cellarHere_21 : decode cX13_cellarHere 21 = .ok (.iload_n 2, 1) := dk_28 (dk_at dksX13_cellarHere_0 21 rfl rfl)
theorem dX13_cellarHere_22 : decode cX13_cellarHere 22 = .ok (.invokevirtual 262, 3) := dk_182 1 6 (dk_at dksX13_cellarHere_1 0 rfl rfl)
theorem dX13_cellarHere_25 : decode cX13_cellarHere 25 = .ok (.ifCond .eq 7, 3) := dk_153 0 7 (dk_at dksX13_cellarHere_1 3 rfl rfl)
theorem dX13_cellarHere_28 : decode cX13_cellarHere 28 = .ok (.iconst 1, 1) := dk_4 (dk_at dksX13_cellarHere_1 6 rfl rfl)
theorem dX13_cellarHere_29 : decode cX13_cellarHere 29 = .ok (.goto 4, 3) := dk_167 0 4 (dk_at dksX13_cellarHere_1 7 rfl rfl)
theorem dX13_cellarHere_32 : decode cX13_cellarHere 32 = .ok (.iconst 0, 1) := dk_3 (dk_at dksX13_cellarHere_1 10 rfl rfl)
theorem dX13_cellarHere_33 : decode cX13_cellarHere 33 = .ok (.ireturn, 1) := dk_172 (dk_at dksX13_cellarHere_1 11 rfl rfl)
abbrev cX13_hold : ByteArray := prog_16_method_88_code
def yX13_hold : MethodName := ⟨RX13, "hold", "(II)I"⟩
def dkwX13_hold_1 : List UInt8 := [154, 0, 10, 42, 18, 37, 182, 0, 39, 172, 42, 180, 0, 7, 16, 72, 27, 96, 28, 79, 4, 172]
abbrev dktX13_hold_1 : List UInt8 := dkwX13_hold_1 ++ []
def dkwX13_hold_0 : List UInt8 := [27, 133, 9, 20, 0, 47, 184, 0, 49, 153, 0, 16, 28, 2, 159, 0, 18, 42, 28, 182, 0, 86]
abbrev dktX13_hold_0 : List UInt8 := dkwX13_hold_0 ++ dktX13_hold_1
theorem dksX13_hold_0 : cX13_hold.data.toList.drop 0 = dktX13_hold_0 := by decide +kernel
theorem dksX13_hold_1 : cX13_hold.data.toList.drop 22 = dktX13_hold_1 := dk_seg dksX13_hold_0 22 rfl rfl
theorem dX13_hold_0 : decode cX13_hold 0 = .ok (.iload_n 1, 1) := dk_27 (dk_at dksX13_hold_0 0 rfl rfl)
theorem dX13_hold_1 : decode cX13_hold 1 = .ok (.i2l, 1) := dk_133 (dk_at dksX13_hold_0 1 rfl rfl)
theorem dX13_hold_2 : decode cX13_hold 2 = .ok (.lconst 0, 1) := dk_9 (dk_at dksX13_hold_0 2 rfl rfl)
theorem dX13_hold_3 : decode cX13_hold 3 = .ok (.ldc2_w 47, 3) := dk_20 0 47 (dk_at dksX13_hold_0 3 rfl rfl)
theorem dX13_hold_6 : decode cX13_hold 6 = .ok (.invokestatic 49, 3) := dk_184 0 49 (dk_at dksX13_hold_0 6 rfl rfl)
theorem dX13_hold_9 : decode cX13_hold 9 = .ok (.ifCond .eq 16, 3) := dk_153 0 16 (dk_at dksX13_hold_0 9 rfl rfl)
theorem dX13_hold_12 : decode cX13_hold 12 = .ok (.iload_n 2, 1) := dk_28 (dk_at dksX13_hold_0 12 rfl rfl)
theorem dX13_hold_13 : decode cX13_hold 13 = .ok (.iconst (-1), 1) := dk_2 (dk_at dksX13_hold_0 13 rfl rfl)
theorem dX13_hold_14 : decode cX13_hold 14 = .ok (.if_icmp .eq 18, 3) := dk_159 0 18 (dk_at dksX13_hold_0 14 rfl rfl)
theorem dX13_hold_17 : decode cX13_hold 17 = .ok (.aload_n 0, 1) := dk_42 (dk_at dksX13_hold_0 17 rfl rfl)
theorem dX13_hold_18 : decode cX13_hold 18 = .ok (.iload_n 2, 1) := dk_28 (dk_at dksX13_hold_0 18 rfl rfl)
theorem dX13_hold_19 : decode cX13_hold 19 = .ok (.invokevirtual 86, 3) := dk_182 0 86 (dk_at dksX13_hold_0 19 rfl rfl)
theorem dX13_hold_22 : decode cX13_hold 22 = .ok (.ifCond .ne 10, 3) := dk_154 0 10 (dk_at dksX13_hold_1 0 rfl rfl)
theorem dX13_hold_25 : decode cX13_hold 25 = .ok (.aload_n 0, 1) := dk_42 (dk_at dksX13_hold_1 3 rfl rfl)
theorem dX13_hold_26 : decode cX13_hold 26 = .ok (.ldc 37, 2) := dk_18 37 (dk_at dksX13_hold_1 4 rfl rfl)
theorem dX13_hold_28 : decode cX13_hold 28 = .ok (.invokevirtual 39, 3) := dk_182 0 39 (dk_at dksX13_hold_1 6 rfl rfl)
theorem dX13_hold_31 : decode cX13_hold 31 = .ok (.ireturn, 1) := dk_172 (dk_at dksX13_hold_1 9 rfl rfl)
theorem dX13_hold_32 : decode cX13_hold 32 = .ok (.aload_n 0, 1) := dk_42 (dk_at dksX13_hold_1 10 rfl rfl)
theorem dX13_hold_33 : decode cX13_hold 33 = .ok (.getfield 7, 3) := dk_180 0 7 (dk_at dksX13_hold_1 11 rfl rfl)
theorem dX13_hold_36 : decode cX13_hold 36 = .ok (.bipush 72, 2) := dk_16 72 (dk_at dksX13_hold_1 14 rfl rfl)
theorem dX13_hold_38 : decode cX13_hold 38 = .ok (.iload_n 1, 1) := dk_27 (dk_at dksX13_hold_1 16 rfl rfl)
theorem dX13_hold_39 : decode cX13_hold 39 = .ok (.iadd, 1) := dk_96 (dk_at dksX13_hold_1 17 rfl rfl)
theorem dX13_hold_40 : decode cX13_hold 40 = .ok (.iload_n 2, 1) := dk_28 (dk_at dksX13_hold_1 18 rfl rfl)
theorem dX13_hold_41 : decode cX13_hold 41 = .ok (.iastore, 1) := dk_79 (dk_at dksX13_hold_1 19 rfl rfl)
theorem dX13_hold_42 : decode cX13_hold 42 = .ok (.iconst 1, 1) := dk_4 (dk_at dksX13_hold_1 20 rfl rfl)
theorem dX13_hold_43 : decode cX13_hold 43 = .ok (.ireturn, 1) := dk_172 (dk_at dksX13_hold_1 21 rfl rfl)
abbrev cX13_as : ByteArray := prog_16_method_90_code
def yX13_as : MethodName := ⟨RX13, "as", "(II)I"⟩
def dkwX13_as_3 : List UInt8 := [42, 19, 1, 26, 182, 0, 39, 172]
abbrev dktX13_as_3 : List UInt8 := dkwX13_as_3 ++ []
def dkwX13_as_2 : List UInt8 := [19, 1, 22, 182, 0, 39, 172, 42, 29, 3, 182, 0, 57, 28, 184, 1, 23, 153, 0, 7, 29, 167, 0, 10]
abbrev dktX13_as_2 : List UInt8 := dkwX13_as_2 ++ dktX13_as_3
def dkwX13_as_1 : List UInt8 := [42, 18, 37, 182, 0, 39, 172, 42, 180, 0, 7, 16, 72, 27, 96, 46, 62, 29, 156, 0, 11, 42]
abbrev dktX13_as_1 : List UInt8 := dkwX13_as_1 ++ dktX13_as_2
def dkwX13_as_0 : List UInt8 := [27, 133, 9, 20, 0, 47, 184, 0, 49, 153, 0, 15, 28, 133, 9, 20, 0, 73, 184, 0, 49, 154, 0, 10]
abbrev dktX13_as_0 : List UInt8 := dkwX13_as_0 ++ dktX13_as_1
theorem dksX13_as_0 : cX13_as.data.toList.drop 0 = dktX13_as_0 := by decide +kernel
theorem dksX13_as_1 : cX13_as.data.toList.drop 24 = dktX13_as_1 := dk_seg dksX13_as_0 24 rfl rfl
theorem dksX13_as_2 : cX13_as.data.toList.drop 46 = dktX13_as_2 := dk_seg dksX13_as_1 22 rfl rfl
theorem dksX13_as_3 : cX13_as.data.toList.drop 70 = dktX13_as_3 := dk_seg dksX13_as_2 24 rfl rfl
theorem dX13_as_0 : decode cX13_as 0 = .ok (.iload_n 1, 1) := dk_27 (dk_at dksX13_as_0 0 rfl rfl)
theorem dX13_as_1 : decode cX13_as 1 = .ok (.i2l, 1) := dk_133 (dk_at dksX13_as_0 1 rfl rfl)
theorem dX13_as_2 : decode cX13_as 2 = .ok (.lconst 0, 1) := dk_9 (dk_at dksX13_as_0 2 rfl rfl)
theorem dX13_as_3 : decode cX13_as 3 = .ok (.ldc2_w 47, 3) := dk_20 0 47 (dk_at dksX13_as_0 3 rfl rfl)
theorem dX13_as_6 : decode cX13_as 6 = .ok (.invokestatic 49, 3) := dk_184 0 49 (dk_at dksX13_as_0 6 rfl rfl)
theorem dX13_as_9 : decode cX13_as 9 = .ok (.ifCond .eq 15, 3) := dk_153 0 15 (dk_at dksX13_as_0 9 rfl rfl)
theorem dX13_as_12 : decode cX13_as 12 = .ok (.iload_n 2, 1) := dk_28 (dk_at dksX13_as_0 12 rfl rfl)
theorem dX13_as_13 : decode cX13_as 13 = .ok (.i2l, 1) := dk_133 (dk_at dksX13_as_0 13 rfl rfl)
theorem dX13_as_14 : decode cX13_as 14 = .ok (.lconst 0, 1) := dk_9 (dk_at dksX13_as_0 14 rfl rfl)
theorem dX13_as_15 : decode cX13_as 15 = .ok (.ldc2_w 73, 3) := dk_20 0 73 (dk_at dksX13_as_0 15 rfl rfl)
theorem dX13_as_18 : decode cX13_as 18 = .ok (.invokestatic 49, 3) := dk_184 0 49 (dk_at dksX13_as_0 18 rfl rfl)
theorem dX13_as_21 : decode cX13_as 21 = .ok (.ifCond .ne 10, 3) := dk_154 0 10 (dk_at dksX13_as_0 21 rfl rfl)
theorem dX13_as_24 : decode cX13_as 24 = .ok (.aload_n 0, 1) := dk_42 (dk_at dksX13_as_1 0 rfl rfl)
theorem dX13_as_25 : decode cX13_as 25 = .ok (.ldc 37, 2) := dk_18 37 (dk_at dksX13_as_1 1 rfl rfl)
theorem dX13_as_27 : decode cX13_as 27 = .ok (.invokevirtual 39, 3) := dk_182 0 39 (dk_at dksX13_as_1 3 rfl rfl)
theorem dX13_as_30 : decode cX13_as 30 = .ok (.ireturn, 1) := dk_172 (dk_at dksX13_as_1 6 rfl rfl)
theorem dX13_as_31 : decode cX13_as 31 = .ok (.aload_n 0, 1) := dk_42 (dk_at dksX13_as_1 7 rfl rfl)
theorem dX13_as_32 : decode cX13_as 32 = .ok (.getfield 7, 3) := dk_180 0 7 (dk_at dksX13_as_1 8 rfl rfl)
theorem dX13_as_35 : decode cX13_as 35 = .ok (.bipush 72, 2) := dk_16 72 (dk_at dksX13_as_1 11 rfl rfl)
theorem dX13_as_37 : decode cX13_as 37 = .ok (.iload_n 1, 1) := dk_27 (dk_at dksX13_as_1 13 rfl rfl)
theorem dX13_as_38 : decode cX13_as 38 = .ok (.iadd, 1) := dk_96 (dk_at dksX13_as_1 14 rfl rfl)
theorem dX13_as_39 : decode cX13_as 39 = .ok (.iaload, 1) := dk_46 (dk_at dksX13_as_1 15 rfl rfl)
theorem dX13_as_40 : decode cX13_as 40 = .ok (.istore_n 3, 1) := dk_62 (dk_at dksX13_as_1 16 rfl rfl)
theorem dX13_as_41 : decode cX13_as 41 = .ok (.iload_n 3, 1) := dk_29 (dk_at dksX13_as_1 17 rfl rfl)
theorem dX13_as_42 : decode cX13_as 42 = .ok (.ifCond .ge 11, 3) := dk_156 0 11 (dk_at dksX13_as_1 18 rfl rfl)
theorem dX13_as_45 : decode cX13_as 45 = .ok (.aload_n 0, 1) := dk_42 (dk_at dksX13_as_1 21 rfl rfl)
theorem dX13_as_46 : decode cX13_as 46 = .ok (.ldc_w 278, 3) := dk_19 1 22 (dk_at dksX13_as_2 0 rfl rfl)
theorem dX13_as_49 : decode cX13_as 49 = .ok (.invokevirtual 39, 3) := dk_182 0 39 (dk_at dksX13_as_2 3 rfl rfl)
theorem dX13_as_52 : decode cX13_as 52 = .ok (.ireturn, 1) := dk_172 (dk_at dksX13_as_2 6 rfl rfl)
theorem dX13_as_53 : decode cX13_as 53 = .ok (.aload_n 0, 1) := dk_42 (dk_at dksX13_as_2 7 rfl rfl)
theorem dX13_as_54 : decode cX13_as 54 = .ok (.iload_n 3, 1) := dk_29 (dk_at dksX13_as_2 8 rfl rfl)
theorem dX13_as_55 : decode cX13_as 55 = .ok (.iconst 0, 1) := dk_3 (dk_at dksX13_as_2 9 rfl rfl)
theorem dX13_as_56 : decode cX13_as 56 = .ok (.invokevirtual 57, 3) := dk_182 0 57 (dk_at dksX13_as_2 10 rfl rfl)
theorem dX13_as_59 : decode cX13_as 59 = .ok (.iload_n 2, 1) := dk_28 (dk_at dksX13_as_2 13 rfl rfl)
theorem dX13_as_60 : decode cX13_as 60 = .ok (.invokestatic 279, 3) := dk_184 1 23 (dk_at dksX13_as_2 14 rfl rfl)
theorem dX13_as_63 : decode cX13_as 63 = .ok (.ifCond .eq 7, 3) := dk_153 0 7 (dk_at dksX13_as_2 17 rfl rfl)
theorem dX13_as_66 : decode cX13_as 66 = .ok (.iload_n 3, 1) := dk_29 (dk_at dksX13_as_2 20 rfl rfl)
theorem dX13_as_67 : decode cX13_as 67 = .ok (.goto 10, 3) := dk_167 0 10 (dk_at dksX13_as_2 21 rfl rfl)
theorem dX13_as_70 : decode cX13_as 70 = .ok (.aload_n 0, 1) := dk_42 (dk_at dksX13_as_3 0 rfl rfl)
theorem dX13_as_71 : decode cX13_as 71 = .ok (.ldc_w 282, 3) := dk_19 1 26 (dk_at dksX13_as_3 1 rfl rfl)
theorem dX13_as_74 : decode cX13_as 74 = .ok (.invokevirtual 39, 3) := dk_182 0 39 (dk_at dksX13_as_3 4 rfl rfl)
theorem dX13_as_77 : decode cX13_as 77 = .ok (.ireturn, 1) := dk_172 (dk_at dksX13_as_3 7 rfl rfl)
abbrev cX13_isUnder : ByteArray := prog_16_method_89_code
def yX13_isUnder : MethodName := ⟨RX13, "isUnder", "(II)Z"⟩
def dkwX13_isUnder_2 : List UInt8 := [167, 0, 4, 3, 172]
abbrev dktX13_isUnder_2 : List UInt8 := dkwX13_isUnder_2 ++ []
def dkwX13_isUnder_1 : List UInt8 := [27, 6, 160, 0, 8, 26, 7, 159, 0, 14, 27, 4, 160, 0, 13, 26, 16, 6, 160, 0, 7, 4]
abbrev dktX13_isUnder_1 : List UInt8 := dkwX13_isUnder_1 ++ dktX13_isUnder_2
def dkwX13_isUnder_0 : List UInt8 := [27, 153, 0, 44, 26, 27, 159, 0, 39, 27, 5, 160, 0, 13, 26, 6, 159, 0, 29, 26, 7, 159, 0, 24]
abbrev dktX13_isUnder_0 : List UInt8 := dkwX13_isUnder_0 ++ dktX13_isUnder_1
theorem dksX13_isUnder_0 : cX13_isUnder.data.toList.drop 0 = dktX13_isUnder_0 := by decide +kernel
theorem dksX13_isUnder_1 : cX13_isUnder.data.toList.drop 24 = dktX13_isUnder_1 := dk_seg dksX13_isUnder_0 24 rfl rfl
theorem dksX13_isUnder_2 : cX13_isUnder.data.toList.drop 46 = dktX13_isUnder_2 := dk_seg dksX13_isUnder_1 22 rfl rfl
theorem dX13_isUnder_0 : decode cX13_isUnder 0 = .ok (.iload_n 1, 1) := dk_27 (dk_at dksX13_isUnder_0 0 rfl rfl)
theorem dX13_isUnder_1 : decode cX13_isUnder 1 = .ok (.ifCond .eq 44, 3) := dk_153 0 44 (dk_at dksX13_isUnder_0 1 rfl rfl)
theorem dX13_isUnder_4 : decode cX13_isUnder 4 = .ok (.iload_n 0, 1) := dk_26 (dk_at dksX13_isUnder_0 4 rfl rfl)
theorem dX13_isUnder_5 : decode cX13_isUnder 5 = .ok (.iload_n 1, 1) := dk_27 (dk_at dksX13_isUnder_0 5 rfl rfl)
theorem dX13_isUnder_6 : decode cX13_isUnder 6 = .ok (.if_icmp .eq 39, 3) := dk_159 0 39 (dk_at dksX13_isUnder_0 6 rfl rfl)
theorem dX13_isUnder_9 : decode cX13_isUnder 9 = .ok (.iload_n 1, 1) := dk_27 (dk_at dksX13_isUnder_0 9 rfl rfl)
theorem dX13_isUnder_10 : decode cX13_isUnder 10 = .ok (.iconst 2, 1) := dk_5 (dk_at dksX13_isUnder_0 10 rfl rfl)
theorem dX13_isUnder_11 : decode cX13_isUnder 11 = .ok (.if_icmp .ne 13, 3) := dk_160 0 13 (dk_at dksX13_isUnder_0 11 rfl rfl)
theorem dX13_isUnder_14 : decode cX13_isUnder 14 = .ok (.iload_n 0, 1) := dk_26 (dk_at dksX13_isUnder_0 14 rfl rfl)
theorem dX13_isUnder_15 : decode cX13_isUnder 15 = .ok (.iconst 3, 1) := dk_6 (dk_at dksX13_isUnder_0 15 rfl rfl)
theorem dX13_isUnder_16 : decode cX13_isUnder 16 = .ok (.if_icmp .eq 29, 3) := dk_159 0 29 (dk_at dksX13_isUnder_0 16 rfl rfl)
theorem dX13_isUnder_19 : decode cX13_isUnder 19 = .ok (.iload_n 0, 1) := dk_26 (dk_at dksX13_isUnder_0 19 rfl rfl)
theorem dX13_isUnder_20 : decode cX13_isUnder 20 = .ok (.iconst 4, 1) := dk_7 (dk_at dksX13_isUnder_0 20 rfl rfl)
theorem dX13_isUnder_21 : decode cX13_isUnder 21 = .ok (.if_icmp .eq 24, 3) := dk_159 0 24 (dk_at dksX13_isUnder_0 21 rfl rfl)
theorem dX13_isUnder_24 : decode cX13_isUnder 24 = .ok (.iload_n 1, 1) := dk_27 (dk_at dksX13_isUnder_1 0 rfl rfl)
theorem dX13_isUnder_25 : decode cX13_isUnder 25 = .ok (.iconst 3, 1) := dk_6 (dk_at dksX13_isUnder_1 1 rfl rfl)
theorem dX13_isUnder_26 : decode cX13_isUnder 26 = .ok (.if_icmp .ne 8, 3) := dk_160 0 8 (dk_at dksX13_isUnder_1 2 rfl rfl)
theorem dX13_isUnder_29 : decode cX13_isUnder 29 = .ok (.iload_n 0, 1) := dk_26 (dk_at dksX13_isUnder_1 5 rfl rfl)
theorem dX13_isUnder_30 : decode cX13_isUnder 30 = .ok (.iconst 4, 1) := dk_7 (dk_at dksX13_isUnder_1 6 rfl rfl)
theorem dX13_isUnder_31 : decode cX13_isUnder 31 = .ok (.if_icmp .eq 14, 3) := dk_159 0 14 (dk_at dksX13_isUnder_1 7 rfl rfl)
theorem dX13_isUnder_34 : decode cX13_isUnder 34 = .ok (.iload_n 1, 1) := dk_27 (dk_at dksX13_isUnder_1 10 rfl rfl)
theorem dX13_isUnder_35 : decode cX13_isUnder 35 = .ok (.iconst 1, 1) := dk_4 (dk_at dksX13_isUnder_1 11 rfl rfl)
theorem dX13_isUnder_36 : decode cX13_isUnder 36 = .ok (.if_icmp .ne 13, 3) := dk_160 0 13 (dk_at dksX13_isUnder_1 12 rfl rfl)
theorem dX13_isUnder_39 : decode cX13_isUnder 39 = .ok (.iload_n 0, 1) := dk_26 (dk_at dksX13_isUnder_1 15 rfl rfl)
theorem dX13_isUnder_40 : decode cX13_isUnder 40 = .ok (.bipush 6, 2) := dk_16 6 (dk_at dksX13_isUnder_1 16 rfl rfl)
theorem dX13_isUnder_42 : decode cX13_isUnder 42 = .ok (.if_icmp .ne 7, 3) := dk_160 0 7 (dk_at dksX13_isUnder_1 18 rfl rfl)
theorem dX13_isUnder_45 : decode cX13_isUnder 45 = .ok (.iconst 1, 1) := dk_4 (dk_at dksX13_isUnder_1 21 rfl rfl)
theorem dX13_isUnder_46 : decode cX13_isUnder 46 = .ok (.goto 4, 3) := dk_167 0 4 (dk_at dksX13_isUnder_2 0 rfl rfl)
theorem dX13_isUnder_49 : decode cX13_isUnder 49 = .ok (.iconst 0, 1) := dk_3 (dk_at dksX13_isUnder_2 3 rfl rfl)
theorem dX13_isUnder_50 : decode cX13_isUnder 50 = .ok (.ireturn, 1) := dk_172 (dk_at dksX13_isUnder_2 4 rfl rfl)
abbrev cX13_sheet : ByteArray := prog_16_method_92_code
def yX13_sheet : MethodName := ⟨RX13, "sheet", "(III)I"⟩
def dkwX13_sheet_5 : List UInt8 := [167, 255, 233, 42, 180, 0, 31, 27, 46, 172]
abbrev dktX13_sheet_5 : List UInt8 := dkwX13_sheet_5 ++ []
def dkwX13_sheet_4 : List UInt8 := [21, 4, 16, 40, 162, 0, 22, 42, 180, 0, 34, 16, 40, 27, 104, 21, 4, 96, 3, 79, 132, 4, 1]
abbrev dktX13_sheet_4 : List UInt8 := dkwX13_sheet_4 ++ dktX13_sheet_5
def dkwX13_sheet_3 : List UInt8 := [167, 0, 4, 28, 79, 42, 180, 0, 31, 27, 28, 154, 0, 7, 3, 167, 0, 4, 29, 79, 3, 54, 4]
abbrev dktX13_sheet_3 : List UInt8 := dkwX13_sheet_3 ++ dktX13_sheet_4
def dkwX13_sheet_2 : List UInt8 := [29, 16, 40, 164, 0, 10, 42, 18, 37, 182, 0, 39, 172, 42, 180, 0, 28, 27, 28, 154, 0, 7, 2]
abbrev dktX13_sheet_2 : List UInt8 := dkwX13_sheet_2 ++ dktX13_sheet_3
def dkwX13_sheet_1 : List UInt8 := [16, 32, 159, 0, 10, 42, 18, 37, 182, 0, 39, 172, 29, 156, 0, 11, 42, 19, 1, 30, 182, 0, 39, 172]
abbrev dktX13_sheet_1 : List UInt8 := dkwX13_sheet_1 ++ dktX13_sheet_2
def dkwX13_sheet_0 : List UInt8 := [27, 184, 1, 27, 153, 0, 25, 28, 153, 0, 28, 28, 16, 8, 159, 0, 22, 28, 16, 16, 159, 0, 16, 28]
abbrev dktX13_sheet_0 : List UInt8 := dkwX13_sheet_0 ++ dktX13_sheet_1
theorem dksX13_sheet_0 : cX13_sheet.data.toList.drop 0 = dktX13_sheet_0 := by decide +kernel
theorem dksX13_sheet_1 : cX13_sheet.data.toList.drop 24 = dktX13_sheet_1 := dk_seg dksX13_sheet_0 24 rfl rfl
theorem dksX13_sheet_2 : cX13_sheet.data.toList.drop 48 = dktX13_sheet_2 := dk_seg dksX13_sheet_1 24 rfl rfl
theorem dksX13_sheet_3 : cX13_sheet.data.toList.drop 71 = dktX13_sheet_3 := dk_seg dksX13_sheet_2 23 rfl rfl
theorem dksX13_sheet_4 : cX13_sheet.data.toList.drop 94 = dktX13_sheet_4 := dk_seg dksX13_sheet_3 23 rfl rfl
theorem dksX13_sheet_5 : cX13_sheet.data.toList.drop 117 = dktX13_sheet_5 := dk_seg dksX13_sheet_4 23 rfl rfl
theorem dX13_sheet_0 : decode cX13_sheet 0 = .ok (.iload_n 1, 1) := dk_27 (dk_at dksX13_sheet_0 0 rfl rfl)
theorem dX13_sheet_1 : decode cX13_sheet 1 = .ok (.invokestatic 283, 3) := dk_184 1 27 (dk_at dksX13_sheet_0 1 rfl rfl)
theorem dX13_sheet_4 : decode cX13_sheet 4 = .ok (.ifCond .eq 25, 3) := dk_153 0 25 (dk_at dksX13_sheet_0 4 rfl rfl)
theorem dX13_sheet_7 : decode cX13_sheet 7 = .ok (.iload_n 2, 1) := dk_28 (dk_at dksX13_sheet_0 7 rfl rfl)
theorem dX13_sheet_8 : decode cX13_sheet 8 = .ok (.ifCond .eq 28, 3) := dk_153 0 28 (dk_at dksX13_sheet_0 8 rfl rfl)
theorem dX13_sheet_11 : decode cX13_sheet 11 = .ok (.iload_n 2, 1) := dk_28 (dk_at dksX13_sheet_0 11 rfl rfl)
theorem dX13_sheet_12 : decode cX13_sheet 12 = .ok (.bipush 8, 2) := dk_16 8 (dk_at dksX13_sheet_0 12 rfl rfl)
theorem dX13_sheet_14 : decode cX13_sheet 14 = .ok (.if_icmp .eq 22, 3) := dk_159 0 22 (dk_at dksX13_sheet_0 14 rfl rfl)
theorem dX13_sheet_17 : decode cX13_sheet 17 = .ok (.iload_n 2, 1) := dk_28 (dk_at dksX13_sheet_0 17 rfl rfl)
theorem dX13_sheet_18 : decode cX13_sheet 18 = .ok (.bipush 16, 2) := dk_16 16 (dk_at dksX13_sheet_0 18 rfl rfl)
theorem dX13_sheet_20 : decode cX13_sheet 20 = .ok (.if_icmp .eq 16, 3) := dk_159 0 16 (dk_at dksX13_sheet_0 20 rfl rfl)
theorem dX13_sheet_23 : decode cX13_sheet 23 = .ok (.iload_n 2, 1) := dk_28 (dk_at dksX13_sheet_0 23 rfl rfl)
theorem dX13_sheet_24 : decode cX13_sheet 24 = .ok (.bipush 32, 2) := dk_16 32 (dk_at dksX13_sheet_1 0 rfl rfl)
theorem dX13_sheet_26 : decode cX13_sheet 26 = .ok (.if_icmp .eq 10, 3) := dk_159 0 10 (dk_at dksX13_sheet_1 2 rfl rfl)
theorem dX13_sheet_29 : decode cX13_sheet 29 = .ok (.aload_n 0, 1) := dk_42 (dk_at dksX13_sheet_1 5 rfl rfl)
theorem dX13_sheet_30 : decode cX13_sheet 30 = .ok (.ldc 37, 2) := dk_18 37 (dk_at dksX13_sheet_1 6 rfl rfl)
theorem dX13_sheet_32 : decode cX13_sheet 32 = .ok (.invokevirtual 39, 3) := dk_182 0 39 (dk_at dksX13_sheet_1 8 rfl rfl)
theorem dX13_sheet_35 : decode cX13_sheet 35 = .ok (.ireturn, 1) := dk_172 (dk_at dksX13_sheet_1 11 rfl rfl)
theorem dX13_sheet_36 : decode cX13_sheet 36 = .ok (.iload_n 3, 1) := dk_29 (dk_at dksX13_sheet_1 12 rfl rfl)
theorem dX13_sheet_37 : decode cX13_sheet 37 = .ok (.ifCond .ge 11, 3) := dk_156 0 11 (dk_at dksX13_sheet_1 13 rfl rfl)
theorem dX13_sheet_40 : decode cX13_sheet 40 = .ok (.aload_n 0, 1) := dk_42 (dk_at dksX13_sheet_1 16 rfl rfl)
theorem dX13_sheet_41 : decode cX13_sheet 41 = .ok (.ldc_w 286, 3) := dk_19 1 30 (dk_at dksX13_sheet_1 17 rfl rfl)
theorem dX13_sheet_44 : decode cX13_sheet 44 = .ok (.invokevirtual 39, 3) := dk_182 0 39 (dk_at dksX13_sheet_1 20 rfl rfl)
theorem dX13_sheet_47 : decode cX13_sheet 47 = .ok (.ireturn, 1) := dk_172 (dk_at dksX13_sheet_1 23 rfl rfl)
theorem dX13_sheet_48 : decode cX13_sheet 48 = .ok (.iload_n 3, 1) := dk_29 (dk_at dksX13_sheet_2 0 rfl rfl)
theorem dX13_sheet_49 : decode cX13_sheet 49 = .ok (.bipush 40, 2) := dk_16 40 (dk_at dksX13_sheet_2 1 rfl rfl)
theorem dX13_sheet_51 : decode cX13_sheet 51 = .ok (.if_icmp .le 10, 3) := dk_164 0 10 (dk_at dksX13_sheet_2 3 rfl rfl)
theorem dX13_sheet_54 : decode cX13_sheet 54 = .ok (.aload_n 0, 1) := dk_42 (dk_at dksX13_sheet_2 6 rfl rfl)
theorem dX13_sheet_55 : decode cX13_sheet 55 = .ok (.ldc 37, 2) := dk_18 37 (dk_at dksX13_sheet_2 7 rfl rfl)
theorem dX13_sheet_57 : decode cX13_sheet 57 = .ok (.invokevirtual 39, 3) := dk_182 0 39 (dk_at dksX13_sheet_2 9 rfl rfl)
theorem dX13_sheet_60 : decode cX13_sheet 60 = .ok (.ireturn, 1) := dk_172 (dk_at dksX13_sheet_2 12 rfl rfl)
theorem dX13_sheet_61 : decode cX13_sheet 61 = .ok (.aload_n 0, 1) := dk_42 (dk_at dksX13_sheet_2 13 rfl rfl)
theorem dX13_sheet_62 : decode cX13_sheet 62 = .ok (.getfield 28, 3) := dk_180 0 28 (dk_at dksX13_sheet_2 14 rfl rfl)
theorem dX13_sheet_65 : decode cX13_sheet 65 = .ok (.iload_n 1, 1) := dk_27 (dk_at dksX13_sheet_2 17 rfl rfl)
theorem dX13_sheet_66 : decode cX13_sheet 66 = .ok (.iload_n 2, 1) := dk_28 (dk_at dksX13_sheet_2 18 rfl rfl)
theorem dX13_sheet_67 : decode cX13_sheet 67 = .ok (.ifCond .ne 7, 3) := dk_154 0 7 (dk_at dksX13_sheet_2 19 rfl rfl)
theorem dX13_sheet_70 : decode cX13_sheet 70 = .ok (.iconst (-1), 1) := dk_2 (dk_at dksX13_sheet_2 22 rfl rfl)
theorem dX13_sheet_71 : decode cX13_sheet 71 = .ok (.goto 4, 3) := dk_167 0 4 (dk_at dksX13_sheet_3 0 rfl rfl)
theorem dX13_sheet_74 : decode cX13_sheet 74 = .ok (.iload_n 2, 1) := dk_28 (dk_at dksX13_sheet_3 3 rfl rfl)
theorem dX13_sheet_75 : decode cX13_sheet 75 = .ok (.iastore, 1) := dk_79 (dk_at dksX13_sheet_3 4 rfl rfl)
theorem dX13_sheet_76 : decode cX13_sheet 76 = .ok (.aload_n 0, 1) := dk_42 (dk_at dksX13_sheet_3 5 rfl rfl)
theorem dX13_sheet_77 : decode cX13_sheet 77 = .ok (.getfield 31, 3) := dk_180 0 31 (dk_at dksX13_sheet_3 6 rfl rfl)
theorem dX13_sheet_80 : decode cX13_sheet 80 = .ok (.iload_n 1, 1) := dk_27 (dk_at dksX13_sheet_3 9 rfl rfl)
theorem dX13_sheet_81 : decode cX13_sheet 81 = .ok (.iload_n 2, 1) := dk_28 (dk_at dksX13_sheet_3 10 rfl rfl)
theorem dX13_sheet_82 : decode cX13_sheet 82 = .ok (.ifCond .ne 7, 3) := dk_154 0 7 (dk_at dksX13_sheet_3 11 rfl rfl)
theorem dX13_sheet_85 : decode cX13_sheet 85 = .ok (.iconst 0, 1) := dk_3 (dk_at dksX13_sheet_3 14 rfl rfl)
theorem dX13_sheet_86 : decode cX13_sheet 86 = .ok (.goto 4, 3) := dk_167 0 4 (dk_at dksX13_sheet_3 15 rfl rfl)
theorem dX13_sheet_89 : decode cX13_sheet 89 = .ok (.iload_n 3, 1) := dk_29 (dk_at dksX13_sheet_3 18 rfl rfl)
theorem dX13_sheet_90 : decode cX13_sheet 90 = .ok (.iastore, 1) := dk_79 (dk_at dksX13_sheet_3 19 rfl rfl)
theorem dX13_sheet_91 : decode cX13_sheet 91 = .ok (.iconst 0, 1) := dk_3 (dk_at dksX13_sheet_3 20 rfl rfl)
theorem dX13_sheet_92 : decode cX13_sheet 92 = .ok (.istore 4, 2) := dk_54 4 (dk_at dksX13_sheet_3 21 rfl rfl)
theorem dX13_sheet_94 : decode cX13_sheet 94 = .ok (.iload 4, 2) := dk_21 4 (dk_at dksX13_sheet_4 0 rfl rfl)
theorem dX13_sheet_96 : decode cX13_sheet 96 = .ok (.bipush 40, 2) := dk_16 40 (dk_at dksX13_sheet_4 2 rfl rfl)
theorem dX13_sheet_98 : decode cX13_sheet 98 = .ok (.if_icmp .ge 22, 3) := dk_162 0 22 (dk_at dksX13_sheet_4 4 rfl rfl)
theorem dX13_sheet_101 : decode cX13_sheet 101 = .ok (.aload_n 0, 1) := dk_42 (dk_at dksX13_sheet_4 7 rfl rfl)
theorem dX13_sheet_102 : decode cX13_sheet 102 = .ok (.getfield 34, 3) := dk_180 0 34 (dk_at dksX13_sheet_4 8 rfl rfl)
theorem dX13_sheet_105 : decode cX13_sheet 105 = .ok (.bipush 40, 2) := dk_16 40 (dk_at dksX13_sheet_4 11 rfl rfl)
theorem dX13_sheet_107 : decode cX13_sheet 107 = .ok (.iload_n 1, 1) := dk_27 (dk_at dksX13_sheet_4 13 rfl rfl)
theorem dX13_sheet_108 : decode cX13_sheet 108 = .ok (.imul, 1) := dk_104 (dk_at dksX13_sheet_4 14 rfl rfl)
theorem dX13_sheet_109 : decode cX13_sheet 109 = .ok (.iload 4, 2) := dk_21 4 (dk_at dksX13_sheet_4 15 rfl rfl)
theorem dX13_sheet_111 : decode cX13_sheet 111 = .ok (.iadd, 1) := dk_96 (dk_at dksX13_sheet_4 17 rfl rfl)
theorem dX13_sheet_112 : decode cX13_sheet 112 = .ok (.iconst 0, 1) := dk_3 (dk_at dksX13_sheet_4 18 rfl rfl)
theorem dX13_sheet_113 : decode cX13_sheet 113 = .ok (.iastore, 1) := dk_79 (dk_at dksX13_sheet_4 19 rfl rfl)
theorem dX13_sheet_114 : decode cX13_sheet 114 = .ok (.iinc 4 1, 3) := dk_132 4 1 (dk_at dksX13_sheet_4 20 rfl rfl)
theorem dX13_sheet_117 : decode cX13_sheet 117 = .ok (.goto (-23), 3) := dk_167 255 233 (dk_at dksX13_sheet_5 0 rfl rfl)
theorem dX13_sheet_120 : decode cX13_sheet 120 = .ok (.aload_n 0, 1) := dk_42 (dk_at dksX13_sheet_5 3 rfl rfl)
theorem dX13_sheet_121 : decode cX13_sheet 121 = .ok (.getfield 31, 3) := dk_180 0 31 (dk_at dksX13_sheet_5 4 rfl rfl)
theorem dX13_sheet_124 : decode cX13_sheet 124 = .ok (.iload_n 1, 1) := dk_27 (dk_at dksX13_sheet_5 7 rfl rfl)
theorem dX13_sheet_125 : decode cX13_sheet 125 = .ok (.iaload, 1) := dk_46 (dk_at dksX13_sheet_5 8 rfl rfl)
theorem dX13_sheet_126 : decode cX13_sheet 126 = .ok (.ireturn, 1) := dk_172 (dk_at dksX13_sheet_5 9 rfl rfl)
abbrev cX13_write : ByteArray := prog_16_method_93_code
def yX13_write : MethodName := ⟨RX13, "write", "(III)I"⟩
def dkwX13_write_4 : List UInt8 := [147, 167, 0, 4, 29, 79, 4, 172]
abbrev dktX13_write_4 : List UInt8 := dkwX13_write_4 ++ []
def dkwX13_write_3 : List UInt8 := [27, 46, 16, 8, 160, 0, 8, 29, 145, 167, 0, 20, 42, 180, 0, 28, 27, 46, 16, 16, 160, 0, 8, 29]
abbrev dktX13_write_3 : List UInt8 := dkwX13_write_3 ++ dktX13_write_4
def dkwX13_write_2 : List UInt8 := [154, 0, 10, 42, 18, 37, 182, 0, 39, 172, 42, 180, 0, 34, 16, 40, 27, 104, 28, 96, 42, 180, 0, 28]
abbrev dktX13_write_2 : List UInt8 := dkwX13_write_2 ++ dktX13_write_3
def dkwX13_write_1 : List UInt8 := [19, 1, 22, 182, 0, 39, 172, 28, 133, 9, 42, 180, 0, 31, 27, 46, 4, 100, 133, 184, 0, 49]
abbrev dktX13_write_1 : List UInt8 := dkwX13_write_1 ++ dktX13_write_2
def dkwX13_write_0 : List UInt8 := [27, 184, 1, 27, 154, 0, 10, 42, 18, 37, 182, 0, 39, 172, 42, 180, 0, 28, 27, 46, 156, 0, 11, 42]
abbrev dktX13_write_0 : List UInt8 := dkwX13_write_0 ++ dktX13_write_1
theorem dksX13_write_0 : cX13_write.data.toList.drop 0 = dktX13_write_0 := by decide +kernel
theorem dksX13_write_1 : cX13_write.data.toList.drop 24 = dktX13_write_1 := dk_seg dksX13_write_0 24 rfl rfl
theorem dksX13_write_2 : cX13_write.data.toList.drop 46 = dktX13_write_2 := dk_seg dksX13_write_1 22 rfl rfl
theorem dksX13_write_3 : cX13_write.data.toList.drop 70 = dktX13_write_3 := dk_seg dksX13_write_2 24 rfl rfl
theorem dksX13_write_4 : cX13_write.data.toList.drop 94 = dktX13_write_4 := dk_seg dksX13_write_3 24 rfl rfl
theorem dX13_write_0 : decode cX13_write 0 = .ok (.iload_n 1, 1) := dk_27 (dk_at dksX13_write_0 0 rfl rfl)
theorem dX13_write_1 : decode cX13_write 1 = .ok (.invokestatic 283, 3) := dk_184 1 27 (dk_at dksX13_write_0 1 rfl rfl)
theorem dX13_write_4 : decode cX13_write 4 = .ok (.ifCond .ne 10, 3) := dk_154 0 10 (dk_at dksX13_write_0 4 rfl rfl)
theorem dX13_write_7 : decode cX13_write 7 = .ok (.aload_n 0, 1) := dk_42 (dk_at dksX13_write_0 7 rfl rfl)
theorem dX13_write_8 : decode cX13_write 8 = .ok (.ldc 37, 2) := dk_18 37 (dk_at dksX13_write_0 8 rfl rfl)
theorem dX13_write_10 : decode cX13_write 10 = .ok (.invokevirtual 39, 3) := dk_182 0 39 (dk_at dksX13_write_0 10 rfl rfl)
theorem dX13_write_13 : decode cX13_write 13 = .ok (.ireturn, 1) := dk_172 (dk_at dksX13_write_0 13 rfl rfl)
theorem dX13_write_14 : decode cX13_write 14 = .ok (.aload_n 0, 1) := dk_42 (dk_at dksX13_write_0 14 rfl rfl)
theorem dX13_write_15 : decode cX13_write 15 = .ok (.getfield 28, 3) := dk_180 0 28 (dk_at dksX13_write_0 15 rfl rfl)
theorem dX13_write_18 : decode cX13_write 18 = .ok (.iload_n 1, 1) := dk_27 (dk_at dksX13_write_0 18 rfl rfl)
theorem dX13_write_19 : decode cX13_write 19 = .ok (.iaload, 1) := dk_46 (dk_at dksX13_write_0 19 rfl rfl)
theorem dX13_write_20 : decode cX13_write 20 = .ok (.ifCond .ge 11, 3) := dk_156 0 11 (dk_at dksX13_write_0 20 rfl rfl)
theorem dX13_write_23 : decode cX13_write 23 = .ok (.aload_n 0, 1) := dk_42 (dk_at dksX13_write_0 23 rfl rfl)
theorem dX13_write_24 : decode cX13_write 24 = .ok (.ldc_w 278, 3) := dk_19 1 22 (dk_at dksX13_write_1 0 rfl rfl)
theorem dX13_write_27 : decode cX13_write 27 = .ok (.invokevirtual 39, 3) := dk_182 0 39 (dk_at dksX13_write_1 3 rfl rfl)
theorem dX13_write_30 : decode cX13_write 30 = .ok (.ireturn, 1) := dk_172 (dk_at dksX13_write_1 6 rfl rfl)
theorem dX13_write_31 : decode cX13_write 31 = .ok (.iload_n 2, 1) := dk_28 (dk_at dksX13_write_1 7 rfl rfl)
theorem dX13_write_32 : decode cX13_write 32 = .ok (.i2l, 1) := dk_133 (dk_at dksX13_write_1 8 rfl rfl)
theorem dX13_write_33 : decode cX13_write 33 = .ok (.lconst 0, 1) := dk_9 (dk_at dksX13_write_1 9 rfl rfl)
theorem dX13_write_34 : decode cX13_write 34 = .ok (.aload_n 0, 1) := dk_42 (dk_at dksX13_write_1 10 rfl rfl)
theorem dX13_write_35 : decode cX13_write 35 = .ok (.getfield 31, 3) := dk_180 0 31 (dk_at dksX13_write_1 11 rfl rfl)
theorem dX13_write_38 : decode cX13_write 38 = .ok (.iload_n 1, 1) := dk_27 (dk_at dksX13_write_1 14 rfl rfl)
theorem dX13_write_39 : decode cX13_write 39 = .ok (.iaload, 1) := dk_46 (dk_at dksX13_write_1 15 rfl rfl)
theorem dX13_write_40 : decode cX13_write 40 = .ok (.iconst 1, 1) := dk_4 (dk_at dksX13_write_1 16 rfl rfl)
theorem dX13_write_41 : decode cX13_write 41 = .ok (.isub, 1) := dk_100 (dk_at dksX13_write_1 17 rfl rfl)
theorem dX13_write_42 : decode cX13_write 42 = .ok (.i2l, 1) := dk_133 (dk_at dksX13_write_1 18 rfl rfl)
theorem dX13_write_43 : decode cX13_write 43 = .ok (.invokestatic 49, 3) := dk_184 0 49 (dk_at dksX13_write_1 19 rfl rfl)
theorem dX13_write_46 : decode cX13_write 46 = .ok (.ifCond .ne 10, 3) := dk_154 0 10 (dk_at dksX13_write_2 0 rfl rfl)
theorem dX13_write_49 : decode cX13_write 49 = .ok (.aload_n 0, 1) := dk_42 (dk_at dksX13_write_2 3 rfl rfl)
theorem dX13_write_50 : decode cX13_write 50 = .ok (.ldc 37, 2) := dk_18 37 (dk_at dksX13_write_2 4 rfl rfl)
theorem dX13_write_52 : decode cX13_write 52 = .ok (.invokevirtual 39, 3) := dk_182 0 39 (dk_at dksX13_write_2 6 rfl rfl)
theorem dX13_write_55 : decode cX13_write 55 = .ok (.ireturn, 1) := dk_172 (dk_at dksX13_write_2 9 rfl rfl)
theorem dX13_write_56 : decode cX13_write 56 = .ok (.aload_n 0, 1) := dk_42 (dk_at dksX13_write_2 10 rfl rfl)
theorem dX13_write_57 : decode cX13_write 57 = .ok (.getfield 34, 3) := dk_180 0 34 (dk_at dksX13_write_2 11 rfl rfl)
theorem dX13_write_60 : decode cX13_write 60 = .ok (.bipush 40, 2) := dk_16 40 (dk_at dksX13_write_2 14 rfl rfl)
theorem dX13_write_62 : decode cX13_write 62 = .ok (.iload_n 1, 1) := dk_27 (dk_at dksX13_write_2 16 rfl rfl)
theorem dX13_write_63 : decode cX13_write 63 = .ok (.imul, 1) := dk_104 (dk_at dksX13_write_2 17 rfl rfl)
theorem dX13_write_64 : decode cX13_write 64 = .ok (.iload_n 2, 1) := dk_28 (dk_at dksX13_write_2 18 rfl rfl)
theorem dX13_write_65 : decode cX13_write 65 = .ok (.iadd, 1) := dk_96 (dk_at dksX13_write_2 19 rfl rfl)
theorem dX13_write_66 : decode cX13_write 66 = .ok (.aload_n 0, 1) := dk_42 (dk_at dksX13_write_2 20 rfl rfl)
theorem dX13_write_67 : decode cX13_write 67 = .ok (.getfield 28, 3) := dk_180 0 28 (dk_at dksX13_write_2 21 rfl rfl)
theorem dX13_write_70 : decode cX13_write 70 = .ok (.iload_n 1, 1) := dk_27 (dk_at dksX13_write_3 0 rfl rfl)
theorem dX13_write_71 : decode cX13_write 71 = .ok (.iaload, 1) := dk_46 (dk_at dksX13_write_3 1 rfl rfl)
theorem dX13_write_72 : decode cX13_write 72 = .ok (.bipush 8, 2) := dk_16 8 (dk_at dksX13_write_3 2 rfl rfl)
theorem dX13_write_74 : decode cX13_write 74 = .ok (.if_icmp .ne 8, 3) := dk_160 0 8 (dk_at dksX13_write_3 4 rfl rfl)
theorem dX13_write_77 : decode cX13_write 77 = .ok (.iload_n 3, 1) := dk_29 (dk_at dksX13_write_3 7 rfl rfl)
theorem dX13_write_78 : decode cX13_write 78 = .ok (.i2b, 1) := dk_145 (dk_at dksX13_write_3 8 rfl rfl)
theorem dX13_write_79 : decode cX13_write 79 = .ok (.goto 20, 3) := dk_167 0 20 (dk_at dksX13_write_3 9 rfl rfl)
theorem dX13_write_82 : decode cX13_write 82 = .ok (.aload_n 0, 1) := dk_42 (dk_at dksX13_write_3 12 rfl rfl)
theorem dX13_write_83 : decode cX13_write 83 = .ok (.getfield 28, 3) := dk_180 0 28 (dk_at dksX13_write_3 13 rfl rfl)
theorem dX13_write_86 : decode cX13_write 86 = .ok (.iload_n 1, 1) := dk_27 (dk_at dksX13_write_3 16 rfl rfl)
theorem dX13_write_87 : decode cX13_write 87 = .ok (.iaload, 1) := dk_46 (dk_at dksX13_write_3 17 rfl rfl)
theorem dX13_write_88 : decode cX13_write 88 = .ok (.bipush 16, 2) := dk_16 16 (dk_at dksX13_write_3 18 rfl rfl)
theorem dX13_write_90 : decode cX13_write 90 = .ok (.if_icmp .ne 8, 3) := dk_160 0 8 (dk_at dksX13_write_3 20 rfl rfl)
theorem dX13_write_93 : decode cX13_write 93 = .ok (.iload_n 3, 1) := dk_29 (dk_at dksX13_write_3 23 rfl rfl)
theorem dX13_write_94 : decode cX13_write 94 = .ok (.i2s, 1) := dk_147 (dk_at dksX13_write_4 0 rfl rfl)
theorem dX13_write_95 : decode cX13_write 95 = .ok (.goto 4, 3) := dk_167 0 4 (dk_at dksX13_write_4 1 rfl rfl)
theorem dX13_write_98 : decode cX13_write 98 = .ok (.iload_n 3, 1) := dk_29 (dk_at dksX13_write_4 4 rfl rfl)
theorem dX13_write_99 : decode cX13_write 99 = .ok (.iastore, 1) := dk_79 (dk_at dksX13_write_4 5 rfl rfl)
theorem dX13_write_100 : decode cX13_write 100 = .ok (.iconst 1, 1) := dk_4 (dk_at dksX13_write_4 6 rfl rfl)
theorem dX13_write_101 : decode cX13_write 101 = .ok (.ireturn, 1) := dk_172 (dk_at dksX13_write_4 7 rfl rfl)
abbrev cX13_copy : ByteArray := prog_16_method_94_code
def yX13_copy : MethodName := ⟨RX13, "copy", "(IIIII)I"⟩
def dkwX13_copy_8 : List UInt8 := [167, 255, 205, 21, 5, 172]
abbrev dktX13_copy_8 : List UInt8 := dkwX13_copy_8 ++ []
def dkwX13_copy_7 : List UInt8 := [42, 180, 0, 34, 21, 7, 21, 9, 96, 42, 180, 0, 34, 21, 6, 21, 9, 96, 46, 79, 132, 8, 1]
abbrev dktX13_copy_7 : List UInt8 := dkwX13_copy_7 ++ dktX13_copy_8
def dkwX13_copy_6 : List UInt8 := [162, 0, 50, 21, 6, 21, 7, 162, 0, 13, 21, 5, 4, 100, 21, 8, 100, 167, 0, 5, 21, 8, 54, 9]
abbrev dktX13_copy_6 : List UInt8 := dkwX13_copy_6 ++ dktX13_copy_7
def dkwX13_copy_5 : List UInt8 := [16, 40, 27, 104, 28, 96, 54, 6, 16, 40, 29, 104, 21, 4, 96, 54, 7, 3, 54, 8, 21, 8, 21, 5]
abbrev dktX13_copy_5 : List UInt8 := dkwX13_copy_5 ++ dktX13_copy_6
def dkwX13_copy_4 : List UInt8 := [163, 0, 17, 21, 5, 42, 180, 0, 31, 29, 46, 21, 4, 100, 164, 0, 10, 42, 18, 37, 182, 0, 39, 172]
abbrev dktX13_copy_4 : List UInt8 := dkwX13_copy_4 ++ dktX13_copy_5
def dkwX13_copy_3 : List UInt8 := [28, 155, 0, 40, 21, 4, 155, 0, 35, 21, 5, 155, 0, 30, 21, 5, 42, 180, 0, 31, 27, 46, 28, 100]
abbrev dktX13_copy_3 : List UInt8 := dkwX13_copy_3 ++ dktX13_copy_4
def dkwX13_copy_2 : List UInt8 := [172, 42, 180, 0, 28, 27, 46, 42, 180, 0, 28, 29, 46, 159, 0, 11, 42, 19, 1, 26, 182, 0, 39, 172]
abbrev dktX13_copy_2 : List UInt8 := dkwX13_copy_2 ++ dktX13_copy_3
def dkwX13_copy_1 : List UInt8 := [180, 0, 28, 27, 46, 155, 0, 12, 42, 180, 0, 28, 29, 46, 156, 0, 11, 42, 19, 1, 22, 182, 0, 39]
abbrev dktX13_copy_1 : List UInt8 := dkwX13_copy_1 ++ dktX13_copy_2
def dkwX13_copy_0 : List UInt8 := [27, 184, 1, 27, 153, 0, 10, 29, 184, 1, 27, 154, 0, 10, 42, 18, 37, 182, 0, 39, 172, 42]
abbrev dktX13_copy_0 : List UInt8 := dkwX13_copy_0 ++ dktX13_copy_1
theorem dksX13_copy_0 : cX13_copy.data.toList.drop 0 = dktX13_copy_0 := by decide +kernel
theorem dksX13_copy_1 : cX13_copy.data.toList.drop 22 = dktX13_copy_1 := dk_seg dksX13_copy_0 22 rfl rfl
theorem dksX13_copy_2 : cX13_copy.data.toList.drop 46 = dktX13_copy_2 := dk_seg dksX13_copy_1 24 rfl rfl
theorem dksX13_copy_3 : cX13_copy.data.toList.drop 70 = dktX13_copy_3 := dk_seg dksX13_copy_2 24 rfl rfl
theorem dksX13_copy_4 : cX13_copy.data.toList.drop 94 = dktX13_copy_4 := dk_seg dksX13_copy_3 24 rfl rfl
theorem dksX13_copy_5 : cX13_copy.data.toList.drop 118 = dktX13_copy_5 := dk_seg dksX13_copy_4 24 rfl rfl
theorem dksX13_copy_6 : cX13_copy.data.toList.drop 142 = dktX13_copy_6 := dk_seg dksX13_copy_5 24 rfl rfl
theorem dksX13_copy_7 : cX13_copy.data.toList.drop 166 = dktX13_copy_7 := dk_seg dksX13_copy_6 24 rfl rfl
theorem dksX13_copy_8 : cX13_copy.data.toList.drop 189 = dktX13_copy_8 := dk_seg dksX13_copy_7 23 rfl rfl
theorem dX13_copy_0 : decode cX13_copy 0 = .ok (.iload_n 1, 1) := dk_27 (dk_at dksX13_copy_0 0 rfl rfl)
theorem dX13_copy_1 : decode cX13_copy 1 = .ok (.invokestatic 283, 3) := dk_184 1 27 (dk_at dksX13_copy_0 1 rfl rfl)
theorem dX13_copy_4 : decode cX13_copy 4 = .ok (.ifCond .eq 10, 3) := dk_153 0 10 (dk_at dksX13_copy_0 4 rfl rfl)
theorem dX13_copy_7 : decode cX13_copy 7 = .ok (.iload_n 3, 1) := dk_29 (dk_at dksX13_copy_0 7 rfl rfl)
theorem dX13_copy_8 : decode cX13_copy 8 = .ok (.invokestatic 283, 3) := dk_184 1 27 (dk_at dksX13_copy_0 8 rfl rfl)
theorem dX13_copy_11 : decode cX13_copy 11 = .ok (.ifCond .ne 10, 3) := dk_154 0 10 (dk_at dksX13_copy_0 11 rfl rfl)
theorem dX13_copy_14 : decode cX13_copy 14 = .ok (.aload_n 0, 1) := dk_42 (dk_at dksX13_copy_0 14 rfl rfl)
theorem dX13_copy_15 : decode cX13_copy 15 = .ok (.ldc 37, 2) := dk_18 37 (dk_at dksX13_copy_0 15 rfl rfl)
theorem dX13_copy_17 : decode cX13_copy 17 = .ok (.invokevirtual 39, 3) := dk_182 0 39 (dk_at dksX13_copy_0 17 rfl rfl)
theorem dX13_copy_20 : decode cX13_copy 20 = .ok (.ireturn, 1) := dk_172 (dk_at dksX13_copy_0 20 rfl rfl)
theorem dX13_copy_21 : decode cX13_copy 21 = .ok (.aload_n 0, 1) := dk_42 (dk_at dksX13_copy_0 21 rfl rfl)
theorem dX13_copy_22 : decode cX13_copy 22 = .ok (.getfield 28, 3) := dk_180 0 28 (dk_at dksX13_copy_1 0 rfl rfl)
theorem dX13_copy_25 : decode cX13_copy 25 = .ok (.iload_n 1, 1) := dk_27 (dk_at dksX13_copy_1 3 rfl rfl)
theorem dX13_copy_26 : decode cX13_copy 26 = .ok (.iaload, 1) := dk_46 (dk_at dksX13_copy_1 4 rfl rfl)
theorem dX13_copy_27 : decode cX13_copy 27 = .ok (.ifCond .lt 12, 3) := dk_155 0 12 (dk_at dksX13_copy_1 5 rfl rfl)
theorem dX13_copy_30 : decode cX13_copy 30 = .ok (.aload_n 0, 1) := dk_42 (dk_at dksX13_copy_1 8 rfl rfl)
theorem dX13_copy_31 : decode cX13_copy 31 = .ok (.getfield 28, 3) := dk_180 0 28 (dk_at dksX13_copy_1 9 rfl rfl)
theorem dX13_copy_34 : decode cX13_copy 34 = .ok (.iload_n 3, 1) := dk_29 (dk_at dksX13_copy_1 12 rfl rfl)
theorem dX13_copy_35 : decode cX13_copy 35 = .ok (.iaload, 1) := dk_46 (dk_at dksX13_copy_1 13 rfl rfl)
theorem dX13_copy_36 : decode cX13_copy 36 = .ok (.ifCond .ge 11, 3) := dk_156 0 11 (dk_at dksX13_copy_1 14 rfl rfl)
theorem dX13_copy_39 : decode cX13_copy 39 = .ok (.aload_n 0, 1) := dk_42 (dk_at dksX13_copy_1 17 rfl rfl)
theorem dX13_copy_40 : decode cX13_copy 40 = .ok (.ldc_w 278, 3) := dk_19 1 22 (dk_at dksX13_copy_1 18 rfl rfl)
theorem dX13_copy_43 : decode cX13_copy 43 = .ok (.invokevirtual 39, 3) := dk_182 0 39 (dk_at dksX13_copy_1 21 rfl rfl)
theorem dX13_copy_46 : decode cX13_copy 46 = .ok (.ireturn, 1) := dk_172 (dk_at dksX13_copy_2 0 rfl rfl)
theorem dX13_copy_47 : decode cX13_copy 47 = .ok (.aload_n 0, 1) := dk_42 (dk_at dksX13_copy_2 1 rfl rfl)
theorem dX13_copy_48 : decode cX13_copy 48 = .ok (.getfield 28, 3) := dk_180 0 28 (dk_at dksX13_copy_2 2 rfl rfl)
theorem dX13_copy_51 : decode cX13_copy 51 = .ok (.iload_n 1, 1) := dk_27 (dk_at dksX13_copy_2 5 rfl rfl)
theorem dX13_copy_52 : decode cX13_copy 52 = .ok (.iaload, 1) := dk_46 (dk_at dksX13_copy_2 6 rfl rfl)
theorem dX13_copy_53 : decode cX13_copy 53 = .ok (.aload_n 0, 1) := dk_42 (dk_at dksX13_copy_2 7 rfl rfl)
theorem dX13_copy_54 : decode cX13_copy 54 = .ok (.getfield 28, 3) := dk_180 0 28 (dk_at dksX13_copy_2 8 rfl rfl)
theorem dX13_copy_57 : decode cX13_copy 57 = .ok (.iload_n 3, 1) := dk_29 (dk_at dksX13_copy_2 11 rfl rfl)
theorem dX13_copy_58 : decode cX13_copy 58 = .ok (.iaload, 1) := dk_46 (dk_at dksX13_copy_2 12 rfl rfl)
theorem dX13_copy_59 : decode cX13_copy 59 = .ok (.if_icmp .eq 11, 3) := dk_159 0 11 (dk_at dksX13_copy_2 13 rfl rfl)
theorem dX13_copy_62 : decode cX13_copy 62 = .ok (.aload_n 0, 1) := dk_42 (dk_at dksX13_copy_2 16 rfl rfl)
theorem dX13_copy_63 : decode cX13_copy 63 = .ok (.ldc_w 282, 3) := dk_19 1 26 (dk_at dksX13_copy_2 17 rfl rfl)
theorem dX13_copy_66 : decode cX13_copy 66 = .ok (.invokevirtual 39, 3) := dk_182 0 39 (dk_at dksX13_copy_2 20 rfl rfl)
theorem dX13_copy_69 : decode cX13_copy 69 = .ok (.ireturn, 1) := dk_172 (dk_at dksX13_copy_2 23 rfl rfl)
theorem dX13_copy_70 : decode cX13_copy 70 = .ok (.iload_n 2, 1) := dk_28 (dk_at dksX13_copy_3 0 rfl rfl)
theorem dX13_copy_71 : decode cX13_copy 71 = .ok (.ifCond .lt 40, 3) := dk_155 0 40 (dk_at dksX13_copy_3 1 rfl rfl)
theorem dX13_copy_74 : decode cX13_copy 74 = .ok (.iload 4, 2) := dk_21 4 (dk_at dksX13_copy_3 4 rfl rfl)
theorem dX13_copy_76 : decode cX13_copy 76 = .ok (.ifCond .lt 35, 3) := dk_155 0 35 (dk_at dksX13_copy_3 6 rfl rfl)
theorem dX13_copy_79 : decode cX13_copy 79 = .ok (.iload 5, 2) := dk_21 5 (dk_at dksX13_copy_3 9 rfl rfl)
theorem dX13_copy_81 : decode cX13_copy 81 = .ok (.ifCond .lt 30, 3) := dk_155 0 30 (dk_at dksX13_copy_3 11 rfl rfl)
theorem dX13_copy_84 : decode cX13_copy 84 = .ok (.iload 5, 2) := dk_21 5 (dk_at dksX13_copy_3 14 rfl rfl)
theorem dX13_copy_86 : decode cX13_copy 86 = .ok (.aload_n 0, 1) := dk_42 (dk_at dksX13_copy_3 16 rfl rfl)
theorem dX13_copy_87 : decode cX13_copy 87 = .ok (.getfield 31, 3) := dk_180 0 31 (dk_at dksX13_copy_3 17 rfl rfl)
theorem dX13_copy_90 : decode cX13_copy 90 = .ok (.iload_n 1, 1) := dk_27 (dk_at dksX13_copy_3 20 rfl rfl)
theorem dX13_copy_91 : decode cX13_copy 91 = .ok (.iaload, 1) := dk_46 (dk_at dksX13_copy_3 21 rfl rfl)
theorem dX13_copy_92 : decode cX13_copy 92 = .ok (.iload_n 2, 1) := dk_28 (dk_at dksX13_copy_3 22 rfl rfl)
theorem dX13_copy_93 : decode cX13_copy 93 = .ok (.isub, 1) := dk_100 (dk_at dksX13_copy_3 23 rfl rfl)
theorem dX13_copy_94 : decode cX13_copy 94 = .ok (.if_icmp .gt 17, 3) := dk_163 0 17 (dk_at dksX13_copy_4 0 rfl rfl)
theorem dX13_copy_97 : decode cX13_copy 97 = .ok (.iload 5, 2) := dk_21 5 (dk_at dksX13_copy_4 3 rfl rfl)
theorem dX13_copy_99 : decode cX13_copy 99 = .ok (.aload_n 0, 1) := dk_42 (dk_at dksX13_copy_4 5 rfl rfl)
theorem dX13_copy_100 : decode cX13_copy 100 = .ok (.getfield 31, 3) := dk_180 0 31 (dk_at dksX13_copy_4 6 rfl rfl)
theorem dX13_copy_103 : decode cX13_copy 103 = .ok (.iload_n 3, 1) := dk_29 (dk_at dksX13_copy_4 9 rfl rfl)
theorem dX13_copy_104 : decode cX13_copy 104 = .ok (.iaload, 1) := dk_46 (dk_at dksX13_copy_4 10 rfl rfl)
theorem dX13_copy_105 : decode cX13_copy 105 = .ok (.iload 4, 2) := dk_21 4 (dk_at dksX13_copy_4 11 rfl rfl)
theorem dX13_copy_107 : decode cX13_copy 107 = .ok (.isub, 1) := dk_100 (dk_at dksX13_copy_4 13 rfl rfl)
theorem dX13_copy_108 : decode cX13_copy 108 = .ok (.if_icmp .le 10, 3) := dk_164 0 10 (dk_at dksX13_copy_4 14 rfl rfl)
theorem dX13_copy_111 : decode cX13_copy 111 = .ok (.aload_n 0, 1) := dk_42 (dk_at dksX13_copy_4 17 rfl rfl)
theorem dX13_copy_112 : decode cX13_copy 112 = .ok (.ldc 37, 2) := dk_18 37 (dk_at dksX13_copy_4 18 rfl rfl)
theorem dX13_copy_114 : decode cX13_copy 114 = .ok (.invokevirtual 39, 3) := dk_182 0 39 (dk_at dksX13_copy_4 20 rfl rfl)
theorem dX13_copy_117 : decode cX13_copy 117 = .ok (.ireturn, 1) := dk_172 (dk_at dksX13_copy_4 23 rfl rfl)
theorem dX13_copy_118 : decode cX13_copy 118 = .ok (.bipush 40, 2) := dk_16 40 (dk_at dksX13_copy_5 0 rfl rfl)
theorem dX13_copy_120 : decode cX13_copy 120 = .ok (.iload_n 1, 1) := dk_27 (dk_at dksX13_copy_5 2 rfl rfl)
theorem dX13_copy_121 : decode cX13_copy 121 = .ok (.imul, 1) := dk_104 (dk_at dksX13_copy_5 3 rfl rfl)
theorem dX13_copy_122 : decode cX13_copy 122 = .ok (.iload_n 2, 1) := dk_28 (dk_at dksX13_copy_5 4 rfl rfl)
theorem dX13_copy_123 : decode cX13_copy 123 = .ok (.iadd, 1) := dk_96 (dk_at dksX13_copy_5 5 rfl rfl)
theorem dX13_copy_124 : decode cX13_copy 124 = .ok (.istore 6, 2) := dk_54 6 (dk_at dksX13_copy_5 6 rfl rfl)
theorem dX13_copy_126 : decode cX13_copy 126 = .ok (.bipush 40, 2) := dk_16 40 (dk_at dksX13_copy_5 8 rfl rfl)
theorem dX13_copy_128 : decode cX13_copy 128 = .ok (.iload_n 3, 1) := dk_29 (dk_at dksX13_copy_5 10 rfl rfl)
theorem dX13_copy_129 : decode cX13_copy 129 = .ok (.imul, 1) := dk_104 (dk_at dksX13_copy_5 11 rfl rfl)
theorem dX13_copy_130 : decode cX13_copy 130 = .ok (.iload 4, 2) := dk_21 4 (dk_at dksX13_copy_5 12 rfl rfl)
theorem dX13_copy_132 : decode cX13_copy 132 = .ok (.iadd, 1) := dk_96 (dk_at dksX13_copy_5 14 rfl rfl)
theorem dX13_copy_133 : decode cX13_copy 133 = .ok (.istore 7, 2) := dk_54 7 (dk_at dksX13_copy_5 15 rfl rfl)
theorem dX13_copy_135 : decode cX13_copy 135 = .ok (.iconst 0, 1) := dk_3 (dk_at dksX13_copy_5 17 rfl rfl)
theorem dX13_copy_136 : decode cX13_copy 136 = .ok (.istore 8, 2) := dk_54 8 (dk_at dksX13_copy_5 18 rfl rfl)
theorem dX13_copy_138 : decode cX13_copy 138 = .ok (.iload 8, 2) := dk_21 8 (dk_at dksX13_copy_5 20 rfl rfl)
theorem dX13_copy_140 : decode cX13_copy 140 = .ok (.iload 5, 2) := dk_21 5 (dk_at dksX13_copy_5 22 rfl rfl)
theorem dX13_copy_142 : decode cX13_copy 142 = .ok (.if_icmp .ge 50, 3) := dk_162 0 50 (dk_at dksX13_copy_6 0 rfl rfl)
theorem dX13_copy_145 : decode cX13_copy 145 = .ok (.iload 6, 2) := dk_21 6 (dk_at dksX13_copy_6 3 rfl rfl)
theorem dX13_copy_147 : decode cX13_copy 147 = .ok (.iload 7, 2) := dk_21 7 (dk_at dksX13_copy_6 5 rfl rfl)
theorem dX13_copy_149 : decode cX13_copy 149 = .ok (.if_icmp .ge 13, 3) := dk_162 0 13 (dk_at dksX13_copy_6 7 rfl rfl)
theorem dX13_copy_152 : decode cX13_copy 152 = .ok (.iload 5, 2) := dk_21 5 (dk_at dksX13_copy_6 10 rfl rfl)
theorem dX13_copy_154 : decode cX13_copy 154 = .ok (.iconst 1, 1) := dk_4 (dk_at dksX13_copy_6 12 rfl rfl)
theorem dX13_copy_155 : decode cX13_copy 155 = .ok (.isub, 1) := dk_100 (dk_at dksX13_copy_6 13 rfl rfl)
theorem dX13_copy_156 : decode cX13_copy 156 = .ok (.iload 8, 2) := dk_21 8 (dk_at dksX13_copy_6 14 rfl rfl)
theorem dX13_copy_158 : decode cX13_copy 158 = .ok (.isub, 1) := dk_100 (dk_at dksX13_copy_6 16 rfl rfl)
theorem dX13_copy_159 : decode cX13_copy 159 = .ok (.goto 5, 3) := dk_167 0 5 (dk_at dksX13_copy_6 17 rfl rfl)
theorem dX13_copy_162 : decode cX13_copy 162 = .ok (.iload 8, 2) := dk_21 8 (dk_at dksX13_copy_6 20 rfl rfl)
theorem dX13_copy_164 : decode cX13_copy 164 = .ok (.istore 9, 2) := dk_54 9 (dk_at dksX13_copy_6 22 rfl rfl)
theorem dX13_copy_166 : decode cX13_copy 166 = .ok (.aload_n 0, 1) := dk_42 (dk_at dksX13_copy_7 0 rfl rfl)
theorem dX13_copy_167 : decode cX13_copy 167 = .ok (.getfield 34, 3) := dk_180 0 34 (dk_at dksX13_copy_7 1 rfl rfl)
theorem dX13_copy_170 : decode cX13_copy 170 = .ok (.iload 7, 2) := dk_21 7 (dk_at dksX13_copy_7 4 rfl rfl)
theorem dX13_copy_172 : decode cX13_copy 172 = .ok (.iload 9, 2) := dk_21 9 (dk_at dksX13_copy_7 6 rfl rfl)
theorem dX13_copy_174 : decode cX13_copy 174 = .ok (.iadd, 1) := dk_96 (dk_at dksX13_copy_7 8 rfl rfl)
theorem dX13_copy_175 : decode cX13_copy 175 = .ok (.aload_n 0, 1) := dk_42 (dk_at dksX13_copy_7 9 rfl rfl)
theorem dX13_copy_176 : decode cX13_copy 176 = .ok (.getfield 34, 3) := dk_180 0 34 (dk_at dksX13_copy_7 10 rfl rfl)
theorem dX13_copy_179 : decode cX13_copy 179 = .ok (.iload 6, 2) := dk_21 6 (dk_at dksX13_copy_7 13 rfl rfl)
theorem dX13_copy_181 : decode cX13_copy 181 = .ok (.iload 9, 2) := dk_21 9 (dk_at dksX13_copy_7 15 rfl rfl)
theorem dX13_copy_183 : decode cX13_copy 183 = .ok (.iadd, 1) := dk_96 (dk_at dksX13_copy_7 17 rfl rfl)
theorem dX13_copy_184 : decode cX13_copy 184 = .ok (.iaload, 1) := dk_46 (dk_at dksX13_copy_7 18 rfl rfl)
theorem dX13_copy_185 : decode cX13_copy 185 = .ok (.iastore, 1) := dk_79 (dk_at dksX13_copy_7 19 rfl rfl)
theorem dX13_copy_186 : decode cX13_copy 186 = .ok (.iinc 8 1, 3) := dk_132 8 1 (dk_at dksX13_copy_7 20 rfl rfl)
theorem dX13_copy_189 : decode cX13_copy 189 = .ok (.goto (-51), 3) := dk_167 255 205 (dk_at dksX13_copy_8 0 rfl rfl)
theorem dX13_copy_192 : decode cX13_copy 192 = .ok (.iload 5, 2) := dk_21 5 (dk_at dksX13_copy_8 3 rfl rfl)
theorem dX13_copy_194 : decode cX13_copy 194 = .ok (.ireturn, 1) := dk_172 (dk_at dksX13_copy_8 5 rfl rfl)
abbrev cX13_load : ByteArray := prog_16_method_96_code
def yX13_load : MethodName := ⟨RX13, "load", "(I)I"⟩
def dkwX13_load_3 : List UInt8 := [16, 40, 27, 104, 28, 96, 46, 79, 132, 2, 1, 167, 255, 195, 28, 172]
abbrev dktX13_load_3 : List UInt8 := dkwX13_load_3 ++ []
def dkwX13_load_2 : List UInt8 := [46, 133, 9, 20, 0, 68, 184, 0, 49, 153, 0, 29, 42, 180, 0, 7, 16, 10, 28, 96, 42, 180, 0, 34]
abbrev dktX13_load_2 : List UInt8 := dkwX13_load_2 ++ dktX13_load_3
def dkwX13_load_1 : List UInt8 := [180, 0, 31, 27, 46, 162, 0, 57, 28, 16, 6, 162, 0, 51, 42, 180, 0, 34, 16, 40, 27, 104, 28, 96]
abbrev dktX13_load_1 : List UInt8 := dkwX13_load_1 ++ dktX13_load_2
def dkwX13_load_0 : List UInt8 := [42, 27, 182, 0, 190, 153, 0, 13, 42, 42, 27, 182, 0, 190, 182, 0, 39, 172, 3, 61, 28, 42]
abbrev dktX13_load_0 : List UInt8 := dkwX13_load_0 ++ dktX13_load_1
theorem dksX13_load_0 : cX13_load.data.toList.drop 0 = dktX13_load_0 := by decide +kernel
theorem dksX13_load_1 : cX13_load.data.toList.drop 22 = dktX13_load_1 := dk_seg dksX13_load_0 22 rfl rfl
theorem dksX13_load_2 : cX13_load.data.toList.drop 46 = dktX13_load_2 := dk_seg dksX13_load_1 24 rfl rfl
theorem dksX13_load_3 : cX13_load.data.toList.drop 70 = dktX13_load_3 := dk_seg dksX13_load_2 24 rfl rfl
theorem dX13_load_0 : decode cX13_load 0 = .ok (.aload_n 0, 1) := dk_42 (dk_at dksX13_load_0 0 rfl rfl)
theorem dX13_load_1 : decode cX13_load 1 = .ok (.iload_n 1, 1) := dk_27 (dk_at dksX13_load_0 1 rfl rfl)
theorem dX13_load_2 : decode cX13_load 2 = .ok (.invokevirtual 190, 3) := dk_182 0 190 (dk_at dksX13_load_0 2 rfl rfl)
theorem dX13_load_5 : decode cX13_load 5 = .ok (.ifCond .eq 13, 3) := dk_153 0 13 (dk_at dksX13_load_0 5 rfl rfl)
theorem dX13_load_8 : decode cX13_load 8 = .ok (.aload_n 0, 1) := dk_42 (dk_at dksX13_load_0 8 rfl rfl)
theorem dX13_load_9 : decode cX13_load 9 = .ok (.aload_n 0, 1) := dk_42 (dk_at dksX13_load_0 9 rfl rfl)
theorem dX13_load_10 : decode cX13_load 10 = .ok (.iload_n 1, 1) := dk_27 (dk_at dksX13_load_0 10 rfl rfl)
theorem dX13_load_11 : decode cX13_load 11 = .ok (.invokevirtual 190, 3) := dk_182 0 190 (dk_at dksX13_load_0 11 rfl rfl)
theorem dX13_load_14 : decode cX13_load 14 = .ok (.invokevirtual 39, 3) := dk_182 0 39 (dk_at dksX13_load_0 14 rfl rfl)
theorem dX13_load_17 : decode cX13_load 17 = .ok (.ireturn, 1) := dk_172 (dk_at dksX13_load_0 17 rfl rfl)
theorem dX13_load_18 : decode cX13_load 18 = .ok (.iconst 0, 1) := dk_3 (dk_at dksX13_load_0 18 rfl rfl)
theorem dX13_load_19 : decode cX13_load 19 = .ok (.istore_n 2, 1) := dk_61 (dk_at dksX13_load_0 19 rfl rfl)
theorem dX13_load_20 : decode cX13_load 20 = .ok (.iload_n 2, 1) := dk_28 (dk_at dksX13_load_0 20 rfl rfl)
theorem dX13_load_21 : decode cX13_load 21 = .ok (.aload_n 0, 1) := dk_42 (dk_at dksX13_load_0 21 rfl rfl)
theorem dX13_load_22 : decode cX13_load 22 = .ok (.getfield 31, 3) := dk_180 0 31 (dk_at dksX13_load_1 0 rfl rfl)
theorem dX13_load_25 : decode cX13_load 25 = .ok (.iload_n 1, 1) := dk_27 (dk_at dksX13_load_1 3 rfl rfl)
theorem dX13_load_26 : decode cX13_load 26 = .ok (.iaload, 1) := dk_46 (dk_at dksX13_load_1 4 rfl rfl)
theorem dX13_load_27 : decode cX13_load 27 = .ok (.if_icmp .ge 57, 3) := dk_162 0 57 (dk_at dksX13_load_1 5 rfl rfl)
theorem dX13_load_30 : decode cX13_load 30 = .ok (.iload_n 2, 1) := dk_28 (dk_at dksX13_load_1 8 rfl rfl)
theorem dX13_load_31 : decode cX13_load 31 = .ok (.bipush 6, 2) := dk_16 6 (dk_at dksX13_load_1 9 rfl rfl)
theorem dX13_load_33 : decode cX13_load 33 = .ok (.if_icmp .ge 51, 3) := dk_162 0 51 (dk_at dksX13_load_1 11 rfl rfl)
theorem dX13_load_36 : decode cX13_load 36 = .ok (.aload_n 0, 1) := dk_42 (dk_at dksX13_load_1 14 rfl rfl)
theorem dX13_load_37 : decode cX13_load 37 = .ok (.getfield 34, 3) := dk_180 0 34 (dk_at dksX13_load_1 15 rfl rfl)
theorem dX13_load_40 : decode cX13_load 40 = .ok (.bipush 40, 2) := dk_16 40 (dk_at dksX13_load_1 18 rfl rfl)
theorem dX13_load_42 : decode cX13_load 42 = .ok (.iload_n 1, 1) := dk_27 (dk_at dksX13_load_1 20 rfl rfl)
theorem dX13_load_43 : decode cX13_load 43 = .ok (.imul, 1) := dk_104 (dk_at dksX13_load_1 21 rfl rfl)
theorem dX13_load_44 : decode cX13_load 44 = .ok (.iload_n 2, 1) := dk_28 (dk_at dksX13_load_1 22 rfl rfl)
theorem dX13_load_45 : decode cX13_load 45 = .ok (.iadd, 1) := dk_96 (dk_at dksX13_load_1 23 rfl rfl)
theorem dX13_load_46 : decode cX13_load 46 = .ok (.iaload, 1) := dk_46 (dk_at dksX13_load_2 0 rfl rfl)
theorem dX13_load_47 : decode cX13_load 47 = .ok (.i2l, 1) := dk_133 (dk_at dksX13_load_2 1 rfl rfl)
theorem dX13_load_48 : decode cX13_load 48 = .ok (.lconst 0, 1) := dk_9 (dk_at dksX13_load_2 2 rfl rfl)
theorem dX13_load_49 : decode cX13_load 49 = .ok (.ldc2_w 68, 3) := dk_20 0 68 (dk_at dksX13_load_2 3 rfl rfl)
theorem dX13_load_52 : decode cX13_load 52 = .ok (.invokestatic 49, 3) := dk_184 0 49 (dk_at dksX13_load_2 6 rfl rfl)
theorem dX13_load_55 : decode cX13_load 55 = .ok (.ifCond .eq 29, 3) := dk_153 0 29 (dk_at dksX13_load_2 9 rfl rfl)
theorem dX13_load_58 : decode cX13_load 58 = .ok (.aload_n 0, 1) := dk_42 (dk_at dksX13_load_2 12 rfl rfl)
theorem dX13_load_59 : decode cX13_load 59 = .ok (.getfield 7, 3) := dk_180 0 7 (dk_at dksX13_load_2 13 rfl rfl)
theorem dX13_load_62 : decode cX13_load 62 = .ok (.bipush 10, 2) := dk_16 10 (dk_at dksX13_load_2 16 rfl rfl)
theorem dX13_load_64 : decode cX13_load 64 = .ok (.iload_n 2, 1) := dk_28 (dk_at dksX13_load_2 18 rfl rfl)
theorem dX13_load_65 : decode cX13_load 65 = .ok (.iadd, 1) := dk_96 (dk_at dksX13_load_2 19 rfl rfl)
theorem dX13_load_66 : decode cX13_load 66 = .ok (.aload_n 0, 1) := dk_42 (dk_at dksX13_load_2 20 rfl rfl)
theorem dX13_load_67 : decode cX13_load 67 = .ok (.getfield 34, 3) := dk_180 0 34 (dk_at dksX13_load_2 21 rfl rfl)
theorem dX13_load_70 : decode cX13_load 70 = .ok (.bipush 40, 2) := dk_16 40 (dk_at dksX13_load_3 0 rfl rfl)
theorem dX13_load_72 : decode cX13_load 72 = .ok (.iload_n 1, 1) := dk_27 (dk_at dksX13_load_3 2 rfl rfl)
theorem dX13_load_73 : decode cX13_load 73 = .ok (.imul, 1) := dk_104 (dk_at dksX13_load_3 3 rfl rfl)
theorem dX13_load_74 : decode cX13_load 74 = .ok (.iload_n 2, 1) := dk_28 (dk_at dksX13_load_3 4 rfl rfl)
theorem dX13_load_75 : decode cX13_load 75 = .ok (.iadd, 1) := dk_96 (dk_at dksX13_load_3 5 rfl rfl)
theorem dX13_load_76 : decode cX13_load 76 = .ok (.iaload, 1) := dk_46 (dk_at dksX13_load_3 6 rfl rfl)
theorem dX13_load_77 : decode cX13_load 77 = .ok (.iastore, 1) := dk_79 (dk_at dksX13_load_3 7 rfl rfl)
theorem dX13_load_78 : decode cX13_load 78 = .ok (.iinc 2 1, 3) := dk_132 2 1 (dk_at dksX13_load_3 8 rfl rfl)
theorem dX13_load_81 : decode cX13_load 81 = .ok (.goto (-61), 3) := dk_167 255 195 (dk_at dksX13_load_3 11 rfl rfl)
theorem dX13_load_84 : decode cX13_load 84 = .ok (.iload_n 2, 1) := dk_28 (dk_at dksX13_load_3 14 rfl rfl)
theorem dX13_load_85 : decode cX13_load 85 = .ok (.ireturn, 1) := dk_172 (dk_at dksX13_load_3 15 rfl rfl)
abbrev cX13_judge : ByteArray := prog_16_method_97_code
def yX13_judge : MethodName := ⟨RX13, "judge", "(I)I"⟩
def dkwX13_judge_3 : List UInt8 := [46, 162, 0, 9, 4, 28, 96, 167, 0, 4, 3, 172]
abbrev dktX13_judge_3 : List UInt8 := dkwX13_judge_3 ++ []
def dkwX13_judge_2 : List UInt8 := [28, 96, 46, 42, 28, 5, 182, 0, 57, 160, 0, 9, 132, 2, 1, 167, 255, 215, 28, 42, 180, 0, 31, 27]
abbrev dktX13_judge_2 : List UInt8 := dkwX13_judge_2 ++ dktX13_judge_3
def dkwX13_judge_1 : List UInt8 := [180, 0, 31, 27, 46, 162, 0, 37, 42, 28, 182, 0, 86, 153, 0, 29, 42, 180, 0, 34, 16, 40, 27, 104]
abbrev dktX13_judge_1 : List UInt8 := dkwX13_judge_1 ++ dktX13_judge_2
def dkwX13_judge_0 : List UInt8 := [42, 27, 182, 0, 190, 153, 0, 13, 42, 42, 27, 182, 0, 190, 182, 0, 39, 172, 3, 61, 28, 42]
abbrev dktX13_judge_0 : List UInt8 := dkwX13_judge_0 ++ dktX13_judge_1
theorem dksX13_judge_0 : cX13_judge.data.toList.drop 0 = dktX13_judge_0 := by decide +kernel
theorem dksX13_judge_1 : cX13_judge.data.toList.drop 22 = dktX13_judge_1 := dk_seg dksX13_judge_0 22 rfl rfl
theorem dksX13_judge_2 : cX13_judge.data.toList.drop 46 = dktX13_judge_2 := dk_seg dksX13_judge_1 24 rfl rfl
theorem dksX13_judge_3 : cX13_judge.data.toList.drop 70 = dktX13_judge_3 := dk_seg dksX13_judge_2 24 rfl rfl
theorem dX13_judge_0 : decode cX13_judge 0 = .ok (.aload_n 0, 1) := dk_42 (dk_at dksX13_judge_0 0 rfl rfl)
theorem dX13_judge_1 : decode cX13_judge 1 = .ok (.iload_n 1, 1) := dk_27 (dk_at dksX13_judge_0 1 rfl rfl)
theorem dX13_judge_2 : decode cX13_judge 2 = .ok (.invokevirtual 190, 3) := dk_182 0 190 (dk_at dksX13_judge_0 2 rfl rfl)
theorem dX13_judge_5 : decode cX13_judge 5 = .ok (.ifCond .eq 13, 3) := dk_153 0 13 (dk_at dksX13_judge_0 5 rfl rfl)
theorem dX13_judge_8 : decode cX13_judge 8 = .ok (.aload_n 0, 1) := dk_42 (dk_at dksX13_judge_0 8 rfl rfl)
theorem dX13_judge_9 : decode cX13_judge 9 = .ok (.aload_n 0, 1) := dk_42 (dk_at dksX13_judge_0 9 rfl rfl)
theorem dX13_judge_10 : decode cX13_judge 10 = .ok (.iload_n 1, 1) := dk_27 (dk_at dksX13_judge_0 10 rfl rfl)
theorem dX13_judge_11 : decode cX13_judge 11 = .ok (.invokevirtual 190, 3) := dk_182 0 190 (dk_at dksX13_judge_0 11 rfl rfl)
theorem dX13_judge_14 : decode cX13_judge 14 = .ok (.invokevirtual 39, 3) := dk_182 0 39 (dk_at dksX13_judge_0 14 rfl rfl)
theorem dX13_judge_17 : decode cX13_judge 17 = .ok (.ireturn, 1) := dk_172 (dk_at dksX13_judge_0 17 rfl rfl)
theorem dX13_judge_18 : decode cX13_judge 18 = .ok (.iconst 0, 1) := dk_3 (dk_at dksX13_judge_0 18 rfl rfl)
theorem dX13_judge_19 : decode cX13_judge 19 = .ok (.istore_n 2, 1) := dk_61 (dk_at dksX13_judge_0 19 rfl rfl)
theorem dX13_judge_20 : decode cX13_judge 20 = .ok (.iload_n 2, 1) := dk_28 (dk_at dksX13_judge_0 20 rfl rfl)
theorem dX13_judge_21 : decode cX13_judge 21 = .ok (.aload_n 0, 1) := dk_42 (dk_at dksX13_judge_0 21 rfl rfl)
theorem dX13_judge_22 : decode cX13_judge 22 = .ok (.getfield 31, 3) := dk_180 0 31 (dk_at dksX13_judge_1 0 rfl rfl)
theorem dX13_judge_25 : decode cX13_judge 25 = .ok (.iload_n 1, 1) := dk_27 (dk_at dksX13_judge_1 3 rfl rfl)
theorem dX13_judge_26 : decode cX13_judge 26 = .ok (.iaload, 1) := dk_46 (dk_at dksX13_judge_1 4 rfl rfl)
theorem dX13_judge_27 : decode cX13_judge 27 = .ok (.if_icmp .ge 37, 3) := dk_162 0 37 (dk_at dksX13_judge_1 5 rfl rfl)
theorem dX13_judge_30 : decode cX13_judge 30 = .ok (.aload_n 0, 1) := dk_42 (dk_at dksX13_judge_1 8 rfl rfl)
theorem dX13_judge_31 : decode cX13_judge 31 = .ok (.iload_n 2, 1) := dk_28 (dk_at dksX13_judge_1 9 rfl rfl)
theorem dX13_judge_32 : decode cX13_judge 32 = .ok (.invokevirtual 86, 3) := dk_182 0 86 (dk_at dksX13_judge_1 10 rfl rfl)
theorem dX13_judge_35 : decode cX13_judge 35 = .ok (.ifCond .eq 29, 3) := dk_153 0 29 (dk_at dksX13_judge_1 13 rfl rfl)
theorem dX13_judge_38 : decode cX13_judge 38 = .ok (.aload_n 0, 1) := dk_42 (dk_at dksX13_judge_1 16 rfl rfl)
theorem dX13_judge_39 : decode cX13_judge 39 = .ok (.getfield 34, 3) := dk_180 0 34 (dk_at dksX13_judge_1 17 rfl rfl)
theorem dX13_judge_42 : decode cX13_judge 42 = .ok (.bipush 40, 2) := dk_16 40 (dk_at dksX13_judge_1 20 rfl rfl)
theorem dX13_judge_44 : decode cX13_judge 44 = .ok (.iload_n 1, 1) := dk_27 (dk_at dksX13_judge_1 22 rfl rfl)
theorem dX13_judge_45 : decode cX13_judge 45 = .ok (.imul, 1) := dk_104 (dk_at dksX13_judge_1 23 rfl rfl)
theorem dX13_judge_46 : decode cX13_judge 46 = .ok (.iload_n 2, 1) := dk_28 (dk_at dksX13_judge_2 0 rfl rfl)
theorem dX13_judge_47 : decode cX13_judge 47 = .ok (.iadd, 1) := dk_96 (dk_at dksX13_judge_2 1 rfl rfl)
theorem dX13_judge_48 : decode cX13_judge 48 = .ok (.iaload, 1) := dk_46 (dk_at dksX13_judge_2 2 rfl rfl)
theorem dX13_judge_49 : decode cX13_judge 49 = .ok (.aload_n 0, 1) := dk_42 (dk_at dksX13_judge_2 3 rfl rfl)
theorem dX13_judge_50 : decode cX13_judge 50 = .ok (.iload_n 2, 1) := dk_28 (dk_at dksX13_judge_2 4 rfl rfl)
theorem dX13_judge_51 : decode cX13_judge 51 = .ok (.iconst 2, 1) := dk_5 (dk_at dksX13_judge_2 5 rfl rfl)
theorem dX13_judge_52 : decode cX13_judge 52 = .ok (.invokevirtual 57, 3) := dk_182 0 57 (dk_at dksX13_judge_2 6 rfl rfl)
theorem dX13_judge_55 : decode cX13_judge 55 = .ok (.if_icmp .ne 9, 3) := dk_160 0 9 (dk_at dksX13_judge_2 9 rfl rfl)
theorem dX13_judge_58 : decode cX13_judge 58 = .ok (.iinc 2 1, 3) := dk_132 2 1 (dk_at dksX13_judge_2 12 rfl rfl)
theorem dX13_judge_61 : decode cX13_judge 61 = .ok (.goto (-41), 3) := dk_167 255 215 (dk_at dksX13_judge_2 15 rfl rfl)
theorem dX13_judge_64 : decode cX13_judge 64 = .ok (.iload_n 2, 1) := dk_28 (dk_at dksX13_judge_2 18 rfl rfl)
theorem dX13_judge_65 : decode cX13_judge 65 = .ok (.aload_n 0, 1) := dk_42 (dk_at dksX13_judge_2 19 rfl rfl)
theorem dX13_judge_66 : decode cX13_judge 66 = .ok (.getfield 31, 3) := dk_180 0 31 (dk_at dksX13_judge_2 20 rfl rfl)
theorem dX13_judge_69 : decode cX13_judge 69 = .ok (.iload_n 1, 1) := dk_27 (dk_at dksX13_judge_2 23 rfl rfl)
theorem dX13_judge_70 : decode cX13_judge 70 = .ok (.iaload, 1) := dk_46 (dk_at dksX13_judge_3 0 rfl rfl)
theorem dX13_judge_71 : decode cX13_judge 71 = .ok (.if_icmp .ge 9, 3) := dk_162 0 9 (dk_at dksX13_judge_3 1 rfl rfl)
theorem dX13_judge_74 : decode cX13_judge 74 = .ok (.iconst 1, 1) := dk_4 (dk_at dksX13_judge_3 4 rfl rfl)
theorem dX13_judge_75 : decode cX13_judge 75 = .ok (.iload_n 2, 1) := dk_28 (dk_at dksX13_judge_3 5 rfl rfl)
theorem dX13_judge_76 : decode cX13_judge 76 = .ok (.iadd, 1) := dk_96 (dk_at dksX13_judge_3 6 rfl rfl)
theorem dX13_judge_77 : decode cX13_judge 77 = .ok (.goto 4, 3) := dk_167 0 4 (dk_at dksX13_judge_3 7 rfl rfl)
theorem dX13_judge_80 : decode cX13_judge 80 = .ok (.iconst 0, 1) := dk_3 (dk_at dksX13_judge_3 10 rfl rfl)
theorem dX13_judge_81 : decode cX13_judge 81 = .ok (.ireturn, 1) := dk_172 (dk_at dksX13_judge_3 11 rfl rfl)
abbrev cX13_image : ByteArray := prog_16_method_98_code
def yX13_image : MethodName := ⟨RX13, "image", "()I"⟩
def dkwX13_image_0 : List UInt8 := [42, 180, 0, 7, 42, 180, 0, 13, 184, 0, 140, 42, 4, 181, 1, 31, 4, 172]
abbrev dktX13_image_0 : List UInt8 := dkwX13_image_0 ++ []
theorem dksX13_image_0 : cX13_image.data.toList.drop 0 = dktX13_image_0 := by decide +kernel
theorem dX13_image_0 : decode cX13_image 0 = .ok (.aload_n 0, 1) := dk_42 (dk_at dksX13_image_0 0 rfl rfl)
theorem dX13_image_1 : decode cX13_image 1 = .ok (.getfield 7, 3) := dk_180 0 7 (dk_at dksX13_image_0 1 rfl rfl)
theorem dX13_image_4 : decode cX13_image 4 = .ok (.aload_n 0, 1) := dk_42 (dk_at dksX13_image_0 4 rfl rfl)
theorem dX13_image_5 : decode cX13_image 5 = .ok (.getfield 13, 3) := dk_180 0 13 (dk_at dksX13_image_0 5 rfl rfl)
theorem dX13_image_8 : decode cX13_image 8 = .ok (.invokestatic 140, 3) := dk_184 0 140 (dk_at dksX13_image_0 8 rfl rfl)
theorem dX13_image_11 : decode cX13_image 11 = .ok (.aload_n 0, 1) := dk_42 (dk_at dksX13_image_0 11 rfl rfl)
theorem dX13_image_12 : decode cX13_image 12 = .ok (.iconst 1, 1) := dk_4 (dk_at dksX13_image_0 12 rfl rfl)
theorem dX13_image_13 : decode cX13_image 13 = .ok (.putfield 287, 3) := dk_181 1 31 (dk_at dksX13_image_0 13 rfl rfl)
theorem dX13_image_16 : decode cX13_image 16 = .ok (.iconst 1, 1) := dk_4 (dk_at dksX13_image_0 16 rfl rfl)
theorem dX13_image_17 : decode cX13_image 17 = .ok (.ireturn, 1) := dk_172 (dk_at dksX13_image_0 17 rfl rfl)
abbrev cX13_undo : ByteArray := prog_16_method_99_code
def yX13_undo : MethodName := ⟨RX13, "undo", "()I"⟩
def dkwX13_undo_1 : List UInt8 := [184, 0, 140, 42, 180, 0, 7, 4, 46, 172]
abbrev dktX13_undo_1 : List UInt8 := dkwX13_undo_1 ++ []
def dkwX13_undo_0 : List UInt8 := [42, 180, 1, 31, 154, 0, 10, 42, 18, 38, 182, 0, 39, 172, 42, 180, 0, 13, 42, 180, 0, 7]
abbrev dktX13_undo_0 : List UInt8 := dkwX13_undo_0 ++ dktX13_undo_1
theorem dksX13_undo_0 : cX13_undo.data.toList.drop 0 = dktX13_undo_0 := by decide +kernel
theorem dksX13_undo_1 : cX13_undo.data.toList.drop 22 = dktX13_undo_1 := dk_seg dksX13_undo_0 22 rfl rfl
theorem dX13_undo_0 : decode cX13_undo 0 = .ok (.aload_n 0, 1) := dk_42 (dk_at dksX13_undo_0 0 rfl rfl)
theorem dX13_undo_1 : decode cX13_undo 1 = .ok (.getfield 287, 3) := dk_180 1 31 (dk_at dksX13_undo_0 1 rfl rfl)
theorem dX13_undo_4 : decode cX13_undo 4 = .ok (.ifCond .ne 10, 3) := dk_154 0 10 (dk_at dksX13_undo_0 4 rfl rfl)
theorem dX13_undo_7 : decode cX13_undo 7 = .ok (.aload_n 0, 1) := dk_42 (dk_at dksX13_undo_0 7 rfl rfl)
theorem dX13_undo_8 : decode cX13_undo 8 = .ok (.ldc 38, 2) := dk_18 38 (dk_at dksX13_undo_0 8 rfl rfl)
theorem dX13_undo_10 : decode cX13_undo 10 = .ok (.invokevirtual 39, 3) := dk_182 0 39 (dk_at dksX13_undo_0 10 rfl rfl)
theorem dX13_undo_13 : decode cX13_undo 13 = .ok (.ireturn, 1) := dk_172 (dk_at dksX13_undo_0 13 rfl rfl)
theorem dX13_undo_14 : decode cX13_undo 14 = .ok (.aload_n 0, 1) := dk_42 (dk_at dksX13_undo_0 14 rfl rfl)
theorem dX13_undo_15 : decode cX13_undo 15 = .ok (.getfield 13, 3) := dk_180 0 13 (dk_at dksX13_undo_0 15 rfl rfl)
theorem dX13_undo_18 : decode cX13_undo 18 = .ok (.aload_n 0, 1) := dk_42 (dk_at dksX13_undo_0 18 rfl rfl)
theorem dX13_undo_19 : decode cX13_undo 19 = .ok (.getfield 7, 3) := dk_180 0 7 (dk_at dksX13_undo_0 19 rfl rfl)
theorem dX13_undo_22 : decode cX13_undo 22 = .ok (.invokestatic 140, 3) := dk_184 0 140 (dk_at dksX13_undo_1 0 rfl rfl)
theorem dX13_undo_25 : decode cX13_undo 25 = .ok (.aload_n 0, 1) := dk_42 (dk_at dksX13_undo_1 3 rfl rfl)
theorem dX13_undo_26 : decode cX13_undo 26 = .ok (.getfield 7, 3) := dk_180 0 7 (dk_at dksX13_undo_1 4 rfl rfl)
theorem dX13_undo_29 : decode cX13_undo 29 = .ok (.iconst 1, 1) := dk_4 (dk_at dksX13_undo_1 7 rfl rfl)
theorem dX13_undo_30 : decode cX13_undo 30 = .ok (.iaload, 1) := dk_46 (dk_at dksX13_undo_1 8 rfl rfl)
theorem dX13_undo_31 : decode cX13_undo 31 = .ok (.ireturn, 1) := dk_172 (dk_at dksX13_undo_1 9 rfl rfl)
abbrev cX13_tear : ByteArray := prog_16_method_100_code
def yX13_tear : MethodName := ⟨RX13, "tear", "()I"⟩
def dkwX13_tear_0 : List UInt8 := [42, 180, 1, 31, 60, 42, 3, 181, 1, 31, 27, 153, 0, 7, 4, 167, 0, 4, 3, 172]
abbrev dktX13_tear_0 : List UInt8 := dkwX13_tear_0 ++ []
theorem dksX13_tear_0 : cX13_tear.data.toList.drop 0 = dktX13_tear_0 := by decide +kernel
theorem dX13_tear_0 : decode cX13_tear 0 = .ok (.aload_n 0, 1) := dk_42 (dk_at dksX13_tear_0 0 rfl rfl)
theorem dX13_tear_1 : decode cX13_tear 1 = .ok (.getfield 287, 3) := dk_180 1 31 (dk_at dksX13_tear_0 1 rfl rfl)
theorem dX13_tear_4 : decode cX13_tear 4 = .ok (.istore_n 1, 1) := dk_60 (dk_at dksX13_tear_0 4 rfl rfl)
theorem dX13_tear_5 : decode cX13_tear 5 = .ok (.aload_n 0, 1) := dk_42 (dk_at dksX13_tear_0 5 rfl rfl)
theorem dX13_tear_6 : decode cX13_tear 6 = .ok (.iconst 0, 1) := dk_3 (dk_at dksX13_tear_0 6 rfl rfl)
theorem dX13_tear_7 : decode cX13_tear 7 = .ok (.putfield 287, 3) := dk_181 1 31 (dk_at dksX13_tear_0 7 rfl rfl)
theorem dX13_tear_10 : decode cX13_tear 10 = .ok (.iload_n 1, 1) := dk_27 (dk_at dksX13_tear_0 10 rfl rfl)
theorem dX13_tear_11 : decode cX13_tear 11 = .ok (.ifCond .eq 7, 3) := dk_153 0 7 (dk_at dksX13_tear_0 11 rfl rfl)
theorem dX13_tear_14 : decode cX13_tear 14 = .ok (.iconst 1, 1) := dk_4 (dk_at dksX13_tear_0 14 rfl rfl)
theorem dX13_tear_15 : decode cX13_tear 15 = .ok (.goto 4, 3) := dk_167 0 4 (dk_at dksX13_tear_0 15 rfl rfl)
theorem dX13_tear_18 : decode cX13_tear 18 = .ok (.iconst 0, 1) := dk_3 (dk_at dksX13_tear_0 18 rfl rfl)
theorem dX13_tear_19 : decode cX13_tear 19 = .ok (.ireturn, 1) := dk_172 (dk_at dksX13_tear_0 19 rfl rfl)
abbrev cX13_count : ByteArray := prog_16_method_101_code
def yX13_count : MethodName := ⟨RX13, "count", "(I)I"⟩
def dkwX13_count_5 : List UInt8 := [96, 61, 132, 3, 1, 167, 255, 227, 28, 172, 42, 18, 37, 182, 0, 39, 172]
abbrev dktX13_count_5 : List UInt8 := dkwX13_count_5 ++ []
def dkwX13_count_4 : List UInt8 := [29, 16, 10, 162, 0, 29, 28, 42, 180, 0, 7, 16, 72, 29, 96, 46, 156, 0, 7, 3, 167, 0, 4, 4]
abbrev dktX13_count_4 : List UInt8 := dkwX13_count_4 ++ dktX13_count_5
def dkwX13_count_3 : List UInt8 := [6, 46, 172, 42, 16, 6, 182, 0, 128, 172, 42, 180, 0, 207, 172, 42, 180, 0, 7, 5, 46, 172, 3, 62]
abbrev dktX13_count_3 : List UInt8 := dkwX13_count_3 ++ dktX13_count_4
def dkwX13_count_2 : List UInt8 := [42, 180, 0, 7, 4, 46, 172, 42, 180, 0, 7, 3, 46, 172, 42, 5, 182, 0, 128, 172, 42, 180, 0, 7]
abbrev dktX13_count_2 : List UInt8 := dkwX13_count_2 ++ dktX13_count_3
def dkwX13_count_1 : List UInt8 := [170, 0, 0, 0, 127, 0, 0, 0, 0, 0, 0, 0, 7, 0, 0, 0, 45, 0, 0, 0, 52, 0, 0, 0, 59, 0, 0, 0, 65, 0, 0, 0, 72, 0, 0, 0, 79, 0, 0, 0, 84, 0, 0, 0, 91]
abbrev dktX13_count_1 : List UInt8 := dkwX13_count_1 ++ dktX13_count_2
def dkwX13_count_0 : List UInt8 := [3, 61, 27]
abbrev dktX13_count_0 : List UInt8 := dkwX13_count_0 ++ dktX13_count_1
theorem dksX13_count_0 : cX13_count.data.toList.drop 0 = dktX13_count_0 := by decide +kernel
theorem dksX13_count_1 : cX13_count.data.toList.drop 3 = dktX13_count_1 := dk_seg dksX13_count_0 3 rfl rfl
theorem dksX13_count_2 : cX13_count.data.toList.drop 48 = dktX13_count_2 := dk_seg dksX13_count_1 45 rfl rfl
theorem dksX13_count_3 : cX13_count.data.toList.drop 72 = dktX13_count_3 := dk_seg dksX13_count_2 24 rfl rfl
theorem dksX13_count_4 : cX13_count.data.toList.drop 96 = dktX13_count_4 := dk_seg dksX13_count_3 24 rfl rfl
theorem dksX13_count_5 : cX13_count.data.toList.drop 120 = dktX13_count_5 := dk_seg dksX13_count_4 24 rfl rfl
theorem dX13_count_0 : decode cX13_count 0 = .ok (.iconst 0, 1) := dk_3 (dk_at dksX13_count_0 0 rfl rfl)
theorem dX13_count_1 : decode cX13_count 1 = .ok (.istore_n 2, 1) := dk_61 (dk_at dksX13_count_0 1 rfl rfl)
theorem dX13_count_2 : decode cX13_count 2 = .ok (.iload_n 1, 1) := dk_27 (dk_at dksX13_count_0 2 rfl rfl)
theorem dX13_count_3 : decode cX13_count 3 = .ok (.tableswitch 127 0 7 #[45, 52, 59, 65, 72, 79, 84, 91], 45) := by decide +kernel
theorem dX13_count_48 : decode cX13_count 48 = .ok (.aload_n 0, 1) := dk_42 (dk_at dksX13_count_2 0 rfl rfl)
theorem dX13_count_49 : decode cX13_count 49 = .ok (.getfield 7, 3) := dk_180 0 7 (dk_at dksX13_count_2 1 rfl rfl)
theorem dX13_count_52 : decode cX13_count 52 = .ok (.iconst 1, 1) := dk_4 (dk_at dksX13_count_2 4 rfl rfl)
theorem dX13_count_53 : decode cX13_count 53 = .ok (.iaload, 1) := dk_46 (dk_at dksX13_count_2 5 rfl rfl)
theorem dX13_count_54 : decode cX13_count 54 = .ok (.ireturn, 1) := dk_172 (dk_at dksX13_count_2 6 rfl rfl)
theorem dX13_count_55 : decode cX13_count 55 = .ok (.aload_n 0, 1) := dk_42 (dk_at dksX13_count_2 7 rfl rfl)
theorem dX13_count_56 : decode cX13_count 56 = .ok (.getfield 7, 3) := dk_180 0 7 (dk_at dksX13_count_2 8 rfl rfl)
theorem dX13_count_59 : decode cX13_count 59 = .ok (.iconst 0, 1) := dk_3 (dk_at dksX13_count_2 11 rfl rfl)
theorem dX13_count_60 : decode cX13_count 60 = .ok (.iaload, 1) := dk_46 (dk_at dksX13_count_2 12 rfl rfl)
theorem dX13_count_61 : decode cX13_count 61 = .ok (.ireturn, 1) := dk_172 (dk_at dksX13_count_2 13 rfl rfl)
theorem dX13_count_62 : decode cX13_count 62 = .ok (.aload_n 0, 1) := dk_42 (dk_at dksX13_count_2 14 rfl rfl)
theorem dX13_count_63 : decode cX13_count 63 = .ok (.iconst 2, 1) := dk_5 (dk_at dksX13_count_2 15 rfl rfl)
theorem dX13_count_64 : decode cX13_count 64 = .ok (.invokevirtual 128, 3) := dk_182 0 128 (dk_at dksX13_count_2 16 rfl rfl)
theorem dX13_count_67 : decode cX13_count 67 = .ok (.ireturn, 1) := dk_172 (dk_at dksX13_count_2 19 rfl rfl)
theorem dX13_count_68 : decode cX13_count 68 = .ok (.aload_n 0, 1) := dk_42 (dk_at dksX13_count_2 20 rfl rfl)
theorem dX13_count_69 : decode cX13_count 69 = .ok (.getfield 7, 3) := dk_180 0 7 (dk_at dksX13_count_2 21 rfl rfl)
theorem dX13_count_72 : decode cX13_count 72 = .ok (.iconst 3, 1) := dk_6 (dk_at dksX13_count_3 0 rfl rfl)
theorem dX13_count_73 : decode cX13_count 73 = .ok (.iaload, 1) := dk_46 (dk_at dksX13_count_3 1 rfl rfl)
theorem dX13_count_74 : decode cX13_count 74 = .ok (.ireturn, 1) := dk_172 (dk_at dksX13_count_3 2 rfl rfl)
theorem dX13_count_75 : decode cX13_count 75 = .ok (.aload_n 0, 1) := dk_42 (dk_at dksX13_count_3 3 rfl rfl)
theorem dX13_count_76 : decode cX13_count 76 = .ok (.bipush 6, 2) := dk_16 6 (dk_at dksX13_count_3 4 rfl rfl)
theorem dX13_count_78 : decode cX13_count 78 = .ok (.invokevirtual 128, 3) := dk_182 0 128 (dk_at dksX13_count_3 6 rfl rfl)
theorem dX13_count_81 : decode cX13_count 81 = .ok (.ireturn, 1) := dk_172 (dk_at dksX13_count_3 9 rfl rfl)
theorem dX13_count_82 : decode cX13_count 82 = .ok (.aload_n 0, 1) := dk_42 (dk_at dksX13_count_3 10 rfl rfl)
theorem dX13_count_83 : decode cX13_count 83 = .ok (.getfield 207, 3) := dk_180 0 207 (dk_at dksX13_count_3 11 rfl rfl)
theorem dX13_count_86 : decode cX13_count 86 = .ok (.ireturn, 1) := dk_172 (dk_at dksX13_count_3 14 rfl rfl)
theorem dX13_count_87 : decode cX13_count 87 = .ok (.aload_n 0, 1) := dk_42 (dk_at dksX13_count_3 15 rfl rfl)
theorem dX13_count_88 : decode cX13_count 88 = .ok (.getfield 7, 3) := dk_180 0 7 (dk_at dksX13_count_3 16 rfl rfl)
theorem dX13_count_91 : decode cX13_count 91 = .ok (.iconst 2, 1) := dk_5 (dk_at dksX13_count_3 19 rfl rfl)
theorem dX13_count_92 : decode cX13_count 92 = .ok (.iaload, 1) := dk_46 (dk_at dksX13_count_3 20 rfl rfl)
theorem dX13_count_93 : decode cX13_count 93 = .ok (.ireturn, 1) := dk_172 (dk_at dksX13_count_3 21 rfl rfl)
theorem dX13_count_94 : decode cX13_count 94 = .ok (.iconst 0, 1) := dk_3 (dk_at dksX13_count_3 22 rfl rfl)
theorem dX13_count_95 : decode cX13_count 95 = .ok (.istore_n 3, 1) := dk_62 (dk_at dksX13_count_3 23 rfl rfl)
theorem dX13_count_96 : decode cX13_count 96 = .ok (.iload_n 3, 1) := dk_29 (dk_at dksX13_count_4 0 rfl rfl)
theorem dX13_count_97 : decode cX13_count 97 = .ok (.bipush 10, 2) := dk_16 10 (dk_at dksX13_count_4 1 rfl rfl)
theorem dX13_count_99 : decode cX13_count 99 = .ok (.if_icmp .ge 29, 3) := dk_162 0 29 (dk_at dksX13_count_4 3 rfl rfl)
theorem dX13_count_102 : decode cX13_count 102 = .ok (.iload_n 2, 1) := dk_28 (dk_at dksX13_count_4 6 rfl rfl)
theorem dX13_count_103 : decode cX13_count 103 = .ok (.aload_n 0, 1) := dk_42 (dk_at dksX13_count_4 7 rfl rfl)
theorem dX13_count_104 : decode cX13_count 104 = .ok (.getfield 7, 3) := dk_180 0 7 (dk_at dksX13_count_4 8 rfl rfl)
theorem dX13_count_107 : decode cX13_count 107 = .ok (.bipush 72, 2) := dk_16 72 (dk_at dksX13_count_4 11 rfl rfl)
theorem dX13_count_109 : decode cX13_count 109 = .ok (.iload_n 3, 1) := dk_29 (dk_at dksX13_count_4 13 rfl rfl)
theorem dX13_count_110 : decode cX13_count 110 = .ok (.iadd, 1) := dk_96 (dk_at dksX13_count_4 14 rfl rfl)
theorem dX13_count_111 : decode cX13_count 111 = .ok (.iaload, 1) := dk_46 (dk_at dksX13_count_4 15 rfl rfl)
theorem dX13_count_112 : decode cX13_count 112 = .ok (.ifCond .ge 7, 3) := dk_156 0 7 (dk_at dksX13_count_4 16 rfl rfl)
theorem dX13_count_115 : decode cX13_count 115 = .ok (.iconst 0, 1) := dk_3 (dk_at dksX13_count_4 19 rfl rfl)
theorem dX13_count_116 : decode cX13_count 116 = .ok (.goto 4, 3) := dk_167 0 4 (dk_at dksX13_count_4 20 rfl rfl)
theorem dX13_count_119 : decode cX13_count 119 = .ok (.iconst 1, 1) := dk_4 (dk_at dksX13_count_4 23 rfl rfl)
theorem dX13_count_120 : decode cX13_count 120 = .ok (.iadd, 1) := dk_96 (dk_at dksX13_count_5 0 rfl rfl)
theorem dX13_count_121 : decode cX13_count 121 = .ok (.istore_n 2, 1) := dk_61 (dk_at dksX13_count_5 1 rfl rfl)
theorem dX13_count_122 : decode cX13_count 122 = .ok (.iinc 3 1, 3) := dk_132 3 1 (dk_at dksX13_count_5 2 rfl rfl)
theorem dX13_count_125 : decode cX13_count 125 = .ok (.goto (-29), 3) := dk_167 255 227 (dk_at dksX13_count_5 5 rfl rfl)
theorem dX13_count_128 : decode cX13_count 128 = .ok (.iload_n 2, 1) := dk_28 (dk_at dksX13_count_5 8 rfl rfl)
theorem dX13_count_129 : decode cX13_count 129 = .ok (.ireturn, 1) := dk_172 (dk_at dksX13_count_5 9 rfl rfl)
theorem dX13_count_130 : decode cX13_count 130 = .ok (.aload_n 0, 1) := dk_42 (dk_at dksX13_count_5 10 rfl rfl)
theorem dX13_count_131 : decode cX13_count 131 = .ok (.ldc 37, 2) := dk_18 37 (dk_at dksX13_count_5 11 rfl rfl)
theorem dX13_count_133 : decode cX13_count 133 = .ok (.invokevirtual 39, 3) := dk_182 0 39 (dk_at dksX13_count_5 13 rfl rfl)
theorem dX13_count_136 : decode cX13_count 136 = .ok (.ireturn, 1) := dk_172 (dk_at dksX13_count_5 16 rfl rfl)
abbrev cX13_status : ByteArray := prog_16_method_102_code
def yX13_status : MethodName := ⟨RX13, "status", "(I)I"⟩
def dkwX13_status_1 : List UInt8 := [167, 0, 9, 42, 18, 37, 182, 0, 39, 172]
abbrev dktX13_status_1 : List UInt8 := dkwX13_status_1 ++ []
def dkwX13_status_0 : List UInt8 := [27, 133, 20, 1, 35, 20, 0, 73, 184, 0, 49, 153, 0, 14, 42, 180, 0, 22, 27, 4, 96, 46]
abbrev dktX13_status_0 : List UInt8 := dkwX13_status_0 ++ dktX13_status_1
theorem dksX13_status_0 : cX13_status.data.toList.drop 0 = dktX13_status_0 := by decide +kernel
theorem dksX13_status_1 : cX13_status.data.toList.drop 22 = dktX13_status_1 := dk_seg dksX13_status_0 22 rfl rfl
theorem dX13_status_0 : decode cX13_status 0 = .ok (.iload_n 1, 1) := dk_27 (dk_at dksX13_status_0 0 rfl rfl)
theorem dX13_status_1 : decode cX13_status 1 = .ok (.i2l, 1) := dk_133 (dk_at dksX13_status_0 1 rfl rfl)
theorem dX13_status_2 : decode cX13_status 2 = .ok (.ldc2_w 291, 3) := dk_20 1 35 (dk_at dksX13_status_0 2 rfl rfl)
theorem dX13_status_5 : decode cX13_status 5 = .ok (.ldc2_w 73, 3) := dk_20 0 73 (dk_at dksX13_status_0 5 rfl rfl)
theorem dX13_status_8 : decode cX13_status 8 = .ok (.invokestatic 49, 3) := dk_184 0 49 (dk_at dksX13_status_0 8 rfl rfl)
theorem dX13_status_11 : decode cX13_status 11 = .ok (.ifCond .eq 14, 3) := dk_153 0 14 (dk_at dksX13_status_0 11 rfl rfl)
theorem dX13_status_14 : decode cX13_status 14 = .ok (.aload_n 0, 1) := dk_42 (dk_at dksX13_status_0 14 rfl rfl)
theorem dX13_status_15 : decode cX13_status 15 = .ok (.getfield 22, 3) := dk_180 0 22 (dk_at dksX13_status_0 15 rfl rfl)
theorem dX13_status_18 : decode cX13_status 18 = .ok (.iload_n 1, 1) := dk_27 (dk_at dksX13_status_0 18 rfl rfl)
theorem dX13_status_19 : decode cX13_status 19 = .ok (.iconst 1, 1) := dk_4 (dk_at dksX13_status_0 19 rfl rfl)
theorem dX13_status_20 : decode cX13_status 20 = .ok (.iadd, 1) := dk_96 (dk_at dksX13_status_0 20 rfl rfl)
theorem dX13_status_21 : decode cX13_status 21 = .ok (.iaload, 1) := dk_46 (dk_at dksX13_status_0 21 rfl rfl)
theorem dX13_status_22 : decode cX13_status 22 = .ok (.goto 9, 3) := dk_167 0 9 (dk_at dksX13_status_1 0 rfl rfl)
theorem dX13_status_25 : decode cX13_status 25 = .ok (.aload_n 0, 1) := dk_42 (dk_at dksX13_status_1 3 rfl rfl)
theorem dX13_status_26 : decode cX13_status 26 = .ok (.ldc 37, 2) := dk_18 37 (dk_at dksX13_status_1 4 rfl rfl)
theorem dX13_status_28 : decode cX13_status 28 = .ok (.invokevirtual 39, 3) := dk_182 0 39 (dk_at dksX13_status_1 6 rfl rfl)
theorem dX13_status_31 : decode cX13_status 31 = .ok (.ireturn, 1) := dk_172 (dk_at dksX13_status_1 9 rfl rfl)
theorem q117 : (Jvm.Cond.initialized "ThunderCasksModel") ∈ lw_all := lw_g (lw_at lw_m1 17 rfl) rfl
theorem q1230 : (Jvm.Cond.instantiable "ThunderCasksModel" (18 : Nat)) ∈ lw_all := lw_g (lw_at lw_m5 170 rfl) rfl
theorem q1232 : (Jvm.Cond.instanceMethod ({ cls := "ThunderCasksModel", name := "<init>", desc := "()V" } : Jvm.MethodName)) ∈ lw_all := lw_g (lw_at lw_m5 172 rfl) rfl
theorem q1233 : (Jvm.Cond.code ({ cls := "ThunderCasksModel", name := "<init>", desc := "()V" } : Jvm.MethodName) prog_16_method_1_code (2 : Nat) (Option.none : Option Jvm.ClassFile.FieldType)) ∈ lw_all := lw_g (lw_at lw_m5 173 rfl) rfl
theorem q1234 : (Jvm.Cond.methodLink "ThunderCasksModel" (1 : Nat) ({ cls := "java/lang/Object", name := "<init>", desc := "()V" } : Jvm.MethodName)) ∈ lw_all := lw_g (lw_at lw_m5 174 rfl) rfl
theorem q1235 : (Jvm.Cond.fieldLink "ThunderCasksModel" (7 : Nat) "ThunderCasksModel" "s" "[I") ∈ lw_all := lw_g (lw_at lw_m5 175 rfl) rfl
theorem q1236 : (Jvm.Cond.fieldLink "ThunderCasksModel" (13 : Nat) "ThunderCasksModel" "kept" "[I") ∈ lw_all := lw_g (lw_at lw_m5 176 rfl) rfl
theorem q1237 : (Jvm.Cond.fieldLink "ThunderCasksModel" (16 : Nat) "ThunderCasksModel" "before" "[I") ∈ lw_all := lw_g (lw_at lw_m5 177 rfl) rfl
theorem q1238 : (Jvm.Cond.fieldLink "ThunderCasksModel" (19 : Nat) "ThunderCasksModel" "aside" "[I") ∈ lw_all := lw_g (lw_at lw_m5 178 rfl) rfl
theorem q1239 : (Jvm.Cond.fieldLink "ThunderCasksModel" (287 : Nat) "ThunderCasksModel" "isKept" "Z") ∈ lw_all := lw_g (lw_at lw_m5 179 rfl) rfl
theorem q1240 : (Jvm.Cond.fieldLink "ThunderCasksModel" (22 : Nat) "ThunderCasksModel" "findings" "[I") ∈ lw_all := lw_g (lw_at lw_m5 180 rfl) rfl
theorem q1241 : (Jvm.Cond.fieldLink "ThunderCasksModel" (25 : Nat) "ThunderCasksModel" "tape" "[I") ∈ lw_all := lw_g (lw_at lw_m5 181 rfl) rfl
theorem q1242 : (Jvm.Cond.fieldLink "ThunderCasksModel" (207 : Nat) "ThunderCasksModel" "taped" "I") ∈ lw_all := lw_g (lw_at lw_m5 182 rfl) rfl
theorem q1243 : (Jvm.Cond.fieldLink "ThunderCasksModel" (28 : Nat) "ThunderCasksModel" "bitsOf" "[I") ∈ lw_all := lw_g (lw_at lw_m5 183 rfl) rfl
theorem q1244 : (Jvm.Cond.fieldLink "ThunderCasksModel" (31 : Nat) "ThunderCasksModel" "sizes" "[I") ∈ lw_all := lw_g (lw_at lw_m5 184 rfl) rfl
theorem q1245 : (Jvm.Cond.fieldLink "ThunderCasksModel" (34 : Nat) "ThunderCasksModel" "numbers" "[I") ∈ lw_all := lw_g (lw_at lw_m5 185 rfl) rfl
theorem q1246 : (Jvm.Cond.fieldLink "ThunderCasksModel" (180 : Nat) "ThunderCasksModel" "fitting" "I") ∈ lw_all := lw_g (lw_at lw_m5 186 rfl) rfl
theorem q1247 : (Jvm.Cond.fieldLink "ThunderCasksModel" (187 : Nat) "ThunderCasksModel" "leastFit" "I") ∈ lw_all := lw_g (lw_at lw_m5 187 rfl) rfl
theorem q1248 : (Jvm.Cond.fieldLink "ThunderCasksModel" (225 : Nat) "ThunderCasksModel" "token" "I") ∈ lw_all := lw_g (lw_at lw_m5 188 rfl) rfl
theorem q1249 : (Jvm.Cond.fieldLink "ThunderCasksModel" (213 : Nat) "ThunderCasksModel" "from" "I") ∈ lw_all := lw_g (lw_at lw_m5 189 rfl) rfl
theorem q1250 : (Jvm.Cond.fieldLink "ThunderCasksModel" (210 : Nat) "ThunderCasksModel" "to" "I") ∈ lw_all := lw_g (lw_at lw_m5 190 rfl) rfl
theorem q1251 : (Jvm.Cond.fieldLink "ThunderCasksModel" (228 : Nat) "ThunderCasksModel" "value" "I") ∈ lw_all := lw_g (lw_at lw_m5 191 rfl) rfl
theorem q1252 : (Jvm.Cond.fieldLink "ThunderCasksModel" (231 : Nat) "ThunderCasksModel" "faultAt" "I") ∈ lw_all := lw_g (lw_at lw_m5 192 rfl) rfl
theorem q1253 : (Jvm.Cond.laysFinal "ThunderCasksModel" "ThunderCasksModel" "s" "[I") ∈ lw_all := lw_g (lw_at lw_m5 193 rfl) rfl
theorem q1254 : (Jvm.Cond.soleField "ThunderCasksModel" "s") ∈ lw_all := lw_g (lw_at lw_m5 194 rfl) rfl
theorem q1255 : (Jvm.Cond.laysFinal "ThunderCasksModel" "ThunderCasksModel" "kept" "[I") ∈ lw_all := lw_g (lw_at lw_m5 195 rfl) rfl
theorem q1256 : (Jvm.Cond.soleField "ThunderCasksModel" "kept") ∈ lw_all := lw_g (lw_at lw_m5 196 rfl) rfl
theorem q1257 : (Jvm.Cond.laysFinal "ThunderCasksModel" "ThunderCasksModel" "before" "[I") ∈ lw_all := lw_g (lw_at lw_m5 197 rfl) rfl
theorem q1258 : (Jvm.Cond.soleField "ThunderCasksModel" "before") ∈ lw_all := lw_g (lw_at lw_m5 198 rfl) rfl
theorem q1259 : (Jvm.Cond.laysFinal "ThunderCasksModel" "ThunderCasksModel" "aside" "[I") ∈ lw_all := lw_g (lw_at lw_m5 199 rfl) rfl
theorem q1260 : (Jvm.Cond.soleField "ThunderCasksModel" "aside") ∈ lw_all := lw_g (lw_at lw_m5 200 rfl) rfl
theorem q1261 : (Jvm.Cond.lays "ThunderCasksModel" "ThunderCasksModel" "isKept" "Z") ∈ lw_all := lw_g (lw_at lw_m5 201 rfl) rfl
theorem q1262 : (Jvm.Cond.soleField "ThunderCasksModel" "isKept") ∈ lw_all := lw_g (lw_at lw_m5 202 rfl) rfl
theorem q1263 : (Jvm.Cond.laysFinal "ThunderCasksModel" "ThunderCasksModel" "findings" "[I") ∈ lw_all := lw_g (lw_at lw_m5 203 rfl) rfl
theorem q1264 : (Jvm.Cond.soleField "ThunderCasksModel" "findings") ∈ lw_all := lw_g (lw_at lw_m5 204 rfl) rfl
theorem q1265 : (Jvm.Cond.laysFinal "ThunderCasksModel" "ThunderCasksModel" "tape" "[I") ∈ lw_all := lw_g (lw_at lw_m5 205 rfl) rfl
theorem q1266 : (Jvm.Cond.soleField "ThunderCasksModel" "tape") ∈ lw_all := lw_g (lw_at lw_m5 206 rfl) rfl
theorem q1267 : (Jvm.Cond.lays "ThunderCasksModel" "ThunderCasksModel" "taped" "I") ∈ lw_all := lw_g (lw_at lw_m5 207 rfl) rfl
theorem q1268 : (Jvm.Cond.soleField "ThunderCasksModel" "taped") ∈ lw_all := lw_g (lw_at lw_m5 208 rfl) rfl
theorem q1269 : (Jvm.Cond.laysFinal "ThunderCasksModel" "ThunderCasksModel" "bitsOf" "[I") ∈ lw_all := lw_g (lw_at lw_m5 209 rfl) rfl
theorem q1270 : (Jvm.Cond.soleField "ThunderCasksModel" "bitsOf") ∈ lw_all := lw_g (lw_at lw_m5 210 rfl) rfl
theorem q1271 : (Jvm.Cond.laysFinal "ThunderCasksModel" "ThunderCasksModel" "sizes" "[I") ∈ lw_all := lw_g (lw_at lw_m5 211 rfl) rfl
theorem q1272 : (Jvm.Cond.soleField "ThunderCasksModel" "sizes") ∈ lw_all := lw_g (lw_at lw_m5 212 rfl) rfl
theorem q1273 : (Jvm.Cond.laysFinal "ThunderCasksModel" "ThunderCasksModel" "numbers" "[I") ∈ lw_all := lw_g (lw_at lw_m5 213 rfl) rfl
theorem q1274 : (Jvm.Cond.soleField "ThunderCasksModel" "numbers") ∈ lw_all := lw_g (lw_at lw_m5 214 rfl) rfl
theorem q1275 : (Jvm.Cond.lays "ThunderCasksModel" "ThunderCasksModel" "fitting" "I") ∈ lw_all := lw_g (lw_at lw_m5 215 rfl) rfl
theorem q1276 : (Jvm.Cond.soleField "ThunderCasksModel" "fitting") ∈ lw_all := lw_g (lw_at lw_m5 216 rfl) rfl
theorem q1277 : (Jvm.Cond.lays "ThunderCasksModel" "ThunderCasksModel" "leastFit" "I") ∈ lw_all := lw_g (lw_at lw_m5 217 rfl) rfl
theorem q1278 : (Jvm.Cond.soleField "ThunderCasksModel" "leastFit") ∈ lw_all := lw_g (lw_at lw_m5 218 rfl) rfl
theorem q1279 : (Jvm.Cond.lays "ThunderCasksModel" "ThunderCasksModel" "token" "I") ∈ lw_all := lw_g (lw_at lw_m5 219 rfl) rfl
theorem q1280 : (Jvm.Cond.soleField "ThunderCasksModel" "token") ∈ lw_all := lw_g (lw_at lw_m5 220 rfl) rfl
theorem q1281 : (Jvm.Cond.lays "ThunderCasksModel" "ThunderCasksModel" "from" "I") ∈ lw_all := lw_g (lw_at lw_m5 221 rfl) rfl
theorem q1282 : (Jvm.Cond.soleField "ThunderCasksModel" "from") ∈ lw_all := lw_g (lw_at lw_m5 222 rfl) rfl
theorem q1283 : (Jvm.Cond.lays "ThunderCasksModel" "ThunderCasksModel" "to" "I") ∈ lw_all := lw_g (lw_at lw_m5 223 rfl) rfl
theorem q1284 : (Jvm.Cond.soleField "ThunderCasksModel" "to") ∈ lw_all := lw_g (lw_at lw_m5 224 rfl) rfl
theorem q1285 : (Jvm.Cond.lays "ThunderCasksModel" "ThunderCasksModel" "value" "I") ∈ lw_all := lw_g (lw_at lw_m5 225 rfl) rfl
theorem q1286 : (Jvm.Cond.soleField "ThunderCasksModel" "value") ∈ lw_all := lw_g (lw_at lw_m5 226 rfl) rfl
theorem q1287 : (Jvm.Cond.lays "ThunderCasksModel" "ThunderCasksModel" "faultAt" "I") ∈ lw_all := lw_g (lw_at lw_m5 227 rfl) rfl
theorem q1288 : (Jvm.Cond.soleField "ThunderCasksModel" "faultAt") ∈ lw_all := lw_g (lw_at lw_m5 228 rfl) rfl
theorem q1289 : (Jvm.Cond.superclass "ThunderCasksModel" "java/lang/Object") ∈ lw_all := lw_g (lw_at lw_m5 229 rfl) rfl
theorem q1291 : (Jvm.Cond.instanceMethod ({ cls := "ThunderCasksModel", name := "frost", desc := "(II)I" } : Jvm.MethodName)) ∈ lw_all := lw_g (lw_at lw_m5 231 rfl) rfl
theorem q1292 : (Jvm.Cond.selects "ThunderCasksModel" ({ cls := "ThunderCasksModel", name := "frost", desc := "(II)I" } : Jvm.MethodName) ({ cls := "ThunderCasksModel", name := "frost", desc := "(II)I" } : Jvm.MethodName)) ∈ lw_all := lw_g (lw_at lw_m5 232 rfl) rfl
theorem q1293 : (Jvm.Cond.code ({ cls := "ThunderCasksModel", name := "frost", desc := "(II)I" } : Jvm.MethodName) prog_16_method_14_code (3 : Nat) (Option.some Jvm.ClassFile.FieldType.int)) ∈ lw_all := lw_g (lw_at lw_m5 233 rfl) rfl
theorem q1294 : (Jvm.Cond.methodLink "ThunderCasksModel" (43 : Nat) ({ cls := "ThunderCasksModel", name := "isCellar", desc := "(I)Z" } : Jvm.MethodName)) ∈ lw_all := lw_g (lw_at lw_m5 234 rfl) rfl
theorem q1295 : (Jvm.Cond.static ({ cls := "ThunderCasksModel", name := "isCellar", desc := "(I)Z" } : Jvm.MethodName)) ∈ lw_all := lw_g (lw_at lw_m5 235 rfl) rfl
theorem q1296 : (Jvm.Cond.code ({ cls := "ThunderCasksModel", name := "isCellar", desc := "(I)Z" } : Jvm.MethodName) prog_16_method_6_code (1 : Nat) (Option.some Jvm.ClassFile.FieldType.boolean)) ∈ lw_all := lw_g (lw_at lw_m5 236 rfl) rfl
theorem q1297 : (Jvm.Cond.constantLong "ThunderCasksModel" (47 : Nat) (9 : Int64)) ∈ lw_all := lw_g (lw_at lw_m5 237 rfl) rfl
theorem q1298 : (Jvm.Cond.methodLink "ThunderCasksModel" (49 : Nat) ({ cls := "ThunderCasksModel", name := "isIn", desc := "(JJJ)Z" } : Jvm.MethodName)) ∈ lw_all := lw_g (lw_at lw_m5 238 rfl) rfl
theorem q1299 : (Jvm.Cond.static ({ cls := "ThunderCasksModel", name := "isIn", desc := "(JJJ)Z" } : Jvm.MethodName)) ∈ lw_all := lw_g (lw_at lw_m5 239 rfl) rfl
theorem q1300 : (Jvm.Cond.code ({ cls := "ThunderCasksModel", name := "isIn", desc := "(JJJ)Z" } : Jvm.MethodName) prog_16_method_2_code (6 : Nat) (Option.some Jvm.ClassFile.FieldType.boolean)) ∈ lw_all := lw_g (lw_at lw_m6 0 rfl) rfl
theorem q1301 : (Jvm.Cond.methodLink "ThunderCasksModel" (53 : Nat) ({ cls := "ThunderCasksModel", name := "becomes", desc := "(II)I" } : Jvm.MethodName)) ∈ lw_all := lw_g (lw_at lw_m6 1 rfl) rfl
theorem q1302 : (Jvm.Cond.privateMethod ({ cls := "ThunderCasksModel", name := "becomes", desc := "(II)I" } : Jvm.MethodName)) ∈ lw_tbl := lw_at lw_m6 2 rfl
theorem q1303 : (Jvm.Cond.instanceMethod ({ cls := "ThunderCasksModel", name := "becomes", desc := "(II)I" } : Jvm.MethodName)) ∈ lw_all := lw_g (lw_at lw_m6 3 rfl) rfl
theorem q1304 : (Jvm.Cond.code ({ cls := "ThunderCasksModel", name := "becomes", desc := "(II)I" } : Jvm.MethodName) prog_16_method_4_code (4 : Nat) (Option.some Jvm.ClassFile.FieldType.int)) ∈ lw_all := lw_g (lw_at lw_m6 4 rfl) rfl
theorem q1305 : (Jvm.Cond.constant "ThunderCasksModel" (37 : Nat) (-1000001 : Int32)) ∈ lw_all := lw_g (lw_at lw_m6 5 rfl) rfl
theorem q1306 : (Jvm.Cond.methodLink "ThunderCasksModel" (39 : Nat) ({ cls := "ThunderCasksModel", name := "finds", desc := "(I)I" } : Jvm.MethodName)) ∈ lw_all := lw_g (lw_at lw_m6 6 rfl) rfl
theorem q1307 : (Jvm.Cond.privateMethod ({ cls := "ThunderCasksModel", name := "finds", desc := "(I)I" } : Jvm.MethodName)) ∈ lw_tbl := lw_at lw_m6 7 rfl
theorem q1308 : (Jvm.Cond.instanceMethod ({ cls := "ThunderCasksModel", name := "finds", desc := "(I)I" } : Jvm.MethodName)) ∈ lw_all := lw_g (lw_at lw_m6 8 rfl) rfl
theorem q1309 : (Jvm.Cond.code ({ cls := "ThunderCasksModel", name := "finds", desc := "(I)I" } : Jvm.MethodName) prog_16_method_3_code (2 : Nat) (Option.some Jvm.ClassFile.FieldType.int)) ∈ lw_all := lw_g (lw_at lw_m6 9 rfl) rfl
theorem q1311 : (Jvm.Cond.instanceMethod ({ cls := "ThunderCasksModel", name := "cellar", desc := "(II)I" } : Jvm.MethodName)) ∈ lw_all := lw_g (lw_at lw_m6 11 rfl) rfl
theorem q1312 : (Jvm.Cond.selects "ThunderCasksModel" ({ cls := "ThunderCasksModel", name := "cellar", desc := "(II)I" } : Jvm.MethodName) ({ cls := "ThunderCasksModel", name := "cellar", desc := "(II)I" } : Jvm.MethodName)) ∈ lw_all := lw_g (lw_at lw_m6 12 rfl) rfl
theorem q1313 : (Jvm.Cond.code ({ cls := "ThunderCasksModel", name := "cellar", desc := "(II)I" } : Jvm.MethodName) prog_16_method_17_code (3 : Nat) (Option.some Jvm.ClassFile.FieldType.int)) ∈ lw_all := lw_g (lw_at lw_m6 13 rfl) rfl
theorem q1314 : (Jvm.Cond.constantLong "ThunderCasksModel" (60 : Nat) (3 : Int64)) ∈ lw_all := lw_g (lw_at lw_m6 14 rfl) rfl
theorem q1315 : (Jvm.Cond.methodLink "ThunderCasksModel" (62 : Nat) ({ cls := "ThunderCasksModel", name := "there", desc := "(I)I" } : Jvm.MethodName)) ∈ lw_all := lw_g (lw_at lw_m6 15 rfl) rfl
theorem q1316 : (Jvm.Cond.privateMethod ({ cls := "ThunderCasksModel", name := "there", desc := "(I)I" } : Jvm.MethodName)) ∈ lw_tbl := lw_at lw_m6 16 rfl
theorem q1317 : (Jvm.Cond.instanceMethod ({ cls := "ThunderCasksModel", name := "there", desc := "(I)I" } : Jvm.MethodName)) ∈ lw_all := lw_g (lw_at lw_m6 17 rfl) rfl
theorem q1318 : (Jvm.Cond.code ({ cls := "ThunderCasksModel", name := "there", desc := "(I)I" } : Jvm.MethodName) prog_16_method_15_code (4 : Nat) (Option.some Jvm.ClassFile.FieldType.int)) ∈ lw_all := lw_g (lw_at lw_m6 18 rfl) rfl
theorem q1319 : (Jvm.Cond.methodLink "ThunderCasksModel" (57 : Nat) ({ cls := "ThunderCasksModel", name := "its", desc := "(II)I" } : Jvm.MethodName)) ∈ lw_all := lw_g (lw_at lw_m6 19 rfl) rfl
theorem q1320 : (Jvm.Cond.privateMethod ({ cls := "ThunderCasksModel", name := "its", desc := "(II)I" } : Jvm.MethodName)) ∈ lw_tbl := lw_at lw_m6 20 rfl
theorem q1321 : (Jvm.Cond.instanceMethod ({ cls := "ThunderCasksModel", name := "its", desc := "(II)I" } : Jvm.MethodName)) ∈ lw_all := lw_g (lw_at lw_m6 21 rfl) rfl
theorem q1322 : (Jvm.Cond.code ({ cls := "ThunderCasksModel", name := "its", desc := "(II)I" } : Jvm.MethodName) prog_16_method_9_code (3 : Nat) (Option.some Jvm.ClassFile.FieldType.int)) ∈ lw_all := lw_g (lw_at lw_m6 22 rfl) rfl
theorem q1323 : (Jvm.Cond.methodLink "ThunderCasksModel" (65 : Nat) ({ cls := "ThunderCasksModel", name := "emptiest", desc := "(I)I" } : Jvm.MethodName)) ∈ lw_all := lw_g (lw_at lw_m6 23 rfl) rfl
theorem q1324 : (Jvm.Cond.privateMethod ({ cls := "ThunderCasksModel", name := "emptiest", desc := "(I)I" } : Jvm.MethodName)) ∈ lw_tbl := lw_at lw_m6 24 rfl
theorem q1325 : (Jvm.Cond.instanceMethod ({ cls := "ThunderCasksModel", name := "emptiest", desc := "(I)I" } : Jvm.MethodName)) ∈ lw_all := lw_g (lw_at lw_m6 25 rfl) rfl
theorem q1326 : (Jvm.Cond.code ({ cls := "ThunderCasksModel", name := "emptiest", desc := "(I)I" } : Jvm.MethodName) prog_16_method_16_code (4 : Nat) (Option.some Jvm.ClassFile.FieldType.int)) ∈ lw_all := lw_g (lw_at lw_m6 26 rfl) rfl
theorem q1328 : (Jvm.Cond.instanceMethod ({ cls := "ThunderCasksModel", name := "storm", desc := "(II)I" } : Jvm.MethodName)) ∈ lw_all := lw_g (lw_at lw_m6 28 rfl) rfl
theorem q1329 : (Jvm.Cond.selects "ThunderCasksModel" ({ cls := "ThunderCasksModel", name := "storm", desc := "(II)I" } : Jvm.MethodName) ({ cls := "ThunderCasksModel", name := "storm", desc := "(II)I" } : Jvm.MethodName)) ∈ lw_all := lw_g (lw_at lw_m6 29 rfl) rfl
theorem q1330 : (Jvm.Cond.code ({ cls := "ThunderCasksModel", name := "storm", desc := "(II)I" } : Jvm.MethodName) prog_16_method_18_code (3 : Nat) (Option.some Jvm.ClassFile.FieldType.int)) ∈ lw_all := lw_g (lw_at lw_m6 30 rfl) rfl
theorem q1331 : (Jvm.Cond.constantLong "ThunderCasksModel" (68 : Nat) (99 : Int64)) ∈ lw_all := lw_g (lw_at lw_m6 31 rfl) rfl
theorem q1333 : (Jvm.Cond.instanceMethod ({ cls := "ThunderCasksModel", name := "cask", desc := "(II)I" } : Jvm.MethodName)) ∈ lw_all := lw_g (lw_at lw_m6 33 rfl) rfl
theorem q1334 : (Jvm.Cond.selects "ThunderCasksModel" ({ cls := "ThunderCasksModel", name := "cask", desc := "(II)I" } : Jvm.MethodName) ({ cls := "ThunderCasksModel", name := "cask", desc := "(II)I" } : Jvm.MethodName)) ∈ lw_all := lw_g (lw_at lw_m6 34 rfl) rfl
theorem q1335 : (Jvm.Cond.code ({ cls := "ThunderCasksModel", name := "cask", desc := "(II)I" } : Jvm.MethodName) prog_16_method_20_code (3 : Nat) (Option.some Jvm.ClassFile.FieldType.int)) ∈ lw_all := lw_g (lw_at lw_m6 35 rfl) rfl
theorem q1336 : (Jvm.Cond.constantLong "ThunderCasksModel" (73 : Nat) (6 : Int64)) ∈ lw_all := lw_g (lw_at lw_m6 36 rfl) rfl
theorem q1337 : (Jvm.Cond.constant "ThunderCasksModel" (75 : Nat) (-1000002 : Int32)) ∈ lw_all := lw_g (lw_at lw_m6 37 rfl) rfl
theorem q1338 : (Jvm.Cond.methodLink "ThunderCasksModel" (76 : Nat) ({ cls := "ThunderCasksModel", name := "comes", desc := "(II)V" } : Jvm.MethodName)) ∈ lw_all := lw_g (lw_at lw_m6 38 rfl) rfl
theorem q1339 : (Jvm.Cond.privateMethod ({ cls := "ThunderCasksModel", name := "comes", desc := "(II)V" } : Jvm.MethodName)) ∈ lw_tbl := lw_at lw_m6 39 rfl
theorem q1340 : (Jvm.Cond.instanceMethod ({ cls := "ThunderCasksModel", name := "comes", desc := "(II)V" } : Jvm.MethodName)) ∈ lw_all := lw_g (lw_at lw_m6 40 rfl) rfl
theorem q1341 : (Jvm.Cond.code ({ cls := "ThunderCasksModel", name := "comes", desc := "(II)V" } : Jvm.MethodName) prog_16_method_19_code (4 : Nat) (Option.none : Option Jvm.ClassFile.FieldType)) ∈ lw_all := lw_g (lw_at lw_m6 41 rfl) rfl
theorem q1342 : (Jvm.Cond.methodLink "ThunderCasksModel" (70 : Nat) ({ cls := "ThunderCasksModel", name := "at", desc := "(II)I" } : Jvm.MethodName)) ∈ lw_all := lw_g (lw_at lw_m6 42 rfl) rfl
theorem q1343 : (Jvm.Cond.static ({ cls := "ThunderCasksModel", name := "at", desc := "(II)I" } : Jvm.MethodName)) ∈ lw_all := lw_g (lw_at lw_m6 43 rfl) rfl
theorem q1344 : (Jvm.Cond.code ({ cls := "ThunderCasksModel", name := "at", desc := "(II)I" } : Jvm.MethodName) prog_16_method_8_code (2 : Nat) (Option.some Jvm.ClassFile.FieldType.int)) ∈ lw_all := lw_g (lw_at lw_m6 44 rfl) rfl
theorem q1346 : (Jvm.Cond.instanceMethod ({ cls := "ThunderCasksModel", name := "of", desc := "(II)I" } : Jvm.MethodName)) ∈ lw_all := lw_g (lw_at lw_m6 46 rfl) rfl
theorem q1347 : (Jvm.Cond.selects "ThunderCasksModel" ({ cls := "ThunderCasksModel", name := "of", desc := "(II)I" } : Jvm.MethodName) ({ cls := "ThunderCasksModel", name := "of", desc := "(II)I" } : Jvm.MethodName)) ∈ lw_all := lw_g (lw_at lw_m6 47 rfl) rfl
theorem q1348 : (Jvm.Cond.code ({ cls := "ThunderCasksModel", name := "of", desc := "(II)I" } : Jvm.MethodName) prog_16_method_24_code (3 : Nat) (Option.some Jvm.ClassFile.FieldType.int)) ∈ lw_all := lw_g (lw_at lw_m6 48 rfl) rfl
theorem q1349 : (Jvm.Cond.methodLink "ThunderCasksModel" (86 : Nat) ({ cls := "ThunderCasksModel", name := "isCask", desc := "(I)Z" } : Jvm.MethodName)) ∈ lw_all := lw_g (lw_at lw_m6 49 rfl) rfl
theorem q1350 : (Jvm.Cond.privateMethod ({ cls := "ThunderCasksModel", name := "isCask", desc := "(I)Z" } : Jvm.MethodName)) ∈ lw_tbl := lw_at lw_m6 50 rfl
theorem q1351 : (Jvm.Cond.instanceMethod ({ cls := "ThunderCasksModel", name := "isCask", desc := "(I)Z" } : Jvm.MethodName)) ∈ lw_all := lw_g (lw_at lw_m6 51 rfl) rfl
theorem q1352 : (Jvm.Cond.code ({ cls := "ThunderCasksModel", name := "isCask", desc := "(I)Z" } : Jvm.MethodName) prog_16_method_7_code (2 : Nat) (Option.some Jvm.ClassFile.FieldType.boolean)) ∈ lw_all := lw_g (lw_at lw_m6 52 rfl) rfl
theorem q1353 : (Jvm.Cond.methodLink "ThunderCasksModel" (89 : Nat) ({ cls := "ThunderCasksModel", name := "loud", desc := "(I)I" } : Jvm.MethodName)) ∈ lw_all := lw_g (lw_at lw_m6 53 rfl) rfl
theorem q1354 : (Jvm.Cond.privateMethod ({ cls := "ThunderCasksModel", name := "loud", desc := "(I)I" } : Jvm.MethodName)) ∈ lw_tbl := lw_at lw_m6 54 rfl
theorem q1355 : (Jvm.Cond.instanceMethod ({ cls := "ThunderCasksModel", name := "loud", desc := "(I)I" } : Jvm.MethodName)) ∈ lw_all := lw_g (lw_at lw_m6 55 rfl) rfl
theorem q1356 : (Jvm.Cond.code ({ cls := "ThunderCasksModel", name := "loud", desc := "(I)I" } : Jvm.MethodName) prog_16_method_21_code (5 : Nat) (Option.some Jvm.ClassFile.FieldType.int)) ∈ lw_all := lw_g (lw_at lw_m6 56 rfl) rfl
theorem q1357 : (Jvm.Cond.methodLink "ThunderCasksModel" (80 : Nat) ({ cls := "ThunderCasksModel", name := "greatest", desc := "(II)I" } : Jvm.MethodName)) ∈ lw_all := lw_g (lw_at lw_m6 57 rfl) rfl
theorem q1358 : (Jvm.Cond.static ({ cls := "ThunderCasksModel", name := "greatest", desc := "(II)I" } : Jvm.MethodName)) ∈ lw_all := lw_g (lw_at lw_m6 58 rfl) rfl
theorem q1359 : (Jvm.Cond.code ({ cls := "ThunderCasksModel", name := "greatest", desc := "(II)I" } : Jvm.MethodName) prog_16_method_11_code (2 : Nat) (Option.some Jvm.ClassFile.FieldType.int)) ∈ lw_all := lw_g (lw_at lw_m6 59 rfl) rfl
theorem q1360 : (Jvm.Cond.methodLink "ThunderCasksModel" (83 : Nat) ({ cls := "ThunderCasksModel", name := "many", desc := "(I)I" } : Jvm.MethodName)) ∈ lw_all := lw_g (lw_at lw_m6 60 rfl) rfl
theorem q1361 : (Jvm.Cond.static ({ cls := "ThunderCasksModel", name := "many", desc := "(I)I" } : Jvm.MethodName)) ∈ lw_all := lw_g (lw_at lw_m6 61 rfl) rfl
theorem q1362 : (Jvm.Cond.code ({ cls := "ThunderCasksModel", name := "many", desc := "(I)I" } : Jvm.MethodName) prog_16_method_13_code (3 : Nat) (Option.some Jvm.ClassFile.FieldType.int)) ∈ lw_all := lw_g (lw_at lw_m6 62 rfl) rfl
theorem q1363 : (Jvm.Cond.methodLink "ThunderCasksModel" (92 : Nat) ({ cls := "ThunderCasksModel", name := "leaks", desc := "(I)I" } : Jvm.MethodName)) ∈ lw_all := lw_g (lw_at lw_m6 63 rfl) rfl
theorem q1364 : (Jvm.Cond.privateMethod ({ cls := "ThunderCasksModel", name := "leaks", desc := "(I)I" } : Jvm.MethodName)) ∈ lw_tbl := lw_at lw_m6 64 rfl
theorem q1365 : (Jvm.Cond.instanceMethod ({ cls := "ThunderCasksModel", name := "leaks", desc := "(I)I" } : Jvm.MethodName)) ∈ lw_all := lw_g (lw_at lw_m6 65 rfl) rfl
theorem q1366 : (Jvm.Cond.code ({ cls := "ThunderCasksModel", name := "leaks", desc := "(I)I" } : Jvm.MethodName) prog_16_method_22_code (2 : Nat) (Option.some Jvm.ClassFile.FieldType.int)) ∈ lw_all := lw_g (lw_at lw_m6 66 rfl) rfl
theorem q1367 : (Jvm.Cond.methodLink "ThunderCasksModel" (95 : Nat) ({ cls := "ThunderCasksModel", name := "bears", desc := "(I)I" } : Jvm.MethodName)) ∈ lw_all := lw_g (lw_at lw_m6 67 rfl) rfl
theorem q1368 : (Jvm.Cond.privateMethod ({ cls := "ThunderCasksModel", name := "bears", desc := "(I)I" } : Jvm.MethodName)) ∈ lw_tbl := lw_at lw_m6 68 rfl
theorem q1369 : (Jvm.Cond.instanceMethod ({ cls := "ThunderCasksModel", name := "bears", desc := "(I)I" } : Jvm.MethodName)) ∈ lw_all := lw_g (lw_at lw_m6 69 rfl) rfl
theorem q1370 : (Jvm.Cond.code ({ cls := "ThunderCasksModel", name := "bears", desc := "(I)I" } : Jvm.MethodName) prog_16_method_23_code (3 : Nat) (Option.some Jvm.ClassFile.FieldType.int)) ∈ lw_all := lw_g (lw_at lw_m6 70 rfl) rfl
theorem q1372 : (Jvm.Cond.instanceMethod ({ cls := "ThunderCasksModel", name := "change", desc := "(III)I" } : Jvm.MethodName)) ∈ lw_all := lw_g (lw_at lw_m6 72 rfl) rfl
theorem q1373 : (Jvm.Cond.selects "ThunderCasksModel" ({ cls := "ThunderCasksModel", name := "change", desc := "(III)I" } : Jvm.MethodName) ({ cls := "ThunderCasksModel", name := "change", desc := "(III)I" } : Jvm.MethodName)) ∈ lw_all := lw_g (lw_at lw_m6 73 rfl) rfl
theorem q1374 : (Jvm.Cond.code ({ cls := "ThunderCasksModel", name := "change", desc := "(III)I" } : Jvm.MethodName) prog_16_method_26_code (5 : Nat) (Option.some Jvm.ClassFile.FieldType.int)) ∈ lw_all := lw_g (lw_at lw_m6 74 rfl) rfl
theorem q1375 : (Jvm.Cond.methodLink "ThunderCasksModel" (98 : Nat) ({ cls := "ThunderCasksModel", name := "greatestOf", desc := "(I)I" } : Jvm.MethodName)) ∈ lw_all := lw_g (lw_at lw_m6 75 rfl) rfl
theorem q1376 : (Jvm.Cond.static ({ cls := "ThunderCasksModel", name := "greatestOf", desc := "(I)I" } : Jvm.MethodName)) ∈ lw_all := lw_g (lw_at lw_m6 76 rfl) rfl
theorem q1377 : (Jvm.Cond.code ({ cls := "ThunderCasksModel", name := "greatestOf", desc := "(I)I" } : Jvm.MethodName) prog_16_method_25_code (1 : Nat) (Option.some Jvm.ClassFile.FieldType.int)) ∈ lw_all := lw_g (lw_at lw_m6 77 rfl) rfl
theorem q1379 : (Jvm.Cond.instanceMethod ({ cls := "ThunderCasksModel", name := "sell", desc := "(I)I" } : Jvm.MethodName)) ∈ lw_all := lw_g (lw_at lw_m6 79 rfl) rfl
theorem q1380 : (Jvm.Cond.selects "ThunderCasksModel" ({ cls := "ThunderCasksModel", name := "sell", desc := "(I)I" } : Jvm.MethodName) ({ cls := "ThunderCasksModel", name := "sell", desc := "(I)I" } : Jvm.MethodName)) ∈ lw_all := lw_g (lw_at lw_m6 80 rfl) rfl
theorem q1381 : (Jvm.Cond.code ({ cls := "ThunderCasksModel", name := "sell", desc := "(I)I" } : Jvm.MethodName) prog_16_method_27_code (3 : Nat) (Option.some Jvm.ClassFile.FieldType.int)) ∈ lw_all := lw_g (lw_at lw_m6 81 rfl) rfl
theorem q1383 : (Jvm.Cond.instanceMethod ({ cls := "ThunderCasksModel", name := "go", desc := "(I)I" } : Jvm.MethodName)) ∈ lw_all := lw_g (lw_at lw_m6 83 rfl) rfl
theorem q1384 : (Jvm.Cond.selects "ThunderCasksModel" ({ cls := "ThunderCasksModel", name := "go", desc := "(I)I" } : Jvm.MethodName) ({ cls := "ThunderCasksModel", name := "go", desc := "(I)I" } : Jvm.MethodName)) ∈ lw_all := lw_g (lw_at lw_m6 84 rfl) rfl
theorem q1385 : (Jvm.Cond.code ({ cls := "ThunderCasksModel", name := "go", desc := "(I)I" } : Jvm.MethodName) prog_16_method_35_code (2 : Nat) (Option.some Jvm.ClassFile.FieldType.int)) ∈ lw_all := lw_g (lw_at lw_m6 85 rfl) rfl
theorem q1386 : (Jvm.Cond.constantLong "ThunderCasksModel" (122 : Nat) (60 : Int64)) ∈ lw_all := lw_g (lw_at lw_m6 86 rfl) rfl
theorem q1387 : (Jvm.Cond.constant "ThunderCasksModel" (107 : Nat) (99999 : Int32)) ∈ lw_all := lw_g (lw_at lw_m6 87 rfl) rfl
theorem q1388 : (Jvm.Cond.constant "ThunderCasksModel" (124 : Nat) (-1000005 : Int32)) ∈ lw_all := lw_g (lw_at lw_m6 88 rfl) rfl
theorem q1389 : (Jvm.Cond.methodLink "ThunderCasksModel" (125 : Nat) ({ cls := "ThunderCasksModel", name := "goes", desc := "(I)V" } : Jvm.MethodName)) ∈ lw_all := lw_g (lw_at lw_m6 89 rfl) rfl
theorem q1390 : (Jvm.Cond.privateMethod ({ cls := "ThunderCasksModel", name := "goes", desc := "(I)V" } : Jvm.MethodName)) ∈ lw_tbl := lw_at lw_m6 90 rfl
theorem q1391 : (Jvm.Cond.instanceMethod ({ cls := "ThunderCasksModel", name := "goes", desc := "(I)V" } : Jvm.MethodName)) ∈ lw_all := lw_g (lw_at lw_m6 91 rfl) rfl
theorem q1392 : (Jvm.Cond.code ({ cls := "ThunderCasksModel", name := "goes", desc := "(I)V" } : Jvm.MethodName) prog_16_method_33_code (3 : Nat) (Option.none : Option Jvm.ClassFile.FieldType)) ∈ lw_all := lw_g (lw_at lw_m6 92 rfl) rfl
theorem q1393 : (Jvm.Cond.methodLink "ThunderCasksModel" (119 : Nat) ({ cls := "ThunderCasksModel", name := "day", desc := "()V" } : Jvm.MethodName)) ∈ lw_all := lw_g (lw_at lw_m6 93 rfl) rfl
theorem q1394 : (Jvm.Cond.privateMethod ({ cls := "ThunderCasksModel", name := "day", desc := "()V" } : Jvm.MethodName)) ∈ lw_tbl := lw_at lw_m6 94 rfl
theorem q1395 : (Jvm.Cond.instanceMethod ({ cls := "ThunderCasksModel", name := "day", desc := "()V" } : Jvm.MethodName)) ∈ lw_all := lw_g (lw_at lw_m6 95 rfl) rfl
theorem q1396 : (Jvm.Cond.code ({ cls := "ThunderCasksModel", name := "day", desc := "()V" } : Jvm.MethodName) prog_16_method_32_code (5 : Nat) (Option.none : Option Jvm.ClassFile.FieldType)) ∈ lw_all := lw_g (lw_at lw_m6 96 rfl) rfl
theorem q1397 : (Jvm.Cond.methodLink "ThunderCasksModel" (104 : Nat) ({ cls := "ThunderCasksModel", name := "more", desc := "(II)V" } : Jvm.MethodName)) ∈ lw_all := lw_g (lw_at lw_m6 97 rfl) rfl
theorem q1398 : (Jvm.Cond.privateMethod ({ cls := "ThunderCasksModel", name := "more", desc := "(II)V" } : Jvm.MethodName)) ∈ lw_tbl := lw_at lw_m6 98 rfl
theorem q1399 : (Jvm.Cond.instanceMethod ({ cls := "ThunderCasksModel", name := "more", desc := "(II)V" } : Jvm.MethodName)) ∈ lw_all := lw_g (lw_at lw_m6 99 rfl) rfl
theorem q1400 : (Jvm.Cond.code ({ cls := "ThunderCasksModel", name := "more", desc := "(II)V" } : Jvm.MethodName) prog_16_method_28_code (3 : Nat) (Option.none : Option Jvm.ClassFile.FieldType)) ∈ lw_all := lw_g (lw_at lw_m6 100 rfl) rfl
theorem q1401 : (Jvm.Cond.methodLink "ThunderCasksModel" (101 : Nat) ({ cls := "ThunderCasksModel", name := "least", desc := "(II)I" } : Jvm.MethodName)) ∈ lw_all := lw_g (lw_at lw_m6 101 rfl) rfl
theorem q1402 : (Jvm.Cond.static ({ cls := "ThunderCasksModel", name := "least", desc := "(II)I" } : Jvm.MethodName)) ∈ lw_all := lw_g (lw_at lw_m6 102 rfl) rfl
theorem q1403 : (Jvm.Cond.code ({ cls := "ThunderCasksModel", name := "least", desc := "(II)I" } : Jvm.MethodName) prog_16_method_10_code (2 : Nat) (Option.some Jvm.ClassFile.FieldType.int)) ∈ lw_all := lw_g (lw_at lw_m6 103 rfl) rfl
theorem q1404 : (Jvm.Cond.methodLink "ThunderCasksModel" (108 : Nat) ({ cls := "ThunderCasksModel", name := "cancel", desc := "(II)V" } : Jvm.MethodName)) ∈ lw_all := lw_g (lw_at lw_m6 104 rfl) rfl
theorem q1405 : (Jvm.Cond.privateMethod ({ cls := "ThunderCasksModel", name := "cancel", desc := "(II)V" } : Jvm.MethodName)) ∈ lw_tbl := lw_at lw_m6 105 rfl
theorem q1406 : (Jvm.Cond.instanceMethod ({ cls := "ThunderCasksModel", name := "cancel", desc := "(II)V" } : Jvm.MethodName)) ∈ lw_all := lw_g (lw_at lw_m6 106 rfl) rfl
theorem q1407 : (Jvm.Cond.code ({ cls := "ThunderCasksModel", name := "cancel", desc := "(II)V" } : Jvm.MethodName) prog_16_method_29_code (4 : Nat) (Option.none : Option Jvm.ClassFile.FieldType)) ∈ lw_all := lw_g (lw_at lw_m6 107 rfl) rfl
theorem q1408 : (Jvm.Cond.methodLink "ThunderCasksModel" (111 : Nat) ({ cls := "ThunderCasksModel", name := "strained", desc := "()I" } : Jvm.MethodName)) ∈ lw_all := lw_g (lw_at lw_m6 108 rfl) rfl
theorem q1409 : (Jvm.Cond.privateMethod ({ cls := "ThunderCasksModel", name := "strained", desc := "()I" } : Jvm.MethodName)) ∈ lw_tbl := lw_at lw_m6 109 rfl
theorem q1410 : (Jvm.Cond.instanceMethod ({ cls := "ThunderCasksModel", name := "strained", desc := "()I" } : Jvm.MethodName)) ∈ lw_all := lw_g (lw_at lw_m6 110 rfl) rfl
theorem q1411 : (Jvm.Cond.code ({ cls := "ThunderCasksModel", name := "strained", desc := "()I" } : Jvm.MethodName) prog_16_method_30_code (2 : Nat) (Option.some Jvm.ClassFile.FieldType.int)) ∈ lw_all := lw_g (lw_at lw_m6 111 rfl) rfl
theorem q1412 : (Jvm.Cond.methodLink "ThunderCasksModel" (115 : Nat) ({ cls := "ThunderCasksModel", name := "burst", desc := "(I)V" } : Jvm.MethodName)) ∈ lw_all := lw_g (lw_at lw_m6 112 rfl) rfl
theorem q1413 : (Jvm.Cond.privateMethod ({ cls := "ThunderCasksModel", name := "burst", desc := "(I)V" } : Jvm.MethodName)) ∈ lw_tbl := lw_at lw_m6 113 rfl
theorem q1414 : (Jvm.Cond.instanceMethod ({ cls := "ThunderCasksModel", name := "burst", desc := "(I)V" } : Jvm.MethodName)) ∈ lw_all := lw_g (lw_at lw_m6 114 rfl) rfl
theorem q1415 : (Jvm.Cond.code ({ cls := "ThunderCasksModel", name := "burst", desc := "(I)V" } : Jvm.MethodName) prog_16_method_31_code (4 : Nat) (Option.none : Option Jvm.ClassFile.FieldType)) ∈ lw_all := lw_g (lw_at lw_m6 115 rfl) rfl
theorem q1417 : (Jvm.Cond.instanceMethod ({ cls := "ThunderCasksModel", name := "now", desc := "(I)I" } : Jvm.MethodName)) ∈ lw_all := lw_g (lw_at lw_m6 117 rfl) rfl
theorem q1418 : (Jvm.Cond.selects "ThunderCasksModel" ({ cls := "ThunderCasksModel", name := "now", desc := "(I)I" } : Jvm.MethodName) ({ cls := "ThunderCasksModel", name := "now", desc := "(I)I" } : Jvm.MethodName)) ∈ lw_all := lw_g (lw_at lw_m6 118 rfl) rfl
theorem q1419 : (Jvm.Cond.code ({ cls := "ThunderCasksModel", name := "now", desc := "(I)I" } : Jvm.MethodName) prog_16_method_39_code (2 : Nat) (Option.some Jvm.ClassFile.FieldType.int)) ∈ lw_all := lw_g (lw_at lw_m6 119 rfl) rfl
theorem q1420 : (Jvm.Cond.methodLink "ThunderCasksModel" (128 : Nat) ({ cls := "ThunderCasksModel", name := "sumOf", desc := "(I)I" } : Jvm.MethodName)) ∈ lw_all := lw_g (lw_at lw_m6 120 rfl) rfl
theorem q1421 : (Jvm.Cond.privateMethod ({ cls := "ThunderCasksModel", name := "sumOf", desc := "(I)I" } : Jvm.MethodName)) ∈ lw_tbl := lw_at lw_m6 121 rfl
theorem q1422 : (Jvm.Cond.instanceMethod ({ cls := "ThunderCasksModel", name := "sumOf", desc := "(I)I" } : Jvm.MethodName)) ∈ lw_all := lw_g (lw_at lw_m6 122 rfl) rfl
theorem q1423 : (Jvm.Cond.code ({ cls := "ThunderCasksModel", name := "sumOf", desc := "(I)I" } : Jvm.MethodName) prog_16_method_34_code (4 : Nat) (Option.some Jvm.ClassFile.FieldType.int)) ∈ lw_all := lw_g (lw_at lw_m6 123 rfl) rfl
theorem q1424 : (Jvm.Cond.methodLink "ThunderCasksModel" (131 : Nat) ({ cls := "ThunderCasksModel", name := "strainedOnes", desc := "()I" } : Jvm.MethodName)) ∈ lw_all := lw_g (lw_at lw_m6 124 rfl) rfl
theorem q1425 : (Jvm.Cond.privateMethod ({ cls := "ThunderCasksModel", name := "strainedOnes", desc := "()I" } : Jvm.MethodName)) ∈ lw_tbl := lw_at lw_m6 125 rfl
theorem q1426 : (Jvm.Cond.instanceMethod ({ cls := "ThunderCasksModel", name := "strainedOnes", desc := "()I" } : Jvm.MethodName)) ∈ lw_all := lw_g (lw_at lw_m6 126 rfl) rfl
theorem q1427 : (Jvm.Cond.code ({ cls := "ThunderCasksModel", name := "strainedOnes", desc := "()I" } : Jvm.MethodName) prog_16_method_36_code (3 : Nat) (Option.some Jvm.ClassFile.FieldType.int)) ∈ lw_all := lw_g (lw_at lw_m6 127 rfl) rfl
theorem q1428 : (Jvm.Cond.methodLink "ThunderCasksModel" (134 : Nat) ({ cls := "ThunderCasksModel", name := "loudest", desc := "()I" } : Jvm.MethodName)) ∈ lw_all := lw_g (lw_at lw_m6 128 rfl) rfl
theorem q1429 : (Jvm.Cond.privateMethod ({ cls := "ThunderCasksModel", name := "loudest", desc := "()I" } : Jvm.MethodName)) ∈ lw_tbl := lw_at lw_m6 129 rfl
theorem q1430 : (Jvm.Cond.instanceMethod ({ cls := "ThunderCasksModel", name := "loudest", desc := "()I" } : Jvm.MethodName)) ∈ lw_all := lw_g (lw_at lw_m6 130 rfl) rfl
theorem q1431 : (Jvm.Cond.code ({ cls := "ThunderCasksModel", name := "loudest", desc := "()I" } : Jvm.MethodName) prog_16_method_37_code (3 : Nat) (Option.some Jvm.ClassFile.FieldType.int)) ∈ lw_all := lw_g (lw_at lw_m6 131 rfl) rfl
theorem q1432 : (Jvm.Cond.methodLink "ThunderCasksModel" (137 : Nat) ({ cls := "ThunderCasksModel", name := "usedOnes", desc := "()I" } : Jvm.MethodName)) ∈ lw_all := lw_g (lw_at lw_m6 132 rfl) rfl
theorem q1433 : (Jvm.Cond.privateMethod ({ cls := "ThunderCasksModel", name := "usedOnes", desc := "()I" } : Jvm.MethodName)) ∈ lw_tbl := lw_at lw_m6 133 rfl
theorem q1434 : (Jvm.Cond.instanceMethod ({ cls := "ThunderCasksModel", name := "usedOnes", desc := "()I" } : Jvm.MethodName)) ∈ lw_all := lw_g (lw_at lw_m6 134 rfl) rfl
theorem q1435 : (Jvm.Cond.code ({ cls := "ThunderCasksModel", name := "usedOnes", desc := "()I" } : Jvm.MethodName) prog_16_method_38_code (3 : Nat) (Option.some Jvm.ClassFile.FieldType.int)) ∈ lw_all := lw_g (lw_at lw_m6 135 rfl) rfl
theorem q1437 : (Jvm.Cond.instanceMethod ({ cls := "ThunderCasksModel", name := "ahead", desc := "(III)I" } : Jvm.MethodName)) ∈ lw_all := lw_g (lw_at lw_m6 137 rfl) rfl
theorem q1438 : (Jvm.Cond.selects "ThunderCasksModel" ({ cls := "ThunderCasksModel", name := "ahead", desc := "(III)I" } : Jvm.MethodName) ({ cls := "ThunderCasksModel", name := "ahead", desc := "(III)I" } : Jvm.MethodName)) ∈ lw_all := lw_g (lw_at lw_m6 138 rfl) rfl
theorem q1439 : (Jvm.Cond.code ({ cls := "ThunderCasksModel", name := "ahead", desc := "(III)I" } : Jvm.MethodName) prog_16_method_42_code (5 : Nat) (Option.some Jvm.ClassFile.FieldType.int)) ∈ lw_all := lw_g (lw_at lw_m6 139 rfl) rfl
theorem q1440 : (Jvm.Cond.constantLong "ThunderCasksModel" (144 : Nat) (5 : Int64)) ∈ lw_all := lw_g (lw_at lw_m6 140 rfl) rfl
theorem q1441 : (Jvm.Cond.constantLong "ThunderCasksModel" (146 : Nat) (7 : Int64)) ∈ lw_all := lw_g (lw_at lw_m6 141 rfl) rfl
theorem q1442 : (Jvm.Cond.constantLong "ThunderCasksModel" (148 : Nat) (100 : Int64)) ∈ lw_all := lw_g (lw_at lw_m6 142 rfl) rfl
theorem q1443 : (Jvm.Cond.methodLink "ThunderCasksModel" (150 : Nat) ({ cls := "ThunderCasksModel", name := "then", desc := "(III)I" } : Jvm.MethodName)) ∈ lw_all := lw_g (lw_at lw_m6 143 rfl) rfl
theorem q1444 : (Jvm.Cond.privateMethod ({ cls := "ThunderCasksModel", name := "then", desc := "(III)I" } : Jvm.MethodName)) ∈ lw_tbl := lw_at lw_m6 144 rfl
theorem q1445 : (Jvm.Cond.instanceMethod ({ cls := "ThunderCasksModel", name := "then", desc := "(III)I" } : Jvm.MethodName)) ∈ lw_all := lw_g (lw_at lw_m6 145 rfl) rfl
theorem q1446 : (Jvm.Cond.code ({ cls := "ThunderCasksModel", name := "then", desc := "(III)I" } : Jvm.MethodName) prog_16_method_40_code (5 : Nat) (Option.some Jvm.ClassFile.FieldType.int)) ∈ lw_all := lw_g (lw_at lw_m6 146 rfl) rfl
theorem q1447 : (Jvm.Cond.methodLink "ThunderCasksModel" (140 : Nat) ({ cls := "ThunderCasksModel", name := "copyRow", desc := "([I[I)V" } : Jvm.MethodName)) ∈ lw_all := lw_g (lw_at lw_m6 147 rfl) rfl
theorem q1448 : (Jvm.Cond.static ({ cls := "ThunderCasksModel", name := "copyRow", desc := "([I[I)V" } : Jvm.MethodName)) ∈ lw_all := lw_g (lw_at lw_m6 148 rfl) rfl
theorem q1449 : (Jvm.Cond.code ({ cls := "ThunderCasksModel", name := "copyRow", desc := "([I[I)V" } : Jvm.MethodName) prog_16_method_5_code (3 : Nat) (Option.none : Option Jvm.ClassFile.FieldType)) ∈ lw_all := lw_g (lw_at lw_m6 149 rfl) rfl
theorem q1451 : (Jvm.Cond.instanceMethod ({ cls := "ThunderCasksModel", name := "claps", desc := "(I)I" } : Jvm.MethodName)) ∈ lw_all := lw_g (lw_at lw_m6 151 rfl) rfl
theorem q1452 : (Jvm.Cond.selects "ThunderCasksModel" ({ cls := "ThunderCasksModel", name := "claps", desc := "(I)I" } : Jvm.MethodName) ({ cls := "ThunderCasksModel", name := "claps", desc := "(I)I" } : Jvm.MethodName)) ∈ lw_all := lw_g (lw_at lw_m6 152 rfl) rfl
theorem q1453 : (Jvm.Cond.code ({ cls := "ThunderCasksModel", name := "claps", desc := "(I)I" } : Jvm.MethodName) prog_16_method_43_code (2 : Nat) (Option.some Jvm.ClassFile.FieldType.int)) ∈ lw_all := lw_g (lw_at lw_m6 153 rfl) rfl
theorem q1454 : (Jvm.Cond.methodLink "ThunderCasksModel" (154 : Nat) ({ cls := "ThunderCasksModel", name := "clapsThen", desc := "(I)I" } : Jvm.MethodName)) ∈ lw_all := lw_g (lw_at lw_m6 154 rfl) rfl
theorem q1455 : (Jvm.Cond.privateMethod ({ cls := "ThunderCasksModel", name := "clapsThen", desc := "(I)I" } : Jvm.MethodName)) ∈ lw_tbl := lw_at lw_m6 155 rfl
theorem q1456 : (Jvm.Cond.instanceMethod ({ cls := "ThunderCasksModel", name := "clapsThen", desc := "(I)I" } : Jvm.MethodName)) ∈ lw_all := lw_g (lw_at lw_m6 156 rfl) rfl
theorem q1457 : (Jvm.Cond.code ({ cls := "ThunderCasksModel", name := "clapsThen", desc := "(I)I" } : Jvm.MethodName) prog_16_method_41_code (3 : Nat) (Option.some Jvm.ClassFile.FieldType.int)) ∈ lw_all := lw_g (lw_at lw_m6 157 rfl) rfl
theorem q1459 : (Jvm.Cond.instanceMethod ({ cls := "ThunderCasksModel", name := "bursts", desc := "(I)I" } : Jvm.MethodName)) ∈ lw_all := lw_g (lw_at lw_m6 159 rfl) rfl
theorem q1460 : (Jvm.Cond.selects "ThunderCasksModel" ({ cls := "ThunderCasksModel", name := "bursts", desc := "(I)I" } : Jvm.MethodName) ({ cls := "ThunderCasksModel", name := "bursts", desc := "(I)I" } : Jvm.MethodName)) ∈ lw_all := lw_g (lw_at lw_m6 160 rfl) rfl
theorem q1461 : (Jvm.Cond.code ({ cls := "ThunderCasksModel", name := "bursts", desc := "(I)I" } : Jvm.MethodName) prog_16_method_44_code (4 : Nat) (Option.some Jvm.ClassFile.FieldType.int)) ∈ lw_all := lw_g (lw_at lw_m6 161 rfl) rfl
theorem q1462 : (Jvm.Cond.constant "ThunderCasksModel" (38 : Nat) (-1000004 : Int32)) ∈ lw_all := lw_g (lw_at lw_m6 162 rfl) rfl
theorem q1464 : (Jvm.Cond.instanceMethod ({ cls := "ThunderCasksModel", name := "when", desc := "(II)I" } : Jvm.MethodName)) ∈ lw_all := lw_g (lw_at lw_m6 164 rfl) rfl
theorem q1465 : (Jvm.Cond.selects "ThunderCasksModel" ({ cls := "ThunderCasksModel", name := "when", desc := "(II)I" } : Jvm.MethodName) ({ cls := "ThunderCasksModel", name := "when", desc := "(II)I" } : Jvm.MethodName)) ∈ lw_all := lw_g (lw_at lw_m6 165 rfl) rfl
theorem q1466 : (Jvm.Cond.code ({ cls := "ThunderCasksModel", name := "when", desc := "(II)I" } : Jvm.MethodName) prog_16_method_45_code (4 : Nat) (Option.some Jvm.ClassFile.FieldType.int)) ∈ lw_all := lw_g (lw_at lw_m6 166 rfl) rfl
theorem q1467 : (Jvm.Cond.constantLong "ThunderCasksModel" (157 : Nat) (2000 : Int64)) ∈ lw_all := lw_g (lw_at lw_m6 167 rfl) rfl
theorem q1469 : (Jvm.Cond.instanceMethod ({ cls := "ThunderCasksModel", name := "chain", desc := "(I)I" } : Jvm.MethodName)) ∈ lw_all := lw_g (lw_at lw_m6 169 rfl) rfl
theorem q1470 : (Jvm.Cond.selects "ThunderCasksModel" ({ cls := "ThunderCasksModel", name := "chain", desc := "(I)I" } : Jvm.MethodName) ({ cls := "ThunderCasksModel", name := "chain", desc := "(I)I" } : Jvm.MethodName)) ∈ lw_all := lw_g (lw_at lw_m6 170 rfl) rfl
theorem q1471 : (Jvm.Cond.code ({ cls := "ThunderCasksModel", name := "chain", desc := "(I)I" } : Jvm.MethodName) prog_16_method_46_code (4 : Nat) (Option.some Jvm.ClassFile.FieldType.int)) ∈ lw_all := lw_g (lw_at lw_m6 171 rfl) rfl
theorem q1473 : (Jvm.Cond.instanceMethod ({ cls := "ThunderCasksModel", name := "lay", desc := "(II)I" } : Jvm.MethodName)) ∈ lw_all := lw_g (lw_at lw_m6 173 rfl) rfl
theorem q1474 : (Jvm.Cond.selects "ThunderCasksModel" ({ cls := "ThunderCasksModel", name := "lay", desc := "(II)I" } : Jvm.MethodName) ({ cls := "ThunderCasksModel", name := "lay", desc := "(II)I" } : Jvm.MethodName)) ∈ lw_all := lw_g (lw_at lw_m6 174 rfl) rfl
theorem q1475 : (Jvm.Cond.code ({ cls := "ThunderCasksModel", name := "lay", desc := "(II)I" } : Jvm.MethodName) prog_16_method_49_code (3 : Nat) (Option.some Jvm.ClassFile.FieldType.int)) ∈ lw_all := lw_g (lw_at lw_m6 175 rfl) rfl
theorem q1476 : (Jvm.Cond.methodLink "ThunderCasksModel" (161 : Nat) ({ cls := "ThunderCasksModel", name := "isAsked", desc := "(II)Z" } : Jvm.MethodName)) ∈ lw_all := lw_g (lw_at lw_m6 176 rfl) rfl
theorem q1477 : (Jvm.Cond.privateMethod ({ cls := "ThunderCasksModel", name := "isAsked", desc := "(II)Z" } : Jvm.MethodName)) ∈ lw_tbl := lw_at lw_m6 177 rfl
theorem q1478 : (Jvm.Cond.instanceMethod ({ cls := "ThunderCasksModel", name := "isAsked", desc := "(II)Z" } : Jvm.MethodName)) ∈ lw_all := lw_g (lw_at lw_m6 178 rfl) rfl
theorem q1479 : (Jvm.Cond.code ({ cls := "ThunderCasksModel", name := "isAsked", desc := "(II)Z" } : Jvm.MethodName) prog_16_method_47_code (3 : Nat) (Option.some Jvm.ClassFile.FieldType.boolean)) ∈ lw_all := lw_g (lw_at lw_m6 179 rfl) rfl
theorem q1480 : (Jvm.Cond.constantLong "ThunderCasksModel" (159 : Nat) (40 : Int64)) ∈ lw_all := lw_g (lw_at lw_m6 180 rfl) rfl
theorem q1481 : (Jvm.Cond.methodLink "ThunderCasksModel" (165 : Nat) ({ cls := "ThunderCasksModel", name := "loudestBy", desc := "(III)I" } : Jvm.MethodName)) ∈ lw_all := lw_g (lw_at lw_m6 181 rfl) rfl
theorem q1482 : (Jvm.Cond.privateMethod ({ cls := "ThunderCasksModel", name := "loudestBy", desc := "(III)I" } : Jvm.MethodName)) ∈ lw_tbl := lw_at lw_m6 182 rfl
theorem q1483 : (Jvm.Cond.instanceMethod ({ cls := "ThunderCasksModel", name := "loudestBy", desc := "(III)I" } : Jvm.MethodName)) ∈ lw_all := lw_g (lw_at lw_m6 183 rfl) rfl
theorem q1484 : (Jvm.Cond.code ({ cls := "ThunderCasksModel", name := "loudestBy", desc := "(III)I" } : Jvm.MethodName) prog_16_method_48_code (9 : Nat) (Option.some Jvm.ClassFile.FieldType.int)) ∈ lw_all := lw_g (lw_at lw_m6 184 rfl) rfl
theorem q1486 : (Jvm.Cond.instanceMethod ({ cls := "ThunderCasksModel", name := "kindFor", desc := "(II)I" } : Jvm.MethodName)) ∈ lw_all := lw_g (lw_at lw_m6 186 rfl) rfl
theorem q1487 : (Jvm.Cond.selects "ThunderCasksModel" ({ cls := "ThunderCasksModel", name := "kindFor", desc := "(II)I" } : Jvm.MethodName) ({ cls := "ThunderCasksModel", name := "kindFor", desc := "(II)I" } : Jvm.MethodName)) ∈ lw_all := lw_g (lw_at lw_m6 187 rfl) rfl
theorem q1488 : (Jvm.Cond.code ({ cls := "ThunderCasksModel", name := "kindFor", desc := "(II)I" } : Jvm.MethodName) prog_16_method_50_code (3 : Nat) (Option.some Jvm.ClassFile.FieldType.int)) ∈ lw_all := lw_g (lw_at lw_m6 188 rfl) rfl
theorem q1490 : (Jvm.Cond.instanceMethod ({ cls := "ThunderCasksModel", name := "pitchFor", desc := "(II)I" } : Jvm.MethodName)) ∈ lw_all := lw_g (lw_at lw_m6 190 rfl) rfl
theorem q1491 : (Jvm.Cond.selects "ThunderCasksModel" ({ cls := "ThunderCasksModel", name := "pitchFor", desc := "(II)I" } : Jvm.MethodName) ({ cls := "ThunderCasksModel", name := "pitchFor", desc := "(II)I" } : Jvm.MethodName)) ∈ lw_all := lw_g (lw_at lw_m6 191 rfl) rfl
theorem q1492 : (Jvm.Cond.code ({ cls := "ThunderCasksModel", name := "pitchFor", desc := "(II)I" } : Jvm.MethodName) prog_16_method_51_code (3 : Nat) (Option.some Jvm.ClassFile.FieldType.int)) ∈ lw_all := lw_g (lw_at lw_m6 192 rfl) rfl
theorem q1494 : (Jvm.Cond.instanceMethod ({ cls := "ThunderCasksModel", name := "hoopsFor", desc := "(II)I" } : Jvm.MethodName)) ∈ lw_all := lw_g (lw_at lw_m6 194 rfl) rfl
theorem q1495 : (Jvm.Cond.selects "ThunderCasksModel" ({ cls := "ThunderCasksModel", name := "hoopsFor", desc := "(II)I" } : Jvm.MethodName) ({ cls := "ThunderCasksModel", name := "hoopsFor", desc := "(II)I" } : Jvm.MethodName)) ∈ lw_all := lw_g (lw_at lw_m6 195 rfl) rfl
theorem q1496 : (Jvm.Cond.code ({ cls := "ThunderCasksModel", name := "hoopsFor", desc := "(II)I" } : Jvm.MethodName) prog_16_method_52_code (6 : Nat) (Option.some Jvm.ClassFile.FieldType.int)) ∈ lw_all := lw_g (lw_at lw_m6 196 rfl) rfl
theorem q1497 : (Jvm.Cond.constantLong "ThunderCasksModel" (168 : Nat) (20 : Int64)) ∈ lw_all := lw_g (lw_at lw_m6 197 rfl) rfl
theorem q1498 : (Jvm.Cond.methodLink "ThunderCasksModel" (170 : Nat) ({ cls := "ThunderCasksModel", name := "orNone", desc := "(I)I" } : Jvm.MethodName)) ∈ lw_all := lw_g (lw_at lw_m6 198 rfl) rfl
theorem q1499 : (Jvm.Cond.privateMethod ({ cls := "ThunderCasksModel", name := "orNone", desc := "(I)I" } : Jvm.MethodName)) ∈ lw_tbl := lw_at lw_m6 199 rfl
theorem q1500 : (Jvm.Cond.instanceMethod ({ cls := "ThunderCasksModel", name := "orNone", desc := "(I)I" } : Jvm.MethodName)) ∈ lw_all := lw_g (lw_at lw_m6 200 rfl) rfl
theorem q1501 : (Jvm.Cond.code ({ cls := "ThunderCasksModel", name := "orNone", desc := "(I)I" } : Jvm.MethodName) prog_16_method_12_code (2 : Nat) (Option.some Jvm.ClassFile.FieldType.int)) ∈ lw_all := lw_g (lw_at lw_m6 201 rfl) rfl
theorem q1503 : (Jvm.Cond.instanceMethod ({ cls := "ThunderCasksModel", name := "frostFor", desc := "(II)I" } : Jvm.MethodName)) ∈ lw_all := lw_g (lw_at lw_m6 203 rfl) rfl
theorem q1504 : (Jvm.Cond.selects "ThunderCasksModel" ({ cls := "ThunderCasksModel", name := "frostFor", desc := "(II)I" } : Jvm.MethodName) ({ cls := "ThunderCasksModel", name := "frostFor", desc := "(II)I" } : Jvm.MethodName)) ∈ lw_all := lw_g (lw_at lw_m6 204 rfl) rfl
theorem q1505 : (Jvm.Cond.code ({ cls := "ThunderCasksModel", name := "frostFor", desc := "(II)I" } : Jvm.MethodName) prog_16_method_53_code (6 : Nat) (Option.some Jvm.ClassFile.FieldType.int)) ∈ lw_all := lw_g (lw_at lw_m6 205 rfl) rfl
theorem q1507 : (Jvm.Cond.instanceMethod ({ cls := "ThunderCasksModel", name := "empty", desc := "(I)I" } : Jvm.MethodName)) ∈ lw_all := lw_g (lw_at lw_m6 207 rfl) rfl
theorem q1508 : (Jvm.Cond.selects "ThunderCasksModel" ({ cls := "ThunderCasksModel", name := "empty", desc := "(I)I" } : Jvm.MethodName) ({ cls := "ThunderCasksModel", name := "empty", desc := "(I)I" } : Jvm.MethodName)) ∈ lw_all := lw_g (lw_at lw_m6 208 rfl) rfl
theorem q1509 : (Jvm.Cond.code ({ cls := "ThunderCasksModel", name := "empty", desc := "(I)I" } : Jvm.MethodName) prog_16_method_54_code (6 : Nat) (Option.some Jvm.ClassFile.FieldType.int)) ∈ lw_all := lw_g (lw_at lw_m6 209 rfl) rfl
theorem q1510 : (Jvm.Cond.constantLong "ThunderCasksModel" (173 : Nat) (12 : Int64)) ∈ lw_all := lw_g (lw_at lw_m6 210 rfl) rfl
theorem q1512 : (Jvm.Cond.instanceMethod ({ cls := "ThunderCasksModel", name := "blend", desc := "(I)I" } : Jvm.MethodName)) ∈ lw_all := lw_g (lw_at lw_m6 212 rfl) rfl
theorem q1513 : (Jvm.Cond.selects "ThunderCasksModel" ({ cls := "ThunderCasksModel", name := "blend", desc := "(I)I" } : Jvm.MethodName) ({ cls := "ThunderCasksModel", name := "blend", desc := "(I)I" } : Jvm.MethodName)) ∈ lw_all := lw_g (lw_at lw_m6 213 rfl) rfl
theorem q1514 : (Jvm.Cond.code ({ cls := "ThunderCasksModel", name := "blend", desc := "(I)I" } : Jvm.MethodName) prog_16_method_56_code (2 : Nat) (Option.some Jvm.ClassFile.FieldType.int)) ∈ lw_all := lw_g (lw_at lw_m6 214 rfl) rfl
theorem q1515 : (Jvm.Cond.methodLink "ThunderCasksModel" (175 : Nat) ({ cls := "ThunderCasksModel", name := "blendOf", desc := "(I)I" } : Jvm.MethodName)) ∈ lw_all := lw_g (lw_at lw_m6 215 rfl) rfl
theorem q1516 : (Jvm.Cond.privateMethod ({ cls := "ThunderCasksModel", name := "blendOf", desc := "(I)I" } : Jvm.MethodName)) ∈ lw_tbl := lw_at lw_m6 216 rfl
theorem q1517 : (Jvm.Cond.instanceMethod ({ cls := "ThunderCasksModel", name := "blendOf", desc := "(I)I" } : Jvm.MethodName)) ∈ lw_all := lw_g (lw_at lw_m6 217 rfl) rfl
theorem q1518 : (Jvm.Cond.code ({ cls := "ThunderCasksModel", name := "blendOf", desc := "(I)I" } : Jvm.MethodName) prog_16_method_55_code (4 : Nat) (Option.some Jvm.ClassFile.FieldType.int)) ∈ lw_all := lw_g (lw_at lw_m6 218 rfl) rfl
theorem q1520 : (Jvm.Cond.instanceMethod ({ cls := "ThunderCasksModel", name := "order", desc := "(I)I" } : Jvm.MethodName)) ∈ lw_all := lw_g (lw_at lw_m6 220 rfl) rfl
theorem q1521 : (Jvm.Cond.selects "ThunderCasksModel" ({ cls := "ThunderCasksModel", name := "order", desc := "(I)I" } : Jvm.MethodName) ({ cls := "ThunderCasksModel", name := "order", desc := "(I)I" } : Jvm.MethodName)) ∈ lw_all := lw_g (lw_at lw_m6 221 rfl) rfl
theorem q1522 : (Jvm.Cond.code ({ cls := "ThunderCasksModel", name := "order", desc := "(I)I" } : Jvm.MethodName) prog_16_method_57_code (4 : Nat) (Option.some Jvm.ClassFile.FieldType.int)) ∈ lw_all := lw_g (lw_at lw_m6 222 rfl) rfl
theorem q1523 : (Jvm.Cond.constantLong "ThunderCasksModel" (178 : Nat) (9999 : Int64)) ∈ lw_all := lw_g (lw_at lw_m6 223 rfl) rfl
theorem q1525 : (Jvm.Cond.instanceMethod ({ cls := "ThunderCasksModel", name := "blends", desc := "(II)I" } : Jvm.MethodName)) ∈ lw_all := lw_g (lw_at lw_m6 225 rfl) rfl
theorem q1526 : (Jvm.Cond.selects "ThunderCasksModel" ({ cls := "ThunderCasksModel", name := "blends", desc := "(II)I" } : Jvm.MethodName) ({ cls := "ThunderCasksModel", name := "blends", desc := "(II)I" } : Jvm.MethodName)) ∈ lw_all := lw_g (lw_at lw_m6 226 rfl) rfl
theorem q1527 : (Jvm.Cond.code ({ cls := "ThunderCasksModel", name := "blends", desc := "(II)I" } : Jvm.MethodName) prog_16_method_58_code (5 : Nat) (Option.some Jvm.ClassFile.FieldType.int)) ∈ lw_all := lw_g (lw_at lw_m6 227 rfl) rfl
theorem q1529 : (Jvm.Cond.instanceMethod ({ cls := "ThunderCasksModel", name := "fits", desc := "(II)I" } : Jvm.MethodName)) ∈ lw_all := lw_g (lw_at lw_m6 229 rfl) rfl
theorem q1530 : (Jvm.Cond.selects "ThunderCasksModel" ({ cls := "ThunderCasksModel", name := "fits", desc := "(II)I" } : Jvm.MethodName) ({ cls := "ThunderCasksModel", name := "fits", desc := "(II)I" } : Jvm.MethodName)) ∈ lw_all := lw_g (lw_at lw_m6 230 rfl) rfl
theorem q1531 : (Jvm.Cond.code ({ cls := "ThunderCasksModel", name := "fits", desc := "(II)I" } : Jvm.MethodName) prog_16_method_62_code (4 : Nat) (Option.some Jvm.ClassFile.FieldType.int)) ∈ lw_all := lw_g (lw_at lw_m6 231 rfl) rfl
theorem q1532 : (Jvm.Cond.methodLink "ThunderCasksModel" (193 : Nat) ({ cls := "ThunderCasksModel", name := "wantsFor", desc := "(II)I" } : Jvm.MethodName)) ∈ lw_all := lw_g (lw_at lw_m6 232 rfl) rfl
theorem q1533 : (Jvm.Cond.privateMethod ({ cls := "ThunderCasksModel", name := "wantsFor", desc := "(II)I" } : Jvm.MethodName)) ∈ lw_tbl := lw_at lw_m6 233 rfl
theorem q1534 : (Jvm.Cond.instanceMethod ({ cls := "ThunderCasksModel", name := "wantsFor", desc := "(II)I" } : Jvm.MethodName)) ∈ lw_all := lw_g (lw_at lw_m6 234 rfl) rfl
theorem q1535 : (Jvm.Cond.code ({ cls := "ThunderCasksModel", name := "wantsFor", desc := "(II)I" } : Jvm.MethodName) prog_16_method_61_code (3 : Nat) (Option.some Jvm.ClassFile.FieldType.int)) ∈ lw_all := lw_g (lw_at lw_m6 235 rfl) rfl
theorem q1536 : (Jvm.Cond.methodLink "ThunderCasksModel" (190 : Nat) ({ cls := "ThunderCasksModel", name := "wants", desc := "(I)I" } : Jvm.MethodName)) ∈ lw_all := lw_g (lw_at lw_m6 236 rfl) rfl
theorem q1537 : (Jvm.Cond.privateMethod ({ cls := "ThunderCasksModel", name := "wants", desc := "(I)I" } : Jvm.MethodName)) ∈ lw_tbl := lw_at lw_m6 237 rfl
theorem q1538 : (Jvm.Cond.instanceMethod ({ cls := "ThunderCasksModel", name := "wants", desc := "(I)I" } : Jvm.MethodName)) ∈ lw_all := lw_g (lw_at lw_m6 238 rfl) rfl
theorem q1539 : (Jvm.Cond.code ({ cls := "ThunderCasksModel", name := "wants", desc := "(I)I" } : Jvm.MethodName) prog_16_method_95_code (2 : Nat) (Option.some Jvm.ClassFile.FieldType.int)) ∈ lw_all := lw_g (lw_at lw_m6 239 rfl) rfl
theorem q1540 : (Jvm.Cond.methodLink "ThunderCasksModel" (283 : Nat) ({ cls := "ThunderCasksModel", name := "isSheet", desc := "(I)Z" } : Jvm.MethodName)) ∈ lw_all := lw_g (lw_at lw_m7 0 rfl) rfl
theorem q1541 : (Jvm.Cond.static ({ cls := "ThunderCasksModel", name := "isSheet", desc := "(I)Z" } : Jvm.MethodName)) ∈ lw_all := lw_g (lw_at lw_m7 1 rfl) rfl
theorem q1542 : (Jvm.Cond.code ({ cls := "ThunderCasksModel", name := "isSheet", desc := "(I)Z" } : Jvm.MethodName) prog_16_method_91_code (1 : Nat) (Option.some Jvm.ClassFile.FieldType.boolean)) ∈ lw_all := lw_g (lw_at lw_m7 2 rfl) rfl
theorem q1543 : (Jvm.Cond.constant "ThunderCasksModel" (278 : Nat) (-1000006 : Int32)) ∈ lw_all := lw_g (lw_at lw_m7 3 rfl) rfl
theorem q1544 : (Jvm.Cond.methodLink "ThunderCasksModel" (196 : Nat) ({ cls := "ThunderCasksModel", name := "findsFits", desc := "(II)V" } : Jvm.MethodName)) ∈ lw_all := lw_g (lw_at lw_m7 4 rfl) rfl
theorem q1545 : (Jvm.Cond.privateMethod ({ cls := "ThunderCasksModel", name := "findsFits", desc := "(II)V" } : Jvm.MethodName)) ∈ lw_tbl := lw_at lw_m7 5 rfl
theorem q1546 : (Jvm.Cond.instanceMethod ({ cls := "ThunderCasksModel", name := "findsFits", desc := "(II)V" } : Jvm.MethodName)) ∈ lw_all := lw_g (lw_at lw_m7 6 rfl) rfl
theorem q1547 : (Jvm.Cond.code ({ cls := "ThunderCasksModel", name := "findsFits", desc := "(II)V" } : Jvm.MethodName) prog_16_method_60_code (5 : Nat) (Option.none : Option Jvm.ClassFile.FieldType)) ∈ lw_all := lw_g (lw_at lw_m7 7 rfl) rfl
theorem q1548 : (Jvm.Cond.methodLink "ThunderCasksModel" (184 : Nat) ({ cls := "ThunderCasksModel", name := "isTold", desc := "(II)Z" } : Jvm.MethodName)) ∈ lw_all := lw_g (lw_at lw_m7 8 rfl) rfl
theorem q1549 : (Jvm.Cond.privateMethod ({ cls := "ThunderCasksModel", name := "isTold", desc := "(II)Z" } : Jvm.MethodName)) ∈ lw_tbl := lw_at lw_m7 9 rfl
theorem q1550 : (Jvm.Cond.instanceMethod ({ cls := "ThunderCasksModel", name := "isTold", desc := "(II)Z" } : Jvm.MethodName)) ∈ lw_all := lw_g (lw_at lw_m7 10 rfl) rfl
theorem q1551 : (Jvm.Cond.code ({ cls := "ThunderCasksModel", name := "isTold", desc := "(II)Z" } : Jvm.MethodName) prog_16_method_59_code (6 : Nat) (Option.some Jvm.ClassFile.FieldType.boolean)) ∈ lw_all := lw_g (lw_at lw_m7 11 rfl) rfl
theorem q1553 : (Jvm.Cond.instanceMethod ({ cls := "ThunderCasksModel", name := "pealed", desc := "(II)I" } : Jvm.MethodName)) ∈ lw_all := lw_g (lw_at lw_m7 13 rfl) rfl
theorem q1554 : (Jvm.Cond.selects "ThunderCasksModel" ({ cls := "ThunderCasksModel", name := "pealed", desc := "(II)I" } : Jvm.MethodName) ({ cls := "ThunderCasksModel", name := "pealed", desc := "(II)I" } : Jvm.MethodName)) ∈ lw_all := lw_g (lw_at lw_m7 14 rfl) rfl
theorem q1555 : (Jvm.Cond.code ({ cls := "ThunderCasksModel", name := "pealed", desc := "(II)I" } : Jvm.MethodName) prog_16_method_63_code (4 : Nat) (Option.some Jvm.ClassFile.FieldType.int)) ∈ lw_all := lw_g (lw_at lw_m7 15 rfl) rfl
theorem q1557 : (Jvm.Cond.instanceMethod ({ cls := "ThunderCasksModel", name := "kinds", desc := "(II)I" } : Jvm.MethodName)) ∈ lw_all := lw_g (lw_at lw_m7 17 rfl) rfl
theorem q1558 : (Jvm.Cond.selects "ThunderCasksModel" ({ cls := "ThunderCasksModel", name := "kinds", desc := "(II)I" } : Jvm.MethodName) ({ cls := "ThunderCasksModel", name := "kinds", desc := "(II)I" } : Jvm.MethodName)) ∈ lw_all := lw_g (lw_at lw_m7 18 rfl) rfl
theorem q1559 : (Jvm.Cond.code ({ cls := "ThunderCasksModel", name := "kinds", desc := "(II)I" } : Jvm.MethodName) prog_16_method_64_code (7 : Nat) (Option.some Jvm.ClassFile.FieldType.int)) ∈ lw_all := lw_g (lw_at lw_m7 19 rfl) rfl
theorem q1561 : (Jvm.Cond.instanceMethod ({ cls := "ThunderCasksModel", name := "storms", desc := "(I)I" } : Jvm.MethodName)) ∈ lw_all := lw_g (lw_at lw_m7 21 rfl) rfl
theorem q1562 : (Jvm.Cond.selects "ThunderCasksModel" ({ cls := "ThunderCasksModel", name := "storms", desc := "(I)I" } : Jvm.MethodName) ({ cls := "ThunderCasksModel", name := "storms", desc := "(I)I" } : Jvm.MethodName)) ∈ lw_all := lw_g (lw_at lw_m7 22 rfl) rfl
theorem q1563 : (Jvm.Cond.code ({ cls := "ThunderCasksModel", name := "storms", desc := "(I)I" } : Jvm.MethodName) prog_16_method_66_code (4 : Nat) (Option.some Jvm.ClassFile.FieldType.int)) ∈ lw_all := lw_g (lw_at lw_m7 23 rfl) rfl
theorem q1564 : (Jvm.Cond.methodLink "ThunderCasksModel" (200 : Nat) ({ cls := "ThunderCasksModel", name := "draw", desc := "()I" } : Jvm.MethodName)) ∈ lw_all := lw_g (lw_at lw_m7 24 rfl) rfl
theorem q1565 : (Jvm.Cond.privateMethod ({ cls := "ThunderCasksModel", name := "draw", desc := "()I" } : Jvm.MethodName)) ∈ lw_tbl := lw_at lw_m7 25 rfl
theorem q1566 : (Jvm.Cond.instanceMethod ({ cls := "ThunderCasksModel", name := "draw", desc := "()I" } : Jvm.MethodName)) ∈ lw_all := lw_g (lw_at lw_m7 26 rfl) rfl
theorem q1567 : (Jvm.Cond.code ({ cls := "ThunderCasksModel", name := "draw", desc := "()I" } : Jvm.MethodName) prog_16_method_65_code (1 : Nat) (Option.some Jvm.ClassFile.FieldType.int)) ∈ lw_all := lw_g (lw_at lw_m7 27 rfl) rfl
theorem q1568 : (Jvm.Cond.constant "ThunderCasksModel" (199 : Nat) (1103515245 : Int32)) ∈ lw_all := lw_g (lw_at lw_m7 28 rfl) rfl
theorem q1570 : (Jvm.Cond.instanceMethod ({ cls := "ThunderCasksModel", name := "odds", desc := "(II)J" } : Jvm.MethodName)) ∈ lw_all := lw_g (lw_at lw_m7 30 rfl) rfl
theorem q1571 : (Jvm.Cond.selects "ThunderCasksModel" ({ cls := "ThunderCasksModel", name := "odds", desc := "(II)J" } : Jvm.MethodName) ({ cls := "ThunderCasksModel", name := "odds", desc := "(II)J" } : Jvm.MethodName)) ∈ lw_all := lw_g (lw_at lw_m7 31 rfl) rfl
theorem q1572 : (Jvm.Cond.code ({ cls := "ThunderCasksModel", name := "odds", desc := "(II)J" } : Jvm.MethodName) prog_16_method_67_code (14 : Nat) (Option.some Jvm.ClassFile.FieldType.long)) ∈ lw_all := lw_g (lw_at lw_m7 32 rfl) rfl
theorem q1573 : (Jvm.Cond.constantLong "ThunderCasksModel" (203 : Nat) (23 : Int64)) ∈ lw_all := lw_g (lw_at lw_m7 33 rfl) rfl
theorem q1575 : (Jvm.Cond.instanceMethod ({ cls := "ThunderCasksModel", name := "seed", desc := "(I)I" } : Jvm.MethodName)) ∈ lw_all := lw_g (lw_at lw_m7 35 rfl) rfl
theorem q1576 : (Jvm.Cond.selects "ThunderCasksModel" ({ cls := "ThunderCasksModel", name := "seed", desc := "(I)I" } : Jvm.MethodName) ({ cls := "ThunderCasksModel", name := "seed", desc := "(I)I" } : Jvm.MethodName)) ∈ lw_all := lw_g (lw_at lw_m7 36 rfl) rfl
theorem q1577 : (Jvm.Cond.code ({ cls := "ThunderCasksModel", name := "seed", desc := "(I)I" } : Jvm.MethodName) prog_16_method_68_code (2 : Nat) (Option.some Jvm.ClassFile.FieldType.int)) ∈ lw_all := lw_g (lw_at lw_m7 37 rfl) rfl
theorem q1579 : (Jvm.Cond.instanceMethod ({ cls := "ThunderCasksModel", name := "feed", desc := "(II)I" } : Jvm.MethodName)) ∈ lw_all := lw_g (lw_at lw_m7 39 rfl) rfl
theorem q1580 : (Jvm.Cond.selects "ThunderCasksModel" ({ cls := "ThunderCasksModel", name := "feed", desc := "(II)I" } : Jvm.MethodName) ({ cls := "ThunderCasksModel", name := "feed", desc := "(II)I" } : Jvm.MethodName)) ∈ lw_all := lw_g (lw_at lw_m7 40 rfl) rfl
theorem q1581 : (Jvm.Cond.code ({ cls := "ThunderCasksModel", name := "feed", desc := "(II)I" } : Jvm.MethodName) prog_16_method_69_code (4 : Nat) (Option.some Jvm.ClassFile.FieldType.int)) ∈ lw_all := lw_g (lw_at lw_m7 41 rfl) rfl
theorem q1582 : (Jvm.Cond.constantLong "ThunderCasksModel" (205 : Nat) (4 : Int64)) ∈ lw_all := lw_g (lw_at lw_m7 42 rfl) rfl
theorem q1584 : (Jvm.Cond.instanceMethod ({ cls := "ThunderCasksModel", name := "wipe", desc := "()I" } : Jvm.MethodName)) ∈ lw_all := lw_g (lw_at lw_m7 44 rfl) rfl
theorem q1585 : (Jvm.Cond.selects "ThunderCasksModel" ({ cls := "ThunderCasksModel", name := "wipe", desc := "()I" } : Jvm.MethodName) ({ cls := "ThunderCasksModel", name := "wipe", desc := "()I" } : Jvm.MethodName)) ∈ lw_all := lw_g (lw_at lw_m7 45 rfl) rfl
theorem q1586 : (Jvm.Cond.code ({ cls := "ThunderCasksModel", name := "wipe", desc := "()I" } : Jvm.MethodName) prog_16_method_70_code (2 : Nat) (Option.some Jvm.ClassFile.FieldType.int)) ∈ lw_all := lw_g (lw_at lw_m7 46 rfl) rfl
theorem q1588 : (Jvm.Cond.instanceMethod ({ cls := "ThunderCasksModel", name := "text", desc := "()I" } : Jvm.MethodName)) ∈ lw_all := lw_g (lw_at lw_m7 48 rfl) rfl
theorem q1589 : (Jvm.Cond.selects "ThunderCasksModel" ({ cls := "ThunderCasksModel", name := "text", desc := "()I" } : Jvm.MethodName) ({ cls := "ThunderCasksModel", name := "text", desc := "()I" } : Jvm.MethodName)) ∈ lw_all := lw_g (lw_at lw_m7 49 rfl) rfl
theorem q1590 : (Jvm.Cond.code ({ cls := "ThunderCasksModel", name := "text", desc := "()I" } : Jvm.MethodName) prog_16_method_87_code (3 : Nat) (Option.some Jvm.ClassFile.FieldType.int)) ∈ lw_all := lw_g (lw_at lw_m7 50 rfl) rfl
theorem q1591 : (Jvm.Cond.methodLink "ThunderCasksModel" (256 : Nat) ({ cls := "ThunderCasksModel", name := "nextToken", desc := "()V" } : Jvm.MethodName)) ∈ lw_all := lw_g (lw_at lw_m7 51 rfl) rfl
theorem q1592 : (Jvm.Cond.privateMethod ({ cls := "ThunderCasksModel", name := "nextToken", desc := "()V" } : Jvm.MethodName)) ∈ lw_tbl := lw_at lw_m7 52 rfl
theorem q1593 : (Jvm.Cond.instanceMethod ({ cls := "ThunderCasksModel", name := "nextToken", desc := "()V" } : Jvm.MethodName)) ∈ lw_all := lw_g (lw_at lw_m7 53 rfl) rfl
theorem q1594 : (Jvm.Cond.code ({ cls := "ThunderCasksModel", name := "nextToken", desc := "()V" } : Jvm.MethodName) prog_16_method_74_code (2 : Nat) (Option.none : Option Jvm.ClassFile.FieldType)) ∈ lw_all := lw_g (lw_at lw_m7 54 rfl) rfl
theorem q1595 : (Jvm.Cond.methodLink "ThunderCasksModel" (216 : Nat) ({ cls := "ThunderCasksModel", name := "byteAt", desc := "(I)I" } : Jvm.MethodName)) ∈ lw_all := lw_g (lw_at lw_m7 55 rfl) rfl
theorem q1596 : (Jvm.Cond.privateMethod ({ cls := "ThunderCasksModel", name := "byteAt", desc := "(I)I" } : Jvm.MethodName)) ∈ lw_tbl := lw_at lw_m7 56 rfl
theorem q1597 : (Jvm.Cond.instanceMethod ({ cls := "ThunderCasksModel", name := "byteAt", desc := "(I)I" } : Jvm.MethodName)) ∈ lw_all := lw_g (lw_at lw_m7 57 rfl) rfl
theorem q1598 : (Jvm.Cond.code ({ cls := "ThunderCasksModel", name := "byteAt", desc := "(I)I" } : Jvm.MethodName) prog_16_method_73_code (2 : Nat) (Option.some Jvm.ClassFile.FieldType.int)) ∈ lw_all := lw_g (lw_at lw_m7 58 rfl) rfl
theorem q1599 : (Jvm.Cond.methodLink "ThunderCasksModel" (219 : Nat) ({ cls := "ThunderCasksModel", name := "isLetter", desc := "(I)Z" } : Jvm.MethodName)) ∈ lw_all := lw_g (lw_at lw_m7 59 rfl) rfl
theorem q1600 : (Jvm.Cond.static ({ cls := "ThunderCasksModel", name := "isLetter", desc := "(I)Z" } : Jvm.MethodName)) ∈ lw_all := lw_g (lw_at lw_m7 60 rfl) rfl
theorem q1601 : (Jvm.Cond.code ({ cls := "ThunderCasksModel", name := "isLetter", desc := "(I)Z" } : Jvm.MethodName) prog_16_method_71_code (1 : Nat) (Option.some Jvm.ClassFile.FieldType.boolean)) ∈ lw_all := lw_g (lw_at lw_m7 61 rfl) rfl
theorem q1602 : (Jvm.Cond.methodLink "ThunderCasksModel" (222 : Nat) ({ cls := "ThunderCasksModel", name := "isDigit", desc := "(I)Z" } : Jvm.MethodName)) ∈ lw_all := lw_g (lw_at lw_m7 62 rfl) rfl
theorem q1603 : (Jvm.Cond.static ({ cls := "ThunderCasksModel", name := "isDigit", desc := "(I)Z" } : Jvm.MethodName)) ∈ lw_all := lw_g (lw_at lw_m7 63 rfl) rfl
theorem q1604 : (Jvm.Cond.code ({ cls := "ThunderCasksModel", name := "isDigit", desc := "(I)Z" } : Jvm.MethodName) prog_16_method_72_code (1 : Nat) (Option.some Jvm.ClassFile.FieldType.boolean)) ∈ lw_all := lw_g (lw_at lw_m7 64 rfl) rfl
theorem q1605 : (Jvm.Cond.methodLink "ThunderCasksModel" (275 : Nat) ({ cls := "ThunderCasksModel", name := "itemHere", desc := "()Z" } : Jvm.MethodName)) ∈ lw_all := lw_g (lw_at lw_m7 65 rfl) rfl
theorem q1606 : (Jvm.Cond.privateMethod ({ cls := "ThunderCasksModel", name := "itemHere", desc := "()Z" } : Jvm.MethodName)) ∈ lw_tbl := lw_at lw_m7 66 rfl
theorem q1607 : (Jvm.Cond.instanceMethod ({ cls := "ThunderCasksModel", name := "itemHere", desc := "()Z" } : Jvm.MethodName)) ∈ lw_all := lw_g (lw_at lw_m7 67 rfl) rfl
theorem q1608 : (Jvm.Cond.code ({ cls := "ThunderCasksModel", name := "itemHere", desc := "()Z" } : Jvm.MethodName) prog_16_method_86_code (2 : Nat) (Option.some Jvm.ClassFile.FieldType.boolean)) ∈ lw_all := lw_g (lw_at lw_m7 68 rfl) rfl
theorem q1609 : (Jvm.Cond.methodLink "ThunderCasksModel" (266 : Nat) ({ cls := "ThunderCasksModel", name := "kindHere", desc := "()I" } : Jvm.MethodName)) ∈ lw_all := lw_g (lw_at lw_m7 69 rfl) rfl
theorem q1610 : (Jvm.Cond.privateMethod ({ cls := "ThunderCasksModel", name := "kindHere", desc := "()I" } : Jvm.MethodName)) ∈ lw_tbl := lw_at lw_m7 70 rfl
theorem q1611 : (Jvm.Cond.instanceMethod ({ cls := "ThunderCasksModel", name := "kindHere", desc := "()I" } : Jvm.MethodName)) ∈ lw_all := lw_g (lw_at lw_m7 71 rfl) rfl
theorem q1612 : (Jvm.Cond.code ({ cls := "ThunderCasksModel", name := "kindHere", desc := "()I" } : Jvm.MethodName) prog_16_method_82_code (1 : Nat) (Option.some Jvm.ClassFile.FieldType.int)) ∈ lw_all := lw_g (lw_at lw_m7 72 rfl) rfl
theorem q1613 : (Jvm.Cond.methodLink "ThunderCasksModel" (245 : Nat) ({ cls := "ThunderCasksModel", name := "isFour", desc := "(IIII)Z" } : Jvm.MethodName)) ∈ lw_all := lw_g (lw_at lw_m7 73 rfl) rfl
theorem q1614 : (Jvm.Cond.privateMethod ({ cls := "ThunderCasksModel", name := "isFour", desc := "(IIII)Z" } : Jvm.MethodName)) ∈ lw_tbl := lw_at lw_m7 74 rfl
theorem q1615 : (Jvm.Cond.instanceMethod ({ cls := "ThunderCasksModel", name := "isFour", desc := "(IIII)Z" } : Jvm.MethodName)) ∈ lw_all := lw_g (lw_at lw_m7 75 rfl) rfl
theorem q1616 : (Jvm.Cond.code ({ cls := "ThunderCasksModel", name := "isFour", desc := "(IIII)Z" } : Jvm.MethodName) prog_16_method_78_code (5 : Nat) (Option.some Jvm.ClassFile.FieldType.boolean)) ∈ lw_all := lw_g (lw_at lw_m7 76 rfl) rfl
theorem q1617 : (Jvm.Cond.methodLink "ThunderCasksModel" (234 : Nat) ({ cls := "ThunderCasksModel", name := "isWord", desc := "(I)Z" } : Jvm.MethodName)) ∈ lw_all := lw_g (lw_at lw_m7 77 rfl) rfl
theorem q1618 : (Jvm.Cond.privateMethod ({ cls := "ThunderCasksModel", name := "isWord", desc := "(I)Z" } : Jvm.MethodName)) ∈ lw_tbl := lw_at lw_m7 78 rfl
theorem q1619 : (Jvm.Cond.instanceMethod ({ cls := "ThunderCasksModel", name := "isWord", desc := "(I)Z" } : Jvm.MethodName)) ∈ lw_all := lw_g (lw_at lw_m7 79 rfl) rfl
theorem q1620 : (Jvm.Cond.code ({ cls := "ThunderCasksModel", name := "isWord", desc := "(I)Z" } : Jvm.MethodName) prog_16_method_76_code (2 : Nat) (Option.some Jvm.ClassFile.FieldType.boolean)) ∈ lw_all := lw_g (lw_at lw_m7 80 rfl) rfl
theorem q1621 : (Jvm.Cond.methodLink "ThunderCasksModel" (237 : Nat) ({ cls := "ThunderCasksModel", name := "has3", desc := "(IIII)Z" } : Jvm.MethodName)) ∈ lw_all := lw_g (lw_at lw_m7 81 rfl) rfl
theorem q1622 : (Jvm.Cond.privateMethod ({ cls := "ThunderCasksModel", name := "has3", desc := "(IIII)Z" } : Jvm.MethodName)) ∈ lw_tbl := lw_at lw_m7 82 rfl
theorem q1623 : (Jvm.Cond.instanceMethod ({ cls := "ThunderCasksModel", name := "has3", desc := "(IIII)Z" } : Jvm.MethodName)) ∈ lw_all := lw_g (lw_at lw_m7 83 rfl) rfl
theorem q1624 : (Jvm.Cond.code ({ cls := "ThunderCasksModel", name := "has3", desc := "(IIII)Z" } : Jvm.MethodName) prog_16_method_75_code (5 : Nat) (Option.some Jvm.ClassFile.FieldType.boolean)) ∈ lw_all := lw_g (lw_at lw_m7 84 rfl) rfl
theorem q1625 : (Jvm.Cond.methodLink "ThunderCasksModel" (248 : Nat) ({ cls := "ThunderCasksModel", name := "isFive", desc := "(IIIII)Z" } : Jvm.MethodName)) ∈ lw_all := lw_g (lw_at lw_m7 85 rfl) rfl
theorem q1626 : (Jvm.Cond.privateMethod ({ cls := "ThunderCasksModel", name := "isFive", desc := "(IIIII)Z" } : Jvm.MethodName)) ∈ lw_tbl := lw_at lw_m7 86 rfl
theorem q1627 : (Jvm.Cond.instanceMethod ({ cls := "ThunderCasksModel", name := "isFive", desc := "(IIIII)Z" } : Jvm.MethodName)) ∈ lw_all := lw_g (lw_at lw_m7 87 rfl) rfl
theorem q1628 : (Jvm.Cond.code ({ cls := "ThunderCasksModel", name := "isFive", desc := "(IIIII)Z" } : Jvm.MethodName) prog_16_method_79_code (6 : Nat) (Option.some Jvm.ClassFile.FieldType.boolean)) ∈ lw_all := lw_g (lw_at lw_m7 88 rfl) rfl
theorem q1629 : (Jvm.Cond.methodLink "ThunderCasksModel" (252 : Nat) ({ cls := "ThunderCasksModel", name := "isSix", desc := "(IIIIII)Z" } : Jvm.MethodName)) ∈ lw_all := lw_g (lw_at lw_m7 89 rfl) rfl
theorem q1630 : (Jvm.Cond.privateMethod ({ cls := "ThunderCasksModel", name := "isSix", desc := "(IIIIII)Z" } : Jvm.MethodName)) ∈ lw_tbl := lw_at lw_m7 90 rfl
theorem q1631 : (Jvm.Cond.instanceMethod ({ cls := "ThunderCasksModel", name := "isSix", desc := "(IIIIII)Z" } : Jvm.MethodName)) ∈ lw_all := lw_g (lw_at lw_m7 91 rfl) rfl
theorem q1632 : (Jvm.Cond.code ({ cls := "ThunderCasksModel", name := "isSix", desc := "(IIIIII)Z" } : Jvm.MethodName) prog_16_method_80_code (7 : Nat) (Option.some Jvm.ClassFile.FieldType.boolean)) ∈ lw_all := lw_g (lw_at lw_m7 92 rfl) rfl
theorem q1633 : (Jvm.Cond.methodLink "ThunderCasksModel" (269 : Nat) ({ cls := "ThunderCasksModel", name := "caskHere", desc := "(I)Z" } : Jvm.MethodName)) ∈ lw_all := lw_g (lw_at lw_m7 93 rfl) rfl
theorem q1634 : (Jvm.Cond.privateMethod ({ cls := "ThunderCasksModel", name := "caskHere", desc := "(I)Z" } : Jvm.MethodName)) ∈ lw_tbl := lw_at lw_m7 94 rfl
theorem q1635 : (Jvm.Cond.instanceMethod ({ cls := "ThunderCasksModel", name := "caskHere", desc := "(I)Z" } : Jvm.MethodName)) ∈ lw_all := lw_g (lw_at lw_m7 95 rfl) rfl
theorem q1636 : (Jvm.Cond.code ({ cls := "ThunderCasksModel", name := "caskHere", desc := "(I)Z" } : Jvm.MethodName) prog_16_method_84_code (3 : Nat) (Option.some Jvm.ClassFile.FieldType.boolean)) ∈ lw_all := lw_g (lw_at lw_m7 96 rfl) rfl
theorem q1637 : (Jvm.Cond.methodLink "ThunderCasksModel" (241 : Nat) ({ cls := "ThunderCasksModel", name := "fails", desc := "()Z" } : Jvm.MethodName)) ∈ lw_all := lw_g (lw_at lw_m7 97 rfl) rfl
theorem q1638 : (Jvm.Cond.privateMethod ({ cls := "ThunderCasksModel", name := "fails", desc := "()Z" } : Jvm.MethodName)) ∈ lw_tbl := lw_at lw_m7 98 rfl
theorem q1639 : (Jvm.Cond.instanceMethod ({ cls := "ThunderCasksModel", name := "fails", desc := "()Z" } : Jvm.MethodName)) ∈ lw_all := lw_g (lw_at lw_m7 99 rfl) rfl
theorem q1640 : (Jvm.Cond.code ({ cls := "ThunderCasksModel", name := "fails", desc := "()Z" } : Jvm.MethodName) prog_16_method_77_code (1 : Nat) (Option.some Jvm.ClassFile.FieldType.boolean)) ∈ lw_all := lw_g (lw_at lw_m7 100 rfl) rfl
theorem q1641 : (Jvm.Cond.methodLink "ThunderCasksModel" (262 : Nat) ({ cls := "ThunderCasksModel", name := "perhaps", desc := "(ZII)Z" } : Jvm.MethodName)) ∈ lw_all := lw_g (lw_at lw_m7 101 rfl) rfl
theorem q1642 : (Jvm.Cond.privateMethod ({ cls := "ThunderCasksModel", name := "perhaps", desc := "(ZII)Z" } : Jvm.MethodName)) ∈ lw_tbl := lw_at lw_m7 102 rfl
theorem q1643 : (Jvm.Cond.instanceMethod ({ cls := "ThunderCasksModel", name := "perhaps", desc := "(ZII)Z" } : Jvm.MethodName)) ∈ lw_all := lw_g (lw_at lw_m7 103 rfl) rfl
theorem q1644 : (Jvm.Cond.code ({ cls := "ThunderCasksModel", name := "perhaps", desc := "(ZII)Z" } : Jvm.MethodName) prog_16_method_83_code (4 : Nat) (Option.some Jvm.ClassFile.FieldType.boolean)) ∈ lw_all := lw_g (lw_at lw_m7 104 rfl) rfl
theorem q1645 : (Jvm.Cond.methodLink "ThunderCasksModel" (259 : Nat) ({ cls := "ThunderCasksModel", name := "isNumber", desc := "(II)Z" } : Jvm.MethodName)) ∈ lw_all := lw_g (lw_at lw_m7 105 rfl) rfl
theorem q1646 : (Jvm.Cond.privateMethod ({ cls := "ThunderCasksModel", name := "isNumber", desc := "(II)Z" } : Jvm.MethodName)) ∈ lw_tbl := lw_at lw_m7 106 rfl
theorem q1647 : (Jvm.Cond.instanceMethod ({ cls := "ThunderCasksModel", name := "isNumber", desc := "(II)Z" } : Jvm.MethodName)) ∈ lw_all := lw_g (lw_at lw_m7 107 rfl) rfl
theorem q1648 : (Jvm.Cond.code ({ cls := "ThunderCasksModel", name := "isNumber", desc := "(II)Z" } : Jvm.MethodName) prog_16_method_81_code (3 : Nat) (Option.some Jvm.ClassFile.FieldType.boolean)) ∈ lw_all := lw_g (lw_at lw_m7 108 rfl) rfl
theorem q1649 : (Jvm.Cond.methodLink "ThunderCasksModel" (272 : Nat) ({ cls := "ThunderCasksModel", name := "cellarHere", desc := "(II)Z" } : Jvm.MethodName)) ∈ lw_all := lw_g (lw_at lw_m7 109 rfl) rfl
theorem q1650 : (Jvm.Cond.privateMethod ({ cls := "ThunderCasksModel", name := "cellarHere", desc := "(II)Z" } : Jvm.MethodName)) ∈ lw_tbl := lw_at lw_m7 110 rfl
theorem q1651 : (Jvm.Cond.instanceMethod ({ cls := "ThunderCasksModel", name := "cellarHere", desc := "(II)Z" } : Jvm.MethodName)) ∈ lw_all := lw_g (lw_at lw_m7 111 rfl) rfl
theorem q1652 : (Jvm.Cond.code ({ cls := "ThunderCasksModel", name := "cellarHere", desc := "(II)Z" } : Jvm.MethodName) prog_16_method_85_code (3 : Nat) (Option.some Jvm.ClassFile.FieldType.boolean)) ∈ lw_all := lw_g (lw_at lw_m7 112 rfl) rfl
theorem q1654 : (Jvm.Cond.instanceMethod ({ cls := "ThunderCasksModel", name := "hold", desc := "(II)I" } : Jvm.MethodName)) ∈ lw_all := lw_g (lw_at lw_m7 114 rfl) rfl
theorem q1655 : (Jvm.Cond.selects "ThunderCasksModel" ({ cls := "ThunderCasksModel", name := "hold", desc := "(II)I" } : Jvm.MethodName) ({ cls := "ThunderCasksModel", name := "hold", desc := "(II)I" } : Jvm.MethodName)) ∈ lw_all := lw_g (lw_at lw_m7 115 rfl) rfl
theorem q1656 : (Jvm.Cond.code ({ cls := "ThunderCasksModel", name := "hold", desc := "(II)I" } : Jvm.MethodName) prog_16_method_88_code (3 : Nat) (Option.some Jvm.ClassFile.FieldType.int)) ∈ lw_all := lw_g (lw_at lw_m7 116 rfl) rfl
theorem q1658 : (Jvm.Cond.instanceMethod ({ cls := "ThunderCasksModel", name := "as", desc := "(II)I" } : Jvm.MethodName)) ∈ lw_all := lw_g (lw_at lw_m7 118 rfl) rfl
theorem q1659 : (Jvm.Cond.selects "ThunderCasksModel" ({ cls := "ThunderCasksModel", name := "as", desc := "(II)I" } : Jvm.MethodName) ({ cls := "ThunderCasksModel", name := "as", desc := "(II)I" } : Jvm.MethodName)) ∈ lw_all := lw_g (lw_at lw_m7 119 rfl) rfl
theorem q1660 : (Jvm.Cond.code ({ cls := "ThunderCasksModel", name := "as", desc := "(II)I" } : Jvm.MethodName) prog_16_method_90_code (4 : Nat) (Option.some Jvm.ClassFile.FieldType.int)) ∈ lw_all := lw_g (lw_at lw_m7 120 rfl) rfl
theorem q1661 : (Jvm.Cond.methodLink "ThunderCasksModel" (279 : Nat) ({ cls := "ThunderCasksModel", name := "isUnder", desc := "(II)Z" } : Jvm.MethodName)) ∈ lw_all := lw_g (lw_at lw_m7 121 rfl) rfl
theorem q1662 : (Jvm.Cond.static ({ cls := "ThunderCasksModel", name := "isUnder", desc := "(II)Z" } : Jvm.MethodName)) ∈ lw_all := lw_g (lw_at lw_m7 122 rfl) rfl
theorem q1663 : (Jvm.Cond.code ({ cls := "ThunderCasksModel", name := "isUnder", desc := "(II)Z" } : Jvm.MethodName) prog_16_method_89_code (2 : Nat) (Option.some Jvm.ClassFile.FieldType.boolean)) ∈ lw_all := lw_g (lw_at lw_m7 123 rfl) rfl
theorem q1664 : (Jvm.Cond.constant "ThunderCasksModel" (282 : Nat) (-1000003 : Int32)) ∈ lw_all := lw_g (lw_at lw_m7 124 rfl) rfl
theorem q1666 : (Jvm.Cond.instanceMethod ({ cls := "ThunderCasksModel", name := "sheet", desc := "(III)I" } : Jvm.MethodName)) ∈ lw_all := lw_g (lw_at lw_m7 126 rfl) rfl
theorem q1667 : (Jvm.Cond.selects "ThunderCasksModel" ({ cls := "ThunderCasksModel", name := "sheet", desc := "(III)I" } : Jvm.MethodName) ({ cls := "ThunderCasksModel", name := "sheet", desc := "(III)I" } : Jvm.MethodName)) ∈ lw_all := lw_g (lw_at lw_m7 127 rfl) rfl
theorem q1668 : (Jvm.Cond.code ({ cls := "ThunderCasksModel", name := "sheet", desc := "(III)I" } : Jvm.MethodName) prog_16_method_92_code (5 : Nat) (Option.some Jvm.ClassFile.FieldType.int)) ∈ lw_all := lw_g (lw_at lw_m7 128 rfl) rfl
theorem q1669 : (Jvm.Cond.constant "ThunderCasksModel" (286 : Nat) (-1000007 : Int32)) ∈ lw_all := lw_g (lw_at lw_m7 129 rfl) rfl
theorem q1671 : (Jvm.Cond.instanceMethod ({ cls := "ThunderCasksModel", name := "write", desc := "(III)I" } : Jvm.MethodName)) ∈ lw_all := lw_g (lw_at lw_m7 131 rfl) rfl
theorem q1672 : (Jvm.Cond.selects "ThunderCasksModel" ({ cls := "ThunderCasksModel", name := "write", desc := "(III)I" } : Jvm.MethodName) ({ cls := "ThunderCasksModel", name := "write", desc := "(III)I" } : Jvm.MethodName)) ∈ lw_all := lw_g (lw_at lw_m7 132 rfl) rfl
theorem q1673 : (Jvm.Cond.code ({ cls := "ThunderCasksModel", name := "write", desc := "(III)I" } : Jvm.MethodName) prog_16_method_93_code (4 : Nat) (Option.some Jvm.ClassFile.FieldType.int)) ∈ lw_all := lw_g (lw_at lw_m7 133 rfl) rfl
theorem q1675 : (Jvm.Cond.instanceMethod ({ cls := "ThunderCasksModel", name := "copy", desc := "(IIIII)I" } : Jvm.MethodName)) ∈ lw_all := lw_g (lw_at lw_m7 135 rfl) rfl
theorem q1676 : (Jvm.Cond.selects "ThunderCasksModel" ({ cls := "ThunderCasksModel", name := "copy", desc := "(IIIII)I" } : Jvm.MethodName) ({ cls := "ThunderCasksModel", name := "copy", desc := "(IIIII)I" } : Jvm.MethodName)) ∈ lw_all := lw_g (lw_at lw_m7 136 rfl) rfl
theorem q1677 : (Jvm.Cond.code ({ cls := "ThunderCasksModel", name := "copy", desc := "(IIIII)I" } : Jvm.MethodName) prog_16_method_94_code (10 : Nat) (Option.some Jvm.ClassFile.FieldType.int)) ∈ lw_all := lw_g (lw_at lw_m7 137 rfl) rfl
theorem q1679 : (Jvm.Cond.instanceMethod ({ cls := "ThunderCasksModel", name := "load", desc := "(I)I" } : Jvm.MethodName)) ∈ lw_all := lw_g (lw_at lw_m7 139 rfl) rfl
theorem q1680 : (Jvm.Cond.selects "ThunderCasksModel" ({ cls := "ThunderCasksModel", name := "load", desc := "(I)I" } : Jvm.MethodName) ({ cls := "ThunderCasksModel", name := "load", desc := "(I)I" } : Jvm.MethodName)) ∈ lw_all := lw_g (lw_at lw_m7 140 rfl) rfl
theorem q1681 : (Jvm.Cond.code ({ cls := "ThunderCasksModel", name := "load", desc := "(I)I" } : Jvm.MethodName) prog_16_method_96_code (3 : Nat) (Option.some Jvm.ClassFile.FieldType.int)) ∈ lw_all := lw_g (lw_at lw_m7 141 rfl) rfl
theorem q1683 : (Jvm.Cond.instanceMethod ({ cls := "ThunderCasksModel", name := "judge", desc := "(I)I" } : Jvm.MethodName)) ∈ lw_all := lw_g (lw_at lw_m7 143 rfl) rfl
theorem q1684 : (Jvm.Cond.selects "ThunderCasksModel" ({ cls := "ThunderCasksModel", name := "judge", desc := "(I)I" } : Jvm.MethodName) ({ cls := "ThunderCasksModel", name := "judge", desc := "(I)I" } : Jvm.MethodName)) ∈ lw_all := lw_g (lw_at lw_m7 144 rfl) rfl
theorem q1685 : (Jvm.Cond.code ({ cls := "ThunderCasksModel", name := "judge", desc := "(I)I" } : Jvm.MethodName) prog_16_method_97_code (3 : Nat) (Option.some Jvm.ClassFile.FieldType.int)) ∈ lw_all := lw_g (lw_at lw_m7 145 rfl) rfl
theorem q1687 : (Jvm.Cond.instanceMethod ({ cls := "ThunderCasksModel", name := "image", desc := "()I" } : Jvm.MethodName)) ∈ lw_all := lw_g (lw_at lw_m7 147 rfl) rfl
theorem q1688 : (Jvm.Cond.selects "ThunderCasksModel" ({ cls := "ThunderCasksModel", name := "image", desc := "()I" } : Jvm.MethodName) ({ cls := "ThunderCasksModel", name := "image", desc := "()I" } : Jvm.MethodName)) ∈ lw_all := lw_g (lw_at lw_m7 148 rfl) rfl
theorem q1689 : (Jvm.Cond.code ({ cls := "ThunderCasksModel", name := "image", desc := "()I" } : Jvm.MethodName) prog_16_method_98_code (1 : Nat) (Option.some Jvm.ClassFile.FieldType.int)) ∈ lw_all := lw_g (lw_at lw_m7 149 rfl) rfl
theorem q1691 : (Jvm.Cond.instanceMethod ({ cls := "ThunderCasksModel", name := "undo", desc := "()I" } : Jvm.MethodName)) ∈ lw_all := lw_g (lw_at lw_m7 151 rfl) rfl
theorem q1692 : (Jvm.Cond.selects "ThunderCasksModel" ({ cls := "ThunderCasksModel", name := "undo", desc := "()I" } : Jvm.MethodName) ({ cls := "ThunderCasksModel", name := "undo", desc := "()I" } : Jvm.MethodName)) ∈ lw_all := lw_g (lw_at lw_m7 152 rfl) rfl
theorem q1693 : (Jvm.Cond.code ({ cls := "ThunderCasksModel", name := "undo", desc := "()I" } : Jvm.MethodName) prog_16_method_99_code (1 : Nat) (Option.some Jvm.ClassFile.FieldType.int)) ∈ lw_all := lw_g (lw_at lw_m7 153 rfl) rfl
theorem q1695 : (Jvm.Cond.instanceMethod ({ cls := "ThunderCasksModel", name := "tear", desc := "()I" } : Jvm.MethodName)) ∈ lw_all := lw_g (lw_at lw_m7 155 rfl) rfl
theorem q1696 : (Jvm.Cond.selects "ThunderCasksModel" ({ cls := "ThunderCasksModel", name := "tear", desc := "()I" } : Jvm.MethodName) ({ cls := "ThunderCasksModel", name := "tear", desc := "()I" } : Jvm.MethodName)) ∈ lw_all := lw_g (lw_at lw_m7 156 rfl) rfl
theorem q1697 : (Jvm.Cond.code ({ cls := "ThunderCasksModel", name := "tear", desc := "()I" } : Jvm.MethodName) prog_16_method_100_code (2 : Nat) (Option.some Jvm.ClassFile.FieldType.int)) ∈ lw_all := lw_g (lw_at lw_m7 157 rfl) rfl
theorem q1699 : (Jvm.Cond.instanceMethod ({ cls := "ThunderCasksModel", name := "count", desc := "(I)I" } : Jvm.MethodName)) ∈ lw_all := lw_g (lw_at lw_m7 159 rfl) rfl
theorem q1700 : (Jvm.Cond.selects "ThunderCasksModel" ({ cls := "ThunderCasksModel", name := "count", desc := "(I)I" } : Jvm.MethodName) ({ cls := "ThunderCasksModel", name := "count", desc := "(I)I" } : Jvm.MethodName)) ∈ lw_all := lw_g (lw_at lw_m7 160 rfl) rfl
theorem q1701 : (Jvm.Cond.code ({ cls := "ThunderCasksModel", name := "count", desc := "(I)I" } : Jvm.MethodName) prog_16_method_101_code (4 : Nat) (Option.some Jvm.ClassFile.FieldType.int)) ∈ lw_all := lw_g (lw_at lw_m7 161 rfl) rfl
theorem q1703 : (Jvm.Cond.instanceMethod ({ cls := "ThunderCasksModel", name := "status", desc := "(I)I" } : Jvm.MethodName)) ∈ lw_all := lw_g (lw_at lw_m7 163 rfl) rfl
theorem q1704 : (Jvm.Cond.selects "ThunderCasksModel" ({ cls := "ThunderCasksModel", name := "status", desc := "(I)I" } : Jvm.MethodName) ({ cls := "ThunderCasksModel", name := "status", desc := "(I)I" } : Jvm.MethodName)) ∈ lw_all := lw_g (lw_at lw_m7 164 rfl) rfl
theorem q1705 : (Jvm.Cond.code ({ cls := "ThunderCasksModel", name := "status", desc := "(I)I" } : Jvm.MethodName) prog_16_method_102_code (2 : Nat) (Option.some Jvm.ClassFile.FieldType.int)) ∈ lw_all := lw_g (lw_at lw_m7 165 rfl) rfl
theorem q1706 : (Jvm.Cond.constantLong "ThunderCasksModel" (291 : Nat) (-1 : Int64)) ∈ lw_all := lw_g (lw_at lw_m7 166 rfl) rfl
theorem in_X13 : ∀ w ∈ wsX130, w ∈ lw_all := lw_in wsX130 [1253, 1255, 1257, 1259, 1261, 1263, 1265, 1267, 1269, 1271, 1273, 1275, 1277, 1279, 1281, 1283, 1285, 1287] (by decide +kernel) (by decide +kernel)
