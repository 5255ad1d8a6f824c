/-! ThunderCasks$Refusal -/
set_option maxRecDepth 100000
def RX1 : String := "ThunderCasks$Refusal"
def TX1 : u_T := fun k => match k with
  | 0 => ("java/lang/Throwable", "cause", "Ljava/lang/Throwable;", false)
  | 1 => ("java/lang/Throwable", "stackTrace", "[Ljava/lang/StackTraceElement;", false)
  | 2 => ("java/lang/Throwable", "suppressedExceptions", "Ljava/util/List;", false)
  | 3 => ("java/lang/Throwable", "detailMessage", "Ljava/lang/String;", false)
  | 4 => ("java/lang/Throwable", "backtrace", "Ljava/lang/Object;", false)
  | 5 => ("java/lang/Throwable", "depth", "I", false)
  | _ => ("ThunderCasks$Refusal", "finding", "I", false)
def tyX1 : Nat → FieldType := fun k => match k with
  | 0 => .object "java/lang/Throwable"
  | 1 => .array (.object "java/lang/StackTraceElement")
  | 2 => .object "java/util/List"
  | 3 => .object "java/lang/String"
  | 4 => .object "java/lang/Object"
  | 5 => .int
  | _ => .int
abbrev wsX10 : List Cond := u_ws RX1 TX1 7
theorem nmX1 : ∀ a, a < 7 → ∀ b, b < 7 → a ≠ b → (TX1 a).2.1 ≠ (TX1 b).2.1 := by decide +kernel
theorem tyX1_ok : ∀ k, k < 7 → parseFieldDescriptor (TX1 k).2.2.1 = some (tyX1 k) := by decide +kernel
abbrev cX1_init : ByteArray := prog_9_method_1_code
def yX1_init : MethodName := ⟨RX1, "<init>", "()V"⟩
def dkwX1_init_0 : List UInt8 := [42, 1, 1, 3, 3, 183, 0, 1, 177]
abbrev dktX1_init_0 : List UInt8 := dkwX1_init_0 ++ []
theorem dksX1_init_0 : cX1_init.data.toList.drop 0 = dktX1_init_0 := by decide +kernel
theorem dX1_init_0 : decode cX1_init 0 = .ok (.aload_n 0, 1) := dk_42 (dk_at dksX1_init_0 0 rfl rfl)
theorem dX1_init_1 : decode cX1_init 1 = .ok (.aconst_null, 1) := dk_1 (dk_at dksX1_init_0 1 rfl rfl)
theorem dX1_init_2 : decode cX1_init 2 = .ok (.aconst_null, 1) := dk_1 (dk_at dksX1_init_0 2 rfl rfl)
theorem dX1_init_3 : decode cX1_init 3 = .ok (.iconst 0, 1) := dk_3 (dk_at dksX1_init_0 3 rfl rfl)
theorem dX1_init_4 : decode cX1_init 4 = .ok (.iconst 0, 1) := dk_3 (dk_at dksX1_init_0 4 rfl rfl)
theorem dX1_init_5 : decode cX1_init 5 = .ok (.invokespecial 1, 3) := dk_183 0 1 (dk_at dksX1_init_0 5 rfl rfl)
theorem dX1_init_8 : decode cX1_init 8 = .ok (.return_, 1) := dk_177 (dk_at dksX1_init_0 8 rfl rfl)
theorem q105 : (Jvm.Cond.initialized "ThunderCasks$Refusal") ∈ lw_all := lw_g (lw_at lw_m1 5 rfl) rfl
theorem q134 : (Jvm.Cond.instantiable "ThunderCasks$Refusal" (7 : Nat)) ∈ lw_all := lw_g (lw_at lw_m1 34 rfl) rfl
theorem q135 : (Jvm.Cond.castable "ThunderCasks$Refusal" "ThunderCasks$Refusal") ∈ lw_tbl := lw_at lw_m1 35 rfl
theorem q142 : (Jvm.Cond.selects "ThunderCasks$Refusal" ({ cls := "java/lang/Throwable", name := "fillInStackTrace", desc := "(I)Ljava/lang/Throwable;" } : Jvm.MethodName) ({ cls := "java/lang/Throwable", name := "fillInStackTrace", desc := "(I)Ljava/lang/Throwable;" } : Jvm.MethodName)) ∈ lw_all := lw_g (lw_at lw_m1 42 rfl) rfl
theorem q143 : (Jvm.Cond.selects "ThunderCasks$Refusal" ({ cls := "java/lang/Throwable", name := "fillInStackTrace", desc := "()Ljava/lang/Throwable;" } : Jvm.MethodName) ({ cls := "java/lang/Throwable", name := "fillInStackTrace", desc := "()Ljava/lang/Throwable;" } : Jvm.MethodName)) ∈ lw_all := lw_g (lw_at lw_m1 43 rfl) rfl
theorem q144 : (Jvm.Cond.lays "ThunderCasks$Refusal" "java/lang/Throwable" "cause" "Ljava/lang/Throwable;") ∈ lw_all := lw_g (lw_at lw_m1 44 rfl) rfl
theorem q146 : (Jvm.Cond.lays "ThunderCasks$Refusal" "java/lang/Throwable" "stackTrace" "[Ljava/lang/StackTraceElement;") ∈ lw_all := lw_g (lw_at lw_m1 46 rfl) rfl
theorem q148 : (Jvm.Cond.lays "ThunderCasks$Refusal" "java/lang/Throwable" "suppressedExceptions" "Ljava/util/List;") ∈ lw_all := lw_g (lw_at lw_m1 48 rfl) rfl
theorem q150 : (Jvm.Cond.lays "ThunderCasks$Refusal" "java/lang/Throwable" "detailMessage" "Ljava/lang/String;") ∈ lw_all := lw_g (lw_at lw_m1 50 rfl) rfl
theorem q152 : (Jvm.Cond.lays "ThunderCasks$Refusal" "java/lang/Throwable" "backtrace" "Ljava/lang/Object;") ∈ lw_all := lw_g (lw_at lw_m1 52 rfl) rfl
theorem q174 : (Jvm.Cond.instanceMethod ({ cls := "ThunderCasks$Refusal", name := "<init>", desc := "()V" } : Jvm.MethodName)) ∈ lw_all := lw_g (lw_at lw_m1 74 rfl) rfl
theorem q175 : (Jvm.Cond.code ({ cls := "ThunderCasks$Refusal", name := "<init>", desc := "()V" } : Jvm.MethodName) prog_9_method_1_code (1 : Nat) (Option.none : Option Jvm.ClassFile.FieldType)) ∈ lw_all := lw_g (lw_at lw_m1 75 rfl) rfl
theorem q176 : (Jvm.Cond.methodLink "ThunderCasks$Refusal" (1 : Nat) ({ cls := "java/lang/RuntimeException", name := "<init>", desc := "(Ljava/lang/String;Ljava/lang/Throwable;ZZ)V" } : Jvm.MethodName)) ∈ lw_all := lw_g (lw_at lw_m1 76 rfl) rfl
theorem q191 : (Jvm.Cond.lays "ThunderCasks$Refusal" "ThunderCasks$Refusal" "finding" "I") ∈ lw_all := lw_g (lw_at lw_m1 91 rfl) rfl
theorem q192 : (Jvm.Cond.soleField "ThunderCasks$Refusal" "finding") ∈ lw_all := lw_g (lw_at lw_m1 92 rfl) rfl
theorem q197 : (Jvm.Cond.lays "ThunderCasks$Refusal" "java/lang/Throwable" "depth" "I") ∈ lw_all := lw_g (lw_at lw_m1 97 rfl) rfl
theorem q200 : (Jvm.Cond.superclass "ThunderCasks$Refusal" "java/lang/RuntimeException") ∈ lw_all := lw_g (lw_at lw_m1 100 rfl) rfl
theorem in_X1 : ∀ w ∈ wsX10, w ∈ lw_all := lw_in wsX10 [144, 146, 148, 150, 152, 197, 191] (by decide +kernel) (by decide +kernel)
/-! ThunderCasks$Wrong -/
set_option maxRecDepth 100000
def RX3 : String := "ThunderCasks$Wrong"
def TX3 : u_T := fun k => match k with
  | 0 => ("java/lang/Throwable", "cause", "Ljava/lang/Throwable;", false)
  | 1 => ("java/lang/Throwable", "stackTrace", "[Ljava/lang/StackTraceElement;", false)
  | 2 => ("java/lang/Throwable", "suppressedExceptions", "Ljava/util/List;", false)
  | 3 => ("java/lang/Throwable", "detailMessage", "Ljava/lang/String;", false)
  | 4 => ("java/lang/Throwable", "backtrace", "Ljava/lang/Object;", false)
  | _ => ("java/lang/Throwable", "depth", "I", false)
def tyX3 : Nat → FieldType := fun k => match k with
  | 0 => .object "java/lang/Throwable"
  | 1 => .array (.object "java/lang/StackTraceElement")
  | 2 => .object "java/util/List"
  | 3 => .object "java/lang/String"
  | 4 => .object "java/lang/Object"
  | _ => .int
abbrev wsX30 : List Cond := u_ws RX3 TX3 6
theorem nmX3 : ∀ a, a < 6 → ∀ b, b < 6 → a ≠ b → (TX3 a).2.1 ≠ (TX3 b).2.1 := by decide +kernel
theorem tyX3_ok : ∀ k, k < 6 → parseFieldDescriptor (TX3 k).2.2.1 = some (tyX3 k) := by decide +kernel
abbrev cX3_init : ByteArray := prog_14_method_1_code
def yX3_init : MethodName := ⟨RX3, "<init>", "()V"⟩
def dkwX3_init_0 : List UInt8 := [42, 1, 1, 3, 3, 183, 0, 1, 177]
abbrev dktX3_init_0 : List UInt8 := dkwX3_init_0 ++ []
theorem dksX3_init_0 : cX3_init.data.toList.drop 0 = dktX3_init_0 := by decide +kernel
theorem dX3_init_0 : decode cX3_init 0 = .ok (.aload_n 0, 1) := dk_42 (dk_at dksX3_init_0 0 rfl rfl)
theorem dX3_init_1 : decode cX3_init 1 = .ok (.aconst_null, 1) := dk_1 (dk_at dksX3_init_0 1 rfl rfl)
theorem dX3_init_2 : decode cX3_init 2 = .ok (.aconst_null, 1) := dk_1 (dk_at dksX3_init_0 2 rfl rfl)
theorem dX3_init_3 : decode cX3_init 3 = .ok (.iconst 0, 1) := dk_3 (dk_at dksX3_init_0 3 rfl rfl)
theorem dX3_init_4 : decode cX3_init 4 = .ok (.iconst 0, 1) := dk_3 (dk_at dksX3_init_0 4 rfl rfl)
theorem dX3_init_5 : decode cX3_init 5 = .ok (.invokespecial 1, 3) := dk_183 0 1 (dk_at dksX3_init_0 5 rfl rfl)
theorem dX3_init_8 : decode cX3_init 8 = .ok (.return_, 1) := dk_177 (dk_at dksX3_init_0 8 rfl rfl)
theorem q107 : (Jvm.Cond.initialized "ThunderCasks$Wrong") ∈ lw_all := lw_g (lw_at lw_m1 7 rfl) rfl
theorem q166 : (Jvm.Cond.selects "ThunderCasks$Wrong" ({ cls := "java/lang/Throwable", name := "fillInStackTrace", desc := "()Ljava/lang/Throwable;" } : Jvm.MethodName) ({ cls := "java/lang/Throwable", name := "fillInStackTrace", desc := "()Ljava/lang/Throwable;" } : Jvm.MethodName)) ∈ lw_all := lw_g (lw_at lw_m1 66 rfl) rfl
theorem q208 : (Jvm.Cond.instantiable "ThunderCasks$Wrong" (6 : Nat)) ∈ lw_all := lw_g (lw_at lw_m1 108 rfl) rfl
theorem q209 : (Jvm.Cond.castable "ThunderCasks$Wrong" "ThunderCasks$Wrong") ∈ lw_tbl := lw_at lw_m1 109 rfl
theorem q210 : (Jvm.Cond.selects "ThunderCasks$Wrong" ({ cls := "java/lang/Throwable", name := "fillInStackTrace", desc := "(I)Ljava/lang/Throwable;" } : Jvm.MethodName) ({ cls := "java/lang/Throwable", name := "fillInStackTrace", desc := "(I)Ljava/lang/Throwable;" } : Jvm.MethodName)) ∈ lw_all := lw_g (lw_at lw_m1 110 rfl) rfl
theorem q211 : (Jvm.Cond.lays "ThunderCasks$Wrong" "java/lang/Throwable" "cause" "Ljava/lang/Throwable;") ∈ lw_all := lw_g (lw_at lw_m1 111 rfl) rfl
theorem q212 : (Jvm.Cond.lays "ThunderCasks$Wrong" "java/lang/Throwable" "stackTrace" "[Ljava/lang/StackTraceElement;") ∈ lw_all := lw_g (lw_at lw_m1 112 rfl) rfl
theorem q213 : (Jvm.Cond.lays "ThunderCasks$Wrong" "java/lang/Throwable" "suppressedExceptions" "Ljava/util/List;") ∈ lw_all := lw_g (lw_at lw_m1 113 rfl) rfl
theorem q214 : (Jvm.Cond.lays "ThunderCasks$Wrong" "java/lang/Throwable" "detailMessage" "Ljava/lang/String;") ∈ lw_all := lw_g (lw_at lw_m1 114 rfl) rfl
theorem q215 : (Jvm.Cond.lays "ThunderCasks$Wrong" "java/lang/Throwable" "backtrace" "Ljava/lang/Object;") ∈ lw_all := lw_g (lw_at lw_m1 115 rfl) rfl
theorem q217 : (Jvm.Cond.instanceMethod ({ cls := "ThunderCasks$Wrong", name := "<init>", desc := "()V" } : Jvm.MethodName)) ∈ lw_all := lw_g (lw_at lw_m1 117 rfl) rfl
theorem q218 : (Jvm.Cond.code ({ cls := "ThunderCasks$Wrong", name := "<init>", desc := "()V" } : Jvm.MethodName) prog_14_method_1_code (1 : Nat) (Option.none : Option Jvm.ClassFile.FieldType)) ∈ lw_all := lw_g (lw_at lw_m1 118 rfl) rfl
theorem q219 : (Jvm.Cond.methodLink "ThunderCasks$Wrong" (1 : Nat) ({ cls := "java/lang/RuntimeException", name := "<init>", desc := "(Ljava/lang/String;Ljava/lang/Throwable;ZZ)V" } : Jvm.MethodName)) ∈ lw_all := lw_g (lw_at lw_m1 119 rfl) rfl
theorem q220 : (Jvm.Cond.lays "ThunderCasks$Wrong" "java/lang/Throwable" "depth" "I") ∈ lw_all := lw_g (lw_at lw_m1 120 rfl) rfl
theorem q221 : (Jvm.Cond.superclass "ThunderCasks$Wrong" "java/lang/RuntimeException") ∈ lw_all := lw_g (lw_at lw_m1 121 rfl) rfl
theorem in_X3 : ∀ w ∈ wsX30, w ∈ lw_all := lw_in wsX30 [211, 212, 213, 214, 215, 220] (by decide +kernel) (by decide +kernel)
/-! ThunderCasks$Slot -/
set_option maxRecDepth 100000
def RX5 : String := "ThunderCasks$Slot"
def TX5 : u_T := fun k => match k with
  | _ => ("ThunderCasks$Slot", "thing", "Ljava/lang/Object;", false)
def tyX5 : Nat → FieldType := fun k => match k with
  | _ => .object "java/lang/Object"
abbrev wsX50 : List Cond := u_ws RX5 TX5 1
theorem nmX5 : ∀ a, a < 1 → ∀ b, b < 1 → a ≠ b → (TX5 a).2.1 ≠ (TX5 b).2.1 := by decide +kernel
theorem tyX5_ok : ∀ k, k < 1 → parseFieldDescriptor (TX5 k).2.2.1 = some (tyX5 k) := by decide +kernel
abbrev cX5_init : ByteArray := prog_11_method_1_code
def yX5_init : MethodName := ⟨RX5, "<init>", "()V"⟩
theorem dX5_init_0 : decode cX5_init 0 = .ok (.aload_n 0, 1) := by decide +kernel
theorem dX5_init_1 : decode cX5_init 1 = .ok (.invokespecial 1, 3) := by decide +kernel
theorem dX5_init_4 : decode cX5_init 4 = .ok (.return_, 1) := by decide +kernel
theorem q109 : (Jvm.Cond.initialized "ThunderCasks$Slot") ∈ lw_all := lw_g (lw_at lw_m1 9 rfl) rfl
theorem q304 : (Jvm.Cond.instantiable "ThunderCasks$Slot" (1 : Nat)) ∈ lw_all := lw_g (lw_at lw_m1 204 rfl) rfl
theorem q306 : (Jvm.Cond.instanceMethod ({ cls := "ThunderCasks$Slot", name := "<init>", desc := "()V" } : Jvm.MethodName)) ∈ lw_all := lw_g (lw_at lw_m1 206 rfl) rfl
theorem q307 : (Jvm.Cond.code ({ cls := "ThunderCasks$Slot", name := "<init>", desc := "()V" } : Jvm.MethodName) prog_11_method_1_code (1 : Nat) (Option.none : Option Jvm.ClassFile.FieldType)) ∈ lw_all := lw_g (lw_at lw_m1 207 rfl) rfl
theorem q308 : (Jvm.Cond.methodLink "ThunderCasks$Slot" (1 : Nat) ({ cls := "java/lang/Object", name := "<init>", desc := "()V" } : Jvm.MethodName)) ∈ lw_all := lw_g (lw_at lw_m1 208 rfl) rfl
theorem q310 : (Jvm.Cond.lays "ThunderCasks$Slot" "ThunderCasks$Slot" "thing" "Ljava/lang/Object;") ∈ lw_all := lw_g (lw_at lw_m1 210 rfl) rfl
theorem q311 : (Jvm.Cond.soleField "ThunderCasks$Slot" "thing") ∈ lw_all := lw_g (lw_at lw_m1 211 rfl) rfl
theorem q312 : (Jvm.Cond.superclass "ThunderCasks$Slot" "java/lang/Object") ∈ lw_all := lw_g (lw_at lw_m1 212 rfl) rfl
theorem in_X5 : ∀ w ∈ wsX50, w ∈ lw_all := lw_in wsX50 [310] (by decide +kernel) (by decide +kernel)
/-! ThunderCasks$Cask -/
set_option maxRecDepth 100000
def RX6 : String := "ThunderCasks$Cask"
def TX6 : u_T := fun k => match k with
  | 0 => ("ThunderCasks$Cask", "number", "I", true)
  | _ => ("ThunderCasks$Cask", "this$0", "LThunderCasks;", true)
def tyX6 : Nat → FieldType := fun k => match k with
  | 0 => .int
  | _ => .object "ThunderCasks"
abbrev wsX60 : List Cond := u_ws RX6 TX6 2
theorem nmX6 : ∀ a, a < 2 → ∀ b, b < 2 → a ≠ b → (TX6 a).2.1 ≠ (TX6 b).2.1 := by decide +kernel
theorem tyX6_ok : ∀ k, k < 2 → parseFieldDescriptor (TX6 k).2.2.1 = some (tyX6 k) := by decide +kernel
abbrev cX6_init : ByteArray := prog_2_method_1_code
def yX6_init : MethodName := ⟨RX6, "<init>", "(LThunderCasks;I)V"⟩
def dkwX6_init_0 : List UInt8 := [42, 43, 181, 0, 3, 42, 183, 0, 9, 42, 28, 181, 0, 15, 177]
abbrev dktX6_init_0 : List UInt8 := dkwX6_init_0 ++ []
theorem dksX6_init_0 : cX6_init.data.toList.drop 0 = dktX6_init_0 := by decide +kernel
theorem dX6_init_0 : decode cX6_init 0 = .ok (.aload_n 0, 1) := dk_42 (dk_at dksX6_init_0 0 rfl rfl)
theorem dX6_init_1 : decode cX6_init 1 = .ok (.aload_n 1, 1) := dk_43 (dk_at dksX6_init_0 1 rfl rfl)
theorem dX6_init_2 : decode cX6_init 2 = .ok (.putfield 3, 3) := dk_181 0 3 (dk_at dksX6_init_0 2 rfl rfl)
theorem dX6_init_5 : decode cX6_init 5 = .ok (.aload_n 0, 1) := dk_42 (dk_at dksX6_init_0 5 rfl rfl)
theorem dX6_init_6 : decode cX6_init 6 = .ok (.invokespecial 9, 3) := dk_183 0 9 (dk_at dksX6_init_0 6 rfl rfl)
theorem dX6_init_9 : decode cX6_init 9 = .ok (.aload_n 0, 1) := dk_42 (dk_at dksX6_init_0 9 rfl rfl)
theorem dX6_init_10 : decode cX6_init 10 = .ok (.iload_n 2, 1) := dk_28 (dk_at dksX6_init_0 10 rfl rfl)
theorem dX6_init_11 : decode cX6_init 11 = .ok (.putfield 15, 3) := dk_181 0 15 (dk_at dksX6_init_0 11 rfl rfl)
theorem dX6_init_14 : decode cX6_init 14 = .ok (.return_, 1) := dk_177 (dk_at dksX6_init_0 14 rfl rfl)
abbrev cX6_kind : ByteArray := prog_2_method_2_code
def yX6_kind : MethodName := ⟨RX6, "kind", "()I"⟩
theorem dX6_kind_0 : decode cX6_kind 0 = .ok (.iconst 0, 1) := by decide +kernel
theorem dX6_kind_1 : decode cX6_kind 1 = .ok (.ireturn, 1) := by decide +kernel
abbrev cX6_told : ByteArray := prog_2_method_4_code
def yX6_told : MethodName := ⟨RX6, "told", "(I)I"⟩
def dkwX6_told_0 : List UInt8 := [42, 180, 0, 3, 180, 0, 23, 180, 0, 27, 27, 50, 42, 180, 0, 15, 46, 172]
abbrev dktX6_told_0 : List UInt8 := dkwX6_told_0 ++ []
theorem dksX6_told_0 : cX6_told.data.toList.drop 0 = dktX6_told_0 := by decide +kernel
theorem dX6_told_0 : decode cX6_told 0 = .ok (.aload_n 0, 1) := dk_42 (dk_at dksX6_told_0 0 rfl rfl)
theorem dX6_told_1 : decode cX6_told 1 = .ok (.getfield 3, 3) := dk_180 0 3 (dk_at dksX6_told_0 1 rfl rfl)
theorem dX6_told_4 : decode cX6_told 4 = .ok (.getfield 23, 3) := dk_180 0 23 (dk_at dksX6_told_0 4 rfl rfl)
theorem dX6_told_7 : decode cX6_told 7 = .ok (.getfield 27, 3) := dk_180 0 27 (dk_at dksX6_told_0 7 rfl rfl)
theorem dX6_told_10 : decode cX6_told 10 = .ok (.iload_n 1, 1) := dk_27 (dk_at dksX6_told_0 10 rfl rfl)
theorem dX6_told_11 : decode cX6_told 11 = .ok (.aaload, 1) := dk_50 (dk_at dksX6_told_0 11 rfl rfl)
theorem dX6_told_12 : decode cX6_told 12 = .ok (.aload_n 0, 1) := dk_42 (dk_at dksX6_told_0 12 rfl rfl)
theorem dX6_told_13 : decode cX6_told 13 = .ok (.getfield 15, 3) := dk_180 0 15 (dk_at dksX6_told_0 13 rfl rfl)
theorem dX6_told_16 : decode cX6_told 16 = .ok (.iaload, 1) := dk_46 (dk_at dksX6_told_0 16 rfl rfl)
theorem dX6_told_17 : decode cX6_told 17 = .ok (.ireturn, 1) := dk_172 (dk_at dksX6_told_0 17 rfl rfl)
abbrev cX6_loud : ByteArray := prog_2_method_5_code
def yX6_loud : MethodName := ⟨RX6, "loud", "()I"⟩
def dkwX6_loud_0 : List UInt8 := [42, 5, 182, 0, 33, 172]
abbrev dktX6_loud_0 : List UInt8 := dkwX6_loud_0 ++ []
theorem dksX6_loud_0 : cX6_loud.data.toList.drop 0 = dktX6_loud_0 := by decide +kernel
theorem dX6_loud_0 : decode cX6_loud 0 = .ok (.aload_n 0, 1) := dk_42 (dk_at dksX6_loud_0 0 rfl rfl)
theorem dX6_loud_1 : decode cX6_loud 1 = .ok (.iconst 2, 1) := dk_5 (dk_at dksX6_loud_0 1 rfl rfl)
theorem dX6_loud_2 : decode cX6_loud 2 = .ok (.invokevirtual 33, 3) := dk_182 0 33 (dk_at dksX6_loud_0 2 rfl rfl)
theorem dX6_loud_5 : decode cX6_loud 5 = .ok (.ireturn, 1) := dk_172 (dk_at dksX6_loud_0 5 rfl rfl)
abbrev cX6_leaks : ByteArray := prog_2_method_6_code
def yX6_leaks : MethodName := ⟨RX6, "leaks", "()I"⟩
theorem dX6_leaks_0 : decode cX6_leaks 0 = .ok (.iconst 1, 1) := by decide +kernel
theorem dX6_leaks_1 : decode cX6_leaks 1 = .ok (.ireturn, 1) := by decide +kernel
abbrev cX6_bears : ByteArray := prog_2_method_7_code
def yX6_bears : MethodName := ⟨RX6, "bears", "()I"⟩
def dkwX6_bears_1 : List UInt8 := [100, 184, 0, 41, 172]
abbrev dktX6_bears_1 : List UInt8 := dkwX6_bears_1 ++ []
def dkwX6_bears_0 : List UInt8 := [3, 42, 7, 182, 0, 33, 8, 42, 180, 0, 3, 180, 0, 23, 180, 0, 37, 42, 4, 182, 0, 33, 46, 104]
abbrev dktX6_bears_0 : List UInt8 := dkwX6_bears_0 ++ dktX6_bears_1
theorem dksX6_bears_0 : cX6_bears.data.toList.drop 0 = dktX6_bears_0 := by decide +kernel
theorem dksX6_bears_1 : cX6_bears.data.toList.drop 24 = dktX6_bears_1 := dk_seg dksX6_bears_0 24 rfl rfl
theorem dX6_bears_0 : decode cX6_bears 0 = .ok (.iconst 0, 1) := dk_3 (dk_at dksX6_bears_0 0 rfl rfl)
theorem dX6_bears_1 : decode cX6_bears 1 = .ok (.aload_n 0, 1) := dk_42 (dk_at dksX6_bears_0 1 rfl rfl)
theorem dX6_bears_2 : decode cX6_bears 2 = .ok (.iconst 4, 1) := dk_7 (dk_at dksX6_bears_0 2 rfl rfl)
theorem dX6_bears_3 : decode cX6_bears 3 = .ok (.invokevirtual 33, 3) := dk_182 0 33 (dk_at dksX6_bears_0 3 rfl rfl)
theorem dX6_bears_6 : decode cX6_bears 6 = .ok (.iconst 5, 1) := dk_8 (dk_at dksX6_bears_0 6 rfl rfl)
theorem dX6_bears_7 : decode cX6_bears 7 = .ok (.aload_n 0, 1) := dk_42 (dk_at dksX6_bears_0 7 rfl rfl)
theorem dX6_bears_8 : decode cX6_bears 8 = .ok (.getfield 3, 3) := dk_180 0 3 (dk_at dksX6_bears_0 8 rfl rfl)
theorem dX6_bears_11 : decode cX6_bears 11 = .ok (.getfield 23, 3) := dk_180 0 23 (dk_at dksX6_bears_0 11 rfl rfl)
theorem dX6_bears_14 : decode cX6_bears 14 = .ok (.getfield 37, 3) := dk_180 0 37 (dk_at dksX6_bears_0 14 rfl rfl)
theorem dX6_bears_17 : decode cX6_bears 17 = .ok (.aload_n 0, 1) := dk_42 (dk_at dksX6_bears_0 17 rfl rfl)
theorem dX6_bears_18 : decode cX6_bears 18 = .ok (.iconst 1, 1) := dk_4 (dk_at dksX6_bears_0 18 rfl rfl)
theorem dX6_bears_19 : decode cX6_bears 19 = .ok (.invokevirtual 33, 3) := dk_182 0 33 (dk_at dksX6_bears_0 19 rfl rfl)
theorem dX6_bears_22 : decode cX6_bears 22 = .ok (.iaload, 1) := dk_46 (dk_at dksX6_bears_0 22 rfl rfl)
theorem dX6_bears_23 : decode cX6_bears 23 = .ok (.imul, 1) := dk_104 (dk_at dksX6_bears_0 23 rfl rfl)
theorem dX6_bears_24 : decode cX6_bears 24 = .ok (.isub, 1) := dk_100 (dk_at dksX6_bears_1 0 rfl rfl)
theorem dX6_bears_25 : decode cX6_bears 25 = .ok (.invokestatic 41, 3) := dk_184 0 41 (dk_at dksX6_bears_1 1 rfl rfl)
theorem dX6_bears_28 : decode cX6_bears 28 = .ok (.ireturn, 1) := dk_172 (dk_at dksX6_bears_1 4 rfl rfl)
abbrev cX6_isUnder : ByteArray := prog_2_method_3_code
def yX6_isUnder : MethodName := ⟨RX6, "isUnder", "(I)Z"⟩
def dkwX6_isUnder_0 : List UInt8 := [27, 153, 0, 11, 27, 42, 182, 0, 19, 160, 0, 7, 4, 167, 0, 4, 3, 172]
abbrev dktX6_isUnder_0 : List UInt8 := dkwX6_isUnder_0 ++ []
theorem dksX6_isUnder_0 : cX6_isUnder.data.toList.drop 0 = dktX6_isUnder_0 := by decide +kernel
theorem dX6_isUnder_0 : decode cX6_isUnder 0 = .ok (.iload_n 1, 1) := dk_27 (dk_at dksX6_isUnder_0 0 rfl rfl)
theorem dX6_isUnder_1 : decode cX6_isUnder 1 = .ok (.ifCond .eq 11, 3) := dk_153 0 11 (dk_at dksX6_isUnder_0 1 rfl rfl)
theorem dX6_isUnder_4 : decode cX6_isUnder 4 = .ok (.iload_n 1, 1) := dk_27 (dk_at dksX6_isUnder_0 4 rfl rfl)
theorem dX6_isUnder_5 : decode cX6_isUnder 5 = .ok (.aload_n 0, 1) := dk_42 (dk_at dksX6_isUnder_0 5 rfl rfl)
theorem dX6_isUnder_6 : decode cX6_isUnder 6 = .ok (.invokevirtual 19, 3) := dk_182 0 19 (dk_at dksX6_isUnder_0 6 rfl rfl)
theorem dX6_isUnder_9 : decode cX6_isUnder 9 = .ok (.if_icmp .ne 7, 3) := dk_160 0 7 (dk_at dksX6_isUnder_0 9 rfl rfl)
theorem dX6_isUnder_12 : decode cX6_isUnder 12 = .ok (.iconst 1, 1) := dk_4 (dk_at dksX6_isUnder_0 12 rfl rfl)
theorem dX6_isUnder_13 : decode cX6_isUnder 13 = .ok (.goto 4, 3) := dk_167 0 4 (dk_at dksX6_isUnder_0 13 rfl rfl)
theorem dX6_isUnder_16 : decode cX6_isUnder 16 = .ok (.iconst 0, 1) := dk_3 (dk_at dksX6_isUnder_0 16 rfl rfl)
theorem dX6_isUnder_17 : decode cX6_isUnder 17 = .ok (.ireturn, 1) := dk_172 (dk_at dksX6_isUnder_0 17 rfl rfl)
theorem q110 : (Jvm.Cond.initialized "ThunderCasks$Cask") ∈ lw_all := lw_g (lw_at lw_m1 10 rfl) rfl
theorem q231 : (Jvm.Cond.fieldLinkNest "ThunderCasks$Cask" (37 : Nat) "ThunderCasks$World" "frost" "[I" "ThunderCasks") ∈ lw_tbl := lw_at lw_m1 131 rfl
theorem q243 : (Jvm.Cond.fieldLinkNest "ThunderCasks$Cask" (27 : Nat) "ThunderCasks$World" "cask" "[[I" "ThunderCasks") ∈ lw_tbl := lw_at lw_m1 143 rfl
theorem q323 : (Jvm.Cond.instanceMethod ({ cls := "ThunderCasks$Cask", name := "<init>", desc := "(LThunderCasks;I)V" } : Jvm.MethodName)) ∈ lw_all := lw_g (lw_at lw_m1 223 rfl) rfl
theorem q324 : (Jvm.Cond.code ({ cls := "ThunderCasks$Cask", name := "<init>", desc := "(LThunderCasks;I)V" } : Jvm.MethodName) prog_2_method_1_code (3 : Nat) (Option.none : Option Jvm.ClassFile.FieldType)) ∈ lw_all := lw_g (lw_at lw_m1 224 rfl) rfl
theorem q325 : (Jvm.Cond.methodLink "ThunderCasks$Cask" (9 : Nat) ({ cls := "java/lang/Object", name := "<init>", desc := "()V" } : Jvm.MethodName)) ∈ lw_all := lw_g (lw_at lw_m1 225 rfl) rfl
theorem q327 : (Jvm.Cond.fieldLink "ThunderCasks$Cask" (15 : Nat) "ThunderCasks$Cask" "number" "I") ∈ lw_all := lw_g (lw_at lw_m1 227 rfl) rfl
theorem q329 : (Jvm.Cond.fieldLink "ThunderCasks$Cask" (3 : Nat) "ThunderCasks$Cask" "this$0" "LThunderCasks;") ∈ lw_all := lw_g (lw_at lw_m1 229 rfl) rfl
theorem q333 : (Jvm.Cond.soleField "ThunderCasks$Cask" "number") ∈ lw_all := lw_g (lw_at lw_m1 233 rfl) rfl
theorem q335 : (Jvm.Cond.soleField "ThunderCasks$Cask" "this$0") ∈ lw_all := lw_g (lw_at lw_m1 235 rfl) rfl
theorem q402 : (Jvm.Cond.instantiable "ThunderCasks$Cask" (2 : Nat)) ∈ lw_all := lw_g (lw_at lw_m2 62 rfl) rfl
theorem q404 : (Jvm.Cond.laysFinal "ThunderCasks$Cask" "ThunderCasks$Cask" "number" "I") ∈ lw_all := lw_g (lw_at lw_m2 64 rfl) rfl
theorem q405 : (Jvm.Cond.laysFinal "ThunderCasks$Cask" "ThunderCasks$Cask" "this$0" "LThunderCasks;") ∈ lw_all := lw_g (lw_at lw_m2 65 rfl) rfl
theorem q406 : (Jvm.Cond.superclass "ThunderCasks$Cask" "java/lang/Object") ∈ lw_all := lw_g (lw_at lw_m2 66 rfl) rfl
theorem q411 : (Jvm.Cond.fieldLinkNest "ThunderCasks$Cask" (23 : Nat) "ThunderCasks" "d" "LThunderCasks$World;" "ThunderCasks") ∈ lw_tbl := lw_at lw_m2 71 rfl
theorem q504 : (Jvm.Cond.instanceMethod ({ cls := "ThunderCasks$Cask", name := "kind", desc := "()I" } : Jvm.MethodName)) ∈ lw_all := lw_g (lw_at lw_m2 164 rfl) rfl
theorem q505 : (Jvm.Cond.selects "ThunderCasks$Cask" ({ cls := "ThunderCasks$Cask", name := "kind", desc := "()I" } : Jvm.MethodName) ({ cls := "ThunderCasks$Cask", name := "kind", desc := "()I" } : Jvm.MethodName)) ∈ lw_all := lw_g (lw_at lw_m2 165 rfl) rfl
theorem q506 : (Jvm.Cond.sameMethod "ThunderCasks$Cask" "ThunderCasks$Cask" "kind" "()I") ∈ lw_all := lw_g (lw_at lw_m2 166 rfl) rfl
theorem q531 : (Jvm.Cond.code ({ cls := "ThunderCasks$Cask", name := "kind", desc := "()I" } : Jvm.MethodName) prog_2_method_2_code (1 : Nat) (Option.some Jvm.ClassFile.FieldType.int)) ∈ lw_all := lw_g (lw_at lw_m2 191 rfl) rfl
theorem q533 : (Jvm.Cond.instanceMethod ({ cls := "ThunderCasks$Cask", name := "loud", desc := "()I" } : Jvm.MethodName)) ∈ lw_all := lw_g (lw_at lw_m2 193 rfl) rfl
theorem q534 : (Jvm.Cond.selects "ThunderCasks$Cask" ({ cls := "ThunderCasks$Cask", name := "loud", desc := "()I" } : Jvm.MethodName) ({ cls := "ThunderCasks$Cask", name := "loud", desc := "()I" } : Jvm.MethodName)) ∈ lw_all := lw_g (lw_at lw_m2 194 rfl) rfl
theorem q535 : (Jvm.Cond.sameMethod "ThunderCasks$Cask" "ThunderCasks$Cask" "loud" "()I") ∈ lw_all := lw_g (lw_at lw_m2 195 rfl) rfl
theorem q542 : (Jvm.Cond.declares ({ cls := "ThunderCasks$Cask", name := "told", desc := "(I)I" } : Jvm.MethodName)) ∈ lw_tbl := lw_at lw_m2 202 rfl
theorem q545 : (Jvm.Cond.instanceMethod ({ cls := "ThunderCasks$Cask", name := "told", desc := "(I)I" } : Jvm.MethodName)) ∈ lw_all := lw_g (lw_at lw_m2 205 rfl) rfl
theorem q546 : (Jvm.Cond.code ({ cls := "ThunderCasks$Cask", name := "told", desc := "(I)I" } : Jvm.MethodName) prog_2_method_4_code (2 : Nat) (Option.some Jvm.ClassFile.FieldType.int)) ∈ lw_all := lw_g (lw_at lw_m2 206 rfl) rfl
theorem q596 : (Jvm.Cond.code ({ cls := "ThunderCasks$Cask", name := "loud", desc := "()I" } : Jvm.MethodName) prog_2_method_5_code (1 : Nat) (Option.some Jvm.ClassFile.FieldType.int)) ∈ lw_all := lw_g (lw_at lw_m3 16 rfl) rfl
theorem q597 : (Jvm.Cond.methodLink "ThunderCasks$Cask" (33 : Nat) ({ cls := "ThunderCasks$Cask", name := "told", desc := "(I)I" } : Jvm.MethodName)) ∈ lw_all := lw_g (lw_at lw_m3 17 rfl) rfl
theorem q599 : (Jvm.Cond.instanceMethod ({ cls := "ThunderCasks$Cask", name := "leaks", desc := "()I" } : Jvm.MethodName)) ∈ lw_all := lw_g (lw_at lw_m3 19 rfl) rfl
theorem q600 : (Jvm.Cond.selects "ThunderCasks$Cask" ({ cls := "ThunderCasks$Cask", name := "leaks", desc := "()I" } : Jvm.MethodName) ({ cls := "ThunderCasks$Cask", name := "leaks", desc := "()I" } : Jvm.MethodName)) ∈ lw_all := lw_g (lw_at lw_m3 20 rfl) rfl
theorem q601 : (Jvm.Cond.sameMethod "ThunderCasks$Cask" "ThunderCasks$Cask" "leaks" "()I") ∈ lw_all := lw_g (lw_at lw_m3 21 rfl) rfl
theorem q619 : (Jvm.Cond.code ({ cls := "ThunderCasks$Cask", name := "leaks", desc := "()I" } : Jvm.MethodName) prog_2_method_6_code (1 : Nat) (Option.some Jvm.ClassFile.FieldType.int)) ∈ lw_all := lw_g (lw_at lw_m3 39 rfl) rfl
theorem q621 : (Jvm.Cond.instanceMethod ({ cls := "ThunderCasks$Cask", name := "bears", desc := "()I" } : Jvm.MethodName)) ∈ lw_all := lw_g (lw_at lw_m3 41 rfl) rfl
theorem q622 : (Jvm.Cond.selects "ThunderCasks$Cask" ({ cls := "ThunderCasks$Cask", name := "bears", desc := "()I" } : Jvm.MethodName) ({ cls := "ThunderCasks$Cask", name := "bears", desc := "()I" } : Jvm.MethodName)) ∈ lw_all := lw_g (lw_at lw_m3 42 rfl) rfl
theorem q623 : (Jvm.Cond.sameMethod "ThunderCasks$Cask" "ThunderCasks$Cask" "bears" "()I") ∈ lw_all := lw_g (lw_at lw_m3 43 rfl) rfl
theorem q638 : (Jvm.Cond.code ({ cls := "ThunderCasks$Cask", name := "bears", desc := "()I" } : Jvm.MethodName) prog_2_method_7_code (1 : Nat) (Option.some Jvm.ClassFile.FieldType.int)) ∈ lw_all := lw_g (lw_at lw_m3 58 rfl) rfl
theorem q639 : (Jvm.Cond.methodLink "ThunderCasks$Cask" (41 : Nat) ({ cls := "java/lang/Math", name := "max", desc := "(II)I" } : Jvm.MethodName)) ∈ lw_all := lw_g (lw_at lw_m3 59 rfl) rfl
theorem q659 : (Jvm.Cond.castable "ThunderCasks$Cask" "ThunderCasks$Thunders") ∈ lw_tbl := lw_at lw_m3 79 rfl
theorem q660 : (Jvm.Cond.selects "ThunderCasks$Cask" ({ cls := "ThunderCasks$Thunders", name := "loud", desc := "()I" } : Jvm.MethodName) ({ cls := "ThunderCasks$Cask", name := "loud", desc := "()I" } : Jvm.MethodName)) ∈ lw_all := lw_g (lw_at lw_m3 80 rfl) rfl
theorem q661 : (Jvm.Cond.unhidden "ThunderCasks$Cask" "loud" "()I") ∈ lw_tbl := lw_at lw_m3 81 rfl
theorem q662 : (Jvm.Cond.publicMethod ({ cls := "ThunderCasks$Cask", name := "loud", desc := "()I" } : Jvm.MethodName)) ∈ lw_tbl := lw_at lw_m3 82 rfl
theorem q749 : (Jvm.Cond.selects "ThunderCasks$Cask" ({ cls := "ThunderCasks$Thunders", name := "bears", desc := "()I" } : Jvm.MethodName) ({ cls := "ThunderCasks$Cask", name := "bears", desc := "()I" } : Jvm.MethodName)) ∈ lw_all := lw_g (lw_at lw_m3 169 rfl) rfl
theorem q750 : (Jvm.Cond.unhidden "ThunderCasks$Cask" "bears" "()I") ∈ lw_tbl := lw_at lw_m3 170 rfl
theorem q751 : (Jvm.Cond.publicMethod ({ cls := "ThunderCasks$Cask", name := "bears", desc := "()I" } : Jvm.MethodName)) ∈ lw_tbl := lw_at lw_m3 171 rfl
theorem q1147 : (Jvm.Cond.instanceMethod ({ cls := "ThunderCasks$Cask", name := "isUnder", desc := "(I)Z" } : Jvm.MethodName)) ∈ lw_all := lw_g (lw_at lw_m5 87 rfl) rfl
theorem q1148 : (Jvm.Cond.selects "ThunderCasks$Cask" ({ cls := "ThunderCasks$Cask", name := "isUnder", desc := "(I)Z" } : Jvm.MethodName) ({ cls := "ThunderCasks$Cask", name := "isUnder", desc := "(I)Z" } : Jvm.MethodName)) ∈ lw_all := lw_g (lw_at lw_m5 88 rfl) rfl
theorem q1149 : (Jvm.Cond.sameMethod "ThunderCasks$Cask" "ThunderCasks$Cask" "isUnder" "(I)Z") ∈ lw_all := lw_g (lw_at lw_m5 89 rfl) rfl
theorem q1165 : (Jvm.Cond.code ({ cls := "ThunderCasks$Cask", name := "isUnder", desc := "(I)Z" } : Jvm.MethodName) prog_2_method_3_code (2 : Nat) (Option.some Jvm.ClassFile.FieldType.boolean)) ∈ lw_all := lw_g (lw_at lw_m5 105 rfl) rfl
theorem q1166 : (Jvm.Cond.methodLink "ThunderCasks$Cask" (19 : Nat) ({ cls := "ThunderCasks$Cask", name := "kind", desc := "()I" } : Jvm.MethodName)) ∈ lw_all := lw_g (lw_at lw_m5 106 rfl) rfl
theorem q1714 : (Jvm.Cond.sameMethod "ThunderCasks$Cask" "ThunderCasks$Cask" "told" "(I)I") ∈ lw_all := lw_g (lw_at lw_m7 174 rfl) rfl
theorem q1715 : (Jvm.Cond.selects "ThunderCasks$Cask" ({ cls := "ThunderCasks$Cask", name := "told", desc := "(I)I" } : Jvm.MethodName) ({ cls := "ThunderCasks$Cask", name := "told", desc := "(I)I" } : Jvm.MethodName)) ∈ lw_all := lw_g (lw_at lw_m7 175 rfl) rfl
theorem in_X6 : ∀ w ∈ wsX60, w ∈ lw_all := lw_in wsX60 [404, 405] (by decide +kernel) (by decide +kernel)
/-! ThunderCasks$Crack -/
set_option maxRecDepth 100000
def RX7 : String := "ThunderCasks$Crack"
def TX7 : u_T := fun k => match k with
  | 0 => ("ThunderCasks$Cask", "number", "I", true)
  | 1 => ("ThunderCasks$Cask", "this$0", "LThunderCasks;", true)
  | _ => ("ThunderCasks$Crack", "this$0", "LThunderCasks;", true)
def tyX7 : Nat → FieldType := fun k => match k with
  | 0 => .int
  | 1 => .object "ThunderCasks"
  | _ => .object "ThunderCasks"
abbrev wsX70 : List Cond := u_ws RX7 TX7 3
-- two fields of one name: no nmX7
theorem tyX7_ok : ∀ k, k < 3 → parseFieldDescriptor (TX7 k).2.2.1 = some (tyX7 k) := by decide +kernel
abbrev cX7_init : ByteArray := prog_3_method_1_code
def yX7_init : MethodName := ⟨RX7, "<init>", "(LThunderCasks;I)V"⟩
def dkwX7_init_0 : List UInt8 := [42, 43, 181, 0, 3, 42, 43, 28, 183, 0, 9, 177]
abbrev dktX7_init_0 : List UInt8 := dkwX7_init_0 ++ []
theorem dksX7_init_0 : cX7_init.data.toList.drop 0 = dktX7_init_0 := by decide +kernel
theorem dX7_init_0 : decode cX7_init 0 = .ok (.aload_n 0, 1) := dk_42 (dk_at dksX7_init_0 0 rfl rfl)
theorem dX7_init_1 : decode cX7_init 1 = .ok (.aload_n 1, 1) := dk_43 (dk_at dksX7_init_0 1 rfl rfl)
theorem dX7_init_2 : decode cX7_init 2 = .ok (.putfield 3, 3) := dk_181 0 3 (dk_at dksX7_init_0 2 rfl rfl)
theorem dX7_init_5 : decode cX7_init 5 = .ok (.aload_n 0, 1) := dk_42 (dk_at dksX7_init_0 5 rfl rfl)
theorem dX7_init_6 : decode cX7_init 6 = .ok (.aload_n 1, 1) := dk_43 (dk_at dksX7_init_0 6 rfl rfl)
theorem dX7_init_7 : decode cX7_init 7 = .ok (.iload_n 2, 1) := dk_28 (dk_at dksX7_init_0 7 rfl rfl)
theorem dX7_init_8 : decode cX7_init 8 = .ok (.invokespecial 9, 3) := dk_183 0 9 (dk_at dksX7_init_0 8 rfl rfl)
theorem dX7_init_11 : decode cX7_init 11 = .ok (.return_, 1) := dk_177 (dk_at dksX7_init_0 11 rfl rfl)
abbrev cX7_kind : ByteArray := prog_3_method_2_code
def yX7_kind : MethodName := ⟨RX7, "kind", "()I"⟩
def dkwX7_kind_0 : List UInt8 := [4, 42, 183, 0, 15, 96, 172]
abbrev dktX7_kind_0 : List UInt8 := dkwX7_kind_0 ++ []
theorem dksX7_kind_0 : cX7_kind.data.toList.drop 0 = dktX7_kind_0 := by decide +kernel
theorem dX7_kind_0 : decode cX7_kind 0 = .ok (.iconst 1, 1) := dk_4 (dk_at dksX7_kind_0 0 rfl rfl)
theorem dX7_kind_1 : decode cX7_kind 1 = .ok (.aload_n 0, 1) := dk_42 (dk_at dksX7_kind_0 1 rfl rfl)
theorem dX7_kind_2 : decode cX7_kind 2 = .ok (.invokespecial 15, 3) := dk_183 0 15 (dk_at dksX7_kind_0 2 rfl rfl)
theorem dX7_kind_5 : decode cX7_kind 5 = .ok (.iadd, 1) := dk_96 (dk_at dksX7_kind_0 5 rfl rfl)
theorem dX7_kind_6 : decode cX7_kind 6 = .ok (.ireturn, 1) := dk_172 (dk_at dksX7_kind_0 6 rfl rfl)
abbrev cX7_loud : ByteArray := prog_3_method_4_code
def yX7_loud : MethodName := ⟨RX7, "loud", "()I"⟩
def dkwX7_loud_0 : List UInt8 := [3, 5, 42, 183, 0, 23, 104, 42, 8, 182, 0, 26, 100, 184, 0, 30, 172]
abbrev dktX7_loud_0 : List UInt8 := dkwX7_loud_0 ++ []
theorem dksX7_loud_0 : cX7_loud.data.toList.drop 0 = dktX7_loud_0 := by decide +kernel
theorem dX7_loud_0 : decode cX7_loud 0 = .ok (.iconst 0, 1) := dk_3 (dk_at dksX7_loud_0 0 rfl rfl)
theorem dX7_loud_1 : decode cX7_loud 1 = .ok (.iconst 2, 1) := dk_5 (dk_at dksX7_loud_0 1 rfl rfl)
theorem dX7_loud_2 : decode cX7_loud 2 = .ok (.aload_n 0, 1) := dk_42 (dk_at dksX7_loud_0 2 rfl rfl)
theorem dX7_loud_3 : decode cX7_loud 3 = .ok (.invokespecial 23, 3) := dk_183 0 23 (dk_at dksX7_loud_0 3 rfl rfl)
theorem dX7_loud_6 : decode cX7_loud 6 = .ok (.imul, 1) := dk_104 (dk_at dksX7_loud_0 6 rfl rfl)
theorem dX7_loud_7 : decode cX7_loud 7 = .ok (.aload_n 0, 1) := dk_42 (dk_at dksX7_loud_0 7 rfl rfl)
theorem dX7_loud_8 : decode cX7_loud 8 = .ok (.iconst 5, 1) := dk_8 (dk_at dksX7_loud_0 8 rfl rfl)
theorem dX7_loud_9 : decode cX7_loud 9 = .ok (.invokevirtual 26, 3) := dk_182 0 26 (dk_at dksX7_loud_0 9 rfl rfl)
theorem dX7_loud_12 : decode cX7_loud 12 = .ok (.isub, 1) := dk_100 (dk_at dksX7_loud_0 12 rfl rfl)
theorem dX7_loud_13 : decode cX7_loud 13 = .ok (.invokestatic 30, 3) := dk_184 0 30 (dk_at dksX7_loud_0 13 rfl rfl)
theorem dX7_loud_16 : decode cX7_loud 16 = .ok (.ireturn, 1) := dk_172 (dk_at dksX7_loud_0 16 rfl rfl)
abbrev cX7_leaks : ByteArray := prog_3_method_5_code
def yX7_leaks : MethodName := ⟨RX7, "leaks", "()I"⟩
def dkwX7_leaks_0 : List UInt8 := [42, 183, 0, 36, 5, 96, 172]
abbrev dktX7_leaks_0 : List UInt8 := dkwX7_leaks_0 ++ []
theorem dksX7_leaks_0 : cX7_leaks.data.toList.drop 0 = dktX7_leaks_0 := by decide +kernel
theorem dX7_leaks_0 : decode cX7_leaks 0 = .ok (.aload_n 0, 1) := dk_42 (dk_at dksX7_leaks_0 0 rfl rfl)
theorem dX7_leaks_1 : decode cX7_leaks 1 = .ok (.invokespecial 36, 3) := dk_183 0 36 (dk_at dksX7_leaks_0 1 rfl rfl)
theorem dX7_leaks_4 : decode cX7_leaks 4 = .ok (.iconst 2, 1) := dk_5 (dk_at dksX7_leaks_0 4 rfl rfl)
theorem dX7_leaks_5 : decode cX7_leaks 5 = .ok (.iadd, 1) := dk_96 (dk_at dksX7_leaks_0 5 rfl rfl)
theorem dX7_leaks_6 : decode cX7_leaks 6 = .ok (.ireturn, 1) := dk_172 (dk_at dksX7_leaks_0 6 rfl rfl)
abbrev cX7_bears : ByteArray := prog_3_method_6_code
def yX7_bears : MethodName := ⟨RX7, "bears", "()I"⟩
def dkwX7_bears_0 : List UInt8 := [42, 42, 183, 0, 39, 182, 0, 42, 172]
abbrev dktX7_bears_0 : List UInt8 := dkwX7_bears_0 ++ []
theorem dksX7_bears_0 : cX7_bears.data.toList.drop 0 = dktX7_bears_0 := by decide +kernel
theorem dX7_bears_0 : decode cX7_bears 0 = .ok (.aload_n 0, 1) := dk_42 (dk_at dksX7_bears_0 0 rfl rfl)
theorem dX7_bears_1 : decode cX7_bears 1 = .ok (.aload_n 0, 1) := dk_42 (dk_at dksX7_bears_0 1 rfl rfl)
theorem dX7_bears_2 : decode cX7_bears 2 = .ok (.invokespecial 39, 3) := dk_183 0 39 (dk_at dksX7_bears_0 2 rfl rfl)
theorem dX7_bears_5 : decode cX7_bears 5 = .ok (.invokevirtual 42, 3) := dk_182 0 42 (dk_at dksX7_bears_0 5 rfl rfl)
theorem dX7_bears_8 : decode cX7_bears 8 = .ok (.ireturn, 1) := dk_172 (dk_at dksX7_bears_0 8 rfl rfl)
abbrev cX7_isUnder : ByteArray := prog_3_method_3_code
def yX7_isUnder : MethodName := ⟨RX7, "isUnder", "(I)Z"⟩
def dkwX7_isUnder_0 : List UInt8 := [27, 4, 159, 0, 11, 42, 27, 183, 0, 19, 153, 0, 7, 4, 167, 0, 4, 3, 172]
abbrev dktX7_isUnder_0 : List UInt8 := dkwX7_isUnder_0 ++ []
theorem dksX7_isUnder_0 : cX7_isUnder.data.toList.drop 0 = dktX7_isUnder_0 := by decide +kernel
theorem dX7_isUnder_0 : decode cX7_isUnder 0 = .ok (.iload_n 1, 1) := dk_27 (dk_at dksX7_isUnder_0 0 rfl rfl)
theorem dX7_isUnder_1 : decode cX7_isUnder 1 = .ok (.iconst 1, 1) := dk_4 (dk_at dksX7_isUnder_0 1 rfl rfl)
theorem dX7_isUnder_2 : decode cX7_isUnder 2 = .ok (.if_icmp .eq 11, 3) := dk_159 0 11 (dk_at dksX7_isUnder_0 2 rfl rfl)
theorem dX7_isUnder_5 : decode cX7_isUnder 5 = .ok (.aload_n 0, 1) := dk_42 (dk_at dksX7_isUnder_0 5 rfl rfl)
theorem dX7_isUnder_6 : decode cX7_isUnder 6 = .ok (.iload_n 1, 1) := dk_27 (dk_at dksX7_isUnder_0 6 rfl rfl)
theorem dX7_isUnder_7 : decode cX7_isUnder 7 = .ok (.invokespecial 19, 3) := dk_183 0 19 (dk_at dksX7_isUnder_0 7 rfl rfl)
theorem dX7_isUnder_10 : decode cX7_isUnder 10 = .ok (.ifCond .eq 7, 3) := dk_153 0 7 (dk_at dksX7_isUnder_0 10 rfl rfl)
theorem dX7_isUnder_13 : decode cX7_isUnder 13 = .ok (.iconst 1, 1) := dk_4 (dk_at dksX7_isUnder_0 13 rfl rfl)
theorem dX7_isUnder_14 : decode cX7_isUnder 14 = .ok (.goto 4, 3) := dk_167 0 4 (dk_at dksX7_isUnder_0 14 rfl rfl)
theorem dX7_isUnder_17 : decode cX7_isUnder 17 = .ok (.iconst 0, 1) := dk_3 (dk_at dksX7_isUnder_0 17 rfl rfl)
theorem dX7_isUnder_18 : decode cX7_isUnder 18 = .ok (.ireturn, 1) := dk_172 (dk_at dksX7_isUnder_0 18 rfl rfl)
theorem q111 : (Jvm.Cond.initialized "ThunderCasks$Crack") ∈ lw_all := lw_g (lw_at lw_m1 11 rfl) rfl
theorem q318 : (Jvm.Cond.instantiable "ThunderCasks$Crack" (3 : Nat)) ∈ lw_all := lw_g (lw_at lw_m1 218 rfl) rfl
theorem q320 : (Jvm.Cond.instanceMethod ({ cls := "ThunderCasks$Crack", name := "<init>", desc := "(LThunderCasks;I)V" } : Jvm.MethodName)) ∈ lw_all := lw_g (lw_at lw_m1 220 rfl) rfl
theorem q321 : (Jvm.Cond.code ({ cls := "ThunderCasks$Crack", name := "<init>", desc := "(LThunderCasks;I)V" } : Jvm.MethodName) prog_3_method_1_code (3 : Nat) (Option.none : Option Jvm.ClassFile.FieldType)) ∈ lw_all := lw_g (lw_at lw_m1 221 rfl) rfl
theorem q322 : (Jvm.Cond.methodLink "ThunderCasks$Crack" (9 : Nat) ({ cls := "ThunderCasks$Cask", name := "<init>", desc := "(LThunderCasks;I)V" } : Jvm.MethodName)) ∈ lw_all := lw_g (lw_at lw_m1 222 rfl) rfl
theorem q326 : (Jvm.Cond.fieldLink "ThunderCasks$Crack" (3 : Nat) "ThunderCasks$Crack" "this$0" "LThunderCasks;") ∈ lw_all := lw_g (lw_at lw_m1 226 rfl) rfl
theorem q330 : (Jvm.Cond.laysFinal "ThunderCasks$Crack" "ThunderCasks$Crack" "this$0" "LThunderCasks;") ∈ lw_all := lw_g (lw_at lw_m1 230 rfl) rfl
theorem q331 : (Jvm.Cond.soleField "ThunderCasks$Crack" "this$0") ∈ lw_all := lw_g (lw_at lw_m1 231 rfl) rfl
theorem q332 : (Jvm.Cond.laysFinal "ThunderCasks$Crack" "ThunderCasks$Cask" "number" "I") ∈ lw_all := lw_g (lw_at lw_m1 232 rfl) rfl
theorem q334 : (Jvm.Cond.laysFinal "ThunderCasks$Crack" "ThunderCasks$Cask" "this$0" "LThunderCasks;") ∈ lw_all := lw_g (lw_at lw_m1 234 rfl) rfl
theorem q336 : (Jvm.Cond.superclass "ThunderCasks$Crack" "ThunderCasks$Cask") ∈ lw_all := lw_g (lw_at lw_m1 236 rfl) rfl
theorem q507 : (Jvm.Cond.selects "ThunderCasks$Crack" ({ cls := "ThunderCasks$Cask", name := "kind", desc := "()I" } : Jvm.MethodName) ({ cls := "ThunderCasks$Crack", name := "kind", desc := "()I" } : Jvm.MethodName)) ∈ lw_all := lw_g (lw_at lw_m2 167 rfl) rfl
theorem q508 : (Jvm.Cond.instanceMethod ({ cls := "ThunderCasks$Crack", name := "kind", desc := "()I" } : Jvm.MethodName)) ∈ lw_all := lw_g (lw_at lw_m2 168 rfl) rfl
theorem q509 : (Jvm.Cond.code ({ cls := "ThunderCasks$Crack", name := "kind", desc := "()I" } : Jvm.MethodName) prog_3_method_2_code (1 : Nat) (Option.some Jvm.ClassFile.FieldType.int)) ∈ lw_all := lw_g (lw_at lw_m2 169 rfl) rfl
theorem q510 : (Jvm.Cond.methodLink "ThunderCasks$Crack" (15 : Nat) ({ cls := "ThunderCasks$Cask", name := "kind", desc := "()I" } : Jvm.MethodName)) ∈ lw_all := lw_g (lw_at lw_m2 170 rfl) rfl
theorem q536 : (Jvm.Cond.selects "ThunderCasks$Crack" ({ cls := "ThunderCasks$Cask", name := "loud", desc := "()I" } : Jvm.MethodName) ({ cls := "ThunderCasks$Crack", name := "loud", desc := "()I" } : Jvm.MethodName)) ∈ lw_all := lw_g (lw_at lw_m2 196 rfl) rfl
theorem q537 : (Jvm.Cond.instanceMethod ({ cls := "ThunderCasks$Crack", name := "loud", desc := "()I" } : Jvm.MethodName)) ∈ lw_all := lw_g (lw_at lw_m2 197 rfl) rfl
theorem q538 : (Jvm.Cond.code ({ cls := "ThunderCasks$Crack", name := "loud", desc := "()I" } : Jvm.MethodName) prog_3_method_4_code (1 : Nat) (Option.some Jvm.ClassFile.FieldType.int)) ∈ lw_all := lw_g (lw_at lw_m2 198 rfl) rfl
theorem q539 : (Jvm.Cond.methodLink "ThunderCasks$Crack" (23 : Nat) ({ cls := "ThunderCasks$Cask", name := "loud", desc := "()I" } : Jvm.MethodName)) ∈ lw_all := lw_g (lw_at lw_m2 199 rfl) rfl
theorem q540 : (Jvm.Cond.methodLink "ThunderCasks$Crack" (26 : Nat) ({ cls := "ThunderCasks$Crack", name := "told", desc := "(I)I" } : Jvm.MethodName)) ∈ lw_all := lw_g (lw_at lw_m2 200 rfl) rfl
theorem q541 : (Jvm.Cond.sameMethod "ThunderCasks$Crack" "ThunderCasks$Cask" "told" "(I)I") ∈ lw_all := lw_g (lw_at lw_m2 201 rfl) rfl
theorem q543 : (Jvm.Cond.selects "ThunderCasks$Crack" ({ cls := "ThunderCasks$Crack", name := "told", desc := "(I)I" } : Jvm.MethodName) ({ cls := "ThunderCasks$Cask", name := "told", desc := "(I)I" } : Jvm.MethodName)) ∈ lw_all := lw_g (lw_at lw_m2 203 rfl) rfl
theorem q547 : (Jvm.Cond.methodLink "ThunderCasks$Crack" (30 : Nat) ({ cls := "java/lang/Math", name := "max", desc := "(II)I" } : Jvm.MethodName)) ∈ lw_all := lw_g (lw_at lw_m2 207 rfl) rfl
theorem q602 : (Jvm.Cond.selects "ThunderCasks$Crack" ({ cls := "ThunderCasks$Cask", name := "leaks", desc := "()I" } : Jvm.MethodName) ({ cls := "ThunderCasks$Crack", name := "leaks", desc := "()I" } : Jvm.MethodName)) ∈ lw_all := lw_g (lw_at lw_m3 22 rfl) rfl
theorem q603 : (Jvm.Cond.instanceMethod ({ cls := "ThunderCasks$Crack", name := "leaks", desc := "()I" } : Jvm.MethodName)) ∈ lw_all := lw_g (lw_at lw_m3 23 rfl) rfl
theorem q604 : (Jvm.Cond.code ({ cls := "ThunderCasks$Crack", name := "leaks", desc := "()I" } : Jvm.MethodName) prog_3_method_5_code (1 : Nat) (Option.some Jvm.ClassFile.FieldType.int)) ∈ lw_all := lw_g (lw_at lw_m3 24 rfl) rfl
theorem q605 : (Jvm.Cond.methodLink "ThunderCasks$Crack" (36 : Nat) ({ cls := "ThunderCasks$Cask", name := "leaks", desc := "()I" } : Jvm.MethodName)) ∈ lw_all := lw_g (lw_at lw_m3 25 rfl) rfl
theorem q624 : (Jvm.Cond.selects "ThunderCasks$Crack" ({ cls := "ThunderCasks$Cask", name := "bears", desc := "()I" } : Jvm.MethodName) ({ cls := "ThunderCasks$Crack", name := "bears", desc := "()I" } : Jvm.MethodName)) ∈ lw_all := lw_g (lw_at lw_m3 44 rfl) rfl
theorem q625 : (Jvm.Cond.instanceMethod ({ cls := "ThunderCasks$Crack", name := "bears", desc := "()I" } : Jvm.MethodName)) ∈ lw_all := lw_g (lw_at lw_m3 45 rfl) rfl
theorem q626 : (Jvm.Cond.code ({ cls := "ThunderCasks$Crack", name := "bears", desc := "()I" } : Jvm.MethodName) prog_3_method_6_code (1 : Nat) (Option.some Jvm.ClassFile.FieldType.int)) ∈ lw_all := lw_g (lw_at lw_m3 46 rfl) rfl
theorem q627 : (Jvm.Cond.methodLink "ThunderCasks$Crack" (39 : Nat) ({ cls := "ThunderCasks$Cask", name := "bears", desc := "()I" } : Jvm.MethodName)) ∈ lw_all := lw_g (lw_at lw_m3 47 rfl) rfl
theorem q628 : (Jvm.Cond.unhidden "ThunderCasks$Crack" "half" "(I)I") ∈ lw_tbl := lw_at lw_m3 48 rfl
theorem q663 : (Jvm.Cond.castable "ThunderCasks$Crack" "ThunderCasks$Thunders") ∈ lw_tbl := lw_at lw_m3 83 rfl
theorem q664 : (Jvm.Cond.selects "ThunderCasks$Crack" ({ cls := "ThunderCasks$Thunders", name := "loud", desc := "()I" } : Jvm.MethodName) ({ cls := "ThunderCasks$Crack", name := "loud", desc := "()I" } : Jvm.MethodName)) ∈ lw_all := lw_g (lw_at lw_m3 84 rfl) rfl
theorem q665 : (Jvm.Cond.unhidden "ThunderCasks$Crack" "loud" "()I") ∈ lw_tbl := lw_at lw_m3 85 rfl
theorem q666 : (Jvm.Cond.publicMethod ({ cls := "ThunderCasks$Crack", name := "loud", desc := "()I" } : Jvm.MethodName)) ∈ lw_tbl := lw_at lw_m3 86 rfl
theorem q752 : (Jvm.Cond.selects "ThunderCasks$Crack" ({ cls := "ThunderCasks$Thunders", name := "bears", desc := "()I" } : Jvm.MethodName) ({ cls := "ThunderCasks$Crack", name := "bears", desc := "()I" } : Jvm.MethodName)) ∈ lw_all := lw_g (lw_at lw_m3 172 rfl) rfl
theorem q753 : (Jvm.Cond.unhidden "ThunderCasks$Crack" "bears" "()I") ∈ lw_tbl := lw_at lw_m3 173 rfl
theorem q754 : (Jvm.Cond.publicMethod ({ cls := "ThunderCasks$Crack", name := "bears", desc := "()I" } : Jvm.MethodName)) ∈ lw_tbl := lw_at lw_m3 174 rfl
theorem q1150 : (Jvm.Cond.selects "ThunderCasks$Crack" ({ cls := "ThunderCasks$Cask", name := "isUnder", desc := "(I)Z" } : Jvm.MethodName) ({ cls := "ThunderCasks$Crack", name := "isUnder", desc := "(I)Z" } : Jvm.MethodName)) ∈ lw_all := lw_g (lw_at lw_m5 90 rfl) rfl
theorem q1151 : (Jvm.Cond.instanceMethod ({ cls := "ThunderCasks$Crack", name := "isUnder", desc := "(I)Z" } : Jvm.MethodName)) ∈ lw_all := lw_g (lw_at lw_m5 91 rfl) rfl
theorem q1152 : (Jvm.Cond.code ({ cls := "ThunderCasks$Crack", name := "isUnder", desc := "(I)Z" } : Jvm.MethodName) prog_3_method_3_code (2 : Nat) (Option.some Jvm.ClassFile.FieldType.boolean)) ∈ lw_all := lw_g (lw_at lw_m5 92 rfl) rfl
theorem q1153 : (Jvm.Cond.methodLink "ThunderCasks$Crack" (19 : Nat) ({ cls := "ThunderCasks$Cask", name := "isUnder", desc := "(I)Z" } : Jvm.MethodName)) ∈ lw_all := lw_g (lw_at lw_m5 93 rfl) rfl
theorem q1710 : (Jvm.Cond.sameMethod "ThunderCasks$Crack" "ThunderCasks$Crack" "kind" "()I") ∈ lw_all := lw_g (lw_at lw_m7 170 rfl) rfl
theorem q1713 : (Jvm.Cond.sameMethod "ThunderCasks$Crack" "ThunderCasks$Crack" "loud" "()I") ∈ lw_all := lw_g (lw_at lw_m7 173 rfl) rfl
theorem q1716 : (Jvm.Cond.selects "ThunderCasks$Crack" ({ cls := "ThunderCasks$Cask", name := "told", desc := "(I)I" } : Jvm.MethodName) ({ cls := "ThunderCasks$Cask", name := "told", desc := "(I)I" } : Jvm.MethodName)) ∈ lw_all := lw_g (lw_at lw_m7 176 rfl) rfl
theorem q1722 : (Jvm.Cond.sameMethod "ThunderCasks$Crack" "ThunderCasks$Crack" "leaks" "()I") ∈ lw_all := lw_g (lw_at lw_m7 182 rfl) rfl
theorem q1724 : (Jvm.Cond.castable "ThunderCasks$Crack" "ThunderCasks$Cask") ∈ lw_tbl := lw_at lw_m7 184 rfl
theorem in_X7 : ∀ w ∈ wsX70, w ∈ lw_all := lw_in wsX70 [332, 334, 330] (by decide +kernel) (by decide +kernel)
/-! ThunderCasks$Roll -/
set_option maxRecDepth 100000
def RX8 : String := "ThunderCasks$Roll"
def TX8 : u_T := fun k => match k with
  | 0 => ("ThunderCasks$Cask", "number", "I", true)
  | 1 => ("ThunderCasks$Cask", "this$0", "LThunderCasks;", true)
  | _ => ("ThunderCasks$Roll", "this$0", "LThunderCasks;", true)
def tyX8 : Nat → FieldType := fun k => match k with
  | 0 => .int
  | 1 => .object "ThunderCasks"
  | _ => .object "ThunderCasks"
abbrev wsX80 : List Cond := u_ws RX8 TX8 3
-- two fields of one name: no nmX8
theorem tyX8_ok : ∀ k, k < 3 → parseFieldDescriptor (TX8 k).2.2.1 = some (tyX8 k) := by decide +kernel
abbrev cX8_init : ByteArray := prog_10_method_1_code
def yX8_init : MethodName := ⟨RX8, "<init>", "(LThunderCasks;I)V"⟩
def dkwX8_init_0 : List UInt8 := [42, 43, 181, 0, 3, 42, 43, 28, 183, 0, 9, 177]
abbrev dktX8_init_0 : List UInt8 := dkwX8_init_0 ++ []
theorem dksX8_init_0 : cX8_init.data.toList.drop 0 = dktX8_init_0 := by decide +kernel
theorem dX8_init_0 : decode cX8_init 0 = .ok (.aload_n 0, 1) := dk_42 (dk_at dksX8_init_0 0 rfl rfl)
theorem dX8_init_1 : decode cX8_init 1 = .ok (.aload_n 1, 1) := dk_43 (dk_at dksX8_init_0 1 rfl rfl)
theorem dX8_init_2 : decode cX8_init 2 = .ok (.putfield 3, 3) := dk_181 0 3 (dk_at dksX8_init_0 2 rfl rfl)
theorem dX8_init_5 : decode cX8_init 5 = .ok (.aload_n 0, 1) := dk_42 (dk_at dksX8_init_0 5 rfl rfl)
theorem dX8_init_6 : decode cX8_init 6 = .ok (.aload_n 1, 1) := dk_43 (dk_at dksX8_init_0 6 rfl rfl)
theorem dX8_init_7 : decode cX8_init 7 = .ok (.iload_n 2, 1) := dk_28 (dk_at dksX8_init_0 7 rfl rfl)
theorem dX8_init_8 : decode cX8_init 8 = .ok (.invokespecial 9, 3) := dk_183 0 9 (dk_at dksX8_init_0 8 rfl rfl)
theorem dX8_init_11 : decode cX8_init 11 = .ok (.return_, 1) := dk_177 (dk_at dksX8_init_0 11 rfl rfl)
abbrev cX8_kind : ByteArray := prog_10_method_2_code
def yX8_kind : MethodName := ⟨RX8, "kind", "()I"⟩
def dkwX8_kind_0 : List UInt8 := [5, 42, 183, 0, 15, 96, 172]
abbrev dktX8_kind_0 : List UInt8 := dkwX8_kind_0 ++ []
theorem dksX8_kind_0 : cX8_kind.data.toList.drop 0 = dktX8_kind_0 := by decide +kernel
theorem dX8_kind_0 : decode cX8_kind 0 = .ok (.iconst 2, 1) := dk_5 (dk_at dksX8_kind_0 0 rfl rfl)
theorem dX8_kind_1 : decode cX8_kind 1 = .ok (.aload_n 0, 1) := dk_42 (dk_at dksX8_kind_0 1 rfl rfl)
theorem dX8_kind_2 : decode cX8_kind 2 = .ok (.invokespecial 15, 3) := dk_183 0 15 (dk_at dksX8_kind_0 2 rfl rfl)
theorem dX8_kind_5 : decode cX8_kind 5 = .ok (.iadd, 1) := dk_96 (dk_at dksX8_kind_0 5 rfl rfl)
theorem dX8_kind_6 : decode cX8_kind 6 = .ok (.ireturn, 1) := dk_172 (dk_at dksX8_kind_0 6 rfl rfl)
abbrev cX8_loud : ByteArray := prog_10_method_4_code
def yX8_loud : MethodName := ⟨RX8, "loud", "()I"⟩
def dkwX8_loud_0 : List UInt8 := [42, 183, 0, 23, 60, 27, 27, 7, 108, 100, 42, 8, 182, 0, 26, 96, 172]
abbrev dktX8_loud_0 : List UInt8 := dkwX8_loud_0 ++ []
theorem dksX8_loud_0 : cX8_loud.data.toList.drop 0 = dktX8_loud_0 := by decide +kernel
theorem dX8_loud_0 : decode cX8_loud 0 = .ok (.aload_n 0, 1) := dk_42 (dk_at dksX8_loud_0 0 rfl rfl)
theorem dX8_loud_1 : decode cX8_loud 1 = .ok (.invokespecial 23, 3) := dk_183 0 23 (dk_at dksX8_loud_0 1 rfl rfl)
theorem dX8_loud_4 : decode cX8_loud 4 = .ok (.istore_n 1, 1) := dk_60 (dk_at dksX8_loud_0 4 rfl rfl)
theorem dX8_loud_5 : decode cX8_loud 5 = .ok (.iload_n 1, 1) := dk_27 (dk_at dksX8_loud_0 5 rfl rfl)
theorem dX8_loud_6 : decode cX8_loud 6 = .ok (.iload_n 1, 1) := dk_27 (dk_at dksX8_loud_0 6 rfl rfl)
theorem dX8_loud_7 : decode cX8_loud 7 = .ok (.iconst 4, 1) := dk_7 (dk_at dksX8_loud_0 7 rfl rfl)
theorem dX8_loud_8 : decode cX8_loud 8 = .ok (.idiv, 1) := dk_108 (dk_at dksX8_loud_0 8 rfl rfl)
theorem dX8_loud_9 : decode cX8_loud 9 = .ok (.isub, 1) := dk_100 (dk_at dksX8_loud_0 9 rfl rfl)
theorem dX8_loud_10 : decode cX8_loud 10 = .ok (.aload_n 0, 1) := dk_42 (dk_at dksX8_loud_0 10 rfl rfl)
theorem dX8_loud_11 : decode cX8_loud 11 = .ok (.iconst 5, 1) := dk_8 (dk_at dksX8_loud_0 11 rfl rfl)
theorem dX8_loud_12 : decode cX8_loud 12 = .ok (.invokevirtual 26, 3) := dk_182 0 26 (dk_at dksX8_loud_0 12 rfl rfl)
theorem dX8_loud_15 : decode cX8_loud 15 = .ok (.iadd, 1) := dk_96 (dk_at dksX8_loud_0 15 rfl rfl)
theorem dX8_loud_16 : decode cX8_loud 16 = .ok (.ireturn, 1) := dk_172 (dk_at dksX8_loud_0 16 rfl rfl)
abbrev cX8_bears : ByteArray := prog_10_method_5_code
def yX8_bears : MethodName := ⟨RX8, "bears", "()I"⟩
def dkwX8_bears_0 : List UInt8 := [42, 183, 0, 30, 16, 10, 96, 172]
abbrev dktX8_bears_0 : List UInt8 := dkwX8_bears_0 ++ []
theorem dksX8_bears_0 : cX8_bears.data.toList.drop 0 = dktX8_bears_0 := by decide +kernel
theorem dX8_bears_0 : decode cX8_bears 0 = .ok (.aload_n 0, 1) := dk_42 (dk_at dksX8_bears_0 0 rfl rfl)
theorem dX8_bears_1 : decode cX8_bears 1 = .ok (.invokespecial 30, 3) := dk_183 0 30 (dk_at dksX8_bears_0 1 rfl rfl)
theorem dX8_bears_4 : decode cX8_bears 4 = .ok (.bipush 10, 2) := dk_16 10 (dk_at dksX8_bears_0 4 rfl rfl)
theorem dX8_bears_6 : decode cX8_bears 6 = .ok (.iadd, 1) := dk_96 (dk_at dksX8_bears_0 6 rfl rfl)
theorem dX8_bears_7 : decode cX8_bears 7 = .ok (.ireturn, 1) := dk_172 (dk_at dksX8_bears_0 7 rfl rfl)
abbrev cX8_isUnder : ByteArray := prog_10_method_3_code
def yX8_isUnder : MethodName := ⟨RX8, "isUnder", "(I)Z"⟩
def dkwX8_isUnder_0 : List UInt8 := [27, 5, 159, 0, 11, 42, 27, 183, 0, 19, 153, 0, 7, 4, 167, 0, 4, 3, 172]
abbrev dktX8_isUnder_0 : List UInt8 := dkwX8_isUnder_0 ++ []
theorem dksX8_isUnder_0 : cX8_isUnder.data.toList.drop 0 = dktX8_isUnder_0 := by decide +kernel
theorem dX8_isUnder_0 : decode cX8_isUnder 0 = .ok (.iload_n 1, 1) := dk_27 (dk_at dksX8_isUnder_0 0 rfl rfl)
theorem dX8_isUnder_1 : decode cX8_isUnder 1 = .ok (.iconst 2, 1) := dk_5 (dk_at dksX8_isUnder_0 1 rfl rfl)
theorem dX8_isUnder_2 : decode cX8_isUnder 2 = .ok (.if_icmp .eq 11, 3) := dk_159 0 11 (dk_at dksX8_isUnder_0 2 rfl rfl)
theorem dX8_isUnder_5 : decode cX8_isUnder 5 = .ok (.aload_n 0, 1) := dk_42 (dk_at dksX8_isUnder_0 5 rfl rfl)
theorem dX8_isUnder_6 : decode cX8_isUnder 6 = .ok (.iload_n 1, 1) := dk_27 (dk_at dksX8_isUnder_0 6 rfl rfl)
theorem dX8_isUnder_7 : decode cX8_isUnder 7 = .ok (.invokespecial 19, 3) := dk_183 0 19 (dk_at dksX8_isUnder_0 7 rfl rfl)
theorem dX8_isUnder_10 : decode cX8_isUnder 10 = .ok (.ifCond .eq 7, 3) := dk_153 0 7 (dk_at dksX8_isUnder_0 10 rfl rfl)
theorem dX8_isUnder_13 : decode cX8_isUnder 13 = .ok (.iconst 1, 1) := dk_4 (dk_at dksX8_isUnder_0 13 rfl rfl)
theorem dX8_isUnder_14 : decode cX8_isUnder 14 = .ok (.goto 4, 3) := dk_167 0 4 (dk_at dksX8_isUnder_0 14 rfl rfl)
theorem dX8_isUnder_17 : decode cX8_isUnder 17 = .ok (.iconst 0, 1) := dk_3 (dk_at dksX8_isUnder_0 17 rfl rfl)
theorem dX8_isUnder_18 : decode cX8_isUnder 18 = .ok (.ireturn, 1) := dk_172 (dk_at dksX8_isUnder_0 18 rfl rfl)
theorem q112 : (Jvm.Cond.initialized "ThunderCasks$Roll") ∈ lw_all := lw_g (lw_at lw_m1 12 rfl) rfl
theorem q338 : (Jvm.Cond.instantiable "ThunderCasks$Roll" (3 : Nat)) ∈ lw_all := lw_g (lw_at lw_m1 238 rfl) rfl
theorem q340 : (Jvm.Cond.instanceMethod ({ cls := "ThunderCasks$Roll", name := "<init>", desc := "(LThunderCasks;I)V" } : Jvm.MethodName)) ∈ lw_all := lw_g (lw_at lw_m2 0 rfl) rfl
theorem q341 : (Jvm.Cond.code ({ cls := "ThunderCasks$Roll", name := "<init>", desc := "(LThunderCasks;I)V" } : Jvm.MethodName) prog_10_method_1_code (3 : Nat) (Option.none : Option Jvm.ClassFile.FieldType)) ∈ lw_all := lw_g (lw_at lw_m2 1 rfl) rfl
theorem q342 : (Jvm.Cond.methodLink "ThunderCasks$Roll" (9 : Nat) ({ cls := "ThunderCasks$Cask", name := "<init>", desc := "(LThunderCasks;I)V" } : Jvm.MethodName)) ∈ lw_all := lw_g (lw_at lw_m2 2 rfl) rfl
theorem q343 : (Jvm.Cond.fieldLink "ThunderCasks$Roll" (3 : Nat) "ThunderCasks$Roll" "this$0" "LThunderCasks;") ∈ lw_all := lw_g (lw_at lw_m2 3 rfl) rfl
theorem q344 : (Jvm.Cond.laysFinal "ThunderCasks$Roll" "ThunderCasks$Roll" "this$0" "LThunderCasks;") ∈ lw_all := lw_g (lw_at lw_m2 4 rfl) rfl
theorem q345 : (Jvm.Cond.soleField "ThunderCasks$Roll" "this$0") ∈ lw_all := lw_g (lw_at lw_m2 5 rfl) rfl
theorem q346 : (Jvm.Cond.laysFinal "ThunderCasks$Roll" "ThunderCasks$Cask" "number" "I") ∈ lw_all := lw_g (lw_at lw_m2 6 rfl) rfl
theorem q347 : (Jvm.Cond.laysFinal "ThunderCasks$Roll" "ThunderCasks$Cask" "this$0" "LThunderCasks;") ∈ lw_all := lw_g (lw_at lw_m2 7 rfl) rfl
theorem q348 : (Jvm.Cond.superclass "ThunderCasks$Roll" "ThunderCasks$Cask") ∈ lw_all := lw_g (lw_at lw_m2 8 rfl) rfl
theorem q518 : (Jvm.Cond.instanceMethod ({ cls := "ThunderCasks$Roll", name := "kind", desc := "()I" } : Jvm.MethodName)) ∈ lw_all := lw_g (lw_at lw_m2 178 rfl) rfl
theorem q519 : (Jvm.Cond.code ({ cls := "ThunderCasks$Roll", name := "kind", desc := "()I" } : Jvm.MethodName) prog_10_method_2_code (1 : Nat) (Option.some Jvm.ClassFile.FieldType.int)) ∈ lw_all := lw_g (lw_at lw_m2 179 rfl) rfl
theorem q520 : (Jvm.Cond.methodLink "ThunderCasks$Roll" (15 : Nat) ({ cls := "ThunderCasks$Cask", name := "kind", desc := "()I" } : Jvm.MethodName)) ∈ lw_all := lw_g (lw_at lw_m2 180 rfl) rfl
theorem q530 : (Jvm.Cond.selects "ThunderCasks$Roll" ({ cls := "ThunderCasks$Cask", name := "kind", desc := "()I" } : Jvm.MethodName) ({ cls := "ThunderCasks$Roll", name := "kind", desc := "()I" } : Jvm.MethodName)) ∈ lw_all := lw_g (lw_at lw_m2 190 rfl) rfl
theorem q557 : (Jvm.Cond.instanceMethod ({ cls := "ThunderCasks$Roll", name := "loud", desc := "()I" } : Jvm.MethodName)) ∈ lw_all := lw_g (lw_at lw_m2 217 rfl) rfl
theorem q558 : (Jvm.Cond.code ({ cls := "ThunderCasks$Roll", name := "loud", desc := "()I" } : Jvm.MethodName) prog_10_method_4_code (2 : Nat) (Option.some Jvm.ClassFile.FieldType.int)) ∈ lw_all := lw_g (lw_at lw_m2 218 rfl) rfl
theorem q559 : (Jvm.Cond.methodLink "ThunderCasks$Roll" (23 : Nat) ({ cls := "ThunderCasks$Cask", name := "loud", desc := "()I" } : Jvm.MethodName)) ∈ lw_all := lw_g (lw_at lw_m2 219 rfl) rfl
theorem q560 : (Jvm.Cond.methodLink "ThunderCasks$Roll" (26 : Nat) ({ cls := "ThunderCasks$Roll", name := "told", desc := "(I)I" } : Jvm.MethodName)) ∈ lw_all := lw_g (lw_at lw_m2 220 rfl) rfl
theorem q561 : (Jvm.Cond.sameMethod "ThunderCasks$Roll" "ThunderCasks$Cask" "told" "(I)I") ∈ lw_all := lw_g (lw_at lw_m2 221 rfl) rfl
theorem q564 : (Jvm.Cond.selects "ThunderCasks$Roll" ({ cls := "ThunderCasks$Roll", name := "told", desc := "(I)I" } : Jvm.MethodName) ({ cls := "ThunderCasks$Cask", name := "told", desc := "(I)I" } : Jvm.MethodName)) ∈ lw_all := lw_g (lw_at lw_m2 224 rfl) rfl
theorem q595 : (Jvm.Cond.selects "ThunderCasks$Roll" ({ cls := "ThunderCasks$Cask", name := "loud", desc := "()I" } : Jvm.MethodName) ({ cls := "ThunderCasks$Roll", name := "loud", desc := "()I" } : Jvm.MethodName)) ∈ lw_all := lw_g (lw_at lw_m3 15 rfl) rfl
theorem q618 : (Jvm.Cond.selects "ThunderCasks$Roll" ({ cls := "ThunderCasks$Cask", name := "leaks", desc := "()I" } : Jvm.MethodName) ({ cls := "ThunderCasks$Cask", name := "leaks", desc := "()I" } : Jvm.MethodName)) ∈ lw_all := lw_g (lw_at lw_m3 38 rfl) rfl
theorem q631 : (Jvm.Cond.instanceMethod ({ cls := "ThunderCasks$Roll", name := "bears", desc := "()I" } : Jvm.MethodName)) ∈ lw_all := lw_g (lw_at lw_m3 51 rfl) rfl
theorem q632 : (Jvm.Cond.code ({ cls := "ThunderCasks$Roll", name := "bears", desc := "()I" } : Jvm.MethodName) prog_10_method_5_code (1 : Nat) (Option.some Jvm.ClassFile.FieldType.int)) ∈ lw_all := lw_g (lw_at lw_m3 52 rfl) rfl
theorem q633 : (Jvm.Cond.methodLink "ThunderCasks$Roll" (30 : Nat) ({ cls := "ThunderCasks$Cask", name := "bears", desc := "()I" } : Jvm.MethodName)) ∈ lw_all := lw_g (lw_at lw_m3 53 rfl) rfl
theorem q637 : (Jvm.Cond.selects "ThunderCasks$Roll" ({ cls := "ThunderCasks$Cask", name := "bears", desc := "()I" } : Jvm.MethodName) ({ cls := "ThunderCasks$Roll", name := "bears", desc := "()I" } : Jvm.MethodName)) ∈ lw_all := lw_g (lw_at lw_m3 57 rfl) rfl
theorem q683 : (Jvm.Cond.castable "ThunderCasks$Roll" "ThunderCasks$Thunders") ∈ lw_tbl := lw_at lw_m3 103 rfl
theorem q684 : (Jvm.Cond.selects "ThunderCasks$Roll" ({ cls := "ThunderCasks$Thunders", name := "loud", desc := "()I" } : Jvm.MethodName) ({ cls := "ThunderCasks$Roll", name := "loud", desc := "()I" } : Jvm.MethodName)) ∈ lw_all := lw_g (lw_at lw_m3 104 rfl) rfl
theorem q685 : (Jvm.Cond.unhidden "ThunderCasks$Roll" "loud" "()I") ∈ lw_tbl := lw_at lw_m3 105 rfl
theorem q686 : (Jvm.Cond.publicMethod ({ cls := "ThunderCasks$Roll", name := "loud", desc := "()I" } : Jvm.MethodName)) ∈ lw_tbl := lw_at lw_m3 106 rfl
theorem q757 : (Jvm.Cond.publicMethod ({ cls := "ThunderCasks$Roll", name := "bears", desc := "()I" } : Jvm.MethodName)) ∈ lw_tbl := lw_at lw_m3 177 rfl
theorem q764 : (Jvm.Cond.selects "ThunderCasks$Roll" ({ cls := "ThunderCasks$Thunders", name := "bears", desc := "()I" } : Jvm.MethodName) ({ cls := "ThunderCasks$Roll", name := "bears", desc := "()I" } : Jvm.MethodName)) ∈ lw_all := lw_g (lw_at lw_m3 184 rfl) rfl
theorem q765 : (Jvm.Cond.unhidden "ThunderCasks$Roll" "bears" "()I") ∈ lw_tbl := lw_at lw_m3 185 rfl
theorem q1158 : (Jvm.Cond.instanceMethod ({ cls := "ThunderCasks$Roll", name := "isUnder", desc := "(I)Z" } : Jvm.MethodName)) ∈ lw_all := lw_g (lw_at lw_m5 98 rfl) rfl
theorem q1159 : (Jvm.Cond.code ({ cls := "ThunderCasks$Roll", name := "isUnder", desc := "(I)Z" } : Jvm.MethodName) prog_10_method_3_code (2 : Nat) (Option.some Jvm.ClassFile.FieldType.boolean)) ∈ lw_all := lw_g (lw_at lw_m5 99 rfl) rfl
theorem q1160 : (Jvm.Cond.methodLink "ThunderCasks$Roll" (19 : Nat) ({ cls := "ThunderCasks$Cask", name := "isUnder", desc := "(I)Z" } : Jvm.MethodName)) ∈ lw_all := lw_g (lw_at lw_m5 100 rfl) rfl
theorem q1164 : (Jvm.Cond.selects "ThunderCasks$Roll" ({ cls := "ThunderCasks$Cask", name := "isUnder", desc := "(I)Z" } : Jvm.MethodName) ({ cls := "ThunderCasks$Roll", name := "isUnder", desc := "(I)Z" } : Jvm.MethodName)) ∈ lw_all := lw_g (lw_at lw_m5 104 rfl) rfl
theorem q1709 : (Jvm.Cond.sameMethod "ThunderCasks$Roll" "ThunderCasks$Roll" "kind" "()I") ∈ lw_all := lw_g (lw_at lw_m7 169 rfl) rfl
theorem q1712 : (Jvm.Cond.sameMethod "ThunderCasks$Roll" "ThunderCasks$Roll" "loud" "()I") ∈ lw_all := lw_g (lw_at lw_m7 172 rfl) rfl
theorem q1721 : (Jvm.Cond.selects "ThunderCasks$Roll" ({ cls := "ThunderCasks$Cask", name := "told", desc := "(I)I" } : Jvm.MethodName) ({ cls := "ThunderCasks$Cask", name := "told", desc := "(I)I" } : Jvm.MethodName)) ∈ lw_all := lw_g (lw_at lw_m7 181 rfl) rfl
theorem q1723 : (Jvm.Cond.sameMethod "ThunderCasks$Roll" "ThunderCasks$Roll" "isUnder" "(I)Z") ∈ lw_all := lw_g (lw_at lw_m7 183 rfl) rfl
theorem q1729 : (Jvm.Cond.castable "ThunderCasks$Roll" "ThunderCasks$Cask") ∈ lw_tbl := lw_at lw_m7 189 rfl
theorem in_X8 : ∀ w ∈ wsX80, w ∈ lw_all := lw_in wsX80 [346, 347, 344] (by decide +kernel) (by decide +kernel)
/-! ThunderCasks$Mellow -/
set_option maxRecDepth 100000
def RX9 : String := "ThunderCasks$Mellow"
def TX9 : u_T := fun k => match k with
  | 0 => ("ThunderCasks$Cask", "number", "I", true)
  | 1 => ("ThunderCasks$Cask", "this$0", "LThunderCasks;", true)
  | 2 => ("ThunderCasks$Roll", "this$0", "LThunderCasks;", true)
  | _ => ("ThunderCasks$Mellow", "this$0", "LThunderCasks;", true)
def tyX9 : Nat → FieldType := fun k => match k with
  | 0 => .int
  | 1 => .object "ThunderCasks"
  | 2 => .object "ThunderCasks"
  | _ => .object "ThunderCasks"
abbrev wsX90 : List Cond := u_ws RX9 TX9 4
-- two fields of one name: no nmX9
theorem tyX9_ok : ∀ k, k < 4 → parseFieldDescriptor (TX9 k).2.2.1 = some (tyX9 k) := by decide +kernel
abbrev cX9_init : ByteArray := prog_7_method_1_code
def yX9_init : MethodName := ⟨RX9, "<init>", "(LThunderCasks;I)V"⟩
def dkwX9_init_0 : List UInt8 := [42, 43, 181, 0, 3, 42, 43, 28, 183, 0, 9, 177]
abbrev dktX9_init_0 : List UInt8 := dkwX9_init_0 ++ []
theorem dksX9_init_0 : cX9_init.data.toList.drop 0 = dktX9_init_0 := by decide +kernel
theorem dX9_init_0 : decode cX9_init 0 = .ok (.aload_n 0, 1) := dk_42 (dk_at dksX9_init_0 0 rfl rfl)
theorem dX9_init_1 : decode cX9_init 1 = .ok (.aload_n 1, 1) := dk_43 (dk_at dksX9_init_0 1 rfl rfl)
theorem dX9_init_2 : decode cX9_init 2 = .ok (.putfield 3, 3) := dk_181 0 3 (dk_at dksX9_init_0 2 rfl rfl)
theorem dX9_init_5 : decode cX9_init 5 = .ok (.aload_n 0, 1) := dk_42 (dk_at dksX9_init_0 5 rfl rfl)
theorem dX9_init_6 : decode cX9_init 6 = .ok (.aload_n 1, 1) := dk_43 (dk_at dksX9_init_0 6 rfl rfl)
theorem dX9_init_7 : decode cX9_init 7 = .ok (.iload_n 2, 1) := dk_28 (dk_at dksX9_init_0 7 rfl rfl)
theorem dX9_init_8 : decode cX9_init 8 = .ok (.invokespecial 9, 3) := dk_183 0 9 (dk_at dksX9_init_0 8 rfl rfl)
theorem dX9_init_11 : decode cX9_init 11 = .ok (.return_, 1) := dk_177 (dk_at dksX9_init_0 11 rfl rfl)
abbrev cX9_kind : ByteArray := prog_7_method_2_code
def yX9_kind : MethodName := ⟨RX9, "kind", "()I"⟩
def dkwX9_kind_0 : List UInt8 := [4, 42, 183, 0, 15, 96, 172]
abbrev dktX9_kind_0 : List UInt8 := dkwX9_kind_0 ++ []
theorem dksX9_kind_0 : cX9_kind.data.toList.drop 0 = dktX9_kind_0 := by decide +kernel
theorem dX9_kind_0 : decode cX9_kind 0 = .ok (.iconst 1, 1) := dk_4 (dk_at dksX9_kind_0 0 rfl rfl)
theorem dX9_kind_1 : decode cX9_kind 1 = .ok (.aload_n 0, 1) := dk_42 (dk_at dksX9_kind_0 1 rfl rfl)
theorem dX9_kind_2 : decode cX9_kind 2 = .ok (.invokespecial 15, 3) := dk_183 0 15 (dk_at dksX9_kind_0 2 rfl rfl)
theorem dX9_kind_5 : decode cX9_kind 5 = .ok (.iadd, 1) := dk_96 (dk_at dksX9_kind_0 5 rfl rfl)
theorem dX9_kind_6 : decode cX9_kind 6 = .ok (.ireturn, 1) := dk_172 (dk_at dksX9_kind_0 6 rfl rfl)
abbrev cX9_loud : ByteArray := prog_7_method_4_code
def yX9_loud : MethodName := ⟨RX9, "loud", "()I"⟩
def dkwX9_loud_0 : List UInt8 := [42, 42, 183, 0, 23, 182, 0, 26, 172]
abbrev dktX9_loud_0 : List UInt8 := dkwX9_loud_0 ++ []
theorem dksX9_loud_0 : cX9_loud.data.toList.drop 0 = dktX9_loud_0 := by decide +kernel
theorem dX9_loud_0 : decode cX9_loud 0 = .ok (.aload_n 0, 1) := dk_42 (dk_at dksX9_loud_0 0 rfl rfl)
theorem dX9_loud_1 : decode cX9_loud 1 = .ok (.aload_n 0, 1) := dk_42 (dk_at dksX9_loud_0 1 rfl rfl)
theorem dX9_loud_2 : decode cX9_loud 2 = .ok (.invokespecial 23, 3) := dk_183 0 23 (dk_at dksX9_loud_0 2 rfl rfl)
theorem dX9_loud_5 : decode cX9_loud 5 = .ok (.invokevirtual 26, 3) := dk_182 0 26 (dk_at dksX9_loud_0 5 rfl rfl)
theorem dX9_loud_8 : decode cX9_loud 8 = .ok (.ireturn, 1) := dk_172 (dk_at dksX9_loud_0 8 rfl rfl)
abbrev cX9_leaks : ByteArray := prog_7_method_5_code
def yX9_leaks : MethodName := ⟨RX9, "leaks", "()I"⟩
theorem dX9_leaks_0 : decode cX9_leaks 0 = .ok (.iconst 0, 1) := by decide +kernel
theorem dX9_leaks_1 : decode cX9_leaks 1 = .ok (.ireturn, 1) := by decide +kernel
abbrev cX9_isUnder : ByteArray := prog_7_method_3_code
def yX9_isUnder : MethodName := ⟨RX9, "isUnder", "(I)Z"⟩
def dkwX9_isUnder_0 : List UInt8 := [27, 6, 159, 0, 11, 42, 27, 183, 0, 19, 153, 0, 7, 4, 167, 0, 4, 3, 172]
abbrev dktX9_isUnder_0 : List UInt8 := dkwX9_isUnder_0 ++ []
theorem dksX9_isUnder_0 : cX9_isUnder.data.toList.drop 0 = dktX9_isUnder_0 := by decide +kernel
theorem dX9_isUnder_0 : decode cX9_isUnder 0 = .ok (.iload_n 1, 1) := dk_27 (dk_at dksX9_isUnder_0 0 rfl rfl)
theorem dX9_isUnder_1 : decode cX9_isUnder 1 = .ok (.iconst 3, 1) := dk_6 (dk_at dksX9_isUnder_0 1 rfl rfl)
theorem dX9_isUnder_2 : decode cX9_isUnder 2 = .ok (.if_icmp .eq 11, 3) := dk_159 0 11 (dk_at dksX9_isUnder_0 2 rfl rfl)
theorem dX9_isUnder_5 : decode cX9_isUnder 5 = .ok (.aload_n 0, 1) := dk_42 (dk_at dksX9_isUnder_0 5 rfl rfl)
theorem dX9_isUnder_6 : decode cX9_isUnder 6 = .ok (.iload_n 1, 1) := dk_27 (dk_at dksX9_isUnder_0 6 rfl rfl)
theorem dX9_isUnder_7 : decode cX9_isUnder 7 = .ok (.invokespecial 19, 3) := dk_183 0 19 (dk_at dksX9_isUnder_0 7 rfl rfl)
theorem dX9_isUnder_10 : decode cX9_isUnder 10 = .ok (.ifCond .eq 7, 3) := dk_153 0 7 (dk_at dksX9_isUnder_0 10 rfl rfl)
theorem dX9_isUnder_13 : decode cX9_isUnder 13 = .ok (.iconst 1, 1) := dk_4 (dk_at dksX9_isUnder_0 13 rfl rfl)
theorem dX9_isUnder_14 : decode cX9_isUnder 14 = .ok (.goto 4, 3) := dk_167 0 4 (dk_at dksX9_isUnder_0 14 rfl rfl)
theorem dX9_isUnder_17 : decode cX9_isUnder 17 = .ok (.iconst 0, 1) := dk_3 (dk_at dksX9_isUnder_0 17 rfl rfl)
theorem dX9_isUnder_18 : decode cX9_isUnder 18 = .ok (.ireturn, 1) := dk_172 (dk_at dksX9_isUnder_0 18 rfl rfl)
theorem q113 : (Jvm.Cond.initialized "ThunderCasks$Mellow") ∈ lw_all := lw_g (lw_at lw_m1 13 rfl) rfl
theorem q350 : (Jvm.Cond.instantiable "ThunderCasks$Mellow" (4 : Nat)) ∈ lw_all := lw_g (lw_at lw_m2 10 rfl) rfl
theorem q352 : (Jvm.Cond.instanceMethod ({ cls := "ThunderCasks$Mellow", name := "<init>", desc := "(LThunderCasks;I)V" } : Jvm.MethodName)) ∈ lw_all := lw_g (lw_at lw_m2 12 rfl) rfl
theorem q353 : (Jvm.Cond.code ({ cls := "ThunderCasks$Mellow", name := "<init>", desc := "(LThunderCasks;I)V" } : Jvm.MethodName) prog_7_method_1_code (3 : Nat) (Option.none : Option Jvm.ClassFile.FieldType)) ∈ lw_all := lw_g (lw_at lw_m2 13 rfl) rfl
theorem q354 : (Jvm.Cond.methodLink "ThunderCasks$Mellow" (9 : Nat) ({ cls := "ThunderCasks$Roll", name := "<init>", desc := "(LThunderCasks;I)V" } : Jvm.MethodName)) ∈ lw_all := lw_g (lw_at lw_m2 14 rfl) rfl
theorem q355 : (Jvm.Cond.fieldLink "ThunderCasks$Mellow" (3 : Nat) "ThunderCasks$Mellow" "this$0" "LThunderCasks;") ∈ lw_all := lw_g (lw_at lw_m2 15 rfl) rfl
theorem q356 : (Jvm.Cond.laysFinal "ThunderCasks$Mellow" "ThunderCasks$Mellow" "this$0" "LThunderCasks;") ∈ lw_all := lw_g (lw_at lw_m2 16 rfl) rfl
theorem q357 : (Jvm.Cond.soleField "ThunderCasks$Mellow" "this$0") ∈ lw_all := lw_g (lw_at lw_m2 17 rfl) rfl
theorem q358 : (Jvm.Cond.laysFinal "ThunderCasks$Mellow" "ThunderCasks$Roll" "this$0" "LThunderCasks;") ∈ lw_all := lw_g (lw_at lw_m2 18 rfl) rfl
theorem q359 : (Jvm.Cond.laysFinal "ThunderCasks$Mellow" "ThunderCasks$Cask" "number" "I") ∈ lw_all := lw_g (lw_at lw_m2 19 rfl) rfl
theorem q360 : (Jvm.Cond.laysFinal "ThunderCasks$Mellow" "ThunderCasks$Cask" "this$0" "LThunderCasks;") ∈ lw_all := lw_g (lw_at lw_m2 20 rfl) rfl
theorem q361 : (Jvm.Cond.superclass "ThunderCasks$Mellow" "ThunderCasks$Roll") ∈ lw_all := lw_g (lw_at lw_m2 21 rfl) rfl
theorem q515 : (Jvm.Cond.instanceMethod ({ cls := "ThunderCasks$Mellow", name := "kind", desc := "()I" } : Jvm.MethodName)) ∈ lw_all := lw_g (lw_at lw_m2 175 rfl) rfl
theorem q516 : (Jvm.Cond.code ({ cls := "ThunderCasks$Mellow", name := "kind", desc := "()I" } : Jvm.MethodName) prog_7_method_2_code (1 : Nat) (Option.some Jvm.ClassFile.FieldType.int)) ∈ lw_all := lw_g (lw_at lw_m2 176 rfl) rfl
theorem q517 : (Jvm.Cond.methodLink "ThunderCasks$Mellow" (15 : Nat) ({ cls := "ThunderCasks$Roll", name := "kind", desc := "()I" } : Jvm.MethodName)) ∈ lw_all := lw_g (lw_at lw_m2 177 rfl) rfl
theorem q529 : (Jvm.Cond.selects "ThunderCasks$Mellow" ({ cls := "ThunderCasks$Cask", name := "kind", desc := "()I" } : Jvm.MethodName) ({ cls := "ThunderCasks$Mellow", name := "kind", desc := "()I" } : Jvm.MethodName)) ∈ lw_all := lw_g (lw_at lw_m2 189 rfl) rfl
theorem q554 : (Jvm.Cond.instanceMethod ({ cls := "ThunderCasks$Mellow", name := "loud", desc := "()I" } : Jvm.MethodName)) ∈ lw_all := lw_g (lw_at lw_m2 214 rfl) rfl
theorem q555 : (Jvm.Cond.code ({ cls := "ThunderCasks$Mellow", name := "loud", desc := "()I" } : Jvm.MethodName) prog_7_method_4_code (1 : Nat) (Option.some Jvm.ClassFile.FieldType.int)) ∈ lw_all := lw_g (lw_at lw_m2 215 rfl) rfl
theorem q556 : (Jvm.Cond.methodLink "ThunderCasks$Mellow" (23 : Nat) ({ cls := "ThunderCasks$Roll", name := "loud", desc := "()I" } : Jvm.MethodName)) ∈ lw_all := lw_g (lw_at lw_m2 216 rfl) rfl
theorem q563 : (Jvm.Cond.selects "ThunderCasks$Mellow" ({ cls := "ThunderCasks$Roll", name := "told", desc := "(I)I" } : Jvm.MethodName) ({ cls := "ThunderCasks$Cask", name := "told", desc := "(I)I" } : Jvm.MethodName)) ∈ lw_all := lw_g (lw_at lw_m2 223 rfl) rfl
theorem q567 : (Jvm.Cond.unhidden "ThunderCasks$Mellow" "half" "(I)I") ∈ lw_tbl := lw_at lw_m2 227 rfl
theorem q594 : (Jvm.Cond.selects "ThunderCasks$Mellow" ({ cls := "ThunderCasks$Cask", name := "loud", desc := "()I" } : Jvm.MethodName) ({ cls := "ThunderCasks$Mellow", name := "loud", desc := "()I" } : Jvm.MethodName)) ∈ lw_all := lw_g (lw_at lw_m3 14 rfl) rfl
theorem q607 : (Jvm.Cond.instanceMethod ({ cls := "ThunderCasks$Mellow", name := "leaks", desc := "()I" } : Jvm.MethodName)) ∈ lw_all := lw_g (lw_at lw_m3 27 rfl) rfl
theorem q608 : (Jvm.Cond.code ({ cls := "ThunderCasks$Mellow", name := "leaks", desc := "()I" } : Jvm.MethodName) prog_7_method_5_code (1 : Nat) (Option.some Jvm.ClassFile.FieldType.int)) ∈ lw_all := lw_g (lw_at lw_m3 28 rfl) rfl
theorem q617 : (Jvm.Cond.selects "ThunderCasks$Mellow" ({ cls := "ThunderCasks$Cask", name := "leaks", desc := "()I" } : Jvm.MethodName) ({ cls := "ThunderCasks$Mellow", name := "leaks", desc := "()I" } : Jvm.MethodName)) ∈ lw_all := lw_g (lw_at lw_m3 37 rfl) rfl
theorem q636 : (Jvm.Cond.selects "ThunderCasks$Mellow" ({ cls := "ThunderCasks$Cask", name := "bears", desc := "()I" } : Jvm.MethodName) ({ cls := "ThunderCasks$Roll", name := "bears", desc := "()I" } : Jvm.MethodName)) ∈ lw_all := lw_g (lw_at lw_m3 56 rfl) rfl
theorem q679 : (Jvm.Cond.castable "ThunderCasks$Mellow" "ThunderCasks$Thunders") ∈ lw_tbl := lw_at lw_m3 99 rfl
theorem q680 : (Jvm.Cond.selects "ThunderCasks$Mellow" ({ cls := "ThunderCasks$Thunders", name := "loud", desc := "()I" } : Jvm.MethodName) ({ cls := "ThunderCasks$Mellow", name := "loud", desc := "()I" } : Jvm.MethodName)) ∈ lw_all := lw_g (lw_at lw_m3 100 rfl) rfl
theorem q681 : (Jvm.Cond.unhidden "ThunderCasks$Mellow" "loud" "()I") ∈ lw_tbl := lw_at lw_m3 101 rfl
theorem q682 : (Jvm.Cond.publicMethod ({ cls := "ThunderCasks$Mellow", name := "loud", desc := "()I" } : Jvm.MethodName)) ∈ lw_tbl := lw_at lw_m3 102 rfl
theorem q762 : (Jvm.Cond.selects "ThunderCasks$Mellow" ({ cls := "ThunderCasks$Thunders", name := "bears", desc := "()I" } : Jvm.MethodName) ({ cls := "ThunderCasks$Roll", name := "bears", desc := "()I" } : Jvm.MethodName)) ∈ lw_all := lw_g (lw_at lw_m3 182 rfl) rfl
theorem q763 : (Jvm.Cond.unhidden "ThunderCasks$Mellow" "bears" "()I") ∈ lw_tbl := lw_at lw_m3 183 rfl
theorem q1155 : (Jvm.Cond.instanceMethod ({ cls := "ThunderCasks$Mellow", name := "isUnder", desc := "(I)Z" } : Jvm.MethodName)) ∈ lw_all := lw_g (lw_at lw_m5 95 rfl) rfl
theorem q1156 : (Jvm.Cond.code ({ cls := "ThunderCasks$Mellow", name := "isUnder", desc := "(I)Z" } : Jvm.MethodName) prog_7_method_3_code (2 : Nat) (Option.some Jvm.ClassFile.FieldType.boolean)) ∈ lw_all := lw_g (lw_at lw_m5 96 rfl) rfl
theorem q1157 : (Jvm.Cond.methodLink "ThunderCasks$Mellow" (19 : Nat) ({ cls := "ThunderCasks$Roll", name := "isUnder", desc := "(I)Z" } : Jvm.MethodName)) ∈ lw_all := lw_g (lw_at lw_m5 97 rfl) rfl
theorem q1163 : (Jvm.Cond.selects "ThunderCasks$Mellow" ({ cls := "ThunderCasks$Cask", name := "isUnder", desc := "(I)Z" } : Jvm.MethodName) ({ cls := "ThunderCasks$Mellow", name := "isUnder", desc := "(I)Z" } : Jvm.MethodName)) ∈ lw_all := lw_g (lw_at lw_m5 103 rfl) rfl
theorem q1708 : (Jvm.Cond.sameMethod "ThunderCasks$Mellow" "ThunderCasks$Mellow" "kind" "()I") ∈ lw_all := lw_g (lw_at lw_m7 168 rfl) rfl
theorem q1711 : (Jvm.Cond.sameMethod "ThunderCasks$Mellow" "ThunderCasks$Mellow" "loud" "()I") ∈ lw_all := lw_g (lw_at lw_m7 171 rfl) rfl
theorem q1720 : (Jvm.Cond.selects "ThunderCasks$Mellow" ({ cls := "ThunderCasks$Cask", name := "told", desc := "(I)I" } : Jvm.MethodName) ({ cls := "ThunderCasks$Cask", name := "told", desc := "(I)I" } : Jvm.MethodName)) ∈ lw_all := lw_g (lw_at lw_m7 180 rfl) rfl
theorem q1728 : (Jvm.Cond.castable "ThunderCasks$Mellow" "ThunderCasks$Cask") ∈ lw_tbl := lw_at lw_m7 188 rfl
theorem q1732 : (Jvm.Cond.castable "ThunderCasks$Mellow" "ThunderCasks$Roll") ∈ lw_tbl := lw_at lw_m7 192 rfl
theorem in_X9 : ∀ w ∈ wsX90, w ∈ lw_all := lw_in wsX90 [359, 360, 358, 356] (by decide +kernel) (by decide +kernel)
/-! ThunderCasks$Echo -/
set_option maxRecDepth 100000
def RX10 : String := "ThunderCasks$Echo"
def TX10 : u_T := fun k => match k with
  | 0 => ("ThunderCasks$Cask", "number", "I", true)
  | 1 => ("ThunderCasks$Cask", "this$0", "LThunderCasks;", true)
  | 2 => ("ThunderCasks$Roll", "this$0", "LThunderCasks;", true)
  | 3 => ("ThunderCasks$Mellow", "this$0", "LThunderCasks;", true)
  | _ => ("ThunderCasks$Echo", "this$0", "LThunderCasks;", true)
def tyX10 : Nat → FieldType := fun k => match k with
  | 0 => .int
  | 1 => .object "ThunderCasks"
  | 2 => .object "ThunderCasks"
  | 3 => .object "ThunderCasks"
  | _ => .object "ThunderCasks"
abbrev wsX100 : List Cond := u_ws RX10 TX10 5
-- two fields of one name: no nmX10
theorem tyX10_ok : ∀ k, k < 5 → parseFieldDescriptor (TX10 k).2.2.1 = some (tyX10 k) := by decide +kernel
abbrev cX10_init : ByteArray := prog_4_method_1_code
def yX10_init : MethodName := ⟨RX10, "<init>", "(LThunderCasks;I)V"⟩
def dkwX10_init_0 : List UInt8 := [42, 43, 181, 0, 3, 42, 43, 28, 183, 0, 9, 177]
abbrev dktX10_init_0 : List UInt8 := dkwX10_init_0 ++ []
theorem dksX10_init_0 : cX10_init.data.toList.drop 0 = dktX10_init_0 := by decide +kernel
theorem dX10_init_0 : decode cX10_init 0 = .ok (.aload_n 0, 1) := dk_42 (dk_at dksX10_init_0 0 rfl rfl)
theorem dX10_init_1 : decode cX10_init 1 = .ok (.aload_n 1, 1) := dk_43 (dk_at dksX10_init_0 1 rfl rfl)
theorem dX10_init_2 : decode cX10_init 2 = .ok (.putfield 3, 3) := dk_181 0 3 (dk_at dksX10_init_0 2 rfl rfl)
theorem dX10_init_5 : decode cX10_init 5 = .ok (.aload_n 0, 1) := dk_42 (dk_at dksX10_init_0 5 rfl rfl)
theorem dX10_init_6 : decode cX10_init 6 = .ok (.aload_n 1, 1) := dk_43 (dk_at dksX10_init_0 6 rfl rfl)
theorem dX10_init_7 : decode cX10_init 7 = .ok (.iload_n 2, 1) := dk_28 (dk_at dksX10_init_0 7 rfl rfl)
theorem dX10_init_8 : decode cX10_init 8 = .ok (.invokespecial 9, 3) := dk_183 0 9 (dk_at dksX10_init_0 8 rfl rfl)
theorem dX10_init_11 : decode cX10_init 11 = .ok (.return_, 1) := dk_177 (dk_at dksX10_init_0 11 rfl rfl)
abbrev cX10_kind : ByteArray := prog_4_method_2_code
def yX10_kind : MethodName := ⟨RX10, "kind", "()I"⟩
def dkwX10_kind_0 : List UInt8 := [4, 42, 183, 0, 15, 96, 172]
abbrev dktX10_kind_0 : List UInt8 := dkwX10_kind_0 ++ []
theorem dksX10_kind_0 : cX10_kind.data.toList.drop 0 = dktX10_kind_0 := by decide +kernel
theorem dX10_kind_0 : decode cX10_kind 0 = .ok (.iconst 1, 1) := dk_4 (dk_at dksX10_kind_0 0 rfl rfl)
theorem dX10_kind_1 : decode cX10_kind 1 = .ok (.aload_n 0, 1) := dk_42 (dk_at dksX10_kind_0 1 rfl rfl)
theorem dX10_kind_2 : decode cX10_kind 2 = .ok (.invokespecial 15, 3) := dk_183 0 15 (dk_at dksX10_kind_0 2 rfl rfl)
theorem dX10_kind_5 : decode cX10_kind 5 = .ok (.iadd, 1) := dk_96 (dk_at dksX10_kind_0 5 rfl rfl)
theorem dX10_kind_6 : decode cX10_kind 6 = .ok (.ireturn, 1) := dk_172 (dk_at dksX10_kind_0 6 rfl rfl)
abbrev cX10_loud : ByteArray := prog_4_method_3_code
def yX10_loud : MethodName := ⟨RX10, "loud", "()I"⟩
def dkwX10_loud_1 : List UInt8 := [100, 104, 96, 172]
abbrev dktX10_loud_1 : List UInt8 := dkwX10_loud_1 ++ []
def dkwX10_loud_0 : List UInt8 := [42, 183, 0, 19, 8, 42, 180, 0, 3, 180, 0, 22, 42, 4, 182, 0, 26, 182, 0, 30, 184, 0, 35, 4]
abbrev dktX10_loud_0 : List UInt8 := dkwX10_loud_0 ++ dktX10_loud_1
theorem dksX10_loud_0 : cX10_loud.data.toList.drop 0 = dktX10_loud_0 := by decide +kernel
theorem dksX10_loud_1 : cX10_loud.data.toList.drop 24 = dktX10_loud_1 := dk_seg dksX10_loud_0 24 rfl rfl
theorem dX10_loud_0 : decode cX10_loud 0 = .ok (.aload_n 0, 1) := dk_42 (dk_at dksX10_loud_0 0 rfl rfl)
theorem dX10_loud_1 : decode cX10_loud 1 = .ok (.invokespecial 19, 3) := dk_183 0 19 (dk_at dksX10_loud_0 1 rfl rfl)
theorem dX10_loud_4 : decode cX10_loud 4 = .ok (.iconst 5, 1) := dk_8 (dk_at dksX10_loud_0 4 rfl rfl)
theorem dX10_loud_5 : decode cX10_loud 5 = .ok (.aload_n 0, 1) := dk_42 (dk_at dksX10_loud_0 5 rfl rfl)
theorem dX10_loud_6 : decode cX10_loud 6 = .ok (.getfield 3, 3) := dk_180 0 3 (dk_at dksX10_loud_0 6 rfl rfl)
theorem dX10_loud_9 : decode cX10_loud 9 = .ok (.getfield 22, 3) := dk_180 0 22 (dk_at dksX10_loud_0 9 rfl rfl)
theorem dX10_loud_12 : decode cX10_loud 12 = .ok (.aload_n 0, 1) := dk_42 (dk_at dksX10_loud_0 12 rfl rfl)
theorem dX10_loud_13 : decode cX10_loud 13 = .ok (.iconst 1, 1) := dk_4 (dk_at dksX10_loud_0 13 rfl rfl)
theorem dX10_loud_14 : decode cX10_loud 14 = .ok (.invokevirtual 26, 3) := dk_182 0 26 (dk_at dksX10_loud_0 14 rfl rfl)
theorem dX10_loud_17 : decode cX10_loud 17 = .ok (.invokevirtual 30, 3) := dk_182 0 30 (dk_at dksX10_loud_0 17 rfl rfl)
theorem dX10_loud_20 : decode cX10_loud 20 = .ok (.invokestatic 35, 3) := dk_184 0 35 (dk_at dksX10_loud_0 20 rfl rfl)
theorem dX10_loud_23 : decode cX10_loud 23 = .ok (.iconst 1, 1) := dk_4 (dk_at dksX10_loud_0 23 rfl rfl)
theorem dX10_loud_24 : decode cX10_loud 24 = .ok (.isub, 1) := dk_100 (dk_at dksX10_loud_1 0 rfl rfl)
theorem dX10_loud_25 : decode cX10_loud 25 = .ok (.imul, 1) := dk_104 (dk_at dksX10_loud_1 1 rfl rfl)
theorem dX10_loud_26 : decode cX10_loud 26 = .ok (.iadd, 1) := dk_96 (dk_at dksX10_loud_1 2 rfl rfl)
theorem dX10_loud_27 : decode cX10_loud 27 = .ok (.ireturn, 1) := dk_172 (dk_at dksX10_loud_1 3 rfl rfl)
theorem q114 : (Jvm.Cond.initialized "ThunderCasks$Echo") ∈ lw_all := lw_g (lw_at lw_m1 14 rfl) rfl
theorem q363 : (Jvm.Cond.instantiable "ThunderCasks$Echo" (5 : Nat)) ∈ lw_all := lw_g (lw_at lw_m2 23 rfl) rfl
theorem q365 : (Jvm.Cond.instanceMethod ({ cls := "ThunderCasks$Echo", name := "<init>", desc := "(LThunderCasks;I)V" } : Jvm.MethodName)) ∈ lw_all := lw_g (lw_at lw_m2 25 rfl) rfl
theorem q366 : (Jvm.Cond.code ({ cls := "ThunderCasks$Echo", name := "<init>", desc := "(LThunderCasks;I)V" } : Jvm.MethodName) prog_4_method_1_code (3 : Nat) (Option.none : Option Jvm.ClassFile.FieldType)) ∈ lw_all := lw_g (lw_at lw_m2 26 rfl) rfl
theorem q367 : (Jvm.Cond.methodLink "ThunderCasks$Echo" (9 : Nat) ({ cls := "ThunderCasks$Mellow", name := "<init>", desc := "(LThunderCasks;I)V" } : Jvm.MethodName)) ∈ lw_all := lw_g (lw_at lw_m2 27 rfl) rfl
theorem q368 : (Jvm.Cond.fieldLink "ThunderCasks$Echo" (3 : Nat) "ThunderCasks$Echo" "this$0" "LThunderCasks;") ∈ lw_all := lw_g (lw_at lw_m2 28 rfl) rfl
theorem q369 : (Jvm.Cond.laysFinal "ThunderCasks$Echo" "ThunderCasks$Echo" "this$0" "LThunderCasks;") ∈ lw_all := lw_g (lw_at lw_m2 29 rfl) rfl
theorem q370 : (Jvm.Cond.soleField "ThunderCasks$Echo" "this$0") ∈ lw_all := lw_g (lw_at lw_m2 30 rfl) rfl
theorem q371 : (Jvm.Cond.laysFinal "ThunderCasks$Echo" "ThunderCasks$Mellow" "this$0" "LThunderCasks;") ∈ lw_all := lw_g (lw_at lw_m2 31 rfl) rfl
theorem q372 : (Jvm.Cond.laysFinal "ThunderCasks$Echo" "ThunderCasks$Roll" "this$0" "LThunderCasks;") ∈ lw_all := lw_g (lw_at lw_m2 32 rfl) rfl
theorem q373 : (Jvm.Cond.laysFinal "ThunderCasks$Echo" "ThunderCasks$Cask" "number" "I") ∈ lw_all := lw_g (lw_at lw_m2 33 rfl) rfl
theorem q374 : (Jvm.Cond.laysFinal "ThunderCasks$Echo" "ThunderCasks$Cask" "this$0" "LThunderCasks;") ∈ lw_all := lw_g (lw_at lw_m2 34 rfl) rfl
theorem q375 : (Jvm.Cond.superclass "ThunderCasks$Echo" "ThunderCasks$Mellow") ∈ lw_all := lw_g (lw_at lw_m2 35 rfl) rfl
theorem q410 : (Jvm.Cond.fieldLinkNest "ThunderCasks$Echo" (22 : Nat) "ThunderCasks" "d" "LThunderCasks$World;" "ThunderCasks") ∈ lw_tbl := lw_at lw_m2 70 rfl
theorem q511 : (Jvm.Cond.selects "ThunderCasks$Echo" ({ cls := "ThunderCasks$Cask", name := "kind", desc := "()I" } : Jvm.MethodName) ({ cls := "ThunderCasks$Echo", name := "kind", desc := "()I" } : Jvm.MethodName)) ∈ lw_all := lw_g (lw_at lw_m2 171 rfl) rfl
theorem q512 : (Jvm.Cond.instanceMethod ({ cls := "ThunderCasks$Echo", name := "kind", desc := "()I" } : Jvm.MethodName)) ∈ lw_all := lw_g (lw_at lw_m2 172 rfl) rfl
theorem q513 : (Jvm.Cond.code ({ cls := "ThunderCasks$Echo", name := "kind", desc := "()I" } : Jvm.MethodName) prog_4_method_2_code (1 : Nat) (Option.some Jvm.ClassFile.FieldType.int)) ∈ lw_all := lw_g (lw_at lw_m2 173 rfl) rfl
theorem q514 : (Jvm.Cond.methodLink "ThunderCasks$Echo" (15 : Nat) ({ cls := "ThunderCasks$Mellow", name := "kind", desc := "()I" } : Jvm.MethodName)) ∈ lw_all := lw_g (lw_at lw_m2 174 rfl) rfl
theorem q550 : (Jvm.Cond.selects "ThunderCasks$Echo" ({ cls := "ThunderCasks$Cask", name := "loud", desc := "()I" } : Jvm.MethodName) ({ cls := "ThunderCasks$Echo", name := "loud", desc := "()I" } : Jvm.MethodName)) ∈ lw_all := lw_g (lw_at lw_m2 210 rfl) rfl
theorem q551 : (Jvm.Cond.instanceMethod ({ cls := "ThunderCasks$Echo", name := "loud", desc := "()I" } : Jvm.MethodName)) ∈ lw_all := lw_g (lw_at lw_m2 211 rfl) rfl
theorem q552 : (Jvm.Cond.code ({ cls := "ThunderCasks$Echo", name := "loud", desc := "()I" } : Jvm.MethodName) prog_4_method_3_code (1 : Nat) (Option.some Jvm.ClassFile.FieldType.int)) ∈ lw_all := lw_g (lw_at lw_m2 212 rfl) rfl
theorem q553 : (Jvm.Cond.methodLink "ThunderCasks$Echo" (19 : Nat) ({ cls := "ThunderCasks$Mellow", name := "loud", desc := "()I" } : Jvm.MethodName)) ∈ lw_all := lw_g (lw_at lw_m2 213 rfl) rfl
theorem q562 : (Jvm.Cond.selects "ThunderCasks$Echo" ({ cls := "ThunderCasks$Roll", name := "told", desc := "(I)I" } : Jvm.MethodName) ({ cls := "ThunderCasks$Cask", name := "told", desc := "(I)I" } : Jvm.MethodName)) ∈ lw_all := lw_g (lw_at lw_m2 222 rfl) rfl
theorem q566 : (Jvm.Cond.unhidden "ThunderCasks$Echo" "half" "(I)I") ∈ lw_tbl := lw_at lw_m2 226 rfl
theorem q571 : (Jvm.Cond.methodLink "ThunderCasks$Echo" (26 : Nat) ({ cls := "ThunderCasks$Echo", name := "told", desc := "(I)I" } : Jvm.MethodName)) ∈ lw_all := lw_g (lw_at lw_m2 231 rfl) rfl
theorem q572 : (Jvm.Cond.sameMethod "ThunderCasks$Echo" "ThunderCasks$Cask" "told" "(I)I") ∈ lw_all := lw_g (lw_at lw_m2 232 rfl) rfl
theorem q573 : (Jvm.Cond.selects "ThunderCasks$Echo" ({ cls := "ThunderCasks$Echo", name := "told", desc := "(I)I" } : Jvm.MethodName) ({ cls := "ThunderCasks$Cask", name := "told", desc := "(I)I" } : Jvm.MethodName)) ∈ lw_all := lw_g (lw_at lw_m2 233 rfl) rfl
theorem q574 : (Jvm.Cond.methodLink "ThunderCasks$Echo" (30 : Nat) ({ cls := "ThunderCasks$World", name := "whatIsIn", desc := "(I)I" } : Jvm.MethodName)) ∈ lw_all := lw_g (lw_at lw_m2 234 rfl) rfl
theorem q575 : (Jvm.Cond.methodLinkNest "ThunderCasks$Echo" (35 : Nat) ({ cls := "ThunderCasks", name := "ones", desc := "(I)I" } : Jvm.MethodName) "ThunderCasks") ∈ lw_tbl := lw_at lw_m2 235 rfl
theorem q606 : (Jvm.Cond.selects "ThunderCasks$Echo" ({ cls := "ThunderCasks$Cask", name := "leaks", desc := "()I" } : Jvm.MethodName) ({ cls := "ThunderCasks$Mellow", name := "leaks", desc := "()I" } : Jvm.MethodName)) ∈ lw_all := lw_g (lw_at lw_m3 26 rfl) rfl
theorem q630 : (Jvm.Cond.selects "ThunderCasks$Echo" ({ cls := "ThunderCasks$Cask", name := "bears", desc := "()I" } : Jvm.MethodName) ({ cls := "ThunderCasks$Roll", name := "bears", desc := "()I" } : Jvm.MethodName)) ∈ lw_all := lw_g (lw_at lw_m3 50 rfl) rfl
theorem q667 : (Jvm.Cond.castable "ThunderCasks$Echo" "ThunderCasks$Thunders") ∈ lw_tbl := lw_at lw_m3 87 rfl
theorem q668 : (Jvm.Cond.selects "ThunderCasks$Echo" ({ cls := "ThunderCasks$Thunders", name := "loud", desc := "()I" } : Jvm.MethodName) ({ cls := "ThunderCasks$Echo", name := "loud", desc := "()I" } : Jvm.MethodName)) ∈ lw_all := lw_g (lw_at lw_m3 88 rfl) rfl
theorem q669 : (Jvm.Cond.unhidden "ThunderCasks$Echo" "loud" "()I") ∈ lw_tbl := lw_at lw_m3 89 rfl
theorem q670 : (Jvm.Cond.publicMethod ({ cls := "ThunderCasks$Echo", name := "loud", desc := "()I" } : Jvm.MethodName)) ∈ lw_tbl := lw_at lw_m3 90 rfl
theorem q755 : (Jvm.Cond.selects "ThunderCasks$Echo" ({ cls := "ThunderCasks$Thunders", name := "bears", desc := "()I" } : Jvm.MethodName) ({ cls := "ThunderCasks$Roll", name := "bears", desc := "()I" } : Jvm.MethodName)) ∈ lw_all := lw_g (lw_at lw_m3 175 rfl) rfl
theorem q756 : (Jvm.Cond.unhidden "ThunderCasks$Echo" "bears" "()I") ∈ lw_tbl := lw_at lw_m3 176 rfl
theorem q1154 : (Jvm.Cond.selects "ThunderCasks$Echo" ({ cls := "ThunderCasks$Cask", name := "isUnder", desc := "(I)Z" } : Jvm.MethodName) ({ cls := "ThunderCasks$Mellow", name := "isUnder", desc := "(I)Z" } : Jvm.MethodName)) ∈ lw_all := lw_g (lw_at lw_m5 94 rfl) rfl
theorem q1717 : (Jvm.Cond.selects "ThunderCasks$Echo" ({ cls := "ThunderCasks$Cask", name := "told", desc := "(I)I" } : Jvm.MethodName) ({ cls := "ThunderCasks$Cask", name := "told", desc := "(I)I" } : Jvm.MethodName)) ∈ lw_all := lw_g (lw_at lw_m7 177 rfl) rfl
theorem q1725 : (Jvm.Cond.castable "ThunderCasks$Echo" "ThunderCasks$Cask") ∈ lw_tbl := lw_at lw_m7 185 rfl
theorem q1731 : (Jvm.Cond.castable "ThunderCasks$Echo" "ThunderCasks$Roll") ∈ lw_tbl := lw_at lw_m7 191 rfl
theorem q1733 : (Jvm.Cond.castable "ThunderCasks$Echo" "ThunderCasks$Mellow") ∈ lw_tbl := lw_at lw_m7 193 rfl
theorem in_X10 : ∀ w ∈ wsX100, w ∈ lw_all := lw_in wsX100 [373, 374, 372, 371, 369] (by decide +kernel) (by decide +kernel)
/-! ThunderCasks$Heat -/
set_option maxRecDepth 100000
def RX11 : String := "ThunderCasks$Heat"
def TX11 : u_T := fun k => match k with
  | 0 => ("ThunderCasks$Cask", "number", "I", true)
  | 1 => ("ThunderCasks$Cask", "this$0", "LThunderCasks;", true)
  | _ => ("ThunderCasks$Heat", "this$0", "LThunderCasks;", true)
def tyX11 : Nat → FieldType := fun k => match k with
  | 0 => .int
  | 1 => .object "ThunderCasks"
  | _ => .object "ThunderCasks"
abbrev wsX110 : List Cond := u_ws RX11 TX11 3
-- two fields of one name: no nmX11
theorem tyX11_ok : ∀ k, k < 3 → parseFieldDescriptor (TX11 k).2.2.1 = some (tyX11 k) := by decide +kernel
abbrev cX11_init : ByteArray := prog_6_method_1_code
def yX11_init : MethodName := ⟨RX11, "<init>", "(LThunderCasks;I)V"⟩
def dkwX11_init_0 : List UInt8 := [42, 43, 181, 0, 1, 42, 43, 28, 183, 0, 7, 177]
abbrev dktX11_init_0 : List UInt8 := dkwX11_init_0 ++ []
theorem dksX11_init_0 : cX11_init.data.toList.drop 0 = dktX11_init_0 := by decide +kernel
theorem dX11_init_0 : decode cX11_init 0 = .ok (.aload_n 0, 1) := dk_42 (dk_at dksX11_init_0 0 rfl rfl)
theorem dX11_init_1 : decode cX11_init 1 = .ok (.aload_n 1, 1) := dk_43 (dk_at dksX11_init_0 1 rfl rfl)
theorem dX11_init_2 : decode cX11_init 2 = .ok (.putfield 1, 3) := dk_181 0 1 (dk_at dksX11_init_0 2 rfl rfl)
theorem dX11_init_5 : decode cX11_init 5 = .ok (.aload_n 0, 1) := dk_42 (dk_at dksX11_init_0 5 rfl rfl)
theorem dX11_init_6 : decode cX11_init 6 = .ok (.aload_n 1, 1) := dk_43 (dk_at dksX11_init_0 6 rfl rfl)
theorem dX11_init_7 : decode cX11_init 7 = .ok (.iload_n 2, 1) := dk_28 (dk_at dksX11_init_0 7 rfl rfl)
theorem dX11_init_8 : decode cX11_init 8 = .ok (.invokespecial 7, 3) := dk_183 0 7 (dk_at dksX11_init_0 8 rfl rfl)
theorem dX11_init_11 : decode cX11_init 11 = .ok (.return_, 1) := dk_177 (dk_at dksX11_init_0 11 rfl rfl)
abbrev cX11_kind : ByteArray := prog_6_method_2_code
def yX11_kind : MethodName := ⟨RX11, "kind", "()I"⟩
def dkwX11_kind_0 : List UInt8 := [8, 42, 183, 0, 13, 96, 172]
abbrev dktX11_kind_0 : List UInt8 := dkwX11_kind_0 ++ []
theorem dksX11_kind_0 : cX11_kind.data.toList.drop 0 = dktX11_kind_0 := by decide +kernel
theorem dX11_kind_0 : decode cX11_kind 0 = .ok (.iconst 5, 1) := dk_8 (dk_at dksX11_kind_0 0 rfl rfl)
theorem dX11_kind_1 : decode cX11_kind 1 = .ok (.aload_n 0, 1) := dk_42 (dk_at dksX11_kind_0 1 rfl rfl)
theorem dX11_kind_2 : decode cX11_kind 2 = .ok (.invokespecial 13, 3) := dk_183 0 13 (dk_at dksX11_kind_0 2 rfl rfl)
theorem dX11_kind_5 : decode cX11_kind 5 = .ok (.iadd, 1) := dk_96 (dk_at dksX11_kind_0 5 rfl rfl)
theorem dX11_kind_6 : decode cX11_kind 6 = .ok (.ireturn, 1) := dk_172 (dk_at dksX11_kind_0 6 rfl rfl)
abbrev cX11_loud : ByteArray := prog_6_method_3_code
def yX11_loud : MethodName := ⟨RX11, "loud", "()I"⟩
theorem dX11_loud_0 : decode cX11_loud 0 = .ok (.iconst 0, 1) := by decide +kernel
theorem dX11_loud_1 : decode cX11_loud 1 = .ok (.ireturn, 1) := by decide +kernel
abbrev cX11_leaks : ByteArray := prog_6_method_4_code
def yX11_leaks : MethodName := ⟨RX11, "leaks", "()I"⟩
def dkwX11_leaks_0 : List UInt8 := [42, 183, 0, 17, 7, 96, 172]
abbrev dktX11_leaks_0 : List UInt8 := dkwX11_leaks_0 ++ []
theorem dksX11_leaks_0 : cX11_leaks.data.toList.drop 0 = dktX11_leaks_0 := by decide +kernel
theorem dX11_leaks_0 : decode cX11_leaks 0 = .ok (.aload_n 0, 1) := dk_42 (dk_at dksX11_leaks_0 0 rfl rfl)
theorem dX11_leaks_1 : decode cX11_leaks 1 = .ok (.invokespecial 17, 3) := dk_183 0 17 (dk_at dksX11_leaks_0 1 rfl rfl)
theorem dX11_leaks_4 : decode cX11_leaks 4 = .ok (.iconst 4, 1) := dk_7 (dk_at dksX11_leaks_0 4 rfl rfl)
theorem dX11_leaks_5 : decode cX11_leaks 5 = .ok (.iadd, 1) := dk_96 (dk_at dksX11_leaks_0 5 rfl rfl)
theorem dX11_leaks_6 : decode cX11_leaks 6 = .ok (.ireturn, 1) := dk_172 (dk_at dksX11_leaks_0 6 rfl rfl)
theorem q115 : (Jvm.Cond.initialized "ThunderCasks$Heat") ∈ lw_all := lw_g (lw_at lw_m1 15 rfl) rfl
theorem q377 : (Jvm.Cond.instantiable "ThunderCasks$Heat" (3 : Nat)) ∈ lw_all := lw_g (lw_at lw_m2 37 rfl) rfl
theorem q379 : (Jvm.Cond.instanceMethod ({ cls := "ThunderCasks$Heat", name := "<init>", desc := "(LThunderCasks;I)V" } : Jvm.MethodName)) ∈ lw_all := lw_g (lw_at lw_m2 39 rfl) rfl
theorem q380 : (Jvm.Cond.code ({ cls := "ThunderCasks$Heat", name := "<init>", desc := "(LThunderCasks;I)V" } : Jvm.MethodName) prog_6_method_1_code (3 : Nat) (Option.none : Option Jvm.ClassFile.FieldType)) ∈ lw_all := lw_g (lw_at lw_m2 40 rfl) rfl
theorem q381 : (Jvm.Cond.methodLink "ThunderCasks$Heat" (7 : Nat) ({ cls := "ThunderCasks$Cask", name := "<init>", desc := "(LThunderCasks;I)V" } : Jvm.MethodName)) ∈ lw_all := lw_g (lw_at lw_m2 41 rfl) rfl
theorem q382 : (Jvm.Cond.fieldLink "ThunderCasks$Heat" (1 : Nat) "ThunderCasks$Heat" "this$0" "LThunderCasks;") ∈ lw_all := lw_g (lw_at lw_m2 42 rfl) rfl
theorem q383 : (Jvm.Cond.laysFinal "ThunderCasks$Heat" "ThunderCasks$Heat" "this$0" "LThunderCasks;") ∈ lw_all := lw_g (lw_at lw_m2 43 rfl) rfl
theorem q384 : (Jvm.Cond.soleField "ThunderCasks$Heat" "this$0") ∈ lw_all := lw_g (lw_at lw_m2 44 rfl) rfl
theorem q385 : (Jvm.Cond.laysFinal "ThunderCasks$Heat" "ThunderCasks$Cask" "number" "I") ∈ lw_all := lw_g (lw_at lw_m2 45 rfl) rfl
theorem q386 : (Jvm.Cond.laysFinal "ThunderCasks$Heat" "ThunderCasks$Cask" "this$0" "LThunderCasks;") ∈ lw_all := lw_g (lw_at lw_m2 46 rfl) rfl
theorem q387 : (Jvm.Cond.superclass "ThunderCasks$Heat" "ThunderCasks$Cask") ∈ lw_all := lw_g (lw_at lw_m2 47 rfl) rfl
theorem q525 : (Jvm.Cond.selects "ThunderCasks$Heat" ({ cls := "ThunderCasks$Cask", name := "kind", desc := "()I" } : Jvm.MethodName) ({ cls := "ThunderCasks$Heat", name := "kind", desc := "()I" } : Jvm.MethodName)) ∈ lw_all := lw_g (lw_at lw_m2 185 rfl) rfl
theorem q526 : (Jvm.Cond.instanceMethod ({ cls := "ThunderCasks$Heat", name := "kind", desc := "()I" } : Jvm.MethodName)) ∈ lw_all := lw_g (lw_at lw_m2 186 rfl) rfl
theorem q527 : (Jvm.Cond.code ({ cls := "ThunderCasks$Heat", name := "kind", desc := "()I" } : Jvm.MethodName) prog_6_method_2_code (1 : Nat) (Option.some Jvm.ClassFile.FieldType.int)) ∈ lw_all := lw_g (lw_at lw_m2 187 rfl) rfl
theorem q528 : (Jvm.Cond.methodLink "ThunderCasks$Heat" (13 : Nat) ({ cls := "ThunderCasks$Cask", name := "kind", desc := "()I" } : Jvm.MethodName)) ∈ lw_all := lw_g (lw_at lw_m2 188 rfl) rfl
theorem q591 : (Jvm.Cond.selects "ThunderCasks$Heat" ({ cls := "ThunderCasks$Cask", name := "loud", desc := "()I" } : Jvm.MethodName) ({ cls := "ThunderCasks$Heat", name := "loud", desc := "()I" } : Jvm.MethodName)) ∈ lw_all := lw_g (lw_at lw_m3 11 rfl) rfl
theorem q592 : (Jvm.Cond.instanceMethod ({ cls := "ThunderCasks$Heat", name := "loud", desc := "()I" } : Jvm.MethodName)) ∈ lw_all := lw_g (lw_at lw_m3 12 rfl) rfl
theorem q593 : (Jvm.Cond.code ({ cls := "ThunderCasks$Heat", name := "loud", desc := "()I" } : Jvm.MethodName) prog_6_method_3_code (1 : Nat) (Option.some Jvm.ClassFile.FieldType.int)) ∈ lw_all := lw_g (lw_at lw_m3 13 rfl) rfl
theorem q613 : (Jvm.Cond.selects "ThunderCasks$Heat" ({ cls := "ThunderCasks$Cask", name := "leaks", desc := "()I" } : Jvm.MethodName) ({ cls := "ThunderCasks$Heat", name := "leaks", desc := "()I" } : Jvm.MethodName)) ∈ lw_all := lw_g (lw_at lw_m3 33 rfl) rfl
theorem q614 : (Jvm.Cond.instanceMethod ({ cls := "ThunderCasks$Heat", name := "leaks", desc := "()I" } : Jvm.MethodName)) ∈ lw_all := lw_g (lw_at lw_m3 34 rfl) rfl
theorem q615 : (Jvm.Cond.code ({ cls := "ThunderCasks$Heat", name := "leaks", desc := "()I" } : Jvm.MethodName) prog_6_method_4_code (1 : Nat) (Option.some Jvm.ClassFile.FieldType.int)) ∈ lw_all := lw_g (lw_at lw_m3 35 rfl) rfl
theorem q616 : (Jvm.Cond.methodLink "ThunderCasks$Heat" (17 : Nat) ({ cls := "ThunderCasks$Cask", name := "leaks", desc := "()I" } : Jvm.MethodName)) ∈ lw_all := lw_g (lw_at lw_m3 36 rfl) rfl
theorem q635 : (Jvm.Cond.selects "ThunderCasks$Heat" ({ cls := "ThunderCasks$Cask", name := "bears", desc := "()I" } : Jvm.MethodName) ({ cls := "ThunderCasks$Cask", name := "bears", desc := "()I" } : Jvm.MethodName)) ∈ lw_all := lw_g (lw_at lw_m3 55 rfl) rfl
theorem q675 : (Jvm.Cond.castable "ThunderCasks$Heat" "ThunderCasks$Thunders") ∈ lw_tbl := lw_at lw_m3 95 rfl
theorem q676 : (Jvm.Cond.selects "ThunderCasks$Heat" ({ cls := "ThunderCasks$Thunders", name := "loud", desc := "()I" } : Jvm.MethodName) ({ cls := "ThunderCasks$Heat", name := "loud", desc := "()I" } : Jvm.MethodName)) ∈ lw_all := lw_g (lw_at lw_m3 96 rfl) rfl
theorem q677 : (Jvm.Cond.unhidden "ThunderCasks$Heat" "loud" "()I") ∈ lw_tbl := lw_at lw_m3 97 rfl
theorem q678 : (Jvm.Cond.publicMethod ({ cls := "ThunderCasks$Heat", name := "loud", desc := "()I" } : Jvm.MethodName)) ∈ lw_tbl := lw_at lw_m3 98 rfl
theorem q760 : (Jvm.Cond.selects "ThunderCasks$Heat" ({ cls := "ThunderCasks$Thunders", name := "bears", desc := "()I" } : Jvm.MethodName) ({ cls := "ThunderCasks$Cask", name := "bears", desc := "()I" } : Jvm.MethodName)) ∈ lw_all := lw_g (lw_at lw_m3 180 rfl) rfl
theorem q761 : (Jvm.Cond.unhidden "ThunderCasks$Heat" "bears" "()I") ∈ lw_tbl := lw_at lw_m3 181 rfl
theorem q1162 : (Jvm.Cond.selects "ThunderCasks$Heat" ({ cls := "ThunderCasks$Cask", name := "isUnder", desc := "(I)Z" } : Jvm.MethodName) ({ cls := "ThunderCasks$Cask", name := "isUnder", desc := "(I)Z" } : Jvm.MethodName)) ∈ lw_all := lw_g (lw_at lw_m5 102 rfl) rfl
theorem q1719 : (Jvm.Cond.selects "ThunderCasks$Heat" ({ cls := "ThunderCasks$Cask", name := "told", desc := "(I)I" } : Jvm.MethodName) ({ cls := "ThunderCasks$Cask", name := "told", desc := "(I)I" } : Jvm.MethodName)) ∈ lw_all := lw_g (lw_at lw_m7 179 rfl) rfl
theorem q1727 : (Jvm.Cond.castable "ThunderCasks$Heat" "ThunderCasks$Cask") ∈ lw_tbl := lw_at lw_m7 187 rfl
theorem in_X11 : ∀ w ∈ wsX110, w ∈ lw_all := lw_in wsX110 [385, 386, 383] (by decide +kernel) (by decide +kernel)
/-! ThunderCasks$Forged -/
set_option maxRecDepth 100000
def RX12 : String := "ThunderCasks$Forged"
def TX12 : u_T := fun k => match k with
  | 0 => ("ThunderCasks$Cask", "number", "I", true)
  | 1 => ("ThunderCasks$Cask", "this$0", "LThunderCasks;", true)
  | 2 => ("ThunderCasks$Crack", "this$0", "LThunderCasks;", true)
  | _ => ("ThunderCasks$Forged", "this$0", "LThunderCasks;", true)
def tyX12 : Nat → FieldType := fun k => match k with
  | 0 => .int
  | 1 => .object "ThunderCasks"
  | 2 => .object "ThunderCasks"
  | _ => .object "ThunderCasks"
abbrev wsX120 : List Cond := u_ws RX12 TX12 4
-- two fields of one name: no nmX12
theorem tyX12_ok : ∀ k, k < 4 → parseFieldDescriptor (TX12 k).2.2.1 = some (tyX12 k) := by decide +kernel
abbrev cX12_init : ByteArray := prog_5_method_1_code
def yX12_init : MethodName := ⟨RX12, "<init>", "(LThunderCasks;I)V"⟩
def dkwX12_init_0 : List UInt8 := [42, 43, 181, 0, 3, 42, 43, 28, 183, 0, 9, 177]
abbrev dktX12_init_0 : List UInt8 := dkwX12_init_0 ++ []
theorem dksX12_init_0 : cX12_init.data.toList.drop 0 = dktX12_init_0 := by decide +kernel
theorem dX12_init_0 : decode cX12_init 0 = .ok (.aload_n 0, 1) := dk_42 (dk_at dksX12_init_0 0 rfl rfl)
theorem dX12_init_1 : decode cX12_init 1 = .ok (.aload_n 1, 1) := dk_43 (dk_at dksX12_init_0 1 rfl rfl)
theorem dX12_init_2 : decode cX12_init 2 = .ok (.putfield 3, 3) := dk_181 0 3 (dk_at dksX12_init_0 2 rfl rfl)
theorem dX12_init_5 : decode cX12_init 5 = .ok (.aload_n 0, 1) := dk_42 (dk_at dksX12_init_0 5 rfl rfl)
theorem dX12_init_6 : decode cX12_init 6 = .ok (.aload_n 1, 1) := dk_43 (dk_at dksX12_init_0 6 rfl rfl)
theorem dX12_init_7 : decode cX12_init 7 = .ok (.iload_n 2, 1) := dk_28 (dk_at dksX12_init_0 7 rfl rfl)
theorem dX12_init_8 : decode cX12_init 8 = .ok (.invokespecial 9, 3) := dk_183 0 9 (dk_at dksX12_init_0 8 rfl rfl)
theorem dX12_init_11 : decode cX12_init 11 = .ok (.return_, 1) := dk_177 (dk_at dksX12_init_0 11 rfl rfl)
abbrev cX12_kind : ByteArray := prog_5_method_2_code
def yX12_kind : MethodName := ⟨RX12, "kind", "()I"⟩
def dkwX12_kind_0 : List UInt8 := [8, 42, 183, 0, 15, 96, 172]
abbrev dktX12_kind_0 : List UInt8 := dkwX12_kind_0 ++ []
theorem dksX12_kind_0 : cX12_kind.data.toList.drop 0 = dktX12_kind_0 := by decide +kernel
theorem dX12_kind_0 : decode cX12_kind 0 = .ok (.iconst 5, 1) := dk_8 (dk_at dksX12_kind_0 0 rfl rfl)
theorem dX12_kind_1 : decode cX12_kind 1 = .ok (.aload_n 0, 1) := dk_42 (dk_at dksX12_kind_0 1 rfl rfl)
theorem dX12_kind_2 : decode cX12_kind 2 = .ok (.invokespecial 15, 3) := dk_183 0 15 (dk_at dksX12_kind_0 2 rfl rfl)
theorem dX12_kind_5 : decode cX12_kind 5 = .ok (.iadd, 1) := dk_96 (dk_at dksX12_kind_0 5 rfl rfl)
theorem dX12_kind_6 : decode cX12_kind 6 = .ok (.ireturn, 1) := dk_172 (dk_at dksX12_kind_0 6 rfl rfl)
abbrev cX12_loud : ByteArray := prog_5_method_3_code
def yX12_loud : MethodName := ⟨RX12, "loud", "()I"⟩
def dkwX12_loud_0 : List UInt8 := [42, 8, 182, 0, 19, 16, 10, 161, 0, 7, 3, 167, 0, 7, 42, 183, 0, 23, 172]
abbrev dktX12_loud_0 : List UInt8 := dkwX12_loud_0 ++ []
theorem dksX12_loud_0 : cX12_loud.data.toList.drop 0 = dktX12_loud_0 := by decide +kernel
theorem dX12_loud_0 : decode cX12_loud 0 = .ok (.aload_n 0, 1) := dk_42 (dk_at dksX12_loud_0 0 rfl rfl)
theorem dX12_loud_1 : decode cX12_loud 1 = .ok (.iconst 5, 1) := dk_8 (dk_at dksX12_loud_0 1 rfl rfl)
theorem dX12_loud_2 : decode cX12_loud 2 = .ok (.invokevirtual 19, 3) := dk_182 0 19 (dk_at dksX12_loud_0 2 rfl rfl)
theorem dX12_loud_5 : decode cX12_loud 5 = .ok (.bipush 10, 2) := dk_16 10 (dk_at dksX12_loud_0 5 rfl rfl)
theorem dX12_loud_7 : decode cX12_loud 7 = .ok (.if_icmp .lt 7, 3) := dk_161 0 7 (dk_at dksX12_loud_0 7 rfl rfl)
theorem dX12_loud_10 : decode cX12_loud 10 = .ok (.iconst 0, 1) := dk_3 (dk_at dksX12_loud_0 10 rfl rfl)
theorem dX12_loud_11 : decode cX12_loud 11 = .ok (.goto 7, 3) := dk_167 0 7 (dk_at dksX12_loud_0 11 rfl rfl)
theorem dX12_loud_14 : decode cX12_loud 14 = .ok (.aload_n 0, 1) := dk_42 (dk_at dksX12_loud_0 14 rfl rfl)
theorem dX12_loud_15 : decode cX12_loud 15 = .ok (.invokespecial 23, 3) := dk_183 0 23 (dk_at dksX12_loud_0 15 rfl rfl)
theorem dX12_loud_18 : decode cX12_loud 18 = .ok (.ireturn, 1) := dk_172 (dk_at dksX12_loud_0 18 rfl rfl)
abbrev cX12_leaks : ByteArray := prog_5_method_4_code
def yX12_leaks : MethodName := ⟨RX12, "leaks", "()I"⟩
def dkwX12_leaks_0 : List UInt8 := [42, 183, 0, 26, 5, 96, 172]
abbrev dktX12_leaks_0 : List UInt8 := dkwX12_leaks_0 ++ []
theorem dksX12_leaks_0 : cX12_leaks.data.toList.drop 0 = dktX12_leaks_0 := by decide +kernel
theorem dX12_leaks_0 : decode cX12_leaks 0 = .ok (.aload_n 0, 1) := dk_42 (dk_at dksX12_leaks_0 0 rfl rfl)
theorem dX12_leaks_1 : decode cX12_leaks 1 = .ok (.invokespecial 26, 3) := dk_183 0 26 (dk_at dksX12_leaks_0 1 rfl rfl)
theorem dX12_leaks_4 : decode cX12_leaks 4 = .ok (.iconst 2, 1) := dk_5 (dk_at dksX12_leaks_0 4 rfl rfl)
theorem dX12_leaks_5 : decode cX12_leaks 5 = .ok (.iadd, 1) := dk_96 (dk_at dksX12_leaks_0 5 rfl rfl)
theorem dX12_leaks_6 : decode cX12_leaks 6 = .ok (.ireturn, 1) := dk_172 (dk_at dksX12_leaks_0 6 rfl rfl)
theorem q116 : (Jvm.Cond.initialized "ThunderCasks$Forged") ∈ lw_all := lw_g (lw_at lw_m1 16 rfl) rfl
theorem q389 : (Jvm.Cond.instantiable "ThunderCasks$Forged" (4 : Nat)) ∈ lw_all := lw_g (lw_at lw_m2 49 rfl) rfl
theorem q391 : (Jvm.Cond.instanceMethod ({ cls := "ThunderCasks$Forged", name := "<init>", desc := "(LThunderCasks;I)V" } : Jvm.MethodName)) ∈ lw_all := lw_g (lw_at lw_m2 51 rfl) rfl
theorem q392 : (Jvm.Cond.code ({ cls := "ThunderCasks$Forged", name := "<init>", desc := "(LThunderCasks;I)V" } : Jvm.MethodName) prog_5_method_1_code (3 : Nat) (Option.none : Option Jvm.ClassFile.FieldType)) ∈ lw_all := lw_g (lw_at lw_m2 52 rfl) rfl
theorem q393 : (Jvm.Cond.methodLink "ThunderCasks$Forged" (9 : Nat) ({ cls := "ThunderCasks$Crack", name := "<init>", desc := "(LThunderCasks;I)V" } : Jvm.MethodName)) ∈ lw_all := lw_g (lw_at lw_m2 53 rfl) rfl
theorem q394 : (Jvm.Cond.fieldLink "ThunderCasks$Forged" (3 : Nat) "ThunderCasks$Forged" "this$0" "LThunderCasks;") ∈ lw_all := lw_g (lw_at lw_m2 54 rfl) rfl
theorem q395 : (Jvm.Cond.laysFinal "ThunderCasks$Forged" "ThunderCasks$Forged" "this$0" "LThunderCasks;") ∈ lw_all := lw_g (lw_at lw_m2 55 rfl) rfl
theorem q396 : (Jvm.Cond.soleField "ThunderCasks$Forged" "this$0") ∈ lw_all := lw_g (lw_at lw_m2 56 rfl) rfl
theorem q397 : (Jvm.Cond.laysFinal "ThunderCasks$Forged" "ThunderCasks$Crack" "this$0" "LThunderCasks;") ∈ lw_all := lw_g (lw_at lw_m2 57 rfl) rfl
theorem q398 : (Jvm.Cond.laysFinal "ThunderCasks$Forged" "ThunderCasks$Cask" "number" "I") ∈ lw_all := lw_g (lw_at lw_m2 58 rfl) rfl
theorem q399 : (Jvm.Cond.laysFinal "ThunderCasks$Forged" "ThunderCasks$Cask" "this$0" "LThunderCasks;") ∈ lw_all := lw_g (lw_at lw_m2 59 rfl) rfl
theorem q400 : (Jvm.Cond.superclass "ThunderCasks$Forged" "ThunderCasks$Crack") ∈ lw_all := lw_g (lw_at lw_m2 60 rfl) rfl
theorem q521 : (Jvm.Cond.selects "ThunderCasks$Forged" ({ cls := "ThunderCasks$Cask", name := "kind", desc := "()I" } : Jvm.MethodName) ({ cls := "ThunderCasks$Forged", name := "kind", desc := "()I" } : Jvm.MethodName)) ∈ lw_all := lw_g (lw_at lw_m2 181 rfl) rfl
theorem q522 : (Jvm.Cond.instanceMethod ({ cls := "ThunderCasks$Forged", name := "kind", desc := "()I" } : Jvm.MethodName)) ∈ lw_all := lw_g (lw_at lw_m2 182 rfl) rfl
theorem q523 : (Jvm.Cond.code ({ cls := "ThunderCasks$Forged", name := "kind", desc := "()I" } : Jvm.MethodName) prog_5_method_2_code (1 : Nat) (Option.some Jvm.ClassFile.FieldType.int)) ∈ lw_all := lw_g (lw_at lw_m2 183 rfl) rfl
theorem q524 : (Jvm.Cond.methodLink "ThunderCasks$Forged" (15 : Nat) ({ cls := "ThunderCasks$Crack", name := "kind", desc := "()I" } : Jvm.MethodName)) ∈ lw_all := lw_g (lw_at lw_m2 184 rfl) rfl
theorem q544 : (Jvm.Cond.selects "ThunderCasks$Forged" ({ cls := "ThunderCasks$Crack", name := "told", desc := "(I)I" } : Jvm.MethodName) ({ cls := "ThunderCasks$Cask", name := "told", desc := "(I)I" } : Jvm.MethodName)) ∈ lw_all := lw_g (lw_at lw_m2 204 rfl) rfl
theorem q584 : (Jvm.Cond.selects "ThunderCasks$Forged" ({ cls := "ThunderCasks$Cask", name := "loud", desc := "()I" } : Jvm.MethodName) ({ cls := "ThunderCasks$Forged", name := "loud", desc := "()I" } : Jvm.MethodName)) ∈ lw_all := lw_g (lw_at lw_m3 4 rfl) rfl
theorem q585 : (Jvm.Cond.instanceMethod ({ cls := "ThunderCasks$Forged", name := "loud", desc := "()I" } : Jvm.MethodName)) ∈ lw_all := lw_g (lw_at lw_m3 5 rfl) rfl
theorem q586 : (Jvm.Cond.code ({ cls := "ThunderCasks$Forged", name := "loud", desc := "()I" } : Jvm.MethodName) prog_5_method_3_code (1 : Nat) (Option.some Jvm.ClassFile.FieldType.int)) ∈ lw_all := lw_g (lw_at lw_m3 6 rfl) rfl
theorem q587 : (Jvm.Cond.methodLink "ThunderCasks$Forged" (19 : Nat) ({ cls := "ThunderCasks$Forged", name := "told", desc := "(I)I" } : Jvm.MethodName)) ∈ lw_all := lw_g (lw_at lw_m3 7 rfl) rfl
theorem q588 : (Jvm.Cond.sameMethod "ThunderCasks$Forged" "ThunderCasks$Cask" "told" "(I)I") ∈ lw_all := lw_g (lw_at lw_m3 8 rfl) rfl
theorem q589 : (Jvm.Cond.selects "ThunderCasks$Forged" ({ cls := "ThunderCasks$Forged", name := "told", desc := "(I)I" } : Jvm.MethodName) ({ cls := "ThunderCasks$Cask", name := "told", desc := "(I)I" } : Jvm.MethodName)) ∈ lw_all := lw_g (lw_at lw_m3 9 rfl) rfl
theorem q590 : (Jvm.Cond.methodLink "ThunderCasks$Forged" (23 : Nat) ({ cls := "ThunderCasks$Crack", name := "loud", desc := "()I" } : Jvm.MethodName)) ∈ lw_all := lw_g (lw_at lw_m3 10 rfl) rfl
theorem q609 : (Jvm.Cond.selects "ThunderCasks$Forged" ({ cls := "ThunderCasks$Cask", name := "leaks", desc := "()I" } : Jvm.MethodName) ({ cls := "ThunderCasks$Forged", name := "leaks", desc := "()I" } : Jvm.MethodName)) ∈ lw_all := lw_g (lw_at lw_m3 29 rfl) rfl
theorem q610 : (Jvm.Cond.instanceMethod ({ cls := "ThunderCasks$Forged", name := "leaks", desc := "()I" } : Jvm.MethodName)) ∈ lw_all := lw_g (lw_at lw_m3 30 rfl) rfl
theorem q611 : (Jvm.Cond.code ({ cls := "ThunderCasks$Forged", name := "leaks", desc := "()I" } : Jvm.MethodName) prog_5_method_4_code (1 : Nat) (Option.some Jvm.ClassFile.FieldType.int)) ∈ lw_all := lw_g (lw_at lw_m3 31 rfl) rfl
theorem q612 : (Jvm.Cond.methodLink "ThunderCasks$Forged" (26 : Nat) ({ cls := "ThunderCasks$Crack", name := "leaks", desc := "()I" } : Jvm.MethodName)) ∈ lw_all := lw_g (lw_at lw_m3 32 rfl) rfl
theorem q629 : (Jvm.Cond.unhidden "ThunderCasks$Forged" "half" "(I)I") ∈ lw_tbl := lw_at lw_m3 49 rfl
theorem q634 : (Jvm.Cond.selects "ThunderCasks$Forged" ({ cls := "ThunderCasks$Cask", name := "bears", desc := "()I" } : Jvm.MethodName) ({ cls := "ThunderCasks$Crack", name := "bears", desc := "()I" } : Jvm.MethodName)) ∈ lw_all := lw_g (lw_at lw_m3 54 rfl) rfl
theorem q671 : (Jvm.Cond.castable "ThunderCasks$Forged" "ThunderCasks$Thunders") ∈ lw_tbl := lw_at lw_m3 91 rfl
theorem q672 : (Jvm.Cond.selects "ThunderCasks$Forged" ({ cls := "ThunderCasks$Thunders", name := "loud", desc := "()I" } : Jvm.MethodName) ({ cls := "ThunderCasks$Forged", name := "loud", desc := "()I" } : Jvm.MethodName)) ∈ lw_all := lw_g (lw_at lw_m3 92 rfl) rfl
theorem q673 : (Jvm.Cond.unhidden "ThunderCasks$Forged" "loud" "()I") ∈ lw_tbl := lw_at lw_m3 93 rfl
theorem q674 : (Jvm.Cond.publicMethod ({ cls := "ThunderCasks$Forged", name := "loud", desc := "()I" } : Jvm.MethodName)) ∈ lw_tbl := lw_at lw_m3 94 rfl
theorem q758 : (Jvm.Cond.selects "ThunderCasks$Forged" ({ cls := "ThunderCasks$Thunders", name := "bears", desc := "()I" } : Jvm.MethodName) ({ cls := "ThunderCasks$Crack", name := "bears", desc := "()I" } : Jvm.MethodName)) ∈ lw_all := lw_g (lw_at lw_m3 178 rfl) rfl
theorem q759 : (Jvm.Cond.unhidden "ThunderCasks$Forged" "bears" "()I") ∈ lw_tbl := lw_at lw_m3 179 rfl
theorem q1161 : (Jvm.Cond.selects "ThunderCasks$Forged" ({ cls := "ThunderCasks$Cask", name := "isUnder", desc := "(I)Z" } : Jvm.MethodName) ({ cls := "ThunderCasks$Crack", name := "isUnder", desc := "(I)Z" } : Jvm.MethodName)) ∈ lw_all := lw_g (lw_at lw_m5 101 rfl) rfl
theorem q1718 : (Jvm.Cond.selects "ThunderCasks$Forged" ({ cls := "ThunderCasks$Cask", name := "told", desc := "(I)I" } : Jvm.MethodName) ({ cls := "ThunderCasks$Cask", name := "told", desc := "(I)I" } : Jvm.MethodName)) ∈ lw_all := lw_g (lw_at lw_m7 178 rfl) rfl
theorem q1726 : (Jvm.Cond.castable "ThunderCasks$Forged" "ThunderCasks$Cask") ∈ lw_tbl := lw_at lw_m7 186 rfl
theorem q1730 : (Jvm.Cond.castable "ThunderCasks$Forged" "ThunderCasks$Crack") ∈ lw_tbl := lw_at lw_m7 190 rfl
theorem in_X12 : ∀ w ∈ wsX120, w ∈ lw_all := lw_in wsX120 [398, 399, 397, 395] (by decide +kernel) (by decide +kernel)
/-! ThunderCasks$Thunders -/
set_option maxRecDepth 100000
def RX14 : String := "ThunderCasks$Thunders"
abbrev cX14_half : ByteArray := prog_12_method_4_code
def yX14_half : MethodName := ⟨RX14, "half", "(I)I"⟩
def dkwX14_half_0 : List UInt8 := [27, 5, 108, 172]
abbrev dktX14_half_0 : List UInt8 := dkwX14_half_0 ++ []
theorem dksX14_half_0 : cX14_half.data.toList.drop 0 = dktX14_half_0 := by decide +kernel
theorem dX14_half_0 : decode cX14_half 0 = .ok (.iload_n 1, 1) := dk_27 (dk_at dksX14_half_0 0 rfl rfl)
theorem dX14_half_1 : decode cX14_half 1 = .ok (.iconst 2, 1) := dk_5 (dk_at dksX14_half_0 1 rfl rfl)
theorem dX14_half_2 : decode cX14_half 2 = .ok (.idiv, 1) := dk_108 (dk_at dksX14_half_0 2 rfl rfl)
theorem dX14_half_3 : decode cX14_half 3 = .ok (.ireturn, 1) := dk_172 (dk_at dksX14_half_0 3 rfl rfl)
theorem q565 : (Jvm.Cond.declares ({ cls := "ThunderCasks$Thunders", name := "half", desc := "(I)I" } : Jvm.MethodName)) ∈ lw_tbl := lw_at lw_m2 225 rfl
theorem q568 : (Jvm.Cond.instanceMethod ({ cls := "ThunderCasks$Thunders", name := "half", desc := "(I)I" } : Jvm.MethodName)) ∈ lw_all := lw_g (lw_at lw_m2 228 rfl) rfl
theorem q569 : (Jvm.Cond.publicMethod ({ cls := "ThunderCasks$Thunders", name := "half", desc := "(I)I" } : Jvm.MethodName)) ∈ lw_tbl := lw_at lw_m2 229 rfl
theorem q570 : (Jvm.Cond.code ({ cls := "ThunderCasks$Thunders", name := "half", desc := "(I)I" } : Jvm.MethodName) prog_12_method_4_code (2 : Nat) (Option.some Jvm.ClassFile.FieldType.int)) ∈ lw_all := lw_g (lw_at lw_m2 230 rfl) rfl
theorem q657 : (Jvm.Cond.interfaceMethod "ThunderCasks$Thunders" "ThunderCasks$Thunders" "loud" "()I") ∈ lw_tbl := lw_at lw_m3 77 rfl
theorem q658 : (Jvm.Cond.declares ({ cls := "ThunderCasks$Thunders", name := "loud", desc := "()I" } : Jvm.MethodName)) ∈ lw_tbl := lw_at lw_m3 78 rfl
theorem q747 : (Jvm.Cond.interfaceMethod "ThunderCasks$Thunders" "ThunderCasks$Thunders" "bears" "()I") ∈ lw_tbl := lw_at lw_m3 167 rfl
theorem q748 : (Jvm.Cond.declares ({ cls := "ThunderCasks$Thunders", name := "bears", desc := "()I" } : Jvm.MethodName)) ∈ lw_tbl := lw_at lw_m3 168 rfl
/-! ThunderCasks$World -/
set_option maxRecDepth 100000
def RX4 : String := "ThunderCasks$World"
def TX4 : u_T := fun k => match k with
  | 0 => ("ThunderCasks$World", "frost", "[I", true)
  | 1 => ("ThunderCasks$World", "list", "[I", true)
  | 2 => ("ThunderCasks$World", "claps", "I", false)
  | 3 => ("ThunderCasks$World", "casks", "I", false)
  | 4 => ("ThunderCasks$World", "cask", "[[I", true)
  | 5 => ("ThunderCasks$World", "day", "I", false)
  | 6 => ("ThunderCasks$World", "z", "I", false)
  | _ => ("ThunderCasks$World", "holds", "[I", true)
def tyX4 : Nat → FieldType := fun k => match k with
  | 0 => .array .int
  | 1 => .array .int
  | 2 => .int
  | 3 => .int
  | 4 => .array (.array .int)
  | 5 => .int
  | 6 => .int
  | _ => .array .int
abbrev wsX40 : List Cond := u_ws RX4 TX4 8
theorem nmX4 : ∀ a, a < 8 → ∀ b, b < 8 → a ≠ b → (TX4 a).2.1 ≠ (TX4 b).2.1 := by decide +kernel
theorem tyX4_ok : ∀ k, k < 8 → parseFieldDescriptor (TX4 k).2.2.1 = some (tyX4 k) := by decide +kernel
abbrev cX4_init : ByteArray := prog_13_method_1_code
def yX4_init : MethodName := ⟨RX4, "<init>", "()V"⟩
def dkwX4_init_3 : List UInt8 := [16, 10, 162, 0, 16, 42, 180, 0, 27, 27, 2, 79, 132, 1, 1, 167, 255, 240, 177]
abbrev dktX4_init_3 : List UInt8 := dkwX4_init_3 ++ []
def dkwX4_init_2 : List UInt8 := [27, 16, 6, 162, 0, 17, 42, 180, 0, 15, 27, 16, 10, 79, 132, 1, 1, 167, 255, 239, 3, 60, 27]
abbrev dktX4_init_2 : List UInt8 := dkwX4_init_2 ++ dktX4_init_3
def dkwX4_init_1 : List UInt8 := [16, 8, 197, 0, 18, 2, 181, 0, 20, 42, 4, 181, 0, 23, 42, 16, 10, 188, 10, 181, 0, 27, 3, 60]
abbrev dktX4_init_1 : List UInt8 := dkwX4_init_1 ++ dktX4_init_2
def dkwX4_init_0 : List UInt8 := [42, 183, 0, 3, 42, 16, 6, 188, 10, 181, 0, 9, 42, 16, 6, 188, 10, 181, 0, 15, 42, 16, 7]
abbrev dktX4_init_0 : List UInt8 := dkwX4_init_0 ++ dktX4_init_1
theorem dksX4_init_0 : cX4_init.data.toList.drop 0 = dktX4_init_0 := by decide +kernel
theorem dksX4_init_1 : cX4_init.data.toList.drop 23 = dktX4_init_1 := dk_seg dksX4_init_0 23 rfl rfl
theorem dksX4_init_2 : cX4_init.data.toList.drop 47 = dktX4_init_2 := dk_seg dksX4_init_1 24 rfl rfl
theorem dksX4_init_3 : cX4_init.data.toList.drop 70 = dktX4_init_3 := dk_seg dksX4_init_2 23 rfl rfl
theorem dX4_init_0 : decode cX4_init 0 = .ok (.aload_n 0, 1) := dk_42 (dk_at dksX4_init_0 0 rfl rfl)
theorem dX4_init_1 : decode cX4_init 1 = .ok (.invokespecial 3, 3) := dk_183 0 3 (dk_at dksX4_init_0 1 rfl rfl)
theorem dX4_init_4 : decode cX4_init 4 = .ok (.aload_n 0, 1) := dk_42 (dk_at dksX4_init_0 4 rfl rfl)
theorem dX4_init_5 : decode cX4_init 5 = .ok (.bipush 6, 2) := dk_16 6 (dk_at dksX4_init_0 5 rfl rfl)
theorem dX4_init_7 : decode cX4_init 7 = .ok (.newarray .int, 2) := dk_188_10 (dk_at dksX4_init_0 7 rfl rfl)
theorem dX4_init_9 : decode cX4_init 9 = .ok (.putfield 9, 3) := dk_181 0 9 (dk_at dksX4_init_0 9 rfl rfl)
theorem dX4_init_12 : decode cX4_init 12 = .ok (.aload_n 0, 1) := dk_42 (dk_at dksX4_init_0 12 rfl rfl)
theorem dX4_init_13 : decode cX4_init 13 = .ok (.bipush 6, 2) := dk_16 6 (dk_at dksX4_init_0 13 rfl rfl)
theorem dX4_init_15 : decode cX4_init 15 = .ok (.newarray .int, 2) := dk_188_10 (dk_at dksX4_init_0 15 rfl rfl)
theorem dX4_init_17 : decode cX4_init 17 = .ok (.putfield 15, 3) := dk_181 0 15 (dk_at dksX4_init_0 17 rfl rfl)
theorem dX4_init_20 : decode cX4_init 20 = .ok (.aload_n 0, 1) := dk_42 (dk_at dksX4_init_0 20 rfl rfl)
theorem dX4_init_21 : decode cX4_init 21 = .ok (.bipush 7, 2) := dk_16 7 (dk_at dksX4_init_0 21 rfl rfl)
theorem dX4_init_23 : decode cX4_init 23 = .ok (.bipush 8, 2) := dk_16 8 (dk_at dksX4_init_1 0 rfl rfl)
theorem dX4_init_25 : decode cX4_init 25 = .ok (.multianewarray 18 2, 4) := by decide +kernel
theorem dX4_init_29 : decode cX4_init 29 = .ok (.putfield 20, 3) := dk_181 0 20 (dk_at dksX4_init_1 6 rfl rfl)
theorem dX4_init_32 : decode cX4_init 32 = .ok (.aload_n 0, 1) := dk_42 (dk_at dksX4_init_1 9 rfl rfl)
theorem dX4_init_33 : decode cX4_init 33 = .ok (.iconst 1, 1) := dk_4 (dk_at dksX4_init_1 10 rfl rfl)
theorem dX4_init_34 : decode cX4_init 34 = .ok (.putfield 23, 3) := dk_181 0 23 (dk_at dksX4_init_1 11 rfl rfl)
theorem dX4_init_37 : decode cX4_init 37 = .ok (.aload_n 0, 1) := dk_42 (dk_at dksX4_init_1 14 rfl rfl)
theorem dX4_init_38 : decode cX4_init 38 = .ok (.bipush 10, 2) := dk_16 10 (dk_at dksX4_init_1 15 rfl rfl)
theorem dX4_init_40 : decode cX4_init 40 = .ok (.newarray .int, 2) := dk_188_10 (dk_at dksX4_init_1 17 rfl rfl)
theorem dX4_init_42 : decode cX4_init 42 = .ok (.putfield 27, 3) := dk_181 0 27 (dk_at dksX4_init_1 19 rfl rfl)
theorem dX4_init_45 : decode cX4_init 45 = .ok (.iconst 0, 1) := dk_3 (dk_at dksX4_init_1 22 rfl rfl)
theorem dX4_init_46 : decode cX4_init 46 = .ok (.istore_n 1, 1) := dk_60 (dk_at dksX4_init_1 23 rfl rfl)
theorem dX4_init_47 : decode cX4_init 47 = .ok (.iload_n 1, 1) := dk_27 (dk_at dksX4_init_2 0 rfl rfl)
theorem dX4_init_48 : decode cX4_init 48 = .ok (.bipush 6, 2) := dk_16 6 (dk_at dksX4_init_2 1 rfl rfl)
theorem dX4_init_50 : decode cX4_init 50 = .ok (.if_icmp .ge 17, 3) := dk_162 0 17 (dk_at dksX4_init_2 3 rfl rfl)
theorem dX4_init_53 : decode cX4_init 53 = .ok (.aload_n 0, 1) := dk_42 (dk_at dksX4_init_2 6 rfl rfl)
theorem dX4_init_54 : decode cX4_init 54 = .ok (.getfield 15, 3) := dk_180 0 15 (dk_at dksX4_init_2 7 rfl rfl)
theorem dX4_init_57 : decode cX4_init 57 = .ok (.iload_n 1, 1) := dk_27 (dk_at dksX4_init_2 10 rfl rfl)
theorem dX4_init_58 : decode cX4_init 58 = .ok (.bipush 10, 2) := dk_16 10 (dk_at dksX4_init_2 11 rfl rfl)
theorem dX4_init_60 : decode cX4_init 60 = .ok (.iastore, 1) := dk_79 (dk_at dksX4_init_2 13 rfl rfl)
theorem dX4_init_61 : decode cX4_init 61 = .ok (.iinc 1 1, 3) := dk_132 1 1 (dk_at dksX4_init_2 14 rfl rfl)
theorem dX4_init_64 : decode cX4_init 64 = .ok (.goto (-17), 3) := dk_167 255 239 (dk_at dksX4_init_2 17 rfl rfl)
theorem dX4_init_67 : decode cX4_init 67 = .ok (.iconst 0, 1) := dk_3 (dk_at dksX4_init_2 20 rfl rfl)
theorem dX4_init_68 : decode cX4_init 68 = .ok (.istore_n 1, 1) := dk_60 (dk_at dksX4_init_2 21 rfl rfl)
theorem dX4_init_69 : decode cX4_init 69 = .ok (.iload_n 1, 1) := dk_27 (dk_at dksX4_init_2 22 rfl rfl)
theorem dX4_init_70 : decode cX4_init 70 = .ok (.bipush 10, 2) := dk_16 10 (dk_at dksX4_init_3 0 rfl rfl)
theorem dX4_init_72 : decode cX4_init 72 = .ok (.if_icmp .ge 16, 3) := dk_162 0 16 (dk_at dksX4_init_3 2 rfl rfl)
theorem dX4_init_75 : decode cX4_init 75 = .ok (.aload_n 0, 1) := dk_42 (dk_at dksX4_init_3 5 rfl rfl)
theorem dX4_init_76 : decode cX4_init 76 = .ok (.getfield 27, 3) := dk_180 0 27 (dk_at dksX4_init_3 6 rfl rfl)
theorem dX4_init_79 : decode cX4_init 79 = .ok (.iload_n 1, 1) := dk_27 (dk_at dksX4_init_3 9 rfl rfl)
theorem dX4_init_80 : decode cX4_init 80 = .ok (.iconst (-1), 1) := dk_2 (dk_at dksX4_init_3 10 rfl rfl)
theorem dX4_init_81 : decode cX4_init 81 = .ok (.iastore, 1) := dk_79 (dk_at dksX4_init_3 11 rfl rfl)
theorem dX4_init_82 : decode cX4_init 82 = .ok (.iinc 1 1, 3) := dk_132 1 1 (dk_at dksX4_init_3 12 rfl rfl)
theorem dX4_init_85 : decode cX4_init 85 = .ok (.goto (-16), 3) := dk_167 255 240 (dk_at dksX4_init_3 15 rfl rfl)
theorem dX4_init_88 : decode cX4_init 88 = .ok (.return_, 1) := dk_177 (dk_at dksX4_init_3 18 rfl rfl)
abbrev cX4_whatIsIn : ByteArray := prog_13_method_7_code
def yX4_whatIsIn : MethodName := ⟨RX4, "whatIsIn", "(I)I"⟩
def dkwX4_whatIsIn_1 : List UInt8 := [160, 0, 9, 4, 29, 120, 167, 0, 4, 3, 128, 61, 132, 3, 1, 167, 255, 223, 28, 172]
abbrev dktX4_whatIsIn_1 : List UInt8 := dkwX4_whatIsIn_1 ++ []
def dkwX4_whatIsIn_0 : List UInt8 := [3, 61, 3, 62, 29, 42, 180, 0, 43, 162, 0, 31, 28, 42, 180, 0, 20, 4, 50, 29, 46, 27]
abbrev dktX4_whatIsIn_0 : List UInt8 := dkwX4_whatIsIn_0 ++ dktX4_whatIsIn_1
theorem dksX4_whatIsIn_0 : cX4_whatIsIn.data.toList.drop 0 = dktX4_whatIsIn_0 := by decide +kernel
theorem dksX4_whatIsIn_1 : cX4_whatIsIn.data.toList.drop 22 = dktX4_whatIsIn_1 := dk_seg dksX4_whatIsIn_0 22 rfl rfl
theorem dX4_whatIsIn_0 : decode cX4_whatIsIn 0 = .ok (.iconst 0, 1) := dk_3 (dk_at dksX4_whatIsIn_0 0 rfl rfl)
theorem dX4_whatIsIn_1 : decode cX4_whatIsIn 1 = .ok (.istore_n 2, 1) := dk_61 (dk_at dksX4_whatIsIn_0 1 rfl rfl)
theorem dX4_whatIsIn_2 : decode cX4_whatIsIn 2 = .ok (.iconst 0, 1) := dk_3 (dk_at dksX4_whatIsIn_0 2 rfl rfl)
theorem dX4_whatIsIn_3 : decode cX4_whatIsIn 3 = .ok (.istore_n 3, 1) := dk_62 (dk_at dksX4_whatIsIn_0 3 rfl rfl)
theorem dX4_whatIsIn_4 : decode cX4_whatIsIn 4 = .ok (.iload_n 3, 1) := dk_29 (dk_at dksX4_whatIsIn_0 4 rfl rfl)
theorem dX4_whatIsIn_5 : decode cX4_whatIsIn 5 = .ok (.aload_n 0, 1) := dk_42 (dk_at dksX4_whatIsIn_0 5 rfl rfl)
theorem dX4_whatIsIn_6 : decode cX4_whatIsIn 6 = .ok (.getfield 43, 3) := dk_180 0 43 (dk_at dksX4_whatIsIn_0 6 rfl rfl)
theorem dX4_whatIsIn_9 : decode cX4_whatIsIn 9 = .ok (.if_icmp .ge 31, 3) := dk_162 0 31 (dk_at dksX4_whatIsIn_0 9 rfl rfl)
theorem dX4_whatIsIn_12 : decode cX4_whatIsIn 12 = .ok (.iload_n 2, 1) := dk_28 (dk_at dksX4_whatIsIn_0 12 rfl rfl)
theorem dX4_whatIsIn_13 : decode cX4_whatIsIn 13 = .ok (.aload_n 0, 1) := dk_42 (dk_at dksX4_whatIsIn_0 13 rfl rfl)
theorem dX4_whatIsIn_14 : decode cX4_whatIsIn 14 = .ok (.getfield 20, 3) := dk_180 0 20 (dk_at dksX4_whatIsIn_0 14 rfl rfl)
theorem dX4_whatIsIn_17 : decode cX4_whatIsIn 17 = .ok (.iconst 1, 1) := dk_4 (dk_at dksX4_whatIsIn_0 17 rfl rfl)
theorem dX4_whatIsIn_18 : decode cX4_whatIsIn 18 = .ok (.aaload, 1) := dk_50 (dk_at dksX4_whatIsIn_0 18 rfl rfl)
theorem dX4_whatIsIn_19 : decode cX4_whatIsIn 19 = .ok (.iload_n 3, 1) := dk_29 (dk_at dksX4_whatIsIn_0 19 rfl rfl)
theorem dX4_whatIsIn_20 : decode cX4_whatIsIn 20 = .ok (.iaload, 1) := dk_46 (dk_at dksX4_whatIsIn_0 20 rfl rfl)
theorem dX4_whatIsIn_21 : decode cX4_whatIsIn 21 = .ok (.iload_n 1, 1) := dk_27 (dk_at dksX4_whatIsIn_0 21 rfl rfl)
theorem dX4_whatIsIn_22 : decode cX4_whatIsIn 22 = .ok (.if_icmp .ne 9, 3) := dk_160 0 9 (dk_at dksX4_whatIsIn_1 0 rfl rfl)
theorem dX4_whatIsIn_25 : decode cX4_whatIsIn 25 = .ok (.iconst 1, 1) := dk_4 (dk_at dksX4_whatIsIn_1 3 rfl rfl)
theorem dX4_whatIsIn_26 : decode cX4_whatIsIn 26 = .ok (.iload_n 3, 1) := dk_29 (dk_at dksX4_whatIsIn_1 4 rfl rfl)
theorem dX4_whatIsIn_27 : decode cX4_whatIsIn 27 = .ok (.ishl, 1) := dk_120 (dk_at dksX4_whatIsIn_1 5 rfl rfl)
theorem dX4_whatIsIn_28 : decode cX4_whatIsIn 28 = .ok (.goto 4, 3) := dk_167 0 4 (dk_at dksX4_whatIsIn_1 6 rfl rfl)
theorem dX4_whatIsIn_31 : decode cX4_whatIsIn 31 = .ok (.iconst 0, 1) := dk_3 (dk_at dksX4_whatIsIn_1 9 rfl rfl)
theorem dX4_whatIsIn_32 : decode cX4_whatIsIn 32 = .ok (.ior, 1) := dk_128 (dk_at dksX4_whatIsIn_1 10 rfl rfl)
theorem dX4_whatIsIn_33 : decode cX4_whatIsIn 33 = .ok (.istore_n 2, 1) := dk_61 (dk_at dksX4_whatIsIn_1 11 rfl rfl)
theorem dX4_whatIsIn_34 : decode cX4_whatIsIn 34 = .ok (.iinc 3 1, 3) := dk_132 3 1 (dk_at dksX4_whatIsIn_1 12 rfl rfl)
theorem dX4_whatIsIn_37 : decode cX4_whatIsIn 37 = .ok (.goto (-33), 3) := dk_167 255 223 (dk_at dksX4_whatIsIn_1 15 rfl rfl)
theorem dX4_whatIsIn_40 : decode cX4_whatIsIn 40 = .ok (.iload_n 2, 1) := dk_28 (dk_at dksX4_whatIsIn_1 18 rfl rfl)
theorem dX4_whatIsIn_41 : decode cX4_whatIsIn 41 = .ok (.ireturn, 1) := dk_172 (dk_at dksX4_whatIsIn_1 19 rfl rfl)
abbrev cX4_emptiest : ByteArray := prog_13_method_10_code
def yX4_emptiest : MethodName := ⟨RX4, "emptiest", "(I)I"⟩
def dkwX4_emptiest_3 : List UInt8 := [28, 172]
abbrev dktX4_emptiest_3 : List UInt8 := dkwX4_emptiest_3 ++ []
def dkwX4_emptiest_2 : List UInt8 := [4, 167, 0, 4, 3, 54, 4, 21, 4, 153, 0, 7, 29, 167, 0, 4, 28, 61, 132, 3, 1, 167, 255, 191]
abbrev dktX4_emptiest_2 : List UInt8 := dkwX4_emptiest_2 ++ dktX4_emptiest_3
def dkwX4_emptiest_1 : List UInt8 := [28, 2, 159, 0, 22, 42, 180, 0, 20, 5, 50, 29, 46, 42, 180, 0, 20, 5, 50, 28, 46, 162, 0, 7]
abbrev dktX4_emptiest_1 : List UInt8 := dkwX4_emptiest_1 ++ dktX4_emptiest_2
def dkwX4_emptiest_0 : List UInt8 := [2, 61, 3, 62, 29, 42, 180, 0, 43, 162, 0, 63, 42, 180, 0, 20, 4, 50, 29, 46, 27, 160, 0, 31]
abbrev dktX4_emptiest_0 : List UInt8 := dkwX4_emptiest_0 ++ dktX4_emptiest_1
theorem dksX4_emptiest_0 : cX4_emptiest.data.toList.drop 0 = dktX4_emptiest_0 := by decide +kernel
theorem dksX4_emptiest_1 : cX4_emptiest.data.toList.drop 24 = dktX4_emptiest_1 := dk_seg dksX4_emptiest_0 24 rfl rfl
theorem dksX4_emptiest_2 : cX4_emptiest.data.toList.drop 48 = dktX4_emptiest_2 := dk_seg dksX4_emptiest_1 24 rfl rfl
theorem dksX4_emptiest_3 : cX4_emptiest.data.toList.drop 72 = dktX4_emptiest_3 := dk_seg dksX4_emptiest_2 24 rfl rfl
theorem dX4_emptiest_0 : decode cX4_emptiest 0 = .ok (.iconst (-1), 1) := dk_2 (dk_at dksX4_emptiest_0 0 rfl rfl)
theorem dX4_emptiest_1 : decode cX4_emptiest 1 = .ok (.istore_n 2, 1) := dk_61 (dk_at dksX4_emptiest_0 1 rfl rfl)
theorem dX4_emptiest_2 : decode cX4_emptiest 2 = .ok (.iconst 0, 1) := dk_3 (dk_at dksX4_emptiest_0 2 rfl rfl)
theorem dX4_emptiest_3 : decode cX4_emptiest 3 = .ok (.istore_n 3, 1) := dk_62 (dk_at dksX4_emptiest_0 3 rfl rfl)
theorem dX4_emptiest_4 : decode cX4_emptiest 4 = .ok (.iload_n 3, 1) := dk_29 (dk_at dksX4_emptiest_0 4 rfl rfl)
theorem dX4_emptiest_5 : decode cX4_emptiest 5 = .ok (.aload_n 0, 1) := dk_42 (dk_at dksX4_emptiest_0 5 rfl rfl)
theorem dX4_emptiest_6 : decode cX4_emptiest 6 = .ok (.getfield 43, 3) := dk_180 0 43 (dk_at dksX4_emptiest_0 6 rfl rfl)
theorem dX4_emptiest_9 : decode cX4_emptiest 9 = .ok (.if_icmp .ge 63, 3) := dk_162 0 63 (dk_at dksX4_emptiest_0 9 rfl rfl)
theorem dX4_emptiest_12 : decode cX4_emptiest 12 = .ok (.aload_n 0, 1) := dk_42 (dk_at dksX4_emptiest_0 12 rfl rfl)
theorem dX4_emptiest_13 : decode cX4_emptiest 13 = .ok (.getfield 20, 3) := dk_180 0 20 (dk_at dksX4_emptiest_0 13 rfl rfl)
theorem dX4_emptiest_16 : decode cX4_emptiest 16 = .ok (.iconst 1, 1) := dk_4 (dk_at dksX4_emptiest_0 16 rfl rfl)
theorem dX4_emptiest_17 : decode cX4_emptiest 17 = .ok (.aaload, 1) := dk_50 (dk_at dksX4_emptiest_0 17 rfl rfl)
theorem dX4_emptiest_18 : decode cX4_emptiest 18 = .ok (.iload_n 3, 1) := dk_29 (dk_at dksX4_emptiest_0 18 rfl rfl)
theorem dX4_emptiest_19 : decode cX4_emptiest 19 = .ok (.iaload, 1) := dk_46 (dk_at dksX4_emptiest_0 19 rfl rfl)
theorem dX4_emptiest_20 : decode cX4_emptiest 20 = .ok (.iload_n 1, 1) := dk_27 (dk_at dksX4_emptiest_0 20 rfl rfl)
theorem dX4_emptiest_21 : decode cX4_emptiest 21 = .ok (.if_icmp .ne 31, 3) := dk_160 0 31 (dk_at dksX4_emptiest_0 21 rfl rfl)
theorem dX4_emptiest_24 : decode cX4_emptiest 24 = .ok (.iload_n 2, 1) := dk_28 (dk_at dksX4_emptiest_1 0 rfl rfl)
theorem dX4_emptiest_25 : decode cX4_emptiest 25 = .ok (.iconst (-1), 1) := dk_2 (dk_at dksX4_emptiest_1 1 rfl rfl)
theorem dX4_emptiest_26 : decode cX4_emptiest 26 = .ok (.if_icmp .eq 22, 3) := dk_159 0 22 (dk_at dksX4_emptiest_1 2 rfl rfl)
theorem dX4_emptiest_29 : decode cX4_emptiest 29 = .ok (.aload_n 0, 1) := dk_42 (dk_at dksX4_emptiest_1 5 rfl rfl)
theorem dX4_emptiest_30 : decode cX4_emptiest 30 = .ok (.getfield 20, 3) := dk_180 0 20 (dk_at dksX4_emptiest_1 6 rfl rfl)
theorem dX4_emptiest_33 : decode cX4_emptiest 33 = .ok (.iconst 2, 1) := dk_5 (dk_at dksX4_emptiest_1 9 rfl rfl)
theorem dX4_emptiest_34 : decode cX4_emptiest 34 = .ok (.aaload, 1) := dk_50 (dk_at dksX4_emptiest_1 10 rfl rfl)
theorem dX4_emptiest_35 : decode cX4_emptiest 35 = .ok (.iload_n 3, 1) := dk_29 (dk_at dksX4_emptiest_1 11 rfl rfl)
theorem dX4_emptiest_36 : decode cX4_emptiest 36 = .ok (.iaload, 1) := dk_46 (dk_at dksX4_emptiest_1 12 rfl rfl)
theorem dX4_emptiest_37 : decode cX4_emptiest 37 = .ok (.aload_n 0, 1) := dk_42 (dk_at dksX4_emptiest_1 13 rfl rfl)
theorem dX4_emptiest_38 : decode cX4_emptiest 38 = .ok (.getfield 20, 3) := dk_180 0 20 (dk_at dksX4_emptiest_1 14 rfl rfl)
theorem dX4_emptiest_41 : decode cX4_emptiest 41 = .ok (.iconst 2, 1) := dk_5 (dk_at dksX4_emptiest_1 17 rfl rfl)
theorem dX4_emptiest_42 : decode cX4_emptiest 42 = .ok (.aaload, 1) := dk_50 (dk_at dksX4_emptiest_1 18 rfl rfl)
theorem dX4_emptiest_43 : decode cX4_emptiest 43 = .ok (.iload_n 2, 1) := dk_28 (dk_at dksX4_emptiest_1 19 rfl rfl)
theorem dX4_emptiest_44 : decode cX4_emptiest 44 = .ok (.iaload, 1) := dk_46 (dk_at dksX4_emptiest_1 20 rfl rfl)
theorem dX4_emptiest_45 : decode cX4_emptiest 45 = .ok (.if_icmp .ge 7, 3) := dk_162 0 7 (dk_at dksX4_emptiest_1 21 rfl rfl)
theorem dX4_emptiest_48 : decode cX4_emptiest 48 = .ok (.iconst 1, 1) := dk_4 (dk_at dksX4_emptiest_2 0 rfl rfl)
theorem dX4_emptiest_49 : decode cX4_emptiest 49 = .ok (.goto 4, 3) := dk_167 0 4 (dk_at dksX4_emptiest_2 1 rfl rfl)
theorem dX4_emptiest_52 : decode cX4_emptiest 52 = .ok (.iconst 0, 1) := dk_3 (dk_at dksX4_emptiest_2 4 rfl rfl)
theorem dX4_emptiest_53 : decode cX4_emptiest 53 = .ok (.istore 4, 2) := dk_54 4 (dk_at dksX4_emptiest_2 5 rfl rfl)
theorem dX4_emptiest_55 : decode cX4_emptiest 55 = .ok (.iload 4, 2) := dk_21 4 (dk_at dksX4_emptiest_2 7 rfl rfl)
theorem dX4_emptiest_57 : decode cX4_emptiest 57 = .ok (.ifCond .eq 7, 3) := dk_153 0 7 (dk_at dksX4_emptiest_2 9 rfl rfl)
theorem dX4_emptiest_60 : decode cX4_emptiest 60 = .ok (.iload_n 3, 1) := dk_29 (dk_at dksX4_emptiest_2 12 rfl rfl)
theorem dX4_emptiest_61 : decode cX4_emptiest 61 = .ok (.goto 4, 3) := dk_167 0 4 (dk_at dksX4_emptiest_2 13 rfl rfl)
theorem dX4_emptiest_64 : decode cX4_emptiest 64 = .ok (.iload_n 2, 1) := dk_28 (dk_at dksX4_emptiest_2 16 rfl rfl)
theorem dX4_emptiest_65 : decode cX4_emptiest 65 = .ok (.istore_n 2, 1) := dk_61 (dk_at dksX4_emptiest_2 17 rfl rfl)
theorem dX4_emptiest_66 : decode cX4_emptiest 66 = .ok (.iinc 3 1, 3) := dk_132 3 1 (dk_at dksX4_emptiest_2 18 rfl rfl)
theorem dX4_emptiest_69 : decode cX4_emptiest 69 = .ok (.goto (-65), 3) := dk_167 255 191 (dk_at dksX4_emptiest_2 21 rfl rfl)
theorem dX4_emptiest_72 : decode cX4_emptiest 72 = .ok (.iload_n 2, 1) := dk_28 (dk_at dksX4_emptiest_3 0 rfl rfl)
theorem dX4_emptiest_73 : decode cX4_emptiest 73 = .ok (.ireturn, 1) := dk_172 (dk_at dksX4_emptiest_3 1 rfl rfl)
abbrev cX4_add : ByteArray := prog_13_method_5_code
def yX4_add : MethodName := ⟨RX4, "add", "(II)V"⟩
def dkwX4_add_3 : List UInt8 := [96, 181, 0, 43, 177]
abbrev dktX4_add_3 : List UInt8 := dkwX4_add_3 ++ []
def dkwX4_add_2 : List UInt8 := [180, 0, 43, 28, 79, 42, 180, 0, 20, 7, 50, 42, 180, 0, 43, 16, 100, 79, 42, 89, 180, 0, 43, 4]
abbrev dktX4_add_2 : List UInt8 := dkwX4_add_2 ++ dktX4_add_3
def dkwX4_add_1 : List UInt8 := [167, 255, 235, 42, 180, 0, 20, 3, 50, 42, 180, 0, 43, 27, 79, 42, 180, 0, 20, 4, 50, 42]
abbrev dktX4_add_1 : List UInt8 := dkwX4_add_1 ++ dktX4_add_2
def dkwX4_add_0 : List UInt8 := [3, 62, 29, 16, 7, 162, 0, 21, 42, 180, 0, 20, 29, 50, 42, 180, 0, 43, 3, 79, 132, 3, 1]
abbrev dktX4_add_0 : List UInt8 := dkwX4_add_0 ++ dktX4_add_1
theorem dksX4_add_0 : cX4_add.data.toList.drop 0 = dktX4_add_0 := by decide +kernel
theorem dksX4_add_1 : cX4_add.data.toList.drop 23 = dktX4_add_1 := dk_seg dksX4_add_0 23 rfl rfl
theorem dksX4_add_2 : cX4_add.data.toList.drop 45 = dktX4_add_2 := dk_seg dksX4_add_1 22 rfl rfl
theorem dksX4_add_3 : cX4_add.data.toList.drop 69 = dktX4_add_3 := dk_seg dksX4_add_2 24 rfl rfl
theorem dX4_add_0 : decode cX4_add 0 = .ok (.iconst 0, 1) := dk_3 (dk_at dksX4_add_0 0 rfl rfl)
theorem dX4_add_1 : decode cX4_add 1 = .ok (.istore_n 3, 1) := dk_62 (dk_at dksX4_add_0 1 rfl rfl)
theorem dX4_add_2 : decode cX4_add 2 = .ok (.iload_n 3, 1) := dk_29 (dk_at dksX4_add_0 2 rfl rfl)
theorem dX4_add_3 : decode cX4_add 3 = .ok (.bipush 7, 2) := dk_16 7 (dk_at dksX4_add_0 3 rfl rfl)
theorem dX4_add_5 : decode cX4_add 5 = .ok (.if_icmp .ge 21, 3) := dk_162 0 21 (dk_at dksX4_add_0 5 rfl rfl)
theorem dX4_add_8 : decode cX4_add 8 = .ok (.aload_n 0, 1) := dk_42 (dk_at dksX4_add_0 8 rfl rfl)
theorem dX4_add_9 : decode cX4_add 9 = .ok (.getfield 20, 3) := dk_180 0 20 (dk_at dksX4_add_0 9 rfl rfl)
theorem dX4_add_12 : decode cX4_add 12 = .ok (.iload_n 3, 1) := dk_29 (dk_at dksX4_add_0 12 rfl rfl)
theorem dX4_add_13 : decode cX4_add 13 = .ok (.aaload, 1) := dk_50 (dk_at dksX4_add_0 13 rfl rfl)
theorem dX4_add_14 : decode cX4_add 14 = .ok (.aload_n 0, 1) := dk_42 (dk_at dksX4_add_0 14 rfl rfl)
theorem dX4_add_15 : decode cX4_add 15 = .ok (.getfield 43, 3) := dk_180 0 43 (dk_at dksX4_add_0 15 rfl rfl)
theorem dX4_add_18 : decode cX4_add 18 = .ok (.iconst 0, 1) := dk_3 (dk_at dksX4_add_0 18 rfl rfl)
theorem dX4_add_19 : decode cX4_add 19 = .ok (.iastore, 1) := dk_79 (dk_at dksX4_add_0 19 rfl rfl)
theorem dX4_add_20 : decode cX4_add 20 = .ok (.iinc 3 1, 3) := dk_132 3 1 (dk_at dksX4_add_0 20 rfl rfl)
theorem dX4_add_23 : decode cX4_add 23 = .ok (.goto (-21), 3) := dk_167 255 235 (dk_at dksX4_add_1 0 rfl rfl)
theorem dX4_add_26 : decode cX4_add 26 = .ok (.aload_n 0, 1) := dk_42 (dk_at dksX4_add_1 3 rfl rfl)
theorem dX4_add_27 : decode cX4_add 27 = .ok (.getfield 20, 3) := dk_180 0 20 (dk_at dksX4_add_1 4 rfl rfl)
theorem dX4_add_30 : decode cX4_add 30 = .ok (.iconst 0, 1) := dk_3 (dk_at dksX4_add_1 7 rfl rfl)
theorem dX4_add_31 : decode cX4_add 31 = .ok (.aaload, 1) := dk_50 (dk_at dksX4_add_1 8 rfl rfl)
theorem dX4_add_32 : decode cX4_add 32 = .ok (.aload_n 0, 1) := dk_42 (dk_at dksX4_add_1 9 rfl rfl)
theorem dX4_add_33 : decode cX4_add 33 = .ok (.getfield 43, 3) := dk_180 0 43 (dk_at dksX4_add_1 10 rfl rfl)
theorem dX4_add_36 : decode cX4_add 36 = .ok (.iload_n 1, 1) := dk_27 (dk_at dksX4_add_1 13 rfl rfl)
theorem dX4_add_37 : decode cX4_add 37 = .ok (.iastore, 1) := dk_79 (dk_at dksX4_add_1 14 rfl rfl)
theorem dX4_add_38 : decode cX4_add 38 = .ok (.aload_n 0, 1) := dk_42 (dk_at dksX4_add_1 15 rfl rfl)
theorem dX4_add_39 : decode cX4_add 39 = .ok (.getfield 20, 3) := dk_180 0 20 (dk_at dksX4_add_1 16 rfl rfl)
theorem dX4_add_42 : decode cX4_add 42 = .ok (.iconst 1, 1) := dk_4 (dk_at dksX4_add_1 19 rfl rfl)
theorem dX4_add_43 : decode cX4_add 43 = .ok (.aaload, 1) := dk_50 (dk_at dksX4_add_1 20 rfl rfl)
theorem dX4_add_44 : decode cX4_add 44 = .ok (.aload_n 0, 1) := dk_42 (dk_at dksX4_add_1 21 rfl rfl)
theorem dX4_add_45 : decode cX4_add 45 = .ok (.getfield 43, 3) := dk_180 0 43 (dk_at dksX4_add_2 0 rfl rfl)
theorem dX4_add_48 : decode cX4_add 48 = .ok (.iload_n 2, 1) := dk_28 (dk_at dksX4_add_2 3 rfl rfl)
theorem dX4_add_49 : decode cX4_add 49 = .ok (.iastore, 1) := dk_79 (dk_at dksX4_add_2 4 rfl rfl)
theorem dX4_add_50 : decode cX4_add 50 = .ok (.aload_n 0, 1) := dk_42 (dk_at dksX4_add_2 5 rfl rfl)
theorem dX4_add_51 : decode cX4_add 51 = .ok (.getfield 20, 3) := dk_180 0 20 (dk_at dksX4_add_2 6 rfl rfl)
theorem dX4_add_54 : decode cX4_add 54 = .ok (.iconst 4, 1) := dk_7 (dk_at dksX4_add_2 9 rfl rfl)
theorem dX4_add_55 : decode cX4_add 55 = .ok (.aaload, 1) := dk_50 (dk_at dksX4_add_2 10 rfl rfl)
theorem dX4_add_56 : decode cX4_add 56 = .ok (.aload_n 0, 1) := dk_42 (dk_at dksX4_add_2 11 rfl rfl)
theorem dX4_add_57 : decode cX4_add 57 = .ok (.getfield 43, 3) := dk_180 0 43 (dk_at dksX4_add_2 12 rfl rfl)
theorem dX4_add_60 : decode cX4_add 60 = .ok (.bipush 100, 2) := dk_16 100 (dk_at dksX4_add_2 15 rfl rfl)
theorem dX4_add_62 : decode cX4_add 62 = .ok (.iastore, 1) := dk_79 (dk_at dksX4_add_2 17 rfl rfl)
theorem dX4_add_63 : decode cX4_add 63 = .ok (.aload_n 0, 1) := dk_42 (dk_at dksX4_add_2 18 rfl rfl)
theorem dX4_add_64 : decode cX4_add 64 = .ok (.dup, 1) := dk_89 (dk_at dksX4_add_2 19 rfl rfl)
theorem dX4_add_65 : decode cX4_add 65 = .ok (.getfield 43, 3) := dk_180 0 43 (dk_at dksX4_add_2 20 rfl rfl)
theorem dX4_add_68 : decode cX4_add 68 = .ok (.iconst 1, 1) := dk_4 (dk_at dksX4_add_2 23 rfl rfl)
theorem dX4_add_69 : decode cX4_add 69 = .ok (.iadd, 1) := dk_96 (dk_at dksX4_add_3 0 rfl rfl)
theorem dX4_add_70 : decode cX4_add 70 = .ok (.putfield 43, 3) := dk_181 0 43 (dk_at dksX4_add_3 1 rfl rfl)
theorem dX4_add_73 : decode cX4_add 73 = .ok (.return_, 1) := dk_177 (dk_at dksX4_add_3 4 rfl rfl)
abbrev cX4_empties : ByteArray := prog_13_method_16_code
def yX4_empties : MethodName := ⟨RX4, "empties", "(I)V"⟩
def dkwX4_empties_0 : List UInt8 := [42, 180, 0, 20, 5, 50, 27, 3, 79, 42, 180, 0, 20, 8, 50, 27, 3, 79, 177]
abbrev dktX4_empties_0 : List UInt8 := dkwX4_empties_0 ++ []
theorem dksX4_empties_0 : cX4_empties.data.toList.drop 0 = dktX4_empties_0 := by decide +kernel
theorem dX4_empties_0 : decode cX4_empties 0 = .ok (.aload_n 0, 1) := dk_42 (dk_at dksX4_empties_0 0 rfl rfl)
theorem dX4_empties_1 : decode cX4_empties 1 = .ok (.getfield 20, 3) := dk_180 0 20 (dk_at dksX4_empties_0 1 rfl rfl)
theorem dX4_empties_4 : decode cX4_empties 4 = .ok (.iconst 2, 1) := dk_5 (dk_at dksX4_empties_0 4 rfl rfl)
theorem dX4_empties_5 : decode cX4_empties 5 = .ok (.aaload, 1) := dk_50 (dk_at dksX4_empties_0 5 rfl rfl)
theorem dX4_empties_6 : decode cX4_empties 6 = .ok (.iload_n 1, 1) := dk_27 (dk_at dksX4_empties_0 6 rfl rfl)
theorem dX4_empties_7 : decode cX4_empties 7 = .ok (.iconst 0, 1) := dk_3 (dk_at dksX4_empties_0 7 rfl rfl)
theorem dX4_empties_8 : decode cX4_empties 8 = .ok (.iastore, 1) := dk_79 (dk_at dksX4_empties_0 8 rfl rfl)
theorem dX4_empties_9 : decode cX4_empties 9 = .ok (.aload_n 0, 1) := dk_42 (dk_at dksX4_empties_0 9 rfl rfl)
theorem dX4_empties_10 : decode cX4_empties 10 = .ok (.getfield 20, 3) := dk_180 0 20 (dk_at dksX4_empties_0 10 rfl rfl)
theorem dX4_empties_13 : decode cX4_empties 13 = .ok (.iconst 5, 1) := dk_8 (dk_at dksX4_empties_0 13 rfl rfl)
theorem dX4_empties_14 : decode cX4_empties 14 = .ok (.aaload, 1) := dk_50 (dk_at dksX4_empties_0 14 rfl rfl)
theorem dX4_empties_15 : decode cX4_empties 15 = .ok (.iload_n 1, 1) := dk_27 (dk_at dksX4_empties_0 15 rfl rfl)
theorem dX4_empties_16 : decode cX4_empties 16 = .ok (.iconst 0, 1) := dk_3 (dk_at dksX4_empties_0 16 rfl rfl)
theorem dX4_empties_17 : decode cX4_empties 17 = .ok (.iastore, 1) := dk_79 (dk_at dksX4_empties_0 17 rfl rfl)
theorem dX4_empties_18 : decode cX4_empties 18 = .ok (.return_, 1) := dk_177 (dk_at dksX4_empties_0 18 rfl rfl)
abbrev cX4_isLate : ByteArray := prog_13_method_18_code
def yX4_isLate : MethodName := ⟨RX4, "isLate", "(I)Z"⟩
def dkwX4_isLate_0 : List UInt8 := [42, 180, 0, 46, 27, 96, 18, 75, 164, 0, 7, 4, 167, 0, 4, 3, 172]
abbrev dktX4_isLate_0 : List UInt8 := dkwX4_isLate_0 ++ []
theorem dksX4_isLate_0 : cX4_isLate.data.toList.drop 0 = dktX4_isLate_0 := by decide +kernel
theorem dX4_isLate_0 : decode cX4_isLate 0 = .ok (.aload_n 0, 1) := dk_42 (dk_at dksX4_isLate_0 0 rfl rfl)
theorem dX4_isLate_1 : decode cX4_isLate 1 = .ok (.getfield 46, 3) := dk_180 0 46 (dk_at dksX4_isLate_0 1 rfl rfl)
theorem dX4_isLate_4 : decode cX4_isLate 4 = .ok (.iload_n 1, 1) := dk_27 (dk_at dksX4_isLate_0 4 rfl rfl)
theorem dX4_isLate_5 : decode cX4_isLate 5 = .ok (.iadd, 1) := dk_96 (dk_at dksX4_isLate_0 5 rfl rfl)
theorem dX4_isLate_6 : decode cX4_isLate 6 = .ok (.ldc 75, 2) := dk_18 75 (dk_at dksX4_isLate_0 6 rfl rfl)
theorem dX4_isLate_8 : decode cX4_isLate 8 = .ok (.if_icmp .le 7, 3) := dk_164 0 7 (dk_at dksX4_isLate_0 8 rfl rfl)
theorem dX4_isLate_11 : decode cX4_isLate 11 = .ok (.iconst 1, 1) := dk_4 (dk_at dksX4_isLate_0 11 rfl rfl)
theorem dX4_isLate_12 : decode cX4_isLate 12 = .ok (.goto 4, 3) := dk_167 0 4 (dk_at dksX4_isLate_0 12 rfl rfl)
theorem dX4_isLate_15 : decode cX4_isLate 15 = .ok (.iconst 0, 1) := dk_3 (dk_at dksX4_isLate_0 15 rfl rfl)
theorem dX4_isLate_16 : decode cX4_isLate 16 = .ok (.ireturn, 1) := dk_172 (dk_at dksX4_isLate_0 16 rfl rfl)
abbrev cX4_storms : ByteArray := prog_13_method_12_code
def yX4_storms : MethodName := ⟨RX4, "storms", "()V"⟩
def dkwX4_storms_1 : List UInt8 := [180, 0, 15, 27, 46, 182, 0, 60, 177]
abbrev dktX4_storms_1 : List UInt8 := dkwX4_storms_1 ++ []
def dkwX4_storms_0 : List UInt8 := [42, 180, 0, 46, 16, 6, 112, 60, 42, 27, 182, 0, 56, 61, 28, 2, 159, 0, 14, 42, 28, 42]
abbrev dktX4_storms_0 : List UInt8 := dkwX4_storms_0 ++ dktX4_storms_1
theorem dksX4_storms_0 : cX4_storms.data.toList.drop 0 = dktX4_storms_0 := by decide +kernel
theorem dksX4_storms_1 : cX4_storms.data.toList.drop 22 = dktX4_storms_1 := dk_seg dksX4_storms_0 22 rfl rfl
theorem dX4_storms_0 : decode cX4_storms 0 = .ok (.aload_n 0, 1) := dk_42 (dk_at dksX4_storms_0 0 rfl rfl)
theorem dX4_storms_1 : decode cX4_storms 1 = .ok (.getfield 46, 3) := dk_180 0 46 (dk_at dksX4_storms_0 1 rfl rfl)
theorem dX4_storms_4 : decode cX4_storms 4 = .ok (.bipush 6, 2) := dk_16 6 (dk_at dksX4_storms_0 4 rfl rfl)
theorem dX4_storms_6 : decode cX4_storms 6 = .ok (.irem, 1) := dk_112 (dk_at dksX4_storms_0 6 rfl rfl)
theorem dX4_storms_7 : decode cX4_storms 7 = .ok (.istore_n 1, 1) := dk_60 (dk_at dksX4_storms_0 7 rfl rfl)
theorem dX4_storms_8 : decode cX4_storms 8 = .ok (.aload_n 0, 1) := dk_42 (dk_at dksX4_storms_0 8 rfl rfl)
theorem dX4_storms_9 : decode cX4_storms 9 = .ok (.iload_n 1, 1) := dk_27 (dk_at dksX4_storms_0 9 rfl rfl)
theorem dX4_storms_10 : decode cX4_storms 10 = .ok (.invokevirtual 56, 3) := dk_182 0 56 (dk_at dksX4_storms_0 10 rfl rfl)
theorem dX4_storms_13 : decode cX4_storms 13 = .ok (.istore_n 2, 1) := dk_61 (dk_at dksX4_storms_0 13 rfl rfl)
theorem dX4_storms_14 : decode cX4_storms 14 = .ok (.iload_n 2, 1) := dk_28 (dk_at dksX4_storms_0 14 rfl rfl)
theorem dX4_storms_15 : decode cX4_storms 15 = .ok (.iconst (-1), 1) := dk_2 (dk_at dksX4_storms_0 15 rfl rfl)
theorem dX4_storms_16 : decode cX4_storms 16 = .ok (.if_icmp .eq 14, 3) := dk_159 0 14 (dk_at dksX4_storms_0 16 rfl rfl)
theorem dX4_storms_19 : decode cX4_storms 19 = .ok (.aload_n 0, 1) := dk_42 (dk_at dksX4_storms_0 19 rfl rfl)
theorem dX4_storms_20 : decode cX4_storms 20 = .ok (.iload_n 2, 1) := dk_28 (dk_at dksX4_storms_0 20 rfl rfl)
theorem dX4_storms_21 : decode cX4_storms 21 = .ok (.aload_n 0, 1) := dk_42 (dk_at dksX4_storms_0 21 rfl rfl)
theorem dX4_storms_22 : decode cX4_storms 22 = .ok (.getfield 15, 3) := dk_180 0 15 (dk_at dksX4_storms_1 0 rfl rfl)
theorem dX4_storms_25 : decode cX4_storms 25 = .ok (.iload_n 1, 1) := dk_27 (dk_at dksX4_storms_1 3 rfl rfl)
theorem dX4_storms_26 : decode cX4_storms 26 = .ok (.iaload, 1) := dk_46 (dk_at dksX4_storms_1 4 rfl rfl)
theorem dX4_storms_27 : decode cX4_storms 27 = .ok (.invokevirtual 60, 3) := dk_182 0 60 (dk_at dksX4_storms_1 5 rfl rfl)
theorem dX4_storms_30 : decode cX4_storms 30 = .ok (.return_, 1) := dk_177 (dk_at dksX4_storms_1 8 rfl rfl)
abbrev cX4_peals : ByteArray := prog_13_method_11_code
def yX4_peals : MethodName := ⟨RX4, "peals", "(II)V"⟩
def dkwX4_peals_1 : List UInt8 := [177]
abbrev dktX4_peals_1 : List UInt8 := dkwX4_peals_1 ++ []
def dkwX4_peals_0 : List UInt8 := [42, 180, 0, 20, 5, 50, 27, 17, 3, 231, 42, 180, 0, 20, 5, 50, 27, 46, 28, 96, 184, 0, 50, 79]
abbrev dktX4_peals_0 : List UInt8 := dkwX4_peals_0 ++ dktX4_peals_1
theorem dksX4_peals_0 : cX4_peals.data.toList.drop 0 = dktX4_peals_0 := by decide +kernel
theorem dksX4_peals_1 : cX4_peals.data.toList.drop 24 = dktX4_peals_1 := dk_seg dksX4_peals_0 24 rfl rfl
theorem dX4_peals_0 : decode cX4_peals 0 = .ok (.aload_n 0, 1) := dk_42 (dk_at dksX4_peals_0 0 rfl rfl)
theorem dX4_peals_1 : decode cX4_peals 1 = .ok (.getfield 20, 3) := dk_180 0 20 (dk_at dksX4_peals_0 1 rfl rfl)
theorem dX4_peals_4 : decode cX4_peals 4 = .ok (.iconst 2, 1) := dk_5 (dk_at dksX4_peals_0 4 rfl rfl)
theorem dX4_peals_5 : decode cX4_peals 5 = .ok (.aaload, 1) := dk_50 (dk_at dksX4_peals_0 5 rfl rfl)
theorem dX4_peals_6 : decode cX4_peals 6 = .ok (.iload_n 1, 1) := dk_27 (dk_at dksX4_peals_0 6 rfl rfl)
theorem dX4_peals_7 : decode cX4_peals 7 = .ok (.sipush 999, 3) := dk_17 3 231 (dk_at dksX4_peals_0 7 rfl rfl)
theorem dX4_peals_10 : decode cX4_peals 10 = .ok (.aload_n 0, 1) := dk_42 (dk_at dksX4_peals_0 10 rfl rfl)
theorem dX4_peals_11 : decode cX4_peals 11 = .ok (.getfield 20, 3) := dk_180 0 20 (dk_at dksX4_peals_0 11 rfl rfl)
theorem dX4_peals_14 : decode cX4_peals 14 = .ok (.iconst 2, 1) := dk_5 (dk_at dksX4_peals_0 14 rfl rfl)
theorem dX4_peals_15 : decode cX4_peals 15 = .ok (.aaload, 1) := dk_50 (dk_at dksX4_peals_0 15 rfl rfl)
theorem dX4_peals_16 : decode cX4_peals 16 = .ok (.iload_n 1, 1) := dk_27 (dk_at dksX4_peals_0 16 rfl rfl)
theorem dX4_peals_17 : decode cX4_peals 17 = .ok (.iaload, 1) := dk_46 (dk_at dksX4_peals_0 17 rfl rfl)
theorem dX4_peals_18 : decode cX4_peals 18 = .ok (.iload_n 2, 1) := dk_28 (dk_at dksX4_peals_0 18 rfl rfl)
theorem dX4_peals_19 : decode cX4_peals 19 = .ok (.iadd, 1) := dk_96 (dk_at dksX4_peals_0 19 rfl rfl)
theorem dX4_peals_20 : decode cX4_peals 20 = .ok (.invokestatic 50, 3) := dk_184 0 50 (dk_at dksX4_peals_0 20 rfl rfl)
theorem dX4_peals_23 : decode cX4_peals 23 = .ok (.iastore, 1) := dk_79 (dk_at dksX4_peals_0 23 rfl rfl)
theorem dX4_peals_24 : decode cX4_peals 24 = .ok (.return_, 1) := dk_177 (dk_at dksX4_peals_1 0 rfl rfl)
abbrev cX4_leaks : ByteArray := prog_13_method_13_code
def yX4_leaks : MethodName := ⟨RX4, "leaks", "(II)V"⟩
def dkwX4_leaks_1 : List UInt8 := [180, 0, 20, 8, 50, 27, 17, 3, 231, 42, 180, 0, 20, 8, 50, 27, 46, 4, 96, 184, 0, 50, 79, 177]
abbrev dktX4_leaks_1 : List UInt8 := dkwX4_leaks_1 ++ []
def dkwX4_leaks_0 : List UInt8 := [42, 180, 0, 20, 5, 50, 27, 3, 42, 180, 0, 20, 5, 50, 27, 46, 28, 100, 184, 0, 64, 79, 42]
abbrev dktX4_leaks_0 : List UInt8 := dkwX4_leaks_0 ++ dktX4_leaks_1
theorem dksX4_leaks_0 : cX4_leaks.data.toList.drop 0 = dktX4_leaks_0 := by decide +kernel
theorem dksX4_leaks_1 : cX4_leaks.data.toList.drop 23 = dktX4_leaks_1 := dk_seg dksX4_leaks_0 23 rfl rfl
theorem dX4_leaks_0 : decode cX4_leaks 0 = .ok (.aload_n 0, 1) := dk_42 (dk_at dksX4_leaks_0 0 rfl rfl)
theorem dX4_leaks_1 : decode cX4_leaks 1 = .ok (.getfield 20, 3) := dk_180 0 20 (dk_at dksX4_leaks_0 1 rfl rfl)
theorem dX4_leaks_4 : decode cX4_leaks 4 = .ok (.iconst 2, 1) := dk_5 (dk_at dksX4_leaks_0 4 rfl rfl)
theorem dX4_leaks_5 : decode cX4_leaks 5 = .ok (.aaload, 1) := dk_50 (dk_at dksX4_leaks_0 5 rfl rfl)
theorem dX4_leaks_6 : decode cX4_leaks 6 = .ok (.iload_n 1, 1) := dk_27 (dk_at dksX4_leaks_0 6 rfl rfl)
theorem dX4_leaks_7 : decode cX4_leaks 7 = .ok (.iconst 0, 1) := dk_3 (dk_at dksX4_leaks_0 7 rfl rfl)
theorem dX4_leaks_8 : decode cX4_leaks 8 = .ok (.aload_n 0, 1) := dk_42 (dk_at dksX4_leaks_0 8 rfl rfl)
theorem dX4_leaks_9 : decode cX4_leaks 9 = .ok (.getfield 20, 3) := dk_180 0 20 (dk_at dksX4_leaks_0 9 rfl rfl)
theorem dX4_leaks_12 : decode cX4_leaks 12 = .ok (.iconst 2, 1) := dk_5 (dk_at dksX4_leaks_0 12 rfl rfl)
theorem dX4_leaks_13 : decode cX4_leaks 13 = .ok (.aaload, 1) := dk_50 (dk_at dksX4_leaks_0 13 rfl rfl)
theorem dX4_leaks_14 : decode cX4_leaks 14 = .ok (.iload_n 1, 1) := dk_27 (dk_at dksX4_leaks_0 14 rfl rfl)
theorem dX4_leaks_15 : decode cX4_leaks 15 = .ok (.iaload, 1) := dk_46 (dk_at dksX4_leaks_0 15 rfl rfl)
theorem dX4_leaks_16 : decode cX4_leaks 16 = .ok (.iload_n 2, 1) := dk_28 (dk_at dksX4_leaks_0 16 rfl rfl)
theorem dX4_leaks_17 : decode cX4_leaks 17 = .ok (.isub, 1) := dk_100 (dk_at dksX4_leaks_0 17 rfl rfl)
theorem dX4_leaks_18 : decode cX4_leaks 18 = .ok (.invokestatic 64, 3) := dk_184 0 64 (dk_at dksX4_leaks_0 18 rfl rfl)
theorem dX4_leaks_21 : decode cX4_leaks 21 = .ok (.iastore, 1) := dk_79 (dk_at dksX4_leaks_0 21 rfl rfl)
theorem dX4_leaks_22 : decode cX4_leaks 22 = .ok (.aload_n 0, 1) := dk_42 (dk_at dksX4_leaks_0 22 rfl rfl)
theorem dX4_leaks_23 : decode cX4_leaks 23 = .ok (.getfield 20, 3) := dk_180 0 20 (dk_at dksX4_leaks_1 0 rfl rfl)
theorem dX4_leaks_26 : decode cX4_leaks 26 = .ok (.iconst 5, 1) := dk_8 (dk_at dksX4_leaks_1 3 rfl rfl)
theorem dX4_leaks_27 : decode cX4_leaks 27 = .ok (.aaload, 1) := dk_50 (dk_at dksX4_leaks_1 4 rfl rfl)
theorem dX4_leaks_28 : decode cX4_leaks 28 = .ok (.iload_n 1, 1) := dk_27 (dk_at dksX4_leaks_1 5 rfl rfl)
theorem dX4_leaks_29 : decode cX4_leaks 29 = .ok (.sipush 999, 3) := dk_17 3 231 (dk_at dksX4_leaks_1 6 rfl rfl)
theorem dX4_leaks_32 : decode cX4_leaks 32 = .ok (.aload_n 0, 1) := dk_42 (dk_at dksX4_leaks_1 9 rfl rfl)
theorem dX4_leaks_33 : decode cX4_leaks 33 = .ok (.getfield 20, 3) := dk_180 0 20 (dk_at dksX4_leaks_1 10 rfl rfl)
theorem dX4_leaks_36 : decode cX4_leaks 36 = .ok (.iconst 5, 1) := dk_8 (dk_at dksX4_leaks_1 13 rfl rfl)
theorem dX4_leaks_37 : decode cX4_leaks 37 = .ok (.aaload, 1) := dk_50 (dk_at dksX4_leaks_1 14 rfl rfl)
theorem dX4_leaks_38 : decode cX4_leaks 38 = .ok (.iload_n 1, 1) := dk_27 (dk_at dksX4_leaks_1 15 rfl rfl)
theorem dX4_leaks_39 : decode cX4_leaks 39 = .ok (.iaload, 1) := dk_46 (dk_at dksX4_leaks_1 16 rfl rfl)
theorem dX4_leaks_40 : decode cX4_leaks 40 = .ok (.iconst 1, 1) := dk_4 (dk_at dksX4_leaks_1 17 rfl rfl)
theorem dX4_leaks_41 : decode cX4_leaks 41 = .ok (.iadd, 1) := dk_96 (dk_at dksX4_leaks_1 18 rfl rfl)
theorem dX4_leaks_42 : decode cX4_leaks 42 = .ok (.invokestatic 50, 3) := dk_184 0 50 (dk_at dksX4_leaks_1 19 rfl rfl)
theorem dX4_leaks_45 : decode cX4_leaks 45 = .ok (.iastore, 1) := dk_79 (dk_at dksX4_leaks_1 22 rfl rfl)
theorem dX4_leaks_46 : decode cX4_leaks 46 = .ok (.return_, 1) := dk_177 (dk_at dksX4_leaks_1 23 rfl rfl)
abbrev cX4_cancel : ByteArray := prog_13_method_15_code
def yX4_cancel : MethodName := ⟨RX4, "cancel", "()V"⟩
def dkwX4_cancel_3 : List UInt8 := [5, 50, 28, 92, 46, 29, 100, 79, 132, 2, 1, 167, 255, 188, 132, 1, 1, 167, 255, 170, 177]
abbrev dktX4_cancel_3 : List UInt8 := dkwX4_cancel_3 ++ []
def dkwX4_cancel_2 : List UInt8 := [184, 0, 50, 167, 0, 4, 3, 62, 42, 180, 0, 20, 5, 50, 27, 92, 46, 29, 100, 79, 42, 180, 0, 20]
abbrev dktX4_cancel_2 : List UInt8 := dkwX4_cancel_2 ++ dktX4_cancel_3
def dkwX4_cancel_1 : List UInt8 := [28, 182, 0, 67, 153, 0, 25, 42, 180, 0, 20, 5, 50, 27, 46, 42, 180, 0, 20, 5, 50, 28, 46]
abbrev dktX4_cancel_1 : List UInt8 := dkwX4_cancel_1 ++ dktX4_cancel_2
def dkwX4_cancel_0 : List UInt8 := [3, 60, 27, 42, 180, 0, 43, 162, 0, 84, 27, 4, 96, 61, 28, 42, 180, 0, 43, 162, 0, 66, 42, 27]
abbrev dktX4_cancel_0 : List UInt8 := dkwX4_cancel_0 ++ dktX4_cancel_1
theorem dksX4_cancel_0 : cX4_cancel.data.toList.drop 0 = dktX4_cancel_0 := by decide +kernel
theorem dksX4_cancel_1 : cX4_cancel.data.toList.drop 24 = dktX4_cancel_1 := dk_seg dksX4_cancel_0 24 rfl rfl
theorem dksX4_cancel_2 : cX4_cancel.data.toList.drop 47 = dktX4_cancel_2 := dk_seg dksX4_cancel_1 23 rfl rfl
theorem dksX4_cancel_3 : cX4_cancel.data.toList.drop 71 = dktX4_cancel_3 := dk_seg dksX4_cancel_2 24 rfl rfl
theorem dX4_cancel_0 : decode cX4_cancel 0 = .ok (.iconst 0, 1) := dk_3 (dk_at dksX4_cancel_0 0 rfl rfl)
theorem dX4_cancel_1 : decode cX4_cancel 1 = .ok (.istore_n 1, 1) := dk_60 (dk_at dksX4_cancel_0 1 rfl rfl)
theorem dX4_cancel_2 : decode cX4_cancel 2 = .ok (.iload_n 1, 1) := dk_27 (dk_at dksX4_cancel_0 2 rfl rfl)
theorem dX4_cancel_3 : decode cX4_cancel 3 = .ok (.aload_n 0, 1) := dk_42 (dk_at dksX4_cancel_0 3 rfl rfl)
theorem dX4_cancel_4 : decode cX4_cancel 4 = .ok (.getfield 43, 3) := dk_180 0 43 (dk_at dksX4_cancel_0 4 rfl rfl)
theorem dX4_cancel_7 : decode cX4_cancel 7 = .ok (.if_icmp .ge 84, 3) := dk_162 0 84 (dk_at dksX4_cancel_0 7 rfl rfl)
theorem dX4_cancel_10 : decode cX4_cancel 10 = .ok (.iload_n 1, 1) := dk_27 (dk_at dksX4_cancel_0 10 rfl rfl)
theorem dX4_cancel_11 : decode cX4_cancel 11 = .ok (.iconst 1, 1) := dk_4 (dk_at dksX4_cancel_0 11 rfl rfl)
theorem dX4_cancel_12 : decode cX4_cancel 12 = .ok (.iadd, 1) := dk_96 (dk_at dksX4_cancel_0 12 rfl rfl)
theorem dX4_cancel_13 : decode cX4_cancel 13 = .ok (.istore_n 2, 1) := dk_61 (dk_at dksX4_cancel_0 13 rfl rfl)
theorem dX4_cancel_14 : decode cX4_cancel 14 = .ok (.iload_n 2, 1) := dk_28 (dk_at dksX4_cancel_0 14 rfl rfl)
theorem dX4_cancel_15 : decode cX4_cancel 15 = .ok (.aload_n 0, 1) := dk_42 (dk_at dksX4_cancel_0 15 rfl rfl)
theorem dX4_cancel_16 : decode cX4_cancel 16 = .ok (.getfield 43, 3) := dk_180 0 43 (dk_at dksX4_cancel_0 16 rfl rfl)
theorem dX4_cancel_19 : decode cX4_cancel 19 = .ok (.if_icmp .ge 66, 3) := dk_162 0 66 (dk_at dksX4_cancel_0 19 rfl rfl)
theorem dX4_cancel_22 : decode cX4_cancel 22 = .ok (.aload_n 0, 1) := dk_42 (dk_at dksX4_cancel_0 22 rfl rfl)
theorem dX4_cancel_23 : decode cX4_cancel 23 = .ok (.iload_n 1, 1) := dk_27 (dk_at dksX4_cancel_0 23 rfl rfl)
theorem dX4_cancel_24 : decode cX4_cancel 24 = .ok (.iload_n 2, 1) := dk_28 (dk_at dksX4_cancel_1 0 rfl rfl)
theorem dX4_cancel_25 : decode cX4_cancel 25 = .ok (.invokevirtual 67, 3) := dk_182 0 67 (dk_at dksX4_cancel_1 1 rfl rfl)
theorem dX4_cancel_28 : decode cX4_cancel 28 = .ok (.ifCond .eq 25, 3) := dk_153 0 25 (dk_at dksX4_cancel_1 4 rfl rfl)
theorem dX4_cancel_31 : decode cX4_cancel 31 = .ok (.aload_n 0, 1) := dk_42 (dk_at dksX4_cancel_1 7 rfl rfl)
theorem dX4_cancel_32 : decode cX4_cancel 32 = .ok (.getfield 20, 3) := dk_180 0 20 (dk_at dksX4_cancel_1 8 rfl rfl)
theorem dX4_cancel_35 : decode cX4_cancel 35 = .ok (.iconst 2, 1) := dk_5 (dk_at dksX4_cancel_1 11 rfl rfl)
theorem dX4_cancel_36 : decode cX4_cancel 36 = .ok (.aaload, 1) := dk_50 (dk_at dksX4_cancel_1 12 rfl rfl)
theorem dX4_cancel_37 : decode cX4_cancel 37 = .ok (.iload_n 1, 1) := dk_27 (dk_at dksX4_cancel_1 13 rfl rfl)
theorem dX4_cancel_38 : decode cX4_cancel 38 = .ok (.iaload, 1) := dk_46 (dk_at dksX4_cancel_1 14 rfl rfl)
theorem dX4_cancel_39 : decode cX4_cancel 39 = .ok (.aload_n 0, 1) := dk_42 (dk_at dksX4_cancel_1 15 rfl rfl)
theorem dX4_cancel_40 : decode cX4_cancel 40 = .ok (.getfield 20, 3) := dk_180 0 20 (dk_at dksX4_cancel_1 16 rfl rfl)
theorem dX4_cancel_43 : decode cX4_cancel 43 = .ok (.iconst 2, 1) := dk_5 (dk_at dksX4_cancel_1 19 rfl rfl)
theorem dX4_cancel_44 : decode cX4_cancel 44 = .ok (.aaload, 1) := dk_50 (dk_at dksX4_cancel_1 20 rfl rfl)
theorem dX4_cancel_45 : decode cX4_cancel 45 = .ok (.iload_n 2, 1) := dk_28 (dk_at dksX4_cancel_1 21 rfl rfl)
theorem dX4_cancel_46 : decode cX4_cancel 46 = .ok (.iaload, 1) := dk_46 (dk_at dksX4_cancel_1 22 rfl rfl)
theorem dX4_cancel_47 : decode cX4_cancel 47 = .ok (.invokestatic 50, 3) := dk_184 0 50 (dk_at dksX4_cancel_2 0 rfl rfl)
theorem dX4_cancel_50 : decode cX4_cancel 50 = .ok (.goto 4, 3) := dk_167 0 4 (dk_at dksX4_cancel_2 3 rfl rfl)
theorem dX4_cancel_53 : decode cX4_cancel 53 = .ok (.iconst 0, 1) := dk_3 (dk_at dksX4_cancel_2 6 rfl rfl)
theorem dX4_cancel_54 : decode cX4_cancel 54 = .ok (.istore_n 3, 1) := dk_62 (dk_at dksX4_cancel_2 7 rfl rfl)
theorem dX4_cancel_55 : decode cX4_cancel 55 = .ok (.aload_n 0, 1) := dk_42 (dk_at dksX4_cancel_2 8 rfl rfl)
theorem dX4_cancel_56 : decode cX4_cancel 56 = .ok (.getfield 20, 3) := dk_180 0 20 (dk_at dksX4_cancel_2 9 rfl rfl)
theorem dX4_cancel_59 : decode cX4_cancel 59 = .ok (.iconst 2, 1) := dk_5 (dk_at dksX4_cancel_2 12 rfl rfl)
theorem dX4_cancel_60 : decode cX4_cancel 60 = .ok (.aaload, 1) := dk_50 (dk_at dksX4_cancel_2 13 rfl rfl)
theorem dX4_cancel_61 : decode cX4_cancel 61 = .ok (.iload_n 1, 1) := dk_27 (dk_at dksX4_cancel_2 14 rfl rfl)
theorem dX4_cancel_62 : decode cX4_cancel 62 = .ok (.dup2, 1) := dk_92 (dk_at dksX4_cancel_2 15 rfl rfl)
theorem dX4_cancel_63 : decode cX4_cancel 63 = .ok (.iaload, 1) := dk_46 (dk_at dksX4_cancel_2 16 rfl rfl)
theorem dX4_cancel_64 : decode cX4_cancel 64 = .ok (.iload_n 3, 1) := dk_29 (dk_at dksX4_cancel_2 17 rfl rfl)
theorem dX4_cancel_65 : decode cX4_cancel 65 = .ok (.isub, 1) := dk_100 (dk_at dksX4_cancel_2 18 rfl rfl)
theorem dX4_cancel_66 : decode cX4_cancel 66 = .ok (.iastore, 1) := dk_79 (dk_at dksX4_cancel_2 19 rfl rfl)
theorem dX4_cancel_67 : decode cX4_cancel 67 = .ok (.aload_n 0, 1) := dk_42 (dk_at dksX4_cancel_2 20 rfl rfl)
theorem dX4_cancel_68 : decode cX4_cancel 68 = .ok (.getfield 20, 3) := dk_180 0 20 (dk_at dksX4_cancel_2 21 rfl rfl)
theorem dX4_cancel_71 : decode cX4_cancel 71 = .ok (.iconst 2, 1) := dk_5 (dk_at dksX4_cancel_3 0 rfl rfl)
theorem dX4_cancel_72 : decode cX4_cancel 72 = .ok (.aaload, 1) := dk_50 (dk_at dksX4_cancel_3 1 rfl rfl)
theorem dX4_cancel_73 : decode cX4_cancel 73 = .ok (.iload_n 2, 1) := dk_28 (dk_at dksX4_cancel_3 2 rfl rfl)
theorem dX4_cancel_74 : decode cX4_cancel 74 = .ok (.dup2, 1) := dk_92 (dk_at dksX4_cancel_3 3 rfl rfl)
theorem dX4_cancel_75 : decode cX4_cancel 75 = .ok (.iaload, 1) := dk_46 (dk_at dksX4_cancel_3 4 rfl rfl)
theorem dX4_cancel_76 : decode cX4_cancel 76 = .ok (.iload_n 3, 1) := dk_29 (dk_at dksX4_cancel_3 5 rfl rfl)
theorem dX4_cancel_77 : decode cX4_cancel 77 = .ok (.isub, 1) := dk_100 (dk_at dksX4_cancel_3 6 rfl rfl)
theorem dX4_cancel_78 : decode cX4_cancel 78 = .ok (.iastore, 1) := dk_79 (dk_at dksX4_cancel_3 7 rfl rfl)
theorem dX4_cancel_79 : decode cX4_cancel 79 = .ok (.iinc 2 1, 3) := dk_132 2 1 (dk_at dksX4_cancel_3 8 rfl rfl)
theorem dX4_cancel_82 : decode cX4_cancel 82 = .ok (.goto (-68), 3) := dk_167 255 188 (dk_at dksX4_cancel_3 11 rfl rfl)
theorem dX4_cancel_85 : decode cX4_cancel 85 = .ok (.iinc 1 1, 3) := dk_132 1 1 (dk_at dksX4_cancel_3 14 rfl rfl)
theorem dX4_cancel_88 : decode cX4_cancel 88 = .ok (.goto (-86), 3) := dk_167 255 170 (dk_at dksX4_cancel_3 17 rfl rfl)
theorem dX4_cancel_91 : decode cX4_cancel 91 = .ok (.return_, 1) := dk_177 (dk_at dksX4_cancel_3 20 rfl rfl)
abbrev cX4_areAlike : ByteArray := prog_13_method_14_code
def yX4_areAlike : MethodName := ⟨RX4, "areAlike", "(II)Z"⟩
def dkwX4_areAlike_1 : List UInt8 := [50, 27, 46, 42, 180, 0, 20, 6, 50, 28, 46, 160, 0, 7, 4, 167, 0, 4, 3, 172]
abbrev dktX4_areAlike_1 : List UInt8 := dkwX4_areAlike_1 ++ []
def dkwX4_areAlike_0 : List UInt8 := [42, 180, 0, 20, 4, 50, 27, 46, 42, 180, 0, 20, 4, 50, 28, 46, 160, 0, 26, 42, 180, 0, 20, 6]
abbrev dktX4_areAlike_0 : List UInt8 := dkwX4_areAlike_0 ++ dktX4_areAlike_1
theorem dksX4_areAlike_0 : cX4_areAlike.data.toList.drop 0 = dktX4_areAlike_0 := by decide +kernel
theorem dksX4_areAlike_1 : cX4_areAlike.data.toList.drop 24 = dktX4_areAlike_1 := dk_seg dksX4_areAlike_0 24 rfl rfl
theorem dX4_areAlike_0 : decode cX4_areAlike 0 = .ok (.aload_n 0, 1) := dk_42 (dk_at dksX4_areAlike_0 0 rfl rfl)
theorem dX4_areAlike_1 : decode cX4_areAlike 1 = .ok (.getfield 20, 3) := dk_180 0 20 (dk_at dksX4_areAlike_0 1 rfl rfl)
theorem dX4_areAlike_4 : decode cX4_areAlike 4 = .ok (.iconst 1, 1) := dk_4 (dk_at dksX4_areAlike_0 4 rfl rfl)
theorem dX4_areAlike_5 : decode cX4_areAlike 5 = .ok (.aaload, 1) := dk_50 (dk_at dksX4_areAlike_0 5 rfl rfl)
theorem dX4_areAlike_6 : decode cX4_areAlike 6 = .ok (.iload_n 1, 1) := dk_27 (dk_at dksX4_areAlike_0 6 rfl rfl)
theorem dX4_areAlike_7 : decode cX4_areAlike 7 = .ok (.iaload, 1) := dk_46 (dk_at dksX4_areAlike_0 7 rfl rfl)
theorem dX4_areAlike_8 : decode cX4_areAlike 8 = .ok (.aload_n 0, 1) := dk_42 (dk_at dksX4_areAlike_0 8 rfl rfl)
theorem dX4_areAlike_9 : decode cX4_areAlike 9 = .ok (.getfield 20, 3) := dk_180 0 20 (dk_at dksX4_areAlike_0 9 rfl rfl)
theorem dX4_areAlike_12 : decode cX4_areAlike 12 = .ok (.iconst 1, 1) := dk_4 (dk_at dksX4_areAlike_0 12 rfl rfl)
theorem dX4_areAlike_13 : decode cX4_areAlike 13 = .ok (.aaload, 1) := dk_50 (dk_at dksX4_areAlike_0 13 rfl rfl)
theorem dX4_areAlike_14 : decode cX4_areAlike 14 = .ok (.iload_n 2, 1) := dk_28 (dk_at dksX4_areAlike_0 14 rfl rfl)
theorem dX4_areAlike_15 : decode cX4_areAlike 15 = .ok (.iaload, 1) := dk_46 (dk_at dksX4_areAlike_0 15 rfl rfl)
theorem dX4_areAlike_16 : decode cX4_areAlike 16 = .ok (.if_icmp .ne 26, 3) := dk_160 0 26 (dk_at dksX4_areAlike_0 16 rfl rfl)
theorem dX4_areAlike_19 : decode cX4_areAlike 19 = .ok (.aload_n 0, 1) := dk_42 (dk_at dksX4_areAlike_0 19 rfl rfl)
theorem dX4_areAlike_20 : decode cX4_areAlike 20 = .ok (.getfield 20, 3) := dk_180 0 20 (dk_at dksX4_areAlike_0 20 rfl rfl)
theorem dX4_areAlike_23 : decode cX4_areAlike 23 = .ok (.iconst 3, 1) := dk_6 (dk_at dksX4_areAlike_0 23 rfl rfl)
theorem dX4_areAlike_24 : decode cX4_areAlike 24 = .ok (.aaload, 1) := dk_50 (dk_at dksX4_areAlike_1 0 rfl rfl)
theorem dX4_areAlike_25 : decode cX4_areAlike 25 = .ok (.iload_n 1, 1) := dk_27 (dk_at dksX4_areAlike_1 1 rfl rfl)
theorem dX4_areAlike_26 : decode cX4_areAlike 26 = .ok (.iaload, 1) := dk_46 (dk_at dksX4_areAlike_1 2 rfl rfl)
theorem dX4_areAlike_27 : decode cX4_areAlike 27 = .ok (.aload_n 0, 1) := dk_42 (dk_at dksX4_areAlike_1 3 rfl rfl)
theorem dX4_areAlike_28 : decode cX4_areAlike 28 = .ok (.getfield 20, 3) := dk_180 0 20 (dk_at dksX4_areAlike_1 4 rfl rfl)
theorem dX4_areAlike_31 : decode cX4_areAlike 31 = .ok (.iconst 3, 1) := dk_6 (dk_at dksX4_areAlike_1 7 rfl rfl)
theorem dX4_areAlike_32 : decode cX4_areAlike 32 = .ok (.aaload, 1) := dk_50 (dk_at dksX4_areAlike_1 8 rfl rfl)
theorem dX4_areAlike_33 : decode cX4_areAlike 33 = .ok (.iload_n 2, 1) := dk_28 (dk_at dksX4_areAlike_1 9 rfl rfl)
theorem dX4_areAlike_34 : decode cX4_areAlike 34 = .ok (.iaload, 1) := dk_46 (dk_at dksX4_areAlike_1 10 rfl rfl)
theorem dX4_areAlike_35 : decode cX4_areAlike 35 = .ok (.if_icmp .ne 7, 3) := dk_160 0 7 (dk_at dksX4_areAlike_1 11 rfl rfl)
theorem dX4_areAlike_38 : decode cX4_areAlike 38 = .ok (.iconst 1, 1) := dk_4 (dk_at dksX4_areAlike_1 14 rfl rfl)
theorem dX4_areAlike_39 : decode cX4_areAlike 39 = .ok (.goto 4, 3) := dk_167 0 4 (dk_at dksX4_areAlike_1 15 rfl rfl)
theorem dX4_areAlike_42 : decode cX4_areAlike 42 = .ok (.iconst 0, 1) := dk_3 (dk_at dksX4_areAlike_1 18 rfl rfl)
theorem dX4_areAlike_43 : decode cX4_areAlike 43 = .ok (.ireturn, 1) := dk_172 (dk_at dksX4_areAlike_1 19 rfl rfl)
abbrev cX4_bursts : ByteArray := prog_13_method_17_code
def yX4_bursts : MethodName := ⟨RX4, "bursts", "(I)V"⟩
def dkwX4_bursts_4 : List UInt8 := [180, 0, 40, 4, 96, 184, 0, 50, 181, 0, 40, 177]
abbrev dktX4_bursts_4 : List UInt8 := dkwX4_bursts_4 ++ []
def dkwX4_bursts_3 : List UInt8 := [17, 3, 231, 42, 180, 0, 20, 16, 6, 50, 27, 46, 4, 96, 184, 0, 50, 79, 42, 18, 75, 42]
abbrev dktX4_bursts_3 : List UInt8 := dkwX4_bursts_3 ++ dktX4_bursts_4
def dkwX4_bursts_2 : List UInt8 := [28, 182, 0, 60, 132, 3, 1, 167, 255, 215, 42, 27, 182, 0, 71, 42, 180, 0, 20, 16, 6, 50, 27]
abbrev dktX4_bursts_2 : List UInt8 := dkwX4_bursts_2 ++ dktX4_bursts_3
def dkwX4_bursts_1 : List UInt8 := [159, 0, 28, 42, 180, 0, 20, 4, 50, 29, 46, 42, 180, 0, 20, 4, 50, 27, 46, 160, 0, 9, 42, 29]
abbrev dktX4_bursts_1 : List UInt8 := dkwX4_bursts_1 ++ dktX4_bursts_2
def dkwX4_bursts_0 : List UInt8 := [42, 180, 0, 20, 5, 50, 27, 46, 5, 108, 61, 3, 62, 29, 42, 180, 0, 43, 162, 0, 39, 29, 27]
abbrev dktX4_bursts_0 : List UInt8 := dkwX4_bursts_0 ++ dktX4_bursts_1
theorem dksX4_bursts_0 : cX4_bursts.data.toList.drop 0 = dktX4_bursts_0 := by decide +kernel
theorem dksX4_bursts_1 : cX4_bursts.data.toList.drop 23 = dktX4_bursts_1 := dk_seg dksX4_bursts_0 23 rfl rfl
theorem dksX4_bursts_2 : cX4_bursts.data.toList.drop 47 = dktX4_bursts_2 := dk_seg dksX4_bursts_1 24 rfl rfl
theorem dksX4_bursts_3 : cX4_bursts.data.toList.drop 70 = dktX4_bursts_3 := dk_seg dksX4_bursts_2 23 rfl rfl
theorem dksX4_bursts_4 : cX4_bursts.data.toList.drop 92 = dktX4_bursts_4 := dk_seg dksX4_bursts_3 22 rfl rfl
theorem dX4_bursts_0 : decode cX4_bursts 0 = .ok (.aload_n 0, 1) := dk_42 (dk_at dksX4_bursts_0 0 rfl rfl)
theorem dX4_bursts_1 : decode cX4_bursts 1 = .ok (.getfield 20, 3) := dk_180 0 20 (dk_at dksX4_bursts_0 1 rfl rfl)
theorem dX4_bursts_4 : decode cX4_bursts 4 = .ok (.iconst 2, 1) := dk_5 (dk_at dksX4_bursts_0 4 rfl rfl)
theorem dX4_bursts_5 : decode cX4_bursts 5 = .ok (.aaload, 1) := dk_50 (dk_at dksX4_bursts_0 5 rfl rfl)
theorem dX4_bursts_6 : decode cX4_bursts 6 = .ok (.iload_n 1, 1) := dk_27 (dk_at dksX4_bursts_0 6 rfl rfl)
theorem dX4_bursts_7 : decode cX4_bursts 7 = .ok (.iaload, 1) := dk_46 (dk_at dksX4_bursts_0 7 rfl rfl)
theorem dX4_bursts_8 : decode cX4_bursts 8 = .ok (.iconst 2, 1) := dk_5 (dk_at dksX4_bursts_0 8 rfl rfl)
theorem dX4_bursts_9 : decode cX4_bursts 9 = .ok (.idiv, 1) := dk_108 (dk_at dksX4_bursts_0 9 rfl rfl)
theorem dX4_bursts_10 : decode cX4_bursts 10 = .ok (.istore_n 2, 1) := dk_61 (dk_at dksX4_bursts_0 10 rfl rfl)
theorem dX4_bursts_11 : decode cX4_bursts 11 = .ok (.iconst 0, 1) := dk_3 (dk_at dksX4_bursts_0 11 rfl rfl)
theorem dX4_bursts_12 : decode cX4_bursts 12 = .ok (.istore_n 3, 1) := dk_62 (dk_at dksX4_bursts_0 12 rfl rfl)
theorem dX4_bursts_13 : decode cX4_bursts 13 = .ok (.iload_n 3, 1) := dk_29 (dk_at dksX4_bursts_0 13 rfl rfl)
theorem dX4_bursts_14 : decode cX4_bursts 14 = .ok (.aload_n 0, 1) := dk_42 (dk_at dksX4_bursts_0 14 rfl rfl)
theorem dX4_bursts_15 : decode cX4_bursts 15 = .ok (.getfield 43, 3) := dk_180 0 43 (dk_at dksX4_bursts_0 15 rfl rfl)
theorem dX4_bursts_18 : decode cX4_bursts 18 = .ok (.if_icmp .ge 39, 3) := dk_162 0 39 (dk_at dksX4_bursts_0 18 rfl rfl)
theorem dX4_bursts_21 : decode cX4_bursts 21 = .ok (.iload_n 3, 1) := dk_29 (dk_at dksX4_bursts_0 21 rfl rfl)
theorem dX4_bursts_22 : decode cX4_bursts 22 = .ok (.iload_n 1, 1) := dk_27 (dk_at dksX4_bursts_0 22 rfl rfl)
theorem dX4_bursts_23 : decode cX4_bursts 23 = .ok (.if_icmp .eq 28, 3) := dk_159 0 28 (dk_at dksX4_bursts_1 0 rfl rfl)
theorem dX4_bursts_26 : decode cX4_bursts 26 = .ok (.aload_n 0, 1) := dk_42 (dk_at dksX4_bursts_1 3 rfl rfl)
theorem dX4_bursts_27 : decode cX4_bursts 27 = .ok (.getfield 20, 3) := dk_180 0 20 (dk_at dksX4_bursts_1 4 rfl rfl)
theorem dX4_bursts_30 : decode cX4_bursts 30 = .ok (.iconst 1, 1) := dk_4 (dk_at dksX4_bursts_1 7 rfl rfl)
theorem dX4_bursts_31 : decode cX4_bursts 31 = .ok (.aaload, 1) := dk_50 (dk_at dksX4_bursts_1 8 rfl rfl)
theorem dX4_bursts_32 : decode cX4_bursts 32 = .ok (.iload_n 3, 1) := dk_29 (dk_at dksX4_bursts_1 9 rfl rfl)
theorem dX4_bursts_33 : decode cX4_bursts 33 = .ok (.iaload, 1) := dk_46 (dk_at dksX4_bursts_1 10 rfl rfl)
theorem dX4_bursts_34 : decode cX4_bursts 34 = .ok (.aload_n 0, 1) := dk_42 (dk_at dksX4_bursts_1 11 rfl rfl)
theorem dX4_bursts_35 : decode cX4_bursts 35 = .ok (.getfield 20, 3) := dk_180 0 20 (dk_at dksX4_bursts_1 12 rfl rfl)
theorem dX4_bursts_38 : decode cX4_bursts 38 = .ok (.iconst 1, 1) := dk_4 (dk_at dksX4_bursts_1 15 rfl rfl)
theorem dX4_bursts_39 : decode cX4_bursts 39 = .ok (.aaload, 1) := dk_50 (dk_at dksX4_bursts_1 16 rfl rfl)
theorem dX4_bursts_40 : decode cX4_bursts 40 = .ok (.iload_n 1, 1) := dk_27 (dk_at dksX4_bursts_1 17 rfl rfl)
theorem dX4_bursts_41 : decode cX4_bursts 41 = .ok (.iaload, 1) := dk_46 (dk_at dksX4_bursts_1 18 rfl rfl)
theorem dX4_bursts_42 : decode cX4_bursts 42 = .ok (.if_icmp .ne 9, 3) := dk_160 0 9 (dk_at dksX4_bursts_1 19 rfl rfl)
theorem dX4_bursts_45 : decode cX4_bursts 45 = .ok (.aload_n 0, 1) := dk_42 (dk_at dksX4_bursts_1 22 rfl rfl)
theorem dX4_bursts_46 : decode cX4_bursts 46 = .ok (.iload_n 3, 1) := dk_29 (dk_at dksX4_bursts_1 23 rfl rfl)
theorem dX4_bursts_47 : decode cX4_bursts 47 = .ok (.iload_n 2, 1) := dk_28 (dk_at dksX4_bursts_2 0 rfl rfl)
theorem dX4_bursts_48 : decode cX4_bursts 48 = .ok (.invokevirtual 60, 3) := dk_182 0 60 (dk_at dksX4_bursts_2 1 rfl rfl)
theorem dX4_bursts_51 : decode cX4_bursts 51 = .ok (.iinc 3 1, 3) := dk_132 3 1 (dk_at dksX4_bursts_2 4 rfl rfl)
theorem dX4_bursts_54 : decode cX4_bursts 54 = .ok (.goto (-41), 3) := dk_167 255 215 (dk_at dksX4_bursts_2 7 rfl rfl)
theorem dX4_bursts_57 : decode cX4_bursts 57 = .ok (.aload_n 0, 1) := dk_42 (dk_at dksX4_bursts_2 10 rfl rfl)
theorem dX4_bursts_58 : decode cX4_bursts 58 = .ok (.iload_n 1, 1) := dk_27 (dk_at dksX4_bursts_2 11 rfl rfl)
theorem dX4_bursts_59 : decode cX4_bursts 59 = .ok (.invokevirtual 71, 3) := dk_182 0 71 (dk_at dksX4_bursts_2 12 rfl rfl)
theorem dX4_bursts_62 : decode cX4_bursts 62 = .ok (.aload_n 0, 1) := dk_42 (dk_at dksX4_bursts_2 15 rfl rfl)
theorem dX4_bursts_63 : decode cX4_bursts 63 = .ok (.getfield 20, 3) := dk_180 0 20 (dk_at dksX4_bursts_2 16 rfl rfl)
theorem dX4_bursts_66 : decode cX4_bursts 66 = .ok (.bipush 6, 2) := dk_16 6 (dk_at dksX4_bursts_2 19 rfl rfl)
theorem dX4_bursts_68 : decode cX4_bursts 68 = .ok (.aaload, 1) := dk_50 (dk_at dksX4_bursts_2 21 rfl rfl)
theorem dX4_bursts_69 : decode cX4_bursts 69 = .ok (.iload_n 1, 1) := dk_27 (dk_at dksX4_bursts_2 22 rfl rfl)
theorem dX4_bursts_70 : decode cX4_bursts 70 = .ok (.sipush 999, 3) := dk_17 3 231 (dk_at dksX4_bursts_3 0 rfl rfl)
theorem dX4_bursts_73 : decode cX4_bursts 73 = .ok (.aload_n 0, 1) := dk_42 (dk_at dksX4_bursts_3 3 rfl rfl)
theorem dX4_bursts_74 : decode cX4_bursts 74 = .ok (.getfield 20, 3) := dk_180 0 20 (dk_at dksX4_bursts_3 4 rfl rfl)
theorem dX4_bursts_77 : decode cX4_bursts 77 = .ok (.bipush 6, 2) := dk_16 6 (dk_at dksX4_bursts_3 7 rfl rfl)
theorem dX4_bursts_79 : decode cX4_bursts 79 = .ok (.aaload, 1) := dk_50 (dk_at dksX4_bursts_3 9 rfl rfl)
theorem dX4_bursts_80 : decode cX4_bursts 80 = .ok (.iload_n 1, 1) := dk_27 (dk_at dksX4_bursts_3 10 rfl rfl)
theorem dX4_bursts_81 : decode cX4_bursts 81 = .ok (.iaload, 1) := dk_46 (dk_at dksX4_bursts_3 11 rfl rfl)
theorem dX4_bursts_82 : decode cX4_bursts 82 = .ok (.iconst 1, 1) := dk_4 (dk_at dksX4_bursts_3 12 rfl rfl)
theorem dX4_bursts_83 : decode cX4_bursts 83 = .ok (.iadd, 1) := dk_96 (dk_at dksX4_bursts_3 13 rfl rfl)
theorem dX4_bursts_84 : decode cX4_bursts 84 = .ok (.invokestatic 50, 3) := dk_184 0 50 (dk_at dksX4_bursts_3 14 rfl rfl)
theorem dX4_bursts_87 : decode cX4_bursts 87 = .ok (.iastore, 1) := dk_79 (dk_at dksX4_bursts_3 17 rfl rfl)
theorem dX4_bursts_88 : decode cX4_bursts 88 = .ok (.aload_n 0, 1) := dk_42 (dk_at dksX4_bursts_3 18 rfl rfl)
theorem dX4_bursts_89 : decode cX4_bursts 89 = .ok (.ldc 75, 2) := dk_18 75 (dk_at dksX4_bursts_3 19 rfl rfl)
theorem dX4_bursts_91 : decode cX4_bursts 91 = .ok (.aload_n 0, 1) := dk_42 (dk_at dksX4_bursts_3 21 rfl rfl)
theorem dX4_bursts_92 : decode cX4_bursts 92 = .ok (.getfield 40, 3) := dk_180 0 40 (dk_at dksX4_bursts_4 0 rfl rfl)
theorem dX4_bursts_95 : decode cX4_bursts 95 = .ok (.iconst 1, 1) := dk_4 (dk_at dksX4_bursts_4 3 rfl rfl)
theorem dX4_bursts_96 : decode cX4_bursts 96 = .ok (.iadd, 1) := dk_96 (dk_at dksX4_bursts_4 4 rfl rfl)
theorem dX4_bursts_97 : decode cX4_bursts 97 = .ok (.invokestatic 50, 3) := dk_184 0 50 (dk_at dksX4_bursts_4 5 rfl rfl)
theorem dX4_bursts_100 : decode cX4_bursts 100 = .ok (.putfield 40, 3) := dk_181 0 40 (dk_at dksX4_bursts_4 8 rfl rfl)
theorem dX4_bursts_103 : decode cX4_bursts 103 = .ok (.return_, 1) := dk_177 (dk_at dksX4_bursts_4 11 rfl rfl)
abbrev cX4_sumOf : ByteArray := prog_13_method_9_code
def yX4_sumOf : MethodName := ⟨RX4, "sumOf", "(I)I"⟩
def dkwX4_sumOf_1 : List UInt8 := [132, 3, 1, 167, 255, 234, 28, 172]
abbrev dktX4_sumOf_1 : List UInt8 := dkwX4_sumOf_1 ++ []
def dkwX4_sumOf_0 : List UInt8 := [3, 61, 3, 62, 29, 42, 180, 0, 43, 162, 0, 20, 28, 42, 180, 0, 20, 27, 50, 29, 46, 96, 61]
abbrev dktX4_sumOf_0 : List UInt8 := dkwX4_sumOf_0 ++ dktX4_sumOf_1
theorem dksX4_sumOf_0 : cX4_sumOf.data.toList.drop 0 = dktX4_sumOf_0 := by decide +kernel
theorem dksX4_sumOf_1 : cX4_sumOf.data.toList.drop 23 = dktX4_sumOf_1 := dk_seg dksX4_sumOf_0 23 rfl rfl
theorem dX4_sumOf_0 : decode cX4_sumOf 0 = .ok (.iconst 0, 1) := dk_3 (dk_at dksX4_sumOf_0 0 rfl rfl)
theorem dX4_sumOf_1 : decode cX4_sumOf 1 = .ok (.istore_n 2, 1) := dk_61 (dk_at dksX4_sumOf_0 1 rfl rfl)
theorem dX4_sumOf_2 : decode cX4_sumOf 2 = .ok (.iconst 0, 1) := dk_3 (dk_at dksX4_sumOf_0 2 rfl rfl)
theorem dX4_sumOf_3 : decode cX4_sumOf 3 = .ok (.istore_n 3, 1) := dk_62 (dk_at dksX4_sumOf_0 3 rfl rfl)
theorem dX4_sumOf_4 : decode cX4_sumOf 4 = .ok (.iload_n 3, 1) := dk_29 (dk_at dksX4_sumOf_0 4 rfl rfl)
theorem dX4_sumOf_5 : decode cX4_sumOf 5 = .ok (.aload_n 0, 1) := dk_42 (dk_at dksX4_sumOf_0 5 rfl rfl)
theorem dX4_sumOf_6 : decode cX4_sumOf 6 = .ok (.getfield 43, 3) := dk_180 0 43 (dk_at dksX4_sumOf_0 6 rfl rfl)
theorem dX4_sumOf_9 : decode cX4_sumOf 9 = .ok (.if_icmp .ge 20, 3) := dk_162 0 20 (dk_at dksX4_sumOf_0 9 rfl rfl)
theorem dX4_sumOf_12 : decode cX4_sumOf 12 = .ok (.iload_n 2, 1) := dk_28 (dk_at dksX4_sumOf_0 12 rfl rfl)
theorem dX4_sumOf_13 : decode cX4_sumOf 13 = .ok (.aload_n 0, 1) := dk_42 (dk_at dksX4_sumOf_0 13 rfl rfl)
theorem dX4_sumOf_14 : decode cX4_sumOf 14 = .ok (.getfield 20, 3) := dk_180 0 20 (dk_at dksX4_sumOf_0 14 rfl rfl)
theorem dX4_sumOf_17 : decode cX4_sumOf 17 = .ok (.iload_n 1, 1) := dk_27 (dk_at dksX4_sumOf_0 17 rfl rfl)
theorem dX4_sumOf_18 : decode cX4_sumOf 18 = .ok (.aaload, 1) := dk_50 (dk_at dksX4_sumOf_0 18 rfl rfl)
theorem dX4_sumOf_19 : decode cX4_sumOf 19 = .ok (.iload_n 3, 1) := dk_29 (dk_at dksX4_sumOf_0 19 rfl rfl)
theorem dX4_sumOf_20 : decode cX4_sumOf 20 = .ok (.iaload, 1) := dk_46 (dk_at dksX4_sumOf_0 20 rfl rfl)
theorem dX4_sumOf_21 : decode cX4_sumOf 21 = .ok (.iadd, 1) := dk_96 (dk_at dksX4_sumOf_0 21 rfl rfl)
theorem dX4_sumOf_22 : decode cX4_sumOf 22 = .ok (.istore_n 2, 1) := dk_61 (dk_at dksX4_sumOf_0 22 rfl rfl)
theorem dX4_sumOf_23 : decode cX4_sumOf 23 = .ok (.iinc 3 1, 3) := dk_132 3 1 (dk_at dksX4_sumOf_1 0 rfl rfl)
theorem dX4_sumOf_26 : decode cX4_sumOf 26 = .ok (.goto (-22), 3) := dk_167 255 234 (dk_at dksX4_sumOf_1 3 rfl rfl)
theorem dX4_sumOf_29 : decode cX4_sumOf 29 = .ok (.iload_n 2, 1) := dk_28 (dk_at dksX4_sumOf_1 6 rfl rfl)
theorem dX4_sumOf_30 : decode cX4_sumOf 30 = .ok (.ireturn, 1) := dk_172 (dk_at dksX4_sumOf_1 7 rfl rfl)
abbrev cX4_all : ByteArray := prog_13_method_6_code
def yX4_all : MethodName := ⟨RX4, "all", "()I"⟩
def dkwX4_all_0 : List UInt8 := [4, 42, 180, 0, 43, 120, 4, 100, 172]
abbrev dktX4_all_0 : List UInt8 := dkwX4_all_0 ++ []
theorem dksX4_all_0 : cX4_all.data.toList.drop 0 = dktX4_all_0 := by decide +kernel
theorem dX4_all_0 : decode cX4_all 0 = .ok (.iconst 1, 1) := dk_4 (dk_at dksX4_all_0 0 rfl rfl)
theorem dX4_all_1 : decode cX4_all 1 = .ok (.aload_n 0, 1) := dk_42 (dk_at dksX4_all_0 1 rfl rfl)
theorem dX4_all_2 : decode cX4_all 2 = .ok (.getfield 43, 3) := dk_180 0 43 (dk_at dksX4_all_0 2 rfl rfl)
theorem dX4_all_5 : decode cX4_all 5 = .ok (.ishl, 1) := dk_120 (dk_at dksX4_all_0 5 rfl rfl)
theorem dX4_all_6 : decode cX4_all 6 = .ok (.iconst 1, 1) := dk_4 (dk_at dksX4_all_0 6 rfl rfl)
theorem dX4_all_7 : decode cX4_all 7 = .ok (.isub, 1) := dk_100 (dk_at dksX4_all_0 7 rfl rfl)
theorem dX4_all_8 : decode cX4_all 8 = .ok (.ireturn, 1) := dk_172 (dk_at dksX4_all_0 8 rfl rfl)
abbrev cX4_cellars : ByteArray := prog_13_method_8_code
def yX4_cellars : MethodName := ⟨RX4, "cellars", "()I"⟩
def dkwX4_cellars_1 : List UInt8 := [60, 132, 2, 1, 167, 255, 232, 27, 172]
abbrev dktX4_cellars_1 : List UInt8 := dkwX4_cellars_1 ++ []
def dkwX4_cellars_0 : List UInt8 := [3, 60, 3, 61, 28, 42, 180, 0, 43, 162, 0, 22, 27, 4, 42, 180, 0, 20, 4, 50, 28, 46, 120, 128]
abbrev dktX4_cellars_0 : List UInt8 := dkwX4_cellars_0 ++ dktX4_cellars_1
theorem dksX4_cellars_0 : cX4_cellars.data.toList.drop 0 = dktX4_cellars_0 := by decide +kernel
theorem dksX4_cellars_1 : cX4_cellars.data.toList.drop 24 = dktX4_cellars_1 := dk_seg dksX4_cellars_0 24 rfl rfl
theorem dX4_cellars_0 : decode cX4_cellars 0 = .ok (.iconst 0, 1) := dk_3 (dk_at dksX4_cellars_0 0 rfl rfl)
theorem dX4_cellars_1 : decode cX4_cellars 1 = .ok (.istore_n 1, 1) := dk_60 (dk_at dksX4_cellars_0 1 rfl rfl)
theorem dX4_cellars_2 : decode cX4_cellars 2 = .ok (.iconst 0, 1) := dk_3 (dk_at dksX4_cellars_0 2 rfl rfl)
theorem dX4_cellars_3 : decode cX4_cellars 3 = .ok (.istore_n 2, 1) := dk_61 (dk_at dksX4_cellars_0 3 rfl rfl)
theorem dX4_cellars_4 : decode cX4_cellars 4 = .ok (.iload_n 2, 1) := dk_28 (dk_at dksX4_cellars_0 4 rfl rfl)
theorem dX4_cellars_5 : decode cX4_cellars 5 = .ok (.aload_n 0, 1) := dk_42 (dk_at dksX4_cellars_0 5 rfl rfl)
theorem dX4_cellars_6 : decode cX4_cellars 6 = .ok (.getfield 43, 3) := dk_180 0 43 (dk_at dksX4_cellars_0 6 rfl rfl)
theorem dX4_cellars_9 : decode cX4_cellars 9 = .ok (.if_icmp .ge 22, 3) := dk_162 0 22 (dk_at dksX4_cellars_0 9 rfl rfl)
theorem dX4_cellars_12 : decode cX4_cellars 12 = .ok (.iload_n 1, 1) := dk_27 (dk_at dksX4_cellars_0 12 rfl rfl)
theorem dX4_cellars_13 : decode cX4_cellars 13 = .ok (.iconst 1, 1) := dk_4 (dk_at dksX4_cellars_0 13 rfl rfl)
theorem dX4_cellars_14 : decode cX4_cellars 14 = .ok (.aload_n 0, 1) := dk_42 (dk_at dksX4_cellars_0 14 rfl rfl)
theorem dX4_cellars_15 : decode cX4_cellars 15 = .ok (.getfield 20, 3) := dk_180 0 20 (dk_at dksX4_cellars_0 15 rfl rfl)
theorem dX4_cellars_18 : decode cX4_cellars 18 = .ok (.iconst 1, 1) := dk_4 (dk_at dksX4_cellars_0 18 rfl rfl)
theorem dX4_cellars_19 : decode cX4_cellars 19 = .ok (.aaload, 1) := dk_50 (dk_at dksX4_cellars_0 19 rfl rfl)
theorem dX4_cellars_20 : decode cX4_cellars 20 = .ok (.iload_n 2, 1) := dk_28 (dk_at dksX4_cellars_0 20 rfl rfl)
theorem dX4_cellars_21 : decode cX4_cellars 21 = .ok (.iaload, 1) := dk_46 (dk_at dksX4_cellars_0 21 rfl rfl)
theorem dX4_cellars_22 : decode cX4_cellars 22 = .ok (.ishl, 1) := dk_120 (dk_at dksX4_cellars_0 22 rfl rfl)
theorem dX4_cellars_23 : decode cX4_cellars 23 = .ok (.ior, 1) := dk_128 (dk_at dksX4_cellars_0 23 rfl rfl)
theorem dX4_cellars_24 : decode cX4_cellars 24 = .ok (.istore_n 1, 1) := dk_60 (dk_at dksX4_cellars_1 0 rfl rfl)
theorem dX4_cellars_25 : decode cX4_cellars 25 = .ok (.iinc 2 1, 3) := dk_132 2 1 (dk_at dksX4_cellars_1 1 rfl rfl)
theorem dX4_cellars_28 : decode cX4_cellars 28 = .ok (.goto (-24), 3) := dk_167 255 232 (dk_at dksX4_cellars_1 4 rfl rfl)
theorem dX4_cellars_31 : decode cX4_cellars 31 = .ok (.iload_n 1, 1) := dk_27 (dk_at dksX4_cellars_1 7 rfl rfl)
theorem dX4_cellars_32 : decode cX4_cellars 32 = .ok (.ireturn, 1) := dk_172 (dk_at dksX4_cellars_1 8 rfl rfl)
abbrev cX4_become : ByteArray := prog_13_method_3_code
def yX4_become : MethodName := ⟨RX4, "become", "(LThunderCasks$World;)V"⟩
def dkwX4_become_4 : List UInt8 := [184, 0, 36, 177]
abbrev dktX4_become_4 : List UInt8 := dkwX4_become_4 ++ []
def dkwX4_become_3 : List UInt8 := [180, 0, 46, 181, 0, 46, 42, 43, 180, 0, 23, 181, 0, 23, 43, 180, 0, 27, 42, 180, 0, 27]
abbrev dktX4_become_3 : List UInt8 := dkwX4_become_3 ++ dktX4_become_4
def dkwX4_become_2 : List UInt8 := [180, 0, 20, 28, 50, 42, 180, 0, 20, 28, 50, 184, 0, 36, 132, 2, 1, 167, 255, 232, 42, 43]
abbrev dktX4_become_2 : List UInt8 := dkwX4_become_2 ++ dktX4_become_3
def dkwX4_become_1 : List UInt8 := [180, 0, 40, 181, 0, 40, 42, 43, 180, 0, 43, 181, 0, 43, 3, 61, 28, 16, 7, 162, 0, 24, 43]
abbrev dktX4_become_1 : List UInt8 := dkwX4_become_1 ++ dktX4_become_2
def dkwX4_become_0 : List UInt8 := [43, 180, 0, 9, 42, 180, 0, 9, 184, 0, 36, 43, 180, 0, 15, 42, 180, 0, 15, 184, 0, 36, 42, 43]
abbrev dktX4_become_0 : List UInt8 := dkwX4_become_0 ++ dktX4_become_1
theorem dksX4_become_0 : cX4_become.data.toList.drop 0 = dktX4_become_0 := by decide +kernel
theorem dksX4_become_1 : cX4_become.data.toList.drop 24 = dktX4_become_1 := dk_seg dksX4_become_0 24 rfl rfl
theorem dksX4_become_2 : cX4_become.data.toList.drop 47 = dktX4_become_2 := dk_seg dksX4_become_1 23 rfl rfl
theorem dksX4_become_3 : cX4_become.data.toList.drop 69 = dktX4_become_3 := dk_seg dksX4_become_2 22 rfl rfl
theorem dksX4_become_4 : cX4_become.data.toList.drop 91 = dktX4_become_4 := dk_seg dksX4_become_3 22 rfl rfl
theorem dX4_become_0 : decode cX4_become 0 = .ok (.aload_n 1, 1) := dk_43 (dk_at dksX4_become_0 0 rfl rfl)
theorem dX4_become_1 : decode cX4_become 1 = .ok (.getfield 9, 3) := dk_180 0 9 (dk_at dksX4_become_0 1 rfl rfl)
theorem dX4_become_4 : decode cX4_become 4 = .ok (.aload_n 0, 1) := dk_42 (dk_at dksX4_become_0 4 rfl rfl)
theorem dX4_become_5 : decode cX4_become 5 = .ok (.getfield 9, 3) := dk_180 0 9 (dk_at dksX4_become_0 5 rfl rfl)
theorem dX4_become_8 : decode cX4_become 8 = .ok (.invokestatic 36, 3) := dk_184 0 36 (dk_at dksX4_become_0 8 rfl rfl)
theorem dX4_become_11 : decode cX4_become 11 = .ok (.aload_n 1, 1) := dk_43 (dk_at dksX4_become_0 11 rfl rfl)
theorem dX4_become_12 : decode cX4_become 12 = .ok (.getfield 15, 3) := dk_180 0 15 (dk_at dksX4_become_0 12 rfl rfl)
theorem dX4_become_15 : decode cX4_become 15 = .ok (.aload_n 0, 1) := dk_42 (dk_at dksX4_become_0 15 rfl rfl)
theorem dX4_become_16 : decode cX4_become 16 = .ok (.getfield 15, 3) := dk_180 0 15 (dk_at dksX4_become_0 16 rfl rfl)
theorem dX4_become_19 : decode cX4_become 19 = .ok (.invokestatic 36, 3) := dk_184 0 36 (dk_at dksX4_become_0 19 rfl rfl)
theorem dX4_become_22 : decode cX4_become 22 = .ok (.aload_n 0, 1) := dk_42 (dk_at dksX4_become_0 22 rfl rfl)
theorem dX4_become_23 : decode cX4_become 23 = .ok (.aload_n 1, 1) := dk_43 (dk_at dksX4_become_0 23 rfl rfl)
theorem dX4_become_24 : decode cX4_become 24 = .ok (.getfield 40, 3) := dk_180 0 40 (dk_at dksX4_become_1 0 rfl rfl)
theorem dX4_become_27 : decode cX4_become 27 = .ok (.putfield 40, 3) := dk_181 0 40 (dk_at dksX4_become_1 3 rfl rfl)
theorem dX4_become_30 : decode cX4_become 30 = .ok (.aload_n 0, 1) := dk_42 (dk_at dksX4_become_1 6 rfl rfl)
theorem dX4_become_31 : decode cX4_become 31 = .ok (.aload_n 1, 1) := dk_43 (dk_at dksX4_become_1 7 rfl rfl)
theorem dX4_become_32 : decode cX4_become 32 = .ok (.getfield 43, 3) := dk_180 0 43 (dk_at dksX4_become_1 8 rfl rfl)
theorem dX4_become_35 : decode cX4_become 35 = .ok (.putfield 43, 3) := dk_181 0 43 (dk_at dksX4_become_1 11 rfl rfl)
theorem dX4_become_38 : decode cX4_become 38 = .ok (.iconst 0, 1) := dk_3 (dk_at dksX4_become_1 14 rfl rfl)
theorem dX4_become_39 : decode cX4_become 39 = .ok (.istore_n 2, 1) := dk_61 (dk_at dksX4_become_1 15 rfl rfl)
theorem dX4_become_40 : decode cX4_become 40 = .ok (.iload_n 2, 1) := dk_28 (dk_at dksX4_become_1 16 rfl rfl)
theorem dX4_become_41 : decode cX4_become 41 = .ok (.bipush 7, 2) := dk_16 7 (dk_at dksX4_become_1 17 rfl rfl)
theorem dX4_become_43 : decode cX4_become 43 = .ok (.if_icmp .ge 24, 3) := dk_162 0 24 (dk_at dksX4_become_1 19 rfl rfl)
theorem dX4_become_46 : decode cX4_become 46 = .ok (.aload_n 1, 1) := dk_43 (dk_at dksX4_become_1 22 rfl rfl)
theorem dX4_become_47 : decode cX4_become 47 = .ok (.getfield 20, 3) := dk_180 0 20 (dk_at dksX4_become_2 0 rfl rfl)
theorem dX4_become_50 : decode cX4_become 50 = .ok (.iload_n 2, 1) := dk_28 (dk_at dksX4_become_2 3 rfl rfl)
theorem dX4_become_51 : decode cX4_become 51 = .ok (.aaload, 1) := dk_50 (dk_at dksX4_become_2 4 rfl rfl)
theorem dX4_become_52 : decode cX4_become 52 = .ok (.aload_n 0, 1) := dk_42 (dk_at dksX4_become_2 5 rfl rfl)
theorem dX4_become_53 : decode cX4_become 53 = .ok (.getfield 20, 3) := dk_180 0 20 (dk_at dksX4_become_2 6 rfl rfl)
theorem dX4_become_56 : decode cX4_become 56 = .ok (.iload_n 2, 1) := dk_28 (dk_at dksX4_become_2 9 rfl rfl)
theorem dX4_become_57 : decode cX4_become 57 = .ok (.aaload, 1) := dk_50 (dk_at dksX4_become_2 10 rfl rfl)
theorem dX4_become_58 : decode cX4_become 58 = .ok (.invokestatic 36, 3) := dk_184 0 36 (dk_at dksX4_become_2 11 rfl rfl)
theorem dX4_become_61 : decode cX4_become 61 = .ok (.iinc 2 1, 3) := dk_132 2 1 (dk_at dksX4_become_2 14 rfl rfl)
theorem dX4_become_64 : decode cX4_become 64 = .ok (.goto (-24), 3) := dk_167 255 232 (dk_at dksX4_become_2 17 rfl rfl)
theorem dX4_become_67 : decode cX4_become 67 = .ok (.aload_n 0, 1) := dk_42 (dk_at dksX4_become_2 20 rfl rfl)
theorem dX4_become_68 : decode cX4_become 68 = .ok (.aload_n 1, 1) := dk_43 (dk_at dksX4_become_2 21 rfl rfl)
theorem dX4_become_69 : decode cX4_become 69 = .ok (.getfield 46, 3) := dk_180 0 46 (dk_at dksX4_become_3 0 rfl rfl)
theorem dX4_become_72 : decode cX4_become 72 = .ok (.putfield 46, 3) := dk_181 0 46 (dk_at dksX4_become_3 3 rfl rfl)
theorem dX4_become_75 : decode cX4_become 75 = .ok (.aload_n 0, 1) := dk_42 (dk_at dksX4_become_3 6 rfl rfl)
theorem dX4_become_76 : decode cX4_become 76 = .ok (.aload_n 1, 1) := dk_43 (dk_at dksX4_become_3 7 rfl rfl)
theorem dX4_become_77 : decode cX4_become 77 = .ok (.getfield 23, 3) := dk_180 0 23 (dk_at dksX4_become_3 8 rfl rfl)
theorem dX4_become_80 : decode cX4_become 80 = .ok (.putfield 23, 3) := dk_181 0 23 (dk_at dksX4_become_3 11 rfl rfl)
theorem dX4_become_83 : decode cX4_become 83 = .ok (.aload_n 1, 1) := dk_43 (dk_at dksX4_become_3 14 rfl rfl)
theorem dX4_become_84 : decode cX4_become 84 = .ok (.getfield 27, 3) := dk_180 0 27 (dk_at dksX4_become_3 15 rfl rfl)
theorem dX4_become_87 : decode cX4_become 87 = .ok (.aload_n 0, 1) := dk_42 (dk_at dksX4_become_3 18 rfl rfl)
theorem dX4_become_88 : decode cX4_become 88 = .ok (.getfield 27, 3) := dk_180 0 27 (dk_at dksX4_become_3 19 rfl rfl)
theorem dX4_become_91 : decode cX4_become 91 = .ok (.invokestatic 36, 3) := dk_184 0 36 (dk_at dksX4_become_4 0 rfl rfl)
theorem dX4_become_94 : decode cX4_become 94 = .ok (.return_, 1) := dk_177 (dk_at dksX4_become_4 3 rfl rfl)
abbrev cX4_copy : ByteArray := prog_13_method_2_code
def yX4_copy : MethodName := ⟨RX4, "copy", "([I[I)V"⟩
def dkwX4_copy_0 : List UInt8 := [42, 3, 43, 3, 43, 190, 184, 0, 30, 177]
abbrev dktX4_copy_0 : List UInt8 := dkwX4_copy_0 ++ []
theorem dksX4_copy_0 : cX4_copy.data.toList.drop 0 = dktX4_copy_0 := by decide +kernel
theorem dX4_copy_0 : decode cX4_copy 0 = .ok (.aload_n 0, 1) := dk_42 (dk_at dksX4_copy_0 0 rfl rfl)
theorem dX4_copy_1 : decode cX4_copy 1 = .ok (.iconst 0, 1) := dk_3 (dk_at dksX4_copy_0 1 rfl rfl)
theorem dX4_copy_2 : decode cX4_copy 2 = .ok (.aload_n 1, 1) := dk_43 (dk_at dksX4_copy_0 2 rfl rfl)
theorem dX4_copy_3 : decode cX4_copy 3 = .ok (.iconst 0, 1) := dk_3 (dk_at dksX4_copy_0 3 rfl rfl)
theorem dX4_copy_4 : decode cX4_copy 4 = .ok (.aload_n 1, 1) := dk_43 (dk_at dksX4_copy_0 4 rfl rfl)
theorem dX4_copy_5 : decode cX4_copy 5 = .ok (.arraylength, 1) := dk_190 (dk_at dksX4_copy_0 5 rfl rfl)
theorem dX4_copy_6 : decode cX4_copy 6 = .ok (.invokestatic 30, 3) := dk_184 0 30 (dk_at dksX4_copy_0 6 rfl rfl)
theorem dX4_copy_9 : decode cX4_copy 9 = .ok (.return_, 1) := dk_177 (dk_at dksX4_copy_0 9 rfl rfl)
abbrev cX4_draw : ByteArray := prog_13_method_4_code
def yX4_draw : MethodName := ⟨RX4, "draw", "()I"⟩
def dkwX4_draw_0 : List UInt8 := [42, 42, 180, 0, 23, 18, 49, 104, 17, 48, 57, 96, 181, 0, 23, 42, 180, 0, 23, 16, 8, 124, 172]
abbrev dktX4_draw_0 : List UInt8 := dkwX4_draw_0 ++ []
theorem dksX4_draw_0 : cX4_draw.data.toList.drop 0 = dktX4_draw_0 := by decide +kernel
theorem dX4_draw_0 : decode cX4_draw 0 = .ok (.aload_n 0, 1) := dk_42 (dk_at dksX4_draw_0 0 rfl rfl)
theorem dX4_draw_1 : decode cX4_draw 1 = .ok (.aload_n 0, 1) := dk_42 (dk_at dksX4_draw_0 1 rfl rfl)
theorem dX4_draw_2 : decode cX4_draw 2 = .ok (.getfield 23, 3) := dk_180 0 23 (dk_at dksX4_draw_0 2 rfl rfl)
theorem dX4_draw_5 : decode cX4_draw 5 = .ok (.ldc 49, 2) := dk_18 49 (dk_at dksX4_draw_0 5 rfl rfl)
theorem dX4_draw_7 : decode cX4_draw 7 = .ok (.imul, 1) := dk_104 (dk_at dksX4_draw_0 7 rfl rfl)
theorem dX4_draw_8 : decode cX4_draw 8 = .ok (.sipush 12345, 3) := dk_17 48 57 (dk_at dksX4_draw_0 8 rfl rfl)
theorem dX4_draw_11 : decode cX4_draw 11 = .ok (.iadd, 1) := dk_96 (dk_at dksX4_draw_0 11 rfl rfl)
theorem dX4_draw_12 : decode cX4_draw 12 = .ok (.putfield 23, 3) := dk_181 0 23 (dk_at dksX4_draw_0 12 rfl rfl)
theorem dX4_draw_15 : decode cX4_draw 15 = .ok (.aload_n 0, 1) := dk_42 (dk_at dksX4_draw_0 15 rfl rfl)
theorem dX4_draw_16 : decode cX4_draw 16 = .ok (.getfield 23, 3) := dk_180 0 23 (dk_at dksX4_draw_0 16 rfl rfl)
theorem dX4_draw_19 : decode cX4_draw 19 = .ok (.bipush 8, 2) := dk_16 8 (dk_at dksX4_draw_0 19 rfl rfl)
theorem dX4_draw_21 : decode cX4_draw 21 = .ok (.iushr, 1) := dk_124 (dk_at dksX4_draw_0 21 rfl rfl)
theorem dX4_draw_22 : decode cX4_draw 22 = .ok (.ireturn, 1) := dk_172 (dk_at dksX4_draw_0 22 rfl rfl)
theorem q108 : (Jvm.Cond.initialized "ThunderCasks$World") ∈ lw_all := lw_g (lw_at lw_m1 8 rfl) rfl
theorem q223 : (Jvm.Cond.instantiable "ThunderCasks$World" (8 : Nat)) ∈ lw_all := lw_g (lw_at lw_m1 123 rfl) rfl
theorem q225 : (Jvm.Cond.instanceMethod ({ cls := "ThunderCasks$World", name := "<init>", desc := "()V" } : Jvm.MethodName)) ∈ lw_all := lw_g (lw_at lw_m1 125 rfl) rfl
theorem q226 : (Jvm.Cond.code ({ cls := "ThunderCasks$World", name := "<init>", desc := "()V" } : Jvm.MethodName) prog_13_method_1_code (2 : Nat) (Option.none : Option Jvm.ClassFile.FieldType)) ∈ lw_all := lw_g (lw_at lw_m1 126 rfl) rfl
theorem q227 : (Jvm.Cond.methodLink "ThunderCasks$World" (3 : Nat) ({ cls := "java/lang/Object", name := "<init>", desc := "()V" } : Jvm.MethodName)) ∈ lw_all := lw_g (lw_at lw_m1 127 rfl) rfl
theorem q228 : (Jvm.Cond.classLink "ThunderCasks$World" (18 : Nat) "[[I") ∈ lw_all := lw_g (lw_at lw_m1 128 rfl) rfl
theorem q230 : (Jvm.Cond.fieldLink "ThunderCasks$World" (9 : Nat) "ThunderCasks$World" "frost" "[I") ∈ lw_all := lw_g (lw_at lw_m1 130 rfl) rfl
theorem q234 : (Jvm.Cond.fieldLink "ThunderCasks$World" (15 : Nat) "ThunderCasks$World" "list" "[I") ∈ lw_all := lw_g (lw_at lw_m1 134 rfl) rfl
theorem q237 : (Jvm.Cond.fieldLink "ThunderCasks$World" (40 : Nat) "ThunderCasks$World" "claps" "I") ∈ lw_all := lw_g (lw_at lw_m1 137 rfl) rfl
theorem q239 : (Jvm.Cond.fieldLink "ThunderCasks$World" (43 : Nat) "ThunderCasks$World" "casks" "I") ∈ lw_all := lw_g (lw_at lw_m1 139 rfl) rfl
theorem q242 : (Jvm.Cond.fieldLink "ThunderCasks$World" (20 : Nat) "ThunderCasks$World" "cask" "[[I") ∈ lw_all := lw_g (lw_at lw_m1 142 rfl) rfl
theorem q246 : (Jvm.Cond.fieldLink "ThunderCasks$World" (46 : Nat) "ThunderCasks$World" "day" "I") ∈ lw_all := lw_g (lw_at lw_m1 146 rfl) rfl
theorem q248 : (Jvm.Cond.fieldLink "ThunderCasks$World" (23 : Nat) "ThunderCasks$World" "z" "I") ∈ lw_all := lw_g (lw_at lw_m1 148 rfl) rfl
theorem q250 : (Jvm.Cond.fieldLink "ThunderCasks$World" (27 : Nat) "ThunderCasks$World" "holds" "[I") ∈ lw_all := lw_g (lw_at lw_m1 150 rfl) rfl
theorem q252 : (Jvm.Cond.laysFinal "ThunderCasks$World" "ThunderCasks$World" "frost" "[I") ∈ lw_all := lw_g (lw_at lw_m1 152 rfl) rfl
theorem q253 : (Jvm.Cond.soleField "ThunderCasks$World" "frost") ∈ lw_all := lw_g (lw_at lw_m1 153 rfl) rfl
theorem q254 : (Jvm.Cond.laysFinal "ThunderCasks$World" "ThunderCasks$World" "list" "[I") ∈ lw_all := lw_g (lw_at lw_m1 154 rfl) rfl
theorem q255 : (Jvm.Cond.soleField "ThunderCasks$World" "list") ∈ lw_all := lw_g (lw_at lw_m1 155 rfl) rfl
theorem q256 : (Jvm.Cond.lays "ThunderCasks$World" "ThunderCasks$World" "claps" "I") ∈ lw_all := lw_g (lw_at lw_m1 156 rfl) rfl
theorem q257 : (Jvm.Cond.soleField "ThunderCasks$World" "claps") ∈ lw_all := lw_g (lw_at lw_m1 157 rfl) rfl
theorem q258 : (Jvm.Cond.lays "ThunderCasks$World" "ThunderCasks$World" "casks" "I") ∈ lw_all := lw_g (lw_at lw_m1 158 rfl) rfl
theorem q259 : (Jvm.Cond.soleField "ThunderCasks$World" "casks") ∈ lw_all := lw_g (lw_at lw_m1 159 rfl) rfl
theorem q260 : (Jvm.Cond.laysFinal "ThunderCasks$World" "ThunderCasks$World" "cask" "[[I") ∈ lw_all := lw_g (lw_at lw_m1 160 rfl) rfl
theorem q261 : (Jvm.Cond.soleField "ThunderCasks$World" "cask") ∈ lw_all := lw_g (lw_at lw_m1 161 rfl) rfl
theorem q262 : (Jvm.Cond.lays "ThunderCasks$World" "ThunderCasks$World" "day" "I") ∈ lw_all := lw_g (lw_at lw_m1 162 rfl) rfl
theorem q263 : (Jvm.Cond.soleField "ThunderCasks$World" "day") ∈ lw_all := lw_g (lw_at lw_m1 163 rfl) rfl
theorem q264 : (Jvm.Cond.lays "ThunderCasks$World" "ThunderCasks$World" "z" "I") ∈ lw_all := lw_g (lw_at lw_m1 164 rfl) rfl
theorem q265 : (Jvm.Cond.soleField "ThunderCasks$World" "z") ∈ lw_all := lw_g (lw_at lw_m1 165 rfl) rfl
theorem q266 : (Jvm.Cond.laysFinal "ThunderCasks$World" "ThunderCasks$World" "holds" "[I") ∈ lw_all := lw_g (lw_at lw_m1 166 rfl) rfl
theorem q267 : (Jvm.Cond.soleField "ThunderCasks$World" "holds") ∈ lw_all := lw_g (lw_at lw_m1 167 rfl) rfl
theorem q268 : (Jvm.Cond.superclass "ThunderCasks$World" "java/lang/Object") ∈ lw_all := lw_g (lw_at lw_m1 168 rfl) rfl
theorem q466 : (Jvm.Cond.instanceMethod ({ cls := "ThunderCasks$World", name := "whatIsIn", desc := "(I)I" } : Jvm.MethodName)) ∈ lw_all := lw_g (lw_at lw_m2 126 rfl) rfl
theorem q467 : (Jvm.Cond.selects "ThunderCasks$World" ({ cls := "ThunderCasks$World", name := "whatIsIn", desc := "(I)I" } : Jvm.MethodName) ({ cls := "ThunderCasks$World", name := "whatIsIn", desc := "(I)I" } : Jvm.MethodName)) ∈ lw_all := lw_g (lw_at lw_m2 127 rfl) rfl
theorem q468 : (Jvm.Cond.code ({ cls := "ThunderCasks$World", name := "whatIsIn", desc := "(I)I" } : Jvm.MethodName) prog_13_method_7_code (4 : Nat) (Option.some Jvm.ClassFile.FieldType.int)) ∈ lw_all := lw_g (lw_at lw_m2 128 rfl) rfl
theorem q470 : (Jvm.Cond.instanceMethod ({ cls := "ThunderCasks$World", name := "emptiest", desc := "(I)I" } : Jvm.MethodName)) ∈ lw_all := lw_g (lw_at lw_m2 130 rfl) rfl
theorem q471 : (Jvm.Cond.selects "ThunderCasks$World" ({ cls := "ThunderCasks$World", name := "emptiest", desc := "(I)I" } : Jvm.MethodName) ({ cls := "ThunderCasks$World", name := "emptiest", desc := "(I)I" } : Jvm.MethodName)) ∈ lw_all := lw_g (lw_at lw_m2 131 rfl) rfl
theorem q472 : (Jvm.Cond.code ({ cls := "ThunderCasks$World", name := "emptiest", desc := "(I)I" } : Jvm.MethodName) prog_13_method_10_code (5 : Nat) (Option.some Jvm.ClassFile.FieldType.int)) ∈ lw_all := lw_g (lw_at lw_m2 132 rfl) rfl
theorem q488 : (Jvm.Cond.instanceMethod ({ cls := "ThunderCasks$World", name := "add", desc := "(II)V" } : Jvm.MethodName)) ∈ lw_all := lw_g (lw_at lw_m2 148 rfl) rfl
theorem q489 : (Jvm.Cond.selects "ThunderCasks$World" ({ cls := "ThunderCasks$World", name := "add", desc := "(II)V" } : Jvm.MethodName) ({ cls := "ThunderCasks$World", name := "add", desc := "(II)V" } : Jvm.MethodName)) ∈ lw_all := lw_g (lw_at lw_m2 149 rfl) rfl
theorem q490 : (Jvm.Cond.code ({ cls := "ThunderCasks$World", name := "add", desc := "(II)V" } : Jvm.MethodName) prog_13_method_5_code (4 : Nat) (Option.none : Option Jvm.ClassFile.FieldType)) ∈ lw_all := lw_g (lw_at lw_m2 150 rfl) rfl
theorem q688 : (Jvm.Cond.instanceMethod ({ cls := "ThunderCasks$World", name := "empties", desc := "(I)V" } : Jvm.MethodName)) ∈ lw_all := lw_g (lw_at lw_m3 108 rfl) rfl
theorem q689 : (Jvm.Cond.selects "ThunderCasks$World" ({ cls := "ThunderCasks$World", name := "empties", desc := "(I)V" } : Jvm.MethodName) ({ cls := "ThunderCasks$World", name := "empties", desc := "(I)V" } : Jvm.MethodName)) ∈ lw_all := lw_g (lw_at lw_m3 109 rfl) rfl
theorem q690 : (Jvm.Cond.code ({ cls := "ThunderCasks$World", name := "empties", desc := "(I)V" } : Jvm.MethodName) prog_13_method_16_code (2 : Nat) (Option.none : Option Jvm.ClassFile.FieldType)) ∈ lw_all := lw_g (lw_at lw_m3 110 rfl) rfl
theorem q696 : (Jvm.Cond.instanceMethod ({ cls := "ThunderCasks$World", name := "isLate", desc := "(I)Z" } : Jvm.MethodName)) ∈ lw_all := lw_g (lw_at lw_m3 116 rfl) rfl
theorem q697 : (Jvm.Cond.selects "ThunderCasks$World" ({ cls := "ThunderCasks$World", name := "isLate", desc := "(I)Z" } : Jvm.MethodName) ({ cls := "ThunderCasks$World", name := "isLate", desc := "(I)Z" } : Jvm.MethodName)) ∈ lw_all := lw_g (lw_at lw_m3 117 rfl) rfl
theorem q698 : (Jvm.Cond.code ({ cls := "ThunderCasks$World", name := "isLate", desc := "(I)Z" } : Jvm.MethodName) prog_13_method_18_code (2 : Nat) (Option.some Jvm.ClassFile.FieldType.boolean)) ∈ lw_all := lw_g (lw_at lw_m3 118 rfl) rfl
theorem q699 : (Jvm.Cond.constant "ThunderCasks$World" (75 : Nat) (99999 : Int32)) ∈ lw_all := lw_g (lw_at lw_m3 119 rfl) rfl
theorem q713 : (Jvm.Cond.instanceMethod ({ cls := "ThunderCasks$World", name := "storms", desc := "()V" } : Jvm.MethodName)) ∈ lw_all := lw_g (lw_at lw_m3 133 rfl) rfl
theorem q714 : (Jvm.Cond.selects "ThunderCasks$World" ({ cls := "ThunderCasks$World", name := "storms", desc := "()V" } : Jvm.MethodName) ({ cls := "ThunderCasks$World", name := "storms", desc := "()V" } : Jvm.MethodName)) ∈ lw_all := lw_g (lw_at lw_m3 134 rfl) rfl
theorem q715 : (Jvm.Cond.code ({ cls := "ThunderCasks$World", name := "storms", desc := "()V" } : Jvm.MethodName) prog_13_method_12_code (3 : Nat) (Option.none : Option Jvm.ClassFile.FieldType)) ∈ lw_all := lw_g (lw_at lw_m3 135 rfl) rfl
theorem q716 : (Jvm.Cond.methodLink "ThunderCasks$World" (56 : Nat) ({ cls := "ThunderCasks$World", name := "emptiest", desc := "(I)I" } : Jvm.MethodName)) ∈ lw_all := lw_g (lw_at lw_m3 136 rfl) rfl
theorem q717 : (Jvm.Cond.methodLink "ThunderCasks$World" (60 : Nat) ({ cls := "ThunderCasks$World", name := "peals", desc := "(II)V" } : Jvm.MethodName)) ∈ lw_all := lw_g (lw_at lw_m3 137 rfl) rfl
theorem q718 : (Jvm.Cond.instanceMethod ({ cls := "ThunderCasks$World", name := "peals", desc := "(II)V" } : Jvm.MethodName)) ∈ lw_all := lw_g (lw_at lw_m3 138 rfl) rfl
theorem q719 : (Jvm.Cond.selects "ThunderCasks$World" ({ cls := "ThunderCasks$World", name := "peals", desc := "(II)V" } : Jvm.MethodName) ({ cls := "ThunderCasks$World", name := "peals", desc := "(II)V" } : Jvm.MethodName)) ∈ lw_all := lw_g (lw_at lw_m3 139 rfl) rfl
theorem q720 : (Jvm.Cond.code ({ cls := "ThunderCasks$World", name := "peals", desc := "(II)V" } : Jvm.MethodName) prog_13_method_11_code (3 : Nat) (Option.none : Option Jvm.ClassFile.FieldType)) ∈ lw_all := lw_g (lw_at lw_m3 140 rfl) rfl
theorem q721 : (Jvm.Cond.methodLink "ThunderCasks$World" (50 : Nat) ({ cls := "java/lang/Math", name := "min", desc := "(II)I" } : Jvm.MethodName)) ∈ lw_all := lw_g (lw_at lw_m3 141 rfl) rfl
theorem q725 : (Jvm.Cond.instanceMethod ({ cls := "ThunderCasks$World", name := "leaks", desc := "(II)V" } : Jvm.MethodName)) ∈ lw_all := lw_g (lw_at lw_m3 145 rfl) rfl
theorem q726 : (Jvm.Cond.selects "ThunderCasks$World" ({ cls := "ThunderCasks$World", name := "leaks", desc := "(II)V" } : Jvm.MethodName) ({ cls := "ThunderCasks$World", name := "leaks", desc := "(II)V" } : Jvm.MethodName)) ∈ lw_all := lw_g (lw_at lw_m3 146 rfl) rfl
theorem q727 : (Jvm.Cond.code ({ cls := "ThunderCasks$World", name := "leaks", desc := "(II)V" } : Jvm.MethodName) prog_13_method_13_code (3 : Nat) (Option.none : Option Jvm.ClassFile.FieldType)) ∈ lw_all := lw_g (lw_at lw_m3 147 rfl) rfl
theorem q728 : (Jvm.Cond.methodLink "ThunderCasks$World" (64 : Nat) ({ cls := "java/lang/Math", name := "max", desc := "(II)I" } : Jvm.MethodName)) ∈ lw_all := lw_g (lw_at lw_m3 148 rfl) rfl
theorem q730 : (Jvm.Cond.instanceMethod ({ cls := "ThunderCasks$World", name := "cancel", desc := "()V" } : Jvm.MethodName)) ∈ lw_all := lw_g (lw_at lw_m3 150 rfl) rfl
theorem q731 : (Jvm.Cond.selects "ThunderCasks$World" ({ cls := "ThunderCasks$World", name := "cancel", desc := "()V" } : Jvm.MethodName) ({ cls := "ThunderCasks$World", name := "cancel", desc := "()V" } : Jvm.MethodName)) ∈ lw_all := lw_g (lw_at lw_m3 151 rfl) rfl
theorem q732 : (Jvm.Cond.code ({ cls := "ThunderCasks$World", name := "cancel", desc := "()V" } : Jvm.MethodName) prog_13_method_15_code (4 : Nat) (Option.none : Option Jvm.ClassFile.FieldType)) ∈ lw_all := lw_g (lw_at lw_m3 152 rfl) rfl
theorem q733 : (Jvm.Cond.methodLink "ThunderCasks$World" (67 : Nat) ({ cls := "ThunderCasks$World", name := "areAlike", desc := "(II)Z" } : Jvm.MethodName)) ∈ lw_all := lw_g (lw_at lw_m3 153 rfl) rfl
theorem q734 : (Jvm.Cond.privateMethod ({ cls := "ThunderCasks$World", name := "areAlike", desc := "(II)Z" } : Jvm.MethodName)) ∈ lw_tbl := lw_at lw_m3 154 rfl
theorem q735 : (Jvm.Cond.instanceMethod ({ cls := "ThunderCasks$World", name := "areAlike", desc := "(II)Z" } : Jvm.MethodName)) ∈ lw_all := lw_g (lw_at lw_m3 155 rfl) rfl
theorem q736 : (Jvm.Cond.code ({ cls := "ThunderCasks$World", name := "areAlike", desc := "(II)Z" } : Jvm.MethodName) prog_13_method_14_code (3 : Nat) (Option.some Jvm.ClassFile.FieldType.boolean)) ∈ lw_all := lw_g (lw_at lw_m3 156 rfl) rfl
theorem q767 : (Jvm.Cond.instanceMethod ({ cls := "ThunderCasks$World", name := "bursts", desc := "(I)V" } : Jvm.MethodName)) ∈ lw_all := lw_g (lw_at lw_m3 187 rfl) rfl
theorem q768 : (Jvm.Cond.selects "ThunderCasks$World" ({ cls := "ThunderCasks$World", name := "bursts", desc := "(I)V" } : Jvm.MethodName) ({ cls := "ThunderCasks$World", name := "bursts", desc := "(I)V" } : Jvm.MethodName)) ∈ lw_all := lw_g (lw_at lw_m3 188 rfl) rfl
theorem q769 : (Jvm.Cond.code ({ cls := "ThunderCasks$World", name := "bursts", desc := "(I)V" } : Jvm.MethodName) prog_13_method_17_code (4 : Nat) (Option.none : Option Jvm.ClassFile.FieldType)) ∈ lw_all := lw_g (lw_at lw_m3 189 rfl) rfl
theorem q770 : (Jvm.Cond.methodLink "ThunderCasks$World" (71 : Nat) ({ cls := "ThunderCasks$World", name := "empties", desc := "(I)V" } : Jvm.MethodName)) ∈ lw_all := lw_g (lw_at lw_m3 190 rfl) rfl
theorem q776 : (Jvm.Cond.instanceMethod ({ cls := "ThunderCasks$World", name := "sumOf", desc := "(I)I" } : Jvm.MethodName)) ∈ lw_all := lw_g (lw_at lw_m3 196 rfl) rfl
theorem q777 : (Jvm.Cond.selects "ThunderCasks$World" ({ cls := "ThunderCasks$World", name := "sumOf", desc := "(I)I" } : Jvm.MethodName) ({ cls := "ThunderCasks$World", name := "sumOf", desc := "(I)I" } : Jvm.MethodName)) ∈ lw_all := lw_g (lw_at lw_m3 197 rfl) rfl
theorem q778 : (Jvm.Cond.code ({ cls := "ThunderCasks$World", name := "sumOf", desc := "(I)I" } : Jvm.MethodName) prog_13_method_9_code (4 : Nat) (Option.some Jvm.ClassFile.FieldType.int)) ∈ lw_all := lw_g (lw_at lw_m3 198 rfl) rfl
theorem q780 : (Jvm.Cond.instanceMethod ({ cls := "ThunderCasks$World", name := "all", desc := "()I" } : Jvm.MethodName)) ∈ lw_all := lw_g (lw_at lw_m3 200 rfl) rfl
theorem q781 : (Jvm.Cond.selects "ThunderCasks$World" ({ cls := "ThunderCasks$World", name := "all", desc := "()I" } : Jvm.MethodName) ({ cls := "ThunderCasks$World", name := "all", desc := "()I" } : Jvm.MethodName)) ∈ lw_all := lw_g (lw_at lw_m3 201 rfl) rfl
theorem q782 : (Jvm.Cond.code ({ cls := "ThunderCasks$World", name := "all", desc := "()I" } : Jvm.MethodName) prog_13_method_6_code (1 : Nat) (Option.some Jvm.ClassFile.FieldType.int)) ∈ lw_all := lw_g (lw_at lw_m3 202 rfl) rfl
theorem q799 : (Jvm.Cond.instanceMethod ({ cls := "ThunderCasks$World", name := "cellars", desc := "()I" } : Jvm.MethodName)) ∈ lw_all := lw_g (lw_at lw_m3 219 rfl) rfl
theorem q800 : (Jvm.Cond.selects "ThunderCasks$World" ({ cls := "ThunderCasks$World", name := "cellars", desc := "()I" } : Jvm.MethodName) ({ cls := "ThunderCasks$World", name := "cellars", desc := "()I" } : Jvm.MethodName)) ∈ lw_all := lw_g (lw_at lw_m3 220 rfl) rfl
theorem q801 : (Jvm.Cond.code ({ cls := "ThunderCasks$World", name := "cellars", desc := "()I" } : Jvm.MethodName) prog_13_method_8_code (3 : Nat) (Option.some Jvm.ClassFile.FieldType.int)) ∈ lw_all := lw_g (lw_at lw_m3 221 rfl) rfl
theorem q811 : (Jvm.Cond.instanceMethod ({ cls := "ThunderCasks$World", name := "become", desc := "(LThunderCasks$World;)V" } : Jvm.MethodName)) ∈ lw_all := lw_g (lw_at lw_m3 231 rfl) rfl
theorem q812 : (Jvm.Cond.selects "ThunderCasks$World" ({ cls := "ThunderCasks$World", name := "become", desc := "(LThunderCasks$World;)V" } : Jvm.MethodName) ({ cls := "ThunderCasks$World", name := "become", desc := "(LThunderCasks$World;)V" } : Jvm.MethodName)) ∈ lw_all := lw_g (lw_at lw_m3 232 rfl) rfl
theorem q813 : (Jvm.Cond.code ({ cls := "ThunderCasks$World", name := "become", desc := "(LThunderCasks$World;)V" } : Jvm.MethodName) prog_13_method_3_code (3 : Nat) (Option.none : Option Jvm.ClassFile.FieldType)) ∈ lw_all := lw_g (lw_at lw_m3 233 rfl) rfl
theorem q814 : (Jvm.Cond.methodLink "ThunderCasks$World" (36 : Nat) ({ cls := "ThunderCasks$World", name := "copy", desc := "([I[I)V" } : Jvm.MethodName)) ∈ lw_all := lw_g (lw_at lw_m3 234 rfl) rfl
theorem q815 : (Jvm.Cond.static ({ cls := "ThunderCasks$World", name := "copy", desc := "([I[I)V" } : Jvm.MethodName)) ∈ lw_all := lw_g (lw_at lw_m3 235 rfl) rfl
theorem q816 : (Jvm.Cond.code ({ cls := "ThunderCasks$World", name := "copy", desc := "([I[I)V" } : Jvm.MethodName) prog_13_method_2_code (2 : Nat) (Option.none : Option Jvm.ClassFile.FieldType)) ∈ lw_all := lw_g (lw_at lw_m3 236 rfl) rfl
theorem q817 : (Jvm.Cond.methodLink "ThunderCasks$World" (30 : Nat) ({ cls := "java/lang/System", name := "arraycopy", desc := "(Ljava/lang/Object;ILjava/lang/Object;II)V" } : Jvm.MethodName)) ∈ lw_all := lw_g (lw_at lw_m3 237 rfl) rfl
theorem q994 : (Jvm.Cond.instanceMethod ({ cls := "ThunderCasks$World", name := "draw", desc := "()I" } : Jvm.MethodName)) ∈ lw_all := lw_g (lw_at lw_m4 174 rfl) rfl
theorem q995 : (Jvm.Cond.selects "ThunderCasks$World" ({ cls := "ThunderCasks$World", name := "draw", desc := "()I" } : Jvm.MethodName) ({ cls := "ThunderCasks$World", name := "draw", desc := "()I" } : Jvm.MethodName)) ∈ lw_all := lw_g (lw_at lw_m4 175 rfl) rfl
theorem q996 : (Jvm.Cond.code ({ cls := "ThunderCasks$World", name := "draw", desc := "()I" } : Jvm.MethodName) prog_13_method_4_code (1 : Nat) (Option.some Jvm.ClassFile.FieldType.int)) ∈ lw_all := lw_g (lw_at lw_m4 176 rfl) rfl
theorem q997 : (Jvm.Cond.constant "ThunderCasks$World" (49 : Nat) (1103515245 : Int32)) ∈ lw_all := lw_g (lw_at lw_m4 177 rfl) rfl
theorem in_X4 : ∀ w ∈ wsX40, w ∈ lw_all := lw_in wsX40 [252, 254, 256, 258, 260, 262, 264, 266] (by decide +kernel) (by decide +kernel)
/-! ThunderCasks$Reader -/
set_option maxRecDepth 100000
def RX2 : String := "ThunderCasks$Reader"
def TX2 : u_T := fun k => match k with
  | 0 => ("ThunderCasks$Reader", "wrong", "LThunderCasks$Wrong;", true)
  | 1 => ("ThunderCasks$Reader", "tape", "[B", true)
  | 2 => ("ThunderCasks$Reader", "told", "LThunderCasks$World;", true)
  | 3 => ("ThunderCasks$Reader", "length", "I", false)
  | 4 => ("ThunderCasks$Reader", "at", "I", false)
  | 5 => ("ThunderCasks$Reader", "begin", "I", false)
  | 6 => ("ThunderCasks$Reader", "token", "I", false)
  | _ => ("ThunderCasks$Reader", "value", "I", false)
def tyX2 : Nat → FieldType := fun k => match k with
  | 0 => .object "ThunderCasks$Wrong"
  | 1 => .array .byte
  | 2 => .object "ThunderCasks$World"
  | 3 => .int
  | 4 => .int
  | 5 => .int
  | 6 => .int
  | _ => .int
abbrev wsX20 : List Cond := u_ws RX2 TX2 8
theorem nmX2 : ∀ a, a < 8 → ∀ b, b < 8 → a ≠ b → (TX2 a).2.1 ≠ (TX2 b).2.1 := by decide +kernel
theorem tyX2_ok : ∀ k, k < 8 → parseFieldDescriptor (TX2 k).2.2.1 = some (tyX2 k) := by decide +kernel
abbrev cX2_init : ByteArray := prog_8_method_1_code
def yX2_init : MethodName := ⟨RX2, "<init>", "()V"⟩
def dkwX2_init_1 : List UInt8 := [187, 0, 22, 89, 183, 0, 24, 181, 0, 25, 177]
abbrev dktX2_init_1 : List UInt8 := dkwX2_init_1 ++ []
def dkwX2_init_0 : List UInt8 := [42, 183, 0, 3, 42, 187, 0, 9, 89, 183, 0, 11, 181, 0, 12, 42, 16, 120, 188, 8, 181, 0, 18, 42]
abbrev dktX2_init_0 : List UInt8 := dkwX2_init_0 ++ dktX2_init_1
theorem dksX2_init_0 : cX2_init.data.toList.drop 0 = dktX2_init_0 := by decide +kernel
theorem dksX2_init_1 : cX2_init.data.toList.drop 24 = dktX2_init_1 := dk_seg dksX2_init_0 24 rfl rfl
theorem dX2_init_0 : decode cX2_init 0 = .ok (.aload_n 0, 1) := dk_42 (dk_at dksX2_init_0 0 rfl rfl)
theorem dX2_init_1 : decode cX2_init 1 = .ok (.invokespecial 3, 3) := dk_183 0 3 (dk_at dksX2_init_0 1 rfl rfl)
theorem dX2_init_4 : decode cX2_init 4 = .ok (.aload_n 0, 1) := dk_42 (dk_at dksX2_init_0 4 rfl rfl)
theorem dX2_init_5 : decode cX2_init 5 = .ok (.new 9, 3) := dk_187 0 9 (dk_at dksX2_init_0 5 rfl rfl)
theorem dX2_init_8 : decode cX2_init 8 = .ok (.dup, 1) := dk_89 (dk_at dksX2_init_0 8 rfl rfl)
theorem dX2_init_9 : decode cX2_init 9 = .ok (.invokespecial 11, 3) := dk_183 0 11 (dk_at dksX2_init_0 9 rfl rfl)
theorem dX2_init_12 : decode cX2_init 12 = .ok (.putfield 12, 3) := dk_181 0 12 (dk_at dksX2_init_0 12 rfl rfl)
theorem dX2_init_15 : decode cX2_init 15 = .ok (.aload_n 0, 1) := dk_42 (dk_at dksX2_init_0 15 rfl rfl)
theorem dX2_init_16 : decode cX2_init 16 = .ok (.bipush 120, 2) := dk_16 120 (dk_at dksX2_init_0 16 rfl rfl)
theorem dX2_init_18 : decode cX2_init 18 = .ok (.newarray .byte, 2) := dk_188_8 (dk_at dksX2_init_0 18 rfl rfl)
theorem dX2_init_20 : decode cX2_init 20 = .ok (.putfield 18, 3) := dk_181 0 18 (dk_at dksX2_init_0 20 rfl rfl)
theorem dX2_init_23 : decode cX2_init 23 = .ok (.aload_n 0, 1) := dk_42 (dk_at dksX2_init_0 23 rfl rfl)
theorem dX2_init_24 : decode cX2_init 24 = .ok (.new 22, 3) := dk_187 0 22 (dk_at dksX2_init_1 0 rfl rfl)
theorem dX2_init_27 : decode cX2_init 27 = .ok (.dup, 1) := dk_89 (dk_at dksX2_init_1 3 rfl rfl)
theorem dX2_init_28 : decode cX2_init 28 = .ok (.invokespecial 24, 3) := dk_183 0 24 (dk_at dksX2_init_1 4 rfl rfl)
theorem dX2_init_31 : decode cX2_init 31 = .ok (.putfield 25, 3) := dk_181 0 25 (dk_at dksX2_init_1 7 rfl rfl)
theorem dX2_init_34 : decode cX2_init 34 = .ok (.return_, 1) := dk_177 (dk_at dksX2_init_1 10 rfl rfl)
abbrev cX2_whole : ByteArray := prog_8_method_18_code
def yX2_whole : MethodName := ⟨RX2, "whole", "()I"⟩
def dkwX2_whole_2 : List UInt8 := [167, 0, 4, 3, 182, 0, 63, 27, 172]
abbrev dktX2_whole_2 : List UInt8 := dkwX2_whole_2 ++ []
def dkwX2_whole_1 : List UInt8 := [182, 0, 82, 42, 182, 0, 125, 132, 1, 1, 167, 255, 237, 42, 42, 180, 0, 47, 154, 0, 7, 4]
abbrev dktX2_whole_1 : List UInt8 := dkwX2_whole_1 ++ dktX2_whole_2
def dkwX2_whole_0 : List UInt8 := [42, 3, 181, 0, 37, 42, 182, 0, 82, 42, 182, 0, 125, 4, 60, 42, 180, 0, 47, 6, 160, 0, 17, 42]
abbrev dktX2_whole_0 : List UInt8 := dkwX2_whole_0 ++ dktX2_whole_1
theorem dksX2_whole_0 : cX2_whole.data.toList.drop 0 = dktX2_whole_0 := by decide +kernel
theorem dksX2_whole_1 : cX2_whole.data.toList.drop 24 = dktX2_whole_1 := dk_seg dksX2_whole_0 24 rfl rfl
theorem dksX2_whole_2 : cX2_whole.data.toList.drop 46 = dktX2_whole_2 := dk_seg dksX2_whole_1 22 rfl rfl
theorem dX2_whole_0 : decode cX2_whole 0 = .ok (.aload_n 0, 1) := dk_42 (dk_at dksX2_whole_0 0 rfl rfl)
theorem dX2_whole_1 : decode cX2_whole 1 = .ok (.iconst 0, 1) := dk_3 (dk_at dksX2_whole_0 1 rfl rfl)
theorem dX2_whole_2 : decode cX2_whole 2 = .ok (.putfield 37, 3) := dk_181 0 37 (dk_at dksX2_whole_0 2 rfl rfl)
theorem dX2_whole_5 : decode cX2_whole 5 = .ok (.aload_n 0, 1) := dk_42 (dk_at dksX2_whole_0 5 rfl rfl)
theorem dX2_whole_6 : decode cX2_whole 6 = .ok (.invokevirtual 82, 3) := dk_182 0 82 (dk_at dksX2_whole_0 6 rfl rfl)
theorem dX2_whole_9 : decode cX2_whole 9 = .ok (.aload_n 0, 1) := dk_42 (dk_at dksX2_whole_0 9 rfl rfl)
theorem dX2_whole_10 : decode cX2_whole 10 = .ok (.invokevirtual 125, 3) := dk_182 0 125 (dk_at dksX2_whole_0 10 rfl rfl)
theorem dX2_whole_13 : decode cX2_whole 13 = .ok (.iconst 1, 1) := dk_4 (dk_at dksX2_whole_0 13 rfl rfl)
theorem dX2_whole_14 : decode cX2_whole 14 = .ok (.istore_n 1, 1) := dk_60 (dk_at dksX2_whole_0 14 rfl rfl)
theorem dX2_whole_15 : decode cX2_whole 15 = .ok (.aload_n 0, 1) := dk_42 (dk_at dksX2_whole_0 15 rfl rfl)
theorem dX2_whole_16 : decode cX2_whole 16 = .ok (.getfield 47, 3) := dk_180 0 47 (dk_at dksX2_whole_0 16 rfl rfl)
theorem dX2_whole_19 : decode cX2_whole 19 = .ok (.iconst 3, 1) := dk_6 (dk_at dksX2_whole_0 19 rfl rfl)
theorem dX2_whole_20 : decode cX2_whole 20 = .ok (.if_icmp .ne 17, 3) := dk_160 0 17 (dk_at dksX2_whole_0 20 rfl rfl)
theorem dX2_whole_23 : decode cX2_whole 23 = .ok (.aload_n 0, 1) := dk_42 (dk_at dksX2_whole_0 23 rfl rfl)
theorem dX2_whole_24 : decode cX2_whole 24 = .ok (.invokevirtual 82, 3) := dk_182 0 82 (dk_at dksX2_whole_1 0 rfl rfl)
theorem dX2_whole_27 : decode cX2_whole 27 = .ok (.aload_n 0, 1) := dk_42 (dk_at dksX2_whole_1 3 rfl rfl)
theorem dX2_whole_28 : decode cX2_whole 28 = .ok (.invokevirtual 125, 3) := dk_182 0 125 (dk_at dksX2_whole_1 4 rfl rfl)
theorem dX2_whole_31 : decode cX2_whole 31 = .ok (.iinc 1 1, 3) := dk_132 1 1 (dk_at dksX2_whole_1 7 rfl rfl)
theorem dX2_whole_34 : decode cX2_whole 34 = .ok (.goto (-19), 3) := dk_167 255 237 (dk_at dksX2_whole_1 10 rfl rfl)
theorem dX2_whole_37 : decode cX2_whole 37 = .ok (.aload_n 0, 1) := dk_42 (dk_at dksX2_whole_1 13 rfl rfl)
theorem dX2_whole_38 : decode cX2_whole 38 = .ok (.aload_n 0, 1) := dk_42 (dk_at dksX2_whole_1 14 rfl rfl)
theorem dX2_whole_39 : decode cX2_whole 39 = .ok (.getfield 47, 3) := dk_180 0 47 (dk_at dksX2_whole_1 15 rfl rfl)
theorem dX2_whole_42 : decode cX2_whole 42 = .ok (.ifCond .ne 7, 3) := dk_154 0 7 (dk_at dksX2_whole_1 18 rfl rfl)
theorem dX2_whole_45 : decode cX2_whole 45 = .ok (.iconst 1, 1) := dk_4 (dk_at dksX2_whole_1 21 rfl rfl)
theorem dX2_whole_46 : decode cX2_whole 46 = .ok (.goto 4, 3) := dk_167 0 4 (dk_at dksX2_whole_2 0 rfl rfl)
theorem dX2_whole_49 : decode cX2_whole 49 = .ok (.iconst 0, 1) := dk_3 (dk_at dksX2_whole_2 3 rfl rfl)
theorem dX2_whole_50 : decode cX2_whole 50 = .ok (.invokevirtual 63, 3) := dk_182 0 63 (dk_at dksX2_whole_2 4 rfl rfl)
theorem dX2_whole_53 : decode cX2_whole 53 = .ok (.iload_n 1, 1) := dk_27 (dk_at dksX2_whole_2 7 rfl rfl)
theorem dX2_whole_54 : decode cX2_whole 54 = .ok (.ireturn, 1) := dk_172 (dk_at dksX2_whole_2 8 rfl rfl)
abbrev cX2_next : ByteArray := prog_8_method_6_code
def yX2_next : MethodName := ⟨RX2, "next", "()V"⟩
def dkwX2_next_4 : List UInt8 := [3, 182, 0, 63, 42, 6, 181, 0, 47, 42, 89, 180, 0, 37, 4, 96, 181, 0, 37, 177]
abbrev dktX2_next_4 : List UInt8 := dkwX2_next_4 ++ []
def dkwX2_next_3 : List UInt8 := [184, 0, 57, 153, 0, 10, 42, 182, 0, 60, 167, 0, 33, 42, 27, 16, 59, 160, 0, 7, 4, 167, 0, 4]
abbrev dktX2_next_3 : List UInt8 := dkwX2_next_3 ++ dktX2_next_4
def dkwX2_next_2 : List UInt8 := [42, 3, 181, 0, 47, 167, 0, 61, 27, 184, 0, 50, 153, 0, 10, 42, 182, 0, 54, 167, 0, 47, 27]
abbrev dktX2_next_2 : List UInt8 := dkwX2_next_2 ++ dktX2_next_3
def dkwX2_next_1 : List UInt8 := [167, 255, 233, 42, 42, 180, 0, 37, 181, 0, 44, 42, 42, 180, 0, 37, 182, 0, 40, 60, 27, 156, 0, 11]
abbrev dktX2_next_1 : List UInt8 := dkwX2_next_1 ++ dktX2_next_2
def dkwX2_next_0 : List UInt8 := [42, 42, 180, 0, 37, 182, 0, 40, 16, 32, 160, 0, 16, 42, 89, 180, 0, 37, 4, 96, 181, 0, 37]
abbrev dktX2_next_0 : List UInt8 := dkwX2_next_0 ++ dktX2_next_1
theorem dksX2_next_0 : cX2_next.data.toList.drop 0 = dktX2_next_0 := by decide +kernel
theorem dksX2_next_1 : cX2_next.data.toList.drop 23 = dktX2_next_1 := dk_seg dksX2_next_0 23 rfl rfl
theorem dksX2_next_2 : cX2_next.data.toList.drop 47 = dktX2_next_2 := dk_seg dksX2_next_1 24 rfl rfl
theorem dksX2_next_3 : cX2_next.data.toList.drop 70 = dktX2_next_3 := dk_seg dksX2_next_2 23 rfl rfl
theorem dksX2_next_4 : cX2_next.data.toList.drop 94 = dktX2_next_4 := dk_seg dksX2_next_3 24 rfl rfl
theorem dX2_next_0 : decode cX2_next 0 = .ok (.aload_n 0, 1) := dk_42 (dk_at dksX2_next_0 0 rfl rfl)
theorem dX2_next_1 : decode cX2_next 1 = .ok (.aload_n 0, 1) := dk_42 (dk_at dksX2_next_0 1 rfl rfl)
theorem dX2_next_2 : decode cX2_next 2 = .ok (.getfield 37, 3) := dk_180 0 37 (dk_at dksX2_next_0 2 rfl rfl)
theorem dX2_next_5 : decode cX2_next 5 = .ok (.invokevirtual 40, 3) := dk_182 0 40 (dk_at dksX2_next_0 5 rfl rfl)
theorem dX2_next_8 : decode cX2_next 8 = .ok (.bipush 32, 2) := dk_16 32 (dk_at dksX2_next_0 8 rfl rfl)
theorem dX2_next_10 : decode cX2_next 10 = .ok (.if_icmp .ne 16, 3) := dk_160 0 16 (dk_at dksX2_next_0 10 rfl rfl)
theorem dX2_next_13 : decode cX2_next 13 = .ok (.aload_n 0, 1) := dk_42 (dk_at dksX2_next_0 13 rfl rfl)
theorem dX2_next_14 : decode cX2_next 14 = .ok (.dup, 1) := dk_89 (dk_at dksX2_next_0 14 rfl rfl)
theorem dX2_next_15 : decode cX2_next 15 = .ok (.getfield 37, 3) := dk_180 0 37 (dk_at dksX2_next_0 15 rfl rfl)
theorem dX2_next_18 : decode cX2_next 18 = .ok (.iconst 1, 1) := dk_4 (dk_at dksX2_next_0 18 rfl rfl)
theorem dX2_next_19 : decode cX2_next 19 = .ok (.iadd, 1) := dk_96 (dk_at dksX2_next_0 19 rfl rfl)
theorem dX2_next_20 : decode cX2_next 20 = .ok (.putfield 37, 3) := dk_181 0 37 (dk_at dksX2_next_0 20 rfl rfl)
theorem dX2_next_23 : decode cX2_next 23 = .ok (.goto (-23), 3) := dk_167 255 233 (dk_at dksX2_next_1 0 rfl rfl)
theorem dX2_next_26 : decode cX2_next 26 = .ok (.aload_n 0, 1) := dk_42 (dk_at dksX2_next_1 3 rfl rfl)
theorem dX2_next_27 : decode cX2_next 27 = .ok (.aload_n 0, 1) := dk_42 (dk_at dksX2_next_1 4 rfl rfl)
theorem dX2_next_28 : decode cX2_next 28 = .ok (.getfield 37, 3) := dk_180 0 37 (dk_at dksX2_next_1 5 rfl rfl)
theorem dX2_next_31 : decode cX2_next 31 = .ok (.putfield 44, 3) := dk_181 0 44 (dk_at dksX2_next_1 8 rfl rfl)
theorem dX2_next_34 : decode cX2_next 34 = .ok (.aload_n 0, 1) := dk_42 (dk_at dksX2_next_1 11 rfl rfl)
theorem dX2_next_35 : decode cX2_next 35 = .ok (.aload_n 0, 1) := dk_42 (dk_at dksX2_next_1 12 rfl rfl)
theorem dX2_next_36 : decode cX2_next 36 = .ok (.getfield 37, 3) := dk_180 0 37 (dk_at dksX2_next_1 13 rfl rfl)
theorem dX2_next_39 : decode cX2_next 39 = .ok (.invokevirtual 40, 3) := dk_182 0 40 (dk_at dksX2_next_1 16 rfl rfl)
theorem dX2_next_42 : decode cX2_next 42 = .ok (.istore_n 1, 1) := dk_60 (dk_at dksX2_next_1 19 rfl rfl)
theorem dX2_next_43 : decode cX2_next 43 = .ok (.iload_n 1, 1) := dk_27 (dk_at dksX2_next_1 20 rfl rfl)
theorem dX2_next_44 : decode cX2_next 44 = .ok (.ifCond .ge 11, 3) := dk_156 0 11 (dk_at dksX2_next_1 21 rfl rfl)
theorem dX2_next_47 : decode cX2_next 47 = .ok (.aload_n 0, 1) := dk_42 (dk_at dksX2_next_2 0 rfl rfl)
theorem dX2_next_48 : decode cX2_next 48 = .ok (.iconst 0, 1) := dk_3 (dk_at dksX2_next_2 1 rfl rfl)
theorem dX2_next_49 : decode cX2_next 49 = .ok (.putfield 47, 3) := dk_181 0 47 (dk_at dksX2_next_2 2 rfl rfl)
theorem dX2_next_52 : decode cX2_next 52 = .ok (.goto 61, 3) := dk_167 0 61 (dk_at dksX2_next_2 5 rfl rfl)
theorem dX2_next_55 : decode cX2_next 55 = .ok (.iload_n 1, 1) := dk_27 (dk_at dksX2_next_2 8 rfl rfl)
theorem dX2_next_56 : decode cX2_next 56 = .ok (.invokestatic 50, 3) := dk_184 0 50 (dk_at dksX2_next_2 9 rfl rfl)
theorem dX2_next_59 : decode cX2_next 59 = .ok (.ifCond .eq 10, 3) := dk_153 0 10 (dk_at dksX2_next_2 12 rfl rfl)
theorem dX2_next_62 : decode cX2_next 62 = .ok (.aload_n 0, 1) := dk_42 (dk_at dksX2_next_2 15 rfl rfl)
theorem dX2_next_63 : decode cX2_next 63 = .ok (.invokevirtual 54, 3) := dk_182 0 54 (dk_at dksX2_next_2 16 rfl rfl)
theorem dX2_next_66 : decode cX2_next 66 = .ok (.goto 47, 3) := dk_167 0 47 (dk_at dksX2_next_2 19 rfl rfl)
theorem dX2_next_69 : decode cX2_next 69 = .ok (.iload_n 1, 1) := dk_27 (dk_at dksX2_next_2 22 rfl rfl)
theorem dX2_next_70 : decode cX2_next 70 = .ok (.invokestatic 57, 3) := dk_184 0 57 (dk_at dksX2_next_3 0 rfl rfl)
theorem dX2_next_73 : decode cX2_next 73 = .ok (.ifCond .eq 10, 3) := dk_153 0 10 (dk_at dksX2_next_3 3 rfl rfl)
theorem dX2_next_76 : decode cX2_next 76 = .ok (.aload_n 0, 1) := dk_42 (dk_at dksX2_next_3 6 rfl rfl)
theorem dX2_next_77 : decode cX2_next 77 = .ok (.invokevirtual 60, 3) := dk_182 0 60 (dk_at dksX2_next_3 7 rfl rfl)
theorem dX2_next_80 : decode cX2_next 80 = .ok (.goto 33, 3) := dk_167 0 33 (dk_at dksX2_next_3 10 rfl rfl)
theorem dX2_next_83 : decode cX2_next 83 = .ok (.aload_n 0, 1) := dk_42 (dk_at dksX2_next_3 13 rfl rfl)
theorem dX2_next_84 : decode cX2_next 84 = .ok (.iload_n 1, 1) := dk_27 (dk_at dksX2_next_3 14 rfl rfl)
theorem dX2_next_85 : decode cX2_next 85 = .ok (.bipush 59, 2) := dk_16 59 (dk_at dksX2_next_3 15 rfl rfl)
theorem dX2_next_87 : decode cX2_next 87 = .ok (.if_icmp .ne 7, 3) := dk_160 0 7 (dk_at dksX2_next_3 17 rfl rfl)
theorem dX2_next_90 : decode cX2_next 90 = .ok (.iconst 1, 1) := dk_4 (dk_at dksX2_next_3 20 rfl rfl)
theorem dX2_next_91 : decode cX2_next 91 = .ok (.goto 4, 3) := dk_167 0 4 (dk_at dksX2_next_3 21 rfl rfl)
theorem dX2_next_94 : decode cX2_next 94 = .ok (.iconst 0, 1) := dk_3 (dk_at dksX2_next_4 0 rfl rfl)
theorem dX2_next_95 : decode cX2_next 95 = .ok (.invokevirtual 63, 3) := dk_182 0 63 (dk_at dksX2_next_4 1 rfl rfl)
theorem dX2_next_98 : decode cX2_next 98 = .ok (.aload_n 0, 1) := dk_42 (dk_at dksX2_next_4 4 rfl rfl)
theorem dX2_next_99 : decode cX2_next 99 = .ok (.iconst 3, 1) := dk_6 (dk_at dksX2_next_4 5 rfl rfl)
theorem dX2_next_100 : decode cX2_next 100 = .ok (.putfield 47, 3) := dk_181 0 47 (dk_at dksX2_next_4 6 rfl rfl)
theorem dX2_next_103 : decode cX2_next 103 = .ok (.aload_n 0, 1) := dk_42 (dk_at dksX2_next_4 9 rfl rfl)
theorem dX2_next_104 : decode cX2_next 104 = .ok (.dup, 1) := dk_89 (dk_at dksX2_next_4 10 rfl rfl)
theorem dX2_next_105 : decode cX2_next 105 = .ok (.getfield 37, 3) := dk_180 0 37 (dk_at dksX2_next_4 11 rfl rfl)
theorem dX2_next_108 : decode cX2_next 108 = .ok (.iconst 1, 1) := dk_4 (dk_at dksX2_next_4 14 rfl rfl)
theorem dX2_next_109 : decode cX2_next 109 = .ok (.iadd, 1) := dk_96 (dk_at dksX2_next_4 15 rfl rfl)
theorem dX2_next_110 : decode cX2_next 110 = .ok (.putfield 37, 3) := dk_181 0 37 (dk_at dksX2_next_4 16 rfl rfl)
theorem dX2_next_113 : decode cX2_next 113 = .ok (.return_, 1) := dk_177 (dk_at dksX2_next_4 19 rfl rfl)
abbrev cX2_byteAt : ByteArray := prog_8_method_3_code
def yX2_byteAt : MethodName := ⟨RX2, "byteAt", "(I)I"⟩
def dkwX2_byteAt_0 : List UInt8 := [27, 42, 180, 0, 29, 162, 0, 16, 42, 180, 0, 18, 27, 51, 17, 0, 255, 126, 167, 0, 4, 2, 172]
abbrev dktX2_byteAt_0 : List UInt8 := dkwX2_byteAt_0 ++ []
theorem dksX2_byteAt_0 : cX2_byteAt.data.toList.drop 0 = dktX2_byteAt_0 := by decide +kernel
theorem dX2_byteAt_0 : decode cX2_byteAt 0 = .ok (.iload_n 1, 1) := dk_27 (dk_at dksX2_byteAt_0 0 rfl rfl)
theorem dX2_byteAt_1 : decode cX2_byteAt 1 = .ok (.aload_n 0, 1) := dk_42 (dk_at dksX2_byteAt_0 1 rfl rfl)
theorem dX2_byteAt_2 : decode cX2_byteAt 2 = .ok (.getfield 29, 3) := dk_180 0 29 (dk_at dksX2_byteAt_0 2 rfl rfl)
theorem dX2_byteAt_5 : decode cX2_byteAt 5 = .ok (.if_icmp .ge 16, 3) := dk_162 0 16 (dk_at dksX2_byteAt_0 5 rfl rfl)
theorem dX2_byteAt_8 : decode cX2_byteAt 8 = .ok (.aload_n 0, 1) := dk_42 (dk_at dksX2_byteAt_0 8 rfl rfl)
theorem dX2_byteAt_9 : decode cX2_byteAt 9 = .ok (.getfield 18, 3) := dk_180 0 18 (dk_at dksX2_byteAt_0 9 rfl rfl)
theorem dX2_byteAt_12 : decode cX2_byteAt 12 = .ok (.iload_n 1, 1) := dk_27 (dk_at dksX2_byteAt_0 12 rfl rfl)
theorem dX2_byteAt_13 : decode cX2_byteAt 13 = .ok (.baload, 1) := dk_51 (dk_at dksX2_byteAt_0 13 rfl rfl)
theorem dX2_byteAt_14 : decode cX2_byteAt 14 = .ok (.sipush 255, 3) := dk_17 0 255 (dk_at dksX2_byteAt_0 14 rfl rfl)
theorem dX2_byteAt_17 : decode cX2_byteAt 17 = .ok (.iand, 1) := dk_126 (dk_at dksX2_byteAt_0 17 rfl rfl)
theorem dX2_byteAt_18 : decode cX2_byteAt 18 = .ok (.goto 4, 3) := dk_167 0 4 (dk_at dksX2_byteAt_0 18 rfl rfl)
theorem dX2_byteAt_21 : decode cX2_byteAt 21 = .ok (.iconst (-1), 1) := dk_2 (dk_at dksX2_byteAt_0 21 rfl rfl)
theorem dX2_byteAt_22 : decode cX2_byteAt 22 = .ok (.ireturn, 1) := dk_172 (dk_at dksX2_byteAt_0 22 rfl rfl)
abbrev cX2_isLetter : ByteArray := prog_8_method_5_code
def yX2_isLetter : MethodName := ⟨RX2, "isLetter", "(I)Z"⟩
def dkwX2_isLetter_0 : List UInt8 := [26, 16, 97, 16, 122, 184, 0, 33, 172]
abbrev dktX2_isLetter_0 : List UInt8 := dkwX2_isLetter_0 ++ []
theorem dksX2_isLetter_0 : cX2_isLetter.data.toList.drop 0 = dktX2_isLetter_0 := by decide +kernel
theorem dX2_isLetter_0 : decode cX2_isLetter 0 = .ok (.iload_n 0, 1) := dk_26 (dk_at dksX2_isLetter_0 0 rfl rfl)
theorem dX2_isLetter_1 : decode cX2_isLetter 1 = .ok (.bipush 97, 2) := dk_16 97 (dk_at dksX2_isLetter_0 1 rfl rfl)
theorem dX2_isLetter_3 : decode cX2_isLetter 3 = .ok (.bipush 122, 2) := dk_16 122 (dk_at dksX2_isLetter_0 3 rfl rfl)
theorem dX2_isLetter_5 : decode cX2_isLetter 5 = .ok (.invokestatic 33, 3) := dk_184 0 33 (dk_at dksX2_isLetter_0 5 rfl rfl)
theorem dX2_isLetter_8 : decode cX2_isLetter 8 = .ok (.ireturn, 1) := dk_172 (dk_at dksX2_isLetter_0 8 rfl rfl)
abbrev cX2_word : ByteArray := prog_8_method_8_code
def yX2_word : MethodName := ⟨RX2, "word", "()V"⟩
def dkwX2_word_3 : List UInt8 := [182, 0, 63, 42, 5, 181, 0, 47, 42, 27, 181, 0, 67, 177]
abbrev dktX2_word_3 : List UInt8 := dkwX2_word_3 ++ []
def dkwX2_word_2 : List UInt8 := [182, 0, 70, 154, 0, 9, 132, 1, 1, 167, 255, 230, 42, 27, 16, 13, 162, 0, 7, 4, 167, 0, 4, 3]
abbrev dktX2_word_2 : List UInt8 := dkwX2_word_2 ++ dktX2_word_3
def dkwX2_word_1 : List UInt8 := [167, 255, 232, 3, 60, 27, 16, 13, 162, 0, 26, 42, 27, 42, 180, 0, 37, 42, 180, 0, 44, 100]
abbrev dktX2_word_1 : List UInt8 := dkwX2_word_1 ++ dktX2_word_2
def dkwX2_word_0 : List UInt8 := [42, 42, 180, 0, 37, 182, 0, 40, 184, 0, 50, 153, 0, 16, 42, 89, 180, 0, 37, 4, 96, 181, 0, 37]
abbrev dktX2_word_0 : List UInt8 := dkwX2_word_0 ++ dktX2_word_1
theorem dksX2_word_0 : cX2_word.data.toList.drop 0 = dktX2_word_0 := by decide +kernel
theorem dksX2_word_1 : cX2_word.data.toList.drop 24 = dktX2_word_1 := dk_seg dksX2_word_0 24 rfl rfl
theorem dksX2_word_2 : cX2_word.data.toList.drop 46 = dktX2_word_2 := dk_seg dksX2_word_1 22 rfl rfl
theorem dksX2_word_3 : cX2_word.data.toList.drop 70 = dktX2_word_3 := dk_seg dksX2_word_2 24 rfl rfl
theorem dX2_word_0 : decode cX2_word 0 = .ok (.aload_n 0, 1) := dk_42 (dk_at dksX2_word_0 0 rfl rfl)
theorem dX2_word_1 : decode cX2_word 1 = .ok (.aload_n 0, 1) := dk_42 (dk_at dksX2_word_0 1 rfl rfl)
theorem dX2_word_2 : decode cX2_word 2 = .ok (.getfield 37, 3) := dk_180 0 37 (dk_at dksX2_word_0 2 rfl rfl)
theorem dX2_word_5 : decode cX2_word 5 = .ok (.invokevirtual 40, 3) := dk_182 0 40 (dk_at dksX2_word_0 5 rfl rfl)
theorem dX2_word_8 : decode cX2_word 8 = .ok (.invokestatic 50, 3) := dk_184 0 50 (dk_at dksX2_word_0 8 rfl rfl)
theorem dX2_word_11 : decode cX2_word 11 = .ok (.ifCond .eq 16, 3) := dk_153 0 16 (dk_at dksX2_word_0 11 rfl rfl)
theorem dX2_word_14 : decode cX2_word 14 = .ok (.aload_n 0, 1) := dk_42 (dk_at dksX2_word_0 14 rfl rfl)
theorem dX2_word_15 : decode cX2_word 15 = .ok (.dup, 1) := dk_89 (dk_at dksX2_word_0 15 rfl rfl)
theorem dX2_word_16 : decode cX2_word 16 = .ok (.getfield 37, 3) := dk_180 0 37 (dk_at dksX2_word_0 16 rfl rfl)
theorem dX2_word_19 : decode cX2_word 19 = .ok (.iconst 1, 1) := dk_4 (dk_at dksX2_word_0 19 rfl rfl)
theorem dX2_word_20 : decode cX2_word 20 = .ok (.iadd, 1) := dk_96 (dk_at dksX2_word_0 20 rfl rfl)
theorem dX2_word_21 : decode cX2_word 21 = .ok (.putfield 37, 3) := dk_181 0 37 (dk_at dksX2_word_0 21 rfl rfl)
theorem dX2_word_24 : decode cX2_word 24 = .ok (.goto (-24), 3) := dk_167 255 232 (dk_at dksX2_word_1 0 rfl rfl)
theorem dX2_word_27 : decode cX2_word 27 = .ok (.iconst 0, 1) := dk_3 (dk_at dksX2_word_1 3 rfl rfl)
theorem dX2_word_28 : decode cX2_word 28 = .ok (.istore_n 1, 1) := dk_60 (dk_at dksX2_word_1 4 rfl rfl)
theorem dX2_word_29 : decode cX2_word 29 = .ok (.iload_n 1, 1) := dk_27 (dk_at dksX2_word_1 5 rfl rfl)
theorem dX2_word_30 : decode cX2_word 30 = .ok (.bipush 13, 2) := dk_16 13 (dk_at dksX2_word_1 6 rfl rfl)
theorem dX2_word_32 : decode cX2_word 32 = .ok (.if_icmp .ge 26, 3) := dk_162 0 26 (dk_at dksX2_word_1 8 rfl rfl)
theorem dX2_word_35 : decode cX2_word 35 = .ok (.aload_n 0, 1) := dk_42 (dk_at dksX2_word_1 11 rfl rfl)
theorem dX2_word_36 : decode cX2_word 36 = .ok (.iload_n 1, 1) := dk_27 (dk_at dksX2_word_1 12 rfl rfl)
theorem dX2_word_37 : decode cX2_word 37 = .ok (.aload_n 0, 1) := dk_42 (dk_at dksX2_word_1 13 rfl rfl)
theorem dX2_word_38 : decode cX2_word 38 = .ok (.getfield 37, 3) := dk_180 0 37 (dk_at dksX2_word_1 14 rfl rfl)
theorem dX2_word_41 : decode cX2_word 41 = .ok (.aload_n 0, 1) := dk_42 (dk_at dksX2_word_1 17 rfl rfl)
theorem dX2_word_42 : decode cX2_word 42 = .ok (.getfield 44, 3) := dk_180 0 44 (dk_at dksX2_word_1 18 rfl rfl)
theorem dX2_word_45 : decode cX2_word 45 = .ok (.isub, 1) := dk_100 (dk_at dksX2_word_1 21 rfl rfl)
theorem dX2_word_46 : decode cX2_word 46 = .ok (.invokevirtual 70, 3) := dk_182 0 70 (dk_at dksX2_word_2 0 rfl rfl)
theorem dX2_word_49 : decode cX2_word 49 = .ok (.ifCond .ne 9, 3) := dk_154 0 9 (dk_at dksX2_word_2 3 rfl rfl)
theorem dX2_word_52 : decode cX2_word 52 = .ok (.iinc 1 1, 3) := dk_132 1 1 (dk_at dksX2_word_2 6 rfl rfl)
theorem dX2_word_55 : decode cX2_word 55 = .ok (.goto (-26), 3) := dk_167 255 230 (dk_at dksX2_word_2 9 rfl rfl)
theorem dX2_word_58 : decode cX2_word 58 = .ok (.aload_n 0, 1) := dk_42 (dk_at dksX2_word_2 12 rfl rfl)
theorem dX2_word_59 : decode cX2_word 59 = .ok (.iload_n 1, 1) := dk_27 (dk_at dksX2_word_2 13 rfl rfl)
theorem dX2_word_60 : decode cX2_word 60 = .ok (.bipush 13, 2) := dk_16 13 (dk_at dksX2_word_2 14 rfl rfl)
theorem dX2_word_62 : decode cX2_word 62 = .ok (.if_icmp .ge 7, 3) := dk_162 0 7 (dk_at dksX2_word_2 16 rfl rfl)
theorem dX2_word_65 : decode cX2_word 65 = .ok (.iconst 1, 1) := dk_4 (dk_at dksX2_word_2 19 rfl rfl)
theorem dX2_word_66 : decode cX2_word 66 = .ok (.goto 4, 3) := dk_167 0 4 (dk_at dksX2_word_2 20 rfl rfl)
theorem dX2_word_69 : decode cX2_word 69 = .ok (.iconst 0, 1) := dk_3 (dk_at dksX2_word_2 23 rfl rfl)
theorem dX2_word_70 : decode cX2_word 70 = .ok (.invokevirtual 63, 3) := dk_182 0 63 (dk_at dksX2_word_3 0 rfl rfl)
theorem dX2_word_73 : decode cX2_word 73 = .ok (.aload_n 0, 1) := dk_42 (dk_at dksX2_word_3 3 rfl rfl)
theorem dX2_word_74 : decode cX2_word 74 = .ok (.iconst 2, 1) := dk_5 (dk_at dksX2_word_3 4 rfl rfl)
theorem dX2_word_75 : decode cX2_word 75 = .ok (.putfield 47, 3) := dk_181 0 47 (dk_at dksX2_word_3 5 rfl rfl)
theorem dX2_word_78 : decode cX2_word 78 = .ok (.aload_n 0, 1) := dk_42 (dk_at dksX2_word_3 8 rfl rfl)
theorem dX2_word_79 : decode cX2_word 79 = .ok (.iload_n 1, 1) := dk_27 (dk_at dksX2_word_3 9 rfl rfl)
theorem dX2_word_80 : decode cX2_word 80 = .ok (.putfield 67, 3) := dk_181 0 67 (dk_at dksX2_word_3 10 rfl rfl)
theorem dX2_word_83 : decode cX2_word 83 = .ok (.return_, 1) := dk_177 (dk_at dksX2_word_3 13 rfl rfl)
abbrev cX2_isKey : ByteArray := prog_8_method_9_code
def yX2_isKey : MethodName := ⟨RX2, "isKey", "(II)Z"⟩
def dkwX2_isKey_3 : List UInt8 := [160, 0, 7, 4, 167, 0, 4, 3, 62, 132, 4, 1, 167, 255, 211, 29, 172]
abbrev dktX2_isKey_3 : List UInt8 := dkwX2_isKey_3 ++ []
def dkwX2_isKey_2 : List UInt8 := [18, 74, 16, 6, 27, 104, 21, 4, 96, 182, 0, 76, 42, 42, 180, 0, 44, 21, 4, 96, 182, 0, 40]
abbrev dktX2_isKey_2 : List UInt8 := dkwX2_isKey_2 ++ dktX2_isKey_3
def dkwX2_isKey_1 : List UInt8 := [16, 32, 160, 0, 7, 4, 167, 0, 4, 3, 62, 3, 54, 4, 21, 4, 28, 162, 0, 45, 29, 153, 0, 41]
abbrev dktX2_isKey_1 : List UInt8 := dkwX2_isKey_1 ++ dktX2_isKey_2
def dkwX2_isKey_0 : List UInt8 := [28, 16, 6, 163, 0, 29, 28, 16, 6, 159, 0, 19, 18, 74, 16, 6, 27, 104, 28, 96, 182, 0, 76]
abbrev dktX2_isKey_0 : List UInt8 := dkwX2_isKey_0 ++ dktX2_isKey_1
theorem dksX2_isKey_0 : cX2_isKey.data.toList.drop 0 = dktX2_isKey_0 := by decide +kernel
theorem dksX2_isKey_1 : cX2_isKey.data.toList.drop 23 = dktX2_isKey_1 := dk_seg dksX2_isKey_0 23 rfl rfl
theorem dksX2_isKey_2 : cX2_isKey.data.toList.drop 47 = dktX2_isKey_2 := dk_seg dksX2_isKey_1 24 rfl rfl
theorem dksX2_isKey_3 : cX2_isKey.data.toList.drop 70 = dktX2_isKey_3 := dk_seg dksX2_isKey_2 23 rfl rfl
theorem dX2_isKey_0 : decode cX2_isKey 0 = .ok (.iload_n 2, 1) := dk_28 (dk_at dksX2_isKey_0 0 rfl rfl)
theorem dX2_isKey_1 : decode cX2_isKey 1 = .ok (.bipush 6, 2) := dk_16 6 (dk_at dksX2_isKey_0 1 rfl rfl)
theorem dX2_isKey_3 : decode cX2_isKey 3 = .ok (.if_icmp .gt 29, 3) := dk_163 0 29 (dk_at dksX2_isKey_0 3 rfl rfl)
theorem dX2_isKey_6 : decode cX2_isKey 6 = .ok (.iload_n 2, 1) := dk_28 (dk_at dksX2_isKey_0 6 rfl rfl)
theorem dX2_isKey_7 : decode cX2_isKey 7 = .ok (.bipush 6, 2) := dk_16 6 (dk_at dksX2_isKey_0 7 rfl rfl)
theorem dX2_isKey_9 : decode cX2_isKey 9 = .ok (.if_icmp .eq 19, 3) := dk_159 0 19 (dk_at dksX2_isKey_0 9 rfl rfl)
theorem dX2_isKey_12 : decode cX2_isKey 12 = .ok (.ldc 74, 2) := dk_18 74 (dk_at dksX2_isKey_0 12 rfl rfl)
theorem dX2_isKey_14 : decode cX2_isKey 14 = .ok (.bipush 6, 2) := dk_16 6 (dk_at dksX2_isKey_0 14 rfl rfl)
theorem dX2_isKey_16 : decode cX2_isKey 16 = .ok (.iload_n 1, 1) := dk_27 (dk_at dksX2_isKey_0 16 rfl rfl)
theorem dX2_isKey_17 : decode cX2_isKey 17 = .ok (.imul, 1) := dk_104 (dk_at dksX2_isKey_0 17 rfl rfl)
theorem dX2_isKey_18 : decode cX2_isKey 18 = .ok (.iload_n 2, 1) := dk_28 (dk_at dksX2_isKey_0 18 rfl rfl)
theorem dX2_isKey_19 : decode cX2_isKey 19 = .ok (.iadd, 1) := dk_96 (dk_at dksX2_isKey_0 19 rfl rfl)
theorem dX2_isKey_20 : decode cX2_isKey 20 = .ok (.invokevirtual 76, 3) := dk_182 0 76 (dk_at dksX2_isKey_0 20 rfl rfl)
theorem dX2_isKey_23 : decode cX2_isKey 23 = .ok (.bipush 32, 2) := dk_16 32 (dk_at dksX2_isKey_1 0 rfl rfl)
theorem dX2_isKey_25 : decode cX2_isKey 25 = .ok (.if_icmp .ne 7, 3) := dk_160 0 7 (dk_at dksX2_isKey_1 2 rfl rfl)
theorem dX2_isKey_28 : decode cX2_isKey 28 = .ok (.iconst 1, 1) := dk_4 (dk_at dksX2_isKey_1 5 rfl rfl)
theorem dX2_isKey_29 : decode cX2_isKey 29 = .ok (.goto 4, 3) := dk_167 0 4 (dk_at dksX2_isKey_1 6 rfl rfl)
theorem dX2_isKey_32 : decode cX2_isKey 32 = .ok (.iconst 0, 1) := dk_3 (dk_at dksX2_isKey_1 9 rfl rfl)
theorem dX2_isKey_33 : decode cX2_isKey 33 = .ok (.istore_n 3, 1) := dk_62 (dk_at dksX2_isKey_1 10 rfl rfl)
theorem dX2_isKey_34 : decode cX2_isKey 34 = .ok (.iconst 0, 1) := dk_3 (dk_at dksX2_isKey_1 11 rfl rfl)
theorem dX2_isKey_35 : decode cX2_isKey 35 = .ok (.istore 4, 2) := dk_54 4 (dk_at dksX2_isKey_1 12 rfl rfl)
theorem dX2_isKey_37 : decode cX2_isKey 37 = .ok (.iload 4, 2) := dk_21 4 (dk_at dksX2_isKey_1 14 rfl rfl)
theorem dX2_isKey_39 : decode cX2_isKey 39 = .ok (.iload_n 2, 1) := dk_28 (dk_at dksX2_isKey_1 16 rfl rfl)
theorem dX2_isKey_40 : decode cX2_isKey 40 = .ok (.if_icmp .ge 45, 3) := dk_162 0 45 (dk_at dksX2_isKey_1 17 rfl rfl)
theorem dX2_isKey_43 : decode cX2_isKey 43 = .ok (.iload_n 3, 1) := dk_29 (dk_at dksX2_isKey_1 20 rfl rfl)
theorem dX2_isKey_44 : decode cX2_isKey 44 = .ok (.ifCond .eq 41, 3) := dk_153 0 41 (dk_at dksX2_isKey_1 21 rfl rfl)
theorem dX2_isKey_47 : decode cX2_isKey 47 = .ok (.ldc 74, 2) := dk_18 74 (dk_at dksX2_isKey_2 0 rfl rfl)
theorem dX2_isKey_49 : decode cX2_isKey 49 = .ok (.bipush 6, 2) := dk_16 6 (dk_at dksX2_isKey_2 2 rfl rfl)
theorem dX2_isKey_51 : decode cX2_isKey 51 = .ok (.iload_n 1, 1) := dk_27 (dk_at dksX2_isKey_2 4 rfl rfl)
theorem dX2_isKey_52 : decode cX2_isKey 52 = .ok (.imul, 1) := dk_104 (dk_at dksX2_isKey_2 5 rfl rfl)
theorem dX2_isKey_53 : decode cX2_isKey 53 = .ok (.iload 4, 2) := dk_21 4 (dk_at dksX2_isKey_2 6 rfl rfl)
theorem dX2_isKey_55 : decode cX2_isKey 55 = .ok (.iadd, 1) := dk_96 (dk_at dksX2_isKey_2 8 rfl rfl)
theorem dX2_isKey_56 : decode cX2_isKey 56 = .ok (.invokevirtual 76, 3) := dk_182 0 76 (dk_at dksX2_isKey_2 9 rfl rfl)
theorem dX2_isKey_59 : decode cX2_isKey 59 = .ok (.aload_n 0, 1) := dk_42 (dk_at dksX2_isKey_2 12 rfl rfl)
theorem dX2_isKey_60 : decode cX2_isKey 60 = .ok (.aload_n 0, 1) := dk_42 (dk_at dksX2_isKey_2 13 rfl rfl)
theorem dX2_isKey_61 : decode cX2_isKey 61 = .ok (.getfield 44, 3) := dk_180 0 44 (dk_at dksX2_isKey_2 14 rfl rfl)
theorem dX2_isKey_64 : decode cX2_isKey 64 = .ok (.iload 4, 2) := dk_21 4 (dk_at dksX2_isKey_2 17 rfl rfl)
theorem dX2_isKey_66 : decode cX2_isKey 66 = .ok (.iadd, 1) := dk_96 (dk_at dksX2_isKey_2 19 rfl rfl)
theorem dX2_isKey_67 : decode cX2_isKey 67 = .ok (.invokevirtual 40, 3) := dk_182 0 40 (dk_at dksX2_isKey_2 20 rfl rfl)
theorem dX2_isKey_70 : decode cX2_isKey 70 = .ok (.if_icmp .ne 7, 3) := dk_160 0 7 (dk_at dksX2_isKey_3 0 rfl rfl)
theorem dX2_isKey_73 : decode cX2_isKey 73 = .ok (.iconst 1, 1) := dk_4 (dk_at dksX2_isKey_3 3 rfl rfl)
theorem dX2_isKey_74 : decode cX2_isKey 74 = .ok (.goto 4, 3) := dk_167 0 4 (dk_at dksX2_isKey_3 4 rfl rfl)
theorem dX2_isKey_77 : decode cX2_isKey 77 = .ok (.iconst 0, 1) := dk_3 (dk_at dksX2_isKey_3 7 rfl rfl)
theorem dX2_isKey_78 : decode cX2_isKey 78 = .ok (.istore_n 3, 1) := dk_62 (dk_at dksX2_isKey_3 8 rfl rfl)
theorem dX2_isKey_79 : decode cX2_isKey 79 = .ok (.iinc 4 1, 3) := dk_132 4 1 (dk_at dksX2_isKey_3 9 rfl rfl)
theorem dX2_isKey_82 : decode cX2_isKey 82 = .ok (.goto (-45), 3) := dk_167 255 211 (dk_at dksX2_isKey_3 12 rfl rfl)
theorem dX2_isKey_85 : decode cX2_isKey 85 = .ok (.iload_n 3, 1) := dk_29 (dk_at dksX2_isKey_3 15 rfl rfl)
theorem dX2_isKey_86 : decode cX2_isKey 86 = .ok (.ireturn, 1) := dk_172 (dk_at dksX2_isKey_3 16 rfl rfl)
abbrev cX2_need : ByteArray := prog_8_method_2_code
def yX2_need : MethodName := ⟨RX2, "need", "(Z)V"⟩
def dkwX2_need_0 : List UInt8 := [27, 154, 0, 8, 42, 180, 0, 12, 191, 177]
abbrev dktX2_need_0 : List UInt8 := dkwX2_need_0 ++ []
theorem dksX2_need_0 : cX2_need.data.toList.drop 0 = dktX2_need_0 := by decide +kernel
theorem dX2_need_0 : decode cX2_need 0 = .ok (.iload_n 1, 1) := dk_27 (dk_at dksX2_need_0 0 rfl rfl)
theorem dX2_need_1 : decode cX2_need 1 = .ok (.ifCond .ne 8, 3) := dk_154 0 8 (dk_at dksX2_need_0 1 rfl rfl)
theorem dX2_need_4 : decode cX2_need 4 = .ok (.aload_n 0, 1) := dk_42 (dk_at dksX2_need_0 4 rfl rfl)
theorem dX2_need_5 : decode cX2_need 5 = .ok (.getfield 12, 3) := dk_180 0 12 (dk_at dksX2_need_0 5 rfl rfl)
theorem dX2_need_8 : decode cX2_need 8 = .ok (.athrow, 1) := dk_191 (dk_at dksX2_need_0 8 rfl rfl)
theorem dX2_need_9 : decode cX2_need 9 = .ok (.return_, 1) := dk_177 (dk_at dksX2_need_0 9 rfl rfl)
abbrev cX2_isDigit : ByteArray := prog_8_method_4_code
def yX2_isDigit : MethodName := ⟨RX2, "isDigit", "(I)Z"⟩
def dkwX2_isDigit_0 : List UInt8 := [26, 16, 48, 16, 57, 184, 0, 33, 172]
abbrev dktX2_isDigit_0 : List UInt8 := dkwX2_isDigit_0 ++ []
theorem dksX2_isDigit_0 : cX2_isDigit.data.toList.drop 0 = dktX2_isDigit_0 := by decide +kernel
theorem dX2_isDigit_0 : decode cX2_isDigit 0 = .ok (.iload_n 0, 1) := dk_26 (dk_at dksX2_isDigit_0 0 rfl rfl)
theorem dX2_isDigit_1 : decode cX2_isDigit 1 = .ok (.bipush 48, 2) := dk_16 48 (dk_at dksX2_isDigit_0 1 rfl rfl)
theorem dX2_isDigit_3 : decode cX2_isDigit 3 = .ok (.bipush 57, 2) := dk_16 57 (dk_at dksX2_isDigit_0 3 rfl rfl)
theorem dX2_isDigit_5 : decode cX2_isDigit 5 = .ok (.invokestatic 33, 3) := dk_184 0 33 (dk_at dksX2_isDigit_0 5 rfl rfl)
theorem dX2_isDigit_8 : decode cX2_isDigit 8 = .ok (.ireturn, 1) := dk_172 (dk_at dksX2_isDigit_0 8 rfl rfl)
abbrev cX2_digits : ByteArray := prog_8_method_7_code
def yX2_digits : MethodName := ⟨RX2, "digits", "()V"⟩
def dkwX2_digits_3 : List UInt8 := [17, 3, 231, 163, 0, 7, 4, 167, 0, 4, 3, 182, 0, 63, 177]
abbrev dktX2_digits_3 : List UInt8 := dkwX2_digits_3 ++ []
def dkwX2_digits_2 : List UInt8 := [180, 0, 37, 4, 96, 181, 0, 37, 167, 255, 204, 42, 4, 181, 0, 47, 42, 27, 181, 0, 67, 42, 27]
abbrev dktX2_digits_2 : List UInt8 := dkwX2_digits_2 ++ dktX2_digits_3
def dkwX2_digits_1 : List UInt8 := [167, 0, 19, 16, 10, 27, 104, 42, 42, 180, 0, 37, 182, 0, 40, 96, 16, 48, 100, 60, 42, 89]
abbrev dktX2_digits_1 : List UInt8 := dkwX2_digits_1 ++ dktX2_digits_2
def dkwX2_digits_0 : List UInt8 := [3, 60, 42, 42, 180, 0, 37, 182, 0, 40, 184, 0, 57, 153, 0, 44, 27, 17, 3, 231, 164, 0, 7, 27]
abbrev dktX2_digits_0 : List UInt8 := dkwX2_digits_0 ++ dktX2_digits_1
theorem dksX2_digits_0 : cX2_digits.data.toList.drop 0 = dktX2_digits_0 := by decide +kernel
theorem dksX2_digits_1 : cX2_digits.data.toList.drop 24 = dktX2_digits_1 := dk_seg dksX2_digits_0 24 rfl rfl
theorem dksX2_digits_2 : cX2_digits.data.toList.drop 46 = dktX2_digits_2 := dk_seg dksX2_digits_1 22 rfl rfl
theorem dksX2_digits_3 : cX2_digits.data.toList.drop 69 = dktX2_digits_3 := dk_seg dksX2_digits_2 23 rfl rfl
theorem dX2_digits_0 : decode cX2_digits 0 = .ok (.iconst 0, 1) := dk_3 (dk_at dksX2_digits_0 0 rfl rfl)
theorem dX2_digits_1 : decode cX2_digits 1 = .ok (.istore_n 1, 1) := dk_60 (dk_at dksX2_digits_0 1 rfl rfl)
theorem dX2_digits_2 : decode cX2_digits 2 = .ok (.aload_n 0, 1) := dk_42 (dk_at dksX2_digits_0 2 rfl rfl)
theorem dX2_digits_3 : decode cX2_digits 3 = .ok (.aload_n 0, 1) := dk_42 (dk_at dksX2_digits_0 3 rfl rfl)
theorem dX2_digits_4 : decode cX2_digits 4 = .ok (.getfield 37, 3) := dk_180 0 37 (dk_at dksX2_digits_0 4 rfl rfl)
theorem dX2_digits_7 : decode cX2_digits 7 = .ok (.invokevirtual 40, 3) := dk_182 0 40 (dk_at dksX2_digits_0 7 rfl rfl)
theorem dX2_digits_10 : decode cX2_digits 10 = .ok (.invokestatic 57, 3) := dk_184 0 57 (dk_at dksX2_digits_0 10 rfl rfl)
theorem dX2_digits_13 : decode cX2_digits 13 = .ok (.ifCond .eq 44, 3) := dk_153 0 44 (dk_at dksX2_digits_0 13 rfl rfl)
theorem dX2_digits_16 : decode cX2_digits 16 = .ok (.iload_n 1, 1) := dk_27 (dk_at dksX2_digits_0 16 rfl rfl)
theorem dX2_digits_17 : decode cX2_digits 17 = .ok (.sipush 999, 3) := dk_17 3 231 (dk_at dksX2_digits_0 17 rfl rfl)
theorem dX2_digits_20 : decode cX2_digits 20 = .ok (.if_icmp .le 7, 3) := dk_164 0 7 (dk_at dksX2_digits_0 20 rfl rfl)
theorem dX2_digits_23 : decode cX2_digits 23 = .ok (.iload_n 1, 1) := dk_27 (dk_at dksX2_digits_0 23 rfl rfl)
theorem dX2_digits_24 : decode cX2_digits 24 = .ok (.goto 19, 3) := dk_167 0 19 (dk_at dksX2_digits_1 0 rfl rfl)
theorem dX2_digits_27 : decode cX2_digits 27 = .ok (.bipush 10, 2) := dk_16 10 (dk_at dksX2_digits_1 3 rfl rfl)
theorem dX2_digits_29 : decode cX2_digits 29 = .ok (.iload_n 1, 1) := dk_27 (dk_at dksX2_digits_1 5 rfl rfl)
theorem dX2_digits_30 : decode cX2_digits 30 = .ok (.imul, 1) := dk_104 (dk_at dksX2_digits_1 6 rfl rfl)
theorem dX2_digits_31 : decode cX2_digits 31 = .ok (.aload_n 0, 1) := dk_42 (dk_at dksX2_digits_1 7 rfl rfl)
theorem dX2_digits_32 : decode cX2_digits 32 = .ok (.aload_n 0, 1) := dk_42 (dk_at dksX2_digits_1 8 rfl rfl)
theorem dX2_digits_33 : decode cX2_digits 33 = .ok (.getfield 37, 3) := dk_180 0 37 (dk_at dksX2_digits_1 9 rfl rfl)
theorem dX2_digits_36 : decode cX2_digits 36 = .ok (.invokevirtual 40, 3) := dk_182 0 40 (dk_at dksX2_digits_1 12 rfl rfl)
theorem dX2_digits_39 : decode cX2_digits 39 = .ok (.iadd, 1) := dk_96 (dk_at dksX2_digits_1 15 rfl rfl)
theorem dX2_digits_40 : decode cX2_digits 40 = .ok (.bipush 48, 2) := dk_16 48 (dk_at dksX2_digits_1 16 rfl rfl)
theorem dX2_digits_42 : decode cX2_digits 42 = .ok (.isub, 1) := dk_100 (dk_at dksX2_digits_1 18 rfl rfl)
theorem dX2_digits_43 : decode cX2_digits 43 = .ok (.istore_n 1, 1) := dk_60 (dk_at dksX2_digits_1 19 rfl rfl)
theorem dX2_digits_44 : decode cX2_digits 44 = .ok (.aload_n 0, 1) := dk_42 (dk_at dksX2_digits_1 20 rfl rfl)
theorem dX2_digits_45 : decode cX2_digits 45 = .ok (.dup, 1) := dk_89 (dk_at dksX2_digits_1 21 rfl rfl)
theorem dX2_digits_46 : decode cX2_digits 46 = .ok (.getfield 37, 3) := dk_180 0 37 (dk_at dksX2_digits_2 0 rfl rfl)
theorem dX2_digits_49 : decode cX2_digits 49 = .ok (.iconst 1, 1) := dk_4 (dk_at dksX2_digits_2 3 rfl rfl)
theorem dX2_digits_50 : decode cX2_digits 50 = .ok (.iadd, 1) := dk_96 (dk_at dksX2_digits_2 4 rfl rfl)
theorem dX2_digits_51 : decode cX2_digits 51 = .ok (.putfield 37, 3) := dk_181 0 37 (dk_at dksX2_digits_2 5 rfl rfl)
theorem dX2_digits_54 : decode cX2_digits 54 = .ok (.goto (-52), 3) := dk_167 255 204 (dk_at dksX2_digits_2 8 rfl rfl)
theorem dX2_digits_57 : decode cX2_digits 57 = .ok (.aload_n 0, 1) := dk_42 (dk_at dksX2_digits_2 11 rfl rfl)
theorem dX2_digits_58 : decode cX2_digits 58 = .ok (.iconst 1, 1) := dk_4 (dk_at dksX2_digits_2 12 rfl rfl)
theorem dX2_digits_59 : decode cX2_digits 59 = .ok (.putfield 47, 3) := dk_181 0 47 (dk_at dksX2_digits_2 13 rfl rfl)
theorem dX2_digits_62 : decode cX2_digits 62 = .ok (.aload_n 0, 1) := dk_42 (dk_at dksX2_digits_2 16 rfl rfl)
theorem dX2_digits_63 : decode cX2_digits 63 = .ok (.iload_n 1, 1) := dk_27 (dk_at dksX2_digits_2 17 rfl rfl)
theorem dX2_digits_64 : decode cX2_digits 64 = .ok (.putfield 67, 3) := dk_181 0 67 (dk_at dksX2_digits_2 18 rfl rfl)
theorem dX2_digits_67 : decode cX2_digits 67 = .ok (.aload_n 0, 1) := dk_42 (dk_at dksX2_digits_2 21 rfl rfl)
theorem dX2_digits_68 : decode cX2_digits 68 = .ok (.iload_n 1, 1) := dk_27 (dk_at dksX2_digits_2 22 rfl rfl)
theorem dX2_digits_69 : decode cX2_digits 69 = .ok (.sipush 999, 3) := dk_17 3 231 (dk_at dksX2_digits_3 0 rfl rfl)
theorem dX2_digits_72 : decode cX2_digits 72 = .ok (.if_icmp .gt 7, 3) := dk_163 0 7 (dk_at dksX2_digits_3 3 rfl rfl)
theorem dX2_digits_75 : decode cX2_digits 75 = .ok (.iconst 1, 1) := dk_4 (dk_at dksX2_digits_3 6 rfl rfl)
theorem dX2_digits_76 : decode cX2_digits 76 = .ok (.goto 4, 3) := dk_167 0 4 (dk_at dksX2_digits_3 7 rfl rfl)
theorem dX2_digits_79 : decode cX2_digits 79 = .ok (.iconst 0, 1) := dk_3 (dk_at dksX2_digits_3 10 rfl rfl)
theorem dX2_digits_80 : decode cX2_digits 80 = .ok (.invokevirtual 63, 3) := dk_182 0 63 (dk_at dksX2_digits_3 11 rfl rfl)
theorem dX2_digits_83 : decode cX2_digits 83 = .ok (.return_, 1) := dk_177 (dk_at dksX2_digits_3 14 rfl rfl)
abbrev cX2_item : ByteArray := prog_8_method_17_code
def yX2_item : MethodName := ⟨RX2, "item", "()V"⟩
def dkwX2_item_3 : List UInt8 := [42, 182, 0, 117, 167, 0, 18, 42, 182, 0, 120, 167, 0, 11, 42, 42, 180, 0, 67, 182, 0, 122, 177]
abbrev dktX2_item_3 : List UInt8 := dkwX2_item_3 ++ []
def dkwX2_item_2 : List UInt8 := [171, 0, 0, 0, 0, 40, 0, 0, 0, 2, 0, 0, 0, 7, 0, 0, 0, 26, 0, 0, 0, 8, 0, 0, 0, 33]
abbrev dktX2_item_2 : List UInt8 := dkwX2_item_2 ++ dktX2_item_3
def dkwX2_item_1 : List UInt8 := [182, 0, 63, 42, 180, 0, 67]
abbrev dktX2_item_1 : List UInt8 := dkwX2_item_1 ++ dktX2_item_2
def dkwX2_item_0 : List UInt8 := [42, 42, 180, 0, 47, 5, 160, 0, 16, 42, 180, 0, 67, 16, 8, 163, 0, 7, 4, 167, 0, 4, 3]
abbrev dktX2_item_0 : List UInt8 := dkwX2_item_0 ++ dktX2_item_1
theorem dksX2_item_0 : cX2_item.data.toList.drop 0 = dktX2_item_0 := by decide +kernel
theorem dksX2_item_1 : cX2_item.data.toList.drop 23 = dktX2_item_1 := dk_seg dksX2_item_0 23 rfl rfl
theorem dksX2_item_2 : cX2_item.data.toList.drop 30 = dktX2_item_2 := dk_seg dksX2_item_1 7 rfl rfl
theorem dksX2_item_3 : cX2_item.data.toList.drop 56 = dktX2_item_3 := dk_seg dksX2_item_2 26 rfl rfl
theorem dX2_item_0 : decode cX2_item 0 = .ok (.aload_n 0, 1) := dk_42 (dk_at dksX2_item_0 0 rfl rfl)
theorem dX2_item_1 : decode cX2_item 1 = .ok (.aload_n 0, 1) := dk_42 (dk_at dksX2_item_0 1 rfl rfl)
theorem dX2_item_2 : decode cX2_item 2 = .ok (.getfield 47, 3) := dk_180 0 47 (dk_at dksX2_item_0 2 rfl rfl)
theorem dX2_item_5 : decode cX2_item 5 = .ok (.iconst 2, 1) := dk_5 (dk_at dksX2_item_0 5 rfl rfl)
theorem dX2_item_6 : decode cX2_item 6 = .ok (.if_icmp .ne 16, 3) := dk_160 0 16 (dk_at dksX2_item_0 6 rfl rfl)
theorem dX2_item_9 : decode cX2_item 9 = .ok (.aload_n 0, 1) := dk_42 (dk_at dksX2_item_0 9 rfl rfl)
theorem dX2_item_10 : decode cX2_item 10 = .ok (.getfield 67, 3) := dk_180 0 67 (dk_at dksX2_item_0 10 rfl rfl)
theorem dX2_item_13 : decode cX2_item 13 = .ok (.bipush 8, 2) := dk_16 8 (dk_at dksX2_item_0 13 rfl rfl)
theorem dX2_item_15 : decode cX2_item 15 = .ok (.if_icmp .gt 7, 3) := dk_163 0 7 (dk_at dksX2_item_0 15 rfl rfl)
theorem dX2_item_18 : decode cX2_item 18 = .ok (.iconst 1, 1) := dk_4 (dk_at dksX2_item_0 18 rfl rfl)
theorem dX2_item_19 : decode cX2_item 19 = .ok (.goto 4, 3) := dk_167 0 4 (dk_at dksX2_item_0 19 rfl rfl)
theorem dX2_item_22 : decode cX2_item 22 = .ok (.iconst 0, 1) := dk_3 (dk_at dksX2_item_0 22 rfl rfl)
theorem dX2_item_23 : decode cX2_item 23 = .ok (.invokevirtual 63, 3) := dk_182 0 63 (dk_at dksX2_item_1 0 rfl rfl)
theorem dX2_item_26 : decode cX2_item 26 = .ok (.aload_n 0, 1) := dk_42 (dk_at dksX2_item_1 3 rfl rfl)
theorem dX2_item_27 : decode cX2_item 27 = .ok (.getfield 67, 3) := dk_180 0 67 (dk_at dksX2_item_1 4 rfl rfl)
theorem dX2_item_30 : decode cX2_item 30 = .ok (.lookupswitch 40 #[(7, 26), (8, 33)], 26) := by decide +kernel
theorem dX2_item_56 : decode cX2_item 56 = .ok (.aload_n 0, 1) := dk_42 (dk_at dksX2_item_3 0 rfl rfl)
theorem dX2_item_57 : decode cX2_item 57 = .ok (.invokevirtual 117, 3) := dk_182 0 117 (dk_at dksX2_item_3 1 rfl rfl)
theorem dX2_item_60 : decode cX2_item 60 = .ok (.goto 18, 3) := dk_167 0 18 (dk_at dksX2_item_3 4 rfl rfl)
theorem dX2_item_63 : decode cX2_item 63 = .ok (.aload_n 0, 1) := dk_42 (dk_at dksX2_item_3 7 rfl rfl)
theorem dX2_item_64 : decode cX2_item 64 = .ok (.invokevirtual 120, 3) := dk_182 0 120 (dk_at dksX2_item_3 8 rfl rfl)
theorem dX2_item_67 : decode cX2_item 67 = .ok (.goto 11, 3) := dk_167 0 11 (dk_at dksX2_item_3 11 rfl rfl)
theorem dX2_item_70 : decode cX2_item 70 = .ok (.aload_n 0, 1) := dk_42 (dk_at dksX2_item_3 14 rfl rfl)
theorem dX2_item_71 : decode cX2_item 71 = .ok (.aload_n 0, 1) := dk_42 (dk_at dksX2_item_3 15 rfl rfl)
theorem dX2_item_72 : decode cX2_item 72 = .ok (.getfield 67, 3) := dk_180 0 67 (dk_at dksX2_item_3 16 rfl rfl)
theorem dX2_item_75 : decode cX2_item 75 = .ok (.invokevirtual 122, 3) := dk_182 0 122 (dk_at dksX2_item_3 19 rfl rfl)
theorem dX2_item_78 : decode cX2_item 78 = .ok (.return_, 1) := dk_177 (dk_at dksX2_item_3 22 rfl rfl)
abbrev cX2_storm : ByteArray := prog_8_method_15_code
def yX2_storm : MethodName := ⟨RX2, "storm", "()V"⟩
def dkwX2_storm_0 : List UInt8 := [42, 3, 8, 182, 0, 99, 60, 42, 180, 0, 25, 180, 0, 110, 27, 42, 3, 16, 99, 182, 0, 85, 79, 177]
abbrev dktX2_storm_0 : List UInt8 := dkwX2_storm_0 ++ []
theorem dksX2_storm_0 : cX2_storm.data.toList.drop 0 = dktX2_storm_0 := by decide +kernel
theorem dX2_storm_0 : decode cX2_storm 0 = .ok (.aload_n 0, 1) := dk_42 (dk_at dksX2_storm_0 0 rfl rfl)
theorem dX2_storm_1 : decode cX2_storm 1 = .ok (.iconst 0, 1) := dk_3 (dk_at dksX2_storm_0 1 rfl rfl)
theorem dX2_storm_2 : decode cX2_storm 2 = .ok (.iconst 5, 1) := dk_8 (dk_at dksX2_storm_0 2 rfl rfl)
theorem dX2_storm_3 : decode cX2_storm 3 = .ok (.invokevirtual 99, 3) := dk_182 0 99 (dk_at dksX2_storm_0 3 rfl rfl)
theorem dX2_storm_6 : decode cX2_storm 6 = .ok (.istore_n 1, 1) := dk_60 (dk_at dksX2_storm_0 6 rfl rfl)
theorem dX2_storm_7 : decode cX2_storm 7 = .ok (.aload_n 0, 1) := dk_42 (dk_at dksX2_storm_0 7 rfl rfl)
theorem dX2_storm_8 : decode cX2_storm 8 = .ok (.getfield 25, 3) := dk_180 0 25 (dk_at dksX2_storm_0 8 rfl rfl)
theorem dX2_storm_11 : decode cX2_storm 11 = .ok (.getfield 110, 3) := dk_180 0 110 (dk_at dksX2_storm_0 11 rfl rfl)
theorem dX2_storm_14 : decode cX2_storm 14 = .ok (.iload_n 1, 1) := dk_27 (dk_at dksX2_storm_0 14 rfl rfl)
theorem dX2_storm_15 : decode cX2_storm 15 = .ok (.aload_n 0, 1) := dk_42 (dk_at dksX2_storm_0 15 rfl rfl)
theorem dX2_storm_16 : decode cX2_storm 16 = .ok (.iconst 0, 1) := dk_3 (dk_at dksX2_storm_0 16 rfl rfl)
theorem dX2_storm_17 : decode cX2_storm 17 = .ok (.bipush 99, 2) := dk_16 99 (dk_at dksX2_storm_0 17 rfl rfl)
theorem dX2_storm_19 : decode cX2_storm 19 = .ok (.invokevirtual 85, 3) := dk_182 0 85 (dk_at dksX2_storm_0 19 rfl rfl)
theorem dX2_storm_22 : decode cX2_storm 22 = .ok (.iastore, 1) := dk_79 (dk_at dksX2_storm_0 22 rfl rfl)
theorem dX2_storm_23 : decode cX2_storm 23 = .ok (.return_, 1) := dk_177 (dk_at dksX2_storm_0 23 rfl rfl)
abbrev cX2_behind : ByteArray := prog_8_method_12_code
def yX2_behind : MethodName := ⟨RX2, "behind", "(II)I"⟩
def dkwX2_behind_0 : List UInt8 := [42, 182, 0, 82, 42, 27, 28, 182, 0, 85, 172]
abbrev dktX2_behind_0 : List UInt8 := dkwX2_behind_0 ++ []
theorem dksX2_behind_0 : cX2_behind.data.toList.drop 0 = dktX2_behind_0 := by decide +kernel
theorem dX2_behind_0 : decode cX2_behind 0 = .ok (.aload_n 0, 1) := dk_42 (dk_at dksX2_behind_0 0 rfl rfl)
theorem dX2_behind_1 : decode cX2_behind 1 = .ok (.invokevirtual 82, 3) := dk_182 0 82 (dk_at dksX2_behind_0 1 rfl rfl)
theorem dX2_behind_4 : decode cX2_behind 4 = .ok (.aload_n 0, 1) := dk_42 (dk_at dksX2_behind_0 4 rfl rfl)
theorem dX2_behind_5 : decode cX2_behind 5 = .ok (.iload_n 1, 1) := dk_27 (dk_at dksX2_behind_0 5 rfl rfl)
theorem dX2_behind_6 : decode cX2_behind 6 = .ok (.iload_n 2, 1) := dk_28 (dk_at dksX2_behind_0 6 rfl rfl)
theorem dX2_behind_7 : decode cX2_behind 7 = .ok (.invokevirtual 85, 3) := dk_182 0 85 (dk_at dksX2_behind_0 7 rfl rfl)
theorem dX2_behind_10 : decode cX2_behind 10 = .ok (.ireturn, 1) := dk_172 (dk_at dksX2_behind_0 10 rfl rfl)
abbrev cX2_number : ByteArray := prog_8_method_11_code
def yX2_number : MethodName := ⟨RX2, "number", "(II)I"⟩
def dkwX2_number_1 : List UInt8 := [167, 0, 4, 3, 182, 0, 63, 42, 180, 0, 67, 62, 42, 182, 0, 82, 29, 172]
abbrev dktX2_number_1 : List UInt8 := dkwX2_number_1 ++ []
def dkwX2_number_0 : List UInt8 := [42, 42, 180, 0, 47, 4, 160, 0, 19, 42, 180, 0, 67, 27, 28, 184, 0, 33, 153, 0, 7, 4]
abbrev dktX2_number_0 : List UInt8 := dkwX2_number_0 ++ dktX2_number_1
theorem dksX2_number_0 : cX2_number.data.toList.drop 0 = dktX2_number_0 := by decide +kernel
theorem dksX2_number_1 : cX2_number.data.toList.drop 22 = dktX2_number_1 := dk_seg dksX2_number_0 22 rfl rfl
theorem dX2_number_0 : decode cX2_number 0 = .ok (.aload_n 0, 1) := dk_42 (dk_at dksX2_number_0 0 rfl rfl)
theorem dX2_number_1 : decode cX2_number 1 = .ok (.aload_n 0, 1) := dk_42 (dk_at dksX2_number_0 1 rfl rfl)
theorem dX2_number_2 : decode cX2_number 2 = .ok (.getfield 47, 3) := dk_180 0 47 (dk_at dksX2_number_0 2 rfl rfl)
theorem dX2_number_5 : decode cX2_number 5 = .ok (.iconst 1, 1) := dk_4 (dk_at dksX2_number_0 5 rfl rfl)
theorem dX2_number_6 : decode cX2_number 6 = .ok (.if_icmp .ne 19, 3) := dk_160 0 19 (dk_at dksX2_number_0 6 rfl rfl)
theorem dX2_number_9 : decode cX2_number 9 = .ok (.aload_n 0, 1) := dk_42 (dk_at dksX2_number_0 9 rfl rfl)
theorem dX2_number_10 : decode cX2_number 10 = .ok (.getfield 67, 3) := dk_180 0 67 (dk_at dksX2_number_0 10 rfl rfl)
theorem dX2_number_13 : decode cX2_number 13 = .ok (.iload_n 1, 1) := dk_27 (dk_at dksX2_number_0 13 rfl rfl)
theorem dX2_number_14 : decode cX2_number 14 = .ok (.iload_n 2, 1) := dk_28 (dk_at dksX2_number_0 14 rfl rfl)
theorem dX2_number_15 : decode cX2_number 15 = .ok (.invokestatic 33, 3) := dk_184 0 33 (dk_at dksX2_number_0 15 rfl rfl)
theorem dX2_number_18 : decode cX2_number 18 = .ok (.ifCond .eq 7, 3) := dk_153 0 7 (dk_at dksX2_number_0 18 rfl rfl)
theorem dX2_number_21 : decode cX2_number 21 = .ok (.iconst 1, 1) := dk_4 (dk_at dksX2_number_0 21 rfl rfl)
theorem dX2_number_22 : decode cX2_number 22 = .ok (.goto 4, 3) := dk_167 0 4 (dk_at dksX2_number_1 0 rfl rfl)
theorem dX2_number_25 : decode cX2_number 25 = .ok (.iconst 0, 1) := dk_3 (dk_at dksX2_number_1 3 rfl rfl)
theorem dX2_number_26 : decode cX2_number 26 = .ok (.invokevirtual 63, 3) := dk_182 0 63 (dk_at dksX2_number_1 4 rfl rfl)
theorem dX2_number_29 : decode cX2_number 29 = .ok (.aload_n 0, 1) := dk_42 (dk_at dksX2_number_1 7 rfl rfl)
theorem dX2_number_30 : decode cX2_number 30 = .ok (.getfield 67, 3) := dk_180 0 67 (dk_at dksX2_number_1 8 rfl rfl)
theorem dX2_number_33 : decode cX2_number 33 = .ok (.istore_n 3, 1) := dk_62 (dk_at dksX2_number_1 11 rfl rfl)
theorem dX2_number_34 : decode cX2_number 34 = .ok (.aload_n 0, 1) := dk_42 (dk_at dksX2_number_1 12 rfl rfl)
theorem dX2_number_35 : decode cX2_number 35 = .ok (.invokevirtual 82, 3) := dk_182 0 82 (dk_at dksX2_number_1 13 rfl rfl)
theorem dX2_number_38 : decode cX2_number 38 = .ok (.iload_n 3, 1) := dk_29 (dk_at dksX2_number_1 16 rfl rfl)
theorem dX2_number_39 : decode cX2_number 39 = .ok (.ireturn, 1) := dk_172 (dk_at dksX2_number_1 17 rfl rfl)
abbrev cX2_frost : ByteArray := prog_8_method_16_code
def yX2_frost : MethodName := ⟨RX2, "frost", "()V"⟩
def dkwX2_frost_0 : List UInt8 := [42, 3, 8, 182, 0, 99, 60, 42, 180, 0, 25, 180, 0, 114, 27, 42, 3, 16, 9, 182, 0, 85, 79, 177]
abbrev dktX2_frost_0 : List UInt8 := dkwX2_frost_0 ++ []
theorem dksX2_frost_0 : cX2_frost.data.toList.drop 0 = dktX2_frost_0 := by decide +kernel
theorem dX2_frost_0 : decode cX2_frost 0 = .ok (.aload_n 0, 1) := dk_42 (dk_at dksX2_frost_0 0 rfl rfl)
theorem dX2_frost_1 : decode cX2_frost 1 = .ok (.iconst 0, 1) := dk_3 (dk_at dksX2_frost_0 1 rfl rfl)
theorem dX2_frost_2 : decode cX2_frost 2 = .ok (.iconst 5, 1) := dk_8 (dk_at dksX2_frost_0 2 rfl rfl)
theorem dX2_frost_3 : decode cX2_frost 3 = .ok (.invokevirtual 99, 3) := dk_182 0 99 (dk_at dksX2_frost_0 3 rfl rfl)
theorem dX2_frost_6 : decode cX2_frost 6 = .ok (.istore_n 1, 1) := dk_60 (dk_at dksX2_frost_0 6 rfl rfl)
theorem dX2_frost_7 : decode cX2_frost 7 = .ok (.aload_n 0, 1) := dk_42 (dk_at dksX2_frost_0 7 rfl rfl)
theorem dX2_frost_8 : decode cX2_frost 8 = .ok (.getfield 25, 3) := dk_180 0 25 (dk_at dksX2_frost_0 8 rfl rfl)
theorem dX2_frost_11 : decode cX2_frost 11 = .ok (.getfield 114, 3) := dk_180 0 114 (dk_at dksX2_frost_0 11 rfl rfl)
theorem dX2_frost_14 : decode cX2_frost 14 = .ok (.iload_n 1, 1) := dk_27 (dk_at dksX2_frost_0 14 rfl rfl)
theorem dX2_frost_15 : decode cX2_frost 15 = .ok (.aload_n 0, 1) := dk_42 (dk_at dksX2_frost_0 15 rfl rfl)
theorem dX2_frost_16 : decode cX2_frost 16 = .ok (.iconst 0, 1) := dk_3 (dk_at dksX2_frost_0 16 rfl rfl)
theorem dX2_frost_17 : decode cX2_frost 17 = .ok (.bipush 9, 2) := dk_16 9 (dk_at dksX2_frost_0 17 rfl rfl)
theorem dX2_frost_19 : decode cX2_frost 19 = .ok (.invokevirtual 85, 3) := dk_182 0 85 (dk_at dksX2_frost_0 19 rfl rfl)
theorem dX2_frost_22 : decode cX2_frost 22 = .ok (.iastore, 1) := dk_79 (dk_at dksX2_frost_0 22 rfl rfl)
theorem dX2_frost_23 : decode cX2_frost 23 = .ok (.return_, 1) := dk_177 (dk_at dksX2_frost_0 23 rfl rfl)
abbrev cX2_cask : ByteArray := prog_8_method_14_code
def yX2_cask : MethodName := ⟨RX2, "cask", "(I)V"⟩
def dkwX2_cask_3 : List UInt8 := [182, 0, 106, 42, 16, 12, 7, 17, 3, 231, 182, 0, 106, 177]
abbrev dktX2_cask_3 : List UInt8 := dkwX2_cask_3 ++ []
def dkwX2_cask_2 : List UInt8 := [167, 0, 4, 3, 182, 0, 102, 42, 16, 10, 5, 17, 3, 231, 182, 0, 106, 42, 16, 11, 6, 16, 11]
abbrev dktX2_cask_2 : List UInt8 := dkwX2_cask_2 ++ dktX2_cask_3
def dkwX2_cask_1 : List UInt8 := [182, 0, 82, 42, 180, 0, 25, 27, 42, 16, 9, 182, 0, 89, 153, 0, 12, 42, 3, 8, 182, 0, 99]
abbrev dktX2_cask_1 : List UInt8 := dkwX2_cask_1 ++ dktX2_cask_2
def dkwX2_cask_0 : List UInt8 := [42, 42, 180, 0, 25, 180, 0, 96, 16, 8, 162, 0, 7, 4, 167, 0, 4, 3, 182, 0, 63, 42]
abbrev dktX2_cask_0 : List UInt8 := dkwX2_cask_0 ++ dktX2_cask_1
theorem dksX2_cask_0 : cX2_cask.data.toList.drop 0 = dktX2_cask_0 := by decide +kernel
theorem dksX2_cask_1 : cX2_cask.data.toList.drop 22 = dktX2_cask_1 := dk_seg dksX2_cask_0 22 rfl rfl
theorem dksX2_cask_2 : cX2_cask.data.toList.drop 45 = dktX2_cask_2 := dk_seg dksX2_cask_1 23 rfl rfl
theorem dksX2_cask_3 : cX2_cask.data.toList.drop 68 = dktX2_cask_3 := dk_seg dksX2_cask_2 23 rfl rfl
theorem dX2_cask_0 : decode cX2_cask 0 = .ok (.aload_n 0, 1) := dk_42 (dk_at dksX2_cask_0 0 rfl rfl)
theorem dX2_cask_1 : decode cX2_cask 1 = .ok (.aload_n 0, 1) := dk_42 (dk_at dksX2_cask_0 1 rfl rfl)
theorem dX2_cask_2 : decode cX2_cask 2 = .ok (.getfield 25, 3) := dk_180 0 25 (dk_at dksX2_cask_0 2 rfl rfl)
theorem dX2_cask_5 : decode cX2_cask 5 = .ok (.getfield 96, 3) := dk_180 0 96 (dk_at dksX2_cask_0 5 rfl rfl)
theorem dX2_cask_8 : decode cX2_cask 8 = .ok (.bipush 8, 2) := dk_16 8 (dk_at dksX2_cask_0 8 rfl rfl)
theorem dX2_cask_10 : decode cX2_cask 10 = .ok (.if_icmp .ge 7, 3) := dk_162 0 7 (dk_at dksX2_cask_0 10 rfl rfl)
theorem dX2_cask_13 : decode cX2_cask 13 = .ok (.iconst 1, 1) := dk_4 (dk_at dksX2_cask_0 13 rfl rfl)
theorem dX2_cask_14 : decode cX2_cask 14 = .ok (.goto 4, 3) := dk_167 0 4 (dk_at dksX2_cask_0 14 rfl rfl)
theorem dX2_cask_17 : decode cX2_cask 17 = .ok (.iconst 0, 1) := dk_3 (dk_at dksX2_cask_0 17 rfl rfl)
theorem dX2_cask_18 : decode cX2_cask 18 = .ok (.invokevirtual 63, 3) := dk_182 0 63 (dk_at dksX2_cask_0 18 rfl rfl)
theorem dX2_cask_21 : decode cX2_cask 21 = .ok (.aload_n 0, 1) := dk_42 (dk_at dksX2_cask_0 21 rfl rfl)
theorem dX2_cask_22 : decode cX2_cask 22 = .ok (.invokevirtual 82, 3) := dk_182 0 82 (dk_at dksX2_cask_1 0 rfl rfl)
theorem dX2_cask_25 : decode cX2_cask 25 = .ok (.aload_n 0, 1) := dk_42 (dk_at dksX2_cask_1 3 rfl rfl)
theorem dX2_cask_26 : decode cX2_cask 26 = .ok (.getfield 25, 3) := dk_180 0 25 (dk_at dksX2_cask_1 4 rfl rfl)
theorem dX2_cask_29 : decode cX2_cask 29 = .ok (.iload_n 1, 1) := dk_27 (dk_at dksX2_cask_1 7 rfl rfl)
theorem dX2_cask_30 : decode cX2_cask 30 = .ok (.aload_n 0, 1) := dk_42 (dk_at dksX2_cask_1 8 rfl rfl)
theorem dX2_cask_31 : decode cX2_cask 31 = .ok (.bipush 9, 2) := dk_16 9 (dk_at dksX2_cask_1 9 rfl rfl)
theorem dX2_cask_33 : decode cX2_cask 33 = .ok (.invokevirtual 89, 3) := dk_182 0 89 (dk_at dksX2_cask_1 11 rfl rfl)
theorem dX2_cask_36 : decode cX2_cask 36 = .ok (.ifCond .eq 12, 3) := dk_153 0 12 (dk_at dksX2_cask_1 14 rfl rfl)
theorem dX2_cask_39 : decode cX2_cask 39 = .ok (.aload_n 0, 1) := dk_42 (dk_at dksX2_cask_1 17 rfl rfl)
theorem dX2_cask_40 : decode cX2_cask 40 = .ok (.iconst 0, 1) := dk_3 (dk_at dksX2_cask_1 18 rfl rfl)
theorem dX2_cask_41 : decode cX2_cask 41 = .ok (.iconst 5, 1) := dk_8 (dk_at dksX2_cask_1 19 rfl rfl)
theorem dX2_cask_42 : decode cX2_cask 42 = .ok (.invokevirtual 99, 3) := dk_182 0 99 (dk_at dksX2_cask_1 20 rfl rfl)
theorem dX2_cask_45 : decode cX2_cask 45 = .ok (.goto 4, 3) := dk_167 0 4 (dk_at dksX2_cask_2 0 rfl rfl)
theorem dX2_cask_48 : decode cX2_cask 48 = .ok (.iconst 0, 1) := dk_3 (dk_at dksX2_cask_2 3 rfl rfl)
theorem dX2_cask_49 : decode cX2_cask 49 = .ok (.invokevirtual 102, 3) := dk_182 0 102 (dk_at dksX2_cask_2 4 rfl rfl)
theorem dX2_cask_52 : decode cX2_cask 52 = .ok (.aload_n 0, 1) := dk_42 (dk_at dksX2_cask_2 7 rfl rfl)
theorem dX2_cask_53 : decode cX2_cask 53 = .ok (.bipush 10, 2) := dk_16 10 (dk_at dksX2_cask_2 8 rfl rfl)
theorem dX2_cask_55 : decode cX2_cask 55 = .ok (.iconst 2, 1) := dk_5 (dk_at dksX2_cask_2 10 rfl rfl)
theorem dX2_cask_56 : decode cX2_cask 56 = .ok (.sipush 999, 3) := dk_17 3 231 (dk_at dksX2_cask_2 11 rfl rfl)
theorem dX2_cask_59 : decode cX2_cask 59 = .ok (.invokevirtual 106, 3) := dk_182 0 106 (dk_at dksX2_cask_2 14 rfl rfl)
theorem dX2_cask_62 : decode cX2_cask 62 = .ok (.aload_n 0, 1) := dk_42 (dk_at dksX2_cask_2 17 rfl rfl)
theorem dX2_cask_63 : decode cX2_cask 63 = .ok (.bipush 11, 2) := dk_16 11 (dk_at dksX2_cask_2 18 rfl rfl)
theorem dX2_cask_65 : decode cX2_cask 65 = .ok (.iconst 3, 1) := dk_6 (dk_at dksX2_cask_2 20 rfl rfl)
theorem dX2_cask_66 : decode cX2_cask 66 = .ok (.bipush 11, 2) := dk_16 11 (dk_at dksX2_cask_2 21 rfl rfl)
theorem dX2_cask_68 : decode cX2_cask 68 = .ok (.invokevirtual 106, 3) := dk_182 0 106 (dk_at dksX2_cask_3 0 rfl rfl)
theorem dX2_cask_71 : decode cX2_cask 71 = .ok (.aload_n 0, 1) := dk_42 (dk_at dksX2_cask_3 3 rfl rfl)
theorem dX2_cask_72 : decode cX2_cask 72 = .ok (.bipush 12, 2) := dk_16 12 (dk_at dksX2_cask_3 4 rfl rfl)
theorem dX2_cask_74 : decode cX2_cask 74 = .ok (.iconst 4, 1) := dk_7 (dk_at dksX2_cask_3 6 rfl rfl)
theorem dX2_cask_75 : decode cX2_cask 75 = .ok (.sipush 999, 3) := dk_17 3 231 (dk_at dksX2_cask_3 7 rfl rfl)
theorem dX2_cask_78 : decode cX2_cask 78 = .ok (.invokevirtual 106, 3) := dk_182 0 106 (dk_at dksX2_cask_3 10 rfl rfl)
theorem dX2_cask_81 : decode cX2_cask 81 = .ok (.return_, 1) := dk_177 (dk_at dksX2_cask_3 13 rfl rfl)
abbrev cX2_isWord : ByteArray := prog_8_method_10_code
def yX2_isWord : MethodName := ⟨RX2, "isWord", "(I)Z"⟩
def dkwX2_isWord_0 : List UInt8 := [42, 180, 0, 47, 5, 160, 0, 15, 42, 180, 0, 67, 27, 160, 0, 7, 4, 167, 0, 4, 3, 172]
abbrev dktX2_isWord_0 : List UInt8 := dkwX2_isWord_0 ++ []
theorem dksX2_isWord_0 : cX2_isWord.data.toList.drop 0 = dktX2_isWord_0 := by decide +kernel
theorem dX2_isWord_0 : decode cX2_isWord 0 = .ok (.aload_n 0, 1) := dk_42 (dk_at dksX2_isWord_0 0 rfl rfl)
theorem dX2_isWord_1 : decode cX2_isWord 1 = .ok (.getfield 47, 3) := dk_180 0 47 (dk_at dksX2_isWord_0 1 rfl rfl)
theorem dX2_isWord_4 : decode cX2_isWord 4 = .ok (.iconst 2, 1) := dk_5 (dk_at dksX2_isWord_0 4 rfl rfl)
theorem dX2_isWord_5 : decode cX2_isWord 5 = .ok (.if_icmp .ne 15, 3) := dk_160 0 15 (dk_at dksX2_isWord_0 5 rfl rfl)
theorem dX2_isWord_8 : decode cX2_isWord 8 = .ok (.aload_n 0, 1) := dk_42 (dk_at dksX2_isWord_0 8 rfl rfl)
theorem dX2_isWord_9 : decode cX2_isWord 9 = .ok (.getfield 67, 3) := dk_180 0 67 (dk_at dksX2_isWord_0 9 rfl rfl)
theorem dX2_isWord_12 : decode cX2_isWord 12 = .ok (.iload_n 1, 1) := dk_27 (dk_at dksX2_isWord_0 12 rfl rfl)
theorem dX2_isWord_13 : decode cX2_isWord 13 = .ok (.if_icmp .ne 7, 3) := dk_160 0 7 (dk_at dksX2_isWord_0 13 rfl rfl)
theorem dX2_isWord_16 : decode cX2_isWord 16 = .ok (.iconst 1, 1) := dk_4 (dk_at dksX2_isWord_0 16 rfl rfl)
theorem dX2_isWord_17 : decode cX2_isWord 17 = .ok (.goto 4, 3) := dk_167 0 4 (dk_at dksX2_isWord_0 17 rfl rfl)
theorem dX2_isWord_20 : decode cX2_isWord 20 = .ok (.iconst 0, 1) := dk_3 (dk_at dksX2_isWord_0 20 rfl rfl)
theorem dX2_isWord_21 : decode cX2_isWord 21 = .ok (.ireturn, 1) := dk_172 (dk_at dksX2_isWord_0 21 rfl rfl)
abbrev cX2_perhaps : ByteArray := prog_8_method_13_code
def yX2_perhaps : MethodName := ⟨RX2, "perhaps", "(III)V"⟩
def dkwX2_perhaps_1 : List UInt8 := [4, 100, 42, 3, 29, 182, 0, 99, 79, 177]
abbrev dktX2_perhaps_1 : List UInt8 := dkwX2_perhaps_1 ++ []
def dkwX2_perhaps_0 : List UInt8 := [42, 27, 182, 0, 89, 153, 0, 28, 42, 180, 0, 25, 180, 0, 92, 28, 50, 42, 180, 0, 25, 180, 0, 96]
abbrev dktX2_perhaps_0 : List UInt8 := dkwX2_perhaps_0 ++ dktX2_perhaps_1
theorem dksX2_perhaps_0 : cX2_perhaps.data.toList.drop 0 = dktX2_perhaps_0 := by decide +kernel
theorem dksX2_perhaps_1 : cX2_perhaps.data.toList.drop 24 = dktX2_perhaps_1 := dk_seg dksX2_perhaps_0 24 rfl rfl
theorem dX2_perhaps_0 : decode cX2_perhaps 0 = .ok (.aload_n 0, 1) := dk_42 (dk_at dksX2_perhaps_0 0 rfl rfl)
theorem dX2_perhaps_1 : decode cX2_perhaps 1 = .ok (.iload_n 1, 1) := dk_27 (dk_at dksX2_perhaps_0 1 rfl rfl)
theorem dX2_perhaps_2 : decode cX2_perhaps 2 = .ok (.invokevirtual 89, 3) := dk_182 0 89 (dk_at dksX2_perhaps_0 2 rfl rfl)
theorem dX2_perhaps_5 : decode cX2_perhaps 5 = .ok (.ifCond .eq 28, 3) := dk_153 0 28 (dk_at dksX2_perhaps_0 5 rfl rfl)
theorem dX2_perhaps_8 : decode cX2_perhaps 8 = .ok (.aload_n 0, 1) := dk_42 (dk_at dksX2_perhaps_0 8 rfl rfl)
theorem dX2_perhaps_9 : decode cX2_perhaps 9 = .ok (.getfield 25, 3) := dk_180 0 25 (dk_at dksX2_perhaps_0 9 rfl rfl)
theorem dX2_perhaps_12 : decode cX2_perhaps 12 = .ok (.getfield 92, 3) := dk_180 0 92 (dk_at dksX2_perhaps_0 12 rfl rfl)
theorem dX2_perhaps_15 : decode cX2_perhaps 15 = .ok (.iload_n 2, 1) := dk_28 (dk_at dksX2_perhaps_0 15 rfl rfl)
theorem dX2_perhaps_16 : decode cX2_perhaps 16 = .ok (.aaload, 1) := dk_50 (dk_at dksX2_perhaps_0 16 rfl rfl)
theorem dX2_perhaps_17 : decode cX2_perhaps 17 = .ok (.aload_n 0, 1) := dk_42 (dk_at dksX2_perhaps_0 17 rfl rfl)
theorem dX2_perhaps_18 : decode cX2_perhaps 18 = .ok (.getfield 25, 3) := dk_180 0 25 (dk_at dksX2_perhaps_0 18 rfl rfl)
theorem dX2_perhaps_21 : decode cX2_perhaps 21 = .ok (.getfield 96, 3) := dk_180 0 96 (dk_at dksX2_perhaps_0 21 rfl rfl)
theorem dX2_perhaps_24 : decode cX2_perhaps 24 = .ok (.iconst 1, 1) := dk_4 (dk_at dksX2_perhaps_1 0 rfl rfl)
theorem dX2_perhaps_25 : decode cX2_perhaps 25 = .ok (.isub, 1) := dk_100 (dk_at dksX2_perhaps_1 1 rfl rfl)
theorem dX2_perhaps_26 : decode cX2_perhaps 26 = .ok (.aload_n 0, 1) := dk_42 (dk_at dksX2_perhaps_1 2 rfl rfl)
theorem dX2_perhaps_27 : decode cX2_perhaps 27 = .ok (.iconst 0, 1) := dk_3 (dk_at dksX2_perhaps_1 3 rfl rfl)
theorem dX2_perhaps_28 : decode cX2_perhaps 28 = .ok (.iload_n 3, 1) := dk_29 (dk_at dksX2_perhaps_1 4 rfl rfl)
theorem dX2_perhaps_29 : decode cX2_perhaps 29 = .ok (.invokevirtual 99, 3) := dk_182 0 99 (dk_at dksX2_perhaps_1 5 rfl rfl)
theorem dX2_perhaps_32 : decode cX2_perhaps 32 = .ok (.iastore, 1) := dk_79 (dk_at dksX2_perhaps_1 8 rfl rfl)
theorem dX2_perhaps_33 : decode cX2_perhaps 33 = .ok (.return_, 1) := dk_177 (dk_at dksX2_perhaps_1 9 rfl rfl)
theorem q106 : (Jvm.Cond.initialized "ThunderCasks$Reader") ∈ lw_all := lw_g (lw_at lw_m1 6 rfl) rfl
theorem q202 : (Jvm.Cond.instantiable "ThunderCasks$Reader" (8 : Nat)) ∈ lw_all := lw_g (lw_at lw_m1 102 rfl) rfl
theorem q204 : (Jvm.Cond.instanceMethod ({ cls := "ThunderCasks$Reader", name := "<init>", desc := "()V" } : Jvm.MethodName)) ∈ lw_all := lw_g (lw_at lw_m1 104 rfl) rfl
theorem q205 : (Jvm.Cond.code ({ cls := "ThunderCasks$Reader", name := "<init>", desc := "()V" } : Jvm.MethodName) prog_8_method_1_code (1 : Nat) (Option.none : Option Jvm.ClassFile.FieldType)) ∈ lw_all := lw_g (lw_at lw_m1 105 rfl) rfl
theorem q206 : (Jvm.Cond.methodLink "ThunderCasks$Reader" (3 : Nat) ({ cls := "java/lang/Object", name := "<init>", desc := "()V" } : Jvm.MethodName)) ∈ lw_all := lw_g (lw_at lw_m1 106 rfl) rfl
theorem q207 : (Jvm.Cond.classLink "ThunderCasks$Reader" (9 : Nat) "ThunderCasks$Wrong") ∈ lw_all := lw_g (lw_at lw_m1 107 rfl) rfl
theorem q216 : (Jvm.Cond.methodLink "ThunderCasks$Reader" (11 : Nat) ({ cls := "ThunderCasks$Wrong", name := "<init>", desc := "()V" } : Jvm.MethodName)) ∈ lw_all := lw_g (lw_at lw_m1 116 rfl) rfl
theorem q222 : (Jvm.Cond.classLink "ThunderCasks$Reader" (22 : Nat) "ThunderCasks$World") ∈ lw_all := lw_g (lw_at lw_m1 122 rfl) rfl
theorem q224 : (Jvm.Cond.methodLink "ThunderCasks$Reader" (24 : Nat) ({ cls := "ThunderCasks$World", name := "<init>", desc := "()V" } : Jvm.MethodName)) ∈ lw_all := lw_g (lw_at lw_m1 124 rfl) rfl
theorem q232 : (Jvm.Cond.fieldLinkNest "ThunderCasks$Reader" (114 : Nat) "ThunderCasks$World" "frost" "[I" "ThunderCasks") ∈ lw_tbl := lw_at lw_m1 132 rfl
theorem q235 : (Jvm.Cond.fieldLinkNest "ThunderCasks$Reader" (110 : Nat) "ThunderCasks$World" "list" "[I" "ThunderCasks") ∈ lw_tbl := lw_at lw_m1 135 rfl
theorem q240 : (Jvm.Cond.fieldLinkNest "ThunderCasks$Reader" (96 : Nat) "ThunderCasks$World" "casks" "I" "ThunderCasks") ∈ lw_tbl := lw_at lw_m1 140 rfl
theorem q245 : (Jvm.Cond.fieldLinkNest "ThunderCasks$Reader" (92 : Nat) "ThunderCasks$World" "cask" "[[I" "ThunderCasks") ∈ lw_tbl := lw_at lw_m1 145 rfl
theorem q271 : (Jvm.Cond.fieldLink "ThunderCasks$Reader" (12 : Nat) "ThunderCasks$Reader" "wrong" "LThunderCasks$Wrong;") ∈ lw_all := lw_g (lw_at lw_m1 171 rfl) rfl
theorem q272 : (Jvm.Cond.fieldLink "ThunderCasks$Reader" (18 : Nat) "ThunderCasks$Reader" "tape" "[B") ∈ lw_all := lw_g (lw_at lw_m1 172 rfl) rfl
theorem q274 : (Jvm.Cond.fieldLink "ThunderCasks$Reader" (25 : Nat) "ThunderCasks$Reader" "told" "LThunderCasks$World;") ∈ lw_all := lw_g (lw_at lw_m1 174 rfl) rfl
theorem q276 : (Jvm.Cond.fieldLink "ThunderCasks$Reader" (29 : Nat) "ThunderCasks$Reader" "length" "I") ∈ lw_all := lw_g (lw_at lw_m1 176 rfl) rfl
theorem q278 : (Jvm.Cond.fieldLink "ThunderCasks$Reader" (37 : Nat) "ThunderCasks$Reader" "at" "I") ∈ lw_all := lw_g (lw_at lw_m1 178 rfl) rfl
theorem q279 : (Jvm.Cond.fieldLink "ThunderCasks$Reader" (44 : Nat) "ThunderCasks$Reader" "begin" "I") ∈ lw_all := lw_g (lw_at lw_m1 179 rfl) rfl
theorem q281 : (Jvm.Cond.fieldLink "ThunderCasks$Reader" (47 : Nat) "ThunderCasks$Reader" "token" "I") ∈ lw_all := lw_g (lw_at lw_m1 181 rfl) rfl
theorem q282 : (Jvm.Cond.fieldLink "ThunderCasks$Reader" (67 : Nat) "ThunderCasks$Reader" "value" "I") ∈ lw_all := lw_g (lw_at lw_m1 182 rfl) rfl
theorem q283 : (Jvm.Cond.laysFinal "ThunderCasks$Reader" "ThunderCasks$Reader" "wrong" "LThunderCasks$Wrong;") ∈ lw_all := lw_g (lw_at lw_m1 183 rfl) rfl
theorem q284 : (Jvm.Cond.soleField "ThunderCasks$Reader" "wrong") ∈ lw_all := lw_g (lw_at lw_m1 184 rfl) rfl
theorem q285 : (Jvm.Cond.laysFinal "ThunderCasks$Reader" "ThunderCasks$Reader" "tape" "[B") ∈ lw_all := lw_g (lw_at lw_m1 185 rfl) rfl
theorem q286 : (Jvm.Cond.soleField "ThunderCasks$Reader" "tape") ∈ lw_all := lw_g (lw_at lw_m1 186 rfl) rfl
theorem q287 : (Jvm.Cond.laysFinal "ThunderCasks$Reader" "ThunderCasks$Reader" "told" "LThunderCasks$World;") ∈ lw_all := lw_g (lw_at lw_m1 187 rfl) rfl
theorem q288 : (Jvm.Cond.soleField "ThunderCasks$Reader" "told") ∈ lw_all := lw_g (lw_at lw_m1 188 rfl) rfl
theorem q289 : (Jvm.Cond.lays "ThunderCasks$Reader" "ThunderCasks$Reader" "length" "I") ∈ lw_all := lw_g (lw_at lw_m1 189 rfl) rfl
theorem q290 : (Jvm.Cond.soleField "ThunderCasks$Reader" "length") ∈ lw_all := lw_g (lw_at lw_m1 190 rfl) rfl
theorem q291 : (Jvm.Cond.lays "ThunderCasks$Reader" "ThunderCasks$Reader" "at" "I") ∈ lw_all := lw_g (lw_at lw_m1 191 rfl) rfl
theorem q292 : (Jvm.Cond.soleField "ThunderCasks$Reader" "at") ∈ lw_all := lw_g (lw_at lw_m1 192 rfl) rfl
theorem q293 : (Jvm.Cond.lays "ThunderCasks$Reader" "ThunderCasks$Reader" "begin" "I") ∈ lw_all := lw_g (lw_at lw_m1 193 rfl) rfl
theorem q294 : (Jvm.Cond.soleField "ThunderCasks$Reader" "begin") ∈ lw_all := lw_g (lw_at lw_m1 194 rfl) rfl
theorem q295 : (Jvm.Cond.lays "ThunderCasks$Reader" "ThunderCasks$Reader" "token" "I") ∈ lw_all := lw_g (lw_at lw_m1 195 rfl) rfl
theorem q296 : (Jvm.Cond.soleField "ThunderCasks$Reader" "token") ∈ lw_all := lw_g (lw_at lw_m1 196 rfl) rfl
theorem q297 : (Jvm.Cond.lays "ThunderCasks$Reader" "ThunderCasks$Reader" "value" "I") ∈ lw_all := lw_g (lw_at lw_m1 197 rfl) rfl
theorem q298 : (Jvm.Cond.soleField "ThunderCasks$Reader" "value") ∈ lw_all := lw_g (lw_at lw_m1 198 rfl) rfl
theorem q299 : (Jvm.Cond.superclass "ThunderCasks$Reader" "java/lang/Object") ∈ lw_all := lw_g (lw_at lw_m1 199 rfl) rfl
theorem q1023 : (Jvm.Cond.instanceMethod ({ cls := "ThunderCasks$Reader", name := "whole", desc := "()I" } : Jvm.MethodName)) ∈ lw_all := lw_g (lw_at lw_m4 203 rfl) rfl
theorem q1024 : (Jvm.Cond.selects "ThunderCasks$Reader" ({ cls := "ThunderCasks$Reader", name := "whole", desc := "()I" } : Jvm.MethodName) ({ cls := "ThunderCasks$Reader", name := "whole", desc := "()I" } : Jvm.MethodName)) ∈ lw_all := lw_g (lw_at lw_m4 204 rfl) rfl
theorem q1025 : (Jvm.Cond.code ({ cls := "ThunderCasks$Reader", name := "whole", desc := "()I" } : Jvm.MethodName) prog_8_method_18_code (2 : Nat) (Option.some Jvm.ClassFile.FieldType.int)) ∈ lw_all := lw_g (lw_at lw_m4 205 rfl) rfl
theorem q1026 : (Jvm.Cond.methodLink "ThunderCasks$Reader" (82 : Nat) ({ cls := "ThunderCasks$Reader", name := "next", desc := "()V" } : Jvm.MethodName)) ∈ lw_all := lw_g (lw_at lw_m4 206 rfl) rfl
theorem q1027 : (Jvm.Cond.privateMethod ({ cls := "ThunderCasks$Reader", name := "next", desc := "()V" } : Jvm.MethodName)) ∈ lw_tbl := lw_at lw_m4 207 rfl
theorem q1028 : (Jvm.Cond.instanceMethod ({ cls := "ThunderCasks$Reader", name := "next", desc := "()V" } : Jvm.MethodName)) ∈ lw_all := lw_g (lw_at lw_m4 208 rfl) rfl
theorem q1029 : (Jvm.Cond.code ({ cls := "ThunderCasks$Reader", name := "next", desc := "()V" } : Jvm.MethodName) prog_8_method_6_code (2 : Nat) (Option.none : Option Jvm.ClassFile.FieldType)) ∈ lw_all := lw_g (lw_at lw_m4 209 rfl) rfl
theorem q1030 : (Jvm.Cond.methodLink "ThunderCasks$Reader" (40 : Nat) ({ cls := "ThunderCasks$Reader", name := "byteAt", desc := "(I)I" } : Jvm.MethodName)) ∈ lw_all := lw_g (lw_at lw_m4 210 rfl) rfl
theorem q1031 : (Jvm.Cond.privateMethod ({ cls := "ThunderCasks$Reader", name := "byteAt", desc := "(I)I" } : Jvm.MethodName)) ∈ lw_tbl := lw_at lw_m4 211 rfl
theorem q1032 : (Jvm.Cond.instanceMethod ({ cls := "ThunderCasks$Reader", name := "byteAt", desc := "(I)I" } : Jvm.MethodName)) ∈ lw_all := lw_g (lw_at lw_m4 212 rfl) rfl
theorem q1033 : (Jvm.Cond.code ({ cls := "ThunderCasks$Reader", name := "byteAt", desc := "(I)I" } : Jvm.MethodName) prog_8_method_3_code (2 : Nat) (Option.some Jvm.ClassFile.FieldType.int)) ∈ lw_all := lw_g (lw_at lw_m4 213 rfl) rfl
theorem q1034 : (Jvm.Cond.methodLink "ThunderCasks$Reader" (50 : Nat) ({ cls := "ThunderCasks$Reader", name := "isLetter", desc := "(I)Z" } : Jvm.MethodName)) ∈ lw_all := lw_g (lw_at lw_m4 214 rfl) rfl
theorem q1035 : (Jvm.Cond.static ({ cls := "ThunderCasks$Reader", name := "isLetter", desc := "(I)Z" } : Jvm.MethodName)) ∈ lw_all := lw_g (lw_at lw_m4 215 rfl) rfl
theorem q1036 : (Jvm.Cond.code ({ cls := "ThunderCasks$Reader", name := "isLetter", desc := "(I)Z" } : Jvm.MethodName) prog_8_method_5_code (1 : Nat) (Option.some Jvm.ClassFile.FieldType.boolean)) ∈ lw_all := lw_g (lw_at lw_m4 216 rfl) rfl
theorem q1037 : (Jvm.Cond.methodLinkNest "ThunderCasks$Reader" (33 : Nat) ({ cls := "ThunderCasks", name := "in", desc := "(III)Z" } : Jvm.MethodName) "ThunderCasks") ∈ lw_tbl := lw_at lw_m4 217 rfl
theorem q1038 : (Jvm.Cond.methodLink "ThunderCasks$Reader" (54 : Nat) ({ cls := "ThunderCasks$Reader", name := "word", desc := "()V" } : Jvm.MethodName)) ∈ lw_all := lw_g (lw_at lw_m4 218 rfl) rfl
theorem q1039 : (Jvm.Cond.privateMethod ({ cls := "ThunderCasks$Reader", name := "word", desc := "()V" } : Jvm.MethodName)) ∈ lw_tbl := lw_at lw_m4 219 rfl
theorem q1040 : (Jvm.Cond.instanceMethod ({ cls := "ThunderCasks$Reader", name := "word", desc := "()V" } : Jvm.MethodName)) ∈ lw_all := lw_g (lw_at lw_m4 220 rfl) rfl
theorem q1041 : (Jvm.Cond.code ({ cls := "ThunderCasks$Reader", name := "word", desc := "()V" } : Jvm.MethodName) prog_8_method_8_code (2 : Nat) (Option.none : Option Jvm.ClassFile.FieldType)) ∈ lw_all := lw_g (lw_at lw_m4 221 rfl) rfl
theorem q1042 : (Jvm.Cond.methodLink "ThunderCasks$Reader" (70 : Nat) ({ cls := "ThunderCasks$Reader", name := "isKey", desc := "(II)Z" } : Jvm.MethodName)) ∈ lw_all := lw_g (lw_at lw_m4 222 rfl) rfl
theorem q1043 : (Jvm.Cond.privateMethod ({ cls := "ThunderCasks$Reader", name := "isKey", desc := "(II)Z" } : Jvm.MethodName)) ∈ lw_tbl := lw_at lw_m4 223 rfl
theorem q1044 : (Jvm.Cond.instanceMethod ({ cls := "ThunderCasks$Reader", name := "isKey", desc := "(II)Z" } : Jvm.MethodName)) ∈ lw_all := lw_g (lw_at lw_m4 224 rfl) rfl
theorem q1045 : (Jvm.Cond.code ({ cls := "ThunderCasks$Reader", name := "isKey", desc := "(II)Z" } : Jvm.MethodName) prog_8_method_9_code (5 : Nat) (Option.some Jvm.ClassFile.FieldType.boolean)) ∈ lw_all := lw_g (lw_at lw_m4 225 rfl) rfl
theorem q1046 : (Jvm.Cond.stringRef "ThunderCasks$Reader" (74 : Nat) "cask  crack roll  mellowecho  heat  forgedstorm frost in    peal  pitch hoops ") ∈ lw_tbl := lw_at lw_m4 226 rfl
theorem q1047 : (Jvm.Cond.methodLink "ThunderCasks$Reader" (76 : Nat) ({ cls := "java/lang/String", name := "charAt", desc := "(I)C" } : Jvm.MethodName)) ∈ lw_all := lw_g (lw_at lw_m4 227 rfl) rfl
theorem q1087 : (Jvm.Cond.methodLink "ThunderCasks$Reader" (63 : Nat) ({ cls := "ThunderCasks$Reader", name := "need", desc := "(Z)V" } : Jvm.MethodName)) ∈ lw_all := lw_g (lw_at lw_m5 27 rfl) rfl
theorem q1088 : (Jvm.Cond.privateMethod ({ cls := "ThunderCasks$Reader", name := "need", desc := "(Z)V" } : Jvm.MethodName)) ∈ lw_tbl := lw_at lw_m5 28 rfl
theorem q1089 : (Jvm.Cond.instanceMethod ({ cls := "ThunderCasks$Reader", name := "need", desc := "(Z)V" } : Jvm.MethodName)) ∈ lw_all := lw_g (lw_at lw_m5 29 rfl) rfl
theorem q1090 : (Jvm.Cond.code ({ cls := "ThunderCasks$Reader", name := "need", desc := "(Z)V" } : Jvm.MethodName) prog_8_method_2_code (2 : Nat) (Option.none : Option Jvm.ClassFile.FieldType)) ∈ lw_all := lw_g (lw_at lw_m5 30 rfl) rfl
theorem q1091 : (Jvm.Cond.methodLink "ThunderCasks$Reader" (57 : Nat) ({ cls := "ThunderCasks$Reader", name := "isDigit", desc := "(I)Z" } : Jvm.MethodName)) ∈ lw_all := lw_g (lw_at lw_m5 31 rfl) rfl
theorem q1092 : (Jvm.Cond.static ({ cls := "ThunderCasks$Reader", name := "isDigit", desc := "(I)Z" } : Jvm.MethodName)) ∈ lw_all := lw_g (lw_at lw_m5 32 rfl) rfl
theorem q1093 : (Jvm.Cond.code ({ cls := "ThunderCasks$Reader", name := "isDigit", desc := "(I)Z" } : Jvm.MethodName) prog_8_method_4_code (1 : Nat) (Option.some Jvm.ClassFile.FieldType.boolean)) ∈ lw_all := lw_g (lw_at lw_m5 33 rfl) rfl
theorem q1094 : (Jvm.Cond.methodLink "ThunderCasks$Reader" (60 : Nat) ({ cls := "ThunderCasks$Reader", name := "digits", desc := "()V" } : Jvm.MethodName)) ∈ lw_all := lw_g (lw_at lw_m5 34 rfl) rfl
theorem q1095 : (Jvm.Cond.privateMethod ({ cls := "ThunderCasks$Reader", name := "digits", desc := "()V" } : Jvm.MethodName)) ∈ lw_tbl := lw_at lw_m5 35 rfl
theorem q1096 : (Jvm.Cond.instanceMethod ({ cls := "ThunderCasks$Reader", name := "digits", desc := "()V" } : Jvm.MethodName)) ∈ lw_all := lw_g (lw_at lw_m5 36 rfl) rfl
theorem q1097 : (Jvm.Cond.code ({ cls := "ThunderCasks$Reader", name := "digits", desc := "()V" } : Jvm.MethodName) prog_8_method_7_code (2 : Nat) (Option.none : Option Jvm.ClassFile.FieldType)) ∈ lw_all := lw_g (lw_at lw_m5 37 rfl) rfl
theorem q1098 : (Jvm.Cond.methodLink "ThunderCasks$Reader" (125 : Nat) ({ cls := "ThunderCasks$Reader", name := "item", desc := "()V" } : Jvm.MethodName)) ∈ lw_all := lw_g (lw_at lw_m5 38 rfl) rfl
theorem q1099 : (Jvm.Cond.privateMethod ({ cls := "ThunderCasks$Reader", name := "item", desc := "()V" } : Jvm.MethodName)) ∈ lw_tbl := lw_at lw_m5 39 rfl
theorem q1100 : (Jvm.Cond.instanceMethod ({ cls := "ThunderCasks$Reader", name := "item", desc := "()V" } : Jvm.MethodName)) ∈ lw_all := lw_g (lw_at lw_m5 40 rfl) rfl
theorem q1101 : (Jvm.Cond.code ({ cls := "ThunderCasks$Reader", name := "item", desc := "()V" } : Jvm.MethodName) prog_8_method_17_code (1 : Nat) (Option.none : Option Jvm.ClassFile.FieldType)) ∈ lw_all := lw_g (lw_at lw_m5 41 rfl) rfl
theorem q1102 : (Jvm.Cond.methodLink "ThunderCasks$Reader" (117 : Nat) ({ cls := "ThunderCasks$Reader", name := "storm", desc := "()V" } : Jvm.MethodName)) ∈ lw_all := lw_g (lw_at lw_m5 42 rfl) rfl
theorem q1103 : (Jvm.Cond.privateMethod ({ cls := "ThunderCasks$Reader", name := "storm", desc := "()V" } : Jvm.MethodName)) ∈ lw_tbl := lw_at lw_m5 43 rfl
theorem q1104 : (Jvm.Cond.instanceMethod ({ cls := "ThunderCasks$Reader", name := "storm", desc := "()V" } : Jvm.MethodName)) ∈ lw_all := lw_g (lw_at lw_m5 44 rfl) rfl
theorem q1105 : (Jvm.Cond.code ({ cls := "ThunderCasks$Reader", name := "storm", desc := "()V" } : Jvm.MethodName) prog_8_method_15_code (2 : Nat) (Option.none : Option Jvm.ClassFile.FieldType)) ∈ lw_all := lw_g (lw_at lw_m5 45 rfl) rfl
theorem q1106 : (Jvm.Cond.methodLink "ThunderCasks$Reader" (99 : Nat) ({ cls := "ThunderCasks$Reader", name := "behind", desc := "(II)I" } : Jvm.MethodName)) ∈ lw_all := lw_g (lw_at lw_m5 46 rfl) rfl
theorem q1107 : (Jvm.Cond.privateMethod ({ cls := "ThunderCasks$Reader", name := "behind", desc := "(II)I" } : Jvm.MethodName)) ∈ lw_tbl := lw_at lw_m5 47 rfl
theorem q1108 : (Jvm.Cond.instanceMethod ({ cls := "ThunderCasks$Reader", name := "behind", desc := "(II)I" } : Jvm.MethodName)) ∈ lw_all := lw_g (lw_at lw_m5 48 rfl) rfl
theorem q1109 : (Jvm.Cond.code ({ cls := "ThunderCasks$Reader", name := "behind", desc := "(II)I" } : Jvm.MethodName) prog_8_method_12_code (3 : Nat) (Option.some Jvm.ClassFile.FieldType.int)) ∈ lw_all := lw_g (lw_at lw_m5 49 rfl) rfl
theorem q1110 : (Jvm.Cond.methodLink "ThunderCasks$Reader" (85 : Nat) ({ cls := "ThunderCasks$Reader", name := "number", desc := "(II)I" } : Jvm.MethodName)) ∈ lw_all := lw_g (lw_at lw_m5 50 rfl) rfl
theorem q1111 : (Jvm.Cond.privateMethod ({ cls := "ThunderCasks$Reader", name := "number", desc := "(II)I" } : Jvm.MethodName)) ∈ lw_tbl := lw_at lw_m5 51 rfl
theorem q1112 : (Jvm.Cond.instanceMethod ({ cls := "ThunderCasks$Reader", name := "number", desc := "(II)I" } : Jvm.MethodName)) ∈ lw_all := lw_g (lw_at lw_m5 52 rfl) rfl
theorem q1113 : (Jvm.Cond.code ({ cls := "ThunderCasks$Reader", name := "number", desc := "(II)I" } : Jvm.MethodName) prog_8_method_11_code (4 : Nat) (Option.some Jvm.ClassFile.FieldType.int)) ∈ lw_all := lw_g (lw_at lw_m5 53 rfl) rfl
theorem q1114 : (Jvm.Cond.methodLink "ThunderCasks$Reader" (120 : Nat) ({ cls := "ThunderCasks$Reader", name := "frost", desc := "()V" } : Jvm.MethodName)) ∈ lw_all := lw_g (lw_at lw_m5 54 rfl) rfl
theorem q1115 : (Jvm.Cond.privateMethod ({ cls := "ThunderCasks$Reader", name := "frost", desc := "()V" } : Jvm.MethodName)) ∈ lw_tbl := lw_at lw_m5 55 rfl
theorem q1116 : (Jvm.Cond.instanceMethod ({ cls := "ThunderCasks$Reader", name := "frost", desc := "()V" } : Jvm.MethodName)) ∈ lw_all := lw_g (lw_at lw_m5 56 rfl) rfl
theorem q1117 : (Jvm.Cond.code ({ cls := "ThunderCasks$Reader", name := "frost", desc := "()V" } : Jvm.MethodName) prog_8_method_16_code (2 : Nat) (Option.none : Option Jvm.ClassFile.FieldType)) ∈ lw_all := lw_g (lw_at lw_m5 57 rfl) rfl
theorem q1118 : (Jvm.Cond.methodLink "ThunderCasks$Reader" (122 : Nat) ({ cls := "ThunderCasks$Reader", name := "cask", desc := "(I)V" } : Jvm.MethodName)) ∈ lw_all := lw_g (lw_at lw_m5 58 rfl) rfl
theorem q1119 : (Jvm.Cond.privateMethod ({ cls := "ThunderCasks$Reader", name := "cask", desc := "(I)V" } : Jvm.MethodName)) ∈ lw_tbl := lw_at lw_m5 59 rfl
theorem q1120 : (Jvm.Cond.instanceMethod ({ cls := "ThunderCasks$Reader", name := "cask", desc := "(I)V" } : Jvm.MethodName)) ∈ lw_all := lw_g (lw_at lw_m5 60 rfl) rfl
theorem q1121 : (Jvm.Cond.code ({ cls := "ThunderCasks$Reader", name := "cask", desc := "(I)V" } : Jvm.MethodName) prog_8_method_14_code (2 : Nat) (Option.none : Option Jvm.ClassFile.FieldType)) ∈ lw_all := lw_g (lw_at lw_m5 61 rfl) rfl
theorem q1122 : (Jvm.Cond.methodLink "ThunderCasks$Reader" (89 : Nat) ({ cls := "ThunderCasks$Reader", name := "isWord", desc := "(I)Z" } : Jvm.MethodName)) ∈ lw_all := lw_g (lw_at lw_m5 62 rfl) rfl
theorem q1123 : (Jvm.Cond.privateMethod ({ cls := "ThunderCasks$Reader", name := "isWord", desc := "(I)Z" } : Jvm.MethodName)) ∈ lw_tbl := lw_at lw_m5 63 rfl
theorem q1124 : (Jvm.Cond.instanceMethod ({ cls := "ThunderCasks$Reader", name := "isWord", desc := "(I)Z" } : Jvm.MethodName)) ∈ lw_all := lw_g (lw_at lw_m5 64 rfl) rfl
theorem q1125 : (Jvm.Cond.code ({ cls := "ThunderCasks$Reader", name := "isWord", desc := "(I)Z" } : Jvm.MethodName) prog_8_method_10_code (2 : Nat) (Option.some Jvm.ClassFile.FieldType.boolean)) ∈ lw_all := lw_g (lw_at lw_m5 65 rfl) rfl
theorem q1126 : (Jvm.Cond.methodLink "ThunderCasks$Reader" (102 : Nat) ({ cls := "ThunderCasks$World", name := "add", desc := "(II)V" } : Jvm.MethodName)) ∈ lw_all := lw_g (lw_at lw_m5 66 rfl) rfl
theorem q1127 : (Jvm.Cond.methodLink "ThunderCasks$Reader" (106 : Nat) ({ cls := "ThunderCasks$Reader", name := "perhaps", desc := "(III)V" } : Jvm.MethodName)) ∈ lw_all := lw_g (lw_at lw_m5 67 rfl) rfl
theorem q1128 : (Jvm.Cond.privateMethod ({ cls := "ThunderCasks$Reader", name := "perhaps", desc := "(III)V" } : Jvm.MethodName)) ∈ lw_tbl := lw_at lw_m5 68 rfl
theorem q1129 : (Jvm.Cond.instanceMethod ({ cls := "ThunderCasks$Reader", name := "perhaps", desc := "(III)V" } : Jvm.MethodName)) ∈ lw_all := lw_g (lw_at lw_m5 69 rfl) rfl
theorem q1130 : (Jvm.Cond.code ({ cls := "ThunderCasks$Reader", name := "perhaps", desc := "(III)V" } : Jvm.MethodName) prog_8_method_13_code (4 : Nat) (Option.none : Option Jvm.ClassFile.FieldType)) ∈ lw_all := lw_g (lw_at lw_m5 70 rfl) rfl
theorem in_X2 : ∀ w ∈ wsX20, w ∈ lw_all := lw_in wsX20 [283, 285, 287, 289, 291, 293, 295, 297] (by decide +kernel) (by decide +kernel)
