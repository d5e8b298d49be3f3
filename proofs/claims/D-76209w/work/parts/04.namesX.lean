/-! LineCalls$Refusal -/
set_option maxRecDepth 100000
def RX1 : String := "LineCalls$Refusal"
def TX1 : u_T := fun k => match k with
  | 0 => ("java/lang/Throwable", "cause", "Ljava/lang/Throwable;", false)
  | 1 => ("java/lang/Throwable", "stackTrace", "[Ljava/lang/StackTraceElement;", false)
  | 2 => ("java/lang/Throwable", "suppressedExceptions", "Ljava/util/List;", false)
  | 3 => ("java/lang/Throwable", "detailMessage", "Ljava/lang/String;", false)
  | 4 => ("java/lang/Throwable", "backtrace", "Ljava/lang/Object;", false)
  | 5 => ("java/lang/Throwable", "depth", "I", false)
  | _ => ("LineCalls$Refusal", "finding", "I", false)
def tyX1 : Nat → FieldType := fun k => match k with
  | 0 => .object "java/lang/Throwable"
  | 1 => .array (.object "java/lang/StackTraceElement")
  | 2 => .object "java/util/List"
  | 3 => .object "java/lang/String"
  | 4 => .object "java/lang/Object"
  | 5 => .int
  | _ => .int
abbrev wsX10 : List Cond := u_ws RX1 TX1 7
theorem nmX1 : ∀ a, a < 7 → ∀ b, b < 7 → a ≠ b → (TX1 a).2.1 ≠ (TX1 b).2.1 := by decide +kernel
theorem tyX1_ok : ∀ k, k < 7 → parseFieldDescriptor (TX1 k).2.2.1 = some (tyX1 k) := by decide +kernel
abbrev cX1_init : ByteArray := prog_9_method_1_code
def yX1_init : MethodName := ⟨RX1, "<init>", "()V"⟩
def dkwX1_init_0 : List UInt8 := [42, 1, 1, 3, 3, 183, 0, 1, 177]
abbrev dktX1_init_0 : List UInt8 := dkwX1_init_0 ++ []
theorem dksX1_init_0 : cX1_init.data.toList.drop 0 = dktX1_init_0 := by decide +kernel
theorem dX1_init_0 : decode cX1_init 0 = .ok (.aload_n 0, 1) := dk_42 (dk_at dksX1_init_0 0 rfl rfl)
theorem dX1_init_1 : decode cX1_init 1 = .ok (.aconst_null, 1) := dk_1 (dk_at dksX1_init_0 1 rfl rfl)
theorem dX1_init_2 : decode cX1_init 2 = .ok (.aconst_null, 1) := dk_1 (dk_at dksX1_init_0 2 rfl rfl)
theorem dX1_init_3 : decode cX1_init 3 = .ok (.iconst 0, 1) := dk_3 (dk_at dksX1_init_0 3 rfl rfl)
theorem dX1_init_4 : decode cX1_init 4 = .ok (.iconst 0, 1) := dk_3 (dk_at dksX1_init_0 4 rfl rfl)
theorem dX1_init_5 : decode cX1_init 5 = .ok (.invokespecial 1, 3) := dk_183 0 1 (dk_at dksX1_init_0 5 rfl rfl)
theorem dX1_init_8 : decode cX1_init 8 = .ok (.return_, 1) := dk_177 (dk_at dksX1_init_0 8 rfl rfl)
theorem q94 : (Jvm.Cond.initialized "LineCalls$Refusal") ∈ lw_all := lw_g (lw_at lw_m1 5 rfl) rfl
theorem q123 : (Jvm.Cond.instantiable "LineCalls$Refusal" (7 : Nat)) ∈ lw_all := lw_g (lw_at lw_m1 34 rfl) rfl
theorem q124 : (Jvm.Cond.castable "LineCalls$Refusal" "LineCalls$Refusal") ∈ lw_tbl := lw_at lw_m1 35 rfl
theorem q131 : (Jvm.Cond.selects "LineCalls$Refusal" ({ cls := "java/lang/Throwable", name := "fillInStackTrace", desc := "(I)Ljava/lang/Throwable;" } : Jvm.MethodName) ({ cls := "java/lang/Throwable", name := "fillInStackTrace", desc := "(I)Ljava/lang/Throwable;" } : Jvm.MethodName)) ∈ lw_all := lw_g (lw_at lw_m1 42 rfl) rfl
theorem q132 : (Jvm.Cond.selects "LineCalls$Refusal" ({ cls := "java/lang/Throwable", name := "fillInStackTrace", desc := "()Ljava/lang/Throwable;" } : Jvm.MethodName) ({ cls := "java/lang/Throwable", name := "fillInStackTrace", desc := "()Ljava/lang/Throwable;" } : Jvm.MethodName)) ∈ lw_all := lw_g (lw_at lw_m1 43 rfl) rfl
theorem q133 : (Jvm.Cond.lays "LineCalls$Refusal" "java/lang/Throwable" "cause" "Ljava/lang/Throwable;") ∈ lw_all := lw_g (lw_at lw_m1 44 rfl) rfl
theorem q135 : (Jvm.Cond.lays "LineCalls$Refusal" "java/lang/Throwable" "stackTrace" "[Ljava/lang/StackTraceElement;") ∈ lw_all := lw_g (lw_at lw_m1 46 rfl) rfl
theorem q137 : (Jvm.Cond.lays "LineCalls$Refusal" "java/lang/Throwable" "suppressedExceptions" "Ljava/util/List;") ∈ lw_all := lw_g (lw_at lw_m1 48 rfl) rfl
theorem q139 : (Jvm.Cond.lays "LineCalls$Refusal" "java/lang/Throwable" "detailMessage" "Ljava/lang/String;") ∈ lw_all := lw_g (lw_at lw_m1 50 rfl) rfl
theorem q141 : (Jvm.Cond.lays "LineCalls$Refusal" "java/lang/Throwable" "backtrace" "Ljava/lang/Object;") ∈ lw_all := lw_g (lw_at lw_m1 52 rfl) rfl
theorem q163 : (Jvm.Cond.instanceMethod ({ cls := "LineCalls$Refusal", name := "<init>", desc := "()V" } : Jvm.MethodName)) ∈ lw_all := lw_g (lw_at lw_m1 74 rfl) rfl
theorem q164 : (Jvm.Cond.code ({ cls := "LineCalls$Refusal", name := "<init>", desc := "()V" } : Jvm.MethodName) prog_9_method_1_code (1 : Nat) (Option.none : Option Jvm.ClassFile.FieldType)) ∈ lw_all := lw_g (lw_at lw_m1 75 rfl) rfl
theorem q165 : (Jvm.Cond.methodLink "LineCalls$Refusal" (1 : Nat) ({ cls := "java/lang/RuntimeException", name := "<init>", desc := "(Ljava/lang/String;Ljava/lang/Throwable;ZZ)V" } : Jvm.MethodName)) ∈ lw_all := lw_g (lw_at lw_m1 76 rfl) rfl
theorem q180 : (Jvm.Cond.lays "LineCalls$Refusal" "LineCalls$Refusal" "finding" "I") ∈ lw_all := lw_g (lw_at lw_m1 91 rfl) rfl
theorem q181 : (Jvm.Cond.soleField "LineCalls$Refusal" "finding") ∈ lw_all := lw_g (lw_at lw_m1 92 rfl) rfl
theorem q186 : (Jvm.Cond.lays "LineCalls$Refusal" "java/lang/Throwable" "depth" "I") ∈ lw_all := lw_g (lw_at lw_m1 97 rfl) rfl
theorem q189 : (Jvm.Cond.superclass "LineCalls$Refusal" "java/lang/RuntimeException") ∈ lw_all := lw_g (lw_at lw_m1 100 rfl) rfl
theorem in_X1 : ∀ w ∈ wsX10, w ∈ lw_all := lw_in wsX10 [133, 135, 137, 139, 141, 186, 180] (by decide +kernel) (by decide +kernel)

/-! LineCalls$Wrong -/
set_option maxRecDepth 100000
def RX3 : String := "LineCalls$Wrong"
def TX3 : u_T := fun k => match k with
  | 0 => ("java/lang/Throwable", "cause", "Ljava/lang/Throwable;", false)
  | 1 => ("java/lang/Throwable", "stackTrace", "[Ljava/lang/StackTraceElement;", false)
  | 2 => ("java/lang/Throwable", "suppressedExceptions", "Ljava/util/List;", false)
  | 3 => ("java/lang/Throwable", "detailMessage", "Ljava/lang/String;", false)
  | 4 => ("java/lang/Throwable", "backtrace", "Ljava/lang/Object;", false)
  | _ => ("java/lang/Throwable", "depth", "I", false)
def tyX3 : Nat → FieldType := fun k => match k with
  | 0 => .object "java/lang/Throwable"
  | 1 => .array (.object "java/lang/StackTraceElement")
  | 2 => .object "java/util/List"
  | 3 => .object "java/lang/String"
  | 4 => .object "java/lang/Object"
  | _ => .int
abbrev wsX30 : List Cond := u_ws RX3 TX3 6
theorem nmX3 : ∀ a, a < 6 → ∀ b, b < 6 → a ≠ b → (TX3 a).2.1 ≠ (TX3 b).2.1 := by decide +kernel
theorem tyX3_ok : ∀ k, k < 6 → parseFieldDescriptor (TX3 k).2.2.1 = some (tyX3 k) := by decide +kernel
abbrev cX3_init : ByteArray := prog_14_method_1_code
def yX3_init : MethodName := ⟨RX3, "<init>", "()V"⟩
def dkwX3_init_0 : List UInt8 := [42, 1, 1, 3, 3, 183, 0, 1, 177]
abbrev dktX3_init_0 : List UInt8 := dkwX3_init_0 ++ []
theorem dksX3_init_0 : cX3_init.data.toList.drop 0 = dktX3_init_0 := by decide +kernel
theorem dX3_init_0 : decode cX3_init 0 = .ok (.aload_n 0, 1) := dk_42 (dk_at dksX3_init_0 0 rfl rfl)
theorem dX3_init_1 : decode cX3_init 1 = .ok (.aconst_null, 1) := dk_1 (dk_at dksX3_init_0 1 rfl rfl)
theorem dX3_init_2 : decode cX3_init 2 = .ok (.aconst_null, 1) := dk_1 (dk_at dksX3_init_0 2 rfl rfl)
theorem dX3_init_3 : decode cX3_init 3 = .ok (.iconst 0, 1) := dk_3 (dk_at dksX3_init_0 3 rfl rfl)
theorem dX3_init_4 : decode cX3_init 4 = .ok (.iconst 0, 1) := dk_3 (dk_at dksX3_init_0 4 rfl rfl)
theorem dX3_init_5 : decode cX3_init 5 = .ok (.invokespecial 1, 3) := dk_183 0 1 (dk_at dksX3_init_0 5 rfl rfl)
theorem dX3_init_8 : decode cX3_init 8 = .ok (.return_, 1) := dk_177 (dk_at dksX3_init_0 8 rfl rfl)
theorem q96 : (Jvm.Cond.initialized "LineCalls$Wrong") ∈ lw_all := lw_g (lw_at lw_m1 7 rfl) rfl
theorem q155 : (Jvm.Cond.selects "LineCalls$Wrong" ({ cls := "java/lang/Throwable", name := "fillInStackTrace", desc := "()Ljava/lang/Throwable;" } : Jvm.MethodName) ({ cls := "java/lang/Throwable", name := "fillInStackTrace", desc := "()Ljava/lang/Throwable;" } : Jvm.MethodName)) ∈ lw_all := lw_g (lw_at lw_m1 66 rfl) rfl
theorem q197 : (Jvm.Cond.instantiable "LineCalls$Wrong" (6 : Nat)) ∈ lw_all := lw_g (lw_at lw_m1 108 rfl) rfl
theorem q198 : (Jvm.Cond.castable "LineCalls$Wrong" "LineCalls$Wrong") ∈ lw_tbl := lw_at lw_m1 109 rfl
theorem q199 : (Jvm.Cond.selects "LineCalls$Wrong" ({ cls := "java/lang/Throwable", name := "fillInStackTrace", desc := "(I)Ljava/lang/Throwable;" } : Jvm.MethodName) ({ cls := "java/lang/Throwable", name := "fillInStackTrace", desc := "(I)Ljava/lang/Throwable;" } : Jvm.MethodName)) ∈ lw_all := lw_g (lw_at lw_m1 110 rfl) rfl
theorem q200 : (Jvm.Cond.lays "LineCalls$Wrong" "java/lang/Throwable" "cause" "Ljava/lang/Throwable;") ∈ lw_all := lw_g (lw_at lw_m1 111 rfl) rfl
theorem q201 : (Jvm.Cond.lays "LineCalls$Wrong" "java/lang/Throwable" "stackTrace" "[Ljava/lang/StackTraceElement;") ∈ lw_all := lw_g (lw_at lw_m1 112 rfl) rfl
theorem q202 : (Jvm.Cond.lays "LineCalls$Wrong" "java/lang/Throwable" "suppressedExceptions" "Ljava/util/List;") ∈ lw_all := lw_g (lw_at lw_m1 113 rfl) rfl
theorem q203 : (Jvm.Cond.lays "LineCalls$Wrong" "java/lang/Throwable" "detailMessage" "Ljava/lang/String;") ∈ lw_all := lw_g (lw_at lw_m1 114 rfl) rfl
theorem q204 : (Jvm.Cond.lays "LineCalls$Wrong" "java/lang/Throwable" "backtrace" "Ljava/lang/Object;") ∈ lw_all := lw_g (lw_at lw_m1 115 rfl) rfl
theorem q206 : (Jvm.Cond.instanceMethod ({ cls := "LineCalls$Wrong", name := "<init>", desc := "()V" } : Jvm.MethodName)) ∈ lw_all := lw_g (lw_at lw_m1 117 rfl) rfl
theorem q207 : (Jvm.Cond.code ({ cls := "LineCalls$Wrong", name := "<init>", desc := "()V" } : Jvm.MethodName) prog_14_method_1_code (1 : Nat) (Option.none : Option Jvm.ClassFile.FieldType)) ∈ lw_all := lw_g (lw_at lw_m1 118 rfl) rfl
theorem q208 : (Jvm.Cond.methodLink "LineCalls$Wrong" (1 : Nat) ({ cls := "java/lang/RuntimeException", name := "<init>", desc := "(Ljava/lang/String;Ljava/lang/Throwable;ZZ)V" } : Jvm.MethodName)) ∈ lw_all := lw_g (lw_at lw_m1 119 rfl) rfl
theorem q209 : (Jvm.Cond.lays "LineCalls$Wrong" "java/lang/Throwable" "depth" "I") ∈ lw_all := lw_g (lw_at lw_m1 120 rfl) rfl
theorem q210 : (Jvm.Cond.superclass "LineCalls$Wrong" "java/lang/RuntimeException") ∈ lw_all := lw_g (lw_at lw_m1 121 rfl) rfl
theorem in_X3 : ∀ w ∈ wsX30, w ∈ lw_all := lw_in wsX30 [200, 201, 202, 203, 204, 209] (by decide +kernel) (by decide +kernel)

/-! LineCalls$Slot -/
set_option maxRecDepth 100000
def RX5 : String := "LineCalls$Slot"
def TX5 : u_T := fun k => match k with
  | _ => ("LineCalls$Slot", "thing", "Ljava/lang/Object;", false)
def tyX5 : Nat → FieldType := fun k => match k with
  | _ => .object "java/lang/Object"
abbrev wsX50 : List Cond := u_ws RX5 TX5 1
theorem nmX5 : ∀ a, a < 1 → ∀ b, b < 1 → a ≠ b → (TX5 a).2.1 ≠ (TX5 b).2.1 := by decide +kernel
theorem tyX5_ok : ∀ k, k < 1 → parseFieldDescriptor (TX5 k).2.2.1 = some (tyX5 k) := by decide +kernel
abbrev cX5_init : ByteArray := prog_11_method_1_code
def yX5_init : MethodName := ⟨RX5, "<init>", "()V"⟩
theorem dX5_init_0 : decode cX5_init 0 = .ok (.aload_n 0, 1) := by decide +kernel
theorem dX5_init_1 : decode cX5_init 1 = .ok (.invokespecial 1, 3) := by decide +kernel
theorem dX5_init_4 : decode cX5_init 4 = .ok (.return_, 1) := by decide +kernel
theorem q98 : (Jvm.Cond.initialized "LineCalls$Slot") ∈ lw_all := lw_g (lw_at lw_m1 9 rfl) rfl
theorem q307 : (Jvm.Cond.instantiable "LineCalls$Slot" (1 : Nat)) ∈ lw_all := lw_g (lw_at lw_m1 218 rfl) rfl
theorem q309 : (Jvm.Cond.instanceMethod ({ cls := "LineCalls$Slot", name := "<init>", desc := "()V" } : Jvm.MethodName)) ∈ lw_all := lw_g (lw_at lw_m1 220 rfl) rfl
theorem q310 : (Jvm.Cond.code ({ cls := "LineCalls$Slot", name := "<init>", desc := "()V" } : Jvm.MethodName) prog_11_method_1_code (1 : Nat) (Option.none : Option Jvm.ClassFile.FieldType)) ∈ lw_all := lw_g (lw_at lw_m1 221 rfl) rfl
theorem q311 : (Jvm.Cond.methodLink "LineCalls$Slot" (1 : Nat) ({ cls := "java/lang/Object", name := "<init>", desc := "()V" } : Jvm.MethodName)) ∈ lw_all := lw_g (lw_at lw_m1 222 rfl) rfl
theorem q313 : (Jvm.Cond.lays "LineCalls$Slot" "LineCalls$Slot" "thing" "Ljava/lang/Object;") ∈ lw_all := lw_g (lw_at lw_m1 224 rfl) rfl
theorem q314 : (Jvm.Cond.soleField "LineCalls$Slot" "thing") ∈ lw_all := lw_g (lw_at lw_m1 225 rfl) rfl
theorem q315 : (Jvm.Cond.superclass "LineCalls$Slot" "java/lang/Object") ∈ lw_all := lw_g (lw_at lw_m1 226 rfl) rfl
theorem in_X5 : ∀ w ∈ wsX50, w ∈ lw_all := lw_in wsX50 [313] (by decide +kernel) (by decide +kernel)

/-! LineCalls$Jumper -/
set_option maxRecDepth 100000
def RX6 : String := "LineCalls$Jumper"
def TX6 : u_T := fun k => match k with
  | 0 => ("LineCalls$Jumper", "number", "I", true)
  | _ => ("LineCalls$Jumper", "this$0", "LLineCalls;", true)
def tyX6 : Nat → FieldType := fun k => match k with
  | 0 => .int
  | _ => .object "LineCalls"
abbrev wsX60 : List Cond := u_ws RX6 TX6 2
theorem nmX6 : ∀ a, a < 2 → ∀ b, b < 2 → a ≠ b → (TX6 a).2.1 ≠ (TX6 b).2.1 := by decide +kernel
theorem tyX6_ok : ∀ k, k < 2 → parseFieldDescriptor (TX6 k).2.2.1 = some (tyX6 k) := by decide +kernel
abbrev cX6_init : ByteArray := prog_4_method_1_code
def yX6_init : MethodName := ⟨RX6, "<init>", "(LLineCalls;I)V"⟩
def dkwX6_init_0 : List UInt8 := [42, 43, 181, 0, 3, 42, 183, 0, 9, 42, 28, 181, 0, 15, 177]
abbrev dktX6_init_0 : List UInt8 := dkwX6_init_0 ++ []
theorem dksX6_init_0 : cX6_init.data.toList.drop 0 = dktX6_init_0 := by decide +kernel
theorem dX6_init_0 : decode cX6_init 0 = .ok (.aload_n 0, 1) := dk_42 (dk_at dksX6_init_0 0 rfl rfl)
theorem dX6_init_1 : decode cX6_init 1 = .ok (.aload_n 1, 1) := dk_43 (dk_at dksX6_init_0 1 rfl rfl)
theorem dX6_init_2 : decode cX6_init 2 = .ok (.putfield 3, 3) := dk_181 0 3 (dk_at dksX6_init_0 2 rfl rfl)
theorem dX6_init_5 : decode cX6_init 5 = .ok (.aload_n 0, 1) := dk_42 (dk_at dksX6_init_0 5 rfl rfl)
theorem dX6_init_6 : decode cX6_init 6 = .ok (.invokespecial 9, 3) := dk_183 0 9 (dk_at dksX6_init_0 6 rfl rfl)
theorem dX6_init_9 : decode cX6_init 9 = .ok (.aload_n 0, 1) := dk_42 (dk_at dksX6_init_0 9 rfl rfl)
theorem dX6_init_10 : decode cX6_init 10 = .ok (.iload_n 2, 1) := dk_28 (dk_at dksX6_init_0 10 rfl rfl)
theorem dX6_init_11 : decode cX6_init 11 = .ok (.putfield 15, 3) := dk_181 0 15 (dk_at dksX6_init_0 11 rfl rfl)
theorem dX6_init_14 : decode cX6_init 14 = .ok (.return_, 1) := dk_177 (dk_at dksX6_init_0 14 rfl rfl)
abbrev cX6_kind : ByteArray := prog_4_method_2_code
def yX6_kind : MethodName := ⟨RX6, "kind", "()I"⟩
theorem dX6_kind_0 : decode cX6_kind 0 = .ok (.iconst 0, 1) := by decide +kernel
theorem dX6_kind_1 : decode cX6_kind 1 = .ok (.ireturn, 1) := by decide +kernel
abbrev cX6_told : ByteArray := prog_4_method_4_code
def yX6_told : MethodName := ⟨RX6, "told", "(I)I"⟩
def dkwX6_told_0 : List UInt8 := [42, 180, 0, 3, 180, 0, 23, 180, 0, 27, 27, 50, 42, 180, 0, 15, 46, 172]
abbrev dktX6_told_0 : List UInt8 := dkwX6_told_0 ++ []
theorem dksX6_told_0 : cX6_told.data.toList.drop 0 = dktX6_told_0 := by decide +kernel
theorem dX6_told_0 : decode cX6_told 0 = .ok (.aload_n 0, 1) := dk_42 (dk_at dksX6_told_0 0 rfl rfl)
theorem dX6_told_1 : decode cX6_told 1 = .ok (.getfield 3, 3) := dk_180 0 3 (dk_at dksX6_told_0 1 rfl rfl)
theorem dX6_told_4 : decode cX6_told 4 = .ok (.getfield 23, 3) := dk_180 0 23 (dk_at dksX6_told_0 4 rfl rfl)
theorem dX6_told_7 : decode cX6_told 7 = .ok (.getfield 27, 3) := dk_180 0 27 (dk_at dksX6_told_0 7 rfl rfl)
theorem dX6_told_10 : decode cX6_told 10 = .ok (.iload_n 1, 1) := dk_27 (dk_at dksX6_told_0 10 rfl rfl)
theorem dX6_told_11 : decode cX6_told 11 = .ok (.aaload, 1) := dk_50 (dk_at dksX6_told_0 11 rfl rfl)
theorem dX6_told_12 : decode cX6_told 12 = .ok (.aload_n 0, 1) := dk_42 (dk_at dksX6_told_0 12 rfl rfl)
theorem dX6_told_13 : decode cX6_told 13 = .ok (.getfield 15, 3) := dk_180 0 15 (dk_at dksX6_told_0 13 rfl rfl)
theorem dX6_told_16 : decode cX6_told 16 = .ok (.iaload, 1) := dk_46 (dk_at dksX6_told_0 16 rfl rfl)
theorem dX6_told_17 : decode cX6_told 17 = .ok (.ireturn, 1) := dk_172 (dk_at dksX6_told_0 17 rfl rfl)
abbrev cX6_high : ByteArray := prog_4_method_5_code
def yX6_high : MethodName := ⟨RX6, "high", "()I"⟩
def dkwX6_high_0 : List UInt8 := [3, 42, 4, 182, 0, 33, 42, 5, 182, 0, 33, 7, 108, 100, 184, 0, 37, 172]
abbrev dktX6_high_0 : List UInt8 := dkwX6_high_0 ++ []
theorem dksX6_high_0 : cX6_high.data.toList.drop 0 = dktX6_high_0 := by decide +kernel
theorem dX6_high_0 : decode cX6_high 0 = .ok (.iconst 0, 1) := dk_3 (dk_at dksX6_high_0 0 rfl rfl)
theorem dX6_high_1 : decode cX6_high 1 = .ok (.aload_n 0, 1) := dk_42 (dk_at dksX6_high_0 1 rfl rfl)
theorem dX6_high_2 : decode cX6_high 2 = .ok (.iconst 1, 1) := dk_4 (dk_at dksX6_high_0 2 rfl rfl)
theorem dX6_high_3 : decode cX6_high 3 = .ok (.invokevirtual 33, 3) := dk_182 0 33 (dk_at dksX6_high_0 3 rfl rfl)
theorem dX6_high_6 : decode cX6_high 6 = .ok (.aload_n 0, 1) := dk_42 (dk_at dksX6_high_0 6 rfl rfl)
theorem dX6_high_7 : decode cX6_high 7 = .ok (.iconst 2, 1) := dk_5 (dk_at dksX6_high_0 7 rfl rfl)
theorem dX6_high_8 : decode cX6_high 8 = .ok (.invokevirtual 33, 3) := dk_182 0 33 (dk_at dksX6_high_0 8 rfl rfl)
theorem dX6_high_11 : decode cX6_high 11 = .ok (.iconst 4, 1) := dk_7 (dk_at dksX6_high_0 11 rfl rfl)
theorem dX6_high_12 : decode cX6_high 12 = .ok (.idiv, 1) := dk_108 (dk_at dksX6_high_0 12 rfl rfl)
theorem dX6_high_13 : decode cX6_high 13 = .ok (.isub, 1) := dk_100 (dk_at dksX6_high_0 13 rfl rfl)
theorem dX6_high_14 : decode cX6_high 14 = .ok (.invokestatic 37, 3) := dk_184 0 37 (dk_at dksX6_high_0 14 rfl rfl)
theorem dX6_high_17 : decode cX6_high 17 = .ok (.ireturn, 1) := dk_172 (dk_at dksX6_high_0 17 rfl rfl)
abbrev cX6_tires : ByteArray := prog_4_method_7_code
def yX6_tires : MethodName := ⟨RX6, "tires", "()I"⟩
theorem dX6_tires_0 : decode cX6_tires 0 = .ok (.iconst 5, 1) := by decide +kernel
theorem dX6_tires_1 : decode cX6_tires 1 = .ok (.ireturn, 1) := by decide +kernel
abbrev cX6_gains : ByteArray := prog_4_method_6_code
def yX6_gains : MethodName := ⟨RX6, "gains", "(I)I"⟩
theorem dX6_gains_0 : decode cX6_gains 0 = .ok (.iload_n 1, 1) := by decide +kernel
theorem dX6_gains_1 : decode cX6_gains 1 = .ok (.ireturn, 1) := by decide +kernel
abbrev cX6_isUnder : ByteArray := prog_4_method_3_code
def yX6_isUnder : MethodName := ⟨RX6, "isUnder", "(I)Z"⟩
def dkwX6_isUnder_0 : List UInt8 := [27, 153, 0, 11, 27, 42, 182, 0, 19, 160, 0, 7, 4, 167, 0, 4, 3, 172]
abbrev dktX6_isUnder_0 : List UInt8 := dkwX6_isUnder_0 ++ []
theorem dksX6_isUnder_0 : cX6_isUnder.data.toList.drop 0 = dktX6_isUnder_0 := by decide +kernel
theorem dX6_isUnder_0 : decode cX6_isUnder 0 = .ok (.iload_n 1, 1) := dk_27 (dk_at dksX6_isUnder_0 0 rfl rfl)
theorem dX6_isUnder_1 : decode cX6_isUnder 1 = .ok (.ifCond .eq 11, 3) := dk_153 0 11 (dk_at dksX6_isUnder_0 1 rfl rfl)
theorem dX6_isUnder_4 : decode cX6_isUnder 4 = .ok (.iload_n 1, 1) := dk_27 (dk_at dksX6_isUnder_0 4 rfl rfl)
theorem dX6_isUnder_5 : decode cX6_isUnder 5 = .ok (.aload_n 0, 1) := dk_42 (dk_at dksX6_isUnder_0 5 rfl rfl)
theorem dX6_isUnder_6 : decode cX6_isUnder 6 = .ok (.invokevirtual 19, 3) := dk_182 0 19 (dk_at dksX6_isUnder_0 6 rfl rfl)
theorem dX6_isUnder_9 : decode cX6_isUnder 9 = .ok (.if_icmp .ne 7, 3) := dk_160 0 7 (dk_at dksX6_isUnder_0 9 rfl rfl)
theorem dX6_isUnder_12 : decode cX6_isUnder 12 = .ok (.iconst 1, 1) := dk_4 (dk_at dksX6_isUnder_0 12 rfl rfl)
theorem dX6_isUnder_13 : decode cX6_isUnder 13 = .ok (.goto 4, 3) := dk_167 0 4 (dk_at dksX6_isUnder_0 13 rfl rfl)
theorem dX6_isUnder_16 : decode cX6_isUnder 16 = .ok (.iconst 0, 1) := dk_3 (dk_at dksX6_isUnder_0 16 rfl rfl)
theorem dX6_isUnder_17 : decode cX6_isUnder 17 = .ok (.ireturn, 1) := dk_172 (dk_at dksX6_isUnder_0 17 rfl rfl)
theorem q99 : (Jvm.Cond.initialized "LineCalls$Jumper") ∈ lw_all := lw_g (lw_at lw_m1 10 rfl) rfl
theorem q241 : (Jvm.Cond.fieldLinkNest "LineCalls$Jumper" (27 : Nat) "LineCalls$World" "jumper" "[[I" "LineCalls") ∈ lw_tbl := lw_at lw_m1 152 rfl
theorem q326 : (Jvm.Cond.instanceMethod ({ cls := "LineCalls$Jumper", name := "<init>", desc := "(LLineCalls;I)V" } : Jvm.MethodName)) ∈ lw_all := lw_g (lw_at lw_m1 237 rfl) rfl
theorem q327 : (Jvm.Cond.code ({ cls := "LineCalls$Jumper", name := "<init>", desc := "(LLineCalls;I)V" } : Jvm.MethodName) prog_4_method_1_code (3 : Nat) (Option.none : Option Jvm.ClassFile.FieldType)) ∈ lw_all := lw_g (lw_at lw_m1 238 rfl) rfl
theorem q328 : (Jvm.Cond.methodLink "LineCalls$Jumper" (9 : Nat) ({ cls := "java/lang/Object", name := "<init>", desc := "()V" } : Jvm.MethodName)) ∈ lw_all := lw_g (lw_at lw_m1 239 rfl) rfl
theorem q330 : (Jvm.Cond.fieldLink "LineCalls$Jumper" (15 : Nat) "LineCalls$Jumper" "number" "I") ∈ lw_all := lw_g (lw_at lw_m2 1 rfl) rfl
theorem q332 : (Jvm.Cond.fieldLink "LineCalls$Jumper" (3 : Nat) "LineCalls$Jumper" "this$0" "LLineCalls;") ∈ lw_all := lw_g (lw_at lw_m2 3 rfl) rfl
theorem q336 : (Jvm.Cond.soleField "LineCalls$Jumper" "number") ∈ lw_all := lw_g (lw_at lw_m2 7 rfl) rfl
theorem q338 : (Jvm.Cond.soleField "LineCalls$Jumper" "this$0") ∈ lw_all := lw_g (lw_at lw_m2 9 rfl) rfl
theorem q405 : (Jvm.Cond.instantiable "LineCalls$Jumper" (2 : Nat)) ∈ lw_all := lw_g (lw_at lw_m2 76 rfl) rfl
theorem q407 : (Jvm.Cond.laysFinal "LineCalls$Jumper" "LineCalls$Jumper" "number" "I") ∈ lw_all := lw_g (lw_at lw_m2 78 rfl) rfl
theorem q408 : (Jvm.Cond.laysFinal "LineCalls$Jumper" "LineCalls$Jumper" "this$0" "LLineCalls;") ∈ lw_all := lw_g (lw_at lw_m2 79 rfl) rfl
theorem q409 : (Jvm.Cond.superclass "LineCalls$Jumper" "java/lang/Object") ∈ lw_all := lw_g (lw_at lw_m2 80 rfl) rfl
theorem q415 : (Jvm.Cond.fieldLinkNest "LineCalls$Jumper" (23 : Nat) "LineCalls" "d" "LLineCalls$World;" "LineCalls") ∈ lw_tbl := lw_at lw_m2 86 rfl
theorem q554 : (Jvm.Cond.instanceMethod ({ cls := "LineCalls$Jumper", name := "kind", desc := "()I" } : Jvm.MethodName)) ∈ lw_all := lw_g (lw_at lw_m2 225 rfl) rfl
theorem q555 : (Jvm.Cond.selects "LineCalls$Jumper" ({ cls := "LineCalls$Jumper", name := "kind", desc := "()I" } : Jvm.MethodName) ({ cls := "LineCalls$Jumper", name := "kind", desc := "()I" } : Jvm.MethodName)) ∈ lw_all := lw_g (lw_at lw_m2 226 rfl) rfl
theorem q556 : (Jvm.Cond.sameMethod "LineCalls$Jumper" "LineCalls$Jumper" "kind" "()I") ∈ lw_all := lw_g (lw_at lw_m2 227 rfl) rfl
theorem q581 : (Jvm.Cond.code ({ cls := "LineCalls$Jumper", name := "kind", desc := "()I" } : Jvm.MethodName) prog_4_method_2_code (1 : Nat) (Option.some Jvm.ClassFile.FieldType.int)) ∈ lw_all := lw_g (lw_at lw_m3 12 rfl) rfl
theorem q583 : (Jvm.Cond.instanceMethod ({ cls := "LineCalls$Jumper", name := "high", desc := "()I" } : Jvm.MethodName)) ∈ lw_all := lw_g (lw_at lw_m3 14 rfl) rfl
theorem q584 : (Jvm.Cond.selects "LineCalls$Jumper" ({ cls := "LineCalls$Jumper", name := "high", desc := "()I" } : Jvm.MethodName) ({ cls := "LineCalls$Jumper", name := "high", desc := "()I" } : Jvm.MethodName)) ∈ lw_all := lw_g (lw_at lw_m3 15 rfl) rfl
theorem q585 : (Jvm.Cond.sameMethod "LineCalls$Jumper" "LineCalls$Jumper" "high" "()I") ∈ lw_all := lw_g (lw_at lw_m3 16 rfl) rfl
theorem q611 : (Jvm.Cond.declares ({ cls := "LineCalls$Jumper", name := "told", desc := "(I)I" } : Jvm.MethodName)) ∈ lw_tbl := lw_at lw_m3 42 rfl
theorem q613 : (Jvm.Cond.instanceMethod ({ cls := "LineCalls$Jumper", name := "told", desc := "(I)I" } : Jvm.MethodName)) ∈ lw_all := lw_g (lw_at lw_m3 44 rfl) rfl
theorem q614 : (Jvm.Cond.code ({ cls := "LineCalls$Jumper", name := "told", desc := "(I)I" } : Jvm.MethodName) prog_4_method_4_code (2 : Nat) (Option.some Jvm.ClassFile.FieldType.int)) ∈ lw_all := lw_g (lw_at lw_m3 45 rfl) rfl
theorem q622 : (Jvm.Cond.code ({ cls := "LineCalls$Jumper", name := "high", desc := "()I" } : Jvm.MethodName) prog_4_method_5_code (1 : Nat) (Option.some Jvm.ClassFile.FieldType.int)) ∈ lw_all := lw_g (lw_at lw_m3 53 rfl) rfl
theorem q623 : (Jvm.Cond.methodLink "LineCalls$Jumper" (33 : Nat) ({ cls := "LineCalls$Jumper", name := "told", desc := "(I)I" } : Jvm.MethodName)) ∈ lw_all := lw_g (lw_at lw_m3 54 rfl) rfl
theorem q624 : (Jvm.Cond.methodLink "LineCalls$Jumper" (37 : Nat) ({ cls := "java/lang/Math", name := "max", desc := "(II)I" } : Jvm.MethodName)) ∈ lw_all := lw_g (lw_at lw_m3 55 rfl) rfl
theorem q628 : (Jvm.Cond.instanceMethod ({ cls := "LineCalls$Jumper", name := "tires", desc := "()I" } : Jvm.MethodName)) ∈ lw_all := lw_g (lw_at lw_m3 59 rfl) rfl
theorem q629 : (Jvm.Cond.selects "LineCalls$Jumper" ({ cls := "LineCalls$Jumper", name := "tires", desc := "()I" } : Jvm.MethodName) ({ cls := "LineCalls$Jumper", name := "tires", desc := "()I" } : Jvm.MethodName)) ∈ lw_all := lw_g (lw_at lw_m3 60 rfl) rfl
theorem q630 : (Jvm.Cond.sameMethod "LineCalls$Jumper" "LineCalls$Jumper" "tires" "()I") ∈ lw_all := lw_g (lw_at lw_m3 61 rfl) rfl
theorem q654 : (Jvm.Cond.code ({ cls := "LineCalls$Jumper", name := "tires", desc := "()I" } : Jvm.MethodName) prog_4_method_7_code (1 : Nat) (Option.some Jvm.ClassFile.FieldType.int)) ∈ lw_all := lw_g (lw_at lw_m3 85 rfl) rfl
theorem q671 : (Jvm.Cond.instanceMethod ({ cls := "LineCalls$Jumper", name := "gains", desc := "(I)I" } : Jvm.MethodName)) ∈ lw_all := lw_g (lw_at lw_m3 102 rfl) rfl
theorem q672 : (Jvm.Cond.selects "LineCalls$Jumper" ({ cls := "LineCalls$Jumper", name := "gains", desc := "(I)I" } : Jvm.MethodName) ({ cls := "LineCalls$Jumper", name := "gains", desc := "(I)I" } : Jvm.MethodName)) ∈ lw_all := lw_g (lw_at lw_m3 103 rfl) rfl
theorem q673 : (Jvm.Cond.sameMethod "LineCalls$Jumper" "LineCalls$Jumper" "gains" "(I)I") ∈ lw_all := lw_g (lw_at lw_m3 104 rfl) rfl
theorem q694 : (Jvm.Cond.code ({ cls := "LineCalls$Jumper", name := "gains", desc := "(I)I" } : Jvm.MethodName) prog_4_method_6_code (2 : Nat) (Option.some Jvm.ClassFile.FieldType.int)) ∈ lw_all := lw_g (lw_at lw_m3 125 rfl) rfl
theorem q1101 : (Jvm.Cond.instanceMethod ({ cls := "LineCalls$Jumper", name := "isUnder", desc := "(I)Z" } : Jvm.MethodName)) ∈ lw_all := lw_g (lw_at lw_m5 52 rfl) rfl
theorem q1102 : (Jvm.Cond.selects "LineCalls$Jumper" ({ cls := "LineCalls$Jumper", name := "isUnder", desc := "(I)Z" } : Jvm.MethodName) ({ cls := "LineCalls$Jumper", name := "isUnder", desc := "(I)Z" } : Jvm.MethodName)) ∈ lw_all := lw_g (lw_at lw_m5 53 rfl) rfl
theorem q1103 : (Jvm.Cond.sameMethod "LineCalls$Jumper" "LineCalls$Jumper" "isUnder" "(I)Z") ∈ lw_all := lw_g (lw_at lw_m5 54 rfl) rfl
theorem q1119 : (Jvm.Cond.code ({ cls := "LineCalls$Jumper", name := "isUnder", desc := "(I)Z" } : Jvm.MethodName) prog_4_method_3_code (2 : Nat) (Option.some Jvm.ClassFile.FieldType.boolean)) ∈ lw_all := lw_g (lw_at lw_m5 70 rfl) rfl
theorem q1120 : (Jvm.Cond.methodLink "LineCalls$Jumper" (19 : Nat) ({ cls := "LineCalls$Jumper", name := "kind", desc := "()I" } : Jvm.MethodName)) ∈ lw_all := lw_g (lw_at lw_m5 71 rfl) rfl
theorem q1692 : (Jvm.Cond.sameMethod "LineCalls$Jumper" "LineCalls$Jumper" "told" "(I)I") ∈ lw_all := lw_g (lw_at lw_m7 163 rfl) rfl
theorem q1695 : (Jvm.Cond.selects "LineCalls$Jumper" ({ cls := "LineCalls$Jumper", name := "told", desc := "(I)I" } : Jvm.MethodName) ({ cls := "LineCalls$Jumper", name := "told", desc := "(I)I" } : Jvm.MethodName)) ∈ lw_all := lw_g (lw_at lw_m7 166 rfl) rfl
theorem in_X6 : ∀ w ∈ wsX60, w ∈ lw_all := lw_in wsX60 [407, 408] (by decide +kernel) (by decide +kernel)

/-! LineCalls$Prop -/
set_option maxRecDepth 100000
def RX7 : String := "LineCalls$Prop"
def TX7 : u_T := fun k => match k with
  | 0 => ("LineCalls$Jumper", "number", "I", true)
  | 1 => ("LineCalls$Jumper", "this$0", "LLineCalls;", true)
  | _ => ("LineCalls$Prop", "this$0", "LLineCalls;", true)
def tyX7 : Nat → FieldType := fun k => match k with
  | 0 => .int
  | 1 => .object "LineCalls"
  | _ => .object "LineCalls"
abbrev wsX70 : List Cond := u_ws RX7 TX7 3
-- two fields of one name: no nmX7
theorem tyX7_ok : ∀ k, k < 3 → parseFieldDescriptor (TX7 k).2.2.1 = some (tyX7 k) := by decide +kernel
abbrev cX7_init : ByteArray := prog_7_method_1_code
def yX7_init : MethodName := ⟨RX7, "<init>", "(LLineCalls;I)V"⟩
def dkwX7_init_0 : List UInt8 := [42, 43, 181, 0, 3, 42, 43, 28, 183, 0, 9, 177]
abbrev dktX7_init_0 : List UInt8 := dkwX7_init_0 ++ []
theorem dksX7_init_0 : cX7_init.data.toList.drop 0 = dktX7_init_0 := by decide +kernel
theorem dX7_init_0 : decode cX7_init 0 = .ok (.aload_n 0, 1) := dk_42 (dk_at dksX7_init_0 0 rfl rfl)
theorem dX7_init_1 : decode cX7_init 1 = .ok (.aload_n 1, 1) := dk_43 (dk_at dksX7_init_0 1 rfl rfl)
theorem dX7_init_2 : decode cX7_init 2 = .ok (.putfield 3, 3) := dk_181 0 3 (dk_at dksX7_init_0 2 rfl rfl)
theorem dX7_init_5 : decode cX7_init 5 = .ok (.aload_n 0, 1) := dk_42 (dk_at dksX7_init_0 5 rfl rfl)
theorem dX7_init_6 : decode cX7_init 6 = .ok (.aload_n 1, 1) := dk_43 (dk_at dksX7_init_0 6 rfl rfl)
theorem dX7_init_7 : decode cX7_init 7 = .ok (.iload_n 2, 1) := dk_28 (dk_at dksX7_init_0 7 rfl rfl)
theorem dX7_init_8 : decode cX7_init 8 = .ok (.invokespecial 9, 3) := dk_183 0 9 (dk_at dksX7_init_0 8 rfl rfl)
theorem dX7_init_11 : decode cX7_init 11 = .ok (.return_, 1) := dk_177 (dk_at dksX7_init_0 11 rfl rfl)
abbrev cX7_kind : ByteArray := prog_7_method_2_code
def yX7_kind : MethodName := ⟨RX7, "kind", "()I"⟩
def dkwX7_kind_0 : List UInt8 := [4, 42, 183, 0, 15, 96, 172]
abbrev dktX7_kind_0 : List UInt8 := dkwX7_kind_0 ++ []
theorem dksX7_kind_0 : cX7_kind.data.toList.drop 0 = dktX7_kind_0 := by decide +kernel
theorem dX7_kind_0 : decode cX7_kind 0 = .ok (.iconst 1, 1) := dk_4 (dk_at dksX7_kind_0 0 rfl rfl)
theorem dX7_kind_1 : decode cX7_kind 1 = .ok (.aload_n 0, 1) := dk_42 (dk_at dksX7_kind_0 1 rfl rfl)
theorem dX7_kind_2 : decode cX7_kind 2 = .ok (.invokespecial 15, 3) := dk_183 0 15 (dk_at dksX7_kind_0 2 rfl rfl)
theorem dX7_kind_5 : decode cX7_kind 5 = .ok (.iadd, 1) := dk_96 (dk_at dksX7_kind_0 5 rfl rfl)
theorem dX7_kind_6 : decode cX7_kind 6 = .ok (.ireturn, 1) := dk_172 (dk_at dksX7_kind_0 6 rfl rfl)
abbrev cX7_high : ByteArray := prog_7_method_4_code
def yX7_high : MethodName := ⟨RX7, "high", "()I"⟩
def dkwX7_high_0 : List UInt8 := [42, 42, 183, 0, 23, 182, 0, 26, 172]
abbrev dktX7_high_0 : List UInt8 := dkwX7_high_0 ++ []
theorem dksX7_high_0 : cX7_high.data.toList.drop 0 = dktX7_high_0 := by decide +kernel
theorem dX7_high_0 : decode cX7_high 0 = .ok (.aload_n 0, 1) := dk_42 (dk_at dksX7_high_0 0 rfl rfl)
theorem dX7_high_1 : decode cX7_high 1 = .ok (.aload_n 0, 1) := dk_42 (dk_at dksX7_high_0 1 rfl rfl)
theorem dX7_high_2 : decode cX7_high 2 = .ok (.invokespecial 23, 3) := dk_183 0 23 (dk_at dksX7_high_0 2 rfl rfl)
theorem dX7_high_5 : decode cX7_high 5 = .ok (.invokevirtual 26, 3) := dk_182 0 26 (dk_at dksX7_high_0 5 rfl rfl)
theorem dX7_high_8 : decode cX7_high 8 = .ok (.ireturn, 1) := dk_172 (dk_at dksX7_high_0 8 rfl rfl)
abbrev cX7_tires : ByteArray := prog_7_method_6_code
def yX7_tires : MethodName := ⟨RX7, "tires", "()I"⟩
def dkwX7_tires_0 : List UInt8 := [42, 183, 0, 30, 6, 96, 172]
abbrev dktX7_tires_0 : List UInt8 := dkwX7_tires_0 ++ []
theorem dksX7_tires_0 : cX7_tires.data.toList.drop 0 = dktX7_tires_0 := by decide +kernel
theorem dX7_tires_0 : decode cX7_tires 0 = .ok (.aload_n 0, 1) := dk_42 (dk_at dksX7_tires_0 0 rfl rfl)
theorem dX7_tires_1 : decode cX7_tires 1 = .ok (.invokespecial 30, 3) := dk_183 0 30 (dk_at dksX7_tires_0 1 rfl rfl)
theorem dX7_tires_4 : decode cX7_tires 4 = .ok (.iconst 3, 1) := dk_6 (dk_at dksX7_tires_0 4 rfl rfl)
theorem dX7_tires_5 : decode cX7_tires 5 = .ok (.iadd, 1) := dk_96 (dk_at dksX7_tires_0 5 rfl rfl)
theorem dX7_tires_6 : decode cX7_tires 6 = .ok (.ireturn, 1) := dk_172 (dk_at dksX7_tires_0 6 rfl rfl)
abbrev cX7_gains : ByteArray := prog_7_method_5_code
def yX7_gains : MethodName := ⟨RX7, "gains", "(I)I"⟩
theorem dX7_gains_0 : decode cX7_gains 0 = .ok (.iconst 1, 1) := by decide +kernel
theorem dX7_gains_1 : decode cX7_gains 1 = .ok (.ireturn, 1) := by decide +kernel
abbrev cX7_isUnder : ByteArray := prog_7_method_3_code
def yX7_isUnder : MethodName := ⟨RX7, "isUnder", "(I)Z"⟩
def dkwX7_isUnder_0 : List UInt8 := [27, 4, 159, 0, 11, 42, 27, 183, 0, 19, 153, 0, 7, 4, 167, 0, 4, 3, 172]
abbrev dktX7_isUnder_0 : List UInt8 := dkwX7_isUnder_0 ++ []
theorem dksX7_isUnder_0 : cX7_isUnder.data.toList.drop 0 = dktX7_isUnder_0 := by decide +kernel
theorem dX7_isUnder_0 : decode cX7_isUnder 0 = .ok (.iload_n 1, 1) := dk_27 (dk_at dksX7_isUnder_0 0 rfl rfl)
theorem dX7_isUnder_1 : decode cX7_isUnder 1 = .ok (.iconst 1, 1) := dk_4 (dk_at dksX7_isUnder_0 1 rfl rfl)
theorem dX7_isUnder_2 : decode cX7_isUnder 2 = .ok (.if_icmp .eq 11, 3) := dk_159 0 11 (dk_at dksX7_isUnder_0 2 rfl rfl)
theorem dX7_isUnder_5 : decode cX7_isUnder 5 = .ok (.aload_n 0, 1) := dk_42 (dk_at dksX7_isUnder_0 5 rfl rfl)
theorem dX7_isUnder_6 : decode cX7_isUnder 6 = .ok (.iload_n 1, 1) := dk_27 (dk_at dksX7_isUnder_0 6 rfl rfl)
theorem dX7_isUnder_7 : decode cX7_isUnder 7 = .ok (.invokespecial 19, 3) := dk_183 0 19 (dk_at dksX7_isUnder_0 7 rfl rfl)
theorem dX7_isUnder_10 : decode cX7_isUnder 10 = .ok (.ifCond .eq 7, 3) := dk_153 0 7 (dk_at dksX7_isUnder_0 10 rfl rfl)
theorem dX7_isUnder_13 : decode cX7_isUnder 13 = .ok (.iconst 1, 1) := dk_4 (dk_at dksX7_isUnder_0 13 rfl rfl)
theorem dX7_isUnder_14 : decode cX7_isUnder 14 = .ok (.goto 4, 3) := dk_167 0 4 (dk_at dksX7_isUnder_0 14 rfl rfl)
theorem dX7_isUnder_17 : decode cX7_isUnder 17 = .ok (.iconst 0, 1) := dk_3 (dk_at dksX7_isUnder_0 17 rfl rfl)
theorem dX7_isUnder_18 : decode cX7_isUnder 18 = .ok (.ireturn, 1) := dk_172 (dk_at dksX7_isUnder_0 18 rfl rfl)
theorem q100 : (Jvm.Cond.initialized "LineCalls$Prop") ∈ lw_all := lw_g (lw_at lw_m1 11 rfl) rfl
theorem q321 : (Jvm.Cond.instantiable "LineCalls$Prop" (3 : Nat)) ∈ lw_all := lw_g (lw_at lw_m1 232 rfl) rfl
theorem q323 : (Jvm.Cond.instanceMethod ({ cls := "LineCalls$Prop", name := "<init>", desc := "(LLineCalls;I)V" } : Jvm.MethodName)) ∈ lw_all := lw_g (lw_at lw_m1 234 rfl) rfl
theorem q324 : (Jvm.Cond.code ({ cls := "LineCalls$Prop", name := "<init>", desc := "(LLineCalls;I)V" } : Jvm.MethodName) prog_7_method_1_code (3 : Nat) (Option.none : Option Jvm.ClassFile.FieldType)) ∈ lw_all := lw_g (lw_at lw_m1 235 rfl) rfl
theorem q325 : (Jvm.Cond.methodLink "LineCalls$Prop" (9 : Nat) ({ cls := "LineCalls$Jumper", name := "<init>", desc := "(LLineCalls;I)V" } : Jvm.MethodName)) ∈ lw_all := lw_g (lw_at lw_m1 236 rfl) rfl
theorem q329 : (Jvm.Cond.fieldLink "LineCalls$Prop" (3 : Nat) "LineCalls$Prop" "this$0" "LLineCalls;") ∈ lw_all := lw_g (lw_at lw_m2 0 rfl) rfl
theorem q333 : (Jvm.Cond.laysFinal "LineCalls$Prop" "LineCalls$Prop" "this$0" "LLineCalls;") ∈ lw_all := lw_g (lw_at lw_m2 4 rfl) rfl
theorem q334 : (Jvm.Cond.soleField "LineCalls$Prop" "this$0") ∈ lw_all := lw_g (lw_at lw_m2 5 rfl) rfl
theorem q335 : (Jvm.Cond.laysFinal "LineCalls$Prop" "LineCalls$Jumper" "number" "I") ∈ lw_all := lw_g (lw_at lw_m2 6 rfl) rfl
theorem q337 : (Jvm.Cond.laysFinal "LineCalls$Prop" "LineCalls$Jumper" "this$0" "LLineCalls;") ∈ lw_all := lw_g (lw_at lw_m2 8 rfl) rfl
theorem q339 : (Jvm.Cond.superclass "LineCalls$Prop" "LineCalls$Jumper") ∈ lw_all := lw_g (lw_at lw_m2 10 rfl) rfl
theorem q561 : (Jvm.Cond.instanceMethod ({ cls := "LineCalls$Prop", name := "kind", desc := "()I" } : Jvm.MethodName)) ∈ lw_all := lw_g (lw_at lw_m2 232 rfl) rfl
theorem q562 : (Jvm.Cond.code ({ cls := "LineCalls$Prop", name := "kind", desc := "()I" } : Jvm.MethodName) prog_7_method_2_code (1 : Nat) (Option.some Jvm.ClassFile.FieldType.int)) ∈ lw_all := lw_g (lw_at lw_m2 233 rfl) rfl
theorem q563 : (Jvm.Cond.methodLink "LineCalls$Prop" (15 : Nat) ({ cls := "LineCalls$Jumper", name := "kind", desc := "()I" } : Jvm.MethodName)) ∈ lw_all := lw_g (lw_at lw_m2 234 rfl) rfl
theorem q575 : (Jvm.Cond.selects "LineCalls$Prop" ({ cls := "LineCalls$Jumper", name := "kind", desc := "()I" } : Jvm.MethodName) ({ cls := "LineCalls$Prop", name := "kind", desc := "()I" } : Jvm.MethodName)) ∈ lw_all := lw_g (lw_at lw_m3 6 rfl) rfl
theorem q590 : (Jvm.Cond.instanceMethod ({ cls := "LineCalls$Prop", name := "high", desc := "()I" } : Jvm.MethodName)) ∈ lw_all := lw_g (lw_at lw_m3 21 rfl) rfl
theorem q591 : (Jvm.Cond.code ({ cls := "LineCalls$Prop", name := "high", desc := "()I" } : Jvm.MethodName) prog_7_method_4_code (1 : Nat) (Option.some Jvm.ClassFile.FieldType.int)) ∈ lw_all := lw_g (lw_at lw_m3 22 rfl) rfl
theorem q592 : (Jvm.Cond.methodLink "LineCalls$Prop" (23 : Nat) ({ cls := "LineCalls$Jumper", name := "high", desc := "()I" } : Jvm.MethodName)) ∈ lw_all := lw_g (lw_at lw_m3 23 rfl) rfl
theorem q595 : (Jvm.Cond.unhidden "LineCalls$Prop" "half" "(I)I") ∈ lw_tbl := lw_at lw_m3 26 rfl
theorem q616 : (Jvm.Cond.selects "LineCalls$Prop" ({ cls := "LineCalls$Jumper", name := "high", desc := "()I" } : Jvm.MethodName) ({ cls := "LineCalls$Prop", name := "high", desc := "()I" } : Jvm.MethodName)) ∈ lw_all := lw_g (lw_at lw_m3 47 rfl) rfl
theorem q635 : (Jvm.Cond.instanceMethod ({ cls := "LineCalls$Prop", name := "tires", desc := "()I" } : Jvm.MethodName)) ∈ lw_all := lw_g (lw_at lw_m3 66 rfl) rfl
theorem q636 : (Jvm.Cond.code ({ cls := "LineCalls$Prop", name := "tires", desc := "()I" } : Jvm.MethodName) prog_7_method_6_code (1 : Nat) (Option.some Jvm.ClassFile.FieldType.int)) ∈ lw_all := lw_g (lw_at lw_m3 67 rfl) rfl
theorem q637 : (Jvm.Cond.methodLink "LineCalls$Prop" (30 : Nat) ({ cls := "LineCalls$Jumper", name := "tires", desc := "()I" } : Jvm.MethodName)) ∈ lw_all := lw_g (lw_at lw_m3 68 rfl) rfl
theorem q648 : (Jvm.Cond.selects "LineCalls$Prop" ({ cls := "LineCalls$Jumper", name := "tires", desc := "()I" } : Jvm.MethodName) ({ cls := "LineCalls$Prop", name := "tires", desc := "()I" } : Jvm.MethodName)) ∈ lw_all := lw_g (lw_at lw_m3 79 rfl) rfl
theorem q678 : (Jvm.Cond.instanceMethod ({ cls := "LineCalls$Prop", name := "gains", desc := "(I)I" } : Jvm.MethodName)) ∈ lw_all := lw_g (lw_at lw_m3 109 rfl) rfl
theorem q679 : (Jvm.Cond.code ({ cls := "LineCalls$Prop", name := "gains", desc := "(I)I" } : Jvm.MethodName) prog_7_method_5_code (2 : Nat) (Option.some Jvm.ClassFile.FieldType.int)) ∈ lw_all := lw_g (lw_at lw_m3 110 rfl) rfl
theorem q691 : (Jvm.Cond.selects "LineCalls$Prop" ({ cls := "LineCalls$Jumper", name := "gains", desc := "(I)I" } : Jvm.MethodName) ({ cls := "LineCalls$Prop", name := "gains", desc := "(I)I" } : Jvm.MethodName)) ∈ lw_all := lw_g (lw_at lw_m3 122 rfl) rfl
theorem q1105 : (Jvm.Cond.instanceMethod ({ cls := "LineCalls$Prop", name := "isUnder", desc := "(I)Z" } : Jvm.MethodName)) ∈ lw_all := lw_g (lw_at lw_m5 56 rfl) rfl
theorem q1106 : (Jvm.Cond.code ({ cls := "LineCalls$Prop", name := "isUnder", desc := "(I)Z" } : Jvm.MethodName) prog_7_method_3_code (2 : Nat) (Option.some Jvm.ClassFile.FieldType.boolean)) ∈ lw_all := lw_g (lw_at lw_m5 57 rfl) rfl
theorem q1107 : (Jvm.Cond.methodLink "LineCalls$Prop" (19 : Nat) ({ cls := "LineCalls$Jumper", name := "isUnder", desc := "(I)Z" } : Jvm.MethodName)) ∈ lw_all := lw_g (lw_at lw_m5 58 rfl) rfl
theorem q1116 : (Jvm.Cond.selects "LineCalls$Prop" ({ cls := "LineCalls$Jumper", name := "isUnder", desc := "(I)Z" } : Jvm.MethodName) ({ cls := "LineCalls$Prop", name := "isUnder", desc := "(I)Z" } : Jvm.MethodName)) ∈ lw_all := lw_g (lw_at lw_m5 67 rfl) rfl
theorem q1686 : (Jvm.Cond.sameMethod "LineCalls$Prop" "LineCalls$Prop" "kind" "()I") ∈ lw_all := lw_g (lw_at lw_m7 157 rfl) rfl
theorem q1689 : (Jvm.Cond.sameMethod "LineCalls$Prop" "LineCalls$Prop" "high" "()I") ∈ lw_all := lw_g (lw_at lw_m7 160 rfl) rfl
theorem q1697 : (Jvm.Cond.selects "LineCalls$Prop" ({ cls := "LineCalls$Jumper", name := "told", desc := "(I)I" } : Jvm.MethodName) ({ cls := "LineCalls$Jumper", name := "told", desc := "(I)I" } : Jvm.MethodName)) ∈ lw_all := lw_g (lw_at lw_m7 168 rfl) rfl
theorem q1700 : (Jvm.Cond.sameMethod "LineCalls$Prop" "LineCalls$Prop" "tires" "()I") ∈ lw_all := lw_g (lw_at lw_m7 171 rfl) rfl
theorem q1701 : (Jvm.Cond.sameMethod "LineCalls$Prop" "LineCalls$Prop" "gains" "(I)I") ∈ lw_all := lw_g (lw_at lw_m7 172 rfl) rfl
theorem q1706 : (Jvm.Cond.castable "LineCalls$Prop" "LineCalls$Jumper") ∈ lw_tbl := lw_at lw_m7 177 rfl
theorem in_X7 : ∀ w ∈ wsX70, w ∈ lw_all := lw_in wsX70 [335, 337, 333] (by decide +kernel) (by decide +kernel)

/-! LineCalls$Lock -/
set_option maxRecDepth 100000
def RX8 : String := "LineCalls$Lock"
def TX8 : u_T := fun k => match k with
  | 0 => ("LineCalls$Jumper", "number", "I", true)
  | 1 => ("LineCalls$Jumper", "this$0", "LLineCalls;", true)
  | _ => ("LineCalls$Lock", "this$0", "LLineCalls;", true)
def tyX8 : Nat → FieldType := fun k => match k with
  | 0 => .int
  | 1 => .object "LineCalls"
  | _ => .object "LineCalls"
abbrev wsX80 : List Cond := u_ws RX8 TX8 3
-- two fields of one name: no nmX8
theorem tyX8_ok : ∀ k, k < 3 → parseFieldDescriptor (TX8 k).2.2.1 = some (tyX8 k) := by decide +kernel
abbrev cX8_init : ByteArray := prog_6_method_1_code
def yX8_init : MethodName := ⟨RX8, "<init>", "(LLineCalls;I)V"⟩
def dkwX8_init_0 : List UInt8 := [42, 43, 181, 0, 3, 42, 43, 28, 183, 0, 9, 177]
abbrev dktX8_init_0 : List UInt8 := dkwX8_init_0 ++ []
theorem dksX8_init_0 : cX8_init.data.toList.drop 0 = dktX8_init_0 := by decide +kernel
theorem dX8_init_0 : decode cX8_init 0 = .ok (.aload_n 0, 1) := dk_42 (dk_at dksX8_init_0 0 rfl rfl)
theorem dX8_init_1 : decode cX8_init 1 = .ok (.aload_n 1, 1) := dk_43 (dk_at dksX8_init_0 1 rfl rfl)
theorem dX8_init_2 : decode cX8_init 2 = .ok (.putfield 3, 3) := dk_181 0 3 (dk_at dksX8_init_0 2 rfl rfl)
theorem dX8_init_5 : decode cX8_init 5 = .ok (.aload_n 0, 1) := dk_42 (dk_at dksX8_init_0 5 rfl rfl)
theorem dX8_init_6 : decode cX8_init 6 = .ok (.aload_n 1, 1) := dk_43 (dk_at dksX8_init_0 6 rfl rfl)
theorem dX8_init_7 : decode cX8_init 7 = .ok (.iload_n 2, 1) := dk_28 (dk_at dksX8_init_0 7 rfl rfl)
theorem dX8_init_8 : decode cX8_init 8 = .ok (.invokespecial 9, 3) := dk_183 0 9 (dk_at dksX8_init_0 8 rfl rfl)
theorem dX8_init_11 : decode cX8_init 11 = .ok (.return_, 1) := dk_177 (dk_at dksX8_init_0 11 rfl rfl)
abbrev cX8_kind : ByteArray := prog_6_method_2_code
def yX8_kind : MethodName := ⟨RX8, "kind", "()I"⟩
def dkwX8_kind_0 : List UInt8 := [5, 42, 183, 0, 15, 96, 172]
abbrev dktX8_kind_0 : List UInt8 := dkwX8_kind_0 ++ []
theorem dksX8_kind_0 : cX8_kind.data.toList.drop 0 = dktX8_kind_0 := by decide +kernel
theorem dX8_kind_0 : decode cX8_kind 0 = .ok (.iconst 2, 1) := dk_5 (dk_at dksX8_kind_0 0 rfl rfl)
theorem dX8_kind_1 : decode cX8_kind 1 = .ok (.aload_n 0, 1) := dk_42 (dk_at dksX8_kind_0 1 rfl rfl)
theorem dX8_kind_2 : decode cX8_kind 2 = .ok (.invokespecial 15, 3) := dk_183 0 15 (dk_at dksX8_kind_0 2 rfl rfl)
theorem dX8_kind_5 : decode cX8_kind 5 = .ok (.iadd, 1) := dk_96 (dk_at dksX8_kind_0 5 rfl rfl)
theorem dX8_kind_6 : decode cX8_kind 6 = .ok (.ireturn, 1) := dk_172 (dk_at dksX8_kind_0 6 rfl rfl)
abbrev cX8_high : ByteArray := prog_6_method_4_code
def yX8_high : MethodName := ⟨RX8, "high", "()I"⟩
def dkwX8_high_0 : List UInt8 := [42, 183, 0, 23, 16, 10, 96, 172]
abbrev dktX8_high_0 : List UInt8 := dkwX8_high_0 ++ []
theorem dksX8_high_0 : cX8_high.data.toList.drop 0 = dktX8_high_0 := by decide +kernel
theorem dX8_high_0 : decode cX8_high 0 = .ok (.aload_n 0, 1) := dk_42 (dk_at dksX8_high_0 0 rfl rfl)
theorem dX8_high_1 : decode cX8_high 1 = .ok (.invokespecial 23, 3) := dk_183 0 23 (dk_at dksX8_high_0 1 rfl rfl)
theorem dX8_high_4 : decode cX8_high 4 = .ok (.bipush 10, 2) := dk_16 10 (dk_at dksX8_high_0 4 rfl rfl)
theorem dX8_high_6 : decode cX8_high 6 = .ok (.iadd, 1) := dk_96 (dk_at dksX8_high_0 6 rfl rfl)
theorem dX8_high_7 : decode cX8_high 7 = .ok (.ireturn, 1) := dk_172 (dk_at dksX8_high_0 7 rfl rfl)
abbrev cX8_tires : ByteArray := prog_6_method_6_code
def yX8_tires : MethodName := ⟨RX8, "tires", "()I"⟩
def dkwX8_tires_0 : List UInt8 := [42, 183, 0, 30, 4, 100, 172]
abbrev dktX8_tires_0 : List UInt8 := dkwX8_tires_0 ++ []
theorem dksX8_tires_0 : cX8_tires.data.toList.drop 0 = dktX8_tires_0 := by decide +kernel
theorem dX8_tires_0 : decode cX8_tires 0 = .ok (.aload_n 0, 1) := dk_42 (dk_at dksX8_tires_0 0 rfl rfl)
theorem dX8_tires_1 : decode cX8_tires 1 = .ok (.invokespecial 30, 3) := dk_183 0 30 (dk_at dksX8_tires_0 1 rfl rfl)
theorem dX8_tires_4 : decode cX8_tires 4 = .ok (.iconst 1, 1) := dk_4 (dk_at dksX8_tires_0 4 rfl rfl)
theorem dX8_tires_5 : decode cX8_tires 5 = .ok (.isub, 1) := dk_100 (dk_at dksX8_tires_0 5 rfl rfl)
theorem dX8_tires_6 : decode cX8_tires 6 = .ok (.ireturn, 1) := dk_172 (dk_at dksX8_tires_0 6 rfl rfl)
abbrev cX8_gains : ByteArray := prog_6_method_5_code
def yX8_gains : MethodName := ⟨RX8, "gains", "(I)I"⟩
def dkwX8_gains_0 : List UInt8 := [42, 27, 183, 0, 26, 5, 96, 172]
abbrev dktX8_gains_0 : List UInt8 := dkwX8_gains_0 ++ []
theorem dksX8_gains_0 : cX8_gains.data.toList.drop 0 = dktX8_gains_0 := by decide +kernel
theorem dX8_gains_0 : decode cX8_gains 0 = .ok (.aload_n 0, 1) := dk_42 (dk_at dksX8_gains_0 0 rfl rfl)
theorem dX8_gains_1 : decode cX8_gains 1 = .ok (.iload_n 1, 1) := dk_27 (dk_at dksX8_gains_0 1 rfl rfl)
theorem dX8_gains_2 : decode cX8_gains 2 = .ok (.invokespecial 26, 3) := dk_183 0 26 (dk_at dksX8_gains_0 2 rfl rfl)
theorem dX8_gains_5 : decode cX8_gains 5 = .ok (.iconst 2, 1) := dk_5 (dk_at dksX8_gains_0 5 rfl rfl)
theorem dX8_gains_6 : decode cX8_gains 6 = .ok (.iadd, 1) := dk_96 (dk_at dksX8_gains_0 6 rfl rfl)
theorem dX8_gains_7 : decode cX8_gains 7 = .ok (.ireturn, 1) := dk_172 (dk_at dksX8_gains_0 7 rfl rfl)
abbrev cX8_isUnder : ByteArray := prog_6_method_3_code
def yX8_isUnder : MethodName := ⟨RX8, "isUnder", "(I)Z"⟩
def dkwX8_isUnder_0 : List UInt8 := [27, 5, 159, 0, 11, 42, 27, 183, 0, 19, 153, 0, 7, 4, 167, 0, 4, 3, 172]
abbrev dktX8_isUnder_0 : List UInt8 := dkwX8_isUnder_0 ++ []
theorem dksX8_isUnder_0 : cX8_isUnder.data.toList.drop 0 = dktX8_isUnder_0 := by decide +kernel
theorem dX8_isUnder_0 : decode cX8_isUnder 0 = .ok (.iload_n 1, 1) := dk_27 (dk_at dksX8_isUnder_0 0 rfl rfl)
theorem dX8_isUnder_1 : decode cX8_isUnder 1 = .ok (.iconst 2, 1) := dk_5 (dk_at dksX8_isUnder_0 1 rfl rfl)
theorem dX8_isUnder_2 : decode cX8_isUnder 2 = .ok (.if_icmp .eq 11, 3) := dk_159 0 11 (dk_at dksX8_isUnder_0 2 rfl rfl)
theorem dX8_isUnder_5 : decode cX8_isUnder 5 = .ok (.aload_n 0, 1) := dk_42 (dk_at dksX8_isUnder_0 5 rfl rfl)
theorem dX8_isUnder_6 : decode cX8_isUnder 6 = .ok (.iload_n 1, 1) := dk_27 (dk_at dksX8_isUnder_0 6 rfl rfl)
theorem dX8_isUnder_7 : decode cX8_isUnder 7 = .ok (.invokespecial 19, 3) := dk_183 0 19 (dk_at dksX8_isUnder_0 7 rfl rfl)
theorem dX8_isUnder_10 : decode cX8_isUnder 10 = .ok (.ifCond .eq 7, 3) := dk_153 0 7 (dk_at dksX8_isUnder_0 10 rfl rfl)
theorem dX8_isUnder_13 : decode cX8_isUnder 13 = .ok (.iconst 1, 1) := dk_4 (dk_at dksX8_isUnder_0 13 rfl rfl)
theorem dX8_isUnder_14 : decode cX8_isUnder 14 = .ok (.goto 4, 3) := dk_167 0 4 (dk_at dksX8_isUnder_0 14 rfl rfl)
theorem dX8_isUnder_17 : decode cX8_isUnder 17 = .ok (.iconst 0, 1) := dk_3 (dk_at dksX8_isUnder_0 17 rfl rfl)
theorem dX8_isUnder_18 : decode cX8_isUnder 18 = .ok (.ireturn, 1) := dk_172 (dk_at dksX8_isUnder_0 18 rfl rfl)
theorem q101 : (Jvm.Cond.initialized "LineCalls$Lock") ∈ lw_all := lw_g (lw_at lw_m1 12 rfl) rfl
theorem q341 : (Jvm.Cond.instantiable "LineCalls$Lock" (3 : Nat)) ∈ lw_all := lw_g (lw_at lw_m2 12 rfl) rfl
theorem q343 : (Jvm.Cond.instanceMethod ({ cls := "LineCalls$Lock", name := "<init>", desc := "(LLineCalls;I)V" } : Jvm.MethodName)) ∈ lw_all := lw_g (lw_at lw_m2 14 rfl) rfl
theorem q344 : (Jvm.Cond.code ({ cls := "LineCalls$Lock", name := "<init>", desc := "(LLineCalls;I)V" } : Jvm.MethodName) prog_6_method_1_code (3 : Nat) (Option.none : Option Jvm.ClassFile.FieldType)) ∈ lw_all := lw_g (lw_at lw_m2 15 rfl) rfl
theorem q345 : (Jvm.Cond.methodLink "LineCalls$Lock" (9 : Nat) ({ cls := "LineCalls$Jumper", name := "<init>", desc := "(LLineCalls;I)V" } : Jvm.MethodName)) ∈ lw_all := lw_g (lw_at lw_m2 16 rfl) rfl
theorem q346 : (Jvm.Cond.fieldLink "LineCalls$Lock" (3 : Nat) "LineCalls$Lock" "this$0" "LLineCalls;") ∈ lw_all := lw_g (lw_at lw_m2 17 rfl) rfl
theorem q347 : (Jvm.Cond.laysFinal "LineCalls$Lock" "LineCalls$Lock" "this$0" "LLineCalls;") ∈ lw_all := lw_g (lw_at lw_m2 18 rfl) rfl
theorem q348 : (Jvm.Cond.soleField "LineCalls$Lock" "this$0") ∈ lw_all := lw_g (lw_at lw_m2 19 rfl) rfl
theorem q349 : (Jvm.Cond.laysFinal "LineCalls$Lock" "LineCalls$Jumper" "number" "I") ∈ lw_all := lw_g (lw_at lw_m2 20 rfl) rfl
theorem q350 : (Jvm.Cond.laysFinal "LineCalls$Lock" "LineCalls$Jumper" "this$0" "LLineCalls;") ∈ lw_all := lw_g (lw_at lw_m2 21 rfl) rfl
theorem q351 : (Jvm.Cond.superclass "LineCalls$Lock" "LineCalls$Jumper") ∈ lw_all := lw_g (lw_at lw_m2 22 rfl) rfl
theorem q571 : (Jvm.Cond.instanceMethod ({ cls := "LineCalls$Lock", name := "kind", desc := "()I" } : Jvm.MethodName)) ∈ lw_all := lw_g (lw_at lw_m3 2 rfl) rfl
theorem q572 : (Jvm.Cond.code ({ cls := "LineCalls$Lock", name := "kind", desc := "()I" } : Jvm.MethodName) prog_6_method_2_code (1 : Nat) (Option.some Jvm.ClassFile.FieldType.int)) ∈ lw_all := lw_g (lw_at lw_m3 3 rfl) rfl
theorem q573 : (Jvm.Cond.methodLink "LineCalls$Lock" (15 : Nat) ({ cls := "LineCalls$Jumper", name := "kind", desc := "()I" } : Jvm.MethodName)) ∈ lw_all := lw_g (lw_at lw_m3 4 rfl) rfl
theorem q574 : (Jvm.Cond.selects "LineCalls$Lock" ({ cls := "LineCalls$Jumper", name := "kind", desc := "()I" } : Jvm.MethodName) ({ cls := "LineCalls$Lock", name := "kind", desc := "()I" } : Jvm.MethodName)) ∈ lw_all := lw_g (lw_at lw_m3 5 rfl) rfl
theorem q606 : (Jvm.Cond.instanceMethod ({ cls := "LineCalls$Lock", name := "high", desc := "()I" } : Jvm.MethodName)) ∈ lw_all := lw_g (lw_at lw_m3 37 rfl) rfl
theorem q607 : (Jvm.Cond.code ({ cls := "LineCalls$Lock", name := "high", desc := "()I" } : Jvm.MethodName) prog_6_method_4_code (1 : Nat) (Option.some Jvm.ClassFile.FieldType.int)) ∈ lw_all := lw_g (lw_at lw_m3 38 rfl) rfl
theorem q608 : (Jvm.Cond.methodLink "LineCalls$Lock" (23 : Nat) ({ cls := "LineCalls$Jumper", name := "high", desc := "()I" } : Jvm.MethodName)) ∈ lw_all := lw_g (lw_at lw_m3 39 rfl) rfl
theorem q615 : (Jvm.Cond.selects "LineCalls$Lock" ({ cls := "LineCalls$Jumper", name := "high", desc := "()I" } : Jvm.MethodName) ({ cls := "LineCalls$Lock", name := "high", desc := "()I" } : Jvm.MethodName)) ∈ lw_all := lw_g (lw_at lw_m3 46 rfl) rfl
theorem q643 : (Jvm.Cond.declares ({ cls := "LineCalls$Lock", name := "tires", desc := "()I" } : Jvm.MethodName)) ∈ lw_tbl := lw_at lw_m3 74 rfl
theorem q644 : (Jvm.Cond.instanceMethod ({ cls := "LineCalls$Lock", name := "tires", desc := "()I" } : Jvm.MethodName)) ∈ lw_all := lw_g (lw_at lw_m3 75 rfl) rfl
theorem q645 : (Jvm.Cond.code ({ cls := "LineCalls$Lock", name := "tires", desc := "()I" } : Jvm.MethodName) prog_6_method_6_code (1 : Nat) (Option.some Jvm.ClassFile.FieldType.int)) ∈ lw_all := lw_g (lw_at lw_m3 76 rfl) rfl
theorem q646 : (Jvm.Cond.methodLink "LineCalls$Lock" (30 : Nat) ({ cls := "LineCalls$Jumper", name := "tires", desc := "()I" } : Jvm.MethodName)) ∈ lw_all := lw_g (lw_at lw_m3 77 rfl) rfl
theorem q647 : (Jvm.Cond.selects "LineCalls$Lock" ({ cls := "LineCalls$Jumper", name := "tires", desc := "()I" } : Jvm.MethodName) ({ cls := "LineCalls$Lock", name := "tires", desc := "()I" } : Jvm.MethodName)) ∈ lw_all := lw_g (lw_at lw_m3 78 rfl) rfl
theorem q685 : (Jvm.Cond.declares ({ cls := "LineCalls$Lock", name := "gains", desc := "(I)I" } : Jvm.MethodName)) ∈ lw_tbl := lw_at lw_m3 116 rfl
theorem q686 : (Jvm.Cond.instanceMethod ({ cls := "LineCalls$Lock", name := "gains", desc := "(I)I" } : Jvm.MethodName)) ∈ lw_all := lw_g (lw_at lw_m3 117 rfl) rfl
theorem q687 : (Jvm.Cond.code ({ cls := "LineCalls$Lock", name := "gains", desc := "(I)I" } : Jvm.MethodName) prog_6_method_5_code (2 : Nat) (Option.some Jvm.ClassFile.FieldType.int)) ∈ lw_all := lw_g (lw_at lw_m3 118 rfl) rfl
theorem q688 : (Jvm.Cond.methodLink "LineCalls$Lock" (26 : Nat) ({ cls := "LineCalls$Jumper", name := "gains", desc := "(I)I" } : Jvm.MethodName)) ∈ lw_all := lw_g (lw_at lw_m3 119 rfl) rfl
theorem q690 : (Jvm.Cond.selects "LineCalls$Lock" ({ cls := "LineCalls$Jumper", name := "gains", desc := "(I)I" } : Jvm.MethodName) ({ cls := "LineCalls$Lock", name := "gains", desc := "(I)I" } : Jvm.MethodName)) ∈ lw_all := lw_g (lw_at lw_m3 121 rfl) rfl
theorem q1112 : (Jvm.Cond.instanceMethod ({ cls := "LineCalls$Lock", name := "isUnder", desc := "(I)Z" } : Jvm.MethodName)) ∈ lw_all := lw_g (lw_at lw_m5 63 rfl) rfl
theorem q1113 : (Jvm.Cond.code ({ cls := "LineCalls$Lock", name := "isUnder", desc := "(I)Z" } : Jvm.MethodName) prog_6_method_3_code (2 : Nat) (Option.some Jvm.ClassFile.FieldType.boolean)) ∈ lw_all := lw_g (lw_at lw_m5 64 rfl) rfl
theorem q1114 : (Jvm.Cond.methodLink "LineCalls$Lock" (19 : Nat) ({ cls := "LineCalls$Jumper", name := "isUnder", desc := "(I)Z" } : Jvm.MethodName)) ∈ lw_all := lw_g (lw_at lw_m5 65 rfl) rfl
theorem q1115 : (Jvm.Cond.selects "LineCalls$Lock" ({ cls := "LineCalls$Jumper", name := "isUnder", desc := "(I)Z" } : Jvm.MethodName) ({ cls := "LineCalls$Lock", name := "isUnder", desc := "(I)Z" } : Jvm.MethodName)) ∈ lw_all := lw_g (lw_at lw_m5 66 rfl) rfl
theorem q1688 : (Jvm.Cond.sameMethod "LineCalls$Lock" "LineCalls$Lock" "kind" "()I") ∈ lw_all := lw_g (lw_at lw_m7 159 rfl) rfl
theorem q1691 : (Jvm.Cond.sameMethod "LineCalls$Lock" "LineCalls$Lock" "high" "()I") ∈ lw_all := lw_g (lw_at lw_m7 162 rfl) rfl
theorem q1696 : (Jvm.Cond.selects "LineCalls$Lock" ({ cls := "LineCalls$Jumper", name := "told", desc := "(I)I" } : Jvm.MethodName) ({ cls := "LineCalls$Jumper", name := "told", desc := "(I)I" } : Jvm.MethodName)) ∈ lw_all := lw_g (lw_at lw_m7 167 rfl) rfl
theorem q1702 : (Jvm.Cond.sameMethod "LineCalls$Lock" "LineCalls$Lock" "isUnder" "(I)Z") ∈ lw_all := lw_g (lw_at lw_m7 173 rfl) rfl
theorem q1705 : (Jvm.Cond.castable "LineCalls$Lock" "LineCalls$Jumper") ∈ lw_tbl := lw_at lw_m7 176 rfl
theorem in_X8 : ∀ w ∈ wsX80, w ∈ lw_all := lw_in wsX80 [349, 350, 347] (by decide +kernel) (by decide +kernel)

/-! LineCalls$Tower -/
set_option maxRecDepth 100000
def RX9 : String := "LineCalls$Tower"
def TX9 : u_T := fun k => match k with
  | 0 => ("LineCalls$Jumper", "number", "I", true)
  | 1 => ("LineCalls$Jumper", "this$0", "LLineCalls;", true)
  | 2 => ("LineCalls$Lock", "this$0", "LLineCalls;", true)
  | _ => ("LineCalls$Tower", "this$0", "LLineCalls;", true)
def tyX9 : Nat → FieldType := fun k => match k with
  | 0 => .int
  | 1 => .object "LineCalls"
  | 2 => .object "LineCalls"
  | _ => .object "LineCalls"
abbrev wsX90 : List Cond := u_ws RX9 TX9 4
-- two fields of one name: no nmX9
theorem tyX9_ok : ∀ k, k < 4 → parseFieldDescriptor (TX9 k).2.2.1 = some (tyX9 k) := by decide +kernel
abbrev cX9_init : ByteArray := prog_12_method_1_code
def yX9_init : MethodName := ⟨RX9, "<init>", "(LLineCalls;I)V"⟩
def dkwX9_init_0 : List UInt8 := [42, 43, 181, 0, 3, 42, 43, 28, 183, 0, 9, 177]
abbrev dktX9_init_0 : List UInt8 := dkwX9_init_0 ++ []
theorem dksX9_init_0 : cX9_init.data.toList.drop 0 = dktX9_init_0 := by decide +kernel
theorem dX9_init_0 : decode cX9_init 0 = .ok (.aload_n 0, 1) := dk_42 (dk_at dksX9_init_0 0 rfl rfl)
theorem dX9_init_1 : decode cX9_init 1 = .ok (.aload_n 1, 1) := dk_43 (dk_at dksX9_init_0 1 rfl rfl)
theorem dX9_init_2 : decode cX9_init 2 = .ok (.putfield 3, 3) := dk_181 0 3 (dk_at dksX9_init_0 2 rfl rfl)
theorem dX9_init_5 : decode cX9_init 5 = .ok (.aload_n 0, 1) := dk_42 (dk_at dksX9_init_0 5 rfl rfl)
theorem dX9_init_6 : decode cX9_init 6 = .ok (.aload_n 1, 1) := dk_43 (dk_at dksX9_init_0 6 rfl rfl)
theorem dX9_init_7 : decode cX9_init 7 = .ok (.iload_n 2, 1) := dk_28 (dk_at dksX9_init_0 7 rfl rfl)
theorem dX9_init_8 : decode cX9_init 8 = .ok (.invokespecial 9, 3) := dk_183 0 9 (dk_at dksX9_init_0 8 rfl rfl)
theorem dX9_init_11 : decode cX9_init 11 = .ok (.return_, 1) := dk_177 (dk_at dksX9_init_0 11 rfl rfl)
abbrev cX9_kind : ByteArray := prog_12_method_2_code
def yX9_kind : MethodName := ⟨RX9, "kind", "()I"⟩
def dkwX9_kind_0 : List UInt8 := [4, 42, 183, 0, 15, 96, 172]
abbrev dktX9_kind_0 : List UInt8 := dkwX9_kind_0 ++ []
theorem dksX9_kind_0 : cX9_kind.data.toList.drop 0 = dktX9_kind_0 := by decide +kernel
theorem dX9_kind_0 : decode cX9_kind 0 = .ok (.iconst 1, 1) := dk_4 (dk_at dksX9_kind_0 0 rfl rfl)
theorem dX9_kind_1 : decode cX9_kind 1 = .ok (.aload_n 0, 1) := dk_42 (dk_at dksX9_kind_0 1 rfl rfl)
theorem dX9_kind_2 : decode cX9_kind 2 = .ok (.invokespecial 15, 3) := dk_183 0 15 (dk_at dksX9_kind_0 2 rfl rfl)
theorem dX9_kind_5 : decode cX9_kind 5 = .ok (.iadd, 1) := dk_96 (dk_at dksX9_kind_0 5 rfl rfl)
theorem dX9_kind_6 : decode cX9_kind 6 = .ok (.ireturn, 1) := dk_172 (dk_at dksX9_kind_0 6 rfl rfl)
abbrev cX9_high : ByteArray := prog_12_method_4_code
def yX9_high : MethodName := ⟨RX9, "high", "()I"⟩
def dkwX9_high_0 : List UInt8 := [42, 183, 0, 23, 8, 96, 42, 180, 0, 3, 180, 0, 26, 180, 0, 30, 3, 46, 100, 172]
abbrev dktX9_high_0 : List UInt8 := dkwX9_high_0 ++ []
theorem dksX9_high_0 : cX9_high.data.toList.drop 0 = dktX9_high_0 := by decide +kernel
theorem dX9_high_0 : decode cX9_high 0 = .ok (.aload_n 0, 1) := dk_42 (dk_at dksX9_high_0 0 rfl rfl)
theorem dX9_high_1 : decode cX9_high 1 = .ok (.invokespecial 23, 3) := dk_183 0 23 (dk_at dksX9_high_0 1 rfl rfl)
theorem dX9_high_4 : decode cX9_high 4 = .ok (.iconst 5, 1) := dk_8 (dk_at dksX9_high_0 4 rfl rfl)
theorem dX9_high_5 : decode cX9_high 5 = .ok (.iadd, 1) := dk_96 (dk_at dksX9_high_0 5 rfl rfl)
theorem dX9_high_6 : decode cX9_high 6 = .ok (.aload_n 0, 1) := dk_42 (dk_at dksX9_high_0 6 rfl rfl)
theorem dX9_high_7 : decode cX9_high 7 = .ok (.getfield 3, 3) := dk_180 0 3 (dk_at dksX9_high_0 7 rfl rfl)
theorem dX9_high_10 : decode cX9_high 10 = .ok (.getfield 26, 3) := dk_180 0 26 (dk_at dksX9_high_0 10 rfl rfl)
theorem dX9_high_13 : decode cX9_high 13 = .ok (.getfield 30, 3) := dk_180 0 30 (dk_at dksX9_high_0 13 rfl rfl)
theorem dX9_high_16 : decode cX9_high 16 = .ok (.iconst 0, 1) := dk_3 (dk_at dksX9_high_0 16 rfl rfl)
theorem dX9_high_17 : decode cX9_high 17 = .ok (.iaload, 1) := dk_46 (dk_at dksX9_high_0 17 rfl rfl)
theorem dX9_high_18 : decode cX9_high 18 = .ok (.isub, 1) := dk_100 (dk_at dksX9_high_0 18 rfl rfl)
theorem dX9_high_19 : decode cX9_high 19 = .ok (.ireturn, 1) := dk_172 (dk_at dksX9_high_0 19 rfl rfl)
abbrev cX9_isUnder : ByteArray := prog_12_method_3_code
def yX9_isUnder : MethodName := ⟨RX9, "isUnder", "(I)Z"⟩
def dkwX9_isUnder_0 : List UInt8 := [27, 6, 159, 0, 11, 42, 27, 183, 0, 19, 153, 0, 7, 4, 167, 0, 4, 3, 172]
abbrev dktX9_isUnder_0 : List UInt8 := dkwX9_isUnder_0 ++ []
theorem dksX9_isUnder_0 : cX9_isUnder.data.toList.drop 0 = dktX9_isUnder_0 := by decide +kernel
theorem dX9_isUnder_0 : decode cX9_isUnder 0 = .ok (.iload_n 1, 1) := dk_27 (dk_at dksX9_isUnder_0 0 rfl rfl)
theorem dX9_isUnder_1 : decode cX9_isUnder 1 = .ok (.iconst 3, 1) := dk_6 (dk_at dksX9_isUnder_0 1 rfl rfl)
theorem dX9_isUnder_2 : decode cX9_isUnder 2 = .ok (.if_icmp .eq 11, 3) := dk_159 0 11 (dk_at dksX9_isUnder_0 2 rfl rfl)
theorem dX9_isUnder_5 : decode cX9_isUnder 5 = .ok (.aload_n 0, 1) := dk_42 (dk_at dksX9_isUnder_0 5 rfl rfl)
theorem dX9_isUnder_6 : decode cX9_isUnder 6 = .ok (.iload_n 1, 1) := dk_27 (dk_at dksX9_isUnder_0 6 rfl rfl)
theorem dX9_isUnder_7 : decode cX9_isUnder 7 = .ok (.invokespecial 19, 3) := dk_183 0 19 (dk_at dksX9_isUnder_0 7 rfl rfl)
theorem dX9_isUnder_10 : decode cX9_isUnder 10 = .ok (.ifCond .eq 7, 3) := dk_153 0 7 (dk_at dksX9_isUnder_0 10 rfl rfl)
theorem dX9_isUnder_13 : decode cX9_isUnder 13 = .ok (.iconst 1, 1) := dk_4 (dk_at dksX9_isUnder_0 13 rfl rfl)
theorem dX9_isUnder_14 : decode cX9_isUnder 14 = .ok (.goto 4, 3) := dk_167 0 4 (dk_at dksX9_isUnder_0 14 rfl rfl)
theorem dX9_isUnder_17 : decode cX9_isUnder 17 = .ok (.iconst 0, 1) := dk_3 (dk_at dksX9_isUnder_0 17 rfl rfl)
theorem dX9_isUnder_18 : decode cX9_isUnder 18 = .ok (.ireturn, 1) := dk_172 (dk_at dksX9_isUnder_0 18 rfl rfl)
theorem q102 : (Jvm.Cond.initialized "LineCalls$Tower") ∈ lw_all := lw_g (lw_at lw_m1 13 rfl) rfl
theorem q228 : (Jvm.Cond.fieldLinkNest "LineCalls$Tower" (30 : Nat) "LineCalls$World" "sets" "[I" "LineCalls") ∈ lw_tbl := lw_at lw_m1 139 rfl
theorem q353 : (Jvm.Cond.instantiable "LineCalls$Tower" (4 : Nat)) ∈ lw_all := lw_g (lw_at lw_m2 24 rfl) rfl
theorem q355 : (Jvm.Cond.instanceMethod ({ cls := "LineCalls$Tower", name := "<init>", desc := "(LLineCalls;I)V" } : Jvm.MethodName)) ∈ lw_all := lw_g (lw_at lw_m2 26 rfl) rfl
theorem q356 : (Jvm.Cond.code ({ cls := "LineCalls$Tower", name := "<init>", desc := "(LLineCalls;I)V" } : Jvm.MethodName) prog_12_method_1_code (3 : Nat) (Option.none : Option Jvm.ClassFile.FieldType)) ∈ lw_all := lw_g (lw_at lw_m2 27 rfl) rfl
theorem q357 : (Jvm.Cond.methodLink "LineCalls$Tower" (9 : Nat) ({ cls := "LineCalls$Lock", name := "<init>", desc := "(LLineCalls;I)V" } : Jvm.MethodName)) ∈ lw_all := lw_g (lw_at lw_m2 28 rfl) rfl
theorem q358 : (Jvm.Cond.fieldLink "LineCalls$Tower" (3 : Nat) "LineCalls$Tower" "this$0" "LLineCalls;") ∈ lw_all := lw_g (lw_at lw_m2 29 rfl) rfl
theorem q359 : (Jvm.Cond.laysFinal "LineCalls$Tower" "LineCalls$Tower" "this$0" "LLineCalls;") ∈ lw_all := lw_g (lw_at lw_m2 30 rfl) rfl
theorem q360 : (Jvm.Cond.soleField "LineCalls$Tower" "this$0") ∈ lw_all := lw_g (lw_at lw_m2 31 rfl) rfl
theorem q361 : (Jvm.Cond.laysFinal "LineCalls$Tower" "LineCalls$Lock" "this$0" "LLineCalls;") ∈ lw_all := lw_g (lw_at lw_m2 32 rfl) rfl
theorem q362 : (Jvm.Cond.laysFinal "LineCalls$Tower" "LineCalls$Jumper" "number" "I") ∈ lw_all := lw_g (lw_at lw_m2 33 rfl) rfl
theorem q363 : (Jvm.Cond.laysFinal "LineCalls$Tower" "LineCalls$Jumper" "this$0" "LLineCalls;") ∈ lw_all := lw_g (lw_at lw_m2 34 rfl) rfl
theorem q364 : (Jvm.Cond.superclass "LineCalls$Tower" "LineCalls$Lock") ∈ lw_all := lw_g (lw_at lw_m2 35 rfl) rfl
theorem q416 : (Jvm.Cond.fieldLinkNest "LineCalls$Tower" (26 : Nat) "LineCalls" "d" "LLineCalls$World;" "LineCalls") ∈ lw_tbl := lw_at lw_m2 87 rfl
theorem q568 : (Jvm.Cond.instanceMethod ({ cls := "LineCalls$Tower", name := "kind", desc := "()I" } : Jvm.MethodName)) ∈ lw_all := lw_g (lw_at lw_m2 239 rfl) rfl
theorem q569 : (Jvm.Cond.code ({ cls := "LineCalls$Tower", name := "kind", desc := "()I" } : Jvm.MethodName) prog_12_method_2_code (1 : Nat) (Option.some Jvm.ClassFile.FieldType.int)) ∈ lw_all := lw_g (lw_at lw_m3 0 rfl) rfl
theorem q570 : (Jvm.Cond.methodLink "LineCalls$Tower" (15 : Nat) ({ cls := "LineCalls$Lock", name := "kind", desc := "()I" } : Jvm.MethodName)) ∈ lw_all := lw_g (lw_at lw_m3 1 rfl) rfl
theorem q580 : (Jvm.Cond.selects "LineCalls$Tower" ({ cls := "LineCalls$Jumper", name := "kind", desc := "()I" } : Jvm.MethodName) ({ cls := "LineCalls$Tower", name := "kind", desc := "()I" } : Jvm.MethodName)) ∈ lw_all := lw_g (lw_at lw_m3 11 rfl) rfl
theorem q603 : (Jvm.Cond.instanceMethod ({ cls := "LineCalls$Tower", name := "high", desc := "()I" } : Jvm.MethodName)) ∈ lw_all := lw_g (lw_at lw_m3 34 rfl) rfl
theorem q604 : (Jvm.Cond.code ({ cls := "LineCalls$Tower", name := "high", desc := "()I" } : Jvm.MethodName) prog_12_method_4_code (1 : Nat) (Option.some Jvm.ClassFile.FieldType.int)) ∈ lw_all := lw_g (lw_at lw_m3 35 rfl) rfl
theorem q605 : (Jvm.Cond.methodLink "LineCalls$Tower" (23 : Nat) ({ cls := "LineCalls$Lock", name := "high", desc := "()I" } : Jvm.MethodName)) ∈ lw_all := lw_g (lw_at lw_m3 36 rfl) rfl
theorem q621 : (Jvm.Cond.selects "LineCalls$Tower" ({ cls := "LineCalls$Jumper", name := "high", desc := "()I" } : Jvm.MethodName) ({ cls := "LineCalls$Tower", name := "high", desc := "()I" } : Jvm.MethodName)) ∈ lw_all := lw_g (lw_at lw_m3 52 rfl) rfl
theorem q642 : (Jvm.Cond.sameMethod "LineCalls$Tower" "LineCalls$Lock" "tires" "()I") ∈ lw_all := lw_g (lw_at lw_m3 73 rfl) rfl
theorem q653 : (Jvm.Cond.selects "LineCalls$Tower" ({ cls := "LineCalls$Jumper", name := "tires", desc := "()I" } : Jvm.MethodName) ({ cls := "LineCalls$Lock", name := "tires", desc := "()I" } : Jvm.MethodName)) ∈ lw_all := lw_g (lw_at lw_m3 84 rfl) rfl
theorem q684 : (Jvm.Cond.sameMethod "LineCalls$Tower" "LineCalls$Lock" "gains" "(I)I") ∈ lw_all := lw_g (lw_at lw_m3 115 rfl) rfl
theorem q693 : (Jvm.Cond.selects "LineCalls$Tower" ({ cls := "LineCalls$Jumper", name := "gains", desc := "(I)I" } : Jvm.MethodName) ({ cls := "LineCalls$Lock", name := "gains", desc := "(I)I" } : Jvm.MethodName)) ∈ lw_all := lw_g (lw_at lw_m3 124 rfl) rfl
theorem q1109 : (Jvm.Cond.instanceMethod ({ cls := "LineCalls$Tower", name := "isUnder", desc := "(I)Z" } : Jvm.MethodName)) ∈ lw_all := lw_g (lw_at lw_m5 60 rfl) rfl
theorem q1110 : (Jvm.Cond.code ({ cls := "LineCalls$Tower", name := "isUnder", desc := "(I)Z" } : Jvm.MethodName) prog_12_method_3_code (2 : Nat) (Option.some Jvm.ClassFile.FieldType.boolean)) ∈ lw_all := lw_g (lw_at lw_m5 61 rfl) rfl
theorem q1111 : (Jvm.Cond.methodLink "LineCalls$Tower" (19 : Nat) ({ cls := "LineCalls$Lock", name := "isUnder", desc := "(I)Z" } : Jvm.MethodName)) ∈ lw_all := lw_g (lw_at lw_m5 62 rfl) rfl
theorem q1118 : (Jvm.Cond.selects "LineCalls$Tower" ({ cls := "LineCalls$Jumper", name := "isUnder", desc := "(I)Z" } : Jvm.MethodName) ({ cls := "LineCalls$Tower", name := "isUnder", desc := "(I)Z" } : Jvm.MethodName)) ∈ lw_all := lw_g (lw_at lw_m5 69 rfl) rfl
theorem q1687 : (Jvm.Cond.sameMethod "LineCalls$Tower" "LineCalls$Tower" "kind" "()I") ∈ lw_all := lw_g (lw_at lw_m7 158 rfl) rfl
theorem q1690 : (Jvm.Cond.sameMethod "LineCalls$Tower" "LineCalls$Tower" "high" "()I") ∈ lw_all := lw_g (lw_at lw_m7 161 rfl) rfl
theorem q1699 : (Jvm.Cond.selects "LineCalls$Tower" ({ cls := "LineCalls$Jumper", name := "told", desc := "(I)I" } : Jvm.MethodName) ({ cls := "LineCalls$Jumper", name := "told", desc := "(I)I" } : Jvm.MethodName)) ∈ lw_all := lw_g (lw_at lw_m7 170 rfl) rfl
theorem q1708 : (Jvm.Cond.castable "LineCalls$Tower" "LineCalls$Jumper") ∈ lw_tbl := lw_at lw_m7 179 rfl
theorem q1711 : (Jvm.Cond.castable "LineCalls$Tower" "LineCalls$Lock") ∈ lw_tbl := lw_at lw_m7 182 rfl
theorem in_X9 : ∀ w ∈ wsX90, w ∈ lw_all := lw_in wsX90 [362, 363, 361, 359] (by decide +kernel) (by decide +kernel)

/-! LineCalls$Giant -/
set_option maxRecDepth 100000
def RX10 : String := "LineCalls$Giant"
def TX10 : u_T := fun k => match k with
  | 0 => ("LineCalls$Jumper", "number", "I", true)
  | 1 => ("LineCalls$Jumper", "this$0", "LLineCalls;", true)
  | 2 => ("LineCalls$Lock", "this$0", "LLineCalls;", true)
  | 3 => ("LineCalls$Tower", "this$0", "LLineCalls;", true)
  | _ => ("LineCalls$Giant", "this$0", "LLineCalls;", true)
def tyX10 : Nat → FieldType := fun k => match k with
  | 0 => .int
  | 1 => .object "LineCalls"
  | 2 => .object "LineCalls"
  | 3 => .object "LineCalls"
  | _ => .object "LineCalls"
abbrev wsX100 : List Cond := u_ws RX10 TX10 5
-- two fields of one name: no nmX10
theorem tyX10_ok : ∀ k, k < 5 → parseFieldDescriptor (TX10 k).2.2.1 = some (tyX10 k) := by decide +kernel
abbrev cX10_init : ByteArray := prog_3_method_1_code
def yX10_init : MethodName := ⟨RX10, "<init>", "(LLineCalls;I)V"⟩
def dkwX10_init_0 : List UInt8 := [42, 43, 181, 0, 3, 42, 43, 28, 183, 0, 9, 177]
abbrev dktX10_init_0 : List UInt8 := dkwX10_init_0 ++ []
theorem dksX10_init_0 : cX10_init.data.toList.drop 0 = dktX10_init_0 := by decide +kernel
theorem dX10_init_0 : decode cX10_init 0 = .ok (.aload_n 0, 1) := dk_42 (dk_at dksX10_init_0 0 rfl rfl)
theorem dX10_init_1 : decode cX10_init 1 = .ok (.aload_n 1, 1) := dk_43 (dk_at dksX10_init_0 1 rfl rfl)
theorem dX10_init_2 : decode cX10_init 2 = .ok (.putfield 3, 3) := dk_181 0 3 (dk_at dksX10_init_0 2 rfl rfl)
theorem dX10_init_5 : decode cX10_init 5 = .ok (.aload_n 0, 1) := dk_42 (dk_at dksX10_init_0 5 rfl rfl)
theorem dX10_init_6 : decode cX10_init 6 = .ok (.aload_n 1, 1) := dk_43 (dk_at dksX10_init_0 6 rfl rfl)
theorem dX10_init_7 : decode cX10_init 7 = .ok (.iload_n 2, 1) := dk_28 (dk_at dksX10_init_0 7 rfl rfl)
theorem dX10_init_8 : decode cX10_init 8 = .ok (.invokespecial 9, 3) := dk_183 0 9 (dk_at dksX10_init_0 8 rfl rfl)
theorem dX10_init_11 : decode cX10_init 11 = .ok (.return_, 1) := dk_177 (dk_at dksX10_init_0 11 rfl rfl)
abbrev cX10_kind : ByteArray := prog_3_method_2_code
def yX10_kind : MethodName := ⟨RX10, "kind", "()I"⟩
def dkwX10_kind_0 : List UInt8 := [4, 42, 183, 0, 15, 96, 172]
abbrev dktX10_kind_0 : List UInt8 := dkwX10_kind_0 ++ []
theorem dksX10_kind_0 : cX10_kind.data.toList.drop 0 = dktX10_kind_0 := by decide +kernel
theorem dX10_kind_0 : decode cX10_kind 0 = .ok (.iconst 1, 1) := dk_4 (dk_at dksX10_kind_0 0 rfl rfl)
theorem dX10_kind_1 : decode cX10_kind 1 = .ok (.aload_n 0, 1) := dk_42 (dk_at dksX10_kind_0 1 rfl rfl)
theorem dX10_kind_2 : decode cX10_kind 2 = .ok (.invokespecial 15, 3) := dk_183 0 15 (dk_at dksX10_kind_0 2 rfl rfl)
theorem dX10_kind_5 : decode cX10_kind 5 = .ok (.iadd, 1) := dk_96 (dk_at dksX10_kind_0 5 rfl rfl)
theorem dX10_kind_6 : decode cX10_kind 6 = .ok (.ireturn, 1) := dk_172 (dk_at dksX10_kind_0 6 rfl rfl)
abbrev cX10_high : ByteArray := prog_3_method_3_code
def yX10_high : MethodName := ⟨RX10, "high", "()I"⟩
def dkwX10_high_0 : List UInt8 := [42, 183, 0, 19, 42, 5, 182, 0, 22, 16, 20, 162, 0, 8, 16, 10, 167, 0, 4, 3, 96, 172]
abbrev dktX10_high_0 : List UInt8 := dkwX10_high_0 ++ []
theorem dksX10_high_0 : cX10_high.data.toList.drop 0 = dktX10_high_0 := by decide +kernel
theorem dX10_high_0 : decode cX10_high 0 = .ok (.aload_n 0, 1) := dk_42 (dk_at dksX10_high_0 0 rfl rfl)
theorem dX10_high_1 : decode cX10_high 1 = .ok (.invokespecial 19, 3) := dk_183 0 19 (dk_at dksX10_high_0 1 rfl rfl)
theorem dX10_high_4 : decode cX10_high 4 = .ok (.aload_n 0, 1) := dk_42 (dk_at dksX10_high_0 4 rfl rfl)
theorem dX10_high_5 : decode cX10_high 5 = .ok (.iconst 2, 1) := dk_5 (dk_at dksX10_high_0 5 rfl rfl)
theorem dX10_high_6 : decode cX10_high 6 = .ok (.invokevirtual 22, 3) := dk_182 0 22 (dk_at dksX10_high_0 6 rfl rfl)
theorem dX10_high_9 : decode cX10_high 9 = .ok (.bipush 20, 2) := dk_16 20 (dk_at dksX10_high_0 9 rfl rfl)
theorem dX10_high_11 : decode cX10_high 11 = .ok (.if_icmp .ge 8, 3) := dk_162 0 8 (dk_at dksX10_high_0 11 rfl rfl)
theorem dX10_high_14 : decode cX10_high 14 = .ok (.bipush 10, 2) := dk_16 10 (dk_at dksX10_high_0 14 rfl rfl)
theorem dX10_high_16 : decode cX10_high 16 = .ok (.goto 4, 3) := dk_167 0 4 (dk_at dksX10_high_0 16 rfl rfl)
theorem dX10_high_19 : decode cX10_high 19 = .ok (.iconst 0, 1) := dk_3 (dk_at dksX10_high_0 19 rfl rfl)
theorem dX10_high_20 : decode cX10_high 20 = .ok (.iadd, 1) := dk_96 (dk_at dksX10_high_0 20 rfl rfl)
theorem dX10_high_21 : decode cX10_high 21 = .ok (.ireturn, 1) := dk_172 (dk_at dksX10_high_0 21 rfl rfl)
abbrev cX10_tires : ByteArray := prog_3_method_5_code
def yX10_tires : MethodName := ⟨RX10, "tires", "()I"⟩
def dkwX10_tires_0 : List UInt8 := [5, 42, 183, 0, 45, 104, 172]
abbrev dktX10_tires_0 : List UInt8 := dkwX10_tires_0 ++ []
theorem dksX10_tires_0 : cX10_tires.data.toList.drop 0 = dktX10_tires_0 := by decide +kernel
theorem dX10_tires_0 : decode cX10_tires 0 = .ok (.iconst 2, 1) := dk_5 (dk_at dksX10_tires_0 0 rfl rfl)
theorem dX10_tires_1 : decode cX10_tires 1 = .ok (.aload_n 0, 1) := dk_42 (dk_at dksX10_tires_0 1 rfl rfl)
theorem dX10_tires_2 : decode cX10_tires 2 = .ok (.invokespecial 45, 3) := dk_183 0 45 (dk_at dksX10_tires_0 2 rfl rfl)
theorem dX10_tires_5 : decode cX10_tires 5 = .ok (.imul, 1) := dk_104 (dk_at dksX10_tires_0 5 rfl rfl)
theorem dX10_tires_6 : decode cX10_tires 6 = .ok (.ireturn, 1) := dk_172 (dk_at dksX10_tires_0 6 rfl rfl)
abbrev cX10_gains : ByteArray := prog_3_method_4_code
def yX10_gains : MethodName := ⟨RX10, "gains", "(I)I"⟩
def dkwX10_gains_0 : List UInt8 := [3, 42, 27, 183, 0, 26, 42, 180, 0, 3, 180, 0, 29, 180, 0, 33, 3, 46, 100, 184, 0, 39, 172]
abbrev dktX10_gains_0 : List UInt8 := dkwX10_gains_0 ++ []
theorem dksX10_gains_0 : cX10_gains.data.toList.drop 0 = dktX10_gains_0 := by decide +kernel
theorem dX10_gains_0 : decode cX10_gains 0 = .ok (.iconst 0, 1) := dk_3 (dk_at dksX10_gains_0 0 rfl rfl)
theorem dX10_gains_1 : decode cX10_gains 1 = .ok (.aload_n 0, 1) := dk_42 (dk_at dksX10_gains_0 1 rfl rfl)
theorem dX10_gains_2 : decode cX10_gains 2 = .ok (.iload_n 1, 1) := dk_27 (dk_at dksX10_gains_0 2 rfl rfl)
theorem dX10_gains_3 : decode cX10_gains 3 = .ok (.invokespecial 26, 3) := dk_183 0 26 (dk_at dksX10_gains_0 3 rfl rfl)
theorem dX10_gains_6 : decode cX10_gains 6 = .ok (.aload_n 0, 1) := dk_42 (dk_at dksX10_gains_0 6 rfl rfl)
theorem dX10_gains_7 : decode cX10_gains 7 = .ok (.getfield 3, 3) := dk_180 0 3 (dk_at dksX10_gains_0 7 rfl rfl)
theorem dX10_gains_10 : decode cX10_gains 10 = .ok (.getfield 29, 3) := dk_180 0 29 (dk_at dksX10_gains_0 10 rfl rfl)
theorem dX10_gains_13 : decode cX10_gains 13 = .ok (.getfield 33, 3) := dk_180 0 33 (dk_at dksX10_gains_0 13 rfl rfl)
theorem dX10_gains_16 : decode cX10_gains 16 = .ok (.iconst 0, 1) := dk_3 (dk_at dksX10_gains_0 16 rfl rfl)
theorem dX10_gains_17 : decode cX10_gains 17 = .ok (.iaload, 1) := dk_46 (dk_at dksX10_gains_0 17 rfl rfl)
theorem dX10_gains_18 : decode cX10_gains 18 = .ok (.isub, 1) := dk_100 (dk_at dksX10_gains_0 18 rfl rfl)
theorem dX10_gains_19 : decode cX10_gains 19 = .ok (.invokestatic 39, 3) := dk_184 0 39 (dk_at dksX10_gains_0 19 rfl rfl)
theorem dX10_gains_22 : decode cX10_gains 22 = .ok (.ireturn, 1) := dk_172 (dk_at dksX10_gains_0 22 rfl rfl)
theorem q103 : (Jvm.Cond.initialized "LineCalls$Giant") ∈ lw_all := lw_g (lw_at lw_m1 14 rfl) rfl
theorem q229 : (Jvm.Cond.fieldLinkNest "LineCalls$Giant" (33 : Nat) "LineCalls$World" "sets" "[I" "LineCalls") ∈ lw_tbl := lw_at lw_m1 140 rfl
theorem q366 : (Jvm.Cond.instantiable "LineCalls$Giant" (5 : Nat)) ∈ lw_all := lw_g (lw_at lw_m2 37 rfl) rfl
theorem q368 : (Jvm.Cond.instanceMethod ({ cls := "LineCalls$Giant", name := "<init>", desc := "(LLineCalls;I)V" } : Jvm.MethodName)) ∈ lw_all := lw_g (lw_at lw_m2 39 rfl) rfl
theorem q369 : (Jvm.Cond.code ({ cls := "LineCalls$Giant", name := "<init>", desc := "(LLineCalls;I)V" } : Jvm.MethodName) prog_3_method_1_code (3 : Nat) (Option.none : Option Jvm.ClassFile.FieldType)) ∈ lw_all := lw_g (lw_at lw_m2 40 rfl) rfl
theorem q370 : (Jvm.Cond.methodLink "LineCalls$Giant" (9 : Nat) ({ cls := "LineCalls$Tower", name := "<init>", desc := "(LLineCalls;I)V" } : Jvm.MethodName)) ∈ lw_all := lw_g (lw_at lw_m2 41 rfl) rfl
theorem q371 : (Jvm.Cond.fieldLink "LineCalls$Giant" (3 : Nat) "LineCalls$Giant" "this$0" "LLineCalls;") ∈ lw_all := lw_g (lw_at lw_m2 42 rfl) rfl
theorem q372 : (Jvm.Cond.laysFinal "LineCalls$Giant" "LineCalls$Giant" "this$0" "LLineCalls;") ∈ lw_all := lw_g (lw_at lw_m2 43 rfl) rfl
theorem q373 : (Jvm.Cond.soleField "LineCalls$Giant" "this$0") ∈ lw_all := lw_g (lw_at lw_m2 44 rfl) rfl
theorem q374 : (Jvm.Cond.laysFinal "LineCalls$Giant" "LineCalls$Tower" "this$0" "LLineCalls;") ∈ lw_all := lw_g (lw_at lw_m2 45 rfl) rfl
theorem q375 : (Jvm.Cond.laysFinal "LineCalls$Giant" "LineCalls$Lock" "this$0" "LLineCalls;") ∈ lw_all := lw_g (lw_at lw_m2 46 rfl) rfl
theorem q376 : (Jvm.Cond.laysFinal "LineCalls$Giant" "LineCalls$Jumper" "number" "I") ∈ lw_all := lw_g (lw_at lw_m2 47 rfl) rfl
theorem q377 : (Jvm.Cond.laysFinal "LineCalls$Giant" "LineCalls$Jumper" "this$0" "LLineCalls;") ∈ lw_all := lw_g (lw_at lw_m2 48 rfl) rfl
theorem q378 : (Jvm.Cond.superclass "LineCalls$Giant" "LineCalls$Tower") ∈ lw_all := lw_g (lw_at lw_m2 49 rfl) rfl
theorem q417 : (Jvm.Cond.fieldLinkNest "LineCalls$Giant" (29 : Nat) "LineCalls" "d" "LLineCalls$World;" "LineCalls") ∈ lw_tbl := lw_at lw_m2 88 rfl
theorem q564 : (Jvm.Cond.selects "LineCalls$Giant" ({ cls := "LineCalls$Jumper", name := "kind", desc := "()I" } : Jvm.MethodName) ({ cls := "LineCalls$Giant", name := "kind", desc := "()I" } : Jvm.MethodName)) ∈ lw_all := lw_g (lw_at lw_m2 235 rfl) rfl
theorem q565 : (Jvm.Cond.instanceMethod ({ cls := "LineCalls$Giant", name := "kind", desc := "()I" } : Jvm.MethodName)) ∈ lw_all := lw_g (lw_at lw_m2 236 rfl) rfl
theorem q566 : (Jvm.Cond.code ({ cls := "LineCalls$Giant", name := "kind", desc := "()I" } : Jvm.MethodName) prog_3_method_2_code (1 : Nat) (Option.some Jvm.ClassFile.FieldType.int)) ∈ lw_all := lw_g (lw_at lw_m2 237 rfl) rfl
theorem q567 : (Jvm.Cond.methodLink "LineCalls$Giant" (15 : Nat) ({ cls := "LineCalls$Tower", name := "kind", desc := "()I" } : Jvm.MethodName)) ∈ lw_all := lw_g (lw_at lw_m2 238 rfl) rfl
theorem q599 : (Jvm.Cond.selects "LineCalls$Giant" ({ cls := "LineCalls$Jumper", name := "high", desc := "()I" } : Jvm.MethodName) ({ cls := "LineCalls$Giant", name := "high", desc := "()I" } : Jvm.MethodName)) ∈ lw_all := lw_g (lw_at lw_m3 30 rfl) rfl
theorem q600 : (Jvm.Cond.instanceMethod ({ cls := "LineCalls$Giant", name := "high", desc := "()I" } : Jvm.MethodName)) ∈ lw_all := lw_g (lw_at lw_m3 31 rfl) rfl
theorem q601 : (Jvm.Cond.code ({ cls := "LineCalls$Giant", name := "high", desc := "()I" } : Jvm.MethodName) prog_3_method_3_code (1 : Nat) (Option.some Jvm.ClassFile.FieldType.int)) ∈ lw_all := lw_g (lw_at lw_m3 32 rfl) rfl
theorem q602 : (Jvm.Cond.methodLink "LineCalls$Giant" (19 : Nat) ({ cls := "LineCalls$Tower", name := "high", desc := "()I" } : Jvm.MethodName)) ∈ lw_all := lw_g (lw_at lw_m3 33 rfl) rfl
theorem q609 : (Jvm.Cond.methodLink "LineCalls$Giant" (22 : Nat) ({ cls := "LineCalls$Giant", name := "told", desc := "(I)I" } : Jvm.MethodName)) ∈ lw_all := lw_g (lw_at lw_m3 40 rfl) rfl
theorem q610 : (Jvm.Cond.sameMethod "LineCalls$Giant" "LineCalls$Jumper" "told" "(I)I") ∈ lw_all := lw_g (lw_at lw_m3 41 rfl) rfl
theorem q612 : (Jvm.Cond.selects "LineCalls$Giant" ({ cls := "LineCalls$Giant", name := "told", desc := "(I)I" } : Jvm.MethodName) ({ cls := "LineCalls$Jumper", name := "told", desc := "(I)I" } : Jvm.MethodName)) ∈ lw_all := lw_g (lw_at lw_m3 43 rfl) rfl
theorem q638 : (Jvm.Cond.selects "LineCalls$Giant" ({ cls := "LineCalls$Jumper", name := "tires", desc := "()I" } : Jvm.MethodName) ({ cls := "LineCalls$Giant", name := "tires", desc := "()I" } : Jvm.MethodName)) ∈ lw_all := lw_g (lw_at lw_m3 69 rfl) rfl
theorem q639 : (Jvm.Cond.instanceMethod ({ cls := "LineCalls$Giant", name := "tires", desc := "()I" } : Jvm.MethodName)) ∈ lw_all := lw_g (lw_at lw_m3 70 rfl) rfl
theorem q640 : (Jvm.Cond.code ({ cls := "LineCalls$Giant", name := "tires", desc := "()I" } : Jvm.MethodName) prog_3_method_5_code (1 : Nat) (Option.some Jvm.ClassFile.FieldType.int)) ∈ lw_all := lw_g (lw_at lw_m3 71 rfl) rfl
theorem q641 : (Jvm.Cond.methodLink "LineCalls$Giant" (45 : Nat) ({ cls := "LineCalls$Tower", name := "tires", desc := "()I" } : Jvm.MethodName)) ∈ lw_all := lw_g (lw_at lw_m3 72 rfl) rfl
theorem q680 : (Jvm.Cond.selects "LineCalls$Giant" ({ cls := "LineCalls$Jumper", name := "gains", desc := "(I)I" } : Jvm.MethodName) ({ cls := "LineCalls$Giant", name := "gains", desc := "(I)I" } : Jvm.MethodName)) ∈ lw_all := lw_g (lw_at lw_m3 111 rfl) rfl
theorem q681 : (Jvm.Cond.instanceMethod ({ cls := "LineCalls$Giant", name := "gains", desc := "(I)I" } : Jvm.MethodName)) ∈ lw_all := lw_g (lw_at lw_m3 112 rfl) rfl
theorem q682 : (Jvm.Cond.code ({ cls := "LineCalls$Giant", name := "gains", desc := "(I)I" } : Jvm.MethodName) prog_3_method_4_code (2 : Nat) (Option.some Jvm.ClassFile.FieldType.int)) ∈ lw_all := lw_g (lw_at lw_m3 113 rfl) rfl
theorem q683 : (Jvm.Cond.methodLink "LineCalls$Giant" (26 : Nat) ({ cls := "LineCalls$Tower", name := "gains", desc := "(I)I" } : Jvm.MethodName)) ∈ lw_all := lw_g (lw_at lw_m3 114 rfl) rfl
theorem q689 : (Jvm.Cond.methodLink "LineCalls$Giant" (39 : Nat) ({ cls := "java/lang/Math", name := "max", desc := "(II)I" } : Jvm.MethodName)) ∈ lw_all := lw_g (lw_at lw_m3 120 rfl) rfl
theorem q1108 : (Jvm.Cond.selects "LineCalls$Giant" ({ cls := "LineCalls$Jumper", name := "isUnder", desc := "(I)Z" } : Jvm.MethodName) ({ cls := "LineCalls$Tower", name := "isUnder", desc := "(I)Z" } : Jvm.MethodName)) ∈ lw_all := lw_g (lw_at lw_m5 59 rfl) rfl
theorem q1694 : (Jvm.Cond.selects "LineCalls$Giant" ({ cls := "LineCalls$Jumper", name := "told", desc := "(I)I" } : Jvm.MethodName) ({ cls := "LineCalls$Jumper", name := "told", desc := "(I)I" } : Jvm.MethodName)) ∈ lw_all := lw_g (lw_at lw_m7 165 rfl) rfl
theorem q1704 : (Jvm.Cond.castable "LineCalls$Giant" "LineCalls$Jumper") ∈ lw_tbl := lw_at lw_m7 175 rfl
theorem q1710 : (Jvm.Cond.castable "LineCalls$Giant" "LineCalls$Lock") ∈ lw_tbl := lw_at lw_m7 181 rfl
theorem q1712 : (Jvm.Cond.castable "LineCalls$Giant" "LineCalls$Tower") ∈ lw_tbl := lw_at lw_m7 183 rfl
theorem in_X10 : ∀ w ∈ wsX100, w ∈ lw_all := lw_in wsX100 [376, 377, 375, 374, 372] (by decide +kernel) (by decide +kernel)

/-! LineCalls$Rookie -/
set_option maxRecDepth 100000
def RX11 : String := "LineCalls$Rookie"
def TX11 : u_T := fun k => match k with
  | 0 => ("LineCalls$Jumper", "number", "I", true)
  | 1 => ("LineCalls$Jumper", "this$0", "LLineCalls;", true)
  | _ => ("LineCalls$Rookie", "this$0", "LLineCalls;", true)
def tyX11 : Nat → FieldType := fun k => match k with
  | 0 => .int
  | 1 => .object "LineCalls"
  | _ => .object "LineCalls"
abbrev wsX110 : List Cond := u_ws RX11 TX11 3
-- two fields of one name: no nmX11
theorem tyX11_ok : ∀ k, k < 3 → parseFieldDescriptor (TX11 k).2.2.1 = some (tyX11 k) := by decide +kernel
abbrev cX11_init : ByteArray := prog_10_method_1_code
def yX11_init : MethodName := ⟨RX11, "<init>", "(LLineCalls;I)V"⟩
def dkwX11_init_0 : List UInt8 := [42, 43, 181, 0, 3, 42, 43, 28, 183, 0, 9, 177]
abbrev dktX11_init_0 : List UInt8 := dkwX11_init_0 ++ []
theorem dksX11_init_0 : cX11_init.data.toList.drop 0 = dktX11_init_0 := by decide +kernel
theorem dX11_init_0 : decode cX11_init 0 = .ok (.aload_n 0, 1) := dk_42 (dk_at dksX11_init_0 0 rfl rfl)
theorem dX11_init_1 : decode cX11_init 1 = .ok (.aload_n 1, 1) := dk_43 (dk_at dksX11_init_0 1 rfl rfl)
theorem dX11_init_2 : decode cX11_init 2 = .ok (.putfield 3, 3) := dk_181 0 3 (dk_at dksX11_init_0 2 rfl rfl)
theorem dX11_init_5 : decode cX11_init 5 = .ok (.aload_n 0, 1) := dk_42 (dk_at dksX11_init_0 5 rfl rfl)
theorem dX11_init_6 : decode cX11_init 6 = .ok (.aload_n 1, 1) := dk_43 (dk_at dksX11_init_0 6 rfl rfl)
theorem dX11_init_7 : decode cX11_init 7 = .ok (.iload_n 2, 1) := dk_28 (dk_at dksX11_init_0 7 rfl rfl)
theorem dX11_init_8 : decode cX11_init 8 = .ok (.invokespecial 9, 3) := dk_183 0 9 (dk_at dksX11_init_0 8 rfl rfl)
theorem dX11_init_11 : decode cX11_init 11 = .ok (.return_, 1) := dk_177 (dk_at dksX11_init_0 11 rfl rfl)
abbrev cX11_kind : ByteArray := prog_10_method_2_code
def yX11_kind : MethodName := ⟨RX11, "kind", "()I"⟩
def dkwX11_kind_0 : List UInt8 := [8, 42, 183, 0, 15, 96, 172]
abbrev dktX11_kind_0 : List UInt8 := dkwX11_kind_0 ++ []
theorem dksX11_kind_0 : cX11_kind.data.toList.drop 0 = dktX11_kind_0 := by decide +kernel
theorem dX11_kind_0 : decode cX11_kind 0 = .ok (.iconst 5, 1) := dk_8 (dk_at dksX11_kind_0 0 rfl rfl)
theorem dX11_kind_1 : decode cX11_kind 1 = .ok (.aload_n 0, 1) := dk_42 (dk_at dksX11_kind_0 1 rfl rfl)
theorem dX11_kind_2 : decode cX11_kind 2 = .ok (.invokespecial 15, 3) := dk_183 0 15 (dk_at dksX11_kind_0 2 rfl rfl)
theorem dX11_kind_5 : decode cX11_kind 5 = .ok (.iadd, 1) := dk_96 (dk_at dksX11_kind_0 5 rfl rfl)
theorem dX11_kind_6 : decode cX11_kind 6 = .ok (.ireturn, 1) := dk_172 (dk_at dksX11_kind_0 6 rfl rfl)
abbrev cX11_high : ByteArray := prog_10_method_3_code
def yX11_high : MethodName := ⟨RX11, "high", "()I"⟩
def dkwX11_high_1 : List UInt8 := [172]
abbrev dktX11_high_1 : List UInt8 := dkwX11_high_1 ++ []
def dkwX11_high_0 : List UInt8 := [42, 180, 0, 3, 180, 0, 19, 180, 0, 23, 5, 112, 4, 160, 0, 7, 3, 167, 0, 7, 42, 183, 0, 29]
abbrev dktX11_high_0 : List UInt8 := dkwX11_high_0 ++ dktX11_high_1
theorem dksX11_high_0 : cX11_high.data.toList.drop 0 = dktX11_high_0 := by decide +kernel
theorem dksX11_high_1 : cX11_high.data.toList.drop 24 = dktX11_high_1 := dk_seg dksX11_high_0 24 rfl rfl
theorem dX11_high_0 : decode cX11_high 0 = .ok (.aload_n 0, 1) := dk_42 (dk_at dksX11_high_0 0 rfl rfl)
theorem dX11_high_1 : decode cX11_high 1 = .ok (.getfield 3, 3) := dk_180 0 3 (dk_at dksX11_high_0 1 rfl rfl)
theorem dX11_high_4 : decode cX11_high 4 = .ok (.getfield 19, 3) := dk_180 0 19 (dk_at dksX11_high_0 4 rfl rfl)
theorem dX11_high_7 : decode cX11_high 7 = .ok (.getfield 23, 3) := dk_180 0 23 (dk_at dksX11_high_0 7 rfl rfl)
theorem dX11_high_10 : decode cX11_high 10 = .ok (.iconst 2, 1) := dk_5 (dk_at dksX11_high_0 10 rfl rfl)
theorem dX11_high_11 : decode cX11_high 11 = .ok (.irem, 1) := dk_112 (dk_at dksX11_high_0 11 rfl rfl)
theorem dX11_high_12 : decode cX11_high 12 = .ok (.iconst 1, 1) := dk_4 (dk_at dksX11_high_0 12 rfl rfl)
theorem dX11_high_13 : decode cX11_high 13 = .ok (.if_icmp .ne 7, 3) := dk_160 0 7 (dk_at dksX11_high_0 13 rfl rfl)
theorem dX11_high_16 : decode cX11_high 16 = .ok (.iconst 0, 1) := dk_3 (dk_at dksX11_high_0 16 rfl rfl)
theorem dX11_high_17 : decode cX11_high 17 = .ok (.goto 7, 3) := dk_167 0 7 (dk_at dksX11_high_0 17 rfl rfl)
theorem dX11_high_20 : decode cX11_high 20 = .ok (.aload_n 0, 1) := dk_42 (dk_at dksX11_high_0 20 rfl rfl)
theorem dX11_high_21 : decode cX11_high 21 = .ok (.invokespecial 29, 3) := dk_183 0 29 (dk_at dksX11_high_0 21 rfl rfl)
theorem dX11_high_24 : decode cX11_high 24 = .ok (.ireturn, 1) := dk_172 (dk_at dksX11_high_1 0 rfl rfl)
abbrev cX11_tires : ByteArray := prog_10_method_4_code
def yX11_tires : MethodName := ⟨RX11, "tires", "()I"⟩
def dkwX11_tires_0 : List UInt8 := [42, 183, 0, 32, 42, 180, 0, 3, 180, 0, 19, 180, 0, 35, 4, 46, 96, 172]
abbrev dktX11_tires_0 : List UInt8 := dkwX11_tires_0 ++ []
theorem dksX11_tires_0 : cX11_tires.data.toList.drop 0 = dktX11_tires_0 := by decide +kernel
theorem dX11_tires_0 : decode cX11_tires 0 = .ok (.aload_n 0, 1) := dk_42 (dk_at dksX11_tires_0 0 rfl rfl)
theorem dX11_tires_1 : decode cX11_tires 1 = .ok (.invokespecial 32, 3) := dk_183 0 32 (dk_at dksX11_tires_0 1 rfl rfl)
theorem dX11_tires_4 : decode cX11_tires 4 = .ok (.aload_n 0, 1) := dk_42 (dk_at dksX11_tires_0 4 rfl rfl)
theorem dX11_tires_5 : decode cX11_tires 5 = .ok (.getfield 3, 3) := dk_180 0 3 (dk_at dksX11_tires_0 5 rfl rfl)
theorem dX11_tires_8 : decode cX11_tires 8 = .ok (.getfield 19, 3) := dk_180 0 19 (dk_at dksX11_tires_0 8 rfl rfl)
theorem dX11_tires_11 : decode cX11_tires 11 = .ok (.getfield 35, 3) := dk_180 0 35 (dk_at dksX11_tires_0 11 rfl rfl)
theorem dX11_tires_14 : decode cX11_tires 14 = .ok (.iconst 1, 1) := dk_4 (dk_at dksX11_tires_0 14 rfl rfl)
theorem dX11_tires_15 : decode cX11_tires 15 = .ok (.iaload, 1) := dk_46 (dk_at dksX11_tires_0 15 rfl rfl)
theorem dX11_tires_16 : decode cX11_tires 16 = .ok (.iadd, 1) := dk_96 (dk_at dksX11_tires_0 16 rfl rfl)
theorem dX11_tires_17 : decode cX11_tires 17 = .ok (.ireturn, 1) := dk_172 (dk_at dksX11_tires_0 17 rfl rfl)
theorem q104 : (Jvm.Cond.initialized "LineCalls$Rookie") ∈ lw_all := lw_g (lw_at lw_m1 15 rfl) rfl
theorem q227 : (Jvm.Cond.fieldLinkNest "LineCalls$Rookie" (35 : Nat) "LineCalls$World" "sets" "[I" "LineCalls") ∈ lw_tbl := lw_at lw_m1 138 rfl
theorem q244 : (Jvm.Cond.fieldLinkNest "LineCalls$Rookie" (23 : Nat) "LineCalls$World" "thrown" "I" "LineCalls") ∈ lw_tbl := lw_at lw_m1 155 rfl
theorem q380 : (Jvm.Cond.instantiable "LineCalls$Rookie" (3 : Nat)) ∈ lw_all := lw_g (lw_at lw_m2 51 rfl) rfl
theorem q382 : (Jvm.Cond.instanceMethod ({ cls := "LineCalls$Rookie", name := "<init>", desc := "(LLineCalls;I)V" } : Jvm.MethodName)) ∈ lw_all := lw_g (lw_at lw_m2 53 rfl) rfl
theorem q383 : (Jvm.Cond.code ({ cls := "LineCalls$Rookie", name := "<init>", desc := "(LLineCalls;I)V" } : Jvm.MethodName) prog_10_method_1_code (3 : Nat) (Option.none : Option Jvm.ClassFile.FieldType)) ∈ lw_all := lw_g (lw_at lw_m2 54 rfl) rfl
theorem q384 : (Jvm.Cond.methodLink "LineCalls$Rookie" (9 : Nat) ({ cls := "LineCalls$Jumper", name := "<init>", desc := "(LLineCalls;I)V" } : Jvm.MethodName)) ∈ lw_all := lw_g (lw_at lw_m2 55 rfl) rfl
theorem q385 : (Jvm.Cond.fieldLink "LineCalls$Rookie" (3 : Nat) "LineCalls$Rookie" "this$0" "LLineCalls;") ∈ lw_all := lw_g (lw_at lw_m2 56 rfl) rfl
theorem q386 : (Jvm.Cond.laysFinal "LineCalls$Rookie" "LineCalls$Rookie" "this$0" "LLineCalls;") ∈ lw_all := lw_g (lw_at lw_m2 57 rfl) rfl
theorem q387 : (Jvm.Cond.soleField "LineCalls$Rookie" "this$0") ∈ lw_all := lw_g (lw_at lw_m2 58 rfl) rfl
theorem q388 : (Jvm.Cond.laysFinal "LineCalls$Rookie" "LineCalls$Jumper" "number" "I") ∈ lw_all := lw_g (lw_at lw_m2 59 rfl) rfl
theorem q389 : (Jvm.Cond.laysFinal "LineCalls$Rookie" "LineCalls$Jumper" "this$0" "LLineCalls;") ∈ lw_all := lw_g (lw_at lw_m2 60 rfl) rfl
theorem q390 : (Jvm.Cond.superclass "LineCalls$Rookie" "LineCalls$Jumper") ∈ lw_all := lw_g (lw_at lw_m2 61 rfl) rfl
theorem q413 : (Jvm.Cond.fieldLinkNest "LineCalls$Rookie" (19 : Nat) "LineCalls" "d" "LLineCalls$World;" "LineCalls") ∈ lw_tbl := lw_at lw_m2 84 rfl
theorem q576 : (Jvm.Cond.selects "LineCalls$Rookie" ({ cls := "LineCalls$Jumper", name := "kind", desc := "()I" } : Jvm.MethodName) ({ cls := "LineCalls$Rookie", name := "kind", desc := "()I" } : Jvm.MethodName)) ∈ lw_all := lw_g (lw_at lw_m3 7 rfl) rfl
theorem q577 : (Jvm.Cond.instanceMethod ({ cls := "LineCalls$Rookie", name := "kind", desc := "()I" } : Jvm.MethodName)) ∈ lw_all := lw_g (lw_at lw_m3 8 rfl) rfl
theorem q578 : (Jvm.Cond.code ({ cls := "LineCalls$Rookie", name := "kind", desc := "()I" } : Jvm.MethodName) prog_10_method_2_code (1 : Nat) (Option.some Jvm.ClassFile.FieldType.int)) ∈ lw_all := lw_g (lw_at lw_m3 9 rfl) rfl
theorem q579 : (Jvm.Cond.methodLink "LineCalls$Rookie" (15 : Nat) ({ cls := "LineCalls$Jumper", name := "kind", desc := "()I" } : Jvm.MethodName)) ∈ lw_all := lw_g (lw_at lw_m3 10 rfl) rfl
theorem q617 : (Jvm.Cond.selects "LineCalls$Rookie" ({ cls := "LineCalls$Jumper", name := "high", desc := "()I" } : Jvm.MethodName) ({ cls := "LineCalls$Rookie", name := "high", desc := "()I" } : Jvm.MethodName)) ∈ lw_all := lw_g (lw_at lw_m3 48 rfl) rfl
theorem q618 : (Jvm.Cond.instanceMethod ({ cls := "LineCalls$Rookie", name := "high", desc := "()I" } : Jvm.MethodName)) ∈ lw_all := lw_g (lw_at lw_m3 49 rfl) rfl
theorem q619 : (Jvm.Cond.code ({ cls := "LineCalls$Rookie", name := "high", desc := "()I" } : Jvm.MethodName) prog_10_method_3_code (1 : Nat) (Option.some Jvm.ClassFile.FieldType.int)) ∈ lw_all := lw_g (lw_at lw_m3 50 rfl) rfl
theorem q620 : (Jvm.Cond.methodLink "LineCalls$Rookie" (29 : Nat) ({ cls := "LineCalls$Jumper", name := "high", desc := "()I" } : Jvm.MethodName)) ∈ lw_all := lw_g (lw_at lw_m3 51 rfl) rfl
theorem q649 : (Jvm.Cond.selects "LineCalls$Rookie" ({ cls := "LineCalls$Jumper", name := "tires", desc := "()I" } : Jvm.MethodName) ({ cls := "LineCalls$Rookie", name := "tires", desc := "()I" } : Jvm.MethodName)) ∈ lw_all := lw_g (lw_at lw_m3 80 rfl) rfl
theorem q650 : (Jvm.Cond.instanceMethod ({ cls := "LineCalls$Rookie", name := "tires", desc := "()I" } : Jvm.MethodName)) ∈ lw_all := lw_g (lw_at lw_m3 81 rfl) rfl
theorem q651 : (Jvm.Cond.code ({ cls := "LineCalls$Rookie", name := "tires", desc := "()I" } : Jvm.MethodName) prog_10_method_4_code (1 : Nat) (Option.some Jvm.ClassFile.FieldType.int)) ∈ lw_all := lw_g (lw_at lw_m3 82 rfl) rfl
theorem q652 : (Jvm.Cond.methodLink "LineCalls$Rookie" (32 : Nat) ({ cls := "LineCalls$Jumper", name := "tires", desc := "()I" } : Jvm.MethodName)) ∈ lw_all := lw_g (lw_at lw_m3 83 rfl) rfl
theorem q692 : (Jvm.Cond.selects "LineCalls$Rookie" ({ cls := "LineCalls$Jumper", name := "gains", desc := "(I)I" } : Jvm.MethodName) ({ cls := "LineCalls$Jumper", name := "gains", desc := "(I)I" } : Jvm.MethodName)) ∈ lw_all := lw_g (lw_at lw_m3 123 rfl) rfl
theorem q1117 : (Jvm.Cond.selects "LineCalls$Rookie" ({ cls := "LineCalls$Jumper", name := "isUnder", desc := "(I)Z" } : Jvm.MethodName) ({ cls := "LineCalls$Jumper", name := "isUnder", desc := "(I)Z" } : Jvm.MethodName)) ∈ lw_all := lw_g (lw_at lw_m5 68 rfl) rfl
theorem q1698 : (Jvm.Cond.selects "LineCalls$Rookie" ({ cls := "LineCalls$Jumper", name := "told", desc := "(I)I" } : Jvm.MethodName) ({ cls := "LineCalls$Jumper", name := "told", desc := "(I)I" } : Jvm.MethodName)) ∈ lw_all := lw_g (lw_at lw_m7 169 rfl) rfl
theorem q1707 : (Jvm.Cond.castable "LineCalls$Rookie" "LineCalls$Jumper") ∈ lw_tbl := lw_at lw_m7 178 rfl
theorem in_X11 : ∀ w ∈ wsX110, w ∈ lw_all := lw_in wsX110 [388, 389, 386] (by decide +kernel) (by decide +kernel)

/-! LineCalls$Flanker -/
set_option maxRecDepth 100000
def RX12 : String := "LineCalls$Flanker"
def TX12 : u_T := fun k => match k with
  | 0 => ("LineCalls$Jumper", "number", "I", true)
  | 1 => ("LineCalls$Jumper", "this$0", "LLineCalls;", true)
  | 2 => ("LineCalls$Prop", "this$0", "LLineCalls;", true)
  | _ => ("LineCalls$Flanker", "this$0", "LLineCalls;", true)
def tyX12 : Nat → FieldType := fun k => match k with
  | 0 => .int
  | 1 => .object "LineCalls"
  | 2 => .object "LineCalls"
  | _ => .object "LineCalls"
abbrev wsX120 : List Cond := u_ws RX12 TX12 4
-- two fields of one name: no nmX12
theorem tyX12_ok : ∀ k, k < 4 → parseFieldDescriptor (TX12 k).2.2.1 = some (tyX12 k) := by decide +kernel
abbrev cX12_init : ByteArray := prog_2_method_1_code
def yX12_init : MethodName := ⟨RX12, "<init>", "(LLineCalls;I)V"⟩
def dkwX12_init_0 : List UInt8 := [42, 43, 181, 0, 3, 42, 43, 28, 183, 0, 9, 177]
abbrev dktX12_init_0 : List UInt8 := dkwX12_init_0 ++ []
theorem dksX12_init_0 : cX12_init.data.toList.drop 0 = dktX12_init_0 := by decide +kernel
theorem dX12_init_0 : decode cX12_init 0 = .ok (.aload_n 0, 1) := dk_42 (dk_at dksX12_init_0 0 rfl rfl)
theorem dX12_init_1 : decode cX12_init 1 = .ok (.aload_n 1, 1) := dk_43 (dk_at dksX12_init_0 1 rfl rfl)
theorem dX12_init_2 : decode cX12_init 2 = .ok (.putfield 3, 3) := dk_181 0 3 (dk_at dksX12_init_0 2 rfl rfl)
theorem dX12_init_5 : decode cX12_init 5 = .ok (.aload_n 0, 1) := dk_42 (dk_at dksX12_init_0 5 rfl rfl)
theorem dX12_init_6 : decode cX12_init 6 = .ok (.aload_n 1, 1) := dk_43 (dk_at dksX12_init_0 6 rfl rfl)
theorem dX12_init_7 : decode cX12_init 7 = .ok (.iload_n 2, 1) := dk_28 (dk_at dksX12_init_0 7 rfl rfl)
theorem dX12_init_8 : decode cX12_init 8 = .ok (.invokespecial 9, 3) := dk_183 0 9 (dk_at dksX12_init_0 8 rfl rfl)
theorem dX12_init_11 : decode cX12_init 11 = .ok (.return_, 1) := dk_177 (dk_at dksX12_init_0 11 rfl rfl)
abbrev cX12_kind : ByteArray := prog_2_method_2_code
def yX12_kind : MethodName := ⟨RX12, "kind", "()I"⟩
def dkwX12_kind_0 : List UInt8 := [8, 42, 183, 0, 15, 96, 172]
abbrev dktX12_kind_0 : List UInt8 := dkwX12_kind_0 ++ []
theorem dksX12_kind_0 : cX12_kind.data.toList.drop 0 = dktX12_kind_0 := by decide +kernel
theorem dX12_kind_0 : decode cX12_kind 0 = .ok (.iconst 5, 1) := dk_8 (dk_at dksX12_kind_0 0 rfl rfl)
theorem dX12_kind_1 : decode cX12_kind 1 = .ok (.aload_n 0, 1) := dk_42 (dk_at dksX12_kind_0 1 rfl rfl)
theorem dX12_kind_2 : decode cX12_kind 2 = .ok (.invokespecial 15, 3) := dk_183 0 15 (dk_at dksX12_kind_0 2 rfl rfl)
theorem dX12_kind_5 : decode cX12_kind 5 = .ok (.iadd, 1) := dk_96 (dk_at dksX12_kind_0 5 rfl rfl)
theorem dX12_kind_6 : decode cX12_kind 6 = .ok (.ireturn, 1) := dk_172 (dk_at dksX12_kind_0 6 rfl rfl)
abbrev cX12_high : ByteArray := prog_2_method_3_code
def yX12_high : MethodName := ⟨RX12, "high", "()I"⟩
def dkwX12_high_0 : List UInt8 := [42, 183, 0, 19, 16, 30, 96, 42, 180, 0, 3, 180, 0, 22, 180, 0, 26, 4, 46, 100, 172]
abbrev dktX12_high_0 : List UInt8 := dkwX12_high_0 ++ []
theorem dksX12_high_0 : cX12_high.data.toList.drop 0 = dktX12_high_0 := by decide +kernel
theorem dX12_high_0 : decode cX12_high 0 = .ok (.aload_n 0, 1) := dk_42 (dk_at dksX12_high_0 0 rfl rfl)
theorem dX12_high_1 : decode cX12_high 1 = .ok (.invokespecial 19, 3) := dk_183 0 19 (dk_at dksX12_high_0 1 rfl rfl)
theorem dX12_high_4 : decode cX12_high 4 = .ok (.bipush 30, 2) := dk_16 30 (dk_at dksX12_high_0 4 rfl rfl)
theorem dX12_high_6 : decode cX12_high 6 = .ok (.iadd, 1) := dk_96 (dk_at dksX12_high_0 6 rfl rfl)
theorem dX12_high_7 : decode cX12_high 7 = .ok (.aload_n 0, 1) := dk_42 (dk_at dksX12_high_0 7 rfl rfl)
theorem dX12_high_8 : decode cX12_high 8 = .ok (.getfield 3, 3) := dk_180 0 3 (dk_at dksX12_high_0 8 rfl rfl)
theorem dX12_high_11 : decode cX12_high 11 = .ok (.getfield 22, 3) := dk_180 0 22 (dk_at dksX12_high_0 11 rfl rfl)
theorem dX12_high_14 : decode cX12_high 14 = .ok (.getfield 26, 3) := dk_180 0 26 (dk_at dksX12_high_0 14 rfl rfl)
theorem dX12_high_17 : decode cX12_high 17 = .ok (.iconst 1, 1) := dk_4 (dk_at dksX12_high_0 17 rfl rfl)
theorem dX12_high_18 : decode cX12_high 18 = .ok (.iaload, 1) := dk_46 (dk_at dksX12_high_0 18 rfl rfl)
theorem dX12_high_19 : decode cX12_high 19 = .ok (.isub, 1) := dk_100 (dk_at dksX12_high_0 19 rfl rfl)
theorem dX12_high_20 : decode cX12_high 20 = .ok (.ireturn, 1) := dk_172 (dk_at dksX12_high_0 20 rfl rfl)
abbrev cX12_tires : ByteArray := prog_2_method_5_code
def yX12_tires : MethodName := ⟨RX12, "tires", "()I"⟩
def dkwX12_tires_0 : List UInt8 := [42, 183, 0, 36, 16, 6, 100, 172]
abbrev dktX12_tires_0 : List UInt8 := dkwX12_tires_0 ++ []
theorem dksX12_tires_0 : cX12_tires.data.toList.drop 0 = dktX12_tires_0 := by decide +kernel
theorem dX12_tires_0 : decode cX12_tires 0 = .ok (.aload_n 0, 1) := dk_42 (dk_at dksX12_tires_0 0 rfl rfl)
theorem dX12_tires_1 : decode cX12_tires 1 = .ok (.invokespecial 36, 3) := dk_183 0 36 (dk_at dksX12_tires_0 1 rfl rfl)
theorem dX12_tires_4 : decode cX12_tires 4 = .ok (.bipush 6, 2) := dk_16 6 (dk_at dksX12_tires_0 4 rfl rfl)
theorem dX12_tires_6 : decode cX12_tires 6 = .ok (.isub, 1) := dk_100 (dk_at dksX12_tires_0 6 rfl rfl)
theorem dX12_tires_7 : decode cX12_tires 7 = .ok (.ireturn, 1) := dk_172 (dk_at dksX12_tires_0 7 rfl rfl)
abbrev cX12_gains : ByteArray := prog_2_method_4_code
def yX12_gains : MethodName := ⟨RX12, "gains", "(I)I"⟩
def dkwX12_gains_0 : List UInt8 := [42, 27, 183, 0, 32, 5, 27, 104, 96, 172]
abbrev dktX12_gains_0 : List UInt8 := dkwX12_gains_0 ++ []
theorem dksX12_gains_0 : cX12_gains.data.toList.drop 0 = dktX12_gains_0 := by decide +kernel
theorem dX12_gains_0 : decode cX12_gains 0 = .ok (.aload_n 0, 1) := dk_42 (dk_at dksX12_gains_0 0 rfl rfl)
theorem dX12_gains_1 : decode cX12_gains 1 = .ok (.iload_n 1, 1) := dk_27 (dk_at dksX12_gains_0 1 rfl rfl)
theorem dX12_gains_2 : decode cX12_gains 2 = .ok (.invokespecial 32, 3) := dk_183 0 32 (dk_at dksX12_gains_0 2 rfl rfl)
theorem dX12_gains_5 : decode cX12_gains 5 = .ok (.iconst 2, 1) := dk_5 (dk_at dksX12_gains_0 5 rfl rfl)
theorem dX12_gains_6 : decode cX12_gains 6 = .ok (.iload_n 1, 1) := dk_27 (dk_at dksX12_gains_0 6 rfl rfl)
theorem dX12_gains_7 : decode cX12_gains 7 = .ok (.imul, 1) := dk_104 (dk_at dksX12_gains_0 7 rfl rfl)
theorem dX12_gains_8 : decode cX12_gains 8 = .ok (.iadd, 1) := dk_96 (dk_at dksX12_gains_0 8 rfl rfl)
theorem dX12_gains_9 : decode cX12_gains 9 = .ok (.ireturn, 1) := dk_172 (dk_at dksX12_gains_0 9 rfl rfl)
theorem q105 : (Jvm.Cond.initialized "LineCalls$Flanker") ∈ lw_all := lw_g (lw_at lw_m1 16 rfl) rfl
theorem q226 : (Jvm.Cond.fieldLinkNest "LineCalls$Flanker" (26 : Nat) "LineCalls$World" "sets" "[I" "LineCalls") ∈ lw_tbl := lw_at lw_m1 137 rfl
theorem q392 : (Jvm.Cond.instantiable "LineCalls$Flanker" (4 : Nat)) ∈ lw_all := lw_g (lw_at lw_m2 63 rfl) rfl
theorem q394 : (Jvm.Cond.instanceMethod ({ cls := "LineCalls$Flanker", name := "<init>", desc := "(LLineCalls;I)V" } : Jvm.MethodName)) ∈ lw_all := lw_g (lw_at lw_m2 65 rfl) rfl
theorem q395 : (Jvm.Cond.code ({ cls := "LineCalls$Flanker", name := "<init>", desc := "(LLineCalls;I)V" } : Jvm.MethodName) prog_2_method_1_code (3 : Nat) (Option.none : Option Jvm.ClassFile.FieldType)) ∈ lw_all := lw_g (lw_at lw_m2 66 rfl) rfl
theorem q396 : (Jvm.Cond.methodLink "LineCalls$Flanker" (9 : Nat) ({ cls := "LineCalls$Prop", name := "<init>", desc := "(LLineCalls;I)V" } : Jvm.MethodName)) ∈ lw_all := lw_g (lw_at lw_m2 67 rfl) rfl
theorem q397 : (Jvm.Cond.fieldLink "LineCalls$Flanker" (3 : Nat) "LineCalls$Flanker" "this$0" "LLineCalls;") ∈ lw_all := lw_g (lw_at lw_m2 68 rfl) rfl
theorem q398 : (Jvm.Cond.laysFinal "LineCalls$Flanker" "LineCalls$Flanker" "this$0" "LLineCalls;") ∈ lw_all := lw_g (lw_at lw_m2 69 rfl) rfl
theorem q399 : (Jvm.Cond.soleField "LineCalls$Flanker" "this$0") ∈ lw_all := lw_g (lw_at lw_m2 70 rfl) rfl
theorem q400 : (Jvm.Cond.laysFinal "LineCalls$Flanker" "LineCalls$Prop" "this$0" "LLineCalls;") ∈ lw_all := lw_g (lw_at lw_m2 71 rfl) rfl
theorem q401 : (Jvm.Cond.laysFinal "LineCalls$Flanker" "LineCalls$Jumper" "number" "I") ∈ lw_all := lw_g (lw_at lw_m2 72 rfl) rfl
theorem q402 : (Jvm.Cond.laysFinal "LineCalls$Flanker" "LineCalls$Jumper" "this$0" "LLineCalls;") ∈ lw_all := lw_g (lw_at lw_m2 73 rfl) rfl
theorem q403 : (Jvm.Cond.superclass "LineCalls$Flanker" "LineCalls$Prop") ∈ lw_all := lw_g (lw_at lw_m2 74 rfl) rfl
theorem q414 : (Jvm.Cond.fieldLinkNest "LineCalls$Flanker" (22 : Nat) "LineCalls" "d" "LLineCalls$World;" "LineCalls") ∈ lw_tbl := lw_at lw_m2 85 rfl
theorem q557 : (Jvm.Cond.selects "LineCalls$Flanker" ({ cls := "LineCalls$Jumper", name := "kind", desc := "()I" } : Jvm.MethodName) ({ cls := "LineCalls$Flanker", name := "kind", desc := "()I" } : Jvm.MethodName)) ∈ lw_all := lw_g (lw_at lw_m2 228 rfl) rfl
theorem q558 : (Jvm.Cond.instanceMethod ({ cls := "LineCalls$Flanker", name := "kind", desc := "()I" } : Jvm.MethodName)) ∈ lw_all := lw_g (lw_at lw_m2 229 rfl) rfl
theorem q559 : (Jvm.Cond.code ({ cls := "LineCalls$Flanker", name := "kind", desc := "()I" } : Jvm.MethodName) prog_2_method_2_code (1 : Nat) (Option.some Jvm.ClassFile.FieldType.int)) ∈ lw_all := lw_g (lw_at lw_m2 230 rfl) rfl
theorem q560 : (Jvm.Cond.methodLink "LineCalls$Flanker" (15 : Nat) ({ cls := "LineCalls$Prop", name := "kind", desc := "()I" } : Jvm.MethodName)) ∈ lw_all := lw_g (lw_at lw_m2 231 rfl) rfl
theorem q586 : (Jvm.Cond.selects "LineCalls$Flanker" ({ cls := "LineCalls$Jumper", name := "high", desc := "()I" } : Jvm.MethodName) ({ cls := "LineCalls$Flanker", name := "high", desc := "()I" } : Jvm.MethodName)) ∈ lw_all := lw_g (lw_at lw_m3 17 rfl) rfl
theorem q587 : (Jvm.Cond.instanceMethod ({ cls := "LineCalls$Flanker", name := "high", desc := "()I" } : Jvm.MethodName)) ∈ lw_all := lw_g (lw_at lw_m3 18 rfl) rfl
theorem q588 : (Jvm.Cond.code ({ cls := "LineCalls$Flanker", name := "high", desc := "()I" } : Jvm.MethodName) prog_2_method_3_code (1 : Nat) (Option.some Jvm.ClassFile.FieldType.int)) ∈ lw_all := lw_g (lw_at lw_m3 19 rfl) rfl
theorem q589 : (Jvm.Cond.methodLink "LineCalls$Flanker" (19 : Nat) ({ cls := "LineCalls$Prop", name := "high", desc := "()I" } : Jvm.MethodName)) ∈ lw_all := lw_g (lw_at lw_m3 20 rfl) rfl
theorem q594 : (Jvm.Cond.unhidden "LineCalls$Flanker" "half" "(I)I") ∈ lw_tbl := lw_at lw_m3 25 rfl
theorem q631 : (Jvm.Cond.selects "LineCalls$Flanker" ({ cls := "LineCalls$Jumper", name := "tires", desc := "()I" } : Jvm.MethodName) ({ cls := "LineCalls$Flanker", name := "tires", desc := "()I" } : Jvm.MethodName)) ∈ lw_all := lw_g (lw_at lw_m3 62 rfl) rfl
theorem q632 : (Jvm.Cond.instanceMethod ({ cls := "LineCalls$Flanker", name := "tires", desc := "()I" } : Jvm.MethodName)) ∈ lw_all := lw_g (lw_at lw_m3 63 rfl) rfl
theorem q633 : (Jvm.Cond.code ({ cls := "LineCalls$Flanker", name := "tires", desc := "()I" } : Jvm.MethodName) prog_2_method_5_code (1 : Nat) (Option.some Jvm.ClassFile.FieldType.int)) ∈ lw_all := lw_g (lw_at lw_m3 64 rfl) rfl
theorem q634 : (Jvm.Cond.methodLink "LineCalls$Flanker" (36 : Nat) ({ cls := "LineCalls$Prop", name := "tires", desc := "()I" } : Jvm.MethodName)) ∈ lw_all := lw_g (lw_at lw_m3 65 rfl) rfl
theorem q674 : (Jvm.Cond.selects "LineCalls$Flanker" ({ cls := "LineCalls$Jumper", name := "gains", desc := "(I)I" } : Jvm.MethodName) ({ cls := "LineCalls$Flanker", name := "gains", desc := "(I)I" } : Jvm.MethodName)) ∈ lw_all := lw_g (lw_at lw_m3 105 rfl) rfl
theorem q675 : (Jvm.Cond.instanceMethod ({ cls := "LineCalls$Flanker", name := "gains", desc := "(I)I" } : Jvm.MethodName)) ∈ lw_all := lw_g (lw_at lw_m3 106 rfl) rfl
theorem q676 : (Jvm.Cond.code ({ cls := "LineCalls$Flanker", name := "gains", desc := "(I)I" } : Jvm.MethodName) prog_2_method_4_code (2 : Nat) (Option.some Jvm.ClassFile.FieldType.int)) ∈ lw_all := lw_g (lw_at lw_m3 107 rfl) rfl
theorem q677 : (Jvm.Cond.methodLink "LineCalls$Flanker" (32 : Nat) ({ cls := "LineCalls$Prop", name := "gains", desc := "(I)I" } : Jvm.MethodName)) ∈ lw_all := lw_g (lw_at lw_m3 108 rfl) rfl
theorem q1104 : (Jvm.Cond.selects "LineCalls$Flanker" ({ cls := "LineCalls$Jumper", name := "isUnder", desc := "(I)Z" } : Jvm.MethodName) ({ cls := "LineCalls$Prop", name := "isUnder", desc := "(I)Z" } : Jvm.MethodName)) ∈ lw_all := lw_g (lw_at lw_m5 55 rfl) rfl
theorem q1693 : (Jvm.Cond.selects "LineCalls$Flanker" ({ cls := "LineCalls$Jumper", name := "told", desc := "(I)I" } : Jvm.MethodName) ({ cls := "LineCalls$Jumper", name := "told", desc := "(I)I" } : Jvm.MethodName)) ∈ lw_all := lw_g (lw_at lw_m7 164 rfl) rfl
theorem q1703 : (Jvm.Cond.castable "LineCalls$Flanker" "LineCalls$Jumper") ∈ lw_tbl := lw_at lw_m7 174 rfl
theorem q1709 : (Jvm.Cond.castable "LineCalls$Flanker" "LineCalls$Prop") ∈ lw_tbl := lw_at lw_m7 180 rfl
theorem in_X12 : ∀ w ∈ wsX120, w ∈ lw_all := lw_in wsX120 [401, 402, 400, 398] (by decide +kernel) (by decide +kernel)

/-! LineCalls$Jumps -/
set_option maxRecDepth 100000
def RX14 : String := "LineCalls$Jumps"
abbrev cX14_half : ByteArray := prog_5_method_4_code
def yX14_half : MethodName := ⟨RX14, "half", "(I)I"⟩
def dkwX14_half_0 : List UInt8 := [27, 5, 108, 172]
abbrev dktX14_half_0 : List UInt8 := dkwX14_half_0 ++ []
theorem dksX14_half_0 : cX14_half.data.toList.drop 0 = dktX14_half_0 := by decide +kernel
theorem dX14_half_0 : decode cX14_half 0 = .ok (.iload_n 1, 1) := dk_27 (dk_at dksX14_half_0 0 rfl rfl)
theorem dX14_half_1 : decode cX14_half 1 = .ok (.iconst 2, 1) := dk_5 (dk_at dksX14_half_0 1 rfl rfl)
theorem dX14_half_2 : decode cX14_half 2 = .ok (.idiv, 1) := dk_108 (dk_at dksX14_half_0 2 rfl rfl)
theorem dX14_half_3 : decode cX14_half 3 = .ok (.ireturn, 1) := dk_172 (dk_at dksX14_half_0 3 rfl rfl)
theorem q593 : (Jvm.Cond.declares ({ cls := "LineCalls$Jumps", name := "half", desc := "(I)I" } : Jvm.MethodName)) ∈ lw_tbl := lw_at lw_m3 24 rfl
theorem q596 : (Jvm.Cond.instanceMethod ({ cls := "LineCalls$Jumps", name := "half", desc := "(I)I" } : Jvm.MethodName)) ∈ lw_all := lw_g (lw_at lw_m3 27 rfl) rfl
theorem q597 : (Jvm.Cond.publicMethod ({ cls := "LineCalls$Jumps", name := "half", desc := "(I)I" } : Jvm.MethodName)) ∈ lw_tbl := lw_at lw_m3 28 rfl
theorem q598 : (Jvm.Cond.code ({ cls := "LineCalls$Jumps", name := "half", desc := "(I)I" } : Jvm.MethodName) prog_5_method_4_code (2 : Nat) (Option.some Jvm.ClassFile.FieldType.int)) ∈ lw_all := lw_g (lw_at lw_m3 29 rfl) rfl

