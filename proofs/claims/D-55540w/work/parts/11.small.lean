/-! TulipLines$Wrong -/
set_option maxRecDepth 100000
def RX3 : String := "TulipLines$Wrong"
def TX3 : u_T := fun k => match k with
  | 0 => ("java/lang/Throwable", "cause", "Ljava/lang/Throwable;", false)
  | 1 => ("java/lang/Throwable", "stackTrace", "[Ljava/lang/StackTraceElement;", false)
  | 2 => ("java/lang/Throwable", "suppressedExceptions", "Ljava/util/List;", false)
  | 3 => ("java/lang/Throwable", "detailMessage", "Ljava/lang/String;", false)
  | 4 => ("java/lang/Throwable", "backtrace", "Ljava/lang/Object;", false)
  | 5 => ("java/lang/Throwable", "depth", "I", false)
  | _ => ("TulipLines$Wrong", "code", "I", true)
def tyX3 : Nat → FieldType := fun k => match k with
  | 0 => .object "java/lang/Throwable"
  | 1 => .array (.object "java/lang/StackTraceElement")
  | 2 => .object "java/util/List"
  | 3 => .object "java/lang/String"
  | 4 => .object "java/lang/Object"
  | 5 => .int
  | _ => .int
abbrev wsX30 : List Cond := u_ws RX3 TX3 7
theorem nmX3 : ∀ a, a < 7 → ∀ b, b < 7 → a ≠ b → (TX3 a).2.1 ≠ (TX3 b).2.1 := by decide +kernel
theorem tyX3_ok : ∀ k, k < 7 → parseFieldDescriptor (TX3 k).2.2.1 = some (tyX3 k) := by decide +kernel
abbrev cX3_init : ByteArray := prog_12_method_1_code
def yX3_init : MethodName := ⟨RX3, "<init>", "(I)V"⟩
def dkwX3_init_0 : List UInt8 := [42, 183, 0, 1, 42, 27, 181, 0, 7, 177]
abbrev dktX3_init_0 : List UInt8 := dkwX3_init_0 ++ []
theorem dksX3_init_0 : cX3_init.data.toList.drop 0 = dktX3_init_0 := by decide +kernel
theorem dX3_init_0 : decode cX3_init 0 = .ok (.aload_n 0, 1) := dk_42 (dk_at dksX3_init_0 0 rfl rfl)
theorem dX3_init_1 : decode cX3_init 1 = .ok (.invokespecial 1, 3) := dk_183 0 1 (dk_at dksX3_init_0 1 rfl rfl)
theorem dX3_init_4 : decode cX3_init 4 = .ok (.aload_n 0, 1) := dk_42 (dk_at dksX3_init_0 4 rfl rfl)
theorem dX3_init_5 : decode cX3_init 5 = .ok (.iload_n 1, 1) := dk_27 (dk_at dksX3_init_0 5 rfl rfl)
theorem dX3_init_6 : decode cX3_init 6 = .ok (.putfield 7, 3) := dk_181 0 7 (dk_at dksX3_init_0 6 rfl rfl)
theorem dX3_init_9 : decode cX3_init 9 = .ok (.return_, 1) := dk_177 (dk_at dksX3_init_0 9 rfl rfl)
theorem q82 : (Jvm.Cond.initialized "TulipLines$Wrong") ∈ lw_all := lw_g (lw_at lw_m1 14 rfl) rfl
theorem q269 : (Jvm.Cond.instantiable "TulipLines$Wrong" (7 : Nat)) ∈ lw_all := lw_g (lw_at lw_m1 201 rfl) rfl
theorem q270 : (Jvm.Cond.castable "TulipLines$Wrong" "TulipLines$Wrong") ∈ lw_tbl := lw_at lw_m1 202 rfl
theorem q275 : (Jvm.Cond.selects "TulipLines$Wrong" ({ cls := "java/lang/Throwable", name := "fillInStackTrace", desc := "(I)Ljava/lang/Throwable;" } : Jvm.MethodName) ({ cls := "java/lang/Throwable", name := "fillInStackTrace", desc := "(I)Ljava/lang/Throwable;" } : Jvm.MethodName)) ∈ lw_all := lw_g (lw_at lw_m1 207 rfl) rfl
theorem q276 : (Jvm.Cond.selects "TulipLines$Wrong" ({ cls := "java/lang/Throwable", name := "fillInStackTrace", desc := "()Ljava/lang/Throwable;" } : Jvm.MethodName) ({ cls := "java/lang/Throwable", name := "fillInStackTrace", desc := "()Ljava/lang/Throwable;" } : Jvm.MethodName)) ∈ lw_all := lw_g (lw_at lw_m1 208 rfl) rfl
theorem q277 : (Jvm.Cond.lays "TulipLines$Wrong" "java/lang/Throwable" "cause" "Ljava/lang/Throwable;") ∈ lw_all := lw_g (lw_at lw_m1 209 rfl) rfl
theorem q279 : (Jvm.Cond.lays "TulipLines$Wrong" "java/lang/Throwable" "stackTrace" "[Ljava/lang/StackTraceElement;") ∈ lw_all := lw_g (lw_at lw_m1 211 rfl) rfl
theorem q281 : (Jvm.Cond.lays "TulipLines$Wrong" "java/lang/Throwable" "suppressedExceptions" "Ljava/util/List;") ∈ lw_all := lw_g (lw_at lw_m1 213 rfl) rfl
theorem q283 : (Jvm.Cond.lays "TulipLines$Wrong" "java/lang/Throwable" "detailMessage" "Ljava/lang/String;") ∈ lw_all := lw_g (lw_at lw_m1 215 rfl) rfl
theorem q285 : (Jvm.Cond.lays "TulipLines$Wrong" "java/lang/Throwable" "backtrace" "Ljava/lang/Object;") ∈ lw_all := lw_g (lw_at lw_m1 217 rfl) rfl
theorem q308 : (Jvm.Cond.instanceMethod ({ cls := "TulipLines$Wrong", name := "<init>", desc := "(I)V" } : Jvm.MethodName)) ∈ lw_all := lw_g (lw_at lw_m2 0 rfl) rfl
theorem q309 : (Jvm.Cond.code ({ cls := "TulipLines$Wrong", name := "<init>", desc := "(I)V" } : Jvm.MethodName) prog_12_method_1_code (2 : Nat) (Option.none : Option Jvm.ClassFile.FieldType)) ∈ lw_all := lw_g (lw_at lw_m2 1 rfl) rfl
theorem q310 : (Jvm.Cond.methodLink "TulipLines$Wrong" (1 : Nat) ({ cls := "java/lang/Exception", name := "<init>", desc := "()V" } : Jvm.MethodName)) ∈ lw_all := lw_g (lw_at lw_m2 2 rfl) rfl
theorem q314 : (Jvm.Cond.fieldLink "TulipLines$Wrong" (7 : Nat) "TulipLines$Wrong" "code" "I") ∈ lw_all := lw_g (lw_at lw_m2 6 rfl) rfl
theorem q320 : (Jvm.Cond.laysFinal "TulipLines$Wrong" "TulipLines$Wrong" "code" "I") ∈ lw_all := lw_g (lw_at lw_m2 12 rfl) rfl
theorem q321 : (Jvm.Cond.soleField "TulipLines$Wrong" "code") ∈ lw_all := lw_g (lw_at lw_m2 13 rfl) rfl
theorem q326 : (Jvm.Cond.lays "TulipLines$Wrong" "java/lang/Throwable" "depth" "I") ∈ lw_all := lw_g (lw_at lw_m2 18 rfl) rfl
theorem q329 : (Jvm.Cond.superclass "TulipLines$Wrong" "java/lang/Exception") ∈ lw_all := lw_g (lw_at lw_m2 21 rfl) rfl
theorem q509 : (Jvm.Cond.selects "TulipLines$Wrong" ({ cls := "java/lang/Object", name := "getClass", desc := "()Ljava/lang/Class;" } : Jvm.MethodName) ({ cls := "java/lang/Object", name := "getClass", desc := "()Ljava/lang/Class;" } : Jvm.MethodName)) ∈ lw_all := lw_g (lw_at lw_m2 201 rfl) rfl
theorem q1822 : (Jvm.Cond.castable "TulipLines$Wrong" "java/lang/Object") ∈ lw_tbl := lw_at lw_m8 74 rfl
theorem in_X3 : ∀ w ∈ wsX30, w ∈ lw_all := lw_in wsX30 [277, 279, 281, 283, 285, 326, 320] (by decide +kernel) (by decide +kernel)
/-! TulipLines$Refusal -/
set_option maxRecDepth 100000
def RX4 : String := "TulipLines$Refusal"
def TX4 : u_T := fun k => match k with
  | 0 => ("java/lang/Throwable", "cause", "Ljava/lang/Throwable;", false)
  | 1 => ("java/lang/Throwable", "stackTrace", "[Ljava/lang/StackTraceElement;", false)
  | 2 => ("java/lang/Throwable", "suppressedExceptions", "Ljava/util/List;", false)
  | 3 => ("java/lang/Throwable", "detailMessage", "Ljava/lang/String;", false)
  | 4 => ("java/lang/Throwable", "backtrace", "Ljava/lang/Object;", false)
  | 5 => ("java/lang/Throwable", "depth", "I", false)
  | 6 => ("TulipLines$Refusal", "reason", "I", true)
  | _ => ("TulipLines$Refusal", "detail", "I", true)
def tyX4 : Nat → FieldType := fun k => match k with
  | 0 => .object "java/lang/Throwable"
  | 1 => .array (.object "java/lang/StackTraceElement")
  | 2 => .object "java/util/List"
  | 3 => .object "java/lang/String"
  | 4 => .object "java/lang/Object"
  | 5 => .int
  | 6 => .int
  | _ => .int
abbrev wsX40 : List Cond := u_ws RX4 TX4 8
theorem nmX4 : ∀ a, a < 8 → ∀ b, b < 8 → a ≠ b → (TX4 a).2.1 ≠ (TX4 b).2.1 := by decide +kernel
theorem tyX4_ok : ∀ k, k < 8 → parseFieldDescriptor (TX4 k).2.2.1 = some (tyX4 k) := by decide +kernel
abbrev cX4_init : ByteArray := prog_10_method_1_code
def yX4_init : MethodName := ⟨RX4, "<init>", "(II)V"⟩
def dkwX4_init_0 : List UInt8 := [42, 183, 0, 1, 42, 27, 181, 0, 7, 42, 28, 181, 0, 13, 177]
abbrev dktX4_init_0 : List UInt8 := dkwX4_init_0 ++ []
theorem dksX4_init_0 : cX4_init.data.toList.drop 0 = dktX4_init_0 := by decide +kernel
theorem dX4_init_0 : decode cX4_init 0 = .ok (.aload_n 0, 1) := dk_42 (dk_at dksX4_init_0 0 rfl rfl)
theorem dX4_init_1 : decode cX4_init 1 = .ok (.invokespecial 1, 3) := dk_183 0 1 (dk_at dksX4_init_0 1 rfl rfl)
theorem dX4_init_4 : decode cX4_init 4 = .ok (.aload_n 0, 1) := dk_42 (dk_at dksX4_init_0 4 rfl rfl)
theorem dX4_init_5 : decode cX4_init 5 = .ok (.iload_n 1, 1) := dk_27 (dk_at dksX4_init_0 5 rfl rfl)
theorem dX4_init_6 : decode cX4_init 6 = .ok (.putfield 7, 3) := dk_181 0 7 (dk_at dksX4_init_0 6 rfl rfl)
theorem dX4_init_9 : decode cX4_init 9 = .ok (.aload_n 0, 1) := dk_42 (dk_at dksX4_init_0 9 rfl rfl)
theorem dX4_init_10 : decode cX4_init 10 = .ok (.iload_n 2, 1) := dk_28 (dk_at dksX4_init_0 10 rfl rfl)
theorem dX4_init_11 : decode cX4_init 11 = .ok (.putfield 13, 3) := dk_181 0 13 (dk_at dksX4_init_0 11 rfl rfl)
theorem dX4_init_14 : decode cX4_init 14 = .ok (.return_, 1) := dk_177 (dk_at dksX4_init_0 14 rfl rfl)
theorem q83 : (Jvm.Cond.initialized "TulipLines$Refusal") ∈ lw_all := lw_g (lw_at lw_m1 15 rfl) rfl
theorem q299 : (Jvm.Cond.selects "TulipLines$Refusal" ({ cls := "java/lang/Throwable", name := "fillInStackTrace", desc := "()Ljava/lang/Throwable;" } : Jvm.MethodName) ({ cls := "java/lang/Throwable", name := "fillInStackTrace", desc := "()Ljava/lang/Throwable;" } : Jvm.MethodName)) ∈ lw_all := lw_g (lw_at lw_m1 231 rfl) rfl
theorem q346 : (Jvm.Cond.instantiable "TulipLines$Refusal" (8 : Nat)) ∈ lw_all := lw_g (lw_at lw_m2 38 rfl) rfl
theorem q347 : (Jvm.Cond.castable "TulipLines$Refusal" "TulipLines$Refusal") ∈ lw_tbl := lw_at lw_m2 39 rfl
theorem q348 : (Jvm.Cond.selects "TulipLines$Refusal" ({ cls := "java/lang/Throwable", name := "fillInStackTrace", desc := "(I)Ljava/lang/Throwable;" } : Jvm.MethodName) ({ cls := "java/lang/Throwable", name := "fillInStackTrace", desc := "(I)Ljava/lang/Throwable;" } : Jvm.MethodName)) ∈ lw_all := lw_g (lw_at lw_m2 40 rfl) rfl
theorem q349 : (Jvm.Cond.lays "TulipLines$Refusal" "java/lang/Throwable" "cause" "Ljava/lang/Throwable;") ∈ lw_all := lw_g (lw_at lw_m2 41 rfl) rfl
theorem q350 : (Jvm.Cond.lays "TulipLines$Refusal" "java/lang/Throwable" "stackTrace" "[Ljava/lang/StackTraceElement;") ∈ lw_all := lw_g (lw_at lw_m2 42 rfl) rfl
theorem q351 : (Jvm.Cond.lays "TulipLines$Refusal" "java/lang/Throwable" "suppressedExceptions" "Ljava/util/List;") ∈ lw_all := lw_g (lw_at lw_m2 43 rfl) rfl
theorem q352 : (Jvm.Cond.lays "TulipLines$Refusal" "java/lang/Throwable" "detailMessage" "Ljava/lang/String;") ∈ lw_all := lw_g (lw_at lw_m2 44 rfl) rfl
theorem q353 : (Jvm.Cond.lays "TulipLines$Refusal" "java/lang/Throwable" "backtrace" "Ljava/lang/Object;") ∈ lw_all := lw_g (lw_at lw_m2 45 rfl) rfl
theorem q355 : (Jvm.Cond.instanceMethod ({ cls := "TulipLines$Refusal", name := "<init>", desc := "(II)V" } : Jvm.MethodName)) ∈ lw_all := lw_g (lw_at lw_m2 47 rfl) rfl
theorem q356 : (Jvm.Cond.code ({ cls := "TulipLines$Refusal", name := "<init>", desc := "(II)V" } : Jvm.MethodName) prog_10_method_1_code (3 : Nat) (Option.none : Option Jvm.ClassFile.FieldType)) ∈ lw_all := lw_g (lw_at lw_m2 48 rfl) rfl
theorem q357 : (Jvm.Cond.methodLink "TulipLines$Refusal" (1 : Nat) ({ cls := "java/lang/Exception", name := "<init>", desc := "()V" } : Jvm.MethodName)) ∈ lw_all := lw_g (lw_at lw_m2 49 rfl) rfl
theorem q358 : (Jvm.Cond.fieldLink "TulipLines$Refusal" (7 : Nat) "TulipLines$Refusal" "reason" "I") ∈ lw_all := lw_g (lw_at lw_m2 50 rfl) rfl
theorem q360 : (Jvm.Cond.fieldLink "TulipLines$Refusal" (13 : Nat) "TulipLines$Refusal" "detail" "I") ∈ lw_all := lw_g (lw_at lw_m2 52 rfl) rfl
theorem q362 : (Jvm.Cond.laysFinal "TulipLines$Refusal" "TulipLines$Refusal" "reason" "I") ∈ lw_all := lw_g (lw_at lw_m2 54 rfl) rfl
theorem q363 : (Jvm.Cond.soleField "TulipLines$Refusal" "reason") ∈ lw_all := lw_g (lw_at lw_m2 55 rfl) rfl
theorem q364 : (Jvm.Cond.laysFinal "TulipLines$Refusal" "TulipLines$Refusal" "detail" "I") ∈ lw_all := lw_g (lw_at lw_m2 56 rfl) rfl
theorem q365 : (Jvm.Cond.soleField "TulipLines$Refusal" "detail") ∈ lw_all := lw_g (lw_at lw_m2 57 rfl) rfl
theorem q366 : (Jvm.Cond.lays "TulipLines$Refusal" "java/lang/Throwable" "depth" "I") ∈ lw_all := lw_g (lw_at lw_m2 58 rfl) rfl
theorem q367 : (Jvm.Cond.superclass "TulipLines$Refusal" "java/lang/Exception") ∈ lw_all := lw_g (lw_at lw_m2 59 rfl) rfl
theorem q507 : (Jvm.Cond.selects "TulipLines$Refusal" ({ cls := "java/lang/Object", name := "getClass", desc := "()Ljava/lang/Class;" } : Jvm.MethodName) ({ cls := "java/lang/Object", name := "getClass", desc := "()Ljava/lang/Class;" } : Jvm.MethodName)) ∈ lw_all := lw_g (lw_at lw_m2 199 rfl) rfl
theorem q1823 : (Jvm.Cond.castable "TulipLines$Refusal" "java/lang/Object") ∈ lw_tbl := lw_at lw_m8 75 rfl
theorem in_X4 : ∀ w ∈ wsX40, w ∈ lw_all := lw_in wsX40 [349, 350, 351, 352, 353, 366, 362, 364] (by decide +kernel) (by decide +kernel)
/-! TulipLines$Bulb -/
set_option maxRecDepth 100000
def RX5 : String := "TulipLines$Bulb"
def TX5 : u_T := fun k => match k with
  | 0 => ("TulipLines$Bulb", "number", "I", true)
  | 1 => ("TulipLines$Bulb", "pattern", "I", true)
  | 2 => ("TulipLines$Bulb", "mother", "I", true)
  | 3 => ("TulipLines$Bulb", "father", "I", true)
  | 4 => ("TulipLines$Bulb", "year", "I", true)
  | 5 => ("TulipLines$Bulb", "generation", "I", true)
  | 6 => ("TulipLines$Bulb", "isSport", "Z", true)
  | _ => ("TulipLines$Bulb", "hasDied", "Z", false)
def tyX5 : Nat → FieldType := fun k => match k with
  | 0 => .int
  | 1 => .int
  | 2 => .int
  | 3 => .int
  | 4 => .int
  | 5 => .int
  | 6 => .boolean
  | _ => .boolean
abbrev wsX50 : List Cond := u_ws RX5 TX5 8
theorem nmX5 : ∀ a, a < 8 → ∀ b, b < 8 → a ≠ b → (TX5 a).2.1 ≠ (TX5 b).2.1 := by decide +kernel
theorem tyX5_ok : ∀ k, k < 8 → parseFieldDescriptor (TX5 k).2.2.1 = some (tyX5 k) := by decide +kernel
abbrev cX5_init : ByteArray := prog_3_method_1_code
def yX5_init : MethodName := ⟨RX5, "<init>", "(IIIIIIZ)V"⟩
def dkwX5_init_1 : List UInt8 := [181, 0, 21, 42, 21, 5, 181, 0, 24, 42, 21, 6, 181, 0, 27, 42, 21, 7, 181, 0, 30, 177]
abbrev dktX5_init_1 : List UInt8 := dkwX5_init_1 ++ []
def dkwX5_init_0 : List UInt8 := [42, 183, 0, 3, 42, 27, 181, 0, 9, 42, 28, 181, 0, 15, 42, 29, 181, 0, 18, 42, 21, 4]
abbrev dktX5_init_0 : List UInt8 := dkwX5_init_0 ++ dktX5_init_1
theorem dksX5_init_0 : cX5_init.data.toList.drop 0 = dktX5_init_0 := by decide +kernel
theorem dksX5_init_1 : cX5_init.data.toList.drop 22 = dktX5_init_1 := dk_seg dksX5_init_0 22 rfl rfl
theorem dX5_init_0 : decode cX5_init 0 = .ok (.aload_n 0, 1) := dk_42 (dk_at dksX5_init_0 0 rfl rfl)
theorem dX5_init_1 : decode cX5_init 1 = .ok (.invokespecial 3, 3) := dk_183 0 3 (dk_at dksX5_init_0 1 rfl rfl)
theorem dX5_init_4 : decode cX5_init 4 = .ok (.aload_n 0, 1) := dk_42 (dk_at dksX5_init_0 4 rfl rfl)
theorem dX5_init_5 : decode cX5_init 5 = .ok (.iload_n 1, 1) := dk_27 (dk_at dksX5_init_0 5 rfl rfl)
theorem dX5_init_6 : decode cX5_init 6 = .ok (.putfield 9, 3) := dk_181 0 9 (dk_at dksX5_init_0 6 rfl rfl)
theorem dX5_init_9 : decode cX5_init 9 = .ok (.aload_n 0, 1) := dk_42 (dk_at dksX5_init_0 9 rfl rfl)
theorem dX5_init_10 : decode cX5_init 10 = .ok (.iload_n 2, 1) := dk_28 (dk_at dksX5_init_0 10 rfl rfl)
theorem dX5_init_11 : decode cX5_init 11 = .ok (.putfield 15, 3) := dk_181 0 15 (dk_at dksX5_init_0 11 rfl rfl)
theorem dX5_init_14 : decode cX5_init 14 = .ok (.aload_n 0, 1) := dk_42 (dk_at dksX5_init_0 14 rfl rfl)
theorem dX5_init_15 : decode cX5_init 15 = .ok (.iload_n 3, 1) := dk_29 (dk_at dksX5_init_0 15 rfl rfl)
theorem dX5_init_16 : decode cX5_init 16 = .ok (.putfield 18, 3) := dk_181 0 18 (dk_at dksX5_init_0 16 rfl rfl)
theorem dX5_init_19 : decode cX5_init 19 = .ok (.aload_n 0, 1) := dk_42 (dk_at dksX5_init_0 19 rfl rfl)
theorem dX5_init_20 : decode cX5_init 20 = .ok (.iload 4, 2) := dk_21 4 (dk_at dksX5_init_0 20 rfl rfl)
theorem dX5_init_22 : decode cX5_init 22 = .ok (.putfield 21, 3) := dk_181 0 21 (dk_at dksX5_init_1 0 rfl rfl)
theorem dX5_init_25 : decode cX5_init 25 = .ok (.aload_n 0, 1) := dk_42 (dk_at dksX5_init_1 3 rfl rfl)
theorem dX5_init_26 : decode cX5_init 26 = .ok (.iload 5, 2) := dk_21 5 (dk_at dksX5_init_1 4 rfl rfl)
theorem dX5_init_28 : decode cX5_init 28 = .ok (.putfield 24, 3) := dk_181 0 24 (dk_at dksX5_init_1 6 rfl rfl)
theorem dX5_init_31 : decode cX5_init 31 = .ok (.aload_n 0, 1) := dk_42 (dk_at dksX5_init_1 9 rfl rfl)
theorem dX5_init_32 : decode cX5_init 32 = .ok (.iload 6, 2) := dk_21 6 (dk_at dksX5_init_1 10 rfl rfl)
theorem dX5_init_34 : decode cX5_init 34 = .ok (.putfield 27, 3) := dk_181 0 27 (dk_at dksX5_init_1 12 rfl rfl)
theorem dX5_init_37 : decode cX5_init 37 = .ok (.aload_n 0, 1) := dk_42 (dk_at dksX5_init_1 15 rfl rfl)
theorem dX5_init_38 : decode cX5_init 38 = .ok (.iload 7, 2) := dk_21 7 (dk_at dksX5_init_1 16 rfl rfl)
theorem dX5_init_40 : decode cX5_init 40 = .ok (.putfield 30, 3) := dk_181 0 30 (dk_at dksX5_init_1 18 rfl rfl)
theorem dX5_init_43 : decode cX5_init 43 = .ok (.return_, 1) := dk_177 (dk_at dksX5_init_1 21 rfl rfl)
abbrev cX5_copy : ByteArray := prog_3_method_2_code
def yX5_copy : MethodName := ⟨RX5, "copy", "()LTulipLines$Bulb;"⟩
def dkwX5_copy_1 : List UInt8 := [42, 180, 0, 27, 42, 180, 0, 30, 183, 0, 34, 76, 43, 42, 180, 0, 37, 181, 0, 37, 43, 176]
abbrev dktX5_copy_1 : List UInt8 := dkwX5_copy_1 ++ []
def dkwX5_copy_0 : List UInt8 := [187, 0, 10, 89, 42, 180, 0, 9, 42, 180, 0, 15, 42, 180, 0, 18, 42, 180, 0, 21, 42, 180, 0, 24]
abbrev dktX5_copy_0 : List UInt8 := dkwX5_copy_0 ++ dktX5_copy_1
theorem dksX5_copy_0 : cX5_copy.data.toList.drop 0 = dktX5_copy_0 := by decide +kernel
theorem dksX5_copy_1 : cX5_copy.data.toList.drop 24 = dktX5_copy_1 := dk_seg dksX5_copy_0 24 rfl rfl
theorem dX5_copy_0 : decode cX5_copy 0 = .ok (.new 10, 3) := dk_187 0 10 (dk_at dksX5_copy_0 0 rfl rfl)
theorem dX5_copy_3 : decode cX5_copy 3 = .ok (.dup, 1) := dk_89 (dk_at dksX5_copy_0 3 rfl rfl)
theorem dX5_copy_4 : decode cX5_copy 4 = .ok (.aload_n 0, 1) := dk_42 (dk_at dksX5_copy_0 4 rfl rfl)
theorem dX5_copy_5 : decode cX5_copy 5 = .ok (.getfield 9, 3) := dk_180 0 9 (dk_at dksX5_copy_0 5 rfl rfl)
theorem dX5_copy_8 : decode cX5_copy 8 = .ok (.aload_n 0, 1) := dk_42 (dk_at dksX5_copy_0 8 rfl rfl)
theorem dX5_copy_9 : decode cX5_copy 9 = .ok (.getfield 15, 3) := dk_180 0 15 (dk_at dksX5_copy_0 9 rfl rfl)
theorem dX5_copy_12 : decode cX5_copy 12 = .ok (.aload_n 0, 1) := dk_42 (dk_at dksX5_copy_0 12 rfl rfl)
theorem dX5_copy_13 : decode cX5_copy 13 = .ok (.getfield 18, 3) := dk_180 0 18 (dk_at dksX5_copy_0 13 rfl rfl)
theorem dX5_copy_16 : decode cX5_copy 16 = .ok (.aload_n 0, 1) := dk_42 (dk_at dksX5_copy_0 16 rfl rfl)
theorem dX5_copy_17 : decode cX5_copy 17 = .ok (.getfield 21, 3) := dk_180 0 21 (dk_at dksX5_copy_0 17 rfl rfl)
theorem dX5_copy_20 : decode cX5_copy 20 = .ok (.aload_n 0, 1) := dk_42 (dk_at dksX5_copy_0 20 rfl rfl)
theorem dX5_copy_21 : decode cX5_copy 21 = .ok (.getfield 24, 3) := dk_180 0 24 (dk_at dksX5_copy_0 21 rfl rfl)
theorem dX5_copy_24 : decode cX5_copy 24 = .ok (.aload_n 0, 1) := dk_42 (dk_at dksX5_copy_1 0 rfl rfl)
theorem dX5_copy_25 : decode cX5_copy 25 = .ok (.getfield 27, 3) := dk_180 0 27 (dk_at dksX5_copy_1 1 rfl rfl)
theorem dX5_copy_28 : decode cX5_copy 28 = .ok (.aload_n 0, 1) := dk_42 (dk_at dksX5_copy_1 4 rfl rfl)
theorem dX5_copy_29 : decode cX5_copy 29 = .ok (.getfield 30, 3) := dk_180 0 30 (dk_at dksX5_copy_1 5 rfl rfl)
theorem dX5_copy_32 : decode cX5_copy 32 = .ok (.invokespecial 34, 3) := dk_183 0 34 (dk_at dksX5_copy_1 8 rfl rfl)
theorem dX5_copy_35 : decode cX5_copy 35 = .ok (.astore_n 1, 1) := dk_76 (dk_at dksX5_copy_1 11 rfl rfl)
theorem dX5_copy_36 : decode cX5_copy 36 = .ok (.aload_n 1, 1) := dk_43 (dk_at dksX5_copy_1 12 rfl rfl)
theorem dX5_copy_37 : decode cX5_copy 37 = .ok (.aload_n 0, 1) := dk_42 (dk_at dksX5_copy_1 13 rfl rfl)
theorem dX5_copy_38 : decode cX5_copy 38 = .ok (.getfield 37, 3) := dk_180 0 37 (dk_at dksX5_copy_1 14 rfl rfl)
theorem dX5_copy_41 : decode cX5_copy 41 = .ok (.putfield 37, 3) := dk_181 0 37 (dk_at dksX5_copy_1 17 rfl rfl)
theorem dX5_copy_44 : decode cX5_copy 44 = .ok (.aload_n 1, 1) := dk_43 (dk_at dksX5_copy_1 20 rfl rfl)
theorem dX5_copy_45 : decode cX5_copy 45 = .ok (.areturn, 1) := dk_176 (dk_at dksX5_copy_1 21 rfl rfl)
abbrev cX5_isBred : ByteArray := prog_3_method_3_code
def yX5_isBred : MethodName := ⟨RX5, "isBred", "()Z"⟩
def dkwX5_isBred_0 : List UInt8 := [42, 180, 0, 18, 16, 252, 159, 0, 7, 4, 167, 0, 4, 3, 172]
abbrev dktX5_isBred_0 : List UInt8 := dkwX5_isBred_0 ++ []
theorem dksX5_isBred_0 : cX5_isBred.data.toList.drop 0 = dktX5_isBred_0 := by decide +kernel
theorem dX5_isBred_0 : decode cX5_isBred 0 = .ok (.aload_n 0, 1) := dk_42 (dk_at dksX5_isBred_0 0 rfl rfl)
theorem dX5_isBred_1 : decode cX5_isBred 1 = .ok (.getfield 18, 3) := dk_180 0 18 (dk_at dksX5_isBred_0 1 rfl rfl)
theorem dX5_isBred_4 : decode cX5_isBred 4 = .ok (.bipush (-4), 2) := dk_16 252 (dk_at dksX5_isBred_0 4 rfl rfl)
theorem dX5_isBred_6 : decode cX5_isBred 6 = .ok (.if_icmp .eq 7, 3) := dk_159 0 7 (dk_at dksX5_isBred_0 6 rfl rfl)
theorem dX5_isBred_9 : decode cX5_isBred 9 = .ok (.iconst 1, 1) := dk_4 (dk_at dksX5_isBred_0 9 rfl rfl)
theorem dX5_isBred_10 : decode cX5_isBred 10 = .ok (.goto 4, 3) := dk_167 0 4 (dk_at dksX5_isBred_0 10 rfl rfl)
theorem dX5_isBred_13 : decode cX5_isBred 13 = .ok (.iconst 0, 1) := dk_3 (dk_at dksX5_isBred_0 13 rfl rfl)
theorem dX5_isBred_14 : decode cX5_isBred 14 = .ok (.ireturn, 1) := dk_172 (dk_at dksX5_isBred_0 14 rfl rfl)
theorem q85 : (Jvm.Cond.initialized "TulipLines$Bulb") ∈ lw_all := lw_g (lw_at lw_m1 17 rfl) rfl
theorem q419 : (Jvm.Cond.instantiable "TulipLines$Bulb" (8 : Nat)) ∈ lw_all := lw_g (lw_at lw_m2 111 rfl) rfl
theorem q421 : (Jvm.Cond.instanceMethod ({ cls := "TulipLines$Bulb", name := "<init>", desc := "(IIIIIIZ)V" } : Jvm.MethodName)) ∈ lw_all := lw_g (lw_at lw_m2 113 rfl) rfl
theorem q422 : (Jvm.Cond.code ({ cls := "TulipLines$Bulb", name := "<init>", desc := "(IIIIIIZ)V" } : Jvm.MethodName) prog_3_method_1_code (8 : Nat) (Option.none : Option Jvm.ClassFile.FieldType)) ∈ lw_all := lw_g (lw_at lw_m2 114 rfl) rfl
theorem q423 : (Jvm.Cond.methodLink "TulipLines$Bulb" (3 : Nat) ({ cls := "java/lang/Object", name := "<init>", desc := "()V" } : Jvm.MethodName)) ∈ lw_all := lw_g (lw_at lw_m2 115 rfl) rfl
theorem q424 : (Jvm.Cond.fieldLink "TulipLines$Bulb" (9 : Nat) "TulipLines$Bulb" "number" "I") ∈ lw_all := lw_g (lw_at lw_m2 116 rfl) rfl
theorem q427 : (Jvm.Cond.fieldLink "TulipLines$Bulb" (15 : Nat) "TulipLines$Bulb" "pattern" "I") ∈ lw_all := lw_g (lw_at lw_m2 119 rfl) rfl
theorem q431 : (Jvm.Cond.fieldLink "TulipLines$Bulb" (18 : Nat) "TulipLines$Bulb" "mother" "I") ∈ lw_all := lw_g (lw_at lw_m2 123 rfl) rfl
theorem q434 : (Jvm.Cond.fieldLink "TulipLines$Bulb" (21 : Nat) "TulipLines$Bulb" "father" "I") ∈ lw_all := lw_g (lw_at lw_m2 126 rfl) rfl
theorem q437 : (Jvm.Cond.fieldLink "TulipLines$Bulb" (24 : Nat) "TulipLines$Bulb" "year" "I") ∈ lw_all := lw_g (lw_at lw_m2 129 rfl) rfl
theorem q439 : (Jvm.Cond.fieldLink "TulipLines$Bulb" (27 : Nat) "TulipLines$Bulb" "generation" "I") ∈ lw_all := lw_g (lw_at lw_m2 131 rfl) rfl
theorem q442 : (Jvm.Cond.fieldLink "TulipLines$Bulb" (30 : Nat) "TulipLines$Bulb" "isSport" "Z") ∈ lw_all := lw_g (lw_at lw_m2 134 rfl) rfl
theorem q444 : (Jvm.Cond.fieldLink "TulipLines$Bulb" (37 : Nat) "TulipLines$Bulb" "hasDied" "Z") ∈ lw_all := lw_g (lw_at lw_m2 136 rfl) rfl
theorem q447 : (Jvm.Cond.laysFinal "TulipLines$Bulb" "TulipLines$Bulb" "number" "I") ∈ lw_all := lw_g (lw_at lw_m2 139 rfl) rfl
theorem q448 : (Jvm.Cond.soleField "TulipLines$Bulb" "number") ∈ lw_all := lw_g (lw_at lw_m2 140 rfl) rfl
theorem q449 : (Jvm.Cond.laysFinal "TulipLines$Bulb" "TulipLines$Bulb" "pattern" "I") ∈ lw_all := lw_g (lw_at lw_m2 141 rfl) rfl
theorem q450 : (Jvm.Cond.soleField "TulipLines$Bulb" "pattern") ∈ lw_all := lw_g (lw_at lw_m2 142 rfl) rfl
theorem q451 : (Jvm.Cond.laysFinal "TulipLines$Bulb" "TulipLines$Bulb" "mother" "I") ∈ lw_all := lw_g (lw_at lw_m2 143 rfl) rfl
theorem q452 : (Jvm.Cond.soleField "TulipLines$Bulb" "mother") ∈ lw_all := lw_g (lw_at lw_m2 144 rfl) rfl
theorem q453 : (Jvm.Cond.laysFinal "TulipLines$Bulb" "TulipLines$Bulb" "father" "I") ∈ lw_all := lw_g (lw_at lw_m2 145 rfl) rfl
theorem q454 : (Jvm.Cond.soleField "TulipLines$Bulb" "father") ∈ lw_all := lw_g (lw_at lw_m2 146 rfl) rfl
theorem q455 : (Jvm.Cond.laysFinal "TulipLines$Bulb" "TulipLines$Bulb" "year" "I") ∈ lw_all := lw_g (lw_at lw_m2 147 rfl) rfl
theorem q456 : (Jvm.Cond.soleField "TulipLines$Bulb" "year") ∈ lw_all := lw_g (lw_at lw_m2 148 rfl) rfl
theorem q457 : (Jvm.Cond.laysFinal "TulipLines$Bulb" "TulipLines$Bulb" "generation" "I") ∈ lw_all := lw_g (lw_at lw_m2 149 rfl) rfl
theorem q458 : (Jvm.Cond.soleField "TulipLines$Bulb" "generation") ∈ lw_all := lw_g (lw_at lw_m2 150 rfl) rfl
theorem q459 : (Jvm.Cond.laysFinal "TulipLines$Bulb" "TulipLines$Bulb" "isSport" "Z") ∈ lw_all := lw_g (lw_at lw_m2 151 rfl) rfl
theorem q460 : (Jvm.Cond.soleField "TulipLines$Bulb" "isSport") ∈ lw_all := lw_g (lw_at lw_m2 152 rfl) rfl
theorem q461 : (Jvm.Cond.lays "TulipLines$Bulb" "TulipLines$Bulb" "hasDied" "Z") ∈ lw_all := lw_g (lw_at lw_m2 153 rfl) rfl
theorem q462 : (Jvm.Cond.soleField "TulipLines$Bulb" "hasDied") ∈ lw_all := lw_g (lw_at lw_m2 154 rfl) rfl
theorem q463 : (Jvm.Cond.superclass "TulipLines$Bulb" "java/lang/Object") ∈ lw_all := lw_g (lw_at lw_m2 155 rfl) rfl
theorem q502 : (Jvm.Cond.selects "TulipLines$Bulb" ({ cls := "java/lang/Object", name := "getClass", desc := "()Ljava/lang/Class;" } : Jvm.MethodName) ({ cls := "java/lang/Object", name := "getClass", desc := "()Ljava/lang/Class;" } : Jvm.MethodName)) ∈ lw_all := lw_g (lw_at lw_m2 194 rfl) rfl
theorem q538 : (Jvm.Cond.instanceMethod ({ cls := "TulipLines$Bulb", name := "copy", desc := "()LTulipLines$Bulb;" } : Jvm.MethodName)) ∈ lw_all := lw_g (lw_at lw_m2 230 rfl) rfl
theorem q539 : (Jvm.Cond.selects "TulipLines$Bulb" ({ cls := "TulipLines$Bulb", name := "copy", desc := "()LTulipLines$Bulb;" } : Jvm.MethodName) ({ cls := "TulipLines$Bulb", name := "copy", desc := "()LTulipLines$Bulb;" } : Jvm.MethodName)) ∈ lw_all := lw_g (lw_at lw_m2 231 rfl) rfl
theorem q540 : (Jvm.Cond.code ({ cls := "TulipLines$Bulb", name := "copy", desc := "()LTulipLines$Bulb;" } : Jvm.MethodName) prog_3_method_2_code (2 : Nat) (Option.some (Jvm.ClassFile.FieldType.object "TulipLines$Bulb"))) ∈ lw_all := lw_g (lw_at lw_m2 232 rfl) rfl
theorem q541 : (Jvm.Cond.classLink "TulipLines$Bulb" (10 : Nat) "TulipLines$Bulb") ∈ lw_all := lw_g (lw_at lw_m2 233 rfl) rfl
theorem q542 : (Jvm.Cond.methodLink "TulipLines$Bulb" (34 : Nat) ({ cls := "TulipLines$Bulb", name := "<init>", desc := "(IIIIIIZ)V" } : Jvm.MethodName)) ∈ lw_all := lw_g (lw_at lw_m2 234 rfl) rfl
theorem q842 : (Jvm.Cond.instanceMethod ({ cls := "TulipLines$Bulb", name := "isBred", desc := "()Z" } : Jvm.MethodName)) ∈ lw_all := lw_g (lw_at lw_m4 54 rfl) rfl
theorem q843 : (Jvm.Cond.selects "TulipLines$Bulb" ({ cls := "TulipLines$Bulb", name := "isBred", desc := "()Z" } : Jvm.MethodName) ({ cls := "TulipLines$Bulb", name := "isBred", desc := "()Z" } : Jvm.MethodName)) ∈ lw_all := lw_g (lw_at lw_m4 55 rfl) rfl
theorem q844 : (Jvm.Cond.code ({ cls := "TulipLines$Bulb", name := "isBred", desc := "()Z" } : Jvm.MethodName) prog_3_method_3_code (1 : Nat) (Option.some Jvm.ClassFile.FieldType.boolean)) ∈ lw_all := lw_g (lw_at lw_m4 56 rfl) rfl
theorem q1825 : (Jvm.Cond.castable "TulipLines$Bulb" "java/lang/Object") ∈ lw_tbl := lw_at lw_m8 77 rfl
theorem in_X5 : ∀ w ∈ wsX50, w ∈ lw_all := lw_in wsX50 [447, 449, 451, 453, 455, 457, 459, 461] (by decide +kernel) (by decide +kernel)
/-! TulipLines$Crossing -/
set_option maxRecDepth 100000
def RX6 : String := "TulipLines$Crossing"
def TX6 : u_T := fun k => match k with
  | 0 => ("TulipLines$Crossing", "mother", "LTulipLines$Bulb;", true)
  | 1 => ("TulipLines$Crossing", "father", "LTulipLines$Bulb;", true)
  | _ => ("TulipLines$Crossing", "point", "I", true)
def tyX6 : Nat → FieldType := fun k => match k with
  | 0 => .object "TulipLines$Bulb"
  | 1 => .object "TulipLines$Bulb"
  | _ => .int
abbrev wsX60 : List Cond := u_ws RX6 TX6 3
theorem nmX6 : ∀ a, a < 3 → ∀ b, b < 3 → a ≠ b → (TX6 a).2.1 ≠ (TX6 b).2.1 := by decide +kernel
theorem tyX6_ok : ∀ k, k < 3 → parseFieldDescriptor (TX6 k).2.2.1 = some (tyX6 k) := by decide +kernel
abbrev cX6_init : ByteArray := prog_5_method_1_code
def yX6_init : MethodName := ⟨RX6, "<init>", "(LTulipLines$Bulb;LTulipLines$Bulb;I)V"⟩
def dkwX6_init_0 : List UInt8 := [42, 183, 0, 1, 42, 43, 181, 0, 7, 42, 44, 181, 0, 13, 42, 29, 181, 0, 16, 177]
abbrev dktX6_init_0 : List UInt8 := dkwX6_init_0 ++ []
theorem dksX6_init_0 : cX6_init.data.toList.drop 0 = dktX6_init_0 := by decide +kernel
theorem dX6_init_0 : decode cX6_init 0 = .ok (.aload_n 0, 1) := dk_42 (dk_at dksX6_init_0 0 rfl rfl)
theorem dX6_init_1 : decode cX6_init 1 = .ok (.invokespecial 1, 3) := dk_183 0 1 (dk_at dksX6_init_0 1 rfl rfl)
theorem dX6_init_4 : decode cX6_init 4 = .ok (.aload_n 0, 1) := dk_42 (dk_at dksX6_init_0 4 rfl rfl)
theorem dX6_init_5 : decode cX6_init 5 = .ok (.aload_n 1, 1) := dk_43 (dk_at dksX6_init_0 5 rfl rfl)
theorem dX6_init_6 : decode cX6_init 6 = .ok (.putfield 7, 3) := dk_181 0 7 (dk_at dksX6_init_0 6 rfl rfl)
theorem dX6_init_9 : decode cX6_init 9 = .ok (.aload_n 0, 1) := dk_42 (dk_at dksX6_init_0 9 rfl rfl)
theorem dX6_init_10 : decode cX6_init 10 = .ok (.aload_n 2, 1) := dk_44 (dk_at dksX6_init_0 10 rfl rfl)
theorem dX6_init_11 : decode cX6_init 11 = .ok (.putfield 13, 3) := dk_181 0 13 (dk_at dksX6_init_0 11 rfl rfl)
theorem dX6_init_14 : decode cX6_init 14 = .ok (.aload_n 0, 1) := dk_42 (dk_at dksX6_init_0 14 rfl rfl)
theorem dX6_init_15 : decode cX6_init 15 = .ok (.iload_n 3, 1) := dk_29 (dk_at dksX6_init_0 15 rfl rfl)
theorem dX6_init_16 : decode cX6_init 16 = .ok (.putfield 16, 3) := dk_181 0 16 (dk_at dksX6_init_0 16 rfl rfl)
theorem dX6_init_19 : decode cX6_init 19 = .ok (.return_, 1) := dk_177 (dk_at dksX6_init_0 19 rfl rfl)
abbrev cX6_pattern : ByteArray := prog_5_method_2_code
def yX6_pattern : MethodName := ⟨RX6, "pattern", "()I"⟩
def dkwX6_pattern_1 : List UInt8 := [180, 0, 20, 27, 2, 130, 126, 128, 172]
abbrev dktX6_pattern_1 : List UInt8 := dkwX6_pattern_1 ++ []
def dkwX6_pattern_0 : List UInt8 := [4, 42, 180, 0, 16, 120, 4, 100, 60, 42, 180, 0, 7, 180, 0, 20, 27, 126, 42, 180, 0, 13]
abbrev dktX6_pattern_0 : List UInt8 := dkwX6_pattern_0 ++ dktX6_pattern_1
theorem dksX6_pattern_0 : cX6_pattern.data.toList.drop 0 = dktX6_pattern_0 := by decide +kernel
theorem dksX6_pattern_1 : cX6_pattern.data.toList.drop 22 = dktX6_pattern_1 := dk_seg dksX6_pattern_0 22 rfl rfl
theorem dX6_pattern_0 : decode cX6_pattern 0 = .ok (.iconst 1, 1) := dk_4 (dk_at dksX6_pattern_0 0 rfl rfl)
theorem dX6_pattern_1 : decode cX6_pattern 1 = .ok (.aload_n 0, 1) := dk_42 (dk_at dksX6_pattern_0 1 rfl rfl)
theorem dX6_pattern_2 : decode cX6_pattern 2 = .ok (.getfield 16, 3) := dk_180 0 16 (dk_at dksX6_pattern_0 2 rfl rfl)
theorem dX6_pattern_5 : decode cX6_pattern 5 = .ok (.ishl, 1) := dk_120 (dk_at dksX6_pattern_0 5 rfl rfl)
theorem dX6_pattern_6 : decode cX6_pattern 6 = .ok (.iconst 1, 1) := dk_4 (dk_at dksX6_pattern_0 6 rfl rfl)
theorem dX6_pattern_7 : decode cX6_pattern 7 = .ok (.isub, 1) := dk_100 (dk_at dksX6_pattern_0 7 rfl rfl)
theorem dX6_pattern_8 : decode cX6_pattern 8 = .ok (.istore_n 1, 1) := dk_60 (dk_at dksX6_pattern_0 8 rfl rfl)
theorem dX6_pattern_9 : decode cX6_pattern 9 = .ok (.aload_n 0, 1) := dk_42 (dk_at dksX6_pattern_0 9 rfl rfl)
theorem dX6_pattern_10 : decode cX6_pattern 10 = .ok (.getfield 7, 3) := dk_180 0 7 (dk_at dksX6_pattern_0 10 rfl rfl)
theorem dX6_pattern_13 : decode cX6_pattern 13 = .ok (.getfield 20, 3) := dk_180 0 20 (dk_at dksX6_pattern_0 13 rfl rfl)
theorem dX6_pattern_16 : decode cX6_pattern 16 = .ok (.iload_n 1, 1) := dk_27 (dk_at dksX6_pattern_0 16 rfl rfl)
theorem dX6_pattern_17 : decode cX6_pattern 17 = .ok (.iand, 1) := dk_126 (dk_at dksX6_pattern_0 17 rfl rfl)
theorem dX6_pattern_18 : decode cX6_pattern 18 = .ok (.aload_n 0, 1) := dk_42 (dk_at dksX6_pattern_0 18 rfl rfl)
theorem dX6_pattern_19 : decode cX6_pattern 19 = .ok (.getfield 13, 3) := dk_180 0 13 (dk_at dksX6_pattern_0 19 rfl rfl)
theorem dX6_pattern_22 : decode cX6_pattern 22 = .ok (.getfield 20, 3) := dk_180 0 20 (dk_at dksX6_pattern_1 0 rfl rfl)
theorem dX6_pattern_25 : decode cX6_pattern 25 = .ok (.iload_n 1, 1) := dk_27 (dk_at dksX6_pattern_1 3 rfl rfl)
theorem dX6_pattern_26 : decode cX6_pattern 26 = .ok (.iconst (-1), 1) := dk_2 (dk_at dksX6_pattern_1 4 rfl rfl)
theorem dX6_pattern_27 : decode cX6_pattern 27 = .ok (.ixor, 1) := dk_130 (dk_at dksX6_pattern_1 5 rfl rfl)
theorem dX6_pattern_28 : decode cX6_pattern 28 = .ok (.iand, 1) := dk_126 (dk_at dksX6_pattern_1 6 rfl rfl)
theorem dX6_pattern_29 : decode cX6_pattern 29 = .ok (.ior, 1) := dk_128 (dk_at dksX6_pattern_1 7 rfl rfl)
theorem dX6_pattern_30 : decode cX6_pattern 30 = .ok (.ireturn, 1) := dk_172 (dk_at dksX6_pattern_1 8 rfl rfl)
theorem q92 : (Jvm.Cond.initialized "TulipLines$Crossing") ∈ lw_all := lw_g (lw_at lw_m1 24 rfl) rfl
theorem q428 : (Jvm.Cond.fieldLink "TulipLines$Crossing" (20 : Nat) "TulipLines$Bulb" "pattern" "I") ∈ lw_all := lw_g (lw_at lw_m2 120 rfl) rfl
theorem q503 : (Jvm.Cond.selects "TulipLines$Crossing" ({ cls := "java/lang/Object", name := "getClass", desc := "()Ljava/lang/Class;" } : Jvm.MethodName) ({ cls := "java/lang/Object", name := "getClass", desc := "()Ljava/lang/Class;" } : Jvm.MethodName)) ∈ lw_all := lw_g (lw_at lw_m2 195 rfl) rfl
theorem q631 : (Jvm.Cond.instantiable "TulipLines$Crossing" (3 : Nat)) ∈ lw_all := lw_g (lw_at lw_m3 83 rfl) rfl
theorem q633 : (Jvm.Cond.instanceMethod ({ cls := "TulipLines$Crossing", name := "<init>", desc := "(LTulipLines$Bulb;LTulipLines$Bulb;I)V" } : Jvm.MethodName)) ∈ lw_all := lw_g (lw_at lw_m3 85 rfl) rfl
theorem q634 : (Jvm.Cond.code ({ cls := "TulipLines$Crossing", name := "<init>", desc := "(LTulipLines$Bulb;LTulipLines$Bulb;I)V" } : Jvm.MethodName) prog_5_method_1_code (4 : Nat) (Option.none : Option Jvm.ClassFile.FieldType)) ∈ lw_all := lw_g (lw_at lw_m3 86 rfl) rfl
theorem q635 : (Jvm.Cond.methodLink "TulipLines$Crossing" (1 : Nat) ({ cls := "java/lang/Object", name := "<init>", desc := "()V" } : Jvm.MethodName)) ∈ lw_all := lw_g (lw_at lw_m3 87 rfl) rfl
theorem q636 : (Jvm.Cond.fieldLink "TulipLines$Crossing" (7 : Nat) "TulipLines$Crossing" "mother" "LTulipLines$Bulb;") ∈ lw_all := lw_g (lw_at lw_m3 88 rfl) rfl
theorem q639 : (Jvm.Cond.fieldLink "TulipLines$Crossing" (13 : Nat) "TulipLines$Crossing" "father" "LTulipLines$Bulb;") ∈ lw_all := lw_g (lw_at lw_m3 91 rfl) rfl
theorem q642 : (Jvm.Cond.fieldLink "TulipLines$Crossing" (16 : Nat) "TulipLines$Crossing" "point" "I") ∈ lw_all := lw_g (lw_at lw_m3 94 rfl) rfl
theorem q644 : (Jvm.Cond.laysFinal "TulipLines$Crossing" "TulipLines$Crossing" "mother" "LTulipLines$Bulb;") ∈ lw_all := lw_g (lw_at lw_m3 96 rfl) rfl
theorem q645 : (Jvm.Cond.soleField "TulipLines$Crossing" "mother") ∈ lw_all := lw_g (lw_at lw_m3 97 rfl) rfl
theorem q646 : (Jvm.Cond.laysFinal "TulipLines$Crossing" "TulipLines$Crossing" "father" "LTulipLines$Bulb;") ∈ lw_all := lw_g (lw_at lw_m3 98 rfl) rfl
theorem q647 : (Jvm.Cond.soleField "TulipLines$Crossing" "father") ∈ lw_all := lw_g (lw_at lw_m3 99 rfl) rfl
theorem q648 : (Jvm.Cond.laysFinal "TulipLines$Crossing" "TulipLines$Crossing" "point" "I") ∈ lw_all := lw_g (lw_at lw_m3 100 rfl) rfl
theorem q649 : (Jvm.Cond.soleField "TulipLines$Crossing" "point") ∈ lw_all := lw_g (lw_at lw_m3 101 rfl) rfl
theorem q650 : (Jvm.Cond.superclass "TulipLines$Crossing" "java/lang/Object") ∈ lw_all := lw_g (lw_at lw_m3 102 rfl) rfl
theorem q663 : (Jvm.Cond.instanceMethod ({ cls := "TulipLines$Crossing", name := "pattern", desc := "()I" } : Jvm.MethodName)) ∈ lw_all := lw_g (lw_at lw_m3 115 rfl) rfl
theorem q664 : (Jvm.Cond.selects "TulipLines$Crossing" ({ cls := "TulipLines$Crossing", name := "pattern", desc := "()I" } : Jvm.MethodName) ({ cls := "TulipLines$Crossing", name := "pattern", desc := "()I" } : Jvm.MethodName)) ∈ lw_all := lw_g (lw_at lw_m3 116 rfl) rfl
theorem q665 : (Jvm.Cond.code ({ cls := "TulipLines$Crossing", name := "pattern", desc := "()I" } : Jvm.MethodName) prog_5_method_2_code (2 : Nat) (Option.some Jvm.ClassFile.FieldType.int)) ∈ lw_all := lw_g (lw_at lw_m3 117 rfl) rfl
theorem q1826 : (Jvm.Cond.castable "TulipLines$Crossing" "java/lang/Object") ∈ lw_tbl := lw_at lw_m8 78 rfl
theorem in_X6 : ∀ w ∈ wsX60, w ∈ lw_all := lw_in wsX60 [644, 646, 648] (by decide +kernel) (by decide +kernel)
/-! TulipLines$Once -/
set_option maxRecDepth 100000
def RX7 : String := "TulipLines$Once"
def TX7 : u_T := fun k => match k with
  | _ => ("TulipLines$Once", "all", "Ljava/util/ArrayList;", true)
def tyX7 : Nat → FieldType := fun k => match k with
  | _ => .object "java/util/ArrayList"
abbrev wsX70 : List Cond := u_ws RX7 TX7 1
theorem nmX7 : ∀ a, a < 1 → ∀ b, b < 1 → a ≠ b → (TX7 a).2.1 ≠ (TX7 b).2.1 := by decide +kernel
theorem tyX7_ok : ∀ k, k < 1 → parseFieldDescriptor (TX7 k).2.2.1 = some (tyX7 k) := by decide +kernel
abbrev cX7_init : ByteArray := prog_8_method_1_code
def yX7_init : MethodName := ⟨RX7, "<init>", "()V"⟩
def dkwX7_init_0 : List UInt8 := [42, 183, 0, 1, 42, 187, 0, 7, 89, 183, 0, 9, 181, 0, 10, 177]
abbrev dktX7_init_0 : List UInt8 := dkwX7_init_0 ++ []
theorem dksX7_init_0 : cX7_init.data.toList.drop 0 = dktX7_init_0 := by decide +kernel
theorem dX7_init_0 : decode cX7_init 0 = .ok (.aload_n 0, 1) := dk_42 (dk_at dksX7_init_0 0 rfl rfl)
theorem dX7_init_1 : decode cX7_init 1 = .ok (.invokespecial 1, 3) := dk_183 0 1 (dk_at dksX7_init_0 1 rfl rfl)
theorem dX7_init_4 : decode cX7_init 4 = .ok (.aload_n 0, 1) := dk_42 (dk_at dksX7_init_0 4 rfl rfl)
theorem dX7_init_5 : decode cX7_init 5 = .ok (.new 7, 3) := dk_187 0 7 (dk_at dksX7_init_0 5 rfl rfl)
theorem dX7_init_8 : decode cX7_init 8 = .ok (.dup, 1) := dk_89 (dk_at dksX7_init_0 8 rfl rfl)
theorem dX7_init_9 : decode cX7_init 9 = .ok (.invokespecial 9, 3) := dk_183 0 9 (dk_at dksX7_init_0 9 rfl rfl)
theorem dX7_init_12 : decode cX7_init 12 = .ok (.putfield 10, 3) := dk_181 0 10 (dk_at dksX7_init_0 12 rfl rfl)
theorem dX7_init_15 : decode cX7_init 15 = .ok (.return_, 1) := dk_177 (dk_at dksX7_init_0 15 rfl rfl)
abbrev cX7_comes : ByteArray := prog_8_method_3_code
def yX7_comes : MethodName := ⟨RX7, "comes", "(LTulipLines$Bulb;)V"⟩
def dkwX7_comes_0 : List UInt8 := [43, 198, 0, 11, 42, 43, 182, 0, 24, 153, 0, 4, 177, 42, 180, 0, 10, 43, 182, 0, 28, 61, 177]
abbrev dktX7_comes_0 : List UInt8 := dkwX7_comes_0 ++ []
theorem dksX7_comes_0 : cX7_comes.data.toList.drop 0 = dktX7_comes_0 := by decide +kernel
theorem dX7_comes_0 : decode cX7_comes 0 = .ok (.aload_n 1, 1) := dk_43 (dk_at dksX7_comes_0 0 rfl rfl)
theorem dX7_comes_1 : decode cX7_comes 1 = .ok (.ifnull 11, 3) := dk_198 0 11 (dk_at dksX7_comes_0 1 rfl rfl)
theorem dX7_comes_4 : decode cX7_comes 4 = .ok (.aload_n 0, 1) := dk_42 (dk_at dksX7_comes_0 4 rfl rfl)
theorem dX7_comes_5 : decode cX7_comes 5 = .ok (.aload_n 1, 1) := dk_43 (dk_at dksX7_comes_0 5 rfl rfl)
theorem dX7_comes_6 : decode cX7_comes 6 = .ok (.invokevirtual 24, 3) := dk_182 0 24 (dk_at dksX7_comes_0 6 rfl rfl)
theorem dX7_comes_9 : decode cX7_comes 9 = .ok (.ifCond .eq 4, 3) := dk_153 0 4 (dk_at dksX7_comes_0 9 rfl rfl)
theorem dX7_comes_12 : decode cX7_comes 12 = .ok (.return_, 1) := dk_177 (dk_at dksX7_comes_0 12 rfl rfl)
theorem dX7_comes_13 : decode cX7_comes 13 = .ok (.aload_n 0, 1) := dk_42 (dk_at dksX7_comes_0 13 rfl rfl)
theorem dX7_comes_14 : decode cX7_comes 14 = .ok (.getfield 10, 3) := dk_180 0 10 (dk_at dksX7_comes_0 14 rfl rfl)
theorem dX7_comes_17 : decode cX7_comes 17 = .ok (.aload_n 1, 1) := dk_43 (dk_at dksX7_comes_0 17 rfl rfl)
theorem dX7_comes_18 : decode cX7_comes 18 = .ok (.invokevirtual 28, 3) := dk_182 0 28 (dk_at dksX7_comes_0 18 rfl rfl)
theorem dX7_comes_21 : decode cX7_comes 21 = .ok (.istore_n 2, 1) := dk_61 (dk_at dksX7_comes_0 21 rfl rfl)
theorem dX7_comes_22 : decode cX7_comes 22 = .ok (.return_, 1) := dk_177 (dk_at dksX7_comes_0 22 rfl rfl)
abbrev cX7_has : ByteArray := prog_8_method_2_code
def yX7_has : MethodName := ⟨RX7, "has", "(LTulipLines$Bulb;)Z"⟩
def dkwX7_has_1 : List UInt8 := [166, 0, 5, 4, 172, 132, 2, 1, 167, 255, 228, 3, 172]
abbrev dktX7_has_1 : List UInt8 := dkwX7_has_1 ++ []
def dkwX7_has_0 : List UInt8 := [3, 61, 28, 42, 180, 0, 10, 182, 0, 16, 162, 0, 23, 42, 180, 0, 10, 28, 182, 0, 20, 43]
abbrev dktX7_has_0 : List UInt8 := dkwX7_has_0 ++ dktX7_has_1
theorem dksX7_has_0 : cX7_has.data.toList.drop 0 = dktX7_has_0 := by decide +kernel
theorem dksX7_has_1 : cX7_has.data.toList.drop 22 = dktX7_has_1 := dk_seg dksX7_has_0 22 rfl rfl
theorem dX7_has_0 : decode cX7_has 0 = .ok (.iconst 0, 1) := dk_3 (dk_at dksX7_has_0 0 rfl rfl)
theorem dX7_has_1 : decode cX7_has 1 = .ok (.istore_n 2, 1) := dk_61 (dk_at dksX7_has_0 1 rfl rfl)
theorem dX7_has_2 : decode cX7_has 2 = .ok (.iload_n 2, 1) := dk_28 (dk_at dksX7_has_0 2 rfl rfl)
theorem dX7_has_3 : decode cX7_has 3 = .ok (.aload_n 0, 1) := dk_42 (dk_at dksX7_has_0 3 rfl rfl)
theorem dX7_has_4 : decode cX7_has 4 = .ok (.getfield 10, 3) := dk_180 0 10 (dk_at dksX7_has_0 4 rfl rfl)
theorem dX7_has_7 : decode cX7_has 7 = .ok (.invokevirtual 16, 3) := dk_182 0 16 (dk_at dksX7_has_0 7 rfl rfl)
theorem dX7_has_10 : decode cX7_has 10 = .ok (.if_icmp .ge 23, 3) := dk_162 0 23 (dk_at dksX7_has_0 10 rfl rfl)
theorem dX7_has_13 : decode cX7_has 13 = .ok (.aload_n 0, 1) := dk_42 (dk_at dksX7_has_0 13 rfl rfl)
theorem dX7_has_14 : decode cX7_has 14 = .ok (.getfield 10, 3) := dk_180 0 10 (dk_at dksX7_has_0 14 rfl rfl)
theorem dX7_has_17 : decode cX7_has 17 = .ok (.iload_n 2, 1) := dk_28 (dk_at dksX7_has_0 17 rfl rfl)
theorem dX7_has_18 : decode cX7_has 18 = .ok (.invokevirtual 20, 3) := dk_182 0 20 (dk_at dksX7_has_0 18 rfl rfl)
theorem dX7_has_21 : decode cX7_has 21 = .ok (.aload_n 1, 1) := dk_43 (dk_at dksX7_has_0 21 rfl rfl)
theorem dX7_has_22 : decode cX7_has 22 = .ok (.if_acmp .ne 5, 3) := dk_166 0 5 (dk_at dksX7_has_1 0 rfl rfl)
theorem dX7_has_25 : decode cX7_has 25 = .ok (.iconst 1, 1) := dk_4 (dk_at dksX7_has_1 3 rfl rfl)
theorem dX7_has_26 : decode cX7_has 26 = .ok (.ireturn, 1) := dk_172 (dk_at dksX7_has_1 4 rfl rfl)
theorem dX7_has_27 : decode cX7_has 27 = .ok (.iinc 2 1, 3) := dk_132 2 1 (dk_at dksX7_has_1 5 rfl rfl)
theorem dX7_has_30 : decode cX7_has 30 = .ok (.goto (-28), 3) := dk_167 255 228 (dk_at dksX7_has_1 8 rfl rfl)
theorem dX7_has_33 : decode cX7_has 33 = .ok (.iconst 0, 1) := dk_3 (dk_at dksX7_has_1 11 rfl rfl)
theorem dX7_has_34 : decode cX7_has 34 = .ok (.ireturn, 1) := dk_172 (dk_at dksX7_has_1 12 rfl rfl)
abbrev cX7_size : ByteArray := prog_8_method_4_code
def yX7_size : MethodName := ⟨RX7, "size", "()I"⟩
def dkwX7_size_0 : List UInt8 := [42, 180, 0, 10, 182, 0, 16, 172]
abbrev dktX7_size_0 : List UInt8 := dkwX7_size_0 ++ []
theorem dksX7_size_0 : cX7_size.data.toList.drop 0 = dktX7_size_0 := by decide +kernel
theorem dX7_size_0 : decode cX7_size 0 = .ok (.aload_n 0, 1) := dk_42 (dk_at dksX7_size_0 0 rfl rfl)
theorem dX7_size_1 : decode cX7_size 1 = .ok (.getfield 10, 3) := dk_180 0 10 (dk_at dksX7_size_0 1 rfl rfl)
theorem dX7_size_4 : decode cX7_size 4 = .ok (.invokevirtual 16, 3) := dk_182 0 16 (dk_at dksX7_size_0 4 rfl rfl)
theorem dX7_size_7 : decode cX7_size 7 = .ok (.ireturn, 1) := dk_172 (dk_at dksX7_size_0 7 rfl rfl)
abbrev cX7_at : ByteArray := prog_8_method_5_code
def yX7_at : MethodName := ⟨RX7, "at", "(I)LTulipLines$Bulb;"⟩
def dkwX7_at_0 : List UInt8 := [42, 180, 0, 10, 27, 182, 0, 20, 192, 0, 32, 176]
abbrev dktX7_at_0 : List UInt8 := dkwX7_at_0 ++ []
theorem dksX7_at_0 : cX7_at.data.toList.drop 0 = dktX7_at_0 := by decide +kernel
theorem dX7_at_0 : decode cX7_at 0 = .ok (.aload_n 0, 1) := dk_42 (dk_at dksX7_at_0 0 rfl rfl)
theorem dX7_at_1 : decode cX7_at 1 = .ok (.getfield 10, 3) := dk_180 0 10 (dk_at dksX7_at_0 1 rfl rfl)
theorem dX7_at_4 : decode cX7_at 4 = .ok (.iload_n 1, 1) := dk_27 (dk_at dksX7_at_0 4 rfl rfl)
theorem dX7_at_5 : decode cX7_at 5 = .ok (.invokevirtual 20, 3) := dk_182 0 20 (dk_at dksX7_at_0 5 rfl rfl)
theorem dX7_at_8 : decode cX7_at 8 = .ok (.checkcast 32, 3) := dk_192 0 32 (dk_at dksX7_at_0 8 rfl rfl)
theorem dX7_at_11 : decode cX7_at 11 = .ok (.areturn, 1) := dk_176 (dk_at dksX7_at_0 11 rfl rfl)
theorem q93 : (Jvm.Cond.initialized "TulipLines$Once") ∈ lw_all := lw_g (lw_at lw_m1 25 rfl) rfl
theorem q505 : (Jvm.Cond.selects "TulipLines$Once" ({ cls := "java/lang/Object", name := "getClass", desc := "()Ljava/lang/Class;" } : Jvm.MethodName) ({ cls := "java/lang/Object", name := "getClass", desc := "()Ljava/lang/Class;" } : Jvm.MethodName)) ∈ lw_all := lw_g (lw_at lw_m2 197 rfl) rfl
theorem q826 : (Jvm.Cond.instantiable "TulipLines$Once" (1 : Nat)) ∈ lw_all := lw_g (lw_at lw_m4 38 rfl) rfl
theorem q828 : (Jvm.Cond.instanceMethod ({ cls := "TulipLines$Once", name := "<init>", desc := "()V" } : Jvm.MethodName)) ∈ lw_all := lw_g (lw_at lw_m4 40 rfl) rfl
theorem q829 : (Jvm.Cond.code ({ cls := "TulipLines$Once", name := "<init>", desc := "()V" } : Jvm.MethodName) prog_8_method_1_code (1 : Nat) (Option.none : Option Jvm.ClassFile.FieldType)) ∈ lw_all := lw_g (lw_at lw_m4 41 rfl) rfl
theorem q830 : (Jvm.Cond.methodLink "TulipLines$Once" (1 : Nat) ({ cls := "java/lang/Object", name := "<init>", desc := "()V" } : Jvm.MethodName)) ∈ lw_all := lw_g (lw_at lw_m4 42 rfl) rfl
theorem q831 : (Jvm.Cond.classLink "TulipLines$Once" (7 : Nat) "java/util/ArrayList") ∈ lw_all := lw_g (lw_at lw_m4 43 rfl) rfl
theorem q832 : (Jvm.Cond.methodLink "TulipLines$Once" (9 : Nat) ({ cls := "java/util/ArrayList", name := "<init>", desc := "()V" } : Jvm.MethodName)) ∈ lw_all := lw_g (lw_at lw_m4 44 rfl) rfl
theorem q833 : (Jvm.Cond.fieldLink "TulipLines$Once" (10 : Nat) "TulipLines$Once" "all" "Ljava/util/ArrayList;") ∈ lw_all := lw_g (lw_at lw_m4 45 rfl) rfl
theorem q834 : (Jvm.Cond.laysFinal "TulipLines$Once" "TulipLines$Once" "all" "Ljava/util/ArrayList;") ∈ lw_all := lw_g (lw_at lw_m4 46 rfl) rfl
theorem q835 : (Jvm.Cond.soleField "TulipLines$Once" "all") ∈ lw_all := lw_g (lw_at lw_m4 47 rfl) rfl
theorem q836 : (Jvm.Cond.superclass "TulipLines$Once" "java/lang/Object") ∈ lw_all := lw_g (lw_at lw_m4 48 rfl) rfl
theorem q846 : (Jvm.Cond.instanceMethod ({ cls := "TulipLines$Once", name := "comes", desc := "(LTulipLines$Bulb;)V" } : Jvm.MethodName)) ∈ lw_all := lw_g (lw_at lw_m4 58 rfl) rfl
theorem q847 : (Jvm.Cond.selects "TulipLines$Once" ({ cls := "TulipLines$Once", name := "comes", desc := "(LTulipLines$Bulb;)V" } : Jvm.MethodName) ({ cls := "TulipLines$Once", name := "comes", desc := "(LTulipLines$Bulb;)V" } : Jvm.MethodName)) ∈ lw_all := lw_g (lw_at lw_m4 59 rfl) rfl
theorem q848 : (Jvm.Cond.code ({ cls := "TulipLines$Once", name := "comes", desc := "(LTulipLines$Bulb;)V" } : Jvm.MethodName) prog_8_method_3_code (3 : Nat) (Option.none : Option Jvm.ClassFile.FieldType)) ∈ lw_all := lw_g (lw_at lw_m4 60 rfl) rfl
theorem q849 : (Jvm.Cond.methodLink "TulipLines$Once" (24 : Nat) ({ cls := "TulipLines$Once", name := "has", desc := "(LTulipLines$Bulb;)Z" } : Jvm.MethodName)) ∈ lw_all := lw_g (lw_at lw_m4 61 rfl) rfl
theorem q850 : (Jvm.Cond.instanceMethod ({ cls := "TulipLines$Once", name := "has", desc := "(LTulipLines$Bulb;)Z" } : Jvm.MethodName)) ∈ lw_all := lw_g (lw_at lw_m4 62 rfl) rfl
theorem q851 : (Jvm.Cond.selects "TulipLines$Once" ({ cls := "TulipLines$Once", name := "has", desc := "(LTulipLines$Bulb;)Z" } : Jvm.MethodName) ({ cls := "TulipLines$Once", name := "has", desc := "(LTulipLines$Bulb;)Z" } : Jvm.MethodName)) ∈ lw_all := lw_g (lw_at lw_m4 63 rfl) rfl
theorem q852 : (Jvm.Cond.code ({ cls := "TulipLines$Once", name := "has", desc := "(LTulipLines$Bulb;)Z" } : Jvm.MethodName) prog_8_method_2_code (3 : Nat) (Option.some Jvm.ClassFile.FieldType.boolean)) ∈ lw_all := lw_g (lw_at lw_m4 64 rfl) rfl
theorem q853 : (Jvm.Cond.methodLink "TulipLines$Once" (16 : Nat) ({ cls := "java/util/ArrayList", name := "size", desc := "()I" } : Jvm.MethodName)) ∈ lw_all := lw_g (lw_at lw_m4 65 rfl) rfl
theorem q854 : (Jvm.Cond.methodLink "TulipLines$Once" (20 : Nat) ({ cls := "java/util/ArrayList", name := "get", desc := "(I)Ljava/lang/Object;" } : Jvm.MethodName)) ∈ lw_all := lw_g (lw_at lw_m4 66 rfl) rfl
theorem q855 : (Jvm.Cond.methodLink "TulipLines$Once" (28 : Nat) ({ cls := "java/util/ArrayList", name := "add", desc := "(Ljava/lang/Object;)Z" } : Jvm.MethodName)) ∈ lw_all := lw_g (lw_at lw_m4 67 rfl) rfl
theorem q857 : (Jvm.Cond.instanceMethod ({ cls := "TulipLines$Once", name := "size", desc := "()I" } : Jvm.MethodName)) ∈ lw_all := lw_g (lw_at lw_m4 69 rfl) rfl
theorem q858 : (Jvm.Cond.selects "TulipLines$Once" ({ cls := "TulipLines$Once", name := "size", desc := "()I" } : Jvm.MethodName) ({ cls := "TulipLines$Once", name := "size", desc := "()I" } : Jvm.MethodName)) ∈ lw_all := lw_g (lw_at lw_m4 70 rfl) rfl
theorem q859 : (Jvm.Cond.code ({ cls := "TulipLines$Once", name := "size", desc := "()I" } : Jvm.MethodName) prog_8_method_4_code (1 : Nat) (Option.some Jvm.ClassFile.FieldType.int)) ∈ lw_all := lw_g (lw_at lw_m4 71 rfl) rfl
theorem q861 : (Jvm.Cond.instanceMethod ({ cls := "TulipLines$Once", name := "at", desc := "(I)LTulipLines$Bulb;" } : Jvm.MethodName)) ∈ lw_all := lw_g (lw_at lw_m4 73 rfl) rfl
theorem q862 : (Jvm.Cond.selects "TulipLines$Once" ({ cls := "TulipLines$Once", name := "at", desc := "(I)LTulipLines$Bulb;" } : Jvm.MethodName) ({ cls := "TulipLines$Once", name := "at", desc := "(I)LTulipLines$Bulb;" } : Jvm.MethodName)) ∈ lw_all := lw_g (lw_at lw_m4 74 rfl) rfl
theorem q863 : (Jvm.Cond.code ({ cls := "TulipLines$Once", name := "at", desc := "(I)LTulipLines$Bulb;" } : Jvm.MethodName) prog_8_method_5_code (2 : Nat) (Option.some (Jvm.ClassFile.FieldType.object "TulipLines$Bulb"))) ∈ lw_all := lw_g (lw_at lw_m4 75 rfl) rfl
theorem q864 : (Jvm.Cond.classLink "TulipLines$Once" (32 : Nat) "TulipLines$Bulb") ∈ lw_all := lw_g (lw_at lw_m4 76 rfl) rfl
theorem q1827 : (Jvm.Cond.castable "TulipLines$Once" "java/lang/Object") ∈ lw_tbl := lw_at lw_m8 79 rfl
theorem in_X7 : ∀ w ∈ wsX70, w ∈ lw_all := lw_in wsX70 [834] (by decide +kernel) (by decide +kernel)
/-! TulipLines$Finder -/
set_option maxRecDepth 100000
def RX8 : String := "TulipLines$Finder"
def TX8 : u_T := fun k => match k with
  | 0 => ("TulipLines$Finder", "measure", "LTulipLines$Measure;", true)
  | _ => ("TulipLines$Finder", "best", "Ljava/lang/Object;", false)
def tyX8 : Nat → FieldType := fun k => match k with
  | 0 => .object "TulipLines$Measure"
  | _ => .object "java/lang/Object"
abbrev wsX80 : List Cond := u_ws RX8 TX8 2
theorem nmX8 : ∀ a, a < 2 → ∀ b, b < 2 → a ≠ b → (TX8 a).2.1 ≠ (TX8 b).2.1 := by decide +kernel
theorem tyX8_ok : ∀ k, k < 2 → parseFieldDescriptor (TX8 k).2.2.1 = some (tyX8 k) := by decide +kernel
abbrev cX8_init : ByteArray := prog_6_method_1_code
def yX8_init : MethodName := ⟨RX8, "<init>", "(LTulipLines$Measure;)V"⟩
def dkwX8_init_0 : List UInt8 := [42, 183, 0, 1, 42, 43, 181, 0, 7, 177]
abbrev dktX8_init_0 : List UInt8 := dkwX8_init_0 ++ []
theorem dksX8_init_0 : cX8_init.data.toList.drop 0 = dktX8_init_0 := by decide +kernel
theorem dX8_init_0 : decode cX8_init 0 = .ok (.aload_n 0, 1) := dk_42 (dk_at dksX8_init_0 0 rfl rfl)
theorem dX8_init_1 : decode cX8_init 1 = .ok (.invokespecial 1, 3) := dk_183 0 1 (dk_at dksX8_init_0 1 rfl rfl)
theorem dX8_init_4 : decode cX8_init 4 = .ok (.aload_n 0, 1) := dk_42 (dk_at dksX8_init_0 4 rfl rfl)
theorem dX8_init_5 : decode cX8_init 5 = .ok (.aload_n 1, 1) := dk_43 (dk_at dksX8_init_0 5 rfl rfl)
theorem dX8_init_6 : decode cX8_init 6 = .ok (.putfield 7, 3) := dk_181 0 7 (dk_at dksX8_init_0 6 rfl rfl)
theorem dX8_init_9 : decode cX8_init 9 = .ok (.return_, 1) := dk_177 (dk_at dksX8_init_0 9 rfl rfl)
abbrev cX8_sees : ByteArray := prog_6_method_2_code
def yX8_sees : MethodName := ⟨RX8, "sees", "(Ljava/lang/Object;)V"⟩
def dkwX8_sees_1 : List UInt8 := [180, 0, 13, 185, 0, 17, 2, 0, 164, 0, 8, 42, 43, 181, 0, 13, 177]
abbrev dktX8_sees_1 : List UInt8 := dkwX8_sees_1 ++ []
def dkwX8_sees_0 : List UInt8 := [42, 180, 0, 13, 198, 0, 29, 42, 180, 0, 7, 43, 185, 0, 17, 2, 0, 42, 180, 0, 7, 42]
abbrev dktX8_sees_0 : List UInt8 := dkwX8_sees_0 ++ dktX8_sees_1
theorem dksX8_sees_0 : cX8_sees.data.toList.drop 0 = dktX8_sees_0 := by decide +kernel
theorem dksX8_sees_1 : cX8_sees.data.toList.drop 22 = dktX8_sees_1 := dk_seg dksX8_sees_0 22 rfl rfl
theorem dX8_sees_0 : decode cX8_sees 0 = .ok (.aload_n 0, 1) := dk_42 (dk_at dksX8_sees_0 0 rfl rfl)
theorem dX8_sees_1 : decode cX8_sees 1 = .ok (.getfield 13, 3) := dk_180 0 13 (dk_at dksX8_sees_0 1 rfl rfl)
theorem dX8_sees_4 : decode cX8_sees 4 = .ok (.ifnull 29, 3) := dk_198 0 29 (dk_at dksX8_sees_0 4 rfl rfl)
theorem dX8_sees_7 : decode cX8_sees 7 = .ok (.aload_n 0, 1) := dk_42 (dk_at dksX8_sees_0 7 rfl rfl)
theorem dX8_sees_8 : decode cX8_sees 8 = .ok (.getfield 7, 3) := dk_180 0 7 (dk_at dksX8_sees_0 8 rfl rfl)
theorem dX8_sees_11 : decode cX8_sees 11 = .ok (.aload_n 1, 1) := dk_43 (dk_at dksX8_sees_0 11 rfl rfl)
theorem dX8_sees_12 : decode cX8_sees 12 = .ok (.invokeinterface 17 2, 5) := by decide +kernel
theorem dX8_sees_17 : decode cX8_sees 17 = .ok (.aload_n 0, 1) := dk_42 (dk_at dksX8_sees_0 17 rfl rfl)
theorem dX8_sees_18 : decode cX8_sees 18 = .ok (.getfield 7, 3) := dk_180 0 7 (dk_at dksX8_sees_0 18 rfl rfl)
theorem dX8_sees_21 : decode cX8_sees 21 = .ok (.aload_n 0, 1) := dk_42 (dk_at dksX8_sees_0 21 rfl rfl)
theorem dX8_sees_22 : decode cX8_sees 22 = .ok (.getfield 13, 3) := dk_180 0 13 (dk_at dksX8_sees_1 0 rfl rfl)
theorem dX8_sees_25 : decode cX8_sees 25 = .ok (.invokeinterface 17 2, 5) := by decide +kernel
theorem dX8_sees_30 : decode cX8_sees 30 = .ok (.if_icmp .le 8, 3) := dk_164 0 8 (dk_at dksX8_sees_1 8 rfl rfl)
theorem dX8_sees_33 : decode cX8_sees 33 = .ok (.aload_n 0, 1) := dk_42 (dk_at dksX8_sees_1 11 rfl rfl)
theorem dX8_sees_34 : decode cX8_sees 34 = .ok (.aload_n 1, 1) := dk_43 (dk_at dksX8_sees_1 12 rfl rfl)
theorem dX8_sees_35 : decode cX8_sees 35 = .ok (.putfield 13, 3) := dk_181 0 13 (dk_at dksX8_sees_1 13 rfl rfl)
theorem dX8_sees_38 : decode cX8_sees 38 = .ok (.return_, 1) := dk_177 (dk_at dksX8_sees_1 16 rfl rfl)
abbrev cX8_best : ByteArray := prog_6_method_3_code
def yX8_best : MethodName := ⟨RX8, "best", "()Ljava/lang/Object;"⟩
theorem dX8_best_0 : decode cX8_best 0 = .ok (.aload_n 0, 1) := by decide +kernel
theorem dX8_best_1 : decode cX8_best 1 = .ok (.getfield 13, 3) := by decide +kernel
theorem dX8_best_4 : decode cX8_best 4 = .ok (.areturn, 1) := by decide +kernel
theorem q94 : (Jvm.Cond.initialized "TulipLines$Finder") ∈ lw_all := lw_g (lw_at lw_m1 26 rfl) rfl
theorem q504 : (Jvm.Cond.selects "TulipLines$Finder" ({ cls := "java/lang/Object", name := "getClass", desc := "()Ljava/lang/Class;" } : Jvm.MethodName) ({ cls := "java/lang/Object", name := "getClass", desc := "()Ljava/lang/Class;" } : Jvm.MethodName)) ∈ lw_all := lw_g (lw_at lw_m2 196 rfl) rfl
theorem q926 : (Jvm.Cond.instantiable "TulipLines$Finder" (2 : Nat)) ∈ lw_all := lw_g (lw_at lw_m4 138 rfl) rfl
theorem q930 : (Jvm.Cond.instanceMethod ({ cls := "TulipLines$Finder", name := "<init>", desc := "(LTulipLines$Measure;)V" } : Jvm.MethodName)) ∈ lw_all := lw_g (lw_at lw_m4 142 rfl) rfl
theorem q931 : (Jvm.Cond.code ({ cls := "TulipLines$Finder", name := "<init>", desc := "(LTulipLines$Measure;)V" } : Jvm.MethodName) prog_6_method_1_code (2 : Nat) (Option.none : Option Jvm.ClassFile.FieldType)) ∈ lw_all := lw_g (lw_at lw_m4 143 rfl) rfl
theorem q932 : (Jvm.Cond.methodLink "TulipLines$Finder" (1 : Nat) ({ cls := "java/lang/Object", name := "<init>", desc := "()V" } : Jvm.MethodName)) ∈ lw_all := lw_g (lw_at lw_m4 144 rfl) rfl
theorem q933 : (Jvm.Cond.fieldLink "TulipLines$Finder" (7 : Nat) "TulipLines$Finder" "measure" "LTulipLines$Measure;") ∈ lw_all := lw_g (lw_at lw_m4 145 rfl) rfl
theorem q934 : (Jvm.Cond.fieldLink "TulipLines$Finder" (13 : Nat) "TulipLines$Finder" "best" "Ljava/lang/Object;") ∈ lw_all := lw_g (lw_at lw_m4 146 rfl) rfl
theorem q935 : (Jvm.Cond.laysFinal "TulipLines$Finder" "TulipLines$Finder" "measure" "LTulipLines$Measure;") ∈ lw_all := lw_g (lw_at lw_m4 147 rfl) rfl
theorem q936 : (Jvm.Cond.soleField "TulipLines$Finder" "measure") ∈ lw_all := lw_g (lw_at lw_m4 148 rfl) rfl
theorem q937 : (Jvm.Cond.lays "TulipLines$Finder" "TulipLines$Finder" "best" "Ljava/lang/Object;") ∈ lw_all := lw_g (lw_at lw_m4 149 rfl) rfl
theorem q938 : (Jvm.Cond.soleField "TulipLines$Finder" "best") ∈ lw_all := lw_g (lw_at lw_m4 150 rfl) rfl
theorem q939 : (Jvm.Cond.superclass "TulipLines$Finder" "java/lang/Object") ∈ lw_all := lw_g (lw_at lw_m4 151 rfl) rfl
theorem q945 : (Jvm.Cond.instanceMethod ({ cls := "TulipLines$Finder", name := "sees", desc := "(Ljava/lang/Object;)V" } : Jvm.MethodName)) ∈ lw_all := lw_g (lw_at lw_m4 157 rfl) rfl
theorem q946 : (Jvm.Cond.selects "TulipLines$Finder" ({ cls := "TulipLines$Finder", name := "sees", desc := "(Ljava/lang/Object;)V" } : Jvm.MethodName) ({ cls := "TulipLines$Finder", name := "sees", desc := "(Ljava/lang/Object;)V" } : Jvm.MethodName)) ∈ lw_all := lw_g (lw_at lw_m4 158 rfl) rfl
theorem q947 : (Jvm.Cond.code ({ cls := "TulipLines$Finder", name := "sees", desc := "(Ljava/lang/Object;)V" } : Jvm.MethodName) prog_6_method_2_code (2 : Nat) (Option.none : Option Jvm.ClassFile.FieldType)) ∈ lw_all := lw_g (lw_at lw_m4 159 rfl) rfl
theorem q948 : (Jvm.Cond.interfaceEntry "TulipLines$Finder" (17 : Nat)) ∈ lw_tbl := lw_at lw_m4 160 rfl
theorem q949 : (Jvm.Cond.methodLink "TulipLines$Finder" (17 : Nat) ({ cls := "TulipLines$Measure", name := "of", desc := "(Ljava/lang/Object;)I" } : Jvm.MethodName)) ∈ lw_all := lw_g (lw_at lw_m4 161 rfl) rfl
theorem q953 : (Jvm.Cond.instanceMethod ({ cls := "TulipLines$Finder", name := "best", desc := "()Ljava/lang/Object;" } : Jvm.MethodName)) ∈ lw_all := lw_g (lw_at lw_m4 165 rfl) rfl
theorem q954 : (Jvm.Cond.selects "TulipLines$Finder" ({ cls := "TulipLines$Finder", name := "best", desc := "()Ljava/lang/Object;" } : Jvm.MethodName) ({ cls := "TulipLines$Finder", name := "best", desc := "()Ljava/lang/Object;" } : Jvm.MethodName)) ∈ lw_all := lw_g (lw_at lw_m4 166 rfl) rfl
theorem q955 : (Jvm.Cond.code ({ cls := "TulipLines$Finder", name := "best", desc := "()Ljava/lang/Object;" } : Jvm.MethodName) prog_6_method_3_code (1 : Nat) (Option.some (Jvm.ClassFile.FieldType.object "java/lang/Object"))) ∈ lw_all := lw_g (lw_at lw_m4 167 rfl) rfl
theorem q1828 : (Jvm.Cond.castable "TulipLines$Finder" "java/lang/Object") ∈ lw_tbl := lw_at lw_m8 80 rfl
theorem in_X8 : ∀ w ∈ wsX80, w ∈ lw_all := lw_in wsX80 [935, 937] (by decide +kernel) (by decide +kernel)
/-! TulipLines$Reader -/
set_option maxRecDepth 100000
def RX9 : String := "TulipLines$Reader"
def TX9 : u_T := fun k => match k with
  | 0 => ("TulipLines$Reader", "next", "I", false)
  | _ => ("TulipLines$Reader", "this$0", "LTulipLines;", true)
def tyX9 : Nat → FieldType := fun k => match k with
  | 0 => .int
  | _ => .object "TulipLines"
abbrev wsX90 : List Cond := u_ws RX9 TX9 2
theorem nmX9 : ∀ a, a < 2 → ∀ b, b < 2 → a ≠ b → (TX9 a).2.1 ≠ (TX9 b).2.1 := by decide +kernel
theorem tyX9_ok : ∀ k, k < 2 → parseFieldDescriptor (TX9 k).2.2.1 = some (tyX9 k) := by decide +kernel
abbrev cX9_init : ByteArray := prog_9_method_1_code
def yX9_init : MethodName := ⟨RX9, "<init>", "(LTulipLines;)V"⟩
def dkwX9_init_0 : List UInt8 := [42, 43, 181, 0, 1, 42, 183, 0, 7, 177]
abbrev dktX9_init_0 : List UInt8 := dkwX9_init_0 ++ []
theorem dksX9_init_0 : cX9_init.data.toList.drop 0 = dktX9_init_0 := by decide +kernel
theorem dX9_init_0 : decode cX9_init 0 = .ok (.aload_n 0, 1) := dk_42 (dk_at dksX9_init_0 0 rfl rfl)
theorem dX9_init_1 : decode cX9_init 1 = .ok (.aload_n 1, 1) := dk_43 (dk_at dksX9_init_0 1 rfl rfl)
theorem dX9_init_2 : decode cX9_init 2 = .ok (.putfield 1, 3) := dk_181 0 1 (dk_at dksX9_init_0 2 rfl rfl)
theorem dX9_init_5 : decode cX9_init 5 = .ok (.aload_n 0, 1) := dk_42 (dk_at dksX9_init_0 5 rfl rfl)
theorem dX9_init_6 : decode cX9_init 6 = .ok (.invokespecial 7, 3) := dk_183 0 7 (dk_at dksX9_init_0 6 rfl rfl)
theorem dX9_init_9 : decode cX9_init 9 = .ok (.return_, 1) := dk_177 (dk_at dksX9_init_0 9 rfl rfl)
abbrev cX9_commands : ByteArray := prog_9_method_9_code
def yX9_commands : MethodName := ⟨RX9, "commands", "()Ljava/util/ArrayList;"⟩
def dkwX9_commands_3 : List UInt8 := [89, 42, 180, 0, 13, 183, 0, 43, 191, 43, 176]
abbrev dktX9_commands_3 : List UInt8 := dkwX9_commands_3 ++ []
def dkwX9_commands_2 : List UInt8 := [61, 167, 255, 226, 42, 180, 0, 13, 42, 180, 0, 1, 180, 0, 17, 182, 0, 23, 162, 0, 15, 187, 0, 41]
abbrev dktX9_commands_2 : List UInt8 := dkwX9_commands_2 ++ dktX9_commands_3
def dkwX9_commands_1 : List UInt8 := [182, 0, 37, 153, 0, 25, 42, 89, 180, 0, 13, 4, 96, 181, 0, 13, 43, 42, 182, 0, 102, 182, 0, 105]
abbrev dktX9_commands_1 : List UInt8 := dkwX9_commands_1 ++ dktX9_commands_2
def dkwX9_commands_0 : List UInt8 := [187, 0, 99, 89, 183, 0, 101, 76, 43, 42, 182, 0, 102, 182, 0, 105, 61, 42, 16, 59, 16, 59]
abbrev dktX9_commands_0 : List UInt8 := dkwX9_commands_0 ++ dktX9_commands_1
theorem dksX9_commands_0 : cX9_commands.data.toList.drop 0 = dktX9_commands_0 := by decide +kernel
theorem dksX9_commands_1 : cX9_commands.data.toList.drop 22 = dktX9_commands_1 := dk_seg dksX9_commands_0 22 rfl rfl
theorem dksX9_commands_2 : cX9_commands.data.toList.drop 46 = dktX9_commands_2 := dk_seg dksX9_commands_1 24 rfl rfl
theorem dksX9_commands_3 : cX9_commands.data.toList.drop 70 = dktX9_commands_3 := dk_seg dksX9_commands_2 24 rfl rfl
theorem dX9_commands_0 : decode cX9_commands 0 = .ok (.new 99, 3) := dk_187 0 99 (dk_at dksX9_commands_0 0 rfl rfl)
theorem dX9_commands_3 : decode cX9_commands 3 = .ok (.dup, 1) := dk_89 (dk_at dksX9_commands_0 3 rfl rfl)
theorem dX9_commands_4 : decode cX9_commands 4 = .ok (.invokespecial 101, 3) := dk_183 0 101 (dk_at dksX9_commands_0 4 rfl rfl)
theorem dX9_commands_7 : decode cX9_commands 7 = .ok (.astore_n 1, 1) := dk_76 (dk_at dksX9_commands_0 7 rfl rfl)
theorem dX9_commands_8 : decode cX9_commands 8 = .ok (.aload_n 1, 1) := dk_43 (dk_at dksX9_commands_0 8 rfl rfl)
theorem dX9_commands_9 : decode cX9_commands 9 = .ok (.aload_n 0, 1) := dk_42 (dk_at dksX9_commands_0 9 rfl rfl)
theorem dX9_commands_10 : decode cX9_commands 10 = .ok (.invokevirtual 102, 3) := dk_182 0 102 (dk_at dksX9_commands_0 10 rfl rfl)
theorem dX9_commands_13 : decode cX9_commands 13 = .ok (.invokevirtual 105, 3) := dk_182 0 105 (dk_at dksX9_commands_0 13 rfl rfl)
theorem dX9_commands_16 : decode cX9_commands 16 = .ok (.istore_n 2, 1) := dk_61 (dk_at dksX9_commands_0 16 rfl rfl)
theorem dX9_commands_17 : decode cX9_commands 17 = .ok (.aload_n 0, 1) := dk_42 (dk_at dksX9_commands_0 17 rfl rfl)
theorem dX9_commands_18 : decode cX9_commands 18 = .ok (.bipush 59, 2) := dk_16 59 (dk_at dksX9_commands_0 18 rfl rfl)
theorem dX9_commands_20 : decode cX9_commands 20 = .ok (.bipush 59, 2) := dk_16 59 (dk_at dksX9_commands_0 20 rfl rfl)
theorem dX9_commands_22 : decode cX9_commands 22 = .ok (.invokevirtual 37, 3) := dk_182 0 37 (dk_at dksX9_commands_1 0 rfl rfl)
theorem dX9_commands_25 : decode cX9_commands 25 = .ok (.ifCond .eq 25, 3) := dk_153 0 25 (dk_at dksX9_commands_1 3 rfl rfl)
theorem dX9_commands_28 : decode cX9_commands 28 = .ok (.aload_n 0, 1) := dk_42 (dk_at dksX9_commands_1 6 rfl rfl)
theorem dX9_commands_29 : decode cX9_commands 29 = .ok (.dup, 1) := dk_89 (dk_at dksX9_commands_1 7 rfl rfl)
theorem dX9_commands_30 : decode cX9_commands 30 = .ok (.getfield 13, 3) := dk_180 0 13 (dk_at dksX9_commands_1 8 rfl rfl)
theorem dX9_commands_33 : decode cX9_commands 33 = .ok (.iconst 1, 1) := dk_4 (dk_at dksX9_commands_1 11 rfl rfl)
theorem dX9_commands_34 : decode cX9_commands 34 = .ok (.iadd, 1) := dk_96 (dk_at dksX9_commands_1 12 rfl rfl)
theorem dX9_commands_35 : decode cX9_commands 35 = .ok (.putfield 13, 3) := dk_181 0 13 (dk_at dksX9_commands_1 13 rfl rfl)
theorem dX9_commands_38 : decode cX9_commands 38 = .ok (.aload_n 1, 1) := dk_43 (dk_at dksX9_commands_1 16 rfl rfl)
theorem dX9_commands_39 : decode cX9_commands 39 = .ok (.aload_n 0, 1) := dk_42 (dk_at dksX9_commands_1 17 rfl rfl)
theorem dX9_commands_40 : decode cX9_commands 40 = .ok (.invokevirtual 102, 3) := dk_182 0 102 (dk_at dksX9_commands_1 18 rfl rfl)
theorem dX9_commands_43 : decode cX9_commands 43 = .ok (.invokevirtual 105, 3) := dk_182 0 105 (dk_at dksX9_commands_1 21 rfl rfl)
theorem dX9_commands_46 : decode cX9_commands 46 = .ok (.istore_n 2, 1) := dk_61 (dk_at dksX9_commands_2 0 rfl rfl)
theorem dX9_commands_47 : decode cX9_commands 47 = .ok (.goto (-30), 3) := dk_167 255 226 (dk_at dksX9_commands_2 1 rfl rfl)
theorem dX9_commands_50 : decode cX9_commands 50 = .ok (.aload_n 0, 1) := dk_42 (dk_at dksX9_commands_2 4 rfl rfl)
theorem dX9_commands_51 : decode cX9_commands 51 = .ok (.getfield 13, 3) := dk_180 0 13 (dk_at dksX9_commands_2 5 rfl rfl)
theorem dX9_commands_54 : decode cX9_commands 54 = .ok (.aload_n 0, 1) := dk_42 (dk_at dksX9_commands_2 8 rfl rfl)
theorem dX9_commands_55 : decode cX9_commands 55 = .ok (.getfield 1, 3) := dk_180 0 1 (dk_at dksX9_commands_2 9 rfl rfl)
theorem dX9_commands_58 : decode cX9_commands 58 = .ok (.getfield 17, 3) := dk_180 0 17 (dk_at dksX9_commands_2 12 rfl rfl)
theorem dX9_commands_61 : decode cX9_commands 61 = .ok (.invokevirtual 23, 3) := dk_182 0 23 (dk_at dksX9_commands_2 15 rfl rfl)
theorem dX9_commands_64 : decode cX9_commands 64 = .ok (.if_icmp .ge 15, 3) := dk_162 0 15 (dk_at dksX9_commands_2 18 rfl rfl)
theorem dX9_commands_67 : decode cX9_commands 67 = .ok (.new 41, 3) := dk_187 0 41 (dk_at dksX9_commands_2 21 rfl rfl)
theorem dX9_commands_70 : decode cX9_commands 70 = .ok (.dup, 1) := dk_89 (dk_at dksX9_commands_3 0 rfl rfl)
theorem dX9_commands_71 : decode cX9_commands 71 = .ok (.aload_n 0, 1) := dk_42 (dk_at dksX9_commands_3 1 rfl rfl)
theorem dX9_commands_72 : decode cX9_commands 72 = .ok (.getfield 13, 3) := dk_180 0 13 (dk_at dksX9_commands_3 2 rfl rfl)
theorem dX9_commands_75 : decode cX9_commands 75 = .ok (.invokespecial 43, 3) := dk_183 0 43 (dk_at dksX9_commands_3 5 rfl rfl)
theorem dX9_commands_78 : decode cX9_commands 78 = .ok (.athrow, 1) := dk_191 (dk_at dksX9_commands_3 8 rfl rfl)
theorem dX9_commands_79 : decode cX9_commands 79 = .ok (.aload_n 1, 1) := dk_43 (dk_at dksX9_commands_3 9 rfl rfl)
theorem dX9_commands_80 : decode cX9_commands 80 = .ok (.areturn, 1) := dk_176 (dk_at dksX9_commands_3 10 rfl rfl)
abbrev cX9_command : ByteArray := prog_9_method_8_code
def yX9_command : MethodName := ⟨RX9, "command", "()LTulipLines$Change;"⟩
def dkwX9_command_8 : List UInt8 := [182, 0, 57, 184, 0, 95, 176]
abbrev dktX9_command_8 : List UInt8 := dkwX9_command_8 ++ []
def dkwX9_command_7 : List UInt8 := [184, 0, 89, 176, 42, 6, 182, 0, 53, 184, 0, 92, 176, 42, 182, 0, 50, 60, 27, 42, 16, 61]
abbrev dktX9_command_7 : List UInt8 := dkwX9_command_7 ++ dktX9_command_8
def dkwX9_command_6 : List UInt8 := [6, 182, 0, 53, 184, 0, 83, 176, 42, 6, 182, 0, 53, 184, 0, 86, 176, 42, 6, 182, 0, 53]
abbrev dktX9_command_6 : List UInt8 := dkwX9_command_6 ++ dktX9_command_7
def dkwX9_command_5 : List UInt8 := [42, 6, 182, 0, 53, 184, 0, 72, 176, 42, 182, 0, 76, 176, 42, 5, 182, 0, 53, 184, 0, 80, 176, 42]
abbrev dktX9_command_5 : List UInt8 := dkwX9_command_5 ++ dktX9_command_6
def dkwX9_command_4 : List UInt8 := [170, 0, 0, 0, 0, 0, 162, 0, 0, 0, 100, 0, 0, 0, 121, 0, 0, 0, 117, 0, 0, 0, 162, 0, 0, 0, 162, 0, 0, 0, 162, 0, 0, 0, 162, 0, 0, 0, 162, 0, 0, 0, 162, 0, 0, 0, 162, 0, 0, 0, 135, 0, 0, 0, 162, 0, 0, 0, 162, 0, 0, 0, 162, 0, 0, 0, 103, 0, 0, 0, 162, 0, 0, 0, 144, 0, 0, 0, 162, 0, 0, 0, 162, 0, 0, 0, 162, 0, 0, 0, 162, 0, 0, 0, 126, 0, 0, 0, 112, 0, 0, 0, 153]
abbrev dktX9_command_4 : List UInt8 := dkwX9_command_4 ++ dktX9_command_5
def dkwX9_command_3 : List UInt8 := [180, 0, 13, 4, 100, 182, 0, 29]
abbrev dktX9_command_3 : List UInt8 := dkwX9_command_3 ++ dktX9_command_4
def dkwX9_command_2 : List UInt8 := [183, 0, 43, 191, 42, 89, 180, 0, 13, 4, 96, 181, 0, 13, 42, 180, 0, 1, 180, 0, 17, 42]
abbrev dktX9_command_2 : List UInt8 := dkwX9_command_2 ++ dktX9_command_3
def dkwX9_command_1 : List UInt8 := [180, 0, 17, 42, 180, 0, 13, 182, 0, 29, 182, 0, 67, 156, 0, 15, 187, 0, 41, 89, 42, 180, 0, 13]
abbrev dktX9_command_1 : List UInt8 := dkwX9_command_1 ++ dktX9_command_2
def dkwX9_command_0 : List UInt8 := [42, 180, 0, 13, 42, 180, 0, 1, 180, 0, 17, 182, 0, 23, 159, 0, 25, 18, 65, 42, 180, 0, 1]
abbrev dktX9_command_0 : List UInt8 := dkwX9_command_0 ++ dktX9_command_1
theorem dksX9_command_0 : cX9_command.data.toList.drop 0 = dktX9_command_0 := by decide +kernel
theorem dksX9_command_1 : cX9_command.data.toList.drop 23 = dktX9_command_1 := dk_seg dksX9_command_0 23 rfl rfl
theorem dksX9_command_2 : cX9_command.data.toList.drop 47 = dktX9_command_2 := dk_seg dksX9_command_1 24 rfl rfl
theorem dksX9_command_3 : cX9_command.data.toList.drop 69 = dktX9_command_3 := dk_seg dksX9_command_2 22 rfl rfl
theorem dksX9_command_4 : cX9_command.data.toList.drop 77 = dktX9_command_4 := dk_seg dksX9_command_3 8 rfl rfl
theorem dksX9_command_5 : cX9_command.data.toList.drop 180 = dktX9_command_5 := dk_seg dksX9_command_4 103 rfl rfl
theorem dksX9_command_6 : cX9_command.data.toList.drop 204 = dktX9_command_6 := dk_seg dksX9_command_5 24 rfl rfl
theorem dksX9_command_7 : cX9_command.data.toList.drop 226 = dktX9_command_7 := dk_seg dksX9_command_6 22 rfl rfl
theorem dksX9_command_8 : cX9_command.data.toList.drop 248 = dktX9_command_8 := dk_seg dksX9_command_7 22 rfl rfl
theorem dX9_command_0 : decode cX9_command 0 = .ok (.aload_n 0, 1) := dk_42 (dk_at dksX9_command_0 0 rfl rfl)
theorem dX9_command_1 : decode cX9_command 1 = .ok (.getfield 13, 3) := dk_180 0 13 (dk_at dksX9_command_0 1 rfl rfl)
theorem dX9_command_4 : decode cX9_command 4 = .ok (.aload_n 0, 1) := dk_42 (dk_at dksX9_command_0 4 rfl rfl)
theorem dX9_command_5 : decode cX9_command 5 = .ok (.getfield 1, 3) := dk_180 0 1 (dk_at dksX9_command_0 5 rfl rfl)
theorem dX9_command_8 : decode cX9_command 8 = .ok (.getfield 17, 3) := dk_180 0 17 (dk_at dksX9_command_0 8 rfl rfl)
theorem dX9_command_11 : decode cX9_command 11 = .ok (.invokevirtual 23, 3) := dk_182 0 23 (dk_at dksX9_command_0 11 rfl rfl)
theorem dX9_command_14 : decode cX9_command 14 = .ok (.if_icmp .eq 25, 3) := dk_159 0 25 (dk_at dksX9_command_0 14 rfl rfl)
theorem dX9_command_17 : decode cX9_command 17 = .ok (.ldc 65, 2) := dk_18 65 (dk_at dksX9_command_0 17 rfl rfl)
theorem dX9_command_19 : decode cX9_command 19 = .ok (.aload_n 0, 1) := dk_42 (dk_at dksX9_command_0 19 rfl rfl)
theorem dX9_command_20 : decode cX9_command 20 = .ok (.getfield 1, 3) := dk_180 0 1 (dk_at dksX9_command_0 20 rfl rfl)
theorem dX9_command_23 : decode cX9_command 23 = .ok (.getfield 17, 3) := dk_180 0 17 (dk_at dksX9_command_1 0 rfl rfl)
theorem dX9_command_26 : decode cX9_command 26 = .ok (.aload_n 0, 1) := dk_42 (dk_at dksX9_command_1 3 rfl rfl)
theorem dX9_command_27 : decode cX9_command 27 = .ok (.getfield 13, 3) := dk_180 0 13 (dk_at dksX9_command_1 4 rfl rfl)
theorem dX9_command_30 : decode cX9_command 30 = .ok (.invokevirtual 29, 3) := dk_182 0 29 (dk_at dksX9_command_1 7 rfl rfl)
theorem dX9_command_33 : decode cX9_command 33 = .ok (.invokevirtual 67, 3) := dk_182 0 67 (dk_at dksX9_command_1 10 rfl rfl)
theorem dX9_command_36 : decode cX9_command 36 = .ok (.ifCond .ge 15, 3) := dk_156 0 15 (dk_at dksX9_command_1 13 rfl rfl)
theorem dX9_command_39 : decode cX9_command 39 = .ok (.new 41, 3) := dk_187 0 41 (dk_at dksX9_command_1 16 rfl rfl)
theorem dX9_command_42 : decode cX9_command 42 = .ok (.dup, 1) := dk_89 (dk_at dksX9_command_1 19 rfl rfl)
theorem dX9_command_43 : decode cX9_command 43 = .ok (.aload_n 0, 1) := dk_42 (dk_at dksX9_command_1 20 rfl rfl)
theorem dX9_command_44 : decode cX9_command 44 = .ok (.getfield 13, 3) := dk_180 0 13 (dk_at dksX9_command_1 21 rfl rfl)
theorem dX9_command_47 : decode cX9_command 47 = .ok (.invokespecial 43, 3) := dk_183 0 43 (dk_at dksX9_command_2 0 rfl rfl)
theorem dX9_command_50 : decode cX9_command 50 = .ok (.athrow, 1) := dk_191 (dk_at dksX9_command_2 3 rfl rfl)
theorem dX9_command_51 : decode cX9_command 51 = .ok (.aload_n 0, 1) := dk_42 (dk_at dksX9_command_2 4 rfl rfl)
theorem dX9_command_52 : decode cX9_command 52 = .ok (.dup, 1) := dk_89 (dk_at dksX9_command_2 5 rfl rfl)
theorem dX9_command_53 : decode cX9_command 53 = .ok (.getfield 13, 3) := dk_180 0 13 (dk_at dksX9_command_2 6 rfl rfl)
theorem dX9_command_56 : decode cX9_command 56 = .ok (.iconst 1, 1) := dk_4 (dk_at dksX9_command_2 9 rfl rfl)
theorem dX9_command_57 : decode cX9_command 57 = .ok (.iadd, 1) := dk_96 (dk_at dksX9_command_2 10 rfl rfl)
theorem dX9_command_58 : decode cX9_command 58 = .ok (.putfield 13, 3) := dk_181 0 13 (dk_at dksX9_command_2 11 rfl rfl)
theorem dX9_command_61 : decode cX9_command 61 = .ok (.aload_n 0, 1) := dk_42 (dk_at dksX9_command_2 14 rfl rfl)
theorem dX9_command_62 : decode cX9_command 62 = .ok (.getfield 1, 3) := dk_180 0 1 (dk_at dksX9_command_2 15 rfl rfl)
theorem dX9_command_65 : decode cX9_command 65 = .ok (.getfield 17, 3) := dk_180 0 17 (dk_at dksX9_command_2 18 rfl rfl)
theorem dX9_command_68 : decode cX9_command 68 = .ok (.aload_n 0, 1) := dk_42 (dk_at dksX9_command_2 21 rfl rfl)
theorem dX9_command_69 : decode cX9_command 69 = .ok (.getfield 13, 3) := dk_180 0 13 (dk_at dksX9_command_3 0 rfl rfl)
theorem dX9_command_72 : decode cX9_command 72 = .ok (.iconst 1, 1) := dk_4 (dk_at dksX9_command_3 3 rfl rfl)
theorem dX9_command_73 : decode cX9_command 73 = .ok (.isub, 1) := dk_100 (dk_at dksX9_command_3 4 rfl rfl)
theorem dX9_command_74 : decode cX9_command 74 = .ok (.invokevirtual 29, 3) := dk_182 0 29 (dk_at dksX9_command_3 5 rfl rfl)
theorem dX9_command_77 : decode cX9_command 77 = .ok (.tableswitch 162 100 121 #[117, 162, 162, 162, 162, 162, 162, 162, 135, 162, 162, 162, 103, 162, 144, 162, 162, 162, 162, 126, 112, 153], 103) := by decide +kernel
theorem dX9_command_180 : decode cX9_command 180 = .ok (.aload_n 0, 1) := dk_42 (dk_at dksX9_command_5 0 rfl rfl)
theorem dX9_command_181 : decode cX9_command 181 = .ok (.iconst 3, 1) := dk_6 (dk_at dksX9_command_5 1 rfl rfl)
theorem dX9_command_182 : decode cX9_command 182 = .ok (.invokevirtual 53, 3) := dk_182 0 53 (dk_at dksX9_command_5 2 rfl rfl)
theorem dX9_command_185 : decode cX9_command 185 = .ok (.invokestatic 72, 3) := dk_184 0 72 (dk_at dksX9_command_5 5 rfl rfl)
theorem dX9_command_188 : decode cX9_command 188 = .ok (.areturn, 1) := dk_176 (dk_at dksX9_command_5 8 rfl rfl)
theorem dX9_command_189 : decode cX9_command 189 = .ok (.aload_n 0, 1) := dk_42 (dk_at dksX9_command_5 9 rfl rfl)
theorem dX9_command_190 : decode cX9_command 190 = .ok (.invokevirtual 76, 3) := dk_182 0 76 (dk_at dksX9_command_5 10 rfl rfl)
theorem dX9_command_193 : decode cX9_command 193 = .ok (.areturn, 1) := dk_176 (dk_at dksX9_command_5 13 rfl rfl)
theorem dX9_command_194 : decode cX9_command 194 = .ok (.aload_n 0, 1) := dk_42 (dk_at dksX9_command_5 14 rfl rfl)
theorem dX9_command_195 : decode cX9_command 195 = .ok (.iconst 2, 1) := dk_5 (dk_at dksX9_command_5 15 rfl rfl)
theorem dX9_command_196 : decode cX9_command 196 = .ok (.invokevirtual 53, 3) := dk_182 0 53 (dk_at dksX9_command_5 16 rfl rfl)
theorem dX9_command_199 : decode cX9_command 199 = .ok (.invokestatic 80, 3) := dk_184 0 80 (dk_at dksX9_command_5 19 rfl rfl)
theorem dX9_command_202 : decode cX9_command 202 = .ok (.areturn, 1) := dk_176 (dk_at dksX9_command_5 22 rfl rfl)
theorem dX9_command_203 : decode cX9_command 203 = .ok (.aload_n 0, 1) := dk_42 (dk_at dksX9_command_5 23 rfl rfl)
theorem dX9_command_204 : decode cX9_command 204 = .ok (.iconst 3, 1) := dk_6 (dk_at dksX9_command_6 0 rfl rfl)
theorem dX9_command_205 : decode cX9_command 205 = .ok (.invokevirtual 53, 3) := dk_182 0 53 (dk_at dksX9_command_6 1 rfl rfl)
theorem dX9_command_208 : decode cX9_command 208 = .ok (.invokestatic 83, 3) := dk_184 0 83 (dk_at dksX9_command_6 4 rfl rfl)
theorem dX9_command_211 : decode cX9_command 211 = .ok (.areturn, 1) := dk_176 (dk_at dksX9_command_6 7 rfl rfl)
theorem dX9_command_212 : decode cX9_command 212 = .ok (.aload_n 0, 1) := dk_42 (dk_at dksX9_command_6 8 rfl rfl)
theorem dX9_command_213 : decode cX9_command 213 = .ok (.iconst 3, 1) := dk_6 (dk_at dksX9_command_6 9 rfl rfl)
theorem dX9_command_214 : decode cX9_command 214 = .ok (.invokevirtual 53, 3) := dk_182 0 53 (dk_at dksX9_command_6 10 rfl rfl)
theorem dX9_command_217 : decode cX9_command 217 = .ok (.invokestatic 86, 3) := dk_184 0 86 (dk_at dksX9_command_6 13 rfl rfl)
theorem dX9_command_220 : decode cX9_command 220 = .ok (.areturn, 1) := dk_176 (dk_at dksX9_command_6 16 rfl rfl)
theorem dX9_command_221 : decode cX9_command 221 = .ok (.aload_n 0, 1) := dk_42 (dk_at dksX9_command_6 17 rfl rfl)
theorem dX9_command_222 : decode cX9_command 222 = .ok (.iconst 3, 1) := dk_6 (dk_at dksX9_command_6 18 rfl rfl)
theorem dX9_command_223 : decode cX9_command 223 = .ok (.invokevirtual 53, 3) := dk_182 0 53 (dk_at dksX9_command_6 19 rfl rfl)
theorem dX9_command_226 : decode cX9_command 226 = .ok (.invokestatic 89, 3) := dk_184 0 89 (dk_at dksX9_command_7 0 rfl rfl)
theorem dX9_command_229 : decode cX9_command 229 = .ok (.areturn, 1) := dk_176 (dk_at dksX9_command_7 3 rfl rfl)
theorem dX9_command_230 : decode cX9_command 230 = .ok (.aload_n 0, 1) := dk_42 (dk_at dksX9_command_7 4 rfl rfl)
theorem dX9_command_231 : decode cX9_command 231 = .ok (.iconst 3, 1) := dk_6 (dk_at dksX9_command_7 5 rfl rfl)
theorem dX9_command_232 : decode cX9_command 232 = .ok (.invokevirtual 53, 3) := dk_182 0 53 (dk_at dksX9_command_7 6 rfl rfl)
theorem dX9_command_235 : decode cX9_command 235 = .ok (.invokestatic 92, 3) := dk_184 0 92 (dk_at dksX9_command_7 9 rfl rfl)
theorem dX9_command_238 : decode cX9_command 238 = .ok (.areturn, 1) := dk_176 (dk_at dksX9_command_7 12 rfl rfl)
theorem dX9_command_239 : decode cX9_command 239 = .ok (.aload_n 0, 1) := dk_42 (dk_at dksX9_command_7 13 rfl rfl)
theorem dX9_command_240 : decode cX9_command 240 = .ok (.invokevirtual 50, 3) := dk_182 0 50 (dk_at dksX9_command_7 14 rfl rfl)
theorem dX9_command_243 : decode cX9_command 243 = .ok (.istore_n 1, 1) := dk_60 (dk_at dksX9_command_7 17 rfl rfl)
theorem dX9_command_244 : decode cX9_command 244 = .ok (.iload_n 1, 1) := dk_27 (dk_at dksX9_command_7 18 rfl rfl)
theorem dX9_command_245 : decode cX9_command 245 = .ok (.aload_n 0, 1) := dk_42 (dk_at dksX9_command_7 19 rfl rfl)
theorem dX9_command_246 : decode cX9_command 246 = .ok (.bipush 61, 2) := dk_16 61 (dk_at dksX9_command_7 20 rfl rfl)
theorem dX9_command_248 : decode cX9_command 248 = .ok (.invokevirtual 57, 3) := dk_182 0 57 (dk_at dksX9_command_8 0 rfl rfl)
theorem dX9_command_251 : decode cX9_command 251 = .ok (.invokestatic 95, 3) := dk_184 0 95 (dk_at dksX9_command_8 3 rfl rfl)
theorem dX9_command_254 : decode cX9_command 254 = .ok (.areturn, 1) := dk_176 (dk_at dksX9_command_8 6 rfl rfl)
abbrev cX9_number : ByteArray := prog_9_method_5_code
def yX9_number : MethodName := ⟨RX9, "number", "(I)I"⟩
def dkwX9_number_1 : List UInt8 := [16, 10, 28, 104, 42, 182, 0, 50, 96, 61, 132, 3, 1, 167, 255, 227, 28, 172]
abbrev dktX9_number_1 : List UInt8 := dkwX9_number_1 ++ []
def dkwX9_number_0 : List UInt8 := [42, 182, 0, 50, 61, 4, 62, 29, 27, 162, 0, 30, 42, 16, 48, 16, 57, 182, 0, 37, 153, 0, 19]
abbrev dktX9_number_0 : List UInt8 := dkwX9_number_0 ++ dktX9_number_1
theorem dksX9_number_0 : cX9_number.data.toList.drop 0 = dktX9_number_0 := by decide +kernel
theorem dksX9_number_1 : cX9_number.data.toList.drop 23 = dktX9_number_1 := dk_seg dksX9_number_0 23 rfl rfl
theorem dX9_number_0 : decode cX9_number 0 = .ok (.aload_n 0, 1) := dk_42 (dk_at dksX9_number_0 0 rfl rfl)
theorem dX9_number_1 : decode cX9_number 1 = .ok (.invokevirtual 50, 3) := dk_182 0 50 (dk_at dksX9_number_0 1 rfl rfl)
theorem dX9_number_4 : decode cX9_number 4 = .ok (.istore_n 2, 1) := dk_61 (dk_at dksX9_number_0 4 rfl rfl)
theorem dX9_number_5 : decode cX9_number 5 = .ok (.iconst 1, 1) := dk_4 (dk_at dksX9_number_0 5 rfl rfl)
theorem dX9_number_6 : decode cX9_number 6 = .ok (.istore_n 3, 1) := dk_62 (dk_at dksX9_number_0 6 rfl rfl)
theorem dX9_number_7 : decode cX9_number 7 = .ok (.iload_n 3, 1) := dk_29 (dk_at dksX9_number_0 7 rfl rfl)
theorem dX9_number_8 : decode cX9_number 8 = .ok (.iload_n 1, 1) := dk_27 (dk_at dksX9_number_0 8 rfl rfl)
theorem dX9_number_9 : decode cX9_number 9 = .ok (.if_icmp .ge 30, 3) := dk_162 0 30 (dk_at dksX9_number_0 9 rfl rfl)
theorem dX9_number_12 : decode cX9_number 12 = .ok (.aload_n 0, 1) := dk_42 (dk_at dksX9_number_0 12 rfl rfl)
theorem dX9_number_13 : decode cX9_number 13 = .ok (.bipush 48, 2) := dk_16 48 (dk_at dksX9_number_0 13 rfl rfl)
theorem dX9_number_15 : decode cX9_number 15 = .ok (.bipush 57, 2) := dk_16 57 (dk_at dksX9_number_0 15 rfl rfl)
theorem dX9_number_17 : decode cX9_number 17 = .ok (.invokevirtual 37, 3) := dk_182 0 37 (dk_at dksX9_number_0 17 rfl rfl)
theorem dX9_number_20 : decode cX9_number 20 = .ok (.ifCond .eq 19, 3) := dk_153 0 19 (dk_at dksX9_number_0 20 rfl rfl)
theorem dX9_number_23 : decode cX9_number 23 = .ok (.bipush 10, 2) := dk_16 10 (dk_at dksX9_number_1 0 rfl rfl)
theorem dX9_number_25 : decode cX9_number 25 = .ok (.iload_n 2, 1) := dk_28 (dk_at dksX9_number_1 2 rfl rfl)
theorem dX9_number_26 : decode cX9_number 26 = .ok (.imul, 1) := dk_104 (dk_at dksX9_number_1 3 rfl rfl)
theorem dX9_number_27 : decode cX9_number 27 = .ok (.aload_n 0, 1) := dk_42 (dk_at dksX9_number_1 4 rfl rfl)
theorem dX9_number_28 : decode cX9_number 28 = .ok (.invokevirtual 50, 3) := dk_182 0 50 (dk_at dksX9_number_1 5 rfl rfl)
theorem dX9_number_31 : decode cX9_number 31 = .ok (.iadd, 1) := dk_96 (dk_at dksX9_number_1 8 rfl rfl)
theorem dX9_number_32 : decode cX9_number 32 = .ok (.istore_n 2, 1) := dk_61 (dk_at dksX9_number_1 9 rfl rfl)
theorem dX9_number_33 : decode cX9_number 33 = .ok (.iinc 3 1, 3) := dk_132 3 1 (dk_at dksX9_number_1 10 rfl rfl)
theorem dX9_number_36 : decode cX9_number 36 = .ok (.goto (-29), 3) := dk_167 255 227 (dk_at dksX9_number_1 13 rfl rfl)
theorem dX9_number_39 : decode cX9_number 39 = .ok (.iload_n 2, 1) := dk_28 (dk_at dksX9_number_1 16 rfl rfl)
theorem dX9_number_40 : decode cX9_number 40 = .ok (.ireturn, 1) := dk_172 (dk_at dksX9_number_1 17 rfl rfl)
abbrev cX9_digit : ByteArray := prog_9_method_4_code
def yX9_digit : MethodName := ⟨RX9, "digit", "()I"⟩
def dkwX9_digit_0 : List UInt8 := [42, 16, 48, 16, 57, 182, 0, 46, 172]
abbrev dktX9_digit_0 : List UInt8 := dkwX9_digit_0 ++ []
theorem dksX9_digit_0 : cX9_digit.data.toList.drop 0 = dktX9_digit_0 := by decide +kernel
theorem dX9_digit_0 : decode cX9_digit 0 = .ok (.aload_n 0, 1) := dk_42 (dk_at dksX9_digit_0 0 rfl rfl)
theorem dX9_digit_1 : decode cX9_digit 1 = .ok (.bipush 48, 2) := dk_16 48 (dk_at dksX9_digit_0 1 rfl rfl)
theorem dX9_digit_3 : decode cX9_digit 3 = .ok (.bipush 57, 2) := dk_16 57 (dk_at dksX9_digit_0 3 rfl rfl)
theorem dX9_digit_5 : decode cX9_digit 5 = .ok (.invokevirtual 46, 3) := dk_182 0 46 (dk_at dksX9_digit_0 5 rfl rfl)
theorem dX9_digit_8 : decode cX9_digit 8 = .ok (.ireturn, 1) := dk_172 (dk_at dksX9_digit_0 8 rfl rfl)
abbrev cX9_one : ByteArray := prog_9_method_3_code
def yX9_one : MethodName := ⟨RX9, "one", "(CC)I"⟩
def dkwX9_one_2 : List UInt8 := [27, 100, 172]
abbrev dktX9_one_2 : List UInt8 := dkwX9_one_2 ++ []
def dkwX9_one_1 : List UInt8 := [180, 0, 13, 4, 96, 181, 0, 13, 42, 180, 0, 1, 180, 0, 17, 42, 180, 0, 13, 4, 100, 182, 0, 29]
abbrev dktX9_one_1 : List UInt8 := dkwX9_one_1 ++ dktX9_one_2
def dkwX9_one_0 : List UInt8 := [42, 27, 28, 182, 0, 37, 154, 0, 15, 187, 0, 41, 89, 42, 180, 0, 13, 183, 0, 43, 191, 42, 89]
abbrev dktX9_one_0 : List UInt8 := dkwX9_one_0 ++ dktX9_one_1
theorem dksX9_one_0 : cX9_one.data.toList.drop 0 = dktX9_one_0 := by decide +kernel
theorem dksX9_one_1 : cX9_one.data.toList.drop 23 = dktX9_one_1 := dk_seg dksX9_one_0 23 rfl rfl
theorem dksX9_one_2 : cX9_one.data.toList.drop 47 = dktX9_one_2 := dk_seg dksX9_one_1 24 rfl rfl
theorem dX9_one_0 : decode cX9_one 0 = .ok (.aload_n 0, 1) := dk_42 (dk_at dksX9_one_0 0 rfl rfl)
theorem dX9_one_1 : decode cX9_one 1 = .ok (.iload_n 1, 1) := dk_27 (dk_at dksX9_one_0 1 rfl rfl)
theorem dX9_one_2 : decode cX9_one 2 = .ok (.iload_n 2, 1) := dk_28 (dk_at dksX9_one_0 2 rfl rfl)
theorem dX9_one_3 : decode cX9_one 3 = .ok (.invokevirtual 37, 3) := dk_182 0 37 (dk_at dksX9_one_0 3 rfl rfl)
theorem dX9_one_6 : decode cX9_one 6 = .ok (.ifCond .ne 15, 3) := dk_154 0 15 (dk_at dksX9_one_0 6 rfl rfl)
theorem dX9_one_9 : decode cX9_one 9 = .ok (.new 41, 3) := dk_187 0 41 (dk_at dksX9_one_0 9 rfl rfl)
theorem dX9_one_12 : decode cX9_one 12 = .ok (.dup, 1) := dk_89 (dk_at dksX9_one_0 12 rfl rfl)
theorem dX9_one_13 : decode cX9_one 13 = .ok (.aload_n 0, 1) := dk_42 (dk_at dksX9_one_0 13 rfl rfl)
theorem dX9_one_14 : decode cX9_one 14 = .ok (.getfield 13, 3) := dk_180 0 13 (dk_at dksX9_one_0 14 rfl rfl)
theorem dX9_one_17 : decode cX9_one 17 = .ok (.invokespecial 43, 3) := dk_183 0 43 (dk_at dksX9_one_0 17 rfl rfl)
theorem dX9_one_20 : decode cX9_one 20 = .ok (.athrow, 1) := dk_191 (dk_at dksX9_one_0 20 rfl rfl)
theorem dX9_one_21 : decode cX9_one 21 = .ok (.aload_n 0, 1) := dk_42 (dk_at dksX9_one_0 21 rfl rfl)
theorem dX9_one_22 : decode cX9_one 22 = .ok (.dup, 1) := dk_89 (dk_at dksX9_one_0 22 rfl rfl)
theorem dX9_one_23 : decode cX9_one 23 = .ok (.getfield 13, 3) := dk_180 0 13 (dk_at dksX9_one_1 0 rfl rfl)
theorem dX9_one_26 : decode cX9_one 26 = .ok (.iconst 1, 1) := dk_4 (dk_at dksX9_one_1 3 rfl rfl)
theorem dX9_one_27 : decode cX9_one 27 = .ok (.iadd, 1) := dk_96 (dk_at dksX9_one_1 4 rfl rfl)
theorem dX9_one_28 : decode cX9_one 28 = .ok (.putfield 13, 3) := dk_181 0 13 (dk_at dksX9_one_1 5 rfl rfl)
theorem dX9_one_31 : decode cX9_one 31 = .ok (.aload_n 0, 1) := dk_42 (dk_at dksX9_one_1 8 rfl rfl)
theorem dX9_one_32 : decode cX9_one 32 = .ok (.getfield 1, 3) := dk_180 0 1 (dk_at dksX9_one_1 9 rfl rfl)
theorem dX9_one_35 : decode cX9_one 35 = .ok (.getfield 17, 3) := dk_180 0 17 (dk_at dksX9_one_1 12 rfl rfl)
theorem dX9_one_38 : decode cX9_one 38 = .ok (.aload_n 0, 1) := dk_42 (dk_at dksX9_one_1 15 rfl rfl)
theorem dX9_one_39 : decode cX9_one 39 = .ok (.getfield 13, 3) := dk_180 0 13 (dk_at dksX9_one_1 16 rfl rfl)
theorem dX9_one_42 : decode cX9_one 42 = .ok (.iconst 1, 1) := dk_4 (dk_at dksX9_one_1 19 rfl rfl)
theorem dX9_one_43 : decode cX9_one 43 = .ok (.isub, 1) := dk_100 (dk_at dksX9_one_1 20 rfl rfl)
theorem dX9_one_44 : decode cX9_one 44 = .ok (.invokevirtual 29, 3) := dk_182 0 29 (dk_at dksX9_one_1 21 rfl rfl)
theorem dX9_one_47 : decode cX9_one 47 = .ok (.iload_n 1, 1) := dk_27 (dk_at dksX9_one_2 0 rfl rfl)
theorem dX9_one_48 : decode cX9_one 48 = .ok (.isub, 1) := dk_100 (dk_at dksX9_one_2 1 rfl rfl)
theorem dX9_one_49 : decode cX9_one 49 = .ok (.ireturn, 1) := dk_172 (dk_at dksX9_one_2 2 rfl rfl)
abbrev cX9_isNext : ByteArray := prog_9_method_2_code
def yX9_isNext : MethodName := ⟨RX9, "isNext", "(CC)Z"⟩
def dkwX9_isNext_1 : List UInt8 := [42, 180, 0, 13, 182, 0, 29, 27, 28, 184, 0, 33, 153, 0, 7, 4, 167, 0, 4, 3, 172]
abbrev dktX9_isNext_1 : List UInt8 := dkwX9_isNext_1 ++ []
def dkwX9_isNext_0 : List UInt8 := [42, 180, 0, 13, 42, 180, 0, 1, 180, 0, 17, 182, 0, 23, 162, 0, 29, 42, 180, 0, 1, 180, 0, 17]
abbrev dktX9_isNext_0 : List UInt8 := dkwX9_isNext_0 ++ dktX9_isNext_1
theorem dksX9_isNext_0 : cX9_isNext.data.toList.drop 0 = dktX9_isNext_0 := by decide +kernel
theorem dksX9_isNext_1 : cX9_isNext.data.toList.drop 24 = dktX9_isNext_1 := dk_seg dksX9_isNext_0 24 rfl rfl
theorem dX9_isNext_0 : decode cX9_isNext 0 = .ok (.aload_n 0, 1) := dk_42 (dk_at dksX9_isNext_0 0 rfl rfl)
theorem dX9_isNext_1 : decode cX9_isNext 1 = .ok (.getfield 13, 3) := dk_180 0 13 (dk_at dksX9_isNext_0 1 rfl rfl)
theorem dX9_isNext_4 : decode cX9_isNext 4 = .ok (.aload_n 0, 1) := dk_42 (dk_at dksX9_isNext_0 4 rfl rfl)
theorem dX9_isNext_5 : decode cX9_isNext 5 = .ok (.getfield 1, 3) := dk_180 0 1 (dk_at dksX9_isNext_0 5 rfl rfl)
theorem dX9_isNext_8 : decode cX9_isNext 8 = .ok (.getfield 17, 3) := dk_180 0 17 (dk_at dksX9_isNext_0 8 rfl rfl)
theorem dX9_isNext_11 : decode cX9_isNext 11 = .ok (.invokevirtual 23, 3) := dk_182 0 23 (dk_at dksX9_isNext_0 11 rfl rfl)
theorem dX9_isNext_14 : decode cX9_isNext 14 = .ok (.if_icmp .ge 29, 3) := dk_162 0 29 (dk_at dksX9_isNext_0 14 rfl rfl)
theorem dX9_isNext_17 : decode cX9_isNext 17 = .ok (.aload_n 0, 1) := dk_42 (dk_at dksX9_isNext_0 17 rfl rfl)
theorem dX9_isNext_18 : decode cX9_isNext 18 = .ok (.getfield 1, 3) := dk_180 0 1 (dk_at dksX9_isNext_0 18 rfl rfl)
theorem dX9_isNext_21 : decode cX9_isNext 21 = .ok (.getfield 17, 3) := dk_180 0 17 (dk_at dksX9_isNext_0 21 rfl rfl)
theorem dX9_isNext_24 : decode cX9_isNext 24 = .ok (.aload_n 0, 1) := dk_42 (dk_at dksX9_isNext_1 0 rfl rfl)
theorem dX9_isNext_25 : decode cX9_isNext 25 = .ok (.getfield 13, 3) := dk_180 0 13 (dk_at dksX9_isNext_1 1 rfl rfl)
theorem dX9_isNext_28 : decode cX9_isNext 28 = .ok (.invokevirtual 29, 3) := dk_182 0 29 (dk_at dksX9_isNext_1 4 rfl rfl)
theorem dX9_isNext_31 : decode cX9_isNext 31 = .ok (.iload_n 1, 1) := dk_27 (dk_at dksX9_isNext_1 7 rfl rfl)
theorem dX9_isNext_32 : decode cX9_isNext 32 = .ok (.iload_n 2, 1) := dk_28 (dk_at dksX9_isNext_1 8 rfl rfl)
theorem dX9_isNext_33 : decode cX9_isNext 33 = .ok (.invokestatic 33, 3) := dk_184 0 33 (dk_at dksX9_isNext_1 9 rfl rfl)
theorem dX9_isNext_36 : decode cX9_isNext 36 = .ok (.ifCond .eq 7, 3) := dk_153 0 7 (dk_at dksX9_isNext_1 12 rfl rfl)
theorem dX9_isNext_39 : decode cX9_isNext 39 = .ok (.iconst 1, 1) := dk_4 (dk_at dksX9_isNext_1 15 rfl rfl)
theorem dX9_isNext_40 : decode cX9_isNext 40 = .ok (.goto 4, 3) := dk_167 0 4 (dk_at dksX9_isNext_1 16 rfl rfl)
theorem dX9_isNext_43 : decode cX9_isNext 43 = .ok (.iconst 0, 1) := dk_3 (dk_at dksX9_isNext_1 19 rfl rfl)
theorem dX9_isNext_44 : decode cX9_isNext 44 = .ok (.ireturn, 1) := dk_172 (dk_at dksX9_isNext_1 20 rfl rfl)
abbrev cX9_crossed : ByteArray := prog_9_method_7_code
def yX9_crossed : MethodName := ⟨RX9, "crossed", "()LTulipLines$Change;"⟩
def dkwX9_crossed_1 : List UInt8 := [16, 64, 182, 0, 57, 184, 0, 61, 176]
abbrev dktX9_crossed_1 : List UInt8 := dkwX9_crossed_1 ++ []
def dkwX9_crossed_0 : List UInt8 := [42, 5, 182, 0, 53, 60, 42, 16, 44, 16, 44, 182, 0, 46, 61, 42, 5, 182, 0, 53, 62, 27, 29, 42]
abbrev dktX9_crossed_0 : List UInt8 := dkwX9_crossed_0 ++ dktX9_crossed_1
theorem dksX9_crossed_0 : cX9_crossed.data.toList.drop 0 = dktX9_crossed_0 := by decide +kernel
theorem dksX9_crossed_1 : cX9_crossed.data.toList.drop 24 = dktX9_crossed_1 := dk_seg dksX9_crossed_0 24 rfl rfl
theorem dX9_crossed_0 : decode cX9_crossed 0 = .ok (.aload_n 0, 1) := dk_42 (dk_at dksX9_crossed_0 0 rfl rfl)
theorem dX9_crossed_1 : decode cX9_crossed 1 = .ok (.iconst 2, 1) := dk_5 (dk_at dksX9_crossed_0 1 rfl rfl)
theorem dX9_crossed_2 : decode cX9_crossed 2 = .ok (.invokevirtual 53, 3) := dk_182 0 53 (dk_at dksX9_crossed_0 2 rfl rfl)
theorem dX9_crossed_5 : decode cX9_crossed 5 = .ok (.istore_n 1, 1) := dk_60 (dk_at dksX9_crossed_0 5 rfl rfl)
theorem dX9_crossed_6 : decode cX9_crossed 6 = .ok (.aload_n 0, 1) := dk_42 (dk_at dksX9_crossed_0 6 rfl rfl)
theorem dX9_crossed_7 : decode cX9_crossed 7 = .ok (.bipush 44, 2) := dk_16 44 (dk_at dksX9_crossed_0 7 rfl rfl)
theorem dX9_crossed_9 : decode cX9_crossed 9 = .ok (.bipush 44, 2) := dk_16 44 (dk_at dksX9_crossed_0 9 rfl rfl)
theorem dX9_crossed_11 : decode cX9_crossed 11 = .ok (.invokevirtual 46, 3) := dk_182 0 46 (dk_at dksX9_crossed_0 11 rfl rfl)
theorem dX9_crossed_14 : decode cX9_crossed 14 = .ok (.istore_n 2, 1) := dk_61 (dk_at dksX9_crossed_0 14 rfl rfl)
theorem dX9_crossed_15 : decode cX9_crossed 15 = .ok (.aload_n 0, 1) := dk_42 (dk_at dksX9_crossed_0 15 rfl rfl)
theorem dX9_crossed_16 : decode cX9_crossed 16 = .ok (.iconst 2, 1) := dk_5 (dk_at dksX9_crossed_0 16 rfl rfl)
theorem dX9_crossed_17 : decode cX9_crossed 17 = .ok (.invokevirtual 53, 3) := dk_182 0 53 (dk_at dksX9_crossed_0 17 rfl rfl)
theorem dX9_crossed_20 : decode cX9_crossed 20 = .ok (.istore_n 3, 1) := dk_62 (dk_at dksX9_crossed_0 20 rfl rfl)
theorem dX9_crossed_21 : decode cX9_crossed 21 = .ok (.iload_n 1, 1) := dk_27 (dk_at dksX9_crossed_0 21 rfl rfl)
theorem dX9_crossed_22 : decode cX9_crossed 22 = .ok (.iload_n 3, 1) := dk_29 (dk_at dksX9_crossed_0 22 rfl rfl)
theorem dX9_crossed_23 : decode cX9_crossed 23 = .ok (.aload_n 0, 1) := dk_42 (dk_at dksX9_crossed_0 23 rfl rfl)
theorem dX9_crossed_24 : decode cX9_crossed 24 = .ok (.bipush 64, 2) := dk_16 64 (dk_at dksX9_crossed_1 0 rfl rfl)
theorem dX9_crossed_26 : decode cX9_crossed 26 = .ok (.invokevirtual 57, 3) := dk_182 0 57 (dk_at dksX9_crossed_1 2 rfl rfl)
theorem dX9_crossed_29 : decode cX9_crossed 29 = .ok (.invokestatic 61, 3) := dk_184 0 61 (dk_at dksX9_crossed_1 5 rfl rfl)
theorem dX9_crossed_32 : decode cX9_crossed 32 = .ok (.areturn, 1) := dk_176 (dk_at dksX9_crossed_1 8 rfl rfl)
abbrev cX9_digitBehind : ByteArray := prog_9_method_6_code
def yX9_digitBehind : MethodName := ⟨RX9, "digitBehind", "(C)I"⟩
def dkwX9_digitBehind_0 : List UInt8 := [42, 27, 27, 182, 0, 46, 61, 42, 182, 0, 50, 172]
abbrev dktX9_digitBehind_0 : List UInt8 := dkwX9_digitBehind_0 ++ []
theorem dksX9_digitBehind_0 : cX9_digitBehind.data.toList.drop 0 = dktX9_digitBehind_0 := by decide +kernel
theorem dX9_digitBehind_0 : decode cX9_digitBehind 0 = .ok (.aload_n 0, 1) := dk_42 (dk_at dksX9_digitBehind_0 0 rfl rfl)
theorem dX9_digitBehind_1 : decode cX9_digitBehind 1 = .ok (.iload_n 1, 1) := dk_27 (dk_at dksX9_digitBehind_0 1 rfl rfl)
theorem dX9_digitBehind_2 : decode cX9_digitBehind 2 = .ok (.iload_n 1, 1) := dk_27 (dk_at dksX9_digitBehind_0 2 rfl rfl)
theorem dX9_digitBehind_3 : decode cX9_digitBehind 3 = .ok (.invokevirtual 46, 3) := dk_182 0 46 (dk_at dksX9_digitBehind_0 3 rfl rfl)
theorem dX9_digitBehind_6 : decode cX9_digitBehind 6 = .ok (.istore_n 2, 1) := dk_61 (dk_at dksX9_digitBehind_0 6 rfl rfl)
theorem dX9_digitBehind_7 : decode cX9_digitBehind 7 = .ok (.aload_n 0, 1) := dk_42 (dk_at dksX9_digitBehind_0 7 rfl rfl)
theorem dX9_digitBehind_8 : decode cX9_digitBehind 8 = .ok (.invokevirtual 50, 3) := dk_182 0 50 (dk_at dksX9_digitBehind_0 8 rfl rfl)
theorem dX9_digitBehind_11 : decode cX9_digitBehind 11 = .ok (.ireturn, 1) := dk_172 (dk_at dksX9_digitBehind_0 11 rfl rfl)
theorem q98 : (Jvm.Cond.initialized "TulipLines$Reader") ∈ lw_all := lw_g (lw_at lw_m1 30 rfl) rfl
theorem q234 : (Jvm.Cond.fieldLinkNest "TulipLines$Reader" (17 : Nat) "TulipLines" "text" "Ljava/lang/StringBuilder;" "TulipLines") ∈ lw_tbl := lw_at lw_m1 166 rfl
theorem q506 : (Jvm.Cond.selects "TulipLines$Reader" ({ cls := "java/lang/Object", name := "getClass", desc := "()Ljava/lang/Class;" } : Jvm.MethodName) ({ cls := "java/lang/Object", name := "getClass", desc := "()Ljava/lang/Class;" } : Jvm.MethodName)) ∈ lw_all := lw_g (lw_at lw_m2 198 rfl) rfl
theorem q1193 : (Jvm.Cond.instantiable "TulipLines$Reader" (2 : Nat)) ∈ lw_all := lw_g (lw_at lw_m5 165 rfl) rfl
theorem q1195 : (Jvm.Cond.instanceMethod ({ cls := "TulipLines$Reader", name := "<init>", desc := "(LTulipLines;)V" } : Jvm.MethodName)) ∈ lw_all := lw_g (lw_at lw_m5 167 rfl) rfl
theorem q1196 : (Jvm.Cond.code ({ cls := "TulipLines$Reader", name := "<init>", desc := "(LTulipLines;)V" } : Jvm.MethodName) prog_9_method_1_code (2 : Nat) (Option.none : Option Jvm.ClassFile.FieldType)) ∈ lw_all := lw_g (lw_at lw_m5 168 rfl) rfl
theorem q1197 : (Jvm.Cond.methodLink "TulipLines$Reader" (7 : Nat) ({ cls := "java/lang/Object", name := "<init>", desc := "()V" } : Jvm.MethodName)) ∈ lw_all := lw_g (lw_at lw_m5 169 rfl) rfl
theorem q1198 : (Jvm.Cond.fieldLink "TulipLines$Reader" (13 : Nat) "TulipLines$Reader" "next" "I") ∈ lw_all := lw_g (lw_at lw_m5 170 rfl) rfl
theorem q1199 : (Jvm.Cond.fieldLink "TulipLines$Reader" (1 : Nat) "TulipLines$Reader" "this$0" "LTulipLines;") ∈ lw_all := lw_g (lw_at lw_m5 171 rfl) rfl
theorem q1200 : (Jvm.Cond.lays "TulipLines$Reader" "TulipLines$Reader" "next" "I") ∈ lw_all := lw_g (lw_at lw_m5 172 rfl) rfl
theorem q1201 : (Jvm.Cond.soleField "TulipLines$Reader" "next") ∈ lw_all := lw_g (lw_at lw_m5 173 rfl) rfl
theorem q1202 : (Jvm.Cond.laysFinal "TulipLines$Reader" "TulipLines$Reader" "this$0" "LTulipLines;") ∈ lw_all := lw_g (lw_at lw_m5 174 rfl) rfl
theorem q1203 : (Jvm.Cond.soleField "TulipLines$Reader" "this$0") ∈ lw_all := lw_g (lw_at lw_m5 175 rfl) rfl
theorem q1204 : (Jvm.Cond.superclass "TulipLines$Reader" "java/lang/Object") ∈ lw_all := lw_g (lw_at lw_m5 176 rfl) rfl
theorem q1206 : (Jvm.Cond.instanceMethod ({ cls := "TulipLines$Reader", name := "commands", desc := "()Ljava/util/ArrayList;" } : Jvm.MethodName)) ∈ lw_all := lw_g (lw_at lw_m5 178 rfl) rfl
theorem q1207 : (Jvm.Cond.selects "TulipLines$Reader" ({ cls := "TulipLines$Reader", name := "commands", desc := "()Ljava/util/ArrayList;" } : Jvm.MethodName) ({ cls := "TulipLines$Reader", name := "commands", desc := "()Ljava/util/ArrayList;" } : Jvm.MethodName)) ∈ lw_all := lw_g (lw_at lw_m5 179 rfl) rfl
theorem q1208 : (Jvm.Cond.code ({ cls := "TulipLines$Reader", name := "commands", desc := "()Ljava/util/ArrayList;" } : Jvm.MethodName) prog_9_method_9_code (3 : Nat) (Option.some (Jvm.ClassFile.FieldType.object "java/util/ArrayList"))) ∈ lw_all := lw_g (lw_at lw_m5 180 rfl) rfl
theorem q1209 : (Jvm.Cond.classLink "TulipLines$Reader" (99 : Nat) "java/util/ArrayList") ∈ lw_all := lw_g (lw_at lw_m5 181 rfl) rfl
theorem q1210 : (Jvm.Cond.methodLink "TulipLines$Reader" (101 : Nat) ({ cls := "java/util/ArrayList", name := "<init>", desc := "()V" } : Jvm.MethodName)) ∈ lw_all := lw_g (lw_at lw_m5 182 rfl) rfl
theorem q1211 : (Jvm.Cond.methodLink "TulipLines$Reader" (102 : Nat) ({ cls := "TulipLines$Reader", name := "command", desc := "()LTulipLines$Change;" } : Jvm.MethodName)) ∈ lw_all := lw_g (lw_at lw_m5 183 rfl) rfl
theorem q1212 : (Jvm.Cond.privateMethod ({ cls := "TulipLines$Reader", name := "command", desc := "()LTulipLines$Change;" } : Jvm.MethodName)) ∈ lw_tbl := lw_at lw_m5 184 rfl
theorem q1213 : (Jvm.Cond.instanceMethod ({ cls := "TulipLines$Reader", name := "command", desc := "()LTulipLines$Change;" } : Jvm.MethodName)) ∈ lw_all := lw_g (lw_at lw_m5 185 rfl) rfl
theorem q1214 : (Jvm.Cond.code ({ cls := "TulipLines$Reader", name := "command", desc := "()LTulipLines$Change;" } : Jvm.MethodName) prog_9_method_8_code (2 : Nat) (Option.some (Jvm.ClassFile.FieldType.object "TulipLines$Change"))) ∈ lw_all := lw_g (lw_at lw_m5 186 rfl) rfl
theorem q1215 : (Jvm.Cond.methodLink "TulipLines$Reader" (23 : Nat) ({ cls := "java/lang/StringBuilder", name := "length", desc := "()I" } : Jvm.MethodName)) ∈ lw_all := lw_g (lw_at lw_m5 187 rfl) rfl
theorem q1216 : (Jvm.Cond.stringRef "TulipLines$Reader" (65 : Nat) "pxdwlryh") ∈ lw_tbl := lw_at lw_m5 188 rfl
theorem q1217 : (Jvm.Cond.methodLink "TulipLines$Reader" (29 : Nat) ({ cls := "java/lang/StringBuilder", name := "charAt", desc := "(I)C" } : Jvm.MethodName)) ∈ lw_all := lw_g (lw_at lw_m5 189 rfl) rfl
theorem q1227 : (Jvm.Cond.methodLink "TulipLines$Reader" (67 : Nat) ({ cls := "java/lang/String", name := "indexOf", desc := "(I)I" } : Jvm.MethodName)) ∈ lw_all := lw_g (lw_at lw_m5 199 rfl) rfl
theorem q1273 : (Jvm.Cond.classLink "TulipLines$Reader" (41 : Nat) "TulipLines$SyntaxException") ∈ lw_all := lw_g (lw_at lw_m6 5 rfl) rfl
theorem q1282 : (Jvm.Cond.methodLink "TulipLines$Reader" (43 : Nat) ({ cls := "TulipLines$SyntaxException", name := "<init>", desc := "(I)V" } : Jvm.MethodName)) ∈ lw_all := lw_g (lw_at lw_m6 14 rfl) rfl
theorem q1292 : (Jvm.Cond.methodLink "TulipLines$Reader" (53 : Nat) ({ cls := "TulipLines$Reader", name := "number", desc := "(I)I" } : Jvm.MethodName)) ∈ lw_all := lw_g (lw_at lw_m6 24 rfl) rfl
theorem q1293 : (Jvm.Cond.privateMethod ({ cls := "TulipLines$Reader", name := "number", desc := "(I)I" } : Jvm.MethodName)) ∈ lw_tbl := lw_at lw_m6 25 rfl
theorem q1294 : (Jvm.Cond.instanceMethod ({ cls := "TulipLines$Reader", name := "number", desc := "(I)I" } : Jvm.MethodName)) ∈ lw_all := lw_g (lw_at lw_m6 26 rfl) rfl
theorem q1295 : (Jvm.Cond.code ({ cls := "TulipLines$Reader", name := "number", desc := "(I)I" } : Jvm.MethodName) prog_9_method_5_code (4 : Nat) (Option.some Jvm.ClassFile.FieldType.int)) ∈ lw_all := lw_g (lw_at lw_m6 27 rfl) rfl
theorem q1296 : (Jvm.Cond.methodLink "TulipLines$Reader" (50 : Nat) ({ cls := "TulipLines$Reader", name := "digit", desc := "()I" } : Jvm.MethodName)) ∈ lw_all := lw_g (lw_at lw_m6 28 rfl) rfl
theorem q1297 : (Jvm.Cond.privateMethod ({ cls := "TulipLines$Reader", name := "digit", desc := "()I" } : Jvm.MethodName)) ∈ lw_tbl := lw_at lw_m6 29 rfl
theorem q1298 : (Jvm.Cond.instanceMethod ({ cls := "TulipLines$Reader", name := "digit", desc := "()I" } : Jvm.MethodName)) ∈ lw_all := lw_g (lw_at lw_m6 30 rfl) rfl
theorem q1299 : (Jvm.Cond.code ({ cls := "TulipLines$Reader", name := "digit", desc := "()I" } : Jvm.MethodName) prog_9_method_4_code (1 : Nat) (Option.some Jvm.ClassFile.FieldType.int)) ∈ lw_all := lw_g (lw_at lw_m6 31 rfl) rfl
theorem q1300 : (Jvm.Cond.methodLink "TulipLines$Reader" (46 : Nat) ({ cls := "TulipLines$Reader", name := "one", desc := "(CC)I" } : Jvm.MethodName)) ∈ lw_all := lw_g (lw_at lw_m6 32 rfl) rfl
theorem q1301 : (Jvm.Cond.privateMethod ({ cls := "TulipLines$Reader", name := "one", desc := "(CC)I" } : Jvm.MethodName)) ∈ lw_tbl := lw_at lw_m6 33 rfl
theorem q1302 : (Jvm.Cond.instanceMethod ({ cls := "TulipLines$Reader", name := "one", desc := "(CC)I" } : Jvm.MethodName)) ∈ lw_all := lw_g (lw_at lw_m6 34 rfl) rfl
theorem q1303 : (Jvm.Cond.code ({ cls := "TulipLines$Reader", name := "one", desc := "(CC)I" } : Jvm.MethodName) prog_9_method_3_code (3 : Nat) (Option.some Jvm.ClassFile.FieldType.int)) ∈ lw_all := lw_g (lw_at lw_m6 35 rfl) rfl
theorem q1304 : (Jvm.Cond.methodLink "TulipLines$Reader" (37 : Nat) ({ cls := "TulipLines$Reader", name := "isNext", desc := "(CC)Z" } : Jvm.MethodName)) ∈ lw_all := lw_g (lw_at lw_m6 36 rfl) rfl
theorem q1305 : (Jvm.Cond.privateMethod ({ cls := "TulipLines$Reader", name := "isNext", desc := "(CC)Z" } : Jvm.MethodName)) ∈ lw_tbl := lw_at lw_m6 37 rfl
theorem q1306 : (Jvm.Cond.instanceMethod ({ cls := "TulipLines$Reader", name := "isNext", desc := "(CC)Z" } : Jvm.MethodName)) ∈ lw_all := lw_g (lw_at lw_m6 38 rfl) rfl
theorem q1307 : (Jvm.Cond.code ({ cls := "TulipLines$Reader", name := "isNext", desc := "(CC)Z" } : Jvm.MethodName) prog_9_method_2_code (3 : Nat) (Option.some Jvm.ClassFile.FieldType.boolean)) ∈ lw_all := lw_g (lw_at lw_m6 39 rfl) rfl
theorem q1308 : (Jvm.Cond.methodLinkNest "TulipLines$Reader" (33 : Nat) ({ cls := "TulipLines", name := "isBetween", desc := "(III)Z" } : Jvm.MethodName) "TulipLines") ∈ lw_tbl := lw_at lw_m6 40 rfl
theorem q1309 : (Jvm.Cond.methodLinkNest "TulipLines$Reader" (72 : Nat) ({ cls := "TulipLines", name := "planting", desc := "(I)LTulipLines$Change;" } : Jvm.MethodName) "TulipLines") ∈ lw_tbl := lw_at lw_m6 41 rfl
theorem q1310 : (Jvm.Cond.methodLink "TulipLines$Reader" (76 : Nat) ({ cls := "TulipLines$Reader", name := "crossed", desc := "()LTulipLines$Change;" } : Jvm.MethodName)) ∈ lw_all := lw_g (lw_at lw_m6 42 rfl) rfl
theorem q1311 : (Jvm.Cond.privateMethod ({ cls := "TulipLines$Reader", name := "crossed", desc := "()LTulipLines$Change;" } : Jvm.MethodName)) ∈ lw_tbl := lw_at lw_m6 43 rfl
theorem q1312 : (Jvm.Cond.instanceMethod ({ cls := "TulipLines$Reader", name := "crossed", desc := "()LTulipLines$Change;" } : Jvm.MethodName)) ∈ lw_all := lw_g (lw_at lw_m6 44 rfl) rfl
theorem q1313 : (Jvm.Cond.code ({ cls := "TulipLines$Reader", name := "crossed", desc := "()LTulipLines$Change;" } : Jvm.MethodName) prog_9_method_7_code (4 : Nat) (Option.some (Jvm.ClassFile.FieldType.object "TulipLines$Change"))) ∈ lw_all := lw_g (lw_at lw_m6 45 rfl) rfl
theorem q1314 : (Jvm.Cond.methodLink "TulipLines$Reader" (57 : Nat) ({ cls := "TulipLines$Reader", name := "digitBehind", desc := "(C)I" } : Jvm.MethodName)) ∈ lw_all := lw_g (lw_at lw_m6 46 rfl) rfl
theorem q1315 : (Jvm.Cond.privateMethod ({ cls := "TulipLines$Reader", name := "digitBehind", desc := "(C)I" } : Jvm.MethodName)) ∈ lw_tbl := lw_at lw_m6 47 rfl
theorem q1316 : (Jvm.Cond.instanceMethod ({ cls := "TulipLines$Reader", name := "digitBehind", desc := "(C)I" } : Jvm.MethodName)) ∈ lw_all := lw_g (lw_at lw_m6 48 rfl) rfl
theorem q1317 : (Jvm.Cond.code ({ cls := "TulipLines$Reader", name := "digitBehind", desc := "(C)I" } : Jvm.MethodName) prog_9_method_6_code (3 : Nat) (Option.some Jvm.ClassFile.FieldType.int)) ∈ lw_all := lw_g (lw_at lw_m6 49 rfl) rfl
theorem q1318 : (Jvm.Cond.methodLinkNest "TulipLines$Reader" (61 : Nat) ({ cls := "TulipLines", name := "crossing", desc := "(III)LTulipLines$Change;" } : Jvm.MethodName) "TulipLines") ∈ lw_tbl := lw_at lw_m6 50 rfl
theorem q1319 : (Jvm.Cond.methodLinkNest "TulipLines$Reader" (80 : Nat) ({ cls := "TulipLines", name := "dying", desc := "(I)LTulipLines$Change;" } : Jvm.MethodName) "TulipLines") ∈ lw_tbl := lw_at lw_m6 51 rfl
theorem q1320 : (Jvm.Cond.methodLinkNest "TulipLines$Reader" (83 : Nat) ({ cls := "TulipLines", name := "wanting", desc := "(I)LTulipLines$Change;" } : Jvm.MethodName) "TulipLines") ∈ lw_tbl := lw_at lw_m6 52 rfl
theorem q1321 : (Jvm.Cond.methodLinkNest "TulipLines$Reader" (86 : Nat) ({ cls := "TulipLines", name := "lucky", desc := "(I)LTulipLines$Change;" } : Jvm.MethodName) "TulipLines") ∈ lw_tbl := lw_at lw_m6 53 rfl
theorem q1322 : (Jvm.Cond.methodLinkNest "TulipLines$Reader" (89 : Nat) ({ cls := "TulipLines", name := "roomy", desc := "(I)LTulipLines$Change;" } : Jvm.MethodName) "TulipLines") ∈ lw_tbl := lw_at lw_m6 54 rfl
theorem q1323 : (Jvm.Cond.methodLinkNest "TulipLines$Reader" (92 : Nat) ({ cls := "TulipLines", name := "passing", desc := "(I)LTulipLines$Change;" } : Jvm.MethodName) "TulipLines") ∈ lw_tbl := lw_at lw_m6 55 rfl
theorem q1324 : (Jvm.Cond.methodLinkNest "TulipLines$Reader" (95 : Nat) ({ cls := "TulipLines", name := "weighing", desc := "(II)LTulipLines$Change;" } : Jvm.MethodName) "TulipLines") ∈ lw_tbl := lw_at lw_m6 56 rfl
theorem q1325 : (Jvm.Cond.methodLink "TulipLines$Reader" (105 : Nat) ({ cls := "java/util/ArrayList", name := "add", desc := "(Ljava/lang/Object;)Z" } : Jvm.MethodName)) ∈ lw_all := lw_g (lw_at lw_m6 57 rfl) rfl
theorem q1830 : (Jvm.Cond.castable "TulipLines$Reader" "java/lang/Object") ∈ lw_tbl := lw_at lw_m8 82 rfl
theorem in_X9 : ∀ w ∈ wsX90, w ∈ lw_all := lw_in wsX90 [1200, 1202] (by decide +kernel) (by decide +kernel)
/-! TulipLines$SyntaxException -/
set_option maxRecDepth 100000
def RX10 : String := "TulipLines$SyntaxException"
def TX10 : u_T := fun k => match k with
  | 0 => ("java/lang/Throwable", "cause", "Ljava/lang/Throwable;", false)
  | 1 => ("java/lang/Throwable", "stackTrace", "[Ljava/lang/StackTraceElement;", false)
  | 2 => ("java/lang/Throwable", "suppressedExceptions", "Ljava/util/List;", false)
  | 3 => ("java/lang/Throwable", "detailMessage", "Ljava/lang/String;", false)
  | 4 => ("java/lang/Throwable", "backtrace", "Ljava/lang/Object;", false)
  | 5 => ("java/lang/Throwable", "depth", "I", false)
  | _ => ("TulipLines$SyntaxException", "place", "I", true)
def tyX10 : Nat → FieldType := fun k => match k with
  | 0 => .object "java/lang/Throwable"
  | 1 => .array (.object "java/lang/StackTraceElement")
  | 2 => .object "java/util/List"
  | 3 => .object "java/lang/String"
  | 4 => .object "java/lang/Object"
  | 5 => .int
  | _ => .int
abbrev wsX100 : List Cond := u_ws RX10 TX10 7
theorem nmX10 : ∀ a, a < 7 → ∀ b, b < 7 → a ≠ b → (TX10 a).2.1 ≠ (TX10 b).2.1 := by decide +kernel
theorem tyX10_ok : ∀ k, k < 7 → parseFieldDescriptor (TX10 k).2.2.1 = some (tyX10 k) := by decide +kernel
abbrev cX10_init : ByteArray := prog_11_method_1_code
def yX10_init : MethodName := ⟨RX10, "<init>", "(I)V"⟩
def dkwX10_init_0 : List UInt8 := [42, 183, 0, 1, 42, 27, 181, 0, 7, 177]
abbrev dktX10_init_0 : List UInt8 := dkwX10_init_0 ++ []
theorem dksX10_init_0 : cX10_init.data.toList.drop 0 = dktX10_init_0 := by decide +kernel
theorem dX10_init_0 : decode cX10_init 0 = .ok (.aload_n 0, 1) := dk_42 (dk_at dksX10_init_0 0 rfl rfl)
theorem dX10_init_1 : decode cX10_init 1 = .ok (.invokespecial 1, 3) := dk_183 0 1 (dk_at dksX10_init_0 1 rfl rfl)
theorem dX10_init_4 : decode cX10_init 4 = .ok (.aload_n 0, 1) := dk_42 (dk_at dksX10_init_0 4 rfl rfl)
theorem dX10_init_5 : decode cX10_init 5 = .ok (.iload_n 1, 1) := dk_27 (dk_at dksX10_init_0 5 rfl rfl)
theorem dX10_init_6 : decode cX10_init 6 = .ok (.putfield 7, 3) := dk_181 0 7 (dk_at dksX10_init_0 6 rfl rfl)
theorem dX10_init_9 : decode cX10_init 9 = .ok (.return_, 1) := dk_177 (dk_at dksX10_init_0 9 rfl rfl)
theorem q100 : (Jvm.Cond.initialized "TulipLines$SyntaxException") ∈ lw_all := lw_g (lw_at lw_m1 32 rfl) rfl
theorem q300 : (Jvm.Cond.selects "TulipLines$SyntaxException" ({ cls := "java/lang/Throwable", name := "fillInStackTrace", desc := "()Ljava/lang/Throwable;" } : Jvm.MethodName) ({ cls := "java/lang/Throwable", name := "fillInStackTrace", desc := "()Ljava/lang/Throwable;" } : Jvm.MethodName)) ∈ lw_all := lw_g (lw_at lw_m1 232 rfl) rfl
theorem q508 : (Jvm.Cond.selects "TulipLines$SyntaxException" ({ cls := "java/lang/Object", name := "getClass", desc := "()Ljava/lang/Class;" } : Jvm.MethodName) ({ cls := "java/lang/Object", name := "getClass", desc := "()Ljava/lang/Class;" } : Jvm.MethodName)) ∈ lw_all := lw_g (lw_at lw_m2 200 rfl) rfl
theorem q1274 : (Jvm.Cond.instantiable "TulipLines$SyntaxException" (7 : Nat)) ∈ lw_all := lw_g (lw_at lw_m6 6 rfl) rfl
theorem q1275 : (Jvm.Cond.castable "TulipLines$SyntaxException" "TulipLines$SyntaxException") ∈ lw_tbl := lw_at lw_m6 7 rfl
theorem q1276 : (Jvm.Cond.selects "TulipLines$SyntaxException" ({ cls := "java/lang/Throwable", name := "fillInStackTrace", desc := "(I)Ljava/lang/Throwable;" } : Jvm.MethodName) ({ cls := "java/lang/Throwable", name := "fillInStackTrace", desc := "(I)Ljava/lang/Throwable;" } : Jvm.MethodName)) ∈ lw_all := lw_g (lw_at lw_m6 8 rfl) rfl
theorem q1277 : (Jvm.Cond.lays "TulipLines$SyntaxException" "java/lang/Throwable" "cause" "Ljava/lang/Throwable;") ∈ lw_all := lw_g (lw_at lw_m6 9 rfl) rfl
theorem q1278 : (Jvm.Cond.lays "TulipLines$SyntaxException" "java/lang/Throwable" "stackTrace" "[Ljava/lang/StackTraceElement;") ∈ lw_all := lw_g (lw_at lw_m6 10 rfl) rfl
theorem q1279 : (Jvm.Cond.lays "TulipLines$SyntaxException" "java/lang/Throwable" "suppressedExceptions" "Ljava/util/List;") ∈ lw_all := lw_g (lw_at lw_m6 11 rfl) rfl
theorem q1280 : (Jvm.Cond.lays "TulipLines$SyntaxException" "java/lang/Throwable" "detailMessage" "Ljava/lang/String;") ∈ lw_all := lw_g (lw_at lw_m6 12 rfl) rfl
theorem q1281 : (Jvm.Cond.lays "TulipLines$SyntaxException" "java/lang/Throwable" "backtrace" "Ljava/lang/Object;") ∈ lw_all := lw_g (lw_at lw_m6 13 rfl) rfl
theorem q1283 : (Jvm.Cond.instanceMethod ({ cls := "TulipLines$SyntaxException", name := "<init>", desc := "(I)V" } : Jvm.MethodName)) ∈ lw_all := lw_g (lw_at lw_m6 15 rfl) rfl
theorem q1284 : (Jvm.Cond.code ({ cls := "TulipLines$SyntaxException", name := "<init>", desc := "(I)V" } : Jvm.MethodName) prog_11_method_1_code (2 : Nat) (Option.none : Option Jvm.ClassFile.FieldType)) ∈ lw_all := lw_g (lw_at lw_m6 16 rfl) rfl
theorem q1285 : (Jvm.Cond.methodLink "TulipLines$SyntaxException" (1 : Nat) ({ cls := "java/lang/Exception", name := "<init>", desc := "()V" } : Jvm.MethodName)) ∈ lw_all := lw_g (lw_at lw_m6 17 rfl) rfl
theorem q1286 : (Jvm.Cond.fieldLink "TulipLines$SyntaxException" (7 : Nat) "TulipLines$SyntaxException" "place" "I") ∈ lw_all := lw_g (lw_at lw_m6 18 rfl) rfl
theorem q1288 : (Jvm.Cond.laysFinal "TulipLines$SyntaxException" "TulipLines$SyntaxException" "place" "I") ∈ lw_all := lw_g (lw_at lw_m6 20 rfl) rfl
theorem q1289 : (Jvm.Cond.soleField "TulipLines$SyntaxException" "place") ∈ lw_all := lw_g (lw_at lw_m6 21 rfl) rfl
theorem q1290 : (Jvm.Cond.lays "TulipLines$SyntaxException" "java/lang/Throwable" "depth" "I") ∈ lw_all := lw_g (lw_at lw_m6 22 rfl) rfl
theorem q1291 : (Jvm.Cond.superclass "TulipLines$SyntaxException" "java/lang/Exception") ∈ lw_all := lw_g (lw_at lw_m6 23 rfl) rfl
theorem q1831 : (Jvm.Cond.castable "TulipLines$SyntaxException" "java/lang/Object") ∈ lw_tbl := lw_at lw_m8 83 rfl
theorem in_X10 : ∀ w ∈ wsX100, w ∈ lw_all := lw_in wsX100 [1277, 1278, 1279, 1280, 1281, 1290, 1288] (by decide +kernel) (by decide +kernel)
