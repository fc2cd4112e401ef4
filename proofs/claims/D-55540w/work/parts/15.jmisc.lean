/-! java/lang/Throwable -/
set_option maxRecDepth 100000
def RJ8 : String := "java/lang/Throwable"
def TJ8 : u_T := fun k => match k with
  | 0 => ("java/lang/Throwable", "cause", "Ljava/lang/Throwable;", false)
  | 1 => ("java/lang/Throwable", "stackTrace", "[Ljava/lang/StackTraceElement;", false)
  | 2 => ("java/lang/Throwable", "suppressedExceptions", "Ljava/util/List;", false)
  | 3 => ("java/lang/Throwable", "detailMessage", "Ljava/lang/String;", false)
  | _ => ("java/lang/Throwable", "backtrace", "Ljava/lang/Object;", false)
def tyJ8 : Nat → FieldType := fun k => match k with
  | 0 => .object "java/lang/Throwable"
  | 1 => .array (.object "java/lang/StackTraceElement")
  | 2 => .object "java/util/List"
  | 3 => .object "java/lang/String"
  | _ => .object "java/lang/Object"
abbrev wsJ80 : List Cond := u_ws RJ8 TJ8 5
theorem nmJ8 : ∀ a, a < 5 → ∀ b, b < 5 → a ≠ b → (TJ8 a).2.1 ≠ (TJ8 b).2.1 := by decide +kernel
theorem tyJ8_ok : ∀ k, k < 5 → parseFieldDescriptor (TJ8 k).2.2.1 = some (tyJ8 k) := by decide +kernel
abbrev cJ8_init : ByteArray := prog_33_method_1_code
def yJ8_init : MethodName := ⟨RJ8, "<init>", "()V"⟩
def dkwJ8_init_1 : List UInt8 := [182, 0, 27, 87, 177]
abbrev dktJ8_init_1 : List UInt8 := dkwJ8_init_1 ++ []
def dkwJ8_init_0 : List UInt8 := [42, 183, 0, 1, 42, 42, 181, 0, 7, 42, 178, 0, 13, 181, 0, 17, 42, 178, 0, 20, 181, 0, 24, 42]
abbrev dktJ8_init_0 : List UInt8 := dkwJ8_init_0 ++ dktJ8_init_1
theorem dksJ8_init_0 : cJ8_init.data.toList.drop 0 = dktJ8_init_0 := by decide +kernel
theorem dksJ8_init_1 : cJ8_init.data.toList.drop 24 = dktJ8_init_1 := dk_seg dksJ8_init_0 24 rfl rfl
theorem dJ8_init_0 : decode cJ8_init 0 = .ok (.aload_n 0, 1) := dk_42 (dk_at dksJ8_init_0 0 rfl rfl)
theorem dJ8_init_1 : decode cJ8_init 1 = .ok (.invokespecial 1, 3) := dk_183 0 1 (dk_at dksJ8_init_0 1 rfl rfl)
theorem dJ8_init_4 : decode cJ8_init 4 = .ok (.aload_n 0, 1) := dk_42 (dk_at dksJ8_init_0 4 rfl rfl)
theorem dJ8_init_5 : decode cJ8_init 5 = .ok (.aload_n 0, 1) := dk_42 (dk_at dksJ8_init_0 5 rfl rfl)
theorem dJ8_init_6 : decode cJ8_init 6 = .ok (.putfield 7, 3) := dk_181 0 7 (dk_at dksJ8_init_0 6 rfl rfl)
theorem dJ8_init_9 : decode cJ8_init 9 = .ok (.aload_n 0, 1) := dk_42 (dk_at dksJ8_init_0 9 rfl rfl)
theorem dJ8_init_10 : decode cJ8_init 10 = .ok (.getstatic 13, 3) := dk_178 0 13 (dk_at dksJ8_init_0 10 rfl rfl)
theorem dJ8_init_13 : decode cJ8_init 13 = .ok (.putfield 17, 3) := dk_181 0 17 (dk_at dksJ8_init_0 13 rfl rfl)
theorem dJ8_init_16 : decode cJ8_init 16 = .ok (.aload_n 0, 1) := dk_42 (dk_at dksJ8_init_0 16 rfl rfl)
theorem dJ8_init_17 : decode cJ8_init 17 = .ok (.getstatic 20, 3) := dk_178 0 20 (dk_at dksJ8_init_0 17 rfl rfl)
theorem dJ8_init_20 : decode cJ8_init 20 = .ok (.putfield 24, 3) := dk_181 0 24 (dk_at dksJ8_init_0 20 rfl rfl)
theorem dJ8_init_23 : decode cJ8_init 23 = .ok (.aload_n 0, 1) := dk_42 (dk_at dksJ8_init_0 23 rfl rfl)
theorem dJ8_init_24 : decode cJ8_init 24 = .ok (.invokevirtual 27, 3) := dk_182 0 27 (dk_at dksJ8_init_1 0 rfl rfl)
theorem dJ8_init_27 : decode cJ8_init 27 = .ok (.pop, 1) := dk_87 (dk_at dksJ8_init_1 3 rfl rfl)
theorem dJ8_init_28 : decode cJ8_init 28 = .ok (.return_, 1) := dk_177 (dk_at dksJ8_init_1 4 rfl rfl)
theorem q80 : (Jvm.Cond.initialized "java/lang/Throwable") ∈ lw_all := lw_g (lw_at lw_m1 12 rfl) rfl
theorem q273 : (Jvm.Cond.declares ({ cls := "java/lang/Throwable", name := "<init>", desc := "()V" } : Jvm.MethodName)) ∈ lw_tbl := lw_at lw_m1 205 rfl
theorem q274 : (Jvm.Cond.declares ({ cls := "java/lang/Throwable", name := "<init>", desc := "(Ljava/lang/String;)V" } : Jvm.MethodName)) ∈ lw_tbl := lw_at lw_m1 206 rfl
theorem q278 : (Jvm.Cond.lays "java/lang/Throwable" "java/lang/Throwable" "cause" "Ljava/lang/Throwable;") ∈ lw_all := lw_g (lw_at lw_m1 210 rfl) rfl
theorem q280 : (Jvm.Cond.lays "java/lang/Throwable" "java/lang/Throwable" "stackTrace" "[Ljava/lang/StackTraceElement;") ∈ lw_all := lw_g (lw_at lw_m1 212 rfl) rfl
theorem q282 : (Jvm.Cond.lays "java/lang/Throwable" "java/lang/Throwable" "suppressedExceptions" "Ljava/util/List;") ∈ lw_all := lw_g (lw_at lw_m1 214 rfl) rfl
theorem q284 : (Jvm.Cond.lays "java/lang/Throwable" "java/lang/Throwable" "detailMessage" "Ljava/lang/String;") ∈ lw_all := lw_g (lw_at lw_m1 216 rfl) rfl
theorem q286 : (Jvm.Cond.lays "java/lang/Throwable" "java/lang/Throwable" "backtrace" "Ljava/lang/Object;") ∈ lw_all := lw_g (lw_at lw_m1 218 rfl) rfl
theorem q287 : (Jvm.Cond.fieldLink "java/lang/Throwable" (198 : Nat) "java/lang/Throwable" "backtrace" "Ljava/lang/Object;") ∈ lw_all := lw_g (lw_at lw_m1 219 rfl) rfl
theorem q288 : (Jvm.Cond.superclass "java/lang/Throwable" "java/lang/Object") ∈ lw_all := lw_g (lw_at lw_m1 220 rfl) rfl
theorem q289 : (Jvm.Cond.instanceMethod ({ cls := "java/lang/Throwable", name := "<init>", desc := "()V" } : Jvm.MethodName)) ∈ lw_all := lw_g (lw_at lw_m1 221 rfl) rfl
theorem q290 : (Jvm.Cond.code ({ cls := "java/lang/Throwable", name := "<init>", desc := "()V" } : Jvm.MethodName) prog_33_method_1_code (1 : Nat) (Option.none : Option Jvm.ClassFile.FieldType)) ∈ lw_all := lw_g (lw_at lw_m1 222 rfl) rfl
theorem q291 : (Jvm.Cond.methodLink "java/lang/Throwable" (1 : Nat) ({ cls := "java/lang/Object", name := "<init>", desc := "()V" } : Jvm.MethodName)) ∈ lw_all := lw_g (lw_at lw_m1 223 rfl) rfl
theorem q292 : (Jvm.Cond.fieldLink "java/lang/Throwable" (13 : Nat) "java/lang/Throwable" "UNASSIGNED_STACK" "[Ljava/lang/StackTraceElement;") ∈ lw_all := lw_g (lw_at lw_m1 224 rfl) rfl
theorem q293 : (Jvm.Cond.laysStatic "java/lang/Throwable" "UNASSIGNED_STACK" "[Ljava/lang/StackTraceElement;") ∈ lw_tbl := lw_at lw_m1 225 rfl
theorem q294 : (Jvm.Cond.fieldLink "java/lang/Throwable" (20 : Nat) "java/lang/Throwable" "SUPPRESSED_SENTINEL" "Ljava/util/List;") ∈ lw_all := lw_g (lw_at lw_m1 226 rfl) rfl
theorem q295 : (Jvm.Cond.laysStatic "java/lang/Throwable" "SUPPRESSED_SENTINEL" "Ljava/util/List;") ∈ lw_tbl := lw_at lw_m1 227 rfl
theorem q296 : (Jvm.Cond.methodLink "java/lang/Throwable" (27 : Nat) ({ cls := "java/lang/Throwable", name := "fillInStackTrace", desc := "()Ljava/lang/Throwable;" } : Jvm.MethodName)) ∈ lw_all := lw_g (lw_at lw_m1 228 rfl) rfl
theorem q297 : (Jvm.Cond.instanceMethod ({ cls := "java/lang/Throwable", name := "fillInStackTrace", desc := "()Ljava/lang/Throwable;" } : Jvm.MethodName)) ∈ lw_all := lw_g (lw_at lw_m1 229 rfl) rfl
theorem q298 : (Jvm.Cond.sameMethod "java/lang/Throwable" "java/lang/Throwable" "fillInStackTrace" "()Ljava/lang/Throwable;") ∈ lw_all := lw_g (lw_at lw_m1 230 rfl) rfl
theorem q301 : (Jvm.Cond.codeSync ({ cls := "java/lang/Throwable", name := "fillInStackTrace", desc := "()Ljava/lang/Throwable;" } : Jvm.MethodName) prog_33_method_18_code (1 : Nat) (Option.some (Jvm.ClassFile.FieldType.object "java/lang/Throwable"))) ∈ lw_all := lw_g (lw_at lw_m1 233 rfl) rfl
theorem q302 : (Jvm.Cond.methodLink "java/lang/Throwable" (202 : Nat) ({ cls := "java/lang/Throwable", name := "fillInStackTrace", desc := "(I)Ljava/lang/Throwable;" } : Jvm.MethodName)) ∈ lw_all := lw_g (lw_at lw_m1 234 rfl) rfl
theorem q303 : (Jvm.Cond.privateMethod ({ cls := "java/lang/Throwable", name := "fillInStackTrace", desc := "(I)Ljava/lang/Throwable;" } : Jvm.MethodName)) ∈ lw_tbl := lw_at lw_m1 235 rfl
theorem q304 : (Jvm.Cond.instanceMethod ({ cls := "java/lang/Throwable", name := "fillInStackTrace", desc := "(I)Ljava/lang/Throwable;" } : Jvm.MethodName)) ∈ lw_all := lw_g (lw_at lw_m1 236 rfl) rfl
theorem q305 : (Jvm.Cond.instantiable "java/lang/Throwable" (6 : Nat)) ∈ lw_all := lw_g (lw_at lw_m1 237 rfl) rfl
theorem q306 : (Jvm.Cond.native ({ cls := "java/lang/Throwable", name := "fillInStackTrace", desc := "(I)Ljava/lang/Throwable;" } : Jvm.MethodName)) ∈ lw_all := lw_g (lw_at lw_m1 238 rfl) rfl
theorem q316 : (Jvm.Cond.fieldLink "java/lang/Throwable" (198 : Nat) "java/lang/Throwable" "backtrace" "Ljava/lang/Object;") ∈ lw_all := lw_g (lw_at lw_m2 8 rfl) rfl
theorem q317 : (Jvm.Cond.fieldLink "java/lang/Throwable" (7 : Nat) "java/lang/Throwable" "cause" "Ljava/lang/Throwable;") ∈ lw_all := lw_g (lw_at lw_m2 9 rfl) rfl
theorem q318 : (Jvm.Cond.fieldLink "java/lang/Throwable" (17 : Nat) "java/lang/Throwable" "stackTrace" "[Ljava/lang/StackTraceElement;") ∈ lw_all := lw_g (lw_at lw_m2 10 rfl) rfl
theorem q319 : (Jvm.Cond.fieldLink "java/lang/Throwable" (24 : Nat) "java/lang/Throwable" "suppressedExceptions" "Ljava/util/List;") ∈ lw_all := lw_g (lw_at lw_m2 11 rfl) rfl
theorem q322 : (Jvm.Cond.soleField "java/lang/Throwable" "backtrace") ∈ lw_all := lw_g (lw_at lw_m2 14 rfl) rfl
theorem q323 : (Jvm.Cond.soleField "java/lang/Throwable" "detailMessage") ∈ lw_all := lw_g (lw_at lw_m2 15 rfl) rfl
theorem q324 : (Jvm.Cond.soleField "java/lang/Throwable" "cause") ∈ lw_all := lw_g (lw_at lw_m2 16 rfl) rfl
theorem q325 : (Jvm.Cond.soleField "java/lang/Throwable" "stackTrace") ∈ lw_all := lw_g (lw_at lw_m2 17 rfl) rfl
theorem q327 : (Jvm.Cond.soleField "java/lang/Throwable" "depth") ∈ lw_all := lw_g (lw_at lw_m2 19 rfl) rfl
theorem q328 : (Jvm.Cond.soleField "java/lang/Throwable" "suppressedExceptions") ∈ lw_all := lw_g (lw_at lw_m2 20 rfl) rfl
theorem q1806 : (Jvm.Cond.sameMethod "java/lang/Throwable" "java/lang/Throwable" "fillInStackTrace" "(I)Ljava/lang/Throwable;") ∈ lw_all := lw_g (lw_at lw_m8 58 rfl) rfl
theorem q1832 : (Jvm.Cond.castable "java/lang/Throwable" "java/lang/Object") ∈ lw_tbl := lw_at lw_m8 84 rfl
theorem in_J8 : ∀ w ∈ wsJ80, w ∈ lw_all := lw_in wsJ80 [278, 280, 282, 284, 286] (by decide +kernel) (by decide +kernel)
/-! java/lang/Exception -/
set_option maxRecDepth 100000
def RJ9 : String := "java/lang/Exception"
abbrev cJ9_init : ByteArray := prog_22_method_1_code
def yJ9_init : MethodName := ⟨RJ9, "<init>", "()V"⟩
theorem dJ9_init_0 : decode cJ9_init 0 = .ok (.aload_n 0, 1) := by decide +kernel
theorem dJ9_init_1 : decode cJ9_init 1 = .ok (.invokespecial 1, 3) := by decide +kernel
theorem dJ9_init_4 : decode cJ9_init 4 = .ok (.return_, 1) := by decide +kernel
theorem q81 : (Jvm.Cond.initialized "java/lang/Exception") ∈ lw_all := lw_g (lw_at lw_m1 13 rfl) rfl
theorem q271 : (Jvm.Cond.declares ({ cls := "java/lang/Exception", name := "<init>", desc := "()V" } : Jvm.MethodName)) ∈ lw_tbl := lw_at lw_m1 203 rfl
theorem q272 : (Jvm.Cond.declares ({ cls := "java/lang/Exception", name := "<init>", desc := "(Ljava/lang/String;)V" } : Jvm.MethodName)) ∈ lw_tbl := lw_at lw_m1 204 rfl
theorem q311 : (Jvm.Cond.instanceMethod ({ cls := "java/lang/Exception", name := "<init>", desc := "()V" } : Jvm.MethodName)) ∈ lw_all := lw_g (lw_at lw_m2 3 rfl) rfl
theorem q312 : (Jvm.Cond.code ({ cls := "java/lang/Exception", name := "<init>", desc := "()V" } : Jvm.MethodName) prog_22_method_1_code (1 : Nat) (Option.none : Option Jvm.ClassFile.FieldType)) ∈ lw_all := lw_g (lw_at lw_m2 4 rfl) rfl
theorem q313 : (Jvm.Cond.methodLink "java/lang/Exception" (1 : Nat) ({ cls := "java/lang/Throwable", name := "<init>", desc := "()V" } : Jvm.MethodName)) ∈ lw_all := lw_g (lw_at lw_m2 5 rfl) rfl
/-! java/lang/Integer -/
set_option maxRecDepth 100000
def RJ16 : String := "java/lang/Integer"
abbrev cJ16_stringSize : ByteArray := prog_24_method_13_code
def yJ16_stringSize : MethodName := ⟨RJ16, "stringSize", "(I)I"⟩
def dkwJ16_stringSize_1 : List UInt8 := [164, 0, 7, 29, 27, 96, 172, 16, 10, 28, 104, 61, 132, 3, 1, 167, 255, 233, 16, 10, 27, 96, 172]
abbrev dktJ16_stringSize_1 : List UInt8 := dkwJ16_stringSize_1 ++ []
def dkwJ16_stringSize_0 : List UInt8 := [4, 60, 26, 155, 0, 8, 3, 60, 26, 116, 59, 16, 246, 61, 4, 62, 29, 16, 10, 162, 0, 23, 26, 28]
abbrev dktJ16_stringSize_0 : List UInt8 := dkwJ16_stringSize_0 ++ dktJ16_stringSize_1
theorem dksJ16_stringSize_0 : cJ16_stringSize.data.toList.drop 0 = dktJ16_stringSize_0 := by decide +kernel
theorem dksJ16_stringSize_1 : cJ16_stringSize.data.toList.drop 24 = dktJ16_stringSize_1 := dk_seg dksJ16_stringSize_0 24 rfl rfl
theorem dJ16_stringSize_0 : decode cJ16_stringSize 0 = .ok (.iconst 1, 1) := dk_4 (dk_at dksJ16_stringSize_0 0 rfl rfl)
theorem dJ16_stringSize_1 : decode cJ16_stringSize 1 = .ok (.istore_n 1, 1) := dk_60 (dk_at dksJ16_stringSize_0 1 rfl rfl)
theorem dJ16_stringSize_2 : decode cJ16_stringSize 2 = .ok (.iload_n 0, 1) := dk_26 (dk_at dksJ16_stringSize_0 2 rfl rfl)
theorem dJ16_stringSize_3 : decode cJ16_stringSize 3 = .ok (.ifCond .lt 8, 3) := dk_155 0 8 (dk_at dksJ16_stringSize_0 3 rfl rfl)
theorem dJ16_stringSize_6 : decode cJ16_stringSize 6 = .ok (.iconst 0, 1) := dk_3 (dk_at dksJ16_stringSize_0 6 rfl rfl)
theorem dJ16_stringSize_7 : decode cJ16_stringSize 7 = .ok (.istore_n 1, 1) := dk_60 (dk_at dksJ16_stringSize_0 7 rfl rfl)
theorem dJ16_stringSize_8 : decode cJ16_stringSize 8 = .ok (.iload_n 0, 1) := dk_26 (dk_at dksJ16_stringSize_0 8 rfl rfl)
theorem dJ16_stringSize_9 : decode cJ16_stringSize 9 = .ok (.ineg, 1) := dk_116 (dk_at dksJ16_stringSize_0 9 rfl rfl)
theorem dJ16_stringSize_10 : decode cJ16_stringSize 10 = .ok (.istore_n 0, 1) := dk_59 (dk_at dksJ16_stringSize_0 10 rfl rfl)
theorem dJ16_stringSize_11 : decode cJ16_stringSize 11 = .ok (.bipush (-10), 2) := dk_16 246 (dk_at dksJ16_stringSize_0 11 rfl rfl)
theorem dJ16_stringSize_13 : decode cJ16_stringSize 13 = .ok (.istore_n 2, 1) := dk_61 (dk_at dksJ16_stringSize_0 13 rfl rfl)
theorem dJ16_stringSize_14 : decode cJ16_stringSize 14 = .ok (.iconst 1, 1) := dk_4 (dk_at dksJ16_stringSize_0 14 rfl rfl)
theorem dJ16_stringSize_15 : decode cJ16_stringSize 15 = .ok (.istore_n 3, 1) := dk_62 (dk_at dksJ16_stringSize_0 15 rfl rfl)
theorem dJ16_stringSize_16 : decode cJ16_stringSize 16 = .ok (.iload_n 3, 1) := dk_29 (dk_at dksJ16_stringSize_0 16 rfl rfl)
theorem dJ16_stringSize_17 : decode cJ16_stringSize 17 = .ok (.bipush 10, 2) := dk_16 10 (dk_at dksJ16_stringSize_0 17 rfl rfl)
theorem dJ16_stringSize_19 : decode cJ16_stringSize 19 = .ok (.if_icmp .ge 23, 3) := dk_162 0 23 (dk_at dksJ16_stringSize_0 19 rfl rfl)
theorem dJ16_stringSize_22 : decode cJ16_stringSize 22 = .ok (.iload_n 0, 1) := dk_26 (dk_at dksJ16_stringSize_0 22 rfl rfl)
theorem dJ16_stringSize_23 : decode cJ16_stringSize 23 = .ok (.iload_n 2, 1) := dk_28 (dk_at dksJ16_stringSize_0 23 rfl rfl)
theorem dJ16_stringSize_24 : decode cJ16_stringSize 24 = .ok (.if_icmp .le 7, 3) := dk_164 0 7 (dk_at dksJ16_stringSize_1 0 rfl rfl)
theorem dJ16_stringSize_27 : decode cJ16_stringSize 27 = .ok (.iload_n 3, 1) := dk_29 (dk_at dksJ16_stringSize_1 3 rfl rfl)
theorem dJ16_stringSize_28 : decode cJ16_stringSize 28 = .ok (.iload_n 1, 1) := dk_27 (dk_at dksJ16_stringSize_1 4 rfl rfl)
theorem dJ16_stringSize_29 : decode cJ16_stringSize 29 = .ok (.iadd, 1) := dk_96 (dk_at dksJ16_stringSize_1 5 rfl rfl)
theorem dJ16_stringSize_30 : decode cJ16_stringSize 30 = .ok (.ireturn, 1) := dk_172 (dk_at dksJ16_stringSize_1 6 rfl rfl)
theorem dJ16_stringSize_31 : decode cJ16_stringSize 31 = .ok (.bipush 10, 2) := dk_16 10 (dk_at dksJ16_stringSize_1 7 rfl rfl)
theorem dJ16_stringSize_33 : decode cJ16_stringSize 33 = .ok (.iload_n 2, 1) := dk_28 (dk_at dksJ16_stringSize_1 9 rfl rfl)
theorem dJ16_stringSize_34 : decode cJ16_stringSize 34 = .ok (.imul, 1) := dk_104 (dk_at dksJ16_stringSize_1 10 rfl rfl)
theorem dJ16_stringSize_35 : decode cJ16_stringSize 35 = .ok (.istore_n 2, 1) := dk_61 (dk_at dksJ16_stringSize_1 11 rfl rfl)
theorem dJ16_stringSize_36 : decode cJ16_stringSize 36 = .ok (.iinc 3 1, 3) := dk_132 3 1 (dk_at dksJ16_stringSize_1 12 rfl rfl)
theorem dJ16_stringSize_39 : decode cJ16_stringSize 39 = .ok (.goto (-23), 3) := dk_167 255 233 (dk_at dksJ16_stringSize_1 15 rfl rfl)
theorem dJ16_stringSize_42 : decode cJ16_stringSize 42 = .ok (.bipush 10, 2) := dk_16 10 (dk_at dksJ16_stringSize_1 18 rfl rfl)
theorem dJ16_stringSize_44 : decode cJ16_stringSize 44 = .ok (.iload_n 1, 1) := dk_27 (dk_at dksJ16_stringSize_1 20 rfl rfl)
theorem dJ16_stringSize_45 : decode cJ16_stringSize 45 = .ok (.iadd, 1) := dk_96 (dk_at dksJ16_stringSize_1 21 rfl rfl)
theorem dJ16_stringSize_46 : decode cJ16_stringSize 46 = .ok (.ireturn, 1) := dk_172 (dk_at dksJ16_stringSize_1 22 rfl rfl)
abbrev cJ16_getChars : ByteArray := prog_24_method_12_code
def yJ16_getChars : MethodName := ⟨RJ16, "getChars", "(II[B)I"⟩
def dkwJ16_getChars_5 : List UInt8 := [16, 45, 84, 21, 5, 172]
abbrev dktJ16_getChars_5 : List UInt8 := dkwJ16_getChars_5 ++ []
def dkwJ16_getChars_4 : List UInt8 := [132, 5, 255, 21, 5, 178, 0, 87, 26, 116, 51, 84, 21, 6, 153, 0, 12, 44, 132, 5, 255, 21, 5]
abbrev dktJ16_getChars_4 : List UInt8 := dkwJ16_getChars_4 ++ dktJ16_getChars_5
def dkwJ16_getChars_3 : List UInt8 := [167, 255, 209, 44, 132, 5, 255, 21, 5, 178, 0, 83, 26, 116, 51, 84, 26, 16, 247, 162, 0, 16, 44]
abbrev dktJ16_getChars_3 : List UInt8 := dkwJ16_getChars_3 ++ dktJ16_getChars_4
def dkwJ16_getChars_2 : List UInt8 := [21, 5, 178, 0, 83, 21, 4, 51, 84, 44, 132, 5, 255, 21, 5, 178, 0, 87, 21, 4, 51, 84]
abbrev dktJ16_getChars_2 : List UInt8 := dkwJ16_getChars_2 ++ dktJ16_getChars_3
def dkwJ16_getChars_1 : List UInt8 := [16, 156, 163, 0, 47, 26, 16, 100, 108, 62, 29, 16, 100, 104, 26, 100, 54, 4, 29, 59, 44, 132, 5, 255]
abbrev dktJ16_getChars_1 : List UInt8 := dkwJ16_getChars_1 ++ dktJ16_getChars_2
def dkwJ16_getChars_0 : List UInt8 := [27, 54, 5, 26, 156, 0, 7, 4, 167, 0, 4, 3, 54, 6, 21, 6, 154, 0, 6, 26, 116, 59, 26]
abbrev dktJ16_getChars_0 : List UInt8 := dkwJ16_getChars_0 ++ dktJ16_getChars_1
theorem dksJ16_getChars_0 : cJ16_getChars.data.toList.drop 0 = dktJ16_getChars_0 := by decide +kernel
theorem dksJ16_getChars_1 : cJ16_getChars.data.toList.drop 23 = dktJ16_getChars_1 := dk_seg dksJ16_getChars_0 23 rfl rfl
theorem dksJ16_getChars_2 : cJ16_getChars.data.toList.drop 47 = dktJ16_getChars_2 := dk_seg dksJ16_getChars_1 24 rfl rfl
theorem dksJ16_getChars_3 : cJ16_getChars.data.toList.drop 69 = dktJ16_getChars_3 := dk_seg dksJ16_getChars_2 22 rfl rfl
theorem dksJ16_getChars_4 : cJ16_getChars.data.toList.drop 92 = dktJ16_getChars_4 := dk_seg dksJ16_getChars_3 23 rfl rfl
theorem dksJ16_getChars_5 : cJ16_getChars.data.toList.drop 115 = dktJ16_getChars_5 := dk_seg dksJ16_getChars_4 23 rfl rfl
theorem dJ16_getChars_0 : decode cJ16_getChars 0 = .ok (.iload_n 1, 1) := dk_27 (dk_at dksJ16_getChars_0 0 rfl rfl)
theorem dJ16_getChars_1 : decode cJ16_getChars 1 = .ok (.istore 5, 2) := dk_54 5 (dk_at dksJ16_getChars_0 1 rfl rfl)
theorem dJ16_getChars_3 : decode cJ16_getChars 3 = .ok (.iload_n 0, 1) := dk_26 (dk_at dksJ16_getChars_0 3 rfl rfl)
theorem dJ16_getChars_4 : decode cJ16_getChars 4 = .ok (.ifCond .ge 7, 3) := dk_156 0 7 (dk_at dksJ16_getChars_0 4 rfl rfl)
theorem dJ16_getChars_7 : decode cJ16_getChars 7 = .ok (.iconst 1, 1) := dk_4 (dk_at dksJ16_getChars_0 7 rfl rfl)
theorem dJ16_getChars_8 : decode cJ16_getChars 8 = .ok (.goto 4, 3) := dk_167 0 4 (dk_at dksJ16_getChars_0 8 rfl rfl)
theorem dJ16_getChars_11 : decode cJ16_getChars 11 = .ok (.iconst 0, 1) := dk_3 (dk_at dksJ16_getChars_0 11 rfl rfl)
theorem dJ16_getChars_12 : decode cJ16_getChars 12 = .ok (.istore 6, 2) := dk_54 6 (dk_at dksJ16_getChars_0 12 rfl rfl)
theorem dJ16_getChars_14 : decode cJ16_getChars 14 = .ok (.iload 6, 2) := dk_21 6 (dk_at dksJ16_getChars_0 14 rfl rfl)
theorem dJ16_getChars_16 : decode cJ16_getChars 16 = .ok (.ifCond .ne 6, 3) := dk_154 0 6 (dk_at dksJ16_getChars_0 16 rfl rfl)
theorem dJ16_getChars_19 : decode cJ16_getChars 19 = .ok (.iload_n 0, 1) := dk_26 (dk_at dksJ16_getChars_0 19 rfl rfl)
theorem dJ16_getChars_20 : decode cJ16_getChars 20 = .ok (.ineg, 1) := dk_116 (dk_at dksJ16_getChars_0 20 rfl rfl)
theorem dJ16_getChars_21 : decode cJ16_getChars 21 = .ok (.istore_n 0, 1) := dk_59 (dk_at dksJ16_getChars_0 21 rfl rfl)
theorem dJ16_getChars_22 : decode cJ16_getChars 22 = .ok (.iload_n 0, 1) := dk_26 (dk_at dksJ16_getChars_0 22 rfl rfl)
theorem dJ16_getChars_23 : decode cJ16_getChars 23 = .ok (.bipush (-100), 2) := dk_16 156 (dk_at dksJ16_getChars_1 0 rfl rfl)
theorem dJ16_getChars_25 : decode cJ16_getChars 25 = .ok (.if_icmp .gt 47, 3) := dk_163 0 47 (dk_at dksJ16_getChars_1 2 rfl rfl)
theorem dJ16_getChars_28 : decode cJ16_getChars 28 = .ok (.iload_n 0, 1) := dk_26 (dk_at dksJ16_getChars_1 5 rfl rfl)
theorem dJ16_getChars_29 : decode cJ16_getChars 29 = .ok (.bipush 100, 2) := dk_16 100 (dk_at dksJ16_getChars_1 6 rfl rfl)
theorem dJ16_getChars_31 : decode cJ16_getChars 31 = .ok (.idiv, 1) := dk_108 (dk_at dksJ16_getChars_1 8 rfl rfl)
theorem dJ16_getChars_32 : decode cJ16_getChars 32 = .ok (.istore_n 3, 1) := dk_62 (dk_at dksJ16_getChars_1 9 rfl rfl)
theorem dJ16_getChars_33 : decode cJ16_getChars 33 = .ok (.iload_n 3, 1) := dk_29 (dk_at dksJ16_getChars_1 10 rfl rfl)
theorem dJ16_getChars_34 : decode cJ16_getChars 34 = .ok (.bipush 100, 2) := dk_16 100 (dk_at dksJ16_getChars_1 11 rfl rfl)
theorem dJ16_getChars_36 : decode cJ16_getChars 36 = .ok (.imul, 1) := dk_104 (dk_at dksJ16_getChars_1 13 rfl rfl)
theorem dJ16_getChars_37 : decode cJ16_getChars 37 = .ok (.iload_n 0, 1) := dk_26 (dk_at dksJ16_getChars_1 14 rfl rfl)
theorem dJ16_getChars_38 : decode cJ16_getChars 38 = .ok (.isub, 1) := dk_100 (dk_at dksJ16_getChars_1 15 rfl rfl)
theorem dJ16_getChars_39 : decode cJ16_getChars 39 = .ok (.istore 4, 2) := dk_54 4 (dk_at dksJ16_getChars_1 16 rfl rfl)
theorem dJ16_getChars_41 : decode cJ16_getChars 41 = .ok (.iload_n 3, 1) := dk_29 (dk_at dksJ16_getChars_1 18 rfl rfl)
theorem dJ16_getChars_42 : decode cJ16_getChars 42 = .ok (.istore_n 0, 1) := dk_59 (dk_at dksJ16_getChars_1 19 rfl rfl)
theorem dJ16_getChars_43 : decode cJ16_getChars 43 = .ok (.aload_n 2, 1) := dk_44 (dk_at dksJ16_getChars_1 20 rfl rfl)
theorem dJ16_getChars_44 : decode cJ16_getChars 44 = .ok (.iinc 5 (-1), 3) := dk_132 5 255 (dk_at dksJ16_getChars_1 21 rfl rfl)
theorem dJ16_getChars_47 : decode cJ16_getChars 47 = .ok (.iload 5, 2) := dk_21 5 (dk_at dksJ16_getChars_2 0 rfl rfl)
theorem dJ16_getChars_49 : decode cJ16_getChars 49 = .ok (.getstatic 83, 3) := dk_178 0 83 (dk_at dksJ16_getChars_2 2 rfl rfl)
theorem dJ16_getChars_52 : decode cJ16_getChars 52 = .ok (.iload 4, 2) := dk_21 4 (dk_at dksJ16_getChars_2 5 rfl rfl)
theorem dJ16_getChars_54 : decode cJ16_getChars 54 = .ok (.baload, 1) := dk_51 (dk_at dksJ16_getChars_2 7 rfl rfl)
theorem dJ16_getChars_55 : decode cJ16_getChars 55 = .ok (.bastore, 1) := dk_84 (dk_at dksJ16_getChars_2 8 rfl rfl)
theorem dJ16_getChars_56 : decode cJ16_getChars 56 = .ok (.aload_n 2, 1) := dk_44 (dk_at dksJ16_getChars_2 9 rfl rfl)
theorem dJ16_getChars_57 : decode cJ16_getChars 57 = .ok (.iinc 5 (-1), 3) := dk_132 5 255 (dk_at dksJ16_getChars_2 10 rfl rfl)
theorem dJ16_getChars_60 : decode cJ16_getChars 60 = .ok (.iload 5, 2) := dk_21 5 (dk_at dksJ16_getChars_2 13 rfl rfl)
theorem dJ16_getChars_62 : decode cJ16_getChars 62 = .ok (.getstatic 87, 3) := dk_178 0 87 (dk_at dksJ16_getChars_2 15 rfl rfl)
theorem dJ16_getChars_65 : decode cJ16_getChars 65 = .ok (.iload 4, 2) := dk_21 4 (dk_at dksJ16_getChars_2 18 rfl rfl)
theorem dJ16_getChars_67 : decode cJ16_getChars 67 = .ok (.baload, 1) := dk_51 (dk_at dksJ16_getChars_2 20 rfl rfl)
theorem dJ16_getChars_68 : decode cJ16_getChars 68 = .ok (.bastore, 1) := dk_84 (dk_at dksJ16_getChars_2 21 rfl rfl)
theorem dJ16_getChars_69 : decode cJ16_getChars 69 = .ok (.goto (-47), 3) := dk_167 255 209 (dk_at dksJ16_getChars_3 0 rfl rfl)
theorem dJ16_getChars_72 : decode cJ16_getChars 72 = .ok (.aload_n 2, 1) := dk_44 (dk_at dksJ16_getChars_3 3 rfl rfl)
theorem dJ16_getChars_73 : decode cJ16_getChars 73 = .ok (.iinc 5 (-1), 3) := dk_132 5 255 (dk_at dksJ16_getChars_3 4 rfl rfl)
theorem dJ16_getChars_76 : decode cJ16_getChars 76 = .ok (.iload 5, 2) := dk_21 5 (dk_at dksJ16_getChars_3 7 rfl rfl)
theorem dJ16_getChars_78 : decode cJ16_getChars 78 = .ok (.getstatic 83, 3) := dk_178 0 83 (dk_at dksJ16_getChars_3 9 rfl rfl)
theorem dJ16_getChars_81 : decode cJ16_getChars 81 = .ok (.iload_n 0, 1) := dk_26 (dk_at dksJ16_getChars_3 12 rfl rfl)
theorem dJ16_getChars_82 : decode cJ16_getChars 82 = .ok (.ineg, 1) := dk_116 (dk_at dksJ16_getChars_3 13 rfl rfl)
theorem dJ16_getChars_83 : decode cJ16_getChars 83 = .ok (.baload, 1) := dk_51 (dk_at dksJ16_getChars_3 14 rfl rfl)
theorem dJ16_getChars_84 : decode cJ16_getChars 84 = .ok (.bastore, 1) := dk_84 (dk_at dksJ16_getChars_3 15 rfl rfl)
theorem dJ16_getChars_85 : decode cJ16_getChars 85 = .ok (.iload_n 0, 1) := dk_26 (dk_at dksJ16_getChars_3 16 rfl rfl)
theorem dJ16_getChars_86 : decode cJ16_getChars 86 = .ok (.bipush (-9), 2) := dk_16 247 (dk_at dksJ16_getChars_3 17 rfl rfl)
theorem dJ16_getChars_88 : decode cJ16_getChars 88 = .ok (.if_icmp .ge 16, 3) := dk_162 0 16 (dk_at dksJ16_getChars_3 19 rfl rfl)
theorem dJ16_getChars_91 : decode cJ16_getChars 91 = .ok (.aload_n 2, 1) := dk_44 (dk_at dksJ16_getChars_3 22 rfl rfl)
theorem dJ16_getChars_92 : decode cJ16_getChars 92 = .ok (.iinc 5 (-1), 3) := dk_132 5 255 (dk_at dksJ16_getChars_4 0 rfl rfl)
theorem dJ16_getChars_95 : decode cJ16_getChars 95 = .ok (.iload 5, 2) := dk_21 5 (dk_at dksJ16_getChars_4 3 rfl rfl)
theorem dJ16_getChars_97 : decode cJ16_getChars 97 = .ok (.getstatic 87, 3) := dk_178 0 87 (dk_at dksJ16_getChars_4 5 rfl rfl)
theorem dJ16_getChars_100 : decode cJ16_getChars 100 = .ok (.iload_n 0, 1) := dk_26 (dk_at dksJ16_getChars_4 8 rfl rfl)
theorem dJ16_getChars_101 : decode cJ16_getChars 101 = .ok (.ineg, 1) := dk_116 (dk_at dksJ16_getChars_4 9 rfl rfl)
theorem dJ16_getChars_102 : decode cJ16_getChars 102 = .ok (.baload, 1) := dk_51 (dk_at dksJ16_getChars_4 10 rfl rfl)
theorem dJ16_getChars_103 : decode cJ16_getChars 103 = .ok (.bastore, 1) := dk_84 (dk_at dksJ16_getChars_4 11 rfl rfl)
theorem dJ16_getChars_104 : decode cJ16_getChars 104 = .ok (.iload 6, 2) := dk_21 6 (dk_at dksJ16_getChars_4 12 rfl rfl)
theorem dJ16_getChars_106 : decode cJ16_getChars 106 = .ok (.ifCond .eq 12, 3) := dk_153 0 12 (dk_at dksJ16_getChars_4 14 rfl rfl)
theorem dJ16_getChars_109 : decode cJ16_getChars 109 = .ok (.aload_n 2, 1) := dk_44 (dk_at dksJ16_getChars_4 17 rfl rfl)
theorem dJ16_getChars_110 : decode cJ16_getChars 110 = .ok (.iinc 5 (-1), 3) := dk_132 5 255 (dk_at dksJ16_getChars_4 18 rfl rfl)
theorem dJ16_getChars_113 : decode cJ16_getChars 113 = .ok (.iload 5, 2) := dk_21 5 (dk_at dksJ16_getChars_4 21 rfl rfl)
theorem dJ16_getChars_115 : decode cJ16_getChars 115 = .ok (.bipush 45, 2) := dk_16 45 (dk_at dksJ16_getChars_5 0 rfl rfl)
theorem dJ16_getChars_117 : decode cJ16_getChars 117 = .ok (.bastore, 1) := dk_84 (dk_at dksJ16_getChars_5 2 rfl rfl)
theorem dJ16_getChars_118 : decode cJ16_getChars 118 = .ok (.iload 5, 2) := dk_21 5 (dk_at dksJ16_getChars_5 3 rfl rfl)
theorem dJ16_getChars_120 : decode cJ16_getChars 120 = .ok (.ireturn, 1) := dk_172 (dk_at dksJ16_getChars_5 5 rfl rfl)
theorem q96 : (Jvm.Cond.initialized "java/lang/Integer") ∈ lw_all := lw_g (lw_at lw_m1 28 rfl) rfl
theorem q980 : (Jvm.Cond.static ({ cls := "java/lang/Integer", name := "stringSize", desc := "(I)I" } : Jvm.MethodName)) ∈ lw_all := lw_g (lw_at lw_m4 192 rfl) rfl
theorem q981 : (Jvm.Cond.code ({ cls := "java/lang/Integer", name := "stringSize", desc := "(I)I" } : Jvm.MethodName) prog_24_method_13_code (4 : Nat) (Option.some Jvm.ClassFile.FieldType.int)) ∈ lw_all := lw_g (lw_at lw_m4 193 rfl) rfl
theorem q1008 : (Jvm.Cond.static ({ cls := "java/lang/Integer", name := "getChars", desc := "(II[B)I" } : Jvm.MethodName)) ∈ lw_all := lw_g (lw_at lw_m4 220 rfl) rfl
theorem q1009 : (Jvm.Cond.code ({ cls := "java/lang/Integer", name := "getChars", desc := "(II[B)I" } : Jvm.MethodName) prog_24_method_12_code (7 : Nat) (Option.some Jvm.ClassFile.FieldType.int)) ∈ lw_all := lw_g (lw_at lw_m4 221 rfl) rfl
theorem q1010 : (Jvm.Cond.fieldLink "java/lang/Integer" (83 : Nat) "java/lang/Integer" "DigitOnes" "[B") ∈ lw_all := lw_g (lw_at lw_m4 222 rfl) rfl
theorem q1011 : (Jvm.Cond.laysStatic "java/lang/Integer" "DigitOnes" "[B") ∈ lw_tbl := lw_at lw_m4 223 rfl
theorem q1012 : (Jvm.Cond.fieldLink "java/lang/Integer" (87 : Nat) "java/lang/Integer" "DigitTens" "[B") ∈ lw_all := lw_g (lw_at lw_m4 224 rfl) rfl
theorem q1013 : (Jvm.Cond.laysStatic "java/lang/Integer" "DigitTens" "[B") ∈ lw_tbl := lw_at lw_m4 225 rfl
/-! java/lang/StringLatin1 -/
set_option maxRecDepth 100000
def RJ17 : String := "java/lang/StringLatin1"
abbrev cJ17_canEncode : ByteArray := prog_30_method_3_code
def yJ17_canEncode : MethodName := ⟨RJ17, "canEncode", "(C)Z"⟩
def dkwJ17_canEncode_0 : List UInt8 := [26, 17, 0, 255, 163, 0, 7, 4, 167, 0, 4, 3, 172]
abbrev dktJ17_canEncode_0 : List UInt8 := dkwJ17_canEncode_0 ++ []
theorem dksJ17_canEncode_0 : cJ17_canEncode.data.toList.drop 0 = dktJ17_canEncode_0 := by decide +kernel
theorem dJ17_canEncode_0 : decode cJ17_canEncode 0 = .ok (.iload_n 0, 1) := dk_26 (dk_at dksJ17_canEncode_0 0 rfl rfl)
theorem dJ17_canEncode_1 : decode cJ17_canEncode 1 = .ok (.sipush 255, 3) := dk_17 0 255 (dk_at dksJ17_canEncode_0 1 rfl rfl)
theorem dJ17_canEncode_4 : decode cJ17_canEncode 4 = .ok (.if_icmp .gt 7, 3) := dk_163 0 7 (dk_at dksJ17_canEncode_0 4 rfl rfl)
theorem dJ17_canEncode_7 : decode cJ17_canEncode 7 = .ok (.iconst 1, 1) := dk_4 (dk_at dksJ17_canEncode_0 7 rfl rfl)
theorem dJ17_canEncode_8 : decode cJ17_canEncode 8 = .ok (.goto 4, 3) := dk_167 0 4 (dk_at dksJ17_canEncode_0 8 rfl rfl)
theorem dJ17_canEncode_11 : decode cJ17_canEncode 11 = .ok (.iconst 0, 1) := dk_3 (dk_at dksJ17_canEncode_0 11 rfl rfl)
theorem dJ17_canEncode_12 : decode cJ17_canEncode 12 = .ok (.ireturn, 1) := dk_172 (dk_at dksJ17_canEncode_0 12 rfl rfl)
abbrev cJ17_inflate : ByteArray := prog_30_method_50_code
def yJ17_inflate : MethodName := ⟨RJ17, "inflate", "([BI[BII)V"⟩
def dkwJ17_inflate_0 : List UInt8 := [42, 27, 44, 29, 21, 4, 184, 0, 240, 177]
abbrev dktJ17_inflate_0 : List UInt8 := dkwJ17_inflate_0 ++ []
theorem dksJ17_inflate_0 : cJ17_inflate.data.toList.drop 0 = dktJ17_inflate_0 := by decide +kernel
theorem dJ17_inflate_0 : decode cJ17_inflate 0 = .ok (.aload_n 0, 1) := dk_42 (dk_at dksJ17_inflate_0 0 rfl rfl)
theorem dJ17_inflate_1 : decode cJ17_inflate 1 = .ok (.iload_n 1, 1) := dk_27 (dk_at dksJ17_inflate_0 1 rfl rfl)
theorem dJ17_inflate_2 : decode cJ17_inflate 2 = .ok (.aload_n 2, 1) := dk_44 (dk_at dksJ17_inflate_0 2 rfl rfl)
theorem dJ17_inflate_3 : decode cJ17_inflate 3 = .ok (.iload_n 3, 1) := dk_29 (dk_at dksJ17_inflate_0 3 rfl rfl)
theorem dJ17_inflate_4 : decode cJ17_inflate 4 = .ok (.iload 4, 2) := dk_21 4 (dk_at dksJ17_inflate_0 4 rfl rfl)
theorem dJ17_inflate_6 : decode cJ17_inflate 6 = .ok (.invokestatic 240, 3) := dk_184 0 240 (dk_at dksJ17_inflate_0 6 rfl rfl)
theorem dJ17_inflate_9 : decode cJ17_inflate 9 = .ok (.return_, 1) := dk_177 (dk_at dksJ17_inflate_0 9 rfl rfl)
abbrev cJ17_charAt : ByteArray := prog_30_method_2_code
def yJ17_charAt : MethodName := ⟨RJ17, "charAt", "([BI)C"⟩
def dkwJ17_charAt_0 : List UInt8 := [27, 42, 190, 184, 0, 9, 42, 27, 51, 17, 0, 255, 126, 146, 172]
abbrev dktJ17_charAt_0 : List UInt8 := dkwJ17_charAt_0 ++ []
theorem dksJ17_charAt_0 : cJ17_charAt.data.toList.drop 0 = dktJ17_charAt_0 := by decide +kernel
theorem dJ17_charAt_0 : decode cJ17_charAt 0 = .ok (.iload_n 1, 1) := dk_27 (dk_at dksJ17_charAt_0 0 rfl rfl)
theorem dJ17_charAt_1 : decode cJ17_charAt 1 = .ok (.aload_n 0, 1) := dk_42 (dk_at dksJ17_charAt_0 1 rfl rfl)
theorem dJ17_charAt_2 : decode cJ17_charAt 2 = .ok (.arraylength, 1) := dk_190 (dk_at dksJ17_charAt_0 2 rfl rfl)
theorem dJ17_charAt_3 : decode cJ17_charAt 3 = .ok (.invokestatic 9, 3) := dk_184 0 9 (dk_at dksJ17_charAt_0 3 rfl rfl)
theorem dJ17_charAt_6 : decode cJ17_charAt 6 = .ok (.aload_n 0, 1) := dk_42 (dk_at dksJ17_charAt_0 6 rfl rfl)
theorem dJ17_charAt_7 : decode cJ17_charAt 7 = .ok (.iload_n 1, 1) := dk_27 (dk_at dksJ17_charAt_0 7 rfl rfl)
theorem dJ17_charAt_8 : decode cJ17_charAt 8 = .ok (.baload, 1) := dk_51 (dk_at dksJ17_charAt_0 8 rfl rfl)
theorem dJ17_charAt_9 : decode cJ17_charAt 9 = .ok (.sipush 255, 3) := dk_17 0 255 (dk_at dksJ17_charAt_0 9 rfl rfl)
theorem dJ17_charAt_12 : decode cJ17_charAt 12 = .ok (.iand, 1) := dk_126 (dk_at dksJ17_charAt_0 12 rfl rfl)
theorem dJ17_charAt_13 : decode cJ17_charAt 13 = .ok (.i2c, 1) := dk_146 (dk_at dksJ17_charAt_0 13 rfl rfl)
theorem dJ17_charAt_14 : decode cJ17_charAt 14 = .ok (.ireturn, 1) := dk_172 (dk_at dksJ17_charAt_0 14 rfl rfl)
abbrev cJ17_indexOf : ByteArray := prog_30_method_22_code
def yJ17_indexOf : MethodName := ⟨RJ17, "indexOf", "([BIII)I"⟩
def dkwJ17_indexOf_1 : List UInt8 := [161, 0, 5, 2, 172, 42, 27, 28, 29, 184, 0, 95, 172]
abbrev dktJ17_indexOf_1 : List UInt8 := dkwJ17_indexOf_1 ++ []
def dkwJ17_indexOf_0 : List UInt8 := [27, 184, 0, 88, 154, 0, 5, 2, 172, 28, 3, 184, 0, 92, 61, 29, 42, 190, 184, 0, 38, 62, 28, 29]
abbrev dktJ17_indexOf_0 : List UInt8 := dkwJ17_indexOf_0 ++ dktJ17_indexOf_1
theorem dksJ17_indexOf_0 : cJ17_indexOf.data.toList.drop 0 = dktJ17_indexOf_0 := by decide +kernel
theorem dksJ17_indexOf_1 : cJ17_indexOf.data.toList.drop 24 = dktJ17_indexOf_1 := dk_seg dksJ17_indexOf_0 24 rfl rfl
theorem dJ17_indexOf_0 : decode cJ17_indexOf 0 = .ok (.iload_n 1, 1) := dk_27 (dk_at dksJ17_indexOf_0 0 rfl rfl)
theorem dJ17_indexOf_1 : decode cJ17_indexOf 1 = .ok (.invokestatic 88, 3) := dk_184 0 88 (dk_at dksJ17_indexOf_0 1 rfl rfl)
theorem dJ17_indexOf_4 : decode cJ17_indexOf 4 = .ok (.ifCond .ne 5, 3) := dk_154 0 5 (dk_at dksJ17_indexOf_0 4 rfl rfl)
theorem dJ17_indexOf_7 : decode cJ17_indexOf 7 = .ok (.iconst (-1), 1) := dk_2 (dk_at dksJ17_indexOf_0 7 rfl rfl)
theorem dJ17_indexOf_8 : decode cJ17_indexOf 8 = .ok (.ireturn, 1) := dk_172 (dk_at dksJ17_indexOf_0 8 rfl rfl)
theorem dJ17_indexOf_9 : decode cJ17_indexOf 9 = .ok (.iload_n 2, 1) := dk_28 (dk_at dksJ17_indexOf_0 9 rfl rfl)
theorem dJ17_indexOf_10 : decode cJ17_indexOf 10 = .ok (.iconst 0, 1) := dk_3 (dk_at dksJ17_indexOf_0 10 rfl rfl)
theorem dJ17_indexOf_11 : decode cJ17_indexOf 11 = .ok (.invokestatic 92, 3) := dk_184 0 92 (dk_at dksJ17_indexOf_0 11 rfl rfl)
theorem dJ17_indexOf_14 : decode cJ17_indexOf 14 = .ok (.istore_n 2, 1) := dk_61 (dk_at dksJ17_indexOf_0 14 rfl rfl)
theorem dJ17_indexOf_15 : decode cJ17_indexOf 15 = .ok (.iload_n 3, 1) := dk_29 (dk_at dksJ17_indexOf_0 15 rfl rfl)
theorem dJ17_indexOf_16 : decode cJ17_indexOf 16 = .ok (.aload_n 0, 1) := dk_42 (dk_at dksJ17_indexOf_0 16 rfl rfl)
theorem dJ17_indexOf_17 : decode cJ17_indexOf 17 = .ok (.arraylength, 1) := dk_190 (dk_at dksJ17_indexOf_0 17 rfl rfl)
theorem dJ17_indexOf_18 : decode cJ17_indexOf 18 = .ok (.invokestatic 38, 3) := dk_184 0 38 (dk_at dksJ17_indexOf_0 18 rfl rfl)
theorem dJ17_indexOf_21 : decode cJ17_indexOf 21 = .ok (.istore_n 3, 1) := dk_62 (dk_at dksJ17_indexOf_0 21 rfl rfl)
theorem dJ17_indexOf_22 : decode cJ17_indexOf 22 = .ok (.iload_n 2, 1) := dk_28 (dk_at dksJ17_indexOf_0 22 rfl rfl)
theorem dJ17_indexOf_23 : decode cJ17_indexOf 23 = .ok (.iload_n 3, 1) := dk_29 (dk_at dksJ17_indexOf_0 23 rfl rfl)
theorem dJ17_indexOf_24 : decode cJ17_indexOf 24 = .ok (.if_icmp .lt 5, 3) := dk_161 0 5 (dk_at dksJ17_indexOf_1 0 rfl rfl)
theorem dJ17_indexOf_27 : decode cJ17_indexOf 27 = .ok (.iconst (-1), 1) := dk_2 (dk_at dksJ17_indexOf_1 3 rfl rfl)
theorem dJ17_indexOf_28 : decode cJ17_indexOf 28 = .ok (.ireturn, 1) := dk_172 (dk_at dksJ17_indexOf_1 4 rfl rfl)
theorem dJ17_indexOf_29 : decode cJ17_indexOf 29 = .ok (.aload_n 0, 1) := dk_42 (dk_at dksJ17_indexOf_1 5 rfl rfl)
theorem dJ17_indexOf_30 : decode cJ17_indexOf 30 = .ok (.iload_n 1, 1) := dk_27 (dk_at dksJ17_indexOf_1 6 rfl rfl)
theorem dJ17_indexOf_31 : decode cJ17_indexOf 31 = .ok (.iload_n 2, 1) := dk_28 (dk_at dksJ17_indexOf_1 7 rfl rfl)
theorem dJ17_indexOf_32 : decode cJ17_indexOf 32 = .ok (.iload_n 3, 1) := dk_29 (dk_at dksJ17_indexOf_1 8 rfl rfl)
theorem dJ17_indexOf_33 : decode cJ17_indexOf 33 = .ok (.invokestatic 95, 3) := dk_184 0 95 (dk_at dksJ17_indexOf_1 9 rfl rfl)
theorem dJ17_indexOf_36 : decode cJ17_indexOf 36 = .ok (.ireturn, 1) := dk_172 (dk_at dksJ17_indexOf_1 12 rfl rfl)
abbrev cJ17_canEncode_2 : ByteArray := prog_30_method_4_code
def yJ17_canEncode_2 : MethodName := ⟨RJ17, "canEncode", "(I)Z"⟩
def dkwJ17_canEncode_2_0 : List UInt8 := [26, 155, 0, 14, 26, 17, 0, 255, 163, 0, 7, 4, 167, 0, 4, 3, 172]
abbrev dktJ17_canEncode_2_0 : List UInt8 := dkwJ17_canEncode_2_0 ++ []
theorem dksJ17_canEncode_2_0 : cJ17_canEncode_2.data.toList.drop 0 = dktJ17_canEncode_2_0 := by decide +kernel
theorem dJ17_canEncode_2_0 : decode cJ17_canEncode_2 0 = .ok (.iload_n 0, 1) := dk_26 (dk_at dksJ17_canEncode_2_0 0 rfl rfl)
theorem dJ17_canEncode_2_1 : decode cJ17_canEncode_2 1 = .ok (.ifCond .lt 14, 3) := dk_155 0 14 (dk_at dksJ17_canEncode_2_0 1 rfl rfl)
theorem dJ17_canEncode_2_4 : decode cJ17_canEncode_2 4 = .ok (.iload_n 0, 1) := dk_26 (dk_at dksJ17_canEncode_2_0 4 rfl rfl)
theorem dJ17_canEncode_2_5 : decode cJ17_canEncode_2 5 = .ok (.sipush 255, 3) := dk_17 0 255 (dk_at dksJ17_canEncode_2_0 5 rfl rfl)
theorem dJ17_canEncode_2_8 : decode cJ17_canEncode_2 8 = .ok (.if_icmp .gt 7, 3) := dk_163 0 7 (dk_at dksJ17_canEncode_2_0 8 rfl rfl)
theorem dJ17_canEncode_2_11 : decode cJ17_canEncode_2 11 = .ok (.iconst 1, 1) := dk_4 (dk_at dksJ17_canEncode_2_0 11 rfl rfl)
theorem dJ17_canEncode_2_12 : decode cJ17_canEncode_2 12 = .ok (.goto 4, 3) := dk_167 0 4 (dk_at dksJ17_canEncode_2_0 12 rfl rfl)
theorem dJ17_canEncode_2_15 : decode cJ17_canEncode_2 15 = .ok (.iconst 0, 1) := dk_3 (dk_at dksJ17_canEncode_2_0 15 rfl rfl)
theorem dJ17_canEncode_2_16 : decode cJ17_canEncode_2 16 = .ok (.ireturn, 1) := dk_172 (dk_at dksJ17_canEncode_2_0 16 rfl rfl)
abbrev cJ17_indexOfChar : ByteArray := prog_30_method_23_code
def yJ17_indexOfChar : MethodName := ⟨RJ17, "indexOfChar", "([BIII)I"⟩
def dkwJ17_indexOfChar_1 : List UInt8 := [172, 132, 5, 1, 167, 255, 235, 2, 172]
abbrev dktJ17_indexOfChar_1 : List UInt8 := dkwJ17_indexOfChar_1 ++ []
def dkwJ17_indexOfChar_0 : List UInt8 := [27, 145, 54, 4, 28, 54, 5, 21, 5, 29, 162, 0, 21, 42, 21, 5, 51, 21, 4, 160, 0, 6, 21, 5]
abbrev dktJ17_indexOfChar_0 : List UInt8 := dkwJ17_indexOfChar_0 ++ dktJ17_indexOfChar_1
theorem dksJ17_indexOfChar_0 : cJ17_indexOfChar.data.toList.drop 0 = dktJ17_indexOfChar_0 := by decide +kernel
theorem dksJ17_indexOfChar_1 : cJ17_indexOfChar.data.toList.drop 24 = dktJ17_indexOfChar_1 := dk_seg dksJ17_indexOfChar_0 24 rfl rfl
theorem dJ17_indexOfChar_0 : decode cJ17_indexOfChar 0 = .ok (.iload_n 1, 1) := dk_27 (dk_at dksJ17_indexOfChar_0 0 rfl rfl)
theorem dJ17_indexOfChar_1 : decode cJ17_indexOfChar 1 = .ok (.i2b, 1) := dk_145 (dk_at dksJ17_indexOfChar_0 1 rfl rfl)
theorem dJ17_indexOfChar_2 : decode cJ17_indexOfChar 2 = .ok (.istore 4, 2) := dk_54 4 (dk_at dksJ17_indexOfChar_0 2 rfl rfl)
theorem dJ17_indexOfChar_4 : decode cJ17_indexOfChar 4 = .ok (.iload_n 2, 1) := dk_28 (dk_at dksJ17_indexOfChar_0 4 rfl rfl)
theorem dJ17_indexOfChar_5 : decode cJ17_indexOfChar 5 = .ok (.istore 5, 2) := dk_54 5 (dk_at dksJ17_indexOfChar_0 5 rfl rfl)
theorem dJ17_indexOfChar_7 : decode cJ17_indexOfChar 7 = .ok (.iload 5, 2) := dk_21 5 (dk_at dksJ17_indexOfChar_0 7 rfl rfl)
theorem dJ17_indexOfChar_9 : decode cJ17_indexOfChar 9 = .ok (.iload_n 3, 1) := dk_29 (dk_at dksJ17_indexOfChar_0 9 rfl rfl)
theorem dJ17_indexOfChar_10 : decode cJ17_indexOfChar 10 = .ok (.if_icmp .ge 21, 3) := dk_162 0 21 (dk_at dksJ17_indexOfChar_0 10 rfl rfl)
theorem dJ17_indexOfChar_13 : decode cJ17_indexOfChar 13 = .ok (.aload_n 0, 1) := dk_42 (dk_at dksJ17_indexOfChar_0 13 rfl rfl)
theorem dJ17_indexOfChar_14 : decode cJ17_indexOfChar 14 = .ok (.iload 5, 2) := dk_21 5 (dk_at dksJ17_indexOfChar_0 14 rfl rfl)
theorem dJ17_indexOfChar_16 : decode cJ17_indexOfChar 16 = .ok (.baload, 1) := dk_51 (dk_at dksJ17_indexOfChar_0 16 rfl rfl)
theorem dJ17_indexOfChar_17 : decode cJ17_indexOfChar 17 = .ok (.iload 4, 2) := dk_21 4 (dk_at dksJ17_indexOfChar_0 17 rfl rfl)
theorem dJ17_indexOfChar_19 : decode cJ17_indexOfChar 19 = .ok (.if_icmp .ne 6, 3) := dk_160 0 6 (dk_at dksJ17_indexOfChar_0 19 rfl rfl)
theorem dJ17_indexOfChar_22 : decode cJ17_indexOfChar 22 = .ok (.iload 5, 2) := dk_21 5 (dk_at dksJ17_indexOfChar_0 22 rfl rfl)
theorem dJ17_indexOfChar_24 : decode cJ17_indexOfChar 24 = .ok (.ireturn, 1) := dk_172 (dk_at dksJ17_indexOfChar_1 0 rfl rfl)
theorem dJ17_indexOfChar_25 : decode cJ17_indexOfChar 25 = .ok (.iinc 5 1, 3) := dk_132 5 1 (dk_at dksJ17_indexOfChar_1 1 rfl rfl)
theorem dJ17_indexOfChar_28 : decode cJ17_indexOfChar 28 = .ok (.goto (-21), 3) := dk_167 255 235 (dk_at dksJ17_indexOfChar_1 4 rfl rfl)
theorem dJ17_indexOfChar_31 : decode cJ17_indexOfChar 31 = .ok (.iconst (-1), 1) := dk_2 (dk_at dksJ17_indexOfChar_1 7 rfl rfl)
theorem dJ17_indexOfChar_32 : decode cJ17_indexOfChar 32 = .ok (.ireturn, 1) := dk_172 (dk_at dksJ17_indexOfChar_1 8 rfl rfl)
abbrev cJ17_fillNull : ByteArray := prog_30_method_48_code
def yJ17_fillNull : MethodName := ⟨RJ17, "fillNull", "([BII)V"⟩
def dkwJ17_fillNull_0 : List UInt8 := [42, 27, 28, 3, 184, 0, 236, 177]
abbrev dktJ17_fillNull_0 : List UInt8 := dkwJ17_fillNull_0 ++ []
theorem dksJ17_fillNull_0 : cJ17_fillNull.data.toList.drop 0 = dktJ17_fillNull_0 := by decide +kernel
theorem dJ17_fillNull_0 : decode cJ17_fillNull 0 = .ok (.aload_n 0, 1) := dk_42 (dk_at dksJ17_fillNull_0 0 rfl rfl)
theorem dJ17_fillNull_1 : decode cJ17_fillNull 1 = .ok (.iload_n 1, 1) := dk_27 (dk_at dksJ17_fillNull_0 1 rfl rfl)
theorem dJ17_fillNull_2 : decode cJ17_fillNull 2 = .ok (.iload_n 2, 1) := dk_28 (dk_at dksJ17_fillNull_0 2 rfl rfl)
theorem dJ17_fillNull_3 : decode cJ17_fillNull 3 = .ok (.iconst 0, 1) := dk_3 (dk_at dksJ17_fillNull_0 3 rfl rfl)
theorem dJ17_fillNull_4 : decode cJ17_fillNull 4 = .ok (.invokestatic 236, 3) := dk_184 0 236 (dk_at dksJ17_fillNull_0 4 rfl rfl)
theorem dJ17_fillNull_7 : decode cJ17_fillNull 7 = .ok (.return_, 1) := dk_177 (dk_at dksJ17_fillNull_0 7 rfl rfl)
theorem q97 : (Jvm.Cond.initialized "java/lang/StringLatin1") ∈ lw_all := lw_g (lw_at lw_m1 29 rfl) rfl
theorem q1053 : (Jvm.Cond.static ({ cls := "java/lang/StringLatin1", name := "canEncode", desc := "(C)Z" } : Jvm.MethodName)) ∈ lw_all := lw_g (lw_at lw_m5 25 rfl) rfl
theorem q1054 : (Jvm.Cond.code ({ cls := "java/lang/StringLatin1", name := "canEncode", desc := "(C)Z" } : Jvm.MethodName) prog_30_method_3_code (1 : Nat) (Option.some Jvm.ClassFile.FieldType.boolean)) ∈ lw_all := lw_g (lw_at lw_m5 26 rfl) rfl
theorem q1060 : (Jvm.Cond.static ({ cls := "java/lang/StringLatin1", name := "inflate", desc := "([BI[BII)V" } : Jvm.MethodName)) ∈ lw_all := lw_g (lw_at lw_m5 32 rfl) rfl
theorem q1061 : (Jvm.Cond.code ({ cls := "java/lang/StringLatin1", name := "inflate", desc := "([BI[BII)V" } : Jvm.MethodName) prog_30_method_50_code (5 : Nat) (Option.none : Option Jvm.ClassFile.FieldType)) ∈ lw_all := lw_g (lw_at lw_m5 33 rfl) rfl
theorem q1062 : (Jvm.Cond.methodLink "java/lang/StringLatin1" (240 : Nat) ({ cls := "java/lang/StringUTF16", name := "inflate", desc := "([BI[BII)V" } : Jvm.MethodName)) ∈ lw_all := lw_g (lw_at lw_m5 34 rfl) rfl
theorem q1177 : (Jvm.Cond.static ({ cls := "java/lang/StringLatin1", name := "charAt", desc := "([BI)C" } : Jvm.MethodName)) ∈ lw_all := lw_g (lw_at lw_m5 149 rfl) rfl
theorem q1178 : (Jvm.Cond.code ({ cls := "java/lang/StringLatin1", name := "charAt", desc := "([BI)C" } : Jvm.MethodName) prog_30_method_2_code (2 : Nat) (Option.some Jvm.ClassFile.FieldType.char)) ∈ lw_all := lw_g (lw_at lw_m5 150 rfl) rfl
theorem q1179 : (Jvm.Cond.methodLink "java/lang/StringLatin1" (9 : Nat) ({ cls := "java/lang/String", name := "checkIndex", desc := "(II)V" } : Jvm.MethodName)) ∈ lw_all := lw_g (lw_at lw_m5 151 rfl) rfl
theorem q1237 : (Jvm.Cond.static ({ cls := "java/lang/StringLatin1", name := "indexOf", desc := "([BIII)I" } : Jvm.MethodName)) ∈ lw_all := lw_g (lw_at lw_m5 209 rfl) rfl
theorem q1238 : (Jvm.Cond.code ({ cls := "java/lang/StringLatin1", name := "indexOf", desc := "([BIII)I" } : Jvm.MethodName) prog_30_method_22_code (4 : Nat) (Option.some Jvm.ClassFile.FieldType.int)) ∈ lw_all := lw_g (lw_at lw_m5 210 rfl) rfl
theorem q1239 : (Jvm.Cond.methodLink "java/lang/StringLatin1" (88 : Nat) ({ cls := "java/lang/StringLatin1", name := "canEncode", desc := "(I)Z" } : Jvm.MethodName)) ∈ lw_all := lw_g (lw_at lw_m5 211 rfl) rfl
theorem q1240 : (Jvm.Cond.static ({ cls := "java/lang/StringLatin1", name := "canEncode", desc := "(I)Z" } : Jvm.MethodName)) ∈ lw_all := lw_g (lw_at lw_m5 212 rfl) rfl
theorem q1241 : (Jvm.Cond.code ({ cls := "java/lang/StringLatin1", name := "canEncode", desc := "(I)Z" } : Jvm.MethodName) prog_30_method_4_code (1 : Nat) (Option.some Jvm.ClassFile.FieldType.boolean)) ∈ lw_all := lw_g (lw_at lw_m5 213 rfl) rfl
theorem q1242 : (Jvm.Cond.methodLink "java/lang/StringLatin1" (92 : Nat) ({ cls := "java/lang/Math", name := "max", desc := "(II)I" } : Jvm.MethodName)) ∈ lw_all := lw_g (lw_at lw_m5 214 rfl) rfl
theorem q1243 : (Jvm.Cond.methodLink "java/lang/StringLatin1" (38 : Nat) ({ cls := "java/lang/Math", name := "min", desc := "(II)I" } : Jvm.MethodName)) ∈ lw_all := lw_g (lw_at lw_m5 215 rfl) rfl
theorem q1244 : (Jvm.Cond.methodLink "java/lang/StringLatin1" (95 : Nat) ({ cls := "java/lang/StringLatin1", name := "indexOfChar", desc := "([BIII)I" } : Jvm.MethodName)) ∈ lw_all := lw_g (lw_at lw_m5 216 rfl) rfl
theorem q1245 : (Jvm.Cond.static ({ cls := "java/lang/StringLatin1", name := "indexOfChar", desc := "([BIII)I" } : Jvm.MethodName)) ∈ lw_all := lw_g (lw_at lw_m5 217 rfl) rfl
theorem q1246 : (Jvm.Cond.code ({ cls := "java/lang/StringLatin1", name := "indexOfChar", desc := "([BIII)I" } : Jvm.MethodName) prog_30_method_23_code (6 : Nat) (Option.some Jvm.ClassFile.FieldType.int)) ∈ lw_all := lw_g (lw_at lw_m5 218 rfl) rfl
theorem q1335 : (Jvm.Cond.static ({ cls := "java/lang/StringLatin1", name := "fillNull", desc := "([BII)V" } : Jvm.MethodName)) ∈ lw_all := lw_g (lw_at lw_m6 67 rfl) rfl
theorem q1336 : (Jvm.Cond.code ({ cls := "java/lang/StringLatin1", name := "fillNull", desc := "([BII)V" } : Jvm.MethodName) prog_30_method_48_code (3 : Nat) (Option.none : Option Jvm.ClassFile.FieldType)) ∈ lw_all := lw_g (lw_at lw_m6 68 rfl) rfl
theorem q1337 : (Jvm.Cond.methodLink "java/lang/StringLatin1" (236 : Nat) ({ cls := "java/util/Arrays", name := "fill", desc := "([BIIB)V" } : Jvm.MethodName)) ∈ lw_all := lw_g (lw_at lw_m6 69 rfl) rfl
/-! java/lang/Character -/
set_option maxRecDepth 100000
def RJ18 : String := "java/lang/Character"
abbrev cJ18_isValidCodePoint : ByteArray := prog_19_method_11_code
def yJ18_isValidCodePoint : MethodName := ⟨RJ18, "isValidCodePoint", "(I)Z"⟩
def dkwJ18_isValidCodePoint_0 : List UInt8 := [26, 16, 16, 124, 60, 27, 16, 17, 162, 0, 7, 4, 167, 0, 4, 3, 172]
abbrev dktJ18_isValidCodePoint_0 : List UInt8 := dkwJ18_isValidCodePoint_0 ++ []
theorem dksJ18_isValidCodePoint_0 : cJ18_isValidCodePoint.data.toList.drop 0 = dktJ18_isValidCodePoint_0 := by decide +kernel
theorem dJ18_isValidCodePoint_0 : decode cJ18_isValidCodePoint 0 = .ok (.iload_n 0, 1) := dk_26 (dk_at dksJ18_isValidCodePoint_0 0 rfl rfl)
theorem dJ18_isValidCodePoint_1 : decode cJ18_isValidCodePoint 1 = .ok (.bipush 16, 2) := dk_16 16 (dk_at dksJ18_isValidCodePoint_0 1 rfl rfl)
theorem dJ18_isValidCodePoint_3 : decode cJ18_isValidCodePoint 3 = .ok (.iushr, 1) := dk_124 (dk_at dksJ18_isValidCodePoint_0 3 rfl rfl)
theorem dJ18_isValidCodePoint_4 : decode cJ18_isValidCodePoint 4 = .ok (.istore_n 1, 1) := dk_60 (dk_at dksJ18_isValidCodePoint_0 4 rfl rfl)
theorem dJ18_isValidCodePoint_5 : decode cJ18_isValidCodePoint 5 = .ok (.iload_n 1, 1) := dk_27 (dk_at dksJ18_isValidCodePoint_0 5 rfl rfl)
theorem dJ18_isValidCodePoint_6 : decode cJ18_isValidCodePoint 6 = .ok (.bipush 17, 2) := dk_16 17 (dk_at dksJ18_isValidCodePoint_0 6 rfl rfl)
theorem dJ18_isValidCodePoint_8 : decode cJ18_isValidCodePoint 8 = .ok (.if_icmp .ge 7, 3) := dk_162 0 7 (dk_at dksJ18_isValidCodePoint_0 8 rfl rfl)
theorem dJ18_isValidCodePoint_11 : decode cJ18_isValidCodePoint 11 = .ok (.iconst 1, 1) := dk_4 (dk_at dksJ18_isValidCodePoint_0 11 rfl rfl)
theorem dJ18_isValidCodePoint_12 : decode cJ18_isValidCodePoint 12 = .ok (.goto 4, 3) := dk_167 0 4 (dk_at dksJ18_isValidCodePoint_0 12 rfl rfl)
theorem dJ18_isValidCodePoint_15 : decode cJ18_isValidCodePoint 15 = .ok (.iconst 0, 1) := dk_3 (dk_at dksJ18_isValidCodePoint_0 15 rfl rfl)
theorem dJ18_isValidCodePoint_16 : decode cJ18_isValidCodePoint 16 = .ok (.ireturn, 1) := dk_172 (dk_at dksJ18_isValidCodePoint_0 16 rfl rfl)
abbrev cJ18_highSurrogate : ByteArray := prog_19_method_28_code
def yJ18_highSurrogate : MethodName := ⟨RJ18, "highSurrogate", "(I)C"⟩
def dkwJ18_highSurrogate_0 : List UInt8 := [26, 16, 10, 124, 18, 110, 96, 146, 172]
abbrev dktJ18_highSurrogate_0 : List UInt8 := dkwJ18_highSurrogate_0 ++ []
theorem dksJ18_highSurrogate_0 : cJ18_highSurrogate.data.toList.drop 0 = dktJ18_highSurrogate_0 := by decide +kernel
theorem dJ18_highSurrogate_0 : decode cJ18_highSurrogate 0 = .ok (.iload_n 0, 1) := dk_26 (dk_at dksJ18_highSurrogate_0 0 rfl rfl)
theorem dJ18_highSurrogate_1 : decode cJ18_highSurrogate 1 = .ok (.bipush 10, 2) := dk_16 10 (dk_at dksJ18_highSurrogate_0 1 rfl rfl)
theorem dJ18_highSurrogate_3 : decode cJ18_highSurrogate 3 = .ok (.iushr, 1) := dk_124 (dk_at dksJ18_highSurrogate_0 3 rfl rfl)
theorem dJ18_highSurrogate_4 : decode cJ18_highSurrogate 4 = .ok (.ldc 110, 2) := dk_18 110 (dk_at dksJ18_highSurrogate_0 4 rfl rfl)
theorem dJ18_highSurrogate_6 : decode cJ18_highSurrogate 6 = .ok (.iadd, 1) := dk_96 (dk_at dksJ18_highSurrogate_0 6 rfl rfl)
theorem dJ18_highSurrogate_7 : decode cJ18_highSurrogate 7 = .ok (.i2c, 1) := dk_146 (dk_at dksJ18_highSurrogate_0 7 rfl rfl)
theorem dJ18_highSurrogate_8 : decode cJ18_highSurrogate 8 = .ok (.ireturn, 1) := dk_172 (dk_at dksJ18_highSurrogate_0 8 rfl rfl)
abbrev cJ18_lowSurrogate : ByteArray := prog_19_method_29_code
def yJ18_lowSurrogate : MethodName := ⟨RJ18, "lowSurrogate", "(I)C"⟩
def dkwJ18_lowSurrogate_0 : List UInt8 := [26, 17, 3, 255, 126, 18, 76, 96, 146, 172]
abbrev dktJ18_lowSurrogate_0 : List UInt8 := dkwJ18_lowSurrogate_0 ++ []
theorem dksJ18_lowSurrogate_0 : cJ18_lowSurrogate.data.toList.drop 0 = dktJ18_lowSurrogate_0 := by decide +kernel
theorem dJ18_lowSurrogate_0 : decode cJ18_lowSurrogate 0 = .ok (.iload_n 0, 1) := dk_26 (dk_at dksJ18_lowSurrogate_0 0 rfl rfl)
theorem dJ18_lowSurrogate_1 : decode cJ18_lowSurrogate 1 = .ok (.sipush 1023, 3) := dk_17 3 255 (dk_at dksJ18_lowSurrogate_0 1 rfl rfl)
theorem dJ18_lowSurrogate_4 : decode cJ18_lowSurrogate 4 = .ok (.iand, 1) := dk_126 (dk_at dksJ18_lowSurrogate_0 4 rfl rfl)
theorem dJ18_lowSurrogate_5 : decode cJ18_lowSurrogate 5 = .ok (.ldc 76, 2) := dk_18 76 (dk_at dksJ18_lowSurrogate_0 5 rfl rfl)
theorem dJ18_lowSurrogate_7 : decode cJ18_lowSurrogate 7 = .ok (.iadd, 1) := dk_96 (dk_at dksJ18_lowSurrogate_0 7 rfl rfl)
theorem dJ18_lowSurrogate_8 : decode cJ18_lowSurrogate 8 = .ok (.i2c, 1) := dk_146 (dk_at dksJ18_lowSurrogate_0 8 rfl rfl)
theorem dJ18_lowSurrogate_9 : decode cJ18_lowSurrogate 9 = .ok (.ireturn, 1) := dk_172 (dk_at dksJ18_lowSurrogate_0 9 rfl rfl)
theorem q99 : (Jvm.Cond.initialized "java/lang/Character") ∈ lw_all := lw_g (lw_at lw_m1 31 rfl) rfl
theorem q1263 : (Jvm.Cond.static ({ cls := "java/lang/Character", name := "isValidCodePoint", desc := "(I)Z" } : Jvm.MethodName)) ∈ lw_all := lw_g (lw_at lw_m5 235 rfl) rfl
theorem q1264 : (Jvm.Cond.code ({ cls := "java/lang/Character", name := "isValidCodePoint", desc := "(I)Z" } : Jvm.MethodName) prog_19_method_11_code (2 : Nat) (Option.some Jvm.ClassFile.FieldType.boolean)) ∈ lw_all := lw_g (lw_at lw_m5 236 rfl) rfl
theorem q1266 : (Jvm.Cond.static ({ cls := "java/lang/Character", name := "highSurrogate", desc := "(I)C" } : Jvm.MethodName)) ∈ lw_all := lw_g (lw_at lw_m5 238 rfl) rfl
theorem q1267 : (Jvm.Cond.code ({ cls := "java/lang/Character", name := "highSurrogate", desc := "(I)C" } : Jvm.MethodName) prog_19_method_28_code (1 : Nat) (Option.some Jvm.ClassFile.FieldType.char)) ∈ lw_all := lw_g (lw_at lw_m5 239 rfl) rfl
theorem q1268 : (Jvm.Cond.constant "java/lang/Character" (110 : Nat) (55232 : Int32)) ∈ lw_all := lw_g (lw_at lw_m6 0 rfl) rfl
theorem q1270 : (Jvm.Cond.static ({ cls := "java/lang/Character", name := "lowSurrogate", desc := "(I)C" } : Jvm.MethodName)) ∈ lw_all := lw_g (lw_at lw_m6 2 rfl) rfl
theorem q1271 : (Jvm.Cond.code ({ cls := "java/lang/Character", name := "lowSurrogate", desc := "(I)C" } : Jvm.MethodName) prog_19_method_29_code (1 : Nat) (Option.some Jvm.ClassFile.FieldType.char)) ∈ lw_all := lw_g (lw_at lw_m6 3 rfl) rfl
theorem q1272 : (Jvm.Cond.constant "java/lang/Character" (76 : Nat) (56320 : Int32)) ∈ lw_all := lw_g (lw_at lw_m6 4 rfl) rfl
/-! java/lang/Float -/
set_option maxRecDepth 100000
def RJ19 : String := "java/lang/Float"
abbrev cJ19_floatToIntBits : ByteArray := prog_23_method_24_code
def yJ19_floatToIntBits : MethodName := ⟨RJ19, "floatToIntBits", "(F)I"⟩
def dkwJ19_floatToIntBits_0 : List UInt8 := [34, 184, 0, 59, 154, 0, 8, 34, 184, 0, 74, 172, 18, 77, 172]
abbrev dktJ19_floatToIntBits_0 : List UInt8 := dkwJ19_floatToIntBits_0 ++ []
theorem dksJ19_floatToIntBits_0 : cJ19_floatToIntBits.data.toList.drop 0 = dktJ19_floatToIntBits_0 := by decide +kernel
theorem dJ19_floatToIntBits_0 : decode cJ19_floatToIntBits 0 = .ok (.fload_n 0, 1) := dk_34 (dk_at dksJ19_floatToIntBits_0 0 rfl rfl)
theorem dJ19_floatToIntBits_1 : decode cJ19_floatToIntBits 1 = .ok (.invokestatic 59, 3) := dk_184 0 59 (dk_at dksJ19_floatToIntBits_0 1 rfl rfl)
theorem dJ19_floatToIntBits_4 : decode cJ19_floatToIntBits 4 = .ok (.ifCond .ne 8, 3) := dk_154 0 8 (dk_at dksJ19_floatToIntBits_0 4 rfl rfl)
theorem dJ19_floatToIntBits_7 : decode cJ19_floatToIntBits 7 = .ok (.fload_n 0, 1) := dk_34 (dk_at dksJ19_floatToIntBits_0 7 rfl rfl)
theorem dJ19_floatToIntBits_8 : decode cJ19_floatToIntBits 8 = .ok (.invokestatic 74, 3) := dk_184 0 74 (dk_at dksJ19_floatToIntBits_0 8 rfl rfl)
theorem dJ19_floatToIntBits_11 : decode cJ19_floatToIntBits 11 = .ok (.ireturn, 1) := dk_172 (dk_at dksJ19_floatToIntBits_0 11 rfl rfl)
theorem dJ19_floatToIntBits_12 : decode cJ19_floatToIntBits 12 = .ok (.ldc 77, 2) := dk_18 77 (dk_at dksJ19_floatToIntBits_0 12 rfl rfl)
theorem dJ19_floatToIntBits_14 : decode cJ19_floatToIntBits 14 = .ok (.ireturn, 1) := dk_172 (dk_at dksJ19_floatToIntBits_0 14 rfl rfl)
abbrev cJ19_isNaN : ByteArray := prog_23_method_6_code
def yJ19_isNaN : MethodName := ⟨RJ19, "isNaN", "(F)Z"⟩
def dkwJ19_isNaN_0 : List UInt8 := [34, 34, 149, 153, 0, 7, 4, 167, 0, 4, 3, 172]
abbrev dktJ19_isNaN_0 : List UInt8 := dkwJ19_isNaN_0 ++ []
theorem dksJ19_isNaN_0 : cJ19_isNaN.data.toList.drop 0 = dktJ19_isNaN_0 := by decide +kernel
theorem dJ19_isNaN_0 : decode cJ19_isNaN 0 = .ok (.fload_n 0, 1) := dk_34 (dk_at dksJ19_isNaN_0 0 rfl rfl)
theorem dJ19_isNaN_1 : decode cJ19_isNaN 1 = .ok (.fload_n 0, 1) := dk_34 (dk_at dksJ19_isNaN_0 1 rfl rfl)
theorem dJ19_isNaN_2 : decode cJ19_isNaN 2 = .ok (.fcmp .l, 1) := dk_149 (dk_at dksJ19_isNaN_0 2 rfl rfl)
theorem dJ19_isNaN_3 : decode cJ19_isNaN 3 = .ok (.ifCond .eq 7, 3) := dk_153 0 7 (dk_at dksJ19_isNaN_0 3 rfl rfl)
theorem dJ19_isNaN_6 : decode cJ19_isNaN 6 = .ok (.iconst 1, 1) := dk_4 (dk_at dksJ19_isNaN_0 6 rfl rfl)
theorem dJ19_isNaN_7 : decode cJ19_isNaN 7 = .ok (.goto 4, 3) := dk_167 0 4 (dk_at dksJ19_isNaN_0 7 rfl rfl)
theorem dJ19_isNaN_10 : decode cJ19_isNaN 10 = .ok (.iconst 0, 1) := dk_3 (dk_at dksJ19_isNaN_0 10 rfl rfl)
theorem dJ19_isNaN_11 : decode cJ19_isNaN 11 = .ok (.ireturn, 1) := dk_172 (dk_at dksJ19_isNaN_0 11 rfl rfl)
theorem q101 : (Jvm.Cond.initialized "java/lang/Float") ∈ lw_all := lw_g (lw_at lw_m1 33 rfl) rfl
theorem q1379 : (Jvm.Cond.static ({ cls := "java/lang/Float", name := "floatToIntBits", desc := "(F)I" } : Jvm.MethodName)) ∈ lw_all := lw_g (lw_at lw_m6 111 rfl) rfl
theorem q1380 : (Jvm.Cond.code ({ cls := "java/lang/Float", name := "floatToIntBits", desc := "(F)I" } : Jvm.MethodName) prog_23_method_24_code (1 : Nat) (Option.some Jvm.ClassFile.FieldType.int)) ∈ lw_all := lw_g (lw_at lw_m6 112 rfl) rfl
theorem q1381 : (Jvm.Cond.methodLink "java/lang/Float" (59 : Nat) ({ cls := "java/lang/Float", name := "isNaN", desc := "(F)Z" } : Jvm.MethodName)) ∈ lw_all := lw_g (lw_at lw_m6 113 rfl) rfl
theorem q1382 : (Jvm.Cond.static ({ cls := "java/lang/Float", name := "isNaN", desc := "(F)Z" } : Jvm.MethodName)) ∈ lw_all := lw_g (lw_at lw_m6 114 rfl) rfl
theorem q1383 : (Jvm.Cond.code ({ cls := "java/lang/Float", name := "isNaN", desc := "(F)Z" } : Jvm.MethodName) prog_23_method_6_code (1 : Nat) (Option.some Jvm.ClassFile.FieldType.boolean)) ∈ lw_all := lw_g (lw_at lw_m6 115 rfl) rfl
theorem q1384 : (Jvm.Cond.methodLink "java/lang/Float" (74 : Nat) ({ cls := "java/lang/Float", name := "floatToRawIntBits", desc := "(F)I" } : Jvm.MethodName)) ∈ lw_all := lw_g (lw_at lw_m6 116 rfl) rfl
theorem q1385 : (Jvm.Cond.static ({ cls := "java/lang/Float", name := "floatToRawIntBits", desc := "(F)I" } : Jvm.MethodName)) ∈ lw_all := lw_g (lw_at lw_m6 117 rfl) rfl
theorem q1386 : (Jvm.Cond.native ({ cls := "java/lang/Float", name := "floatToRawIntBits", desc := "(F)I" } : Jvm.MethodName)) ∈ lw_all := lw_g (lw_at lw_m6 118 rfl) rfl
theorem q1387 : (Jvm.Cond.constant "java/lang/Float" (77 : Nat) (2143289344 : Int32)) ∈ lw_all := lw_g (lw_at lw_m6 119 rfl) rfl
/-! java/lang/Object -/
set_option maxRecDepth 100000
def RJ20 : String := "java/lang/Object"
abbrev cJ20_init : ByteArray := object_method_1_code
def yJ20_init : MethodName := ⟨RJ20, "<init>", "()V"⟩
theorem dJ20_init_0 : decode cJ20_init 0 = .ok (.return_, 1) := by decide +kernel
theorem q108 : (Jvm.Cond.instanceMethod ({ cls := "java/lang/Object", name := "<init>", desc := "()V" } : Jvm.MethodName)) ∈ lw_all := lw_g (lw_at lw_m1 40 rfl) rfl
theorem q109 : (Jvm.Cond.code ({ cls := "java/lang/Object", name := "<init>", desc := "()V" } : Jvm.MethodName) object_method_1_code (1 : Nat) (Option.none : Option Jvm.ClassFile.FieldType)) ∈ lw_all := lw_g (lw_at lw_m1 41 rfl) rfl
theorem q498 : (Jvm.Cond.instanceMethod ({ cls := "java/lang/Object", name := "getClass", desc := "()Ljava/lang/Class;" } : Jvm.MethodName)) ∈ lw_all := lw_g (lw_at lw_m2 190 rfl) rfl
theorem q499 : (Jvm.Cond.sameMethod "java/lang/Object" "java/lang/Object" "getClass" "()Ljava/lang/Class;") ∈ lw_all := lw_g (lw_at lw_m2 191 rfl) rfl
theorem q516 : (Jvm.Cond.native ({ cls := "java/lang/Object", name := "getClass", desc := "()Ljava/lang/Class;" } : Jvm.MethodName)) ∈ lw_all := lw_g (lw_at lw_m2 208 rfl) rfl
theorem q997 : (Jvm.Cond.native ({ cls := "java/lang/Object", name := "clone", desc := "()Ljava/lang/Object;" } : Jvm.MethodName)) ∈ lw_all := lw_g (lw_at lw_m4 209 rfl) rfl
theorem q998 : (Jvm.Cond.instanceMethod ({ cls := "java/lang/Object", name := "clone", desc := "()Ljava/lang/Object;" } : Jvm.MethodName)) ∈ lw_all := lw_g (lw_at lw_m4 210 rfl) rfl
theorem q1815 : (Jvm.Cond.initialized "java/lang/Object") ∈ lw_all := lw_g (lw_at lw_m8 67 rfl) rfl
theorem q1835 : (Jvm.Cond.declares ({ cls := "java/lang/Object", name := "getClass", desc := "()Ljava/lang/Class;" } : Jvm.MethodName)) ∈ lw_tbl := lw_at lw_m8 87 rfl
theorem q1840 : (Jvm.Cond.instantiable "java/lang/Object" (0 : Nat)) ∈ lw_all := lw_g (lw_at lw_m8 92 rfl) rfl
