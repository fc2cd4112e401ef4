/-! TulipLines -/
set_option maxRecDepth 100000
def RX0 : String := "TulipLines"
def TX0 : u_T := fun k => match k with
  | 0 => ("TulipLines", "bed", "LTulipLines$Bed;", false)
  | 1 => ("TulipLines", "saved", "LTulipLines$Bed;", false)
  | 2 => ("TulipLines", "undos", "Ljava/util/ArrayDeque;", true)
  | 3 => ("TulipLines", "refusedFor", "I", false)
  | 4 => ("TulipLines", "refusedWith", "I", false)
  | 5 => ("TulipLines", "refusedAt", "I", false)
  | 6 => ("TulipLines", "line", "Ljava/lang/String;", false)
  | _ => ("TulipLines", "text", "Ljava/lang/StringBuilder;", true)
def tyX0 : Nat → FieldType := fun k => match k with
  | 0 => .object "TulipLines$Bed"
  | 1 => .object "TulipLines$Bed"
  | 2 => .object "java/util/ArrayDeque"
  | 3 => .int
  | 4 => .int
  | 5 => .int
  | 6 => .object "java/lang/String"
  | _ => .object "java/lang/StringBuilder"
abbrev wsX00 : List Cond := u_ws RX0 TX0 8
theorem nmX0 : ∀ a, a < 8 → ∀ b, b < 8 → a ≠ b → (TX0 a).2.1 ≠ (TX0 b).2.1 := by decide +kernel
theorem tyX0_ok : ∀ k, k < 8 → parseFieldDescriptor (TX0 k).2.2.1 = some (tyX0 k) := by decide +kernel
abbrev cX0_init : ByteArray := prog_1_method_16_code
def yX0_init : MethodName := ⟨RX0, "<init>", "()V"⟩
def dkwX0_init_2 : List UInt8 := [181, 0, 96, 42, 187, 0, 100, 89, 183, 0, 102, 181, 0, 103, 177]
abbrev dktX0_init_2 : List UInt8 := dkwX0_init_2 ++ []
def dkwX0_init_1 : List UInt8 := [181, 0, 12, 42, 16, 252, 181, 0, 38, 42, 16, 252, 181, 0, 44, 42, 16, 252, 181, 0, 47, 42, 18, 94]
abbrev dktX0_init_1 : List UInt8 := dkwX0_init_1 ++ dktX0_init_2
def dkwX0_init_0 : List UInt8 := [42, 183, 0, 87, 42, 187, 0, 28, 89, 183, 0, 92, 181, 0, 65, 42, 187, 0, 19, 89, 183, 0, 93]
abbrev dktX0_init_0 : List UInt8 := dkwX0_init_0 ++ dktX0_init_1
theorem dksX0_init_0 : cX0_init.data.toList.drop 0 = dktX0_init_0 := by decide +kernel
theorem dksX0_init_1 : cX0_init.data.toList.drop 23 = dktX0_init_1 := dk_seg dksX0_init_0 23 rfl rfl
theorem dksX0_init_2 : cX0_init.data.toList.drop 47 = dktX0_init_2 := dk_seg dksX0_init_1 24 rfl rfl
theorem dX0_init_0 : decode cX0_init 0 = .ok (.aload_n 0, 1) := dk_42 (dk_at dksX0_init_0 0 rfl rfl)
theorem dX0_init_1 : decode cX0_init 1 = .ok (.invokespecial 87, 3) := dk_183 0 87 (dk_at dksX0_init_0 1 rfl rfl)
theorem dX0_init_4 : decode cX0_init 4 = .ok (.aload_n 0, 1) := dk_42 (dk_at dksX0_init_0 4 rfl rfl)
theorem dX0_init_5 : decode cX0_init 5 = .ok (.new 28, 3) := dk_187 0 28 (dk_at dksX0_init_0 5 rfl rfl)
theorem dX0_init_8 : decode cX0_init 8 = .ok (.dup, 1) := dk_89 (dk_at dksX0_init_0 8 rfl rfl)
theorem dX0_init_9 : decode cX0_init 9 = .ok (.invokespecial 92, 3) := dk_183 0 92 (dk_at dksX0_init_0 9 rfl rfl)
theorem dX0_init_12 : decode cX0_init 12 = .ok (.putfield 65, 3) := dk_181 0 65 (dk_at dksX0_init_0 12 rfl rfl)
theorem dX0_init_15 : decode cX0_init 15 = .ok (.aload_n 0, 1) := dk_42 (dk_at dksX0_init_0 15 rfl rfl)
theorem dX0_init_16 : decode cX0_init 16 = .ok (.new 19, 3) := dk_187 0 19 (dk_at dksX0_init_0 16 rfl rfl)
theorem dX0_init_19 : decode cX0_init 19 = .ok (.dup, 1) := dk_89 (dk_at dksX0_init_0 19 rfl rfl)
theorem dX0_init_20 : decode cX0_init 20 = .ok (.invokespecial 93, 3) := dk_183 0 93 (dk_at dksX0_init_0 20 rfl rfl)
theorem dX0_init_23 : decode cX0_init 23 = .ok (.putfield 12, 3) := dk_181 0 12 (dk_at dksX0_init_1 0 rfl rfl)
theorem dX0_init_26 : decode cX0_init 26 = .ok (.aload_n 0, 1) := dk_42 (dk_at dksX0_init_1 3 rfl rfl)
theorem dX0_init_27 : decode cX0_init 27 = .ok (.bipush (-4), 2) := dk_16 252 (dk_at dksX0_init_1 4 rfl rfl)
theorem dX0_init_29 : decode cX0_init 29 = .ok (.putfield 38, 3) := dk_181 0 38 (dk_at dksX0_init_1 6 rfl rfl)
theorem dX0_init_32 : decode cX0_init 32 = .ok (.aload_n 0, 1) := dk_42 (dk_at dksX0_init_1 9 rfl rfl)
theorem dX0_init_33 : decode cX0_init 33 = .ok (.bipush (-4), 2) := dk_16 252 (dk_at dksX0_init_1 10 rfl rfl)
theorem dX0_init_35 : decode cX0_init 35 = .ok (.putfield 44, 3) := dk_181 0 44 (dk_at dksX0_init_1 12 rfl rfl)
theorem dX0_init_38 : decode cX0_init 38 = .ok (.aload_n 0, 1) := dk_42 (dk_at dksX0_init_1 15 rfl rfl)
theorem dX0_init_39 : decode cX0_init 39 = .ok (.bipush (-4), 2) := dk_16 252 (dk_at dksX0_init_1 16 rfl rfl)
theorem dX0_init_41 : decode cX0_init 41 = .ok (.putfield 47, 3) := dk_181 0 47 (dk_at dksX0_init_1 18 rfl rfl)
theorem dX0_init_44 : decode cX0_init 44 = .ok (.aload_n 0, 1) := dk_42 (dk_at dksX0_init_1 21 rfl rfl)
theorem dX0_init_45 : decode cX0_init 45 = .ok (.ldc 94, 2) := dk_18 94 (dk_at dksX0_init_1 22 rfl rfl)
theorem dX0_init_47 : decode cX0_init 47 = .ok (.putfield 96, 3) := dk_181 0 96 (dk_at dksX0_init_2 0 rfl rfl)
theorem dX0_init_50 : decode cX0_init 50 = .ok (.aload_n 0, 1) := dk_42 (dk_at dksX0_init_2 3 rfl rfl)
theorem dX0_init_51 : decode cX0_init 51 = .ok (.new 100, 3) := dk_187 0 100 (dk_at dksX0_init_2 4 rfl rfl)
theorem dX0_init_54 : decode cX0_init 54 = .ok (.dup, 1) := dk_89 (dk_at dksX0_init_2 7 rfl rfl)
theorem dX0_init_55 : decode cX0_init 55 = .ok (.invokespecial 102, 3) := dk_183 0 102 (dk_at dksX0_init_2 8 rfl rfl)
theorem dX0_init_58 : decode cX0_init 58 = .ok (.putfield 103, 3) := dk_181 0 103 (dk_at dksX0_init_2 11 rfl rfl)
theorem dX0_init_61 : decode cX0_init 61 = .ok (.return_, 1) := dk_177 (dk_at dksX0_init_2 14 rfl rfl)
abbrev cX0_plant : ByteArray := prog_1_method_17_code
def yX0_plant : MethodName := ⟨RX0, "plant", "(I)I"⟩
def dkwX0_plant_0 : List UInt8 := [42, 27, 184, 0, 107, 182, 0, 110, 172]
abbrev dktX0_plant_0 : List UInt8 := dkwX0_plant_0 ++ []
theorem dksX0_plant_0 : cX0_plant.data.toList.drop 0 = dktX0_plant_0 := by decide +kernel
theorem dX0_plant_0 : decode cX0_plant 0 = .ok (.aload_n 0, 1) := dk_42 (dk_at dksX0_plant_0 0 rfl rfl)
theorem dX0_plant_1 : decode cX0_plant 1 = .ok (.iload_n 1, 1) := dk_27 (dk_at dksX0_plant_0 1 rfl rfl)
theorem dX0_plant_2 : decode cX0_plant 2 = .ok (.invokestatic 107, 3) := dk_184 0 107 (dk_at dksX0_plant_0 2 rfl rfl)
theorem dX0_plant_5 : decode cX0_plant 5 = .ok (.invokevirtual 110, 3) := dk_182 0 110 (dk_at dksX0_plant_0 5 rfl rfl)
theorem dX0_plant_8 : decode cX0_plant 8 = .ok (.ireturn, 1) := dk_172 (dk_at dksX0_plant_0 8 rfl rfl)
abbrev cX0_planting : ByteArray := prog_1_method_7_code
def yX0_planting : MethodName := ⟨RX0, "planting", "(I)LTulipLines$Change;"⟩
theorem dX0_planting_0 : decode cX0_planting 0 = .ok (.iload_n 0, 1) := by decide +kernel
theorem dX0_planting_1 : decode cX0_planting 1 = .ok (.invokedynamic 50, 5) := by decide +kernel
theorem dX0_planting_6 : decode cX0_planting 6 = .ok (.areturn, 1) := by decide +kernel
abbrev cX0_lambda_planting_0 : ByteArray := prog_1_method_66_code
def yX0_lambda_planting_0 : MethodName := ⟨RX0, "lambda$planting$0", "(ILTulipLines$Bed;)I"⟩
def dkwX0_lambda_planting_0_0 : List UInt8 := [26, 3, 17, 0, 255, 184, 0, 215, 16, 254, 184, 1, 119, 43, 26, 182, 1, 150, 172]
abbrev dktX0_lambda_planting_0_0 : List UInt8 := dkwX0_lambda_planting_0_0 ++ []
theorem dksX0_lambda_planting_0_0 : cX0_lambda_planting_0.data.toList.drop 0 = dktX0_lambda_planting_0_0 := by decide +kernel
theorem dX0_lambda_planting_0_0 : decode cX0_lambda_planting_0 0 = .ok (.iload_n 0, 1) := dk_26 (dk_at dksX0_lambda_planting_0_0 0 rfl rfl)
theorem dX0_lambda_planting_0_1 : decode cX0_lambda_planting_0 1 = .ok (.iconst 0, 1) := dk_3 (dk_at dksX0_lambda_planting_0_0 1 rfl rfl)
theorem dX0_lambda_planting_0_2 : decode cX0_lambda_planting_0 2 = .ok (.sipush 255, 3) := dk_17 0 255 (dk_at dksX0_lambda_planting_0_0 2 rfl rfl)
theorem dX0_lambda_planting_0_5 : decode cX0_lambda_planting_0 5 = .ok (.invokestatic 215, 3) := dk_184 0 215 (dk_at dksX0_lambda_planting_0_0 5 rfl rfl)
theorem dX0_lambda_planting_0_8 : decode cX0_lambda_planting_0 8 = .ok (.bipush (-2), 2) := dk_16 254 (dk_at dksX0_lambda_planting_0_0 8 rfl rfl)
theorem dX0_lambda_planting_0_10 : decode cX0_lambda_planting_0 10 = .ok (.invokestatic 375, 3) := dk_184 1 119 (dk_at dksX0_lambda_planting_0_0 10 rfl rfl)
theorem dX0_lambda_planting_0_13 : decode cX0_lambda_planting_0 13 = .ok (.aload_n 1, 1) := dk_43 (dk_at dksX0_lambda_planting_0_0 13 rfl rfl)
theorem dX0_lambda_planting_0_14 : decode cX0_lambda_planting_0 14 = .ok (.iload_n 0, 1) := dk_26 (dk_at dksX0_lambda_planting_0_0 14 rfl rfl)
theorem dX0_lambda_planting_0_15 : decode cX0_lambda_planting_0 15 = .ok (.invokevirtual 406, 3) := dk_182 1 150 (dk_at dksX0_lambda_planting_0_0 15 rfl rfl)
theorem dX0_lambda_planting_0_18 : decode cX0_lambda_planting_0 18 = .ok (.ireturn, 1) := dk_172 (dk_at dksX0_lambda_planting_0_0 18 rfl rfl)
abbrev cX0_isBetween : ByteArray := prog_1_method_1_code
def yX0_isBetween : MethodName := ⟨RX0, "isBetween", "(III)Z"⟩
def dkwX0_isBetween_0 : List UInt8 := [26, 27, 161, 0, 12, 26, 28, 163, 0, 7, 4, 167, 0, 4, 3, 172]
abbrev dktX0_isBetween_0 : List UInt8 := dkwX0_isBetween_0 ++ []
theorem dksX0_isBetween_0 : cX0_isBetween.data.toList.drop 0 = dktX0_isBetween_0 := by decide +kernel
theorem dX0_isBetween_0 : decode cX0_isBetween 0 = .ok (.iload_n 0, 1) := dk_26 (dk_at dksX0_isBetween_0 0 rfl rfl)
theorem dX0_isBetween_1 : decode cX0_isBetween 1 = .ok (.iload_n 1, 1) := dk_27 (dk_at dksX0_isBetween_0 1 rfl rfl)
theorem dX0_isBetween_2 : decode cX0_isBetween 2 = .ok (.if_icmp .lt 12, 3) := dk_161 0 12 (dk_at dksX0_isBetween_0 2 rfl rfl)
theorem dX0_isBetween_5 : decode cX0_isBetween 5 = .ok (.iload_n 0, 1) := dk_26 (dk_at dksX0_isBetween_0 5 rfl rfl)
theorem dX0_isBetween_6 : decode cX0_isBetween 6 = .ok (.iload_n 2, 1) := dk_28 (dk_at dksX0_isBetween_0 6 rfl rfl)
theorem dX0_isBetween_7 : decode cX0_isBetween 7 = .ok (.if_icmp .gt 7, 3) := dk_163 0 7 (dk_at dksX0_isBetween_0 7 rfl rfl)
theorem dX0_isBetween_10 : decode cX0_isBetween 10 = .ok (.iconst 1, 1) := dk_4 (dk_at dksX0_isBetween_0 10 rfl rfl)
theorem dX0_isBetween_11 : decode cX0_isBetween 11 = .ok (.goto 4, 3) := dk_167 0 4 (dk_at dksX0_isBetween_0 11 rfl rfl)
theorem dX0_isBetween_14 : decode cX0_isBetween 14 = .ok (.iconst 0, 1) := dk_3 (dk_at dksX0_isBetween_0 14 rfl rfl)
theorem dX0_isBetween_15 : decode cX0_isBetween 15 = .ok (.ireturn, 1) := dk_172 (dk_at dksX0_isBetween_0 15 rfl rfl)
abbrev cX0_wants : ByteArray := prog_1_method_4_code
def yX0_wants : MethodName := ⟨RX0, "wants", "(ZI)V"⟩
def dkwX0_wants_0 : List UInt8 := [26, 154, 0, 12, 187, 0, 7, 89, 27, 183, 0, 9, 191, 177]
abbrev dktX0_wants_0 : List UInt8 := dkwX0_wants_0 ++ []
theorem dksX0_wants_0 : cX0_wants.data.toList.drop 0 = dktX0_wants_0 := by decide +kernel
theorem dX0_wants_0 : decode cX0_wants 0 = .ok (.iload_n 0, 1) := dk_26 (dk_at dksX0_wants_0 0 rfl rfl)
theorem dX0_wants_1 : decode cX0_wants 1 = .ok (.ifCond .ne 12, 3) := dk_154 0 12 (dk_at dksX0_wants_0 1 rfl rfl)
theorem dX0_wants_4 : decode cX0_wants 4 = .ok (.new 7, 3) := dk_187 0 7 (dk_at dksX0_wants_0 4 rfl rfl)
theorem dX0_wants_7 : decode cX0_wants 7 = .ok (.dup, 1) := dk_89 (dk_at dksX0_wants_0 7 rfl rfl)
theorem dX0_wants_8 : decode cX0_wants 8 = .ok (.iload_n 1, 1) := dk_27 (dk_at dksX0_wants_0 8 rfl rfl)
theorem dX0_wants_9 : decode cX0_wants 9 = .ok (.invokespecial 9, 3) := dk_183 0 9 (dk_at dksX0_wants_0 9 rfl rfl)
theorem dX0_wants_12 : decode cX0_wants 12 = .ok (.athrow, 1) := dk_191 (dk_at dksX0_wants_0 12 rfl rfl)
theorem dX0_wants_13 : decode cX0_wants 13 = .ok (.return_, 1) := dk_177 (dk_at dksX0_wants_0 13 rfl rfl)
abbrev cX0_refuseIf : ByteArray := prog_1_method_3_code
def yX0_refuseIf : MethodName := ⟨RX0, "refuseIf", "(ZII)V"⟩
def dkwX0_refuseIf_0 : List UInt8 := [26, 153, 0, 13, 187, 0, 1, 89, 27, 28, 183, 0, 3, 191, 177]
abbrev dktX0_refuseIf_0 : List UInt8 := dkwX0_refuseIf_0 ++ []
theorem dksX0_refuseIf_0 : cX0_refuseIf.data.toList.drop 0 = dktX0_refuseIf_0 := by decide +kernel
theorem dX0_refuseIf_0 : decode cX0_refuseIf 0 = .ok (.iload_n 0, 1) := dk_26 (dk_at dksX0_refuseIf_0 0 rfl rfl)
theorem dX0_refuseIf_1 : decode cX0_refuseIf 1 = .ok (.ifCond .eq 13, 3) := dk_153 0 13 (dk_at dksX0_refuseIf_0 1 rfl rfl)
theorem dX0_refuseIf_4 : decode cX0_refuseIf 4 = .ok (.new 1, 3) := dk_187 0 1 (dk_at dksX0_refuseIf_0 4 rfl rfl)
theorem dX0_refuseIf_7 : decode cX0_refuseIf 7 = .ok (.dup, 1) := dk_89 (dk_at dksX0_refuseIf_0 7 rfl rfl)
theorem dX0_refuseIf_8 : decode cX0_refuseIf 8 = .ok (.iload_n 1, 1) := dk_27 (dk_at dksX0_refuseIf_0 8 rfl rfl)
theorem dX0_refuseIf_9 : decode cX0_refuseIf 9 = .ok (.iload_n 2, 1) := dk_28 (dk_at dksX0_refuseIf_0 9 rfl rfl)
theorem dX0_refuseIf_10 : decode cX0_refuseIf 10 = .ok (.invokespecial 3, 3) := dk_183 0 3 (dk_at dksX0_refuseIf_0 10 rfl rfl)
theorem dX0_refuseIf_13 : decode cX0_refuseIf 13 = .ok (.athrow, 1) := dk_191 (dk_at dksX0_refuseIf_0 13 rfl rfl)
theorem dX0_refuseIf_14 : decode cX0_refuseIf 14 = .ok (.return_, 1) := dk_177 (dk_at dksX0_refuseIf_0 14 rfl rfl)
abbrev cX0_carryOut : ByteArray := prog_1_method_15_code
def yX0_carryOut : MethodName := ⟨RX0, "carryOut", "(LTulipLines$Change;)I"⟩
def dkwX0_carryOut_5 : List UInt8 := [153, 0, 11, 42, 45, 182, 0, 77, 167, 0, 8, 42, 45, 181, 0, 65, 25, 6, 191]
abbrev dktX0_carryOut_5 : List UInt8 := dkwX0_carryOut_5 ++ []
def dkwX0_carryOut_4 : List UInt8 := [153, 0, 11, 42, 45, 182, 0, 77, 167, 0, 8, 42, 45, 181, 0, 65, 21, 5, 172, 58, 6, 28]
abbrev dktX0_carryOut_4 : List UInt8 := dkwX0_carryOut_4 ++ dktX0_carryOut_5
def dkwX0_carryOut_3 : List UInt8 := [167, 0, 8, 42, 45, 181, 0, 65, 21, 5, 172, 58, 4, 42, 25, 4, 16, 252, 182, 0, 83, 54, 5, 28]
abbrev dktX0_carryOut_3 : List UInt8 := dkwX0_carryOut_3 ++ dktX0_carryOut_4
def dkwX0_carryOut_2 : List UInt8 := [181, 0, 65, 21, 5, 172, 58, 4, 25, 4, 180, 0, 80, 54, 5, 28, 153, 0, 11, 42, 45, 182, 0, 77]
abbrev dktX0_carryOut_2 : List UInt8 := dkwX0_carryOut_2 ++ dktX0_carryOut_3
def dkwX0_carryOut_1 : List UInt8 := [54, 4, 4, 61, 21, 4, 54, 5, 28, 153, 0, 11, 42, 45, 182, 0, 77, 167, 0, 8, 42, 45]
abbrev dktX0_carryOut_1 : List UInt8 := dkwX0_carryOut_1 ++ dktX0_carryOut_2
def dkwX0_carryOut_0 : List UInt8 := [3, 61, 187, 0, 28, 89, 42, 180, 0, 65, 183, 0, 69, 78, 43, 42, 180, 0, 65, 185, 0, 72, 2, 0]
abbrev dktX0_carryOut_0 : List UInt8 := dkwX0_carryOut_0 ++ dktX0_carryOut_1
theorem dksX0_carryOut_0 : cX0_carryOut.data.toList.drop 0 = dktX0_carryOut_0 := by decide +kernel
theorem dksX0_carryOut_1 : cX0_carryOut.data.toList.drop 24 = dktX0_carryOut_1 := dk_seg dksX0_carryOut_0 24 rfl rfl
theorem dksX0_carryOut_2 : cX0_carryOut.data.toList.drop 46 = dktX0_carryOut_2 := dk_seg dksX0_carryOut_1 22 rfl rfl
theorem dksX0_carryOut_3 : cX0_carryOut.data.toList.drop 70 = dktX0_carryOut_3 := dk_seg dksX0_carryOut_2 24 rfl rfl
theorem dksX0_carryOut_4 : cX0_carryOut.data.toList.drop 94 = dktX0_carryOut_4 := dk_seg dksX0_carryOut_3 24 rfl rfl
theorem dksX0_carryOut_5 : cX0_carryOut.data.toList.drop 116 = dktX0_carryOut_5 := dk_seg dksX0_carryOut_4 22 rfl rfl
theorem dX0_carryOut_0 : decode cX0_carryOut 0 = .ok (.iconst 0, 1) := dk_3 (dk_at dksX0_carryOut_0 0 rfl rfl)
theorem dX0_carryOut_1 : decode cX0_carryOut 1 = .ok (.istore_n 2, 1) := dk_61 (dk_at dksX0_carryOut_0 1 rfl rfl)
theorem dX0_carryOut_2 : decode cX0_carryOut 2 = .ok (.new 28, 3) := dk_187 0 28 (dk_at dksX0_carryOut_0 2 rfl rfl)
theorem dX0_carryOut_5 : decode cX0_carryOut 5 = .ok (.dup, 1) := dk_89 (dk_at dksX0_carryOut_0 5 rfl rfl)
theorem dX0_carryOut_6 : decode cX0_carryOut 6 = .ok (.aload_n 0, 1) := dk_42 (dk_at dksX0_carryOut_0 6 rfl rfl)
theorem dX0_carryOut_7 : decode cX0_carryOut 7 = .ok (.getfield 65, 3) := dk_180 0 65 (dk_at dksX0_carryOut_0 7 rfl rfl)
theorem dX0_carryOut_10 : decode cX0_carryOut 10 = .ok (.invokespecial 69, 3) := dk_183 0 69 (dk_at dksX0_carryOut_0 10 rfl rfl)
theorem dX0_carryOut_13 : decode cX0_carryOut 13 = .ok (.astore_n 3, 1) := dk_78 (dk_at dksX0_carryOut_0 13 rfl rfl)
theorem dX0_carryOut_14 : decode cX0_carryOut 14 = .ok (.aload_n 1, 1) := dk_43 (dk_at dksX0_carryOut_0 14 rfl rfl)
theorem dX0_carryOut_15 : decode cX0_carryOut 15 = .ok (.aload_n 0, 1) := dk_42 (dk_at dksX0_carryOut_0 15 rfl rfl)
theorem dX0_carryOut_16 : decode cX0_carryOut 16 = .ok (.getfield 65, 3) := dk_180 0 65 (dk_at dksX0_carryOut_0 16 rfl rfl)
theorem dX0_carryOut_19 : decode cX0_carryOut 19 = .ok (.invokeinterface 72 2, 5) := by decide +kernel
theorem dX0_carryOut_24 : decode cX0_carryOut 24 = .ok (.istore 4, 2) := dk_54 4 (dk_at dksX0_carryOut_1 0 rfl rfl)
theorem dX0_carryOut_26 : decode cX0_carryOut 26 = .ok (.iconst 1, 1) := dk_4 (dk_at dksX0_carryOut_1 2 rfl rfl)
theorem dX0_carryOut_27 : decode cX0_carryOut 27 = .ok (.istore_n 2, 1) := dk_61 (dk_at dksX0_carryOut_1 3 rfl rfl)
theorem dX0_carryOut_28 : decode cX0_carryOut 28 = .ok (.iload 4, 2) := dk_21 4 (dk_at dksX0_carryOut_1 4 rfl rfl)
theorem dX0_carryOut_30 : decode cX0_carryOut 30 = .ok (.istore 5, 2) := dk_54 5 (dk_at dksX0_carryOut_1 6 rfl rfl)
theorem dX0_carryOut_32 : decode cX0_carryOut 32 = .ok (.iload_n 2, 1) := dk_28 (dk_at dksX0_carryOut_1 8 rfl rfl)
theorem dX0_carryOut_33 : decode cX0_carryOut 33 = .ok (.ifCond .eq 11, 3) := dk_153 0 11 (dk_at dksX0_carryOut_1 9 rfl rfl)
theorem dX0_carryOut_36 : decode cX0_carryOut 36 = .ok (.aload_n 0, 1) := dk_42 (dk_at dksX0_carryOut_1 12 rfl rfl)
theorem dX0_carryOut_37 : decode cX0_carryOut 37 = .ok (.aload_n 3, 1) := dk_45 (dk_at dksX0_carryOut_1 13 rfl rfl)
theorem dX0_carryOut_38 : decode cX0_carryOut 38 = .ok (.invokevirtual 77, 3) := dk_182 0 77 (dk_at dksX0_carryOut_1 14 rfl rfl)
theorem dX0_carryOut_41 : decode cX0_carryOut 41 = .ok (.goto 8, 3) := dk_167 0 8 (dk_at dksX0_carryOut_1 17 rfl rfl)
theorem dX0_carryOut_44 : decode cX0_carryOut 44 = .ok (.aload_n 0, 1) := dk_42 (dk_at dksX0_carryOut_1 20 rfl rfl)
theorem dX0_carryOut_45 : decode cX0_carryOut 45 = .ok (.aload_n 3, 1) := dk_45 (dk_at dksX0_carryOut_1 21 rfl rfl)
theorem dX0_carryOut_46 : decode cX0_carryOut 46 = .ok (.putfield 65, 3) := dk_181 0 65 (dk_at dksX0_carryOut_2 0 rfl rfl)
theorem dX0_carryOut_49 : decode cX0_carryOut 49 = .ok (.iload 5, 2) := dk_21 5 (dk_at dksX0_carryOut_2 3 rfl rfl)
theorem dX0_carryOut_51 : decode cX0_carryOut 51 = .ok (.ireturn, 1) := dk_172 (dk_at dksX0_carryOut_2 5 rfl rfl)
theorem dX0_carryOut_52 : decode cX0_carryOut 52 = .ok (.astore 4, 2) := dk_58 4 (dk_at dksX0_carryOut_2 6 rfl rfl)
theorem dX0_carryOut_54 : decode cX0_carryOut 54 = .ok (.aload 4, 2) := dk_25 4 (dk_at dksX0_carryOut_2 8 rfl rfl)
theorem dX0_carryOut_56 : decode cX0_carryOut 56 = .ok (.getfield 80, 3) := dk_180 0 80 (dk_at dksX0_carryOut_2 10 rfl rfl)
theorem dX0_carryOut_59 : decode cX0_carryOut 59 = .ok (.istore 5, 2) := dk_54 5 (dk_at dksX0_carryOut_2 13 rfl rfl)
theorem dX0_carryOut_61 : decode cX0_carryOut 61 = .ok (.iload_n 2, 1) := dk_28 (dk_at dksX0_carryOut_2 15 rfl rfl)
theorem dX0_carryOut_62 : decode cX0_carryOut 62 = .ok (.ifCond .eq 11, 3) := dk_153 0 11 (dk_at dksX0_carryOut_2 16 rfl rfl)
theorem dX0_carryOut_65 : decode cX0_carryOut 65 = .ok (.aload_n 0, 1) := dk_42 (dk_at dksX0_carryOut_2 19 rfl rfl)
theorem dX0_carryOut_66 : decode cX0_carryOut 66 = .ok (.aload_n 3, 1) := dk_45 (dk_at dksX0_carryOut_2 20 rfl rfl)
theorem dX0_carryOut_67 : decode cX0_carryOut 67 = .ok (.invokevirtual 77, 3) := dk_182 0 77 (dk_at dksX0_carryOut_2 21 rfl rfl)
theorem dX0_carryOut_70 : decode cX0_carryOut 70 = .ok (.goto 8, 3) := dk_167 0 8 (dk_at dksX0_carryOut_3 0 rfl rfl)
theorem dX0_carryOut_73 : decode cX0_carryOut 73 = .ok (.aload_n 0, 1) := dk_42 (dk_at dksX0_carryOut_3 3 rfl rfl)
theorem dX0_carryOut_74 : decode cX0_carryOut 74 = .ok (.aload_n 3, 1) := dk_45 (dk_at dksX0_carryOut_3 4 rfl rfl)
theorem dX0_carryOut_75 : decode cX0_carryOut 75 = .ok (.putfield 65, 3) := dk_181 0 65 (dk_at dksX0_carryOut_3 5 rfl rfl)
theorem dX0_carryOut_78 : decode cX0_carryOut 78 = .ok (.iload 5, 2) := dk_21 5 (dk_at dksX0_carryOut_3 8 rfl rfl)
theorem dX0_carryOut_80 : decode cX0_carryOut 80 = .ok (.ireturn, 1) := dk_172 (dk_at dksX0_carryOut_3 10 rfl rfl)
theorem dX0_carryOut_81 : decode cX0_carryOut 81 = .ok (.astore 4, 2) := dk_58 4 (dk_at dksX0_carryOut_3 11 rfl rfl)
theorem dX0_carryOut_83 : decode cX0_carryOut 83 = .ok (.aload_n 0, 1) := dk_42 (dk_at dksX0_carryOut_3 13 rfl rfl)
theorem dX0_carryOut_84 : decode cX0_carryOut 84 = .ok (.aload 4, 2) := dk_25 4 (dk_at dksX0_carryOut_3 14 rfl rfl)
theorem dX0_carryOut_86 : decode cX0_carryOut 86 = .ok (.bipush (-4), 2) := dk_16 252 (dk_at dksX0_carryOut_3 16 rfl rfl)
theorem dX0_carryOut_88 : decode cX0_carryOut 88 = .ok (.invokevirtual 83, 3) := dk_182 0 83 (dk_at dksX0_carryOut_3 18 rfl rfl)
theorem dX0_carryOut_91 : decode cX0_carryOut 91 = .ok (.istore 5, 2) := dk_54 5 (dk_at dksX0_carryOut_3 21 rfl rfl)
theorem dX0_carryOut_93 : decode cX0_carryOut 93 = .ok (.iload_n 2, 1) := dk_28 (dk_at dksX0_carryOut_3 23 rfl rfl)
theorem dX0_carryOut_94 : decode cX0_carryOut 94 = .ok (.ifCond .eq 11, 3) := dk_153 0 11 (dk_at dksX0_carryOut_4 0 rfl rfl)
theorem dX0_carryOut_97 : decode cX0_carryOut 97 = .ok (.aload_n 0, 1) := dk_42 (dk_at dksX0_carryOut_4 3 rfl rfl)
theorem dX0_carryOut_98 : decode cX0_carryOut 98 = .ok (.aload_n 3, 1) := dk_45 (dk_at dksX0_carryOut_4 4 rfl rfl)
theorem dX0_carryOut_99 : decode cX0_carryOut 99 = .ok (.invokevirtual 77, 3) := dk_182 0 77 (dk_at dksX0_carryOut_4 5 rfl rfl)
theorem dX0_carryOut_102 : decode cX0_carryOut 102 = .ok (.goto 8, 3) := dk_167 0 8 (dk_at dksX0_carryOut_4 8 rfl rfl)
theorem dX0_carryOut_105 : decode cX0_carryOut 105 = .ok (.aload_n 0, 1) := dk_42 (dk_at dksX0_carryOut_4 11 rfl rfl)
theorem dX0_carryOut_106 : decode cX0_carryOut 106 = .ok (.aload_n 3, 1) := dk_45 (dk_at dksX0_carryOut_4 12 rfl rfl)
theorem dX0_carryOut_107 : decode cX0_carryOut 107 = .ok (.putfield 65, 3) := dk_181 0 65 (dk_at dksX0_carryOut_4 13 rfl rfl)
theorem dX0_carryOut_110 : decode cX0_carryOut 110 = .ok (.iload 5, 2) := dk_21 5 (dk_at dksX0_carryOut_4 16 rfl rfl)
theorem dX0_carryOut_112 : decode cX0_carryOut 112 = .ok (.ireturn, 1) := dk_172 (dk_at dksX0_carryOut_4 18 rfl rfl)
theorem dX0_carryOut_113 : decode cX0_carryOut 113 = .ok (.astore 6, 2) := dk_58 6 (dk_at dksX0_carryOut_4 19 rfl rfl)
theorem dX0_carryOut_115 : decode cX0_carryOut 115 = .ok (.iload_n 2, 1) := dk_28 (dk_at dksX0_carryOut_4 21 rfl rfl)
theorem dX0_carryOut_116 : decode cX0_carryOut 116 = .ok (.ifCond .eq 11, 3) := dk_153 0 11 (dk_at dksX0_carryOut_5 0 rfl rfl)
theorem dX0_carryOut_119 : decode cX0_carryOut 119 = .ok (.aload_n 0, 1) := dk_42 (dk_at dksX0_carryOut_5 3 rfl rfl)
theorem dX0_carryOut_120 : decode cX0_carryOut 120 = .ok (.aload_n 3, 1) := dk_45 (dk_at dksX0_carryOut_5 4 rfl rfl)
theorem dX0_carryOut_121 : decode cX0_carryOut 121 = .ok (.invokevirtual 77, 3) := dk_182 0 77 (dk_at dksX0_carryOut_5 5 rfl rfl)
theorem dX0_carryOut_124 : decode cX0_carryOut 124 = .ok (.goto 8, 3) := dk_167 0 8 (dk_at dksX0_carryOut_5 8 rfl rfl)
theorem dX0_carryOut_127 : decode cX0_carryOut 127 = .ok (.aload_n 0, 1) := dk_42 (dk_at dksX0_carryOut_5 11 rfl rfl)
theorem dX0_carryOut_128 : decode cX0_carryOut 128 = .ok (.aload_n 3, 1) := dk_45 (dk_at dksX0_carryOut_5 12 rfl rfl)
theorem dX0_carryOut_129 : decode cX0_carryOut 129 = .ok (.putfield 65, 3) := dk_181 0 65 (dk_at dksX0_carryOut_5 13 rfl rfl)
theorem dX0_carryOut_132 : decode cX0_carryOut 132 = .ok (.aload 6, 2) := dk_25 6 (dk_at dksX0_carryOut_5 16 rfl rfl)
theorem dX0_carryOut_134 : decode cX0_carryOut 134 = .ok (.athrow, 1) := dk_191 (dk_at dksX0_carryOut_5 18 rfl rfl)
abbrev cX0_keep : ByteArray := prog_1_method_5_code
def yX0_keep : MethodName := ⟨RX0, "keep", "(LTulipLines$Bed;)V"⟩
def dkwX0_keep_1 : List UInt8 := [180, 0, 12, 43, 182, 0, 30, 177]
abbrev dktX0_keep_1 : List UInt8 := dkwX0_keep_1 ++ []
def dkwX0_keep_0 : List UInt8 := [42, 180, 0, 12, 182, 0, 18, 16, 8, 160, 0, 14, 42, 180, 0, 12, 182, 0, 24, 192, 0, 28, 77, 42]
abbrev dktX0_keep_0 : List UInt8 := dkwX0_keep_0 ++ dktX0_keep_1
theorem dksX0_keep_0 : cX0_keep.data.toList.drop 0 = dktX0_keep_0 := by decide +kernel
theorem dksX0_keep_1 : cX0_keep.data.toList.drop 24 = dktX0_keep_1 := dk_seg dksX0_keep_0 24 rfl rfl
theorem dX0_keep_0 : decode cX0_keep 0 = .ok (.aload_n 0, 1) := dk_42 (dk_at dksX0_keep_0 0 rfl rfl)
theorem dX0_keep_1 : decode cX0_keep 1 = .ok (.getfield 12, 3) := dk_180 0 12 (dk_at dksX0_keep_0 1 rfl rfl)
theorem dX0_keep_4 : decode cX0_keep 4 = .ok (.invokevirtual 18, 3) := dk_182 0 18 (dk_at dksX0_keep_0 4 rfl rfl)
theorem dX0_keep_7 : decode cX0_keep 7 = .ok (.bipush 8, 2) := dk_16 8 (dk_at dksX0_keep_0 7 rfl rfl)
theorem dX0_keep_9 : decode cX0_keep 9 = .ok (.if_icmp .ne 14, 3) := dk_160 0 14 (dk_at dksX0_keep_0 9 rfl rfl)
theorem dX0_keep_12 : decode cX0_keep 12 = .ok (.aload_n 0, 1) := dk_42 (dk_at dksX0_keep_0 12 rfl rfl)
theorem dX0_keep_13 : decode cX0_keep 13 = .ok (.getfield 12, 3) := dk_180 0 12 (dk_at dksX0_keep_0 13 rfl rfl)
theorem dX0_keep_16 : decode cX0_keep 16 = .ok (.invokevirtual 24, 3) := dk_182 0 24 (dk_at dksX0_keep_0 16 rfl rfl)
theorem dX0_keep_19 : decode cX0_keep 19 = .ok (.checkcast 28, 3) := dk_192 0 28 (dk_at dksX0_keep_0 19 rfl rfl)
theorem dX0_keep_22 : decode cX0_keep 22 = .ok (.astore_n 2, 1) := dk_77 (dk_at dksX0_keep_0 22 rfl rfl)
theorem dX0_keep_23 : decode cX0_keep 23 = .ok (.aload_n 0, 1) := dk_42 (dk_at dksX0_keep_0 23 rfl rfl)
theorem dX0_keep_24 : decode cX0_keep 24 = .ok (.getfield 12, 3) := dk_180 0 12 (dk_at dksX0_keep_1 0 rfl rfl)
theorem dX0_keep_27 : decode cX0_keep 27 = .ok (.aload_n 1, 1) := dk_43 (dk_at dksX0_keep_1 3 rfl rfl)
theorem dX0_keep_28 : decode cX0_keep 28 = .ok (.invokevirtual 30, 3) := dk_182 0 30 (dk_at dksX0_keep_1 4 rfl rfl)
theorem dX0_keep_31 : decode cX0_keep 31 = .ok (.return_, 1) := dk_177 (dk_at dksX0_keep_1 7 rfl rfl)
abbrev cX0_refused : ByteArray := prog_1_method_6_code
def yX0_refused : MethodName := ⟨RX0, "refused", "(LTulipLines$Refusal;I)I"⟩
def dkwX0_refused_0 : List UInt8 := [42, 43, 180, 0, 34, 181, 0, 38, 42, 43, 180, 0, 41, 181, 0, 44, 42, 28, 181, 0, 47, 16, 253, 172]
abbrev dktX0_refused_0 : List UInt8 := dkwX0_refused_0 ++ []
theorem dksX0_refused_0 : cX0_refused.data.toList.drop 0 = dktX0_refused_0 := by decide +kernel
theorem dX0_refused_0 : decode cX0_refused 0 = .ok (.aload_n 0, 1) := dk_42 (dk_at dksX0_refused_0 0 rfl rfl)
theorem dX0_refused_1 : decode cX0_refused 1 = .ok (.aload_n 1, 1) := dk_43 (dk_at dksX0_refused_0 1 rfl rfl)
theorem dX0_refused_2 : decode cX0_refused 2 = .ok (.getfield 34, 3) := dk_180 0 34 (dk_at dksX0_refused_0 2 rfl rfl)
theorem dX0_refused_5 : decode cX0_refused 5 = .ok (.putfield 38, 3) := dk_181 0 38 (dk_at dksX0_refused_0 5 rfl rfl)
theorem dX0_refused_8 : decode cX0_refused 8 = .ok (.aload_n 0, 1) := dk_42 (dk_at dksX0_refused_0 8 rfl rfl)
theorem dX0_refused_9 : decode cX0_refused 9 = .ok (.aload_n 1, 1) := dk_43 (dk_at dksX0_refused_0 9 rfl rfl)
theorem dX0_refused_10 : decode cX0_refused 10 = .ok (.getfield 41, 3) := dk_180 0 41 (dk_at dksX0_refused_0 10 rfl rfl)
theorem dX0_refused_13 : decode cX0_refused 13 = .ok (.putfield 44, 3) := dk_181 0 44 (dk_at dksX0_refused_0 13 rfl rfl)
theorem dX0_refused_16 : decode cX0_refused 16 = .ok (.aload_n 0, 1) := dk_42 (dk_at dksX0_refused_0 16 rfl rfl)
theorem dX0_refused_17 : decode cX0_refused 17 = .ok (.iload_n 2, 1) := dk_28 (dk_at dksX0_refused_0 17 rfl rfl)
theorem dX0_refused_18 : decode cX0_refused 18 = .ok (.putfield 47, 3) := dk_181 0 47 (dk_at dksX0_refused_0 18 rfl rfl)
theorem dX0_refused_21 : decode cX0_refused 21 = .ok (.bipush (-3), 2) := dk_16 253 (dk_at dksX0_refused_0 21 rfl rfl)
theorem dX0_refused_23 : decode cX0_refused 23 = .ok (.ireturn, 1) := dk_172 (dk_at dksX0_refused_0 23 rfl rfl)
abbrev cX0_cross : ByteArray := prog_1_method_18_code
def yX0_cross : MethodName := ⟨RX0, "cross", "(III)I"⟩
def dkwX0_cross_0 : List UInt8 := [42, 27, 28, 29, 184, 0, 114, 182, 0, 110, 172]
abbrev dktX0_cross_0 : List UInt8 := dkwX0_cross_0 ++ []
theorem dksX0_cross_0 : cX0_cross.data.toList.drop 0 = dktX0_cross_0 := by decide +kernel
theorem dX0_cross_0 : decode cX0_cross 0 = .ok (.aload_n 0, 1) := dk_42 (dk_at dksX0_cross_0 0 rfl rfl)
theorem dX0_cross_1 : decode cX0_cross 1 = .ok (.iload_n 1, 1) := dk_27 (dk_at dksX0_cross_0 1 rfl rfl)
theorem dX0_cross_2 : decode cX0_cross 2 = .ok (.iload_n 2, 1) := dk_28 (dk_at dksX0_cross_0 2 rfl rfl)
theorem dX0_cross_3 : decode cX0_cross 3 = .ok (.iload_n 3, 1) := dk_29 (dk_at dksX0_cross_0 3 rfl rfl)
theorem dX0_cross_4 : decode cX0_cross 4 = .ok (.invokestatic 114, 3) := dk_184 0 114 (dk_at dksX0_cross_0 4 rfl rfl)
theorem dX0_cross_7 : decode cX0_cross 7 = .ok (.invokevirtual 110, 3) := dk_182 0 110 (dk_at dksX0_cross_0 7 rfl rfl)
theorem dX0_cross_10 : decode cX0_cross 10 = .ok (.ireturn, 1) := dk_172 (dk_at dksX0_cross_0 10 rfl rfl)
abbrev cX0_crossing : ByteArray := prog_1_method_8_code
def yX0_crossing : MethodName := ⟨RX0, "crossing", "(III)LTulipLines$Change;"⟩
def dkwX0_crossing_0 : List UInt8 := [26, 27, 28, 186, 0, 54, 0, 0, 176]
abbrev dktX0_crossing_0 : List UInt8 := dkwX0_crossing_0 ++ []
theorem dksX0_crossing_0 : cX0_crossing.data.toList.drop 0 = dktX0_crossing_0 := by decide +kernel
theorem dX0_crossing_0 : decode cX0_crossing 0 = .ok (.iload_n 0, 1) := dk_26 (dk_at dksX0_crossing_0 0 rfl rfl)
theorem dX0_crossing_1 : decode cX0_crossing 1 = .ok (.iload_n 1, 1) := dk_27 (dk_at dksX0_crossing_0 1 rfl rfl)
theorem dX0_crossing_2 : decode cX0_crossing 2 = .ok (.iload_n 2, 1) := dk_28 (dk_at dksX0_crossing_0 2 rfl rfl)
theorem dX0_crossing_3 : decode cX0_crossing 3 = .ok (.invokedynamic 54, 5) := by decide +kernel
theorem dX0_crossing_8 : decode cX0_crossing 8 = .ok (.areturn, 1) := dk_176 (dk_at dksX0_crossing_0 8 rfl rfl)
abbrev cX0_lambda_crossing_1 : ByteArray := prog_1_method_65_code
def yX0_lambda_crossing_1 : MethodName := ⟨RX0, "lambda$crossing$1", "(IIILTulipLines$Bed;)I"⟩
def dkwX0_lambda_crossing_1_1 : List UInt8 := [184, 1, 119, 45, 187, 0, 235, 89, 25, 4, 25, 5, 28, 183, 0, 237, 182, 1, 146, 172]
abbrev dktX0_lambda_crossing_1_1 : List UInt8 := dkwX0_lambda_crossing_1_1 ++ []
def dkwX0_lambda_crossing_1_0 : List UInt8 := [45, 26, 182, 1, 138, 58, 4, 45, 27, 182, 1, 138, 58, 5, 28, 3, 16, 8, 184, 0, 215, 16, 254]
abbrev dktX0_lambda_crossing_1_0 : List UInt8 := dkwX0_lambda_crossing_1_0 ++ dktX0_lambda_crossing_1_1
theorem dksX0_lambda_crossing_1_0 : cX0_lambda_crossing_1.data.toList.drop 0 = dktX0_lambda_crossing_1_0 := by decide +kernel
theorem dksX0_lambda_crossing_1_1 : cX0_lambda_crossing_1.data.toList.drop 23 = dktX0_lambda_crossing_1_1 := dk_seg dksX0_lambda_crossing_1_0 23 rfl rfl
theorem dX0_lambda_crossing_1_0 : decode cX0_lambda_crossing_1 0 = .ok (.aload_n 3, 1) := dk_45 (dk_at dksX0_lambda_crossing_1_0 0 rfl rfl)
theorem dX0_lambda_crossing_1_1 : decode cX0_lambda_crossing_1 1 = .ok (.iload_n 0, 1) := dk_26 (dk_at dksX0_lambda_crossing_1_0 1 rfl rfl)
theorem dX0_lambda_crossing_1_2 : decode cX0_lambda_crossing_1 2 = .ok (.invokevirtual 394, 3) := dk_182 1 138 (dk_at dksX0_lambda_crossing_1_0 2 rfl rfl)
theorem dX0_lambda_crossing_1_5 : decode cX0_lambda_crossing_1 5 = .ok (.astore 4, 2) := dk_58 4 (dk_at dksX0_lambda_crossing_1_0 5 rfl rfl)
theorem dX0_lambda_crossing_1_7 : decode cX0_lambda_crossing_1 7 = .ok (.aload_n 3, 1) := dk_45 (dk_at dksX0_lambda_crossing_1_0 7 rfl rfl)
theorem dX0_lambda_crossing_1_8 : decode cX0_lambda_crossing_1 8 = .ok (.iload_n 1, 1) := dk_27 (dk_at dksX0_lambda_crossing_1_0 8 rfl rfl)
theorem dX0_lambda_crossing_1_9 : decode cX0_lambda_crossing_1 9 = .ok (.invokevirtual 394, 3) := dk_182 1 138 (dk_at dksX0_lambda_crossing_1_0 9 rfl rfl)
theorem dX0_lambda_crossing_1_12 : decode cX0_lambda_crossing_1 12 = .ok (.astore 5, 2) := dk_58 5 (dk_at dksX0_lambda_crossing_1_0 12 rfl rfl)
theorem dX0_lambda_crossing_1_14 : decode cX0_lambda_crossing_1 14 = .ok (.iload_n 2, 1) := dk_28 (dk_at dksX0_lambda_crossing_1_0 14 rfl rfl)
theorem dX0_lambda_crossing_1_15 : decode cX0_lambda_crossing_1 15 = .ok (.iconst 0, 1) := dk_3 (dk_at dksX0_lambda_crossing_1_0 15 rfl rfl)
theorem dX0_lambda_crossing_1_16 : decode cX0_lambda_crossing_1 16 = .ok (.bipush 8, 2) := dk_16 8 (dk_at dksX0_lambda_crossing_1_0 16 rfl rfl)
theorem dX0_lambda_crossing_1_18 : decode cX0_lambda_crossing_1 18 = .ok (.invokestatic 215, 3) := dk_184 0 215 (dk_at dksX0_lambda_crossing_1_0 18 rfl rfl)
theorem dX0_lambda_crossing_1_21 : decode cX0_lambda_crossing_1 21 = .ok (.bipush (-2), 2) := dk_16 254 (dk_at dksX0_lambda_crossing_1_0 21 rfl rfl)
theorem dX0_lambda_crossing_1_23 : decode cX0_lambda_crossing_1 23 = .ok (.invokestatic 375, 3) := dk_184 1 119 (dk_at dksX0_lambda_crossing_1_1 0 rfl rfl)
theorem dX0_lambda_crossing_1_26 : decode cX0_lambda_crossing_1 26 = .ok (.aload_n 3, 1) := dk_45 (dk_at dksX0_lambda_crossing_1_1 3 rfl rfl)
theorem dX0_lambda_crossing_1_27 : decode cX0_lambda_crossing_1 27 = .ok (.new 235, 3) := dk_187 0 235 (dk_at dksX0_lambda_crossing_1_1 4 rfl rfl)
theorem dX0_lambda_crossing_1_30 : decode cX0_lambda_crossing_1 30 = .ok (.dup, 1) := dk_89 (dk_at dksX0_lambda_crossing_1_1 7 rfl rfl)
theorem dX0_lambda_crossing_1_31 : decode cX0_lambda_crossing_1 31 = .ok (.aload 4, 2) := dk_25 4 (dk_at dksX0_lambda_crossing_1_1 8 rfl rfl)
theorem dX0_lambda_crossing_1_33 : decode cX0_lambda_crossing_1 33 = .ok (.aload 5, 2) := dk_25 5 (dk_at dksX0_lambda_crossing_1_1 10 rfl rfl)
theorem dX0_lambda_crossing_1_35 : decode cX0_lambda_crossing_1 35 = .ok (.iload_n 2, 1) := dk_28 (dk_at dksX0_lambda_crossing_1_1 12 rfl rfl)
theorem dX0_lambda_crossing_1_36 : decode cX0_lambda_crossing_1 36 = .ok (.invokespecial 237, 3) := dk_183 0 237 (dk_at dksX0_lambda_crossing_1_1 13 rfl rfl)
theorem dX0_lambda_crossing_1_39 : decode cX0_lambda_crossing_1 39 = .ok (.invokevirtual 402, 3) := dk_182 1 146 (dk_at dksX0_lambda_crossing_1_1 16 rfl rfl)
theorem dX0_lambda_crossing_1_42 : decode cX0_lambda_crossing_1 42 = .ok (.ireturn, 1) := dk_172 (dk_at dksX0_lambda_crossing_1_1 19 rfl rfl)
abbrev cX0_die : ByteArray := prog_1_method_19_code
def yX0_die : MethodName := ⟨RX0, "die", "(I)I"⟩
def dkwX0_die_0 : List UInt8 := [42, 27, 184, 0, 117, 182, 0, 110, 172]
abbrev dktX0_die_0 : List UInt8 := dkwX0_die_0 ++ []
theorem dksX0_die_0 : cX0_die.data.toList.drop 0 = dktX0_die_0 := by decide +kernel
theorem dX0_die_0 : decode cX0_die 0 = .ok (.aload_n 0, 1) := dk_42 (dk_at dksX0_die_0 0 rfl rfl)
theorem dX0_die_1 : decode cX0_die 1 = .ok (.iload_n 1, 1) := dk_27 (dk_at dksX0_die_0 1 rfl rfl)
theorem dX0_die_2 : decode cX0_die 2 = .ok (.invokestatic 117, 3) := dk_184 0 117 (dk_at dksX0_die_0 2 rfl rfl)
theorem dX0_die_5 : decode cX0_die 5 = .ok (.invokevirtual 110, 3) := dk_182 0 110 (dk_at dksX0_die_0 5 rfl rfl)
theorem dX0_die_8 : decode cX0_die 8 = .ok (.ireturn, 1) := dk_172 (dk_at dksX0_die_0 8 rfl rfl)
abbrev cX0_dying : ByteArray := prog_1_method_9_code
def yX0_dying : MethodName := ⟨RX0, "dying", "(I)LTulipLines$Change;"⟩
theorem dX0_dying_0 : decode cX0_dying 0 = .ok (.iload_n 0, 1) := by decide +kernel
theorem dX0_dying_1 : decode cX0_dying 1 = .ok (.invokedynamic 57, 5) := by decide +kernel
theorem dX0_dying_6 : decode cX0_dying 6 = .ok (.areturn, 1) := by decide +kernel
abbrev cX0_lambda_dying_2 : ByteArray := prog_1_method_64_code
def yX0_lambda_dying_2 : MethodName := ⟨RX0, "lambda$dying$2", "(ILTulipLines$Bed;)I"⟩
def dkwX0_lambda_dying_2_0 : List UInt8 := [43, 43, 26, 182, 1, 138, 182, 1, 142, 172]
abbrev dktX0_lambda_dying_2_0 : List UInt8 := dkwX0_lambda_dying_2_0 ++ []
theorem dksX0_lambda_dying_2_0 : cX0_lambda_dying_2.data.toList.drop 0 = dktX0_lambda_dying_2_0 := by decide +kernel
theorem dX0_lambda_dying_2_0 : decode cX0_lambda_dying_2 0 = .ok (.aload_n 1, 1) := dk_43 (dk_at dksX0_lambda_dying_2_0 0 rfl rfl)
theorem dX0_lambda_dying_2_1 : decode cX0_lambda_dying_2 1 = .ok (.aload_n 1, 1) := dk_43 (dk_at dksX0_lambda_dying_2_0 1 rfl rfl)
theorem dX0_lambda_dying_2_2 : decode cX0_lambda_dying_2 2 = .ok (.iload_n 0, 1) := dk_26 (dk_at dksX0_lambda_dying_2_0 2 rfl rfl)
theorem dX0_lambda_dying_2_3 : decode cX0_lambda_dying_2 3 = .ok (.invokevirtual 394, 3) := dk_182 1 138 (dk_at dksX0_lambda_dying_2_0 3 rfl rfl)
theorem dX0_lambda_dying_2_6 : decode cX0_lambda_dying_2 6 = .ok (.invokevirtual 398, 3) := dk_182 1 142 (dk_at dksX0_lambda_dying_2_0 6 rfl rfl)
theorem dX0_lambda_dying_2_9 : decode cX0_lambda_dying_2 9 = .ok (.ireturn, 1) := dk_172 (dk_at dksX0_lambda_dying_2_0 9 rfl rfl)
abbrev cX0_want : ByteArray := prog_1_method_20_code
def yX0_want : MethodName := ⟨RX0, "want", "(I)I"⟩
def dkwX0_want_0 : List UInt8 := [42, 27, 184, 0, 120, 182, 0, 110, 172]
abbrev dktX0_want_0 : List UInt8 := dkwX0_want_0 ++ []
theorem dksX0_want_0 : cX0_want.data.toList.drop 0 = dktX0_want_0 := by decide +kernel
theorem dX0_want_0 : decode cX0_want 0 = .ok (.aload_n 0, 1) := dk_42 (dk_at dksX0_want_0 0 rfl rfl)
theorem dX0_want_1 : decode cX0_want 1 = .ok (.iload_n 1, 1) := dk_27 (dk_at dksX0_want_0 1 rfl rfl)
theorem dX0_want_2 : decode cX0_want 2 = .ok (.invokestatic 120, 3) := dk_184 0 120 (dk_at dksX0_want_0 2 rfl rfl)
theorem dX0_want_5 : decode cX0_want 5 = .ok (.invokevirtual 110, 3) := dk_182 0 110 (dk_at dksX0_want_0 5 rfl rfl)
theorem dX0_want_8 : decode cX0_want 8 = .ok (.ireturn, 1) := dk_172 (dk_at dksX0_want_0 8 rfl rfl)
abbrev cX0_wanting : ByteArray := prog_1_method_10_code
def yX0_wanting : MethodName := ⟨RX0, "wanting", "(I)LTulipLines$Change;"⟩
theorem dX0_wanting_0 : decode cX0_wanting 0 = .ok (.iload_n 0, 1) := by decide +kernel
theorem dX0_wanting_1 : decode cX0_wanting 1 = .ok (.invokedynamic 58, 5) := by decide +kernel
theorem dX0_wanting_6 : decode cX0_wanting 6 = .ok (.areturn, 1) := by decide +kernel
abbrev cX0_lambda_wanting_3 : ByteArray := prog_1_method_63_code
def yX0_lambda_wanting_3 : MethodName := ⟨RX0, "lambda$wanting$3", "(ILTulipLines$Bed;)I"⟩
def dkwX0_lambda_wanting_3_0 : List UInt8 := [26, 3, 17, 0, 255, 184, 0, 215, 16, 254, 184, 1, 119, 43, 26, 182, 1, 135, 172]
abbrev dktX0_lambda_wanting_3_0 : List UInt8 := dkwX0_lambda_wanting_3_0 ++ []
theorem dksX0_lambda_wanting_3_0 : cX0_lambda_wanting_3.data.toList.drop 0 = dktX0_lambda_wanting_3_0 := by decide +kernel
theorem dX0_lambda_wanting_3_0 : decode cX0_lambda_wanting_3 0 = .ok (.iload_n 0, 1) := dk_26 (dk_at dksX0_lambda_wanting_3_0 0 rfl rfl)
theorem dX0_lambda_wanting_3_1 : decode cX0_lambda_wanting_3 1 = .ok (.iconst 0, 1) := dk_3 (dk_at dksX0_lambda_wanting_3_0 1 rfl rfl)
theorem dX0_lambda_wanting_3_2 : decode cX0_lambda_wanting_3 2 = .ok (.sipush 255, 3) := dk_17 0 255 (dk_at dksX0_lambda_wanting_3_0 2 rfl rfl)
theorem dX0_lambda_wanting_3_5 : decode cX0_lambda_wanting_3 5 = .ok (.invokestatic 215, 3) := dk_184 0 215 (dk_at dksX0_lambda_wanting_3_0 5 rfl rfl)
theorem dX0_lambda_wanting_3_8 : decode cX0_lambda_wanting_3 8 = .ok (.bipush (-2), 2) := dk_16 254 (dk_at dksX0_lambda_wanting_3_0 8 rfl rfl)
theorem dX0_lambda_wanting_3_10 : decode cX0_lambda_wanting_3 10 = .ok (.invokestatic 375, 3) := dk_184 1 119 (dk_at dksX0_lambda_wanting_3_0 10 rfl rfl)
theorem dX0_lambda_wanting_3_13 : decode cX0_lambda_wanting_3 13 = .ok (.aload_n 1, 1) := dk_43 (dk_at dksX0_lambda_wanting_3_0 13 rfl rfl)
theorem dX0_lambda_wanting_3_14 : decode cX0_lambda_wanting_3 14 = .ok (.iload_n 0, 1) := dk_26 (dk_at dksX0_lambda_wanting_3_0 14 rfl rfl)
theorem dX0_lambda_wanting_3_15 : decode cX0_lambda_wanting_3 15 = .ok (.invokevirtual 391, 3) := dk_182 1 135 (dk_at dksX0_lambda_wanting_3_0 15 rfl rfl)
theorem dX0_lambda_wanting_3_18 : decode cX0_lambda_wanting_3 18 = .ok (.ireturn, 1) := dk_172 (dk_at dksX0_lambda_wanting_3_0 18 rfl rfl)
abbrev cX0_heavy : ByteArray := prog_1_method_21_code
def yX0_heavy : MethodName := ⟨RX0, "heavy", "(II)I"⟩
def dkwX0_heavy_0 : List UInt8 := [42, 27, 28, 184, 0, 123, 182, 0, 110, 172]
abbrev dktX0_heavy_0 : List UInt8 := dkwX0_heavy_0 ++ []
theorem dksX0_heavy_0 : cX0_heavy.data.toList.drop 0 = dktX0_heavy_0 := by decide +kernel
theorem dX0_heavy_0 : decode cX0_heavy 0 = .ok (.aload_n 0, 1) := dk_42 (dk_at dksX0_heavy_0 0 rfl rfl)
theorem dX0_heavy_1 : decode cX0_heavy 1 = .ok (.iload_n 1, 1) := dk_27 (dk_at dksX0_heavy_0 1 rfl rfl)
theorem dX0_heavy_2 : decode cX0_heavy 2 = .ok (.iload_n 2, 1) := dk_28 (dk_at dksX0_heavy_0 2 rfl rfl)
theorem dX0_heavy_3 : decode cX0_heavy 3 = .ok (.invokestatic 123, 3) := dk_184 0 123 (dk_at dksX0_heavy_0 3 rfl rfl)
theorem dX0_heavy_6 : decode cX0_heavy 6 = .ok (.invokevirtual 110, 3) := dk_182 0 110 (dk_at dksX0_heavy_0 6 rfl rfl)
theorem dX0_heavy_9 : decode cX0_heavy 9 = .ok (.ireturn, 1) := dk_172 (dk_at dksX0_heavy_0 9 rfl rfl)
abbrev cX0_weighing : ByteArray := prog_1_method_11_code
def yX0_weighing : MethodName := ⟨RX0, "weighing", "(II)LTulipLines$Change;"⟩
def dkwX0_weighing_0 : List UInt8 := [26, 27, 186, 0, 59, 0, 0, 176]
abbrev dktX0_weighing_0 : List UInt8 := dkwX0_weighing_0 ++ []
theorem dksX0_weighing_0 : cX0_weighing.data.toList.drop 0 = dktX0_weighing_0 := by decide +kernel
theorem dX0_weighing_0 : decode cX0_weighing 0 = .ok (.iload_n 0, 1) := dk_26 (dk_at dksX0_weighing_0 0 rfl rfl)
theorem dX0_weighing_1 : decode cX0_weighing 1 = .ok (.iload_n 1, 1) := dk_27 (dk_at dksX0_weighing_0 1 rfl rfl)
theorem dX0_weighing_2 : decode cX0_weighing 2 = .ok (.invokedynamic 59, 5) := by decide +kernel
theorem dX0_weighing_7 : decode cX0_weighing 7 = .ok (.areturn, 1) := dk_176 (dk_at dksX0_weighing_0 7 rfl rfl)
abbrev cX0_lambda_weighing_4 : ByteArray := prog_1_method_62_code
def yX0_lambda_weighing_4 : MethodName := ⟨RX0, "lambda$weighing$4", "(IILTulipLines$Bed;)I"⟩
def dkwX0_lambda_weighing_4_1 : List UInt8 := [26, 27, 182, 1, 132, 172]
abbrev dktX0_lambda_weighing_4_1 : List UInt8 := dkwX0_lambda_weighing_4_1 ++ []
def dkwX0_lambda_weighing_4_0 : List UInt8 := [26, 3, 16, 7, 184, 0, 215, 2, 184, 1, 119, 27, 3, 16, 9, 184, 0, 215, 16, 254, 184, 1, 119, 44]
abbrev dktX0_lambda_weighing_4_0 : List UInt8 := dkwX0_lambda_weighing_4_0 ++ dktX0_lambda_weighing_4_1
theorem dksX0_lambda_weighing_4_0 : cX0_lambda_weighing_4.data.toList.drop 0 = dktX0_lambda_weighing_4_0 := by decide +kernel
theorem dksX0_lambda_weighing_4_1 : cX0_lambda_weighing_4.data.toList.drop 24 = dktX0_lambda_weighing_4_1 := dk_seg dksX0_lambda_weighing_4_0 24 rfl rfl
theorem dX0_lambda_weighing_4_0 : decode cX0_lambda_weighing_4 0 = .ok (.iload_n 0, 1) := dk_26 (dk_at dksX0_lambda_weighing_4_0 0 rfl rfl)
theorem dX0_lambda_weighing_4_1 : decode cX0_lambda_weighing_4 1 = .ok (.iconst 0, 1) := dk_3 (dk_at dksX0_lambda_weighing_4_0 1 rfl rfl)
theorem dX0_lambda_weighing_4_2 : decode cX0_lambda_weighing_4 2 = .ok (.bipush 7, 2) := dk_16 7 (dk_at dksX0_lambda_weighing_4_0 2 rfl rfl)
theorem dX0_lambda_weighing_4_4 : decode cX0_lambda_weighing_4 4 = .ok (.invokestatic 215, 3) := dk_184 0 215 (dk_at dksX0_lambda_weighing_4_0 4 rfl rfl)
theorem dX0_lambda_weighing_4_7 : decode cX0_lambda_weighing_4 7 = .ok (.iconst (-1), 1) := dk_2 (dk_at dksX0_lambda_weighing_4_0 7 rfl rfl)
theorem dX0_lambda_weighing_4_8 : decode cX0_lambda_weighing_4 8 = .ok (.invokestatic 375, 3) := dk_184 1 119 (dk_at dksX0_lambda_weighing_4_0 8 rfl rfl)
theorem dX0_lambda_weighing_4_11 : decode cX0_lambda_weighing_4 11 = .ok (.iload_n 1, 1) := dk_27 (dk_at dksX0_lambda_weighing_4_0 11 rfl rfl)
theorem dX0_lambda_weighing_4_12 : decode cX0_lambda_weighing_4 12 = .ok (.iconst 0, 1) := dk_3 (dk_at dksX0_lambda_weighing_4_0 12 rfl rfl)
theorem dX0_lambda_weighing_4_13 : decode cX0_lambda_weighing_4 13 = .ok (.bipush 9, 2) := dk_16 9 (dk_at dksX0_lambda_weighing_4_0 13 rfl rfl)
theorem dX0_lambda_weighing_4_15 : decode cX0_lambda_weighing_4 15 = .ok (.invokestatic 215, 3) := dk_184 0 215 (dk_at dksX0_lambda_weighing_4_0 15 rfl rfl)
theorem dX0_lambda_weighing_4_18 : decode cX0_lambda_weighing_4 18 = .ok (.bipush (-2), 2) := dk_16 254 (dk_at dksX0_lambda_weighing_4_0 18 rfl rfl)
theorem dX0_lambda_weighing_4_20 : decode cX0_lambda_weighing_4 20 = .ok (.invokestatic 375, 3) := dk_184 1 119 (dk_at dksX0_lambda_weighing_4_0 20 rfl rfl)
theorem dX0_lambda_weighing_4_23 : decode cX0_lambda_weighing_4 23 = .ok (.aload_n 2, 1) := dk_44 (dk_at dksX0_lambda_weighing_4_0 23 rfl rfl)
theorem dX0_lambda_weighing_4_24 : decode cX0_lambda_weighing_4 24 = .ok (.iload_n 0, 1) := dk_26 (dk_at dksX0_lambda_weighing_4_1 0 rfl rfl)
theorem dX0_lambda_weighing_4_25 : decode cX0_lambda_weighing_4 25 = .ok (.iload_n 1, 1) := dk_27 (dk_at dksX0_lambda_weighing_4_1 1 rfl rfl)
theorem dX0_lambda_weighing_4_26 : decode cX0_lambda_weighing_4 26 = .ok (.invokevirtual 388, 3) := dk_182 1 132 (dk_at dksX0_lambda_weighing_4_1 2 rfl rfl)
theorem dX0_lambda_weighing_4_29 : decode cX0_lambda_weighing_4 29 = .ok (.ireturn, 1) := dk_172 (dk_at dksX0_lambda_weighing_4_1 5 rfl rfl)
abbrev cX0_luck : ByteArray := prog_1_method_22_code
def yX0_luck : MethodName := ⟨RX0, "luck", "(I)I"⟩
def dkwX0_luck_0 : List UInt8 := [42, 27, 184, 0, 126, 182, 0, 110, 172]
abbrev dktX0_luck_0 : List UInt8 := dkwX0_luck_0 ++ []
theorem dksX0_luck_0 : cX0_luck.data.toList.drop 0 = dktX0_luck_0 := by decide +kernel
theorem dX0_luck_0 : decode cX0_luck 0 = .ok (.aload_n 0, 1) := dk_42 (dk_at dksX0_luck_0 0 rfl rfl)
theorem dX0_luck_1 : decode cX0_luck 1 = .ok (.iload_n 1, 1) := dk_27 (dk_at dksX0_luck_0 1 rfl rfl)
theorem dX0_luck_2 : decode cX0_luck 2 = .ok (.invokestatic 126, 3) := dk_184 0 126 (dk_at dksX0_luck_0 2 rfl rfl)
theorem dX0_luck_5 : decode cX0_luck 5 = .ok (.invokevirtual 110, 3) := dk_182 0 110 (dk_at dksX0_luck_0 5 rfl rfl)
theorem dX0_luck_8 : decode cX0_luck 8 = .ok (.ireturn, 1) := dk_172 (dk_at dksX0_luck_0 8 rfl rfl)
abbrev cX0_lucky : ByteArray := prog_1_method_12_code
def yX0_lucky : MethodName := ⟨RX0, "lucky", "(I)LTulipLines$Change;"⟩
theorem dX0_lucky_0 : decode cX0_lucky 0 = .ok (.iload_n 0, 1) := by decide +kernel
theorem dX0_lucky_1 : decode cX0_lucky 1 = .ok (.invokedynamic 62, 5) := by decide +kernel
theorem dX0_lucky_6 : decode cX0_lucky 6 = .ok (.areturn, 1) := by decide +kernel
abbrev cX0_lambda_lucky_5 : ByteArray := prog_1_method_61_code
def yX0_lambda_lucky_5 : MethodName := ⟨RX0, "lambda$lucky$5", "(ILTulipLines$Bed;)I"⟩
def dkwX0_lambda_lucky_5_0 : List UInt8 := [26, 3, 16, 100, 184, 0, 215, 16, 254, 184, 1, 119, 43, 26, 182, 1, 129, 172]
abbrev dktX0_lambda_lucky_5_0 : List UInt8 := dkwX0_lambda_lucky_5_0 ++ []
theorem dksX0_lambda_lucky_5_0 : cX0_lambda_lucky_5.data.toList.drop 0 = dktX0_lambda_lucky_5_0 := by decide +kernel
theorem dX0_lambda_lucky_5_0 : decode cX0_lambda_lucky_5 0 = .ok (.iload_n 0, 1) := dk_26 (dk_at dksX0_lambda_lucky_5_0 0 rfl rfl)
theorem dX0_lambda_lucky_5_1 : decode cX0_lambda_lucky_5 1 = .ok (.iconst 0, 1) := dk_3 (dk_at dksX0_lambda_lucky_5_0 1 rfl rfl)
theorem dX0_lambda_lucky_5_2 : decode cX0_lambda_lucky_5 2 = .ok (.bipush 100, 2) := dk_16 100 (dk_at dksX0_lambda_lucky_5_0 2 rfl rfl)
theorem dX0_lambda_lucky_5_4 : decode cX0_lambda_lucky_5 4 = .ok (.invokestatic 215, 3) := dk_184 0 215 (dk_at dksX0_lambda_lucky_5_0 4 rfl rfl)
theorem dX0_lambda_lucky_5_7 : decode cX0_lambda_lucky_5 7 = .ok (.bipush (-2), 2) := dk_16 254 (dk_at dksX0_lambda_lucky_5_0 7 rfl rfl)
theorem dX0_lambda_lucky_5_9 : decode cX0_lambda_lucky_5 9 = .ok (.invokestatic 375, 3) := dk_184 1 119 (dk_at dksX0_lambda_lucky_5_0 9 rfl rfl)
theorem dX0_lambda_lucky_5_12 : decode cX0_lambda_lucky_5 12 = .ok (.aload_n 1, 1) := dk_43 (dk_at dksX0_lambda_lucky_5_0 12 rfl rfl)
theorem dX0_lambda_lucky_5_13 : decode cX0_lambda_lucky_5 13 = .ok (.iload_n 0, 1) := dk_26 (dk_at dksX0_lambda_lucky_5_0 13 rfl rfl)
theorem dX0_lambda_lucky_5_14 : decode cX0_lambda_lucky_5 14 = .ok (.invokevirtual 385, 3) := dk_182 1 129 (dk_at dksX0_lambda_lucky_5_0 14 rfl rfl)
theorem dX0_lambda_lucky_5_17 : decode cX0_lambda_lucky_5 17 = .ok (.ireturn, 1) := dk_172 (dk_at dksX0_lambda_lucky_5_0 17 rfl rfl)
abbrev cX0_seed : ByteArray := prog_1_method_23_code
def yX0_seed : MethodName := ⟨RX0, "seed", "(I)I"⟩
def dkwX0_seed_0 : List UInt8 := [42, 27, 186, 0, 129, 0, 0, 182, 0, 110, 172]
abbrev dktX0_seed_0 : List UInt8 := dkwX0_seed_0 ++ []
theorem dksX0_seed_0 : cX0_seed.data.toList.drop 0 = dktX0_seed_0 := by decide +kernel
theorem dX0_seed_0 : decode cX0_seed 0 = .ok (.aload_n 0, 1) := dk_42 (dk_at dksX0_seed_0 0 rfl rfl)
theorem dX0_seed_1 : decode cX0_seed 1 = .ok (.iload_n 1, 1) := dk_27 (dk_at dksX0_seed_0 1 rfl rfl)
theorem dX0_seed_2 : decode cX0_seed 2 = .ok (.invokedynamic 129, 5) := by decide +kernel
theorem dX0_seed_7 : decode cX0_seed 7 = .ok (.invokevirtual 110, 3) := dk_182 0 110 (dk_at dksX0_seed_0 7 rfl rfl)
theorem dX0_seed_10 : decode cX0_seed 10 = .ok (.ireturn, 1) := dk_172 (dk_at dksX0_seed_0 10 rfl rfl)
abbrev cX0_lambda_seed_8 : ByteArray := prog_1_method_58_code
def yX0_lambda_seed_8 : MethodName := ⟨RX0, "lambda$seed$8", "(ILTulipLines$Bed;)I"⟩
def dkwX0_lambda_seed_8_0 : List UInt8 := [26, 3, 19, 1, 118, 184, 0, 215, 16, 254, 184, 1, 119, 43, 26, 182, 1, 123, 172]
abbrev dktX0_lambda_seed_8_0 : List UInt8 := dkwX0_lambda_seed_8_0 ++ []
theorem dksX0_lambda_seed_8_0 : cX0_lambda_seed_8.data.toList.drop 0 = dktX0_lambda_seed_8_0 := by decide +kernel
theorem dX0_lambda_seed_8_0 : decode cX0_lambda_seed_8 0 = .ok (.iload_n 0, 1) := dk_26 (dk_at dksX0_lambda_seed_8_0 0 rfl rfl)
theorem dX0_lambda_seed_8_1 : decode cX0_lambda_seed_8 1 = .ok (.iconst 0, 1) := dk_3 (dk_at dksX0_lambda_seed_8_0 1 rfl rfl)
theorem dX0_lambda_seed_8_2 : decode cX0_lambda_seed_8 2 = .ok (.ldc_w 374, 3) := dk_19 1 118 (dk_at dksX0_lambda_seed_8_0 2 rfl rfl)
theorem dX0_lambda_seed_8_5 : decode cX0_lambda_seed_8 5 = .ok (.invokestatic 215, 3) := dk_184 0 215 (dk_at dksX0_lambda_seed_8_0 5 rfl rfl)
theorem dX0_lambda_seed_8_8 : decode cX0_lambda_seed_8 8 = .ok (.bipush (-2), 2) := dk_16 254 (dk_at dksX0_lambda_seed_8_0 8 rfl rfl)
theorem dX0_lambda_seed_8_10 : decode cX0_lambda_seed_8 10 = .ok (.invokestatic 375, 3) := dk_184 1 119 (dk_at dksX0_lambda_seed_8_0 10 rfl rfl)
theorem dX0_lambda_seed_8_13 : decode cX0_lambda_seed_8 13 = .ok (.aload_n 1, 1) := dk_43 (dk_at dksX0_lambda_seed_8_0 13 rfl rfl)
theorem dX0_lambda_seed_8_14 : decode cX0_lambda_seed_8 14 = .ok (.iload_n 0, 1) := dk_26 (dk_at dksX0_lambda_seed_8_0 14 rfl rfl)
theorem dX0_lambda_seed_8_15 : decode cX0_lambda_seed_8 15 = .ok (.invokevirtual 379, 3) := dk_182 1 123 (dk_at dksX0_lambda_seed_8_0 15 rfl rfl)
theorem dX0_lambda_seed_8_18 : decode cX0_lambda_seed_8 18 = .ok (.ireturn, 1) := dk_172 (dk_at dksX0_lambda_seed_8_0 18 rfl rfl)
abbrev cX0_room : ByteArray := prog_1_method_24_code
def yX0_room : MethodName := ⟨RX0, "room", "(I)I"⟩
def dkwX0_room_0 : List UInt8 := [42, 27, 184, 0, 130, 182, 0, 110, 172]
abbrev dktX0_room_0 : List UInt8 := dkwX0_room_0 ++ []
theorem dksX0_room_0 : cX0_room.data.toList.drop 0 = dktX0_room_0 := by decide +kernel
theorem dX0_room_0 : decode cX0_room 0 = .ok (.aload_n 0, 1) := dk_42 (dk_at dksX0_room_0 0 rfl rfl)
theorem dX0_room_1 : decode cX0_room 1 = .ok (.iload_n 1, 1) := dk_27 (dk_at dksX0_room_0 1 rfl rfl)
theorem dX0_room_2 : decode cX0_room 2 = .ok (.invokestatic 130, 3) := dk_184 0 130 (dk_at dksX0_room_0 2 rfl rfl)
theorem dX0_room_5 : decode cX0_room 5 = .ok (.invokevirtual 110, 3) := dk_182 0 110 (dk_at dksX0_room_0 5 rfl rfl)
theorem dX0_room_8 : decode cX0_room 8 = .ok (.ireturn, 1) := dk_172 (dk_at dksX0_room_0 8 rfl rfl)
abbrev cX0_roomy : ByteArray := prog_1_method_13_code
def yX0_roomy : MethodName := ⟨RX0, "roomy", "(I)LTulipLines$Change;"⟩
theorem dX0_roomy_0 : decode cX0_roomy 0 = .ok (.iload_n 0, 1) := by decide +kernel
theorem dX0_roomy_1 : decode cX0_roomy 1 = .ok (.invokedynamic 63, 5) := by decide +kernel
theorem dX0_roomy_6 : decode cX0_roomy 6 = .ok (.areturn, 1) := by decide +kernel
abbrev cX0_lambda_roomy_6 : ByteArray := prog_1_method_60_code
def yX0_lambda_roomy_6 : MethodName := ⟨RX0, "lambda$roomy$6", "(ILTulipLines$Bed;)I"⟩
def dkwX0_lambda_roomy_6_0 : List UInt8 := [26, 5, 16, 12, 184, 0, 215, 16, 254, 184, 1, 119, 43, 26, 182, 1, 126, 172]
abbrev dktX0_lambda_roomy_6_0 : List UInt8 := dkwX0_lambda_roomy_6_0 ++ []
theorem dksX0_lambda_roomy_6_0 : cX0_lambda_roomy_6.data.toList.drop 0 = dktX0_lambda_roomy_6_0 := by decide +kernel
theorem dX0_lambda_roomy_6_0 : decode cX0_lambda_roomy_6 0 = .ok (.iload_n 0, 1) := dk_26 (dk_at dksX0_lambda_roomy_6_0 0 rfl rfl)
theorem dX0_lambda_roomy_6_1 : decode cX0_lambda_roomy_6 1 = .ok (.iconst 2, 1) := dk_5 (dk_at dksX0_lambda_roomy_6_0 1 rfl rfl)
theorem dX0_lambda_roomy_6_2 : decode cX0_lambda_roomy_6 2 = .ok (.bipush 12, 2) := dk_16 12 (dk_at dksX0_lambda_roomy_6_0 2 rfl rfl)
theorem dX0_lambda_roomy_6_4 : decode cX0_lambda_roomy_6 4 = .ok (.invokestatic 215, 3) := dk_184 0 215 (dk_at dksX0_lambda_roomy_6_0 4 rfl rfl)
theorem dX0_lambda_roomy_6_7 : decode cX0_lambda_roomy_6 7 = .ok (.bipush (-2), 2) := dk_16 254 (dk_at dksX0_lambda_roomy_6_0 7 rfl rfl)
theorem dX0_lambda_roomy_6_9 : decode cX0_lambda_roomy_6 9 = .ok (.invokestatic 375, 3) := dk_184 1 119 (dk_at dksX0_lambda_roomy_6_0 9 rfl rfl)
theorem dX0_lambda_roomy_6_12 : decode cX0_lambda_roomy_6 12 = .ok (.aload_n 1, 1) := dk_43 (dk_at dksX0_lambda_roomy_6_0 12 rfl rfl)
theorem dX0_lambda_roomy_6_13 : decode cX0_lambda_roomy_6 13 = .ok (.iload_n 0, 1) := dk_26 (dk_at dksX0_lambda_roomy_6_0 13 rfl rfl)
theorem dX0_lambda_roomy_6_14 : decode cX0_lambda_roomy_6 14 = .ok (.invokevirtual 382, 3) := dk_182 1 126 (dk_at dksX0_lambda_roomy_6_0 14 rfl rfl)
theorem dX0_lambda_roomy_6_17 : decode cX0_lambda_roomy_6 17 = .ok (.ireturn, 1) := dk_172 (dk_at dksX0_lambda_roomy_6_0 17 rfl rfl)
abbrev cX0_years : ByteArray := prog_1_method_25_code
def yX0_years : MethodName := ⟨RX0, "years", "(I)I"⟩
def dkwX0_years_0 : List UInt8 := [42, 27, 184, 0, 133, 182, 0, 110, 172]
abbrev dktX0_years_0 : List UInt8 := dkwX0_years_0 ++ []
theorem dksX0_years_0 : cX0_years.data.toList.drop 0 = dktX0_years_0 := by decide +kernel
theorem dX0_years_0 : decode cX0_years 0 = .ok (.aload_n 0, 1) := dk_42 (dk_at dksX0_years_0 0 rfl rfl)
theorem dX0_years_1 : decode cX0_years 1 = .ok (.iload_n 1, 1) := dk_27 (dk_at dksX0_years_0 1 rfl rfl)
theorem dX0_years_2 : decode cX0_years 2 = .ok (.invokestatic 133, 3) := dk_184 0 133 (dk_at dksX0_years_0 2 rfl rfl)
theorem dX0_years_5 : decode cX0_years 5 = .ok (.invokevirtual 110, 3) := dk_182 0 110 (dk_at dksX0_years_0 5 rfl rfl)
theorem dX0_years_8 : decode cX0_years 8 = .ok (.ireturn, 1) := dk_172 (dk_at dksX0_years_0 8 rfl rfl)
abbrev cX0_passing : ByteArray := prog_1_method_14_code
def yX0_passing : MethodName := ⟨RX0, "passing", "(I)LTulipLines$Change;"⟩
theorem dX0_passing_0 : decode cX0_passing 0 = .ok (.iload_n 0, 1) := by decide +kernel
theorem dX0_passing_1 : decode cX0_passing 1 = .ok (.invokedynamic 64, 5) := by decide +kernel
theorem dX0_passing_6 : decode cX0_passing 6 = .ok (.areturn, 1) := by decide +kernel
abbrev cX0_lambda_passing_7 : ByteArray := prog_1_method_59_code
def yX0_lambda_passing_7 : MethodName := ⟨RX0, "lambda$passing$7", "(ILTulipLines$Bed;)I"⟩
def dkwX0_lambda_passing_7_0 : List UInt8 := [26, 4, 16, 20, 184, 0, 215, 16, 254, 184, 1, 119, 43, 26, 182, 1, 17, 172]
abbrev dktX0_lambda_passing_7_0 : List UInt8 := dkwX0_lambda_passing_7_0 ++ []
theorem dksX0_lambda_passing_7_0 : cX0_lambda_passing_7.data.toList.drop 0 = dktX0_lambda_passing_7_0 := by decide +kernel
theorem dX0_lambda_passing_7_0 : decode cX0_lambda_passing_7 0 = .ok (.iload_n 0, 1) := dk_26 (dk_at dksX0_lambda_passing_7_0 0 rfl rfl)
theorem dX0_lambda_passing_7_1 : decode cX0_lambda_passing_7 1 = .ok (.iconst 1, 1) := dk_4 (dk_at dksX0_lambda_passing_7_0 1 rfl rfl)
theorem dX0_lambda_passing_7_2 : decode cX0_lambda_passing_7 2 = .ok (.bipush 20, 2) := dk_16 20 (dk_at dksX0_lambda_passing_7_0 2 rfl rfl)
theorem dX0_lambda_passing_7_4 : decode cX0_lambda_passing_7 4 = .ok (.invokestatic 215, 3) := dk_184 0 215 (dk_at dksX0_lambda_passing_7_0 4 rfl rfl)
theorem dX0_lambda_passing_7_7 : decode cX0_lambda_passing_7 7 = .ok (.bipush (-2), 2) := dk_16 254 (dk_at dksX0_lambda_passing_7_0 7 rfl rfl)
theorem dX0_lambda_passing_7_9 : decode cX0_lambda_passing_7 9 = .ok (.invokestatic 375, 3) := dk_184 1 119 (dk_at dksX0_lambda_passing_7_0 9 rfl rfl)
theorem dX0_lambda_passing_7_12 : decode cX0_lambda_passing_7 12 = .ok (.aload_n 1, 1) := dk_43 (dk_at dksX0_lambda_passing_7_0 12 rfl rfl)
theorem dX0_lambda_passing_7_13 : decode cX0_lambda_passing_7 13 = .ok (.iload_n 0, 1) := dk_26 (dk_at dksX0_lambda_passing_7_0 13 rfl rfl)
theorem dX0_lambda_passing_7_14 : decode cX0_lambda_passing_7 14 = .ok (.invokevirtual 273, 3) := dk_182 1 17 (dk_at dksX0_lambda_passing_7_0 14 rfl rfl)
theorem dX0_lambda_passing_7_17 : decode cX0_lambda_passing_7 17 = .ok (.ireturn, 1) := dk_172 (dk_at dksX0_lambda_passing_7_0 17 rfl rfl)
abbrev cX0_isRed : ByteArray := prog_1_method_2_code
def yX0_isRed : MethodName := ⟨RX0, "isRed", "(II)Z"⟩
def dkwX0_isRed_0 : List UInt8 := [26, 27, 122, 4, 126, 4, 160, 0, 7, 4, 167, 0, 4, 3, 172]
abbrev dktX0_isRed_0 : List UInt8 := dkwX0_isRed_0 ++ []
theorem dksX0_isRed_0 : cX0_isRed.data.toList.drop 0 = dktX0_isRed_0 := by decide +kernel
theorem dX0_isRed_0 : decode cX0_isRed 0 = .ok (.iload_n 0, 1) := dk_26 (dk_at dksX0_isRed_0 0 rfl rfl)
theorem dX0_isRed_1 : decode cX0_isRed 1 = .ok (.iload_n 1, 1) := dk_27 (dk_at dksX0_isRed_0 1 rfl rfl)
theorem dX0_isRed_2 : decode cX0_isRed 2 = .ok (.ishr, 1) := dk_122 (dk_at dksX0_isRed_0 2 rfl rfl)
theorem dX0_isRed_3 : decode cX0_isRed 3 = .ok (.iconst 1, 1) := dk_4 (dk_at dksX0_isRed_0 3 rfl rfl)
theorem dX0_isRed_4 : decode cX0_isRed 4 = .ok (.iand, 1) := dk_126 (dk_at dksX0_isRed_0 4 rfl rfl)
theorem dX0_isRed_5 : decode cX0_isRed 5 = .ok (.iconst 1, 1) := dk_4 (dk_at dksX0_isRed_0 5 rfl rfl)
theorem dX0_isRed_6 : decode cX0_isRed 6 = .ok (.if_icmp .ne 7, 3) := dk_160 0 7 (dk_at dksX0_isRed_0 6 rfl rfl)
theorem dX0_isRed_9 : decode cX0_isRed 9 = .ok (.iconst 1, 1) := dk_4 (dk_at dksX0_isRed_0 9 rfl rfl)
theorem dX0_isRed_10 : decode cX0_isRed 10 = .ok (.goto 4, 3) := dk_167 0 4 (dk_at dksX0_isRed_0 10 rfl rfl)
theorem dX0_isRed_13 : decode cX0_isRed 13 = .ok (.iconst 0, 1) := dk_3 (dk_at dksX0_isRed_0 13 rfl rfl)
theorem dX0_isRed_14 : decode cX0_isRed 14 = .ok (.ireturn, 1) := dk_172 (dk_at dksX0_isRed_0 14 rfl rfl)
abbrev cX0_bulbOf : ByteArray := prog_1_method_28_code
def yX0_bulbOf : MethodName := ⟨RX0, "bulbOf", "(II)I"⟩
def dkwX0_bulbOf_6 : List UInt8 := [180, 0, 171, 42, 180, 0, 65, 180, 0, 194, 184, 0, 197, 172, 16, 254, 172]
abbrev dktX0_bulbOf_6 : List UInt8 := dkwX0_bulbOf_6 ++ []
def dkwX0_bulbOf_5 : List UInt8 := [180, 0, 185, 172, 45, 180, 0, 188, 153, 0, 7, 4, 167, 0, 4, 3, 172, 42, 27, 182, 0, 191, 172, 45]
abbrev dktX0_bulbOf_5 : List UInt8 := dkwX0_bulbOf_5 ++ dktX0_bulbOf_6
def dkwX0_bulbOf_4 : List UInt8 := [180, 0, 160, 172, 45, 180, 0, 178, 153, 0, 7, 3, 167, 0, 4, 4, 172, 45, 180, 0, 182, 172, 45]
abbrev dktX0_bulbOf_4 : List UInt8 := dkwX0_bulbOf_4 ++ dktX0_bulbOf_5
def dkwX0_bulbOf_3 : List UInt8 := [45, 180, 0, 171, 172, 42, 180, 0, 65, 45, 180, 0, 171, 182, 0, 174, 172, 45, 180, 0, 157, 172, 45]
abbrev dktX0_bulbOf_3 : List UInt8 := dkwX0_bulbOf_3 ++ dktX0_bulbOf_4
def dkwX0_bulbOf_2 : List UInt8 := [170, 0, 0, 0, 0, 0, 139, 0, 0, 0, 0, 0, 0, 0, 9, 0, 0, 0, 55, 0, 0, 0, 60, 0, 0, 0, 72, 0, 0, 0, 77, 0, 0, 0, 82, 0, 0, 0, 95, 0, 0, 0, 100, 0, 0, 0, 105, 0, 0, 0, 118, 0, 0, 0, 124]
abbrev dktX0_bulbOf_2 : List UInt8 := dkwX0_bulbOf_2 ++ dktX0_bulbOf_3
def dkwX0_bulbOf_1 : List UInt8 := [192, 0, 155, 78, 28]
abbrev dktX0_bulbOf_1 : List UInt8 := dkwX0_bulbOf_1 ++ dktX0_bulbOf_2
def dkwX0_bulbOf_0 : List UInt8 := [42, 180, 0, 65, 27, 182, 0, 163, 154, 0, 5, 2, 172, 42, 180, 0, 65, 180, 0, 136, 27, 182, 0, 167]
abbrev dktX0_bulbOf_0 : List UInt8 := dkwX0_bulbOf_0 ++ dktX0_bulbOf_1
theorem dksX0_bulbOf_0 : cX0_bulbOf.data.toList.drop 0 = dktX0_bulbOf_0 := by decide +kernel
theorem dksX0_bulbOf_1 : cX0_bulbOf.data.toList.drop 24 = dktX0_bulbOf_1 := dk_seg dksX0_bulbOf_0 24 rfl rfl
theorem dksX0_bulbOf_2 : cX0_bulbOf.data.toList.drop 29 = dktX0_bulbOf_2 := dk_seg dksX0_bulbOf_1 5 rfl rfl
theorem dksX0_bulbOf_3 : cX0_bulbOf.data.toList.drop 84 = dktX0_bulbOf_3 := dk_seg dksX0_bulbOf_2 55 rfl rfl
theorem dksX0_bulbOf_4 : cX0_bulbOf.data.toList.drop 107 = dktX0_bulbOf_4 := dk_seg dksX0_bulbOf_3 23 rfl rfl
theorem dksX0_bulbOf_5 : cX0_bulbOf.data.toList.drop 130 = dktX0_bulbOf_5 := dk_seg dksX0_bulbOf_4 23 rfl rfl
theorem dksX0_bulbOf_6 : cX0_bulbOf.data.toList.drop 154 = dktX0_bulbOf_6 := dk_seg dksX0_bulbOf_5 24 rfl rfl
theorem dX0_bulbOf_0 : decode cX0_bulbOf 0 = .ok (.aload_n 0, 1) := dk_42 (dk_at dksX0_bulbOf_0 0 rfl rfl)
theorem dX0_bulbOf_1 : decode cX0_bulbOf 1 = .ok (.getfield 65, 3) := dk_180 0 65 (dk_at dksX0_bulbOf_0 1 rfl rfl)
theorem dX0_bulbOf_4 : decode cX0_bulbOf 4 = .ok (.iload_n 1, 1) := dk_27 (dk_at dksX0_bulbOf_0 4 rfl rfl)
theorem dX0_bulbOf_5 : decode cX0_bulbOf 5 = .ok (.invokevirtual 163, 3) := dk_182 0 163 (dk_at dksX0_bulbOf_0 5 rfl rfl)
theorem dX0_bulbOf_8 : decode cX0_bulbOf 8 = .ok (.ifCond .ne 5, 3) := dk_154 0 5 (dk_at dksX0_bulbOf_0 8 rfl rfl)
theorem dX0_bulbOf_11 : decode cX0_bulbOf 11 = .ok (.iconst (-1), 1) := dk_2 (dk_at dksX0_bulbOf_0 11 rfl rfl)
theorem dX0_bulbOf_12 : decode cX0_bulbOf 12 = .ok (.ireturn, 1) := dk_172 (dk_at dksX0_bulbOf_0 12 rfl rfl)
theorem dX0_bulbOf_13 : decode cX0_bulbOf 13 = .ok (.aload_n 0, 1) := dk_42 (dk_at dksX0_bulbOf_0 13 rfl rfl)
theorem dX0_bulbOf_14 : decode cX0_bulbOf 14 = .ok (.getfield 65, 3) := dk_180 0 65 (dk_at dksX0_bulbOf_0 14 rfl rfl)
theorem dX0_bulbOf_17 : decode cX0_bulbOf 17 = .ok (.getfield 136, 3) := dk_180 0 136 (dk_at dksX0_bulbOf_0 17 rfl rfl)
theorem dX0_bulbOf_20 : decode cX0_bulbOf 20 = .ok (.iload_n 1, 1) := dk_27 (dk_at dksX0_bulbOf_0 20 rfl rfl)
theorem dX0_bulbOf_21 : decode cX0_bulbOf 21 = .ok (.invokevirtual 167, 3) := dk_182 0 167 (dk_at dksX0_bulbOf_0 21 rfl rfl)
theorem dX0_bulbOf_24 : decode cX0_bulbOf 24 = .ok (.checkcast 155, 3) := dk_192 0 155 (dk_at dksX0_bulbOf_1 0 rfl rfl)
theorem dX0_bulbOf_27 : decode cX0_bulbOf 27 = .ok (.astore_n 3, 1) := dk_78 (dk_at dksX0_bulbOf_1 3 rfl rfl)
theorem dX0_bulbOf_28 : decode cX0_bulbOf 28 = .ok (.iload_n 2, 1) := dk_28 (dk_at dksX0_bulbOf_1 4 rfl rfl)
theorem dX0_bulbOf_29 : decode cX0_bulbOf 29 = .ok (.tableswitch 139 0 9 #[55, 60, 72, 77, 82, 95, 100, 105, 118, 124], 55) := by decide +kernel
theorem dX0_bulbOf_84 : decode cX0_bulbOf 84 = .ok (.aload_n 3, 1) := dk_45 (dk_at dksX0_bulbOf_3 0 rfl rfl)
theorem dX0_bulbOf_85 : decode cX0_bulbOf 85 = .ok (.getfield 171, 3) := dk_180 0 171 (dk_at dksX0_bulbOf_3 1 rfl rfl)
theorem dX0_bulbOf_88 : decode cX0_bulbOf 88 = .ok (.ireturn, 1) := dk_172 (dk_at dksX0_bulbOf_3 4 rfl rfl)
theorem dX0_bulbOf_89 : decode cX0_bulbOf 89 = .ok (.aload_n 0, 1) := dk_42 (dk_at dksX0_bulbOf_3 5 rfl rfl)
theorem dX0_bulbOf_90 : decode cX0_bulbOf 90 = .ok (.getfield 65, 3) := dk_180 0 65 (dk_at dksX0_bulbOf_3 6 rfl rfl)
theorem dX0_bulbOf_93 : decode cX0_bulbOf 93 = .ok (.aload_n 3, 1) := dk_45 (dk_at dksX0_bulbOf_3 9 rfl rfl)
theorem dX0_bulbOf_94 : decode cX0_bulbOf 94 = .ok (.getfield 171, 3) := dk_180 0 171 (dk_at dksX0_bulbOf_3 10 rfl rfl)
theorem dX0_bulbOf_97 : decode cX0_bulbOf 97 = .ok (.invokevirtual 174, 3) := dk_182 0 174 (dk_at dksX0_bulbOf_3 13 rfl rfl)
theorem dX0_bulbOf_100 : decode cX0_bulbOf 100 = .ok (.ireturn, 1) := dk_172 (dk_at dksX0_bulbOf_3 16 rfl rfl)
theorem dX0_bulbOf_101 : decode cX0_bulbOf 101 = .ok (.aload_n 3, 1) := dk_45 (dk_at dksX0_bulbOf_3 17 rfl rfl)
theorem dX0_bulbOf_102 : decode cX0_bulbOf 102 = .ok (.getfield 157, 3) := dk_180 0 157 (dk_at dksX0_bulbOf_3 18 rfl rfl)
theorem dX0_bulbOf_105 : decode cX0_bulbOf 105 = .ok (.ireturn, 1) := dk_172 (dk_at dksX0_bulbOf_3 21 rfl rfl)
theorem dX0_bulbOf_106 : decode cX0_bulbOf 106 = .ok (.aload_n 3, 1) := dk_45 (dk_at dksX0_bulbOf_3 22 rfl rfl)
theorem dX0_bulbOf_107 : decode cX0_bulbOf 107 = .ok (.getfield 160, 3) := dk_180 0 160 (dk_at dksX0_bulbOf_4 0 rfl rfl)
theorem dX0_bulbOf_110 : decode cX0_bulbOf 110 = .ok (.ireturn, 1) := dk_172 (dk_at dksX0_bulbOf_4 3 rfl rfl)
theorem dX0_bulbOf_111 : decode cX0_bulbOf 111 = .ok (.aload_n 3, 1) := dk_45 (dk_at dksX0_bulbOf_4 4 rfl rfl)
theorem dX0_bulbOf_112 : decode cX0_bulbOf 112 = .ok (.getfield 178, 3) := dk_180 0 178 (dk_at dksX0_bulbOf_4 5 rfl rfl)
theorem dX0_bulbOf_115 : decode cX0_bulbOf 115 = .ok (.ifCond .eq 7, 3) := dk_153 0 7 (dk_at dksX0_bulbOf_4 8 rfl rfl)
theorem dX0_bulbOf_118 : decode cX0_bulbOf 118 = .ok (.iconst 0, 1) := dk_3 (dk_at dksX0_bulbOf_4 11 rfl rfl)
theorem dX0_bulbOf_119 : decode cX0_bulbOf 119 = .ok (.goto 4, 3) := dk_167 0 4 (dk_at dksX0_bulbOf_4 12 rfl rfl)
theorem dX0_bulbOf_122 : decode cX0_bulbOf 122 = .ok (.iconst 1, 1) := dk_4 (dk_at dksX0_bulbOf_4 15 rfl rfl)
theorem dX0_bulbOf_123 : decode cX0_bulbOf 123 = .ok (.ireturn, 1) := dk_172 (dk_at dksX0_bulbOf_4 16 rfl rfl)
theorem dX0_bulbOf_124 : decode cX0_bulbOf 124 = .ok (.aload_n 3, 1) := dk_45 (dk_at dksX0_bulbOf_4 17 rfl rfl)
theorem dX0_bulbOf_125 : decode cX0_bulbOf 125 = .ok (.getfield 182, 3) := dk_180 0 182 (dk_at dksX0_bulbOf_4 18 rfl rfl)
theorem dX0_bulbOf_128 : decode cX0_bulbOf 128 = .ok (.ireturn, 1) := dk_172 (dk_at dksX0_bulbOf_4 21 rfl rfl)
theorem dX0_bulbOf_129 : decode cX0_bulbOf 129 = .ok (.aload_n 3, 1) := dk_45 (dk_at dksX0_bulbOf_4 22 rfl rfl)
theorem dX0_bulbOf_130 : decode cX0_bulbOf 130 = .ok (.getfield 185, 3) := dk_180 0 185 (dk_at dksX0_bulbOf_5 0 rfl rfl)
theorem dX0_bulbOf_133 : decode cX0_bulbOf 133 = .ok (.ireturn, 1) := dk_172 (dk_at dksX0_bulbOf_5 3 rfl rfl)
theorem dX0_bulbOf_134 : decode cX0_bulbOf 134 = .ok (.aload_n 3, 1) := dk_45 (dk_at dksX0_bulbOf_5 4 rfl rfl)
theorem dX0_bulbOf_135 : decode cX0_bulbOf 135 = .ok (.getfield 188, 3) := dk_180 0 188 (dk_at dksX0_bulbOf_5 5 rfl rfl)
theorem dX0_bulbOf_138 : decode cX0_bulbOf 138 = .ok (.ifCond .eq 7, 3) := dk_153 0 7 (dk_at dksX0_bulbOf_5 8 rfl rfl)
theorem dX0_bulbOf_141 : decode cX0_bulbOf 141 = .ok (.iconst 1, 1) := dk_4 (dk_at dksX0_bulbOf_5 11 rfl rfl)
theorem dX0_bulbOf_142 : decode cX0_bulbOf 142 = .ok (.goto 4, 3) := dk_167 0 4 (dk_at dksX0_bulbOf_5 12 rfl rfl)
theorem dX0_bulbOf_145 : decode cX0_bulbOf 145 = .ok (.iconst 0, 1) := dk_3 (dk_at dksX0_bulbOf_5 15 rfl rfl)
theorem dX0_bulbOf_146 : decode cX0_bulbOf 146 = .ok (.ireturn, 1) := dk_172 (dk_at dksX0_bulbOf_5 16 rfl rfl)
theorem dX0_bulbOf_147 : decode cX0_bulbOf 147 = .ok (.aload_n 0, 1) := dk_42 (dk_at dksX0_bulbOf_5 17 rfl rfl)
theorem dX0_bulbOf_148 : decode cX0_bulbOf 148 = .ok (.iload_n 1, 1) := dk_27 (dk_at dksX0_bulbOf_5 18 rfl rfl)
theorem dX0_bulbOf_149 : decode cX0_bulbOf 149 = .ok (.invokevirtual 191, 3) := dk_182 0 191 (dk_at dksX0_bulbOf_5 19 rfl rfl)
theorem dX0_bulbOf_152 : decode cX0_bulbOf 152 = .ok (.ireturn, 1) := dk_172 (dk_at dksX0_bulbOf_5 22 rfl rfl)
theorem dX0_bulbOf_153 : decode cX0_bulbOf 153 = .ok (.aload_n 3, 1) := dk_45 (dk_at dksX0_bulbOf_5 23 rfl rfl)
theorem dX0_bulbOf_154 : decode cX0_bulbOf 154 = .ok (.getfield 171, 3) := dk_180 0 171 (dk_at dksX0_bulbOf_6 0 rfl rfl)
theorem dX0_bulbOf_157 : decode cX0_bulbOf 157 = .ok (.aload_n 0, 1) := dk_42 (dk_at dksX0_bulbOf_6 3 rfl rfl)
theorem dX0_bulbOf_158 : decode cX0_bulbOf 158 = .ok (.getfield 65, 3) := dk_180 0 65 (dk_at dksX0_bulbOf_6 4 rfl rfl)
theorem dX0_bulbOf_161 : decode cX0_bulbOf 161 = .ok (.getfield 194, 3) := dk_180 0 194 (dk_at dksX0_bulbOf_6 7 rfl rfl)
theorem dX0_bulbOf_164 : decode cX0_bulbOf 164 = .ok (.invokestatic 197, 3) := dk_184 0 197 (dk_at dksX0_bulbOf_6 10 rfl rfl)
theorem dX0_bulbOf_167 : decode cX0_bulbOf 167 = .ok (.ireturn, 1) := dk_172 (dk_at dksX0_bulbOf_6 13 rfl rfl)
theorem dX0_bulbOf_168 : decode cX0_bulbOf 168 = .ok (.bipush (-2), 2) := dk_16 254 (dk_at dksX0_bulbOf_6 14 rfl rfl)
theorem dX0_bulbOf_170 : decode cX0_bulbOf 170 = .ok (.ireturn, 1) := dk_172 (dk_at dksX0_bulbOf_6 16 rfl rfl)
abbrev cX0_children : ByteArray := prog_1_method_26_code
def yX0_children : MethodName := ⟨RX0, "children", "(I)I"⟩
def dkwX0_children_2 : List UInt8 := [27, 160, 0, 6, 132, 2, 1, 167, 255, 215, 28, 172]
abbrev dktX0_children_2 : List UInt8 := dkwX0_children_2 ++ []
def dkwX0_children_1 : List UInt8 := [185, 0, 152, 1, 0, 192, 0, 155, 58, 4, 25, 4, 180, 0, 157, 27, 159, 0, 12, 25, 4, 180, 0, 160]
abbrev dktX0_children_1 : List UInt8 := dkwX0_children_1 ++ dktX0_children_2
def dkwX0_children_0 : List UInt8 := [3, 61, 42, 180, 0, 65, 180, 0, 136, 182, 0, 140, 78, 45, 185, 0, 146, 1, 0, 153, 0, 38, 45]
abbrev dktX0_children_0 : List UInt8 := dkwX0_children_0 ++ dktX0_children_1
theorem dksX0_children_0 : cX0_children.data.toList.drop 0 = dktX0_children_0 := by decide +kernel
theorem dksX0_children_1 : cX0_children.data.toList.drop 23 = dktX0_children_1 := dk_seg dksX0_children_0 23 rfl rfl
theorem dksX0_children_2 : cX0_children.data.toList.drop 47 = dktX0_children_2 := dk_seg dksX0_children_1 24 rfl rfl
theorem dX0_children_0 : decode cX0_children 0 = .ok (.iconst 0, 1) := dk_3 (dk_at dksX0_children_0 0 rfl rfl)
theorem dX0_children_1 : decode cX0_children 1 = .ok (.istore_n 2, 1) := dk_61 (dk_at dksX0_children_0 1 rfl rfl)
theorem dX0_children_2 : decode cX0_children 2 = .ok (.aload_n 0, 1) := dk_42 (dk_at dksX0_children_0 2 rfl rfl)
theorem dX0_children_3 : decode cX0_children 3 = .ok (.getfield 65, 3) := dk_180 0 65 (dk_at dksX0_children_0 3 rfl rfl)
theorem dX0_children_6 : decode cX0_children 6 = .ok (.getfield 136, 3) := dk_180 0 136 (dk_at dksX0_children_0 6 rfl rfl)
theorem dX0_children_9 : decode cX0_children 9 = .ok (.invokevirtual 140, 3) := dk_182 0 140 (dk_at dksX0_children_0 9 rfl rfl)
theorem dX0_children_12 : decode cX0_children 12 = .ok (.astore_n 3, 1) := dk_78 (dk_at dksX0_children_0 12 rfl rfl)
theorem dX0_children_13 : decode cX0_children 13 = .ok (.aload_n 3, 1) := dk_45 (dk_at dksX0_children_0 13 rfl rfl)
theorem dX0_children_14 : decode cX0_children 14 = .ok (.invokeinterface 146 1, 5) := by decide +kernel
theorem dX0_children_19 : decode cX0_children 19 = .ok (.ifCond .eq 38, 3) := dk_153 0 38 (dk_at dksX0_children_0 19 rfl rfl)
theorem dX0_children_22 : decode cX0_children 22 = .ok (.aload_n 3, 1) := dk_45 (dk_at dksX0_children_0 22 rfl rfl)
theorem dX0_children_23 : decode cX0_children 23 = .ok (.invokeinterface 152 1, 5) := by decide +kernel
theorem dX0_children_28 : decode cX0_children 28 = .ok (.checkcast 155, 3) := dk_192 0 155 (dk_at dksX0_children_1 5 rfl rfl)
theorem dX0_children_31 : decode cX0_children 31 = .ok (.astore 4, 2) := dk_58 4 (dk_at dksX0_children_1 8 rfl rfl)
theorem dX0_children_33 : decode cX0_children 33 = .ok (.aload 4, 2) := dk_25 4 (dk_at dksX0_children_1 10 rfl rfl)
theorem dX0_children_35 : decode cX0_children 35 = .ok (.getfield 157, 3) := dk_180 0 157 (dk_at dksX0_children_1 12 rfl rfl)
theorem dX0_children_38 : decode cX0_children 38 = .ok (.iload_n 1, 1) := dk_27 (dk_at dksX0_children_1 15 rfl rfl)
theorem dX0_children_39 : decode cX0_children 39 = .ok (.if_icmp .eq 12, 3) := dk_159 0 12 (dk_at dksX0_children_1 16 rfl rfl)
theorem dX0_children_42 : decode cX0_children 42 = .ok (.aload 4, 2) := dk_25 4 (dk_at dksX0_children_1 19 rfl rfl)
theorem dX0_children_44 : decode cX0_children 44 = .ok (.getfield 160, 3) := dk_180 0 160 (dk_at dksX0_children_1 21 rfl rfl)
theorem dX0_children_47 : decode cX0_children 47 = .ok (.iload_n 1, 1) := dk_27 (dk_at dksX0_children_2 0 rfl rfl)
theorem dX0_children_48 : decode cX0_children 48 = .ok (.if_icmp .ne 6, 3) := dk_160 0 6 (dk_at dksX0_children_2 1 rfl rfl)
theorem dX0_children_51 : decode cX0_children 51 = .ok (.iinc 2 1, 3) := dk_132 2 1 (dk_at dksX0_children_2 4 rfl rfl)
theorem dX0_children_54 : decode cX0_children 54 = .ok (.goto (-41), 3) := dk_167 255 215 (dk_at dksX0_children_2 7 rfl rfl)
theorem dX0_children_57 : decode cX0_children 57 = .ok (.iload_n 2, 1) := dk_28 (dk_at dksX0_children_2 10 rfl rfl)
theorem dX0_children_58 : decode cX0_children 58 = .ok (.ireturn, 1) := dk_172 (dk_at dksX0_children_2 11 rfl rfl)
abbrev cX0_unlike : ByteArray := prog_1_method_27_code
def yX0_unlike : MethodName := ⟨RX0, "unlike", "(II)I"⟩
def dkwX0_unlike_0 : List UInt8 := [3, 61, 26, 27, 130, 62, 29, 153, 0, 15, 132, 2, 1, 29, 29, 4, 100, 126, 62, 167, 255, 243, 28, 172]
abbrev dktX0_unlike_0 : List UInt8 := dkwX0_unlike_0 ++ []
theorem dksX0_unlike_0 : cX0_unlike.data.toList.drop 0 = dktX0_unlike_0 := by decide +kernel
theorem dX0_unlike_0 : decode cX0_unlike 0 = .ok (.iconst 0, 1) := dk_3 (dk_at dksX0_unlike_0 0 rfl rfl)
theorem dX0_unlike_1 : decode cX0_unlike 1 = .ok (.istore_n 2, 1) := dk_61 (dk_at dksX0_unlike_0 1 rfl rfl)
theorem dX0_unlike_2 : decode cX0_unlike 2 = .ok (.iload_n 0, 1) := dk_26 (dk_at dksX0_unlike_0 2 rfl rfl)
theorem dX0_unlike_3 : decode cX0_unlike 3 = .ok (.iload_n 1, 1) := dk_27 (dk_at dksX0_unlike_0 3 rfl rfl)
theorem dX0_unlike_4 : decode cX0_unlike 4 = .ok (.ixor, 1) := dk_130 (dk_at dksX0_unlike_0 4 rfl rfl)
theorem dX0_unlike_5 : decode cX0_unlike 5 = .ok (.istore_n 3, 1) := dk_62 (dk_at dksX0_unlike_0 5 rfl rfl)
theorem dX0_unlike_6 : decode cX0_unlike 6 = .ok (.iload_n 3, 1) := dk_29 (dk_at dksX0_unlike_0 6 rfl rfl)
theorem dX0_unlike_7 : decode cX0_unlike 7 = .ok (.ifCond .eq 15, 3) := dk_153 0 15 (dk_at dksX0_unlike_0 7 rfl rfl)
theorem dX0_unlike_10 : decode cX0_unlike 10 = .ok (.iinc 2 1, 3) := dk_132 2 1 (dk_at dksX0_unlike_0 10 rfl rfl)
theorem dX0_unlike_13 : decode cX0_unlike 13 = .ok (.iload_n 3, 1) := dk_29 (dk_at dksX0_unlike_0 13 rfl rfl)
theorem dX0_unlike_14 : decode cX0_unlike 14 = .ok (.iload_n 3, 1) := dk_29 (dk_at dksX0_unlike_0 14 rfl rfl)
theorem dX0_unlike_15 : decode cX0_unlike 15 = .ok (.iconst 1, 1) := dk_4 (dk_at dksX0_unlike_0 15 rfl rfl)
theorem dX0_unlike_16 : decode cX0_unlike 16 = .ok (.isub, 1) := dk_100 (dk_at dksX0_unlike_0 16 rfl rfl)
theorem dX0_unlike_17 : decode cX0_unlike 17 = .ok (.iand, 1) := dk_126 (dk_at dksX0_unlike_0 17 rfl rfl)
theorem dX0_unlike_18 : decode cX0_unlike 18 = .ok (.istore_n 3, 1) := dk_62 (dk_at dksX0_unlike_0 18 rfl rfl)
theorem dX0_unlike_19 : decode cX0_unlike 19 = .ok (.goto (-13), 3) := dk_167 255 243 (dk_at dksX0_unlike_0 19 rfl rfl)
theorem dX0_unlike_22 : decode cX0_unlike 22 = .ok (.iload_n 2, 1) := dk_28 (dk_at dksX0_unlike_0 22 rfl rfl)
theorem dX0_unlike_23 : decode cX0_unlike 23 = .ok (.ireturn, 1) := dk_172 (dk_at dksX0_unlike_0 23 rfl rfl)
abbrev cX0_areKin : ByteArray := prog_1_method_29_code
def yX0_areKin : MethodName := ⟨RX0, "areKin", "(II)I"⟩
def dkwX0_areKin_2 : List UInt8 := [180, 0, 136, 28, 182, 0, 167, 192, 0, 155, 182, 0, 201, 153, 0, 7, 4, 167, 0, 4, 3, 172]
abbrev dktX0_areKin_2 : List UInt8 := dkwX0_areKin_2 ++ []
def dkwX0_areKin_1 : List UInt8 := [42, 180, 0, 65, 42, 180, 0, 65, 180, 0, 136, 27, 182, 0, 167, 192, 0, 155, 42, 180, 0, 65]
abbrev dktX0_areKin_1 : List UInt8 := dkwX0_areKin_1 ++ dktX0_areKin_2
def dkwX0_areKin_0 : List UInt8 := [42, 180, 0, 65, 27, 182, 0, 163, 153, 0, 14, 42, 180, 0, 65, 28, 182, 0, 163, 154, 0, 5, 2, 172]
abbrev dktX0_areKin_0 : List UInt8 := dkwX0_areKin_0 ++ dktX0_areKin_1
theorem dksX0_areKin_0 : cX0_areKin.data.toList.drop 0 = dktX0_areKin_0 := by decide +kernel
theorem dksX0_areKin_1 : cX0_areKin.data.toList.drop 24 = dktX0_areKin_1 := dk_seg dksX0_areKin_0 24 rfl rfl
theorem dksX0_areKin_2 : cX0_areKin.data.toList.drop 46 = dktX0_areKin_2 := dk_seg dksX0_areKin_1 22 rfl rfl
theorem dX0_areKin_0 : decode cX0_areKin 0 = .ok (.aload_n 0, 1) := dk_42 (dk_at dksX0_areKin_0 0 rfl rfl)
theorem dX0_areKin_1 : decode cX0_areKin 1 = .ok (.getfield 65, 3) := dk_180 0 65 (dk_at dksX0_areKin_0 1 rfl rfl)
theorem dX0_areKin_4 : decode cX0_areKin 4 = .ok (.iload_n 1, 1) := dk_27 (dk_at dksX0_areKin_0 4 rfl rfl)
theorem dX0_areKin_5 : decode cX0_areKin 5 = .ok (.invokevirtual 163, 3) := dk_182 0 163 (dk_at dksX0_areKin_0 5 rfl rfl)
theorem dX0_areKin_8 : decode cX0_areKin 8 = .ok (.ifCond .eq 14, 3) := dk_153 0 14 (dk_at dksX0_areKin_0 8 rfl rfl)
theorem dX0_areKin_11 : decode cX0_areKin 11 = .ok (.aload_n 0, 1) := dk_42 (dk_at dksX0_areKin_0 11 rfl rfl)
theorem dX0_areKin_12 : decode cX0_areKin 12 = .ok (.getfield 65, 3) := dk_180 0 65 (dk_at dksX0_areKin_0 12 rfl rfl)
theorem dX0_areKin_15 : decode cX0_areKin 15 = .ok (.iload_n 2, 1) := dk_28 (dk_at dksX0_areKin_0 15 rfl rfl)
theorem dX0_areKin_16 : decode cX0_areKin 16 = .ok (.invokevirtual 163, 3) := dk_182 0 163 (dk_at dksX0_areKin_0 16 rfl rfl)
theorem dX0_areKin_19 : decode cX0_areKin 19 = .ok (.ifCond .ne 5, 3) := dk_154 0 5 (dk_at dksX0_areKin_0 19 rfl rfl)
theorem dX0_areKin_22 : decode cX0_areKin 22 = .ok (.iconst (-1), 1) := dk_2 (dk_at dksX0_areKin_0 22 rfl rfl)
theorem dX0_areKin_23 : decode cX0_areKin 23 = .ok (.ireturn, 1) := dk_172 (dk_at dksX0_areKin_0 23 rfl rfl)
theorem dX0_areKin_24 : decode cX0_areKin 24 = .ok (.aload_n 0, 1) := dk_42 (dk_at dksX0_areKin_1 0 rfl rfl)
theorem dX0_areKin_25 : decode cX0_areKin 25 = .ok (.getfield 65, 3) := dk_180 0 65 (dk_at dksX0_areKin_1 1 rfl rfl)
theorem dX0_areKin_28 : decode cX0_areKin 28 = .ok (.aload_n 0, 1) := dk_42 (dk_at dksX0_areKin_1 4 rfl rfl)
theorem dX0_areKin_29 : decode cX0_areKin 29 = .ok (.getfield 65, 3) := dk_180 0 65 (dk_at dksX0_areKin_1 5 rfl rfl)
theorem dX0_areKin_32 : decode cX0_areKin 32 = .ok (.getfield 136, 3) := dk_180 0 136 (dk_at dksX0_areKin_1 8 rfl rfl)
theorem dX0_areKin_35 : decode cX0_areKin 35 = .ok (.iload_n 1, 1) := dk_27 (dk_at dksX0_areKin_1 11 rfl rfl)
theorem dX0_areKin_36 : decode cX0_areKin 36 = .ok (.invokevirtual 167, 3) := dk_182 0 167 (dk_at dksX0_areKin_1 12 rfl rfl)
theorem dX0_areKin_39 : decode cX0_areKin 39 = .ok (.checkcast 155, 3) := dk_192 0 155 (dk_at dksX0_areKin_1 15 rfl rfl)
theorem dX0_areKin_42 : decode cX0_areKin 42 = .ok (.aload_n 0, 1) := dk_42 (dk_at dksX0_areKin_1 18 rfl rfl)
theorem dX0_areKin_43 : decode cX0_areKin 43 = .ok (.getfield 65, 3) := dk_180 0 65 (dk_at dksX0_areKin_1 19 rfl rfl)
theorem dX0_areKin_46 : decode cX0_areKin 46 = .ok (.getfield 136, 3) := dk_180 0 136 (dk_at dksX0_areKin_2 0 rfl rfl)
theorem dX0_areKin_49 : decode cX0_areKin 49 = .ok (.iload_n 2, 1) := dk_28 (dk_at dksX0_areKin_2 3 rfl rfl)
theorem dX0_areKin_50 : decode cX0_areKin 50 = .ok (.invokevirtual 167, 3) := dk_182 0 167 (dk_at dksX0_areKin_2 4 rfl rfl)
theorem dX0_areKin_53 : decode cX0_areKin 53 = .ok (.checkcast 155, 3) := dk_192 0 155 (dk_at dksX0_areKin_2 7 rfl rfl)
theorem dX0_areKin_56 : decode cX0_areKin 56 = .ok (.invokevirtual 201, 3) := dk_182 0 201 (dk_at dksX0_areKin_2 10 rfl rfl)
theorem dX0_areKin_59 : decode cX0_areKin 59 = .ok (.ifCond .eq 7, 3) := dk_153 0 7 (dk_at dksX0_areKin_2 13 rfl rfl)
theorem dX0_areKin_62 : decode cX0_areKin 62 = .ok (.iconst 1, 1) := dk_4 (dk_at dksX0_areKin_2 16 rfl rfl)
theorem dX0_areKin_63 : decode cX0_areKin 63 = .ok (.goto 4, 3) := dk_167 0 4 (dk_at dksX0_areKin_2 17 rfl rfl)
theorem dX0_areKin_66 : decode cX0_areKin 66 = .ok (.iconst 0, 1) := dk_3 (dk_at dksX0_areKin_2 20 rfl rfl)
theorem dX0_areKin_67 : decode cX0_areKin 67 = .ok (.ireturn, 1) := dk_172 (dk_at dksX0_areKin_2 21 rfl rfl)
abbrev cX0_areKinAgain : ByteArray := prog_1_method_30_code
def yX0_areKinAgain : MethodName := ⟨RX0, "areKinAgain", "(II)I"⟩
def dkwX0_areKinAgain_2 : List UInt8 := [180, 0, 136, 28, 182, 0, 167, 192, 0, 155, 182, 0, 205, 153, 0, 7, 4, 167, 0, 4, 3, 172]
abbrev dktX0_areKinAgain_2 : List UInt8 := dkwX0_areKinAgain_2 ++ []
def dkwX0_areKinAgain_1 : List UInt8 := [42, 180, 0, 65, 42, 180, 0, 65, 180, 0, 136, 27, 182, 0, 167, 192, 0, 155, 42, 180, 0, 65]
abbrev dktX0_areKinAgain_1 : List UInt8 := dkwX0_areKinAgain_1 ++ dktX0_areKinAgain_2
def dkwX0_areKinAgain_0 : List UInt8 := [42, 180, 0, 65, 27, 182, 0, 163, 153, 0, 14, 42, 180, 0, 65, 28, 182, 0, 163, 154, 0, 5, 2, 172]
abbrev dktX0_areKinAgain_0 : List UInt8 := dkwX0_areKinAgain_0 ++ dktX0_areKinAgain_1
theorem dksX0_areKinAgain_0 : cX0_areKinAgain.data.toList.drop 0 = dktX0_areKinAgain_0 := by decide +kernel
theorem dksX0_areKinAgain_1 : cX0_areKinAgain.data.toList.drop 24 = dktX0_areKinAgain_1 := dk_seg dksX0_areKinAgain_0 24 rfl rfl
theorem dksX0_areKinAgain_2 : cX0_areKinAgain.data.toList.drop 46 = dktX0_areKinAgain_2 := dk_seg dksX0_areKinAgain_1 22 rfl rfl
theorem dX0_areKinAgain_0 : decode cX0_areKinAgain 0 = .ok (.aload_n 0, 1) := dk_42 (dk_at dksX0_areKinAgain_0 0 rfl rfl)
theorem dX0_areKinAgain_1 : decode cX0_areKinAgain 1 = .ok (.getfield 65, 3) := dk_180 0 65 (dk_at dksX0_areKinAgain_0 1 rfl rfl)
theorem dX0_areKinAgain_4 : decode cX0_areKinAgain 4 = .ok (.iload_n 1, 1) := dk_27 (dk_at dksX0_areKinAgain_0 4 rfl rfl)
theorem dX0_areKinAgain_5 : decode cX0_areKinAgain 5 = .ok (.invokevirtual 163, 3) := dk_182 0 163 (dk_at dksX0_areKinAgain_0 5 rfl rfl)
theorem dX0_areKinAgain_8 : decode cX0_areKinAgain 8 = .ok (.ifCond .eq 14, 3) := dk_153 0 14 (dk_at dksX0_areKinAgain_0 8 rfl rfl)
theorem dX0_areKinAgain_11 : decode cX0_areKinAgain 11 = .ok (.aload_n 0, 1) := dk_42 (dk_at dksX0_areKinAgain_0 11 rfl rfl)
theorem dX0_areKinAgain_12 : decode cX0_areKinAgain 12 = .ok (.getfield 65, 3) := dk_180 0 65 (dk_at dksX0_areKinAgain_0 12 rfl rfl)
theorem dX0_areKinAgain_15 : decode cX0_areKinAgain 15 = .ok (.iload_n 2, 1) := dk_28 (dk_at dksX0_areKinAgain_0 15 rfl rfl)
theorem dX0_areKinAgain_16 : decode cX0_areKinAgain 16 = .ok (.invokevirtual 163, 3) := dk_182 0 163 (dk_at dksX0_areKinAgain_0 16 rfl rfl)
theorem dX0_areKinAgain_19 : decode cX0_areKinAgain 19 = .ok (.ifCond .ne 5, 3) := dk_154 0 5 (dk_at dksX0_areKinAgain_0 19 rfl rfl)
theorem dX0_areKinAgain_22 : decode cX0_areKinAgain 22 = .ok (.iconst (-1), 1) := dk_2 (dk_at dksX0_areKinAgain_0 22 rfl rfl)
theorem dX0_areKinAgain_23 : decode cX0_areKinAgain 23 = .ok (.ireturn, 1) := dk_172 (dk_at dksX0_areKinAgain_0 23 rfl rfl)
theorem dX0_areKinAgain_24 : decode cX0_areKinAgain 24 = .ok (.aload_n 0, 1) := dk_42 (dk_at dksX0_areKinAgain_1 0 rfl rfl)
theorem dX0_areKinAgain_25 : decode cX0_areKinAgain 25 = .ok (.getfield 65, 3) := dk_180 0 65 (dk_at dksX0_areKinAgain_1 1 rfl rfl)
theorem dX0_areKinAgain_28 : decode cX0_areKinAgain 28 = .ok (.aload_n 0, 1) := dk_42 (dk_at dksX0_areKinAgain_1 4 rfl rfl)
theorem dX0_areKinAgain_29 : decode cX0_areKinAgain 29 = .ok (.getfield 65, 3) := dk_180 0 65 (dk_at dksX0_areKinAgain_1 5 rfl rfl)
theorem dX0_areKinAgain_32 : decode cX0_areKinAgain 32 = .ok (.getfield 136, 3) := dk_180 0 136 (dk_at dksX0_areKinAgain_1 8 rfl rfl)
theorem dX0_areKinAgain_35 : decode cX0_areKinAgain 35 = .ok (.iload_n 1, 1) := dk_27 (dk_at dksX0_areKinAgain_1 11 rfl rfl)
theorem dX0_areKinAgain_36 : decode cX0_areKinAgain 36 = .ok (.invokevirtual 167, 3) := dk_182 0 167 (dk_at dksX0_areKinAgain_1 12 rfl rfl)
theorem dX0_areKinAgain_39 : decode cX0_areKinAgain 39 = .ok (.checkcast 155, 3) := dk_192 0 155 (dk_at dksX0_areKinAgain_1 15 rfl rfl)
theorem dX0_areKinAgain_42 : decode cX0_areKinAgain 42 = .ok (.aload_n 0, 1) := dk_42 (dk_at dksX0_areKinAgain_1 18 rfl rfl)
theorem dX0_areKinAgain_43 : decode cX0_areKinAgain 43 = .ok (.getfield 65, 3) := dk_180 0 65 (dk_at dksX0_areKinAgain_1 19 rfl rfl)
theorem dX0_areKinAgain_46 : decode cX0_areKinAgain 46 = .ok (.getfield 136, 3) := dk_180 0 136 (dk_at dksX0_areKinAgain_2 0 rfl rfl)
theorem dX0_areKinAgain_49 : decode cX0_areKinAgain 49 = .ok (.iload_n 2, 1) := dk_28 (dk_at dksX0_areKinAgain_2 3 rfl rfl)
theorem dX0_areKinAgain_50 : decode cX0_areKinAgain 50 = .ok (.invokevirtual 167, 3) := dk_182 0 167 (dk_at dksX0_areKinAgain_2 4 rfl rfl)
theorem dX0_areKinAgain_53 : decode cX0_areKinAgain 53 = .ok (.checkcast 155, 3) := dk_192 0 155 (dk_at dksX0_areKinAgain_2 7 rfl rfl)
theorem dX0_areKinAgain_56 : decode cX0_areKinAgain 56 = .ok (.invokevirtual 205, 3) := dk_182 0 205 (dk_at dksX0_areKinAgain_2 10 rfl rfl)
theorem dX0_areKinAgain_59 : decode cX0_areKinAgain 59 = .ok (.ifCond .eq 7, 3) := dk_153 0 7 (dk_at dksX0_areKinAgain_2 13 rfl rfl)
theorem dX0_areKinAgain_62 : decode cX0_areKinAgain 62 = .ok (.iconst 1, 1) := dk_4 (dk_at dksX0_areKinAgain_2 16 rfl rfl)
theorem dX0_areKinAgain_63 : decode cX0_areKinAgain 63 = .ok (.goto 4, 3) := dk_167 0 4 (dk_at dksX0_areKinAgain_2 17 rfl rfl)
theorem dX0_areKinAgain_66 : decode cX0_areKinAgain 66 = .ok (.iconst 0, 1) := dk_3 (dk_at dksX0_areKinAgain_2 20 rfl rfl)
theorem dX0_areKinAgain_67 : decode cX0_areKinAgain 67 = .ok (.ireturn, 1) := dk_172 (dk_at dksX0_areKinAgain_2 21 rfl rfl)
abbrev cX0_forebears : ByteArray := prog_1_method_31_code
def yX0_forebears : MethodName := ⟨RX0, "forebears", "(I)I"⟩
def dkwX0_forebears_1 : List UInt8 := [182, 0, 167, 192, 0, 155, 182, 0, 208, 182, 0, 212, 167, 0, 4, 2, 172]
abbrev dktX0_forebears_1 : List UInt8 := dkwX0_forebears_1 ++ []
def dkwX0_forebears_0 : List UInt8 := [42, 180, 0, 65, 27, 182, 0, 163, 153, 0, 30, 42, 180, 0, 65, 42, 180, 0, 65, 180, 0, 136, 27]
abbrev dktX0_forebears_0 : List UInt8 := dkwX0_forebears_0 ++ dktX0_forebears_1
theorem dksX0_forebears_0 : cX0_forebears.data.toList.drop 0 = dktX0_forebears_0 := by decide +kernel
theorem dksX0_forebears_1 : cX0_forebears.data.toList.drop 23 = dktX0_forebears_1 := dk_seg dksX0_forebears_0 23 rfl rfl
theorem dX0_forebears_0 : decode cX0_forebears 0 = .ok (.aload_n 0, 1) := dk_42 (dk_at dksX0_forebears_0 0 rfl rfl)
theorem dX0_forebears_1 : decode cX0_forebears 1 = .ok (.getfield 65, 3) := dk_180 0 65 (dk_at dksX0_forebears_0 1 rfl rfl)
theorem dX0_forebears_4 : decode cX0_forebears 4 = .ok (.iload_n 1, 1) := dk_27 (dk_at dksX0_forebears_0 4 rfl rfl)
theorem dX0_forebears_5 : decode cX0_forebears 5 = .ok (.invokevirtual 163, 3) := dk_182 0 163 (dk_at dksX0_forebears_0 5 rfl rfl)
theorem dX0_forebears_8 : decode cX0_forebears 8 = .ok (.ifCond .eq 30, 3) := dk_153 0 30 (dk_at dksX0_forebears_0 8 rfl rfl)
theorem dX0_forebears_11 : decode cX0_forebears 11 = .ok (.aload_n 0, 1) := dk_42 (dk_at dksX0_forebears_0 11 rfl rfl)
theorem dX0_forebears_12 : decode cX0_forebears 12 = .ok (.getfield 65, 3) := dk_180 0 65 (dk_at dksX0_forebears_0 12 rfl rfl)
theorem dX0_forebears_15 : decode cX0_forebears 15 = .ok (.aload_n 0, 1) := dk_42 (dk_at dksX0_forebears_0 15 rfl rfl)
theorem dX0_forebears_16 : decode cX0_forebears 16 = .ok (.getfield 65, 3) := dk_180 0 65 (dk_at dksX0_forebears_0 16 rfl rfl)
theorem dX0_forebears_19 : decode cX0_forebears 19 = .ok (.getfield 136, 3) := dk_180 0 136 (dk_at dksX0_forebears_0 19 rfl rfl)
theorem dX0_forebears_22 : decode cX0_forebears 22 = .ok (.iload_n 1, 1) := dk_27 (dk_at dksX0_forebears_0 22 rfl rfl)
theorem dX0_forebears_23 : decode cX0_forebears 23 = .ok (.invokevirtual 167, 3) := dk_182 0 167 (dk_at dksX0_forebears_1 0 rfl rfl)
theorem dX0_forebears_26 : decode cX0_forebears 26 = .ok (.checkcast 155, 3) := dk_192 0 155 (dk_at dksX0_forebears_1 3 rfl rfl)
theorem dX0_forebears_29 : decode cX0_forebears 29 = .ok (.invokevirtual 208, 3) := dk_182 0 208 (dk_at dksX0_forebears_1 6 rfl rfl)
theorem dX0_forebears_32 : decode cX0_forebears 32 = .ok (.invokevirtual 212, 3) := dk_182 0 212 (dk_at dksX0_forebears_1 9 rfl rfl)
theorem dX0_forebears_35 : decode cX0_forebears 35 = .ok (.goto 4, 3) := dk_167 0 4 (dk_at dksX0_forebears_1 12 rfl rfl)
theorem dX0_forebears_38 : decode cX0_forebears 38 = .ok (.iconst (-1), 1) := dk_2 (dk_at dksX0_forebears_1 15 rfl rfl)
theorem dX0_forebears_39 : decode cX0_forebears 39 = .ok (.ireturn, 1) := dk_172 (dk_at dksX0_forebears_1 16 rfl rfl)
abbrev cX0_lineOf : ByteArray := prog_1_method_32_code
def yX0_lineOf : MethodName := ⟨RX0, "lineOf", "(II)I"⟩
def dkwX0_lineOf_6 : List UInt8 := [167, 0, 15, 28, 4, 160, 0, 8, 21, 4, 167, 0, 5, 21, 5, 172]
abbrev dktX0_lineOf_6 : List UInt8 := dkwX0_lineOf_6 ++ []
def dkwX0_lineOf_5 : List UInt8 := [180, 0, 65, 25, 7, 180, 0, 171, 182, 0, 174, 184, 0, 222, 54, 5, 167, 255, 169, 28, 154, 0, 7, 29]
abbrev dktX0_lineOf_5 : List UInt8 := dkwX0_lineOf_5 ++ dktX0_lineOf_6
def dkwX0_lineOf_4 : List UInt8 := [167, 255, 208, 132, 3, 1, 25, 7, 180, 0, 178, 153, 0, 6, 167, 255, 194, 132, 4, 1, 21, 5, 42]
abbrev dktX0_lineOf_4 : List UInt8 := dkwX0_lineOf_4 ++ dktX0_lineOf_5
def dkwX0_lineOf_3 : List UInt8 := [25, 7, 42, 180, 0, 65, 180, 0, 136, 27, 182, 0, 167, 192, 0, 155, 182, 0, 219, 154, 0, 6]
abbrev dktX0_lineOf_3 : List UInt8 := dkwX0_lineOf_3 ++ dktX0_lineOf_4
def dkwX0_lineOf_2 : List UInt8 := [185, 0, 146, 1, 0, 153, 0, 83, 25, 6, 185, 0, 152, 1, 0, 192, 0, 155, 58, 7, 42, 180, 0, 65]
abbrev dktX0_lineOf_2 : List UInt8 := dkwX0_lineOf_2 ++ dktX0_lineOf_3
def dkwX0_lineOf_1 : List UInt8 := [172, 3, 62, 3, 54, 4, 16, 252, 54, 5, 42, 180, 0, 65, 180, 0, 136, 182, 0, 140, 58, 6, 25, 6]
abbrev dktX0_lineOf_1 : List UInt8 := dkwX0_lineOf_1 ++ dktX0_lineOf_2
def dkwX0_lineOf_0 : List UInt8 := [42, 180, 0, 65, 27, 182, 0, 163, 154, 0, 5, 2, 172, 28, 3, 5, 184, 0, 215, 154, 0, 6, 16, 254]
abbrev dktX0_lineOf_0 : List UInt8 := dkwX0_lineOf_0 ++ dktX0_lineOf_1
theorem dksX0_lineOf_0 : cX0_lineOf.data.toList.drop 0 = dktX0_lineOf_0 := by decide +kernel
theorem dksX0_lineOf_1 : cX0_lineOf.data.toList.drop 24 = dktX0_lineOf_1 := dk_seg dksX0_lineOf_0 24 rfl rfl
theorem dksX0_lineOf_2 : cX0_lineOf.data.toList.drop 48 = dktX0_lineOf_2 := dk_seg dksX0_lineOf_1 24 rfl rfl
theorem dksX0_lineOf_3 : cX0_lineOf.data.toList.drop 72 = dktX0_lineOf_3 := dk_seg dksX0_lineOf_2 24 rfl rfl
theorem dksX0_lineOf_4 : cX0_lineOf.data.toList.drop 94 = dktX0_lineOf_4 := dk_seg dksX0_lineOf_3 22 rfl rfl
theorem dksX0_lineOf_5 : cX0_lineOf.data.toList.drop 117 = dktX0_lineOf_5 := dk_seg dksX0_lineOf_4 23 rfl rfl
theorem dksX0_lineOf_6 : cX0_lineOf.data.toList.drop 141 = dktX0_lineOf_6 := dk_seg dksX0_lineOf_5 24 rfl rfl
theorem dX0_lineOf_0 : decode cX0_lineOf 0 = .ok (.aload_n 0, 1) := dk_42 (dk_at dksX0_lineOf_0 0 rfl rfl)
theorem dX0_lineOf_1 : decode cX0_lineOf 1 = .ok (.getfield 65, 3) := dk_180 0 65 (dk_at dksX0_lineOf_0 1 rfl rfl)
theorem dX0_lineOf_4 : decode cX0_lineOf 4 = .ok (.iload_n 1, 1) := dk_27 (dk_at dksX0_lineOf_0 4 rfl rfl)
theorem dX0_lineOf_5 : decode cX0_lineOf 5 = .ok (.invokevirtual 163, 3) := dk_182 0 163 (dk_at dksX0_lineOf_0 5 rfl rfl)
theorem dX0_lineOf_8 : decode cX0_lineOf 8 = .ok (.ifCond .ne 5, 3) := dk_154 0 5 (dk_at dksX0_lineOf_0 8 rfl rfl)
theorem dX0_lineOf_11 : decode cX0_lineOf 11 = .ok (.iconst (-1), 1) := dk_2 (dk_at dksX0_lineOf_0 11 rfl rfl)
theorem dX0_lineOf_12 : decode cX0_lineOf 12 = .ok (.ireturn, 1) := dk_172 (dk_at dksX0_lineOf_0 12 rfl rfl)
theorem dX0_lineOf_13 : decode cX0_lineOf 13 = .ok (.iload_n 2, 1) := dk_28 (dk_at dksX0_lineOf_0 13 rfl rfl)
theorem dX0_lineOf_14 : decode cX0_lineOf 14 = .ok (.iconst 0, 1) := dk_3 (dk_at dksX0_lineOf_0 14 rfl rfl)
theorem dX0_lineOf_15 : decode cX0_lineOf 15 = .ok (.iconst 2, 1) := dk_5 (dk_at dksX0_lineOf_0 15 rfl rfl)
theorem dX0_lineOf_16 : decode cX0_lineOf 16 = .ok (.invokestatic 215, 3) := dk_184 0 215 (dk_at dksX0_lineOf_0 16 rfl rfl)
theorem dX0_lineOf_19 : decode cX0_lineOf 19 = .ok (.ifCond .ne 6, 3) := dk_154 0 6 (dk_at dksX0_lineOf_0 19 rfl rfl)
theorem dX0_lineOf_22 : decode cX0_lineOf 22 = .ok (.bipush (-2), 2) := dk_16 254 (dk_at dksX0_lineOf_0 22 rfl rfl)
theorem dX0_lineOf_24 : decode cX0_lineOf 24 = .ok (.ireturn, 1) := dk_172 (dk_at dksX0_lineOf_1 0 rfl rfl)
theorem dX0_lineOf_25 : decode cX0_lineOf 25 = .ok (.iconst 0, 1) := dk_3 (dk_at dksX0_lineOf_1 1 rfl rfl)
theorem dX0_lineOf_26 : decode cX0_lineOf 26 = .ok (.istore_n 3, 1) := dk_62 (dk_at dksX0_lineOf_1 2 rfl rfl)
theorem dX0_lineOf_27 : decode cX0_lineOf 27 = .ok (.iconst 0, 1) := dk_3 (dk_at dksX0_lineOf_1 3 rfl rfl)
theorem dX0_lineOf_28 : decode cX0_lineOf 28 = .ok (.istore 4, 2) := dk_54 4 (dk_at dksX0_lineOf_1 4 rfl rfl)
theorem dX0_lineOf_30 : decode cX0_lineOf 30 = .ok (.bipush (-4), 2) := dk_16 252 (dk_at dksX0_lineOf_1 6 rfl rfl)
theorem dX0_lineOf_32 : decode cX0_lineOf 32 = .ok (.istore 5, 2) := dk_54 5 (dk_at dksX0_lineOf_1 8 rfl rfl)
theorem dX0_lineOf_34 : decode cX0_lineOf 34 = .ok (.aload_n 0, 1) := dk_42 (dk_at dksX0_lineOf_1 10 rfl rfl)
theorem dX0_lineOf_35 : decode cX0_lineOf 35 = .ok (.getfield 65, 3) := dk_180 0 65 (dk_at dksX0_lineOf_1 11 rfl rfl)
theorem dX0_lineOf_38 : decode cX0_lineOf 38 = .ok (.getfield 136, 3) := dk_180 0 136 (dk_at dksX0_lineOf_1 14 rfl rfl)
theorem dX0_lineOf_41 : decode cX0_lineOf 41 = .ok (.invokevirtual 140, 3) := dk_182 0 140 (dk_at dksX0_lineOf_1 17 rfl rfl)
theorem dX0_lineOf_44 : decode cX0_lineOf 44 = .ok (.astore 6, 2) := dk_58 6 (dk_at dksX0_lineOf_1 20 rfl rfl)
theorem dX0_lineOf_46 : decode cX0_lineOf 46 = .ok (.aload 6, 2) := dk_25 6 (dk_at dksX0_lineOf_1 22 rfl rfl)
theorem dX0_lineOf_48 : decode cX0_lineOf 48 = .ok (.invokeinterface 146 1, 5) := by decide +kernel
theorem dX0_lineOf_53 : decode cX0_lineOf 53 = .ok (.ifCond .eq 83, 3) := dk_153 0 83 (dk_at dksX0_lineOf_2 5 rfl rfl)
theorem dX0_lineOf_56 : decode cX0_lineOf 56 = .ok (.aload 6, 2) := dk_25 6 (dk_at dksX0_lineOf_2 8 rfl rfl)
theorem dX0_lineOf_58 : decode cX0_lineOf 58 = .ok (.invokeinterface 152 1, 5) := by decide +kernel
theorem dX0_lineOf_63 : decode cX0_lineOf 63 = .ok (.checkcast 155, 3) := dk_192 0 155 (dk_at dksX0_lineOf_2 15 rfl rfl)
theorem dX0_lineOf_66 : decode cX0_lineOf 66 = .ok (.astore 7, 2) := dk_58 7 (dk_at dksX0_lineOf_2 18 rfl rfl)
theorem dX0_lineOf_68 : decode cX0_lineOf 68 = .ok (.aload_n 0, 1) := dk_42 (dk_at dksX0_lineOf_2 20 rfl rfl)
theorem dX0_lineOf_69 : decode cX0_lineOf 69 = .ok (.getfield 65, 3) := dk_180 0 65 (dk_at dksX0_lineOf_2 21 rfl rfl)
theorem dX0_lineOf_72 : decode cX0_lineOf 72 = .ok (.aload 7, 2) := dk_25 7 (dk_at dksX0_lineOf_3 0 rfl rfl)
theorem dX0_lineOf_74 : decode cX0_lineOf 74 = .ok (.aload_n 0, 1) := dk_42 (dk_at dksX0_lineOf_3 2 rfl rfl)
theorem dX0_lineOf_75 : decode cX0_lineOf 75 = .ok (.getfield 65, 3) := dk_180 0 65 (dk_at dksX0_lineOf_3 3 rfl rfl)
theorem dX0_lineOf_78 : decode cX0_lineOf 78 = .ok (.getfield 136, 3) := dk_180 0 136 (dk_at dksX0_lineOf_3 6 rfl rfl)
theorem dX0_lineOf_81 : decode cX0_lineOf 81 = .ok (.iload_n 1, 1) := dk_27 (dk_at dksX0_lineOf_3 9 rfl rfl)
theorem dX0_lineOf_82 : decode cX0_lineOf 82 = .ok (.invokevirtual 167, 3) := dk_182 0 167 (dk_at dksX0_lineOf_3 10 rfl rfl)
theorem dX0_lineOf_85 : decode cX0_lineOf 85 = .ok (.checkcast 155, 3) := dk_192 0 155 (dk_at dksX0_lineOf_3 13 rfl rfl)
theorem dX0_lineOf_88 : decode cX0_lineOf 88 = .ok (.invokevirtual 219, 3) := dk_182 0 219 (dk_at dksX0_lineOf_3 16 rfl rfl)
theorem dX0_lineOf_91 : decode cX0_lineOf 91 = .ok (.ifCond .ne 6, 3) := dk_154 0 6 (dk_at dksX0_lineOf_3 19 rfl rfl)
theorem dX0_lineOf_94 : decode cX0_lineOf 94 = .ok (.goto (-48), 3) := dk_167 255 208 (dk_at dksX0_lineOf_4 0 rfl rfl)
theorem dX0_lineOf_97 : decode cX0_lineOf 97 = .ok (.iinc 3 1, 3) := dk_132 3 1 (dk_at dksX0_lineOf_4 3 rfl rfl)
theorem dX0_lineOf_100 : decode cX0_lineOf 100 = .ok (.aload 7, 2) := dk_25 7 (dk_at dksX0_lineOf_4 6 rfl rfl)
theorem dX0_lineOf_102 : decode cX0_lineOf 102 = .ok (.getfield 178, 3) := dk_180 0 178 (dk_at dksX0_lineOf_4 8 rfl rfl)
theorem dX0_lineOf_105 : decode cX0_lineOf 105 = .ok (.ifCond .eq 6, 3) := dk_153 0 6 (dk_at dksX0_lineOf_4 11 rfl rfl)
theorem dX0_lineOf_108 : decode cX0_lineOf 108 = .ok (.goto (-62), 3) := dk_167 255 194 (dk_at dksX0_lineOf_4 14 rfl rfl)
theorem dX0_lineOf_111 : decode cX0_lineOf 111 = .ok (.iinc 4 1, 3) := dk_132 4 1 (dk_at dksX0_lineOf_4 17 rfl rfl)
theorem dX0_lineOf_114 : decode cX0_lineOf 114 = .ok (.iload 5, 2) := dk_21 5 (dk_at dksX0_lineOf_4 20 rfl rfl)
theorem dX0_lineOf_116 : decode cX0_lineOf 116 = .ok (.aload_n 0, 1) := dk_42 (dk_at dksX0_lineOf_4 22 rfl rfl)
theorem dX0_lineOf_117 : decode cX0_lineOf 117 = .ok (.getfield 65, 3) := dk_180 0 65 (dk_at dksX0_lineOf_5 0 rfl rfl)
theorem dX0_lineOf_120 : decode cX0_lineOf 120 = .ok (.aload 7, 2) := dk_25 7 (dk_at dksX0_lineOf_5 3 rfl rfl)
theorem dX0_lineOf_122 : decode cX0_lineOf 122 = .ok (.getfield 171, 3) := dk_180 0 171 (dk_at dksX0_lineOf_5 5 rfl rfl)
theorem dX0_lineOf_125 : decode cX0_lineOf 125 = .ok (.invokevirtual 174, 3) := dk_182 0 174 (dk_at dksX0_lineOf_5 8 rfl rfl)
theorem dX0_lineOf_128 : decode cX0_lineOf 128 = .ok (.invokestatic 222, 3) := dk_184 0 222 (dk_at dksX0_lineOf_5 11 rfl rfl)
theorem dX0_lineOf_131 : decode cX0_lineOf 131 = .ok (.istore 5, 2) := dk_54 5 (dk_at dksX0_lineOf_5 14 rfl rfl)
theorem dX0_lineOf_133 : decode cX0_lineOf 133 = .ok (.goto (-87), 3) := dk_167 255 169 (dk_at dksX0_lineOf_5 16 rfl rfl)
theorem dX0_lineOf_136 : decode cX0_lineOf 136 = .ok (.iload_n 2, 1) := dk_28 (dk_at dksX0_lineOf_5 19 rfl rfl)
theorem dX0_lineOf_137 : decode cX0_lineOf 137 = .ok (.ifCond .ne 7, 3) := dk_154 0 7 (dk_at dksX0_lineOf_5 20 rfl rfl)
theorem dX0_lineOf_140 : decode cX0_lineOf 140 = .ok (.iload_n 3, 1) := dk_29 (dk_at dksX0_lineOf_5 23 rfl rfl)
theorem dX0_lineOf_141 : decode cX0_lineOf 141 = .ok (.goto 15, 3) := dk_167 0 15 (dk_at dksX0_lineOf_6 0 rfl rfl)
theorem dX0_lineOf_144 : decode cX0_lineOf 144 = .ok (.iload_n 2, 1) := dk_28 (dk_at dksX0_lineOf_6 3 rfl rfl)
theorem dX0_lineOf_145 : decode cX0_lineOf 145 = .ok (.iconst 1, 1) := dk_4 (dk_at dksX0_lineOf_6 4 rfl rfl)
theorem dX0_lineOf_146 : decode cX0_lineOf 146 = .ok (.if_icmp .ne 8, 3) := dk_160 0 8 (dk_at dksX0_lineOf_6 5 rfl rfl)
theorem dX0_lineOf_149 : decode cX0_lineOf 149 = .ok (.iload 4, 2) := dk_21 4 (dk_at dksX0_lineOf_6 8 rfl rfl)
theorem dX0_lineOf_151 : decode cX0_lineOf 151 = .ok (.goto 5, 3) := dk_167 0 5 (dk_at dksX0_lineOf_6 10 rfl rfl)
theorem dX0_lineOf_154 : decode cX0_lineOf 154 = .ok (.iload 5, 2) := dk_21 5 (dk_at dksX0_lineOf_6 13 rfl rfl)
theorem dX0_lineOf_156 : decode cX0_lineOf 156 = .ok (.ireturn, 1) := dk_172 (dk_at dksX0_lineOf_6 15 rfl rfl)
abbrev cX0_apart : ByteArray := prog_1_method_33_code
def yX0_apart : MethodName := ⟨RX0, "apart", "(II)I"⟩
def dkwX0_apart_2 : List UInt8 := [182, 0, 167, 192, 0, 155, 180, 0, 171, 184, 0, 197, 167, 0, 4, 2, 172]
abbrev dktX0_apart_2 : List UInt8 := dkwX0_apart_2 ++ []
def dkwX0_apart_1 : List UInt8 := [180, 0, 65, 180, 0, 136, 27, 182, 0, 167, 192, 0, 155, 180, 0, 171, 42, 180, 0, 65, 180, 0, 136, 28]
abbrev dktX0_apart_1 : List UInt8 := dkwX0_apart_1 ++ dktX0_apart_2
def dkwX0_apart_0 : List UInt8 := [42, 180, 0, 65, 27, 182, 0, 163, 153, 0, 54, 42, 180, 0, 65, 28, 182, 0, 163, 153, 0, 43, 42]
abbrev dktX0_apart_0 : List UInt8 := dkwX0_apart_0 ++ dktX0_apart_1
theorem dksX0_apart_0 : cX0_apart.data.toList.drop 0 = dktX0_apart_0 := by decide +kernel
theorem dksX0_apart_1 : cX0_apart.data.toList.drop 23 = dktX0_apart_1 := dk_seg dksX0_apart_0 23 rfl rfl
theorem dksX0_apart_2 : cX0_apart.data.toList.drop 47 = dktX0_apart_2 := dk_seg dksX0_apart_1 24 rfl rfl
theorem dX0_apart_0 : decode cX0_apart 0 = .ok (.aload_n 0, 1) := dk_42 (dk_at dksX0_apart_0 0 rfl rfl)
theorem dX0_apart_1 : decode cX0_apart 1 = .ok (.getfield 65, 3) := dk_180 0 65 (dk_at dksX0_apart_0 1 rfl rfl)
theorem dX0_apart_4 : decode cX0_apart 4 = .ok (.iload_n 1, 1) := dk_27 (dk_at dksX0_apart_0 4 rfl rfl)
theorem dX0_apart_5 : decode cX0_apart 5 = .ok (.invokevirtual 163, 3) := dk_182 0 163 (dk_at dksX0_apart_0 5 rfl rfl)
theorem dX0_apart_8 : decode cX0_apart 8 = .ok (.ifCond .eq 54, 3) := dk_153 0 54 (dk_at dksX0_apart_0 8 rfl rfl)
theorem dX0_apart_11 : decode cX0_apart 11 = .ok (.aload_n 0, 1) := dk_42 (dk_at dksX0_apart_0 11 rfl rfl)
theorem dX0_apart_12 : decode cX0_apart 12 = .ok (.getfield 65, 3) := dk_180 0 65 (dk_at dksX0_apart_0 12 rfl rfl)
theorem dX0_apart_15 : decode cX0_apart 15 = .ok (.iload_n 2, 1) := dk_28 (dk_at dksX0_apart_0 15 rfl rfl)
theorem dX0_apart_16 : decode cX0_apart 16 = .ok (.invokevirtual 163, 3) := dk_182 0 163 (dk_at dksX0_apart_0 16 rfl rfl)
theorem dX0_apart_19 : decode cX0_apart 19 = .ok (.ifCond .eq 43, 3) := dk_153 0 43 (dk_at dksX0_apart_0 19 rfl rfl)
theorem dX0_apart_22 : decode cX0_apart 22 = .ok (.aload_n 0, 1) := dk_42 (dk_at dksX0_apart_0 22 rfl rfl)
theorem dX0_apart_23 : decode cX0_apart 23 = .ok (.getfield 65, 3) := dk_180 0 65 (dk_at dksX0_apart_1 0 rfl rfl)
theorem dX0_apart_26 : decode cX0_apart 26 = .ok (.getfield 136, 3) := dk_180 0 136 (dk_at dksX0_apart_1 3 rfl rfl)
theorem dX0_apart_29 : decode cX0_apart 29 = .ok (.iload_n 1, 1) := dk_27 (dk_at dksX0_apart_1 6 rfl rfl)
theorem dX0_apart_30 : decode cX0_apart 30 = .ok (.invokevirtual 167, 3) := dk_182 0 167 (dk_at dksX0_apart_1 7 rfl rfl)
theorem dX0_apart_33 : decode cX0_apart 33 = .ok (.checkcast 155, 3) := dk_192 0 155 (dk_at dksX0_apart_1 10 rfl rfl)
theorem dX0_apart_36 : decode cX0_apart 36 = .ok (.getfield 171, 3) := dk_180 0 171 (dk_at dksX0_apart_1 13 rfl rfl)
theorem dX0_apart_39 : decode cX0_apart 39 = .ok (.aload_n 0, 1) := dk_42 (dk_at dksX0_apart_1 16 rfl rfl)
theorem dX0_apart_40 : decode cX0_apart 40 = .ok (.getfield 65, 3) := dk_180 0 65 (dk_at dksX0_apart_1 17 rfl rfl)
theorem dX0_apart_43 : decode cX0_apart 43 = .ok (.getfield 136, 3) := dk_180 0 136 (dk_at dksX0_apart_1 20 rfl rfl)
theorem dX0_apart_46 : decode cX0_apart 46 = .ok (.iload_n 2, 1) := dk_28 (dk_at dksX0_apart_1 23 rfl rfl)
theorem dX0_apart_47 : decode cX0_apart 47 = .ok (.invokevirtual 167, 3) := dk_182 0 167 (dk_at dksX0_apart_2 0 rfl rfl)
theorem dX0_apart_50 : decode cX0_apart 50 = .ok (.checkcast 155, 3) := dk_192 0 155 (dk_at dksX0_apart_2 3 rfl rfl)
theorem dX0_apart_53 : decode cX0_apart 53 = .ok (.getfield 171, 3) := dk_180 0 171 (dk_at dksX0_apart_2 6 rfl rfl)
theorem dX0_apart_56 : decode cX0_apart 56 = .ok (.invokestatic 197, 3) := dk_184 0 197 (dk_at dksX0_apart_2 9 rfl rfl)
theorem dX0_apart_59 : decode cX0_apart 59 = .ok (.goto 4, 3) := dk_167 0 4 (dk_at dksX0_apart_2 12 rfl rfl)
theorem dX0_apart_62 : decode cX0_apart 62 = .ok (.iconst (-1), 1) := dk_2 (dk_at dksX0_apart_2 15 rfl rfl)
theorem dX0_apart_63 : decode cX0_apart 63 = .ok (.ireturn, 1) := dk_172 (dk_at dksX0_apart_2 16 rfl rfl)
abbrev cX0_unlike_2 : ByteArray := prog_1_method_34_code
def yX0_unlike_2 : MethodName := ⟨RX0, "unlike", "()I"⟩
def dkwX0_unlike_2_2 : List UInt8 := [180, 0, 171, 51, 154, 0, 6, 132, 2, 1, 43, 25, 4, 180, 0, 171, 4, 84, 167, 255, 215, 28, 172]
abbrev dktX0_unlike_2_2 : List UInt8 := dkwX0_unlike_2_2 ++ []
def dkwX0_unlike_2_1 : List UInt8 := [185, 0, 146, 1, 0, 153, 0, 38, 45, 185, 0, 152, 1, 0, 192, 0, 155, 58, 4, 43, 25, 4]
abbrev dktX0_unlike_2_1 : List UInt8 := dkwX0_unlike_2_1 ++ dktX0_unlike_2_2
def dkwX0_unlike_2_0 : List UInt8 := [17, 1, 0, 188, 4, 76, 3, 61, 42, 180, 0, 65, 182, 0, 227, 182, 0, 140, 78, 45]
abbrev dktX0_unlike_2_0 : List UInt8 := dkwX0_unlike_2_0 ++ dktX0_unlike_2_1
theorem dksX0_unlike_2_0 : cX0_unlike_2.data.toList.drop 0 = dktX0_unlike_2_0 := by decide +kernel
theorem dksX0_unlike_2_1 : cX0_unlike_2.data.toList.drop 20 = dktX0_unlike_2_1 := dk_seg dksX0_unlike_2_0 20 rfl rfl
theorem dksX0_unlike_2_2 : cX0_unlike_2.data.toList.drop 42 = dktX0_unlike_2_2 := dk_seg dksX0_unlike_2_1 22 rfl rfl
theorem dX0_unlike_2_0 : decode cX0_unlike_2 0 = .ok (.sipush 256, 3) := dk_17 1 0 (dk_at dksX0_unlike_2_0 0 rfl rfl)
theorem dX0_unlike_2_3 : decode cX0_unlike_2 3 = .ok (.newarray .boolean, 2) := dk_188_4 (dk_at dksX0_unlike_2_0 3 rfl rfl)
theorem dX0_unlike_2_5 : decode cX0_unlike_2 5 = .ok (.astore_n 1, 1) := dk_76 (dk_at dksX0_unlike_2_0 5 rfl rfl)
theorem dX0_unlike_2_6 : decode cX0_unlike_2 6 = .ok (.iconst 0, 1) := dk_3 (dk_at dksX0_unlike_2_0 6 rfl rfl)
theorem dX0_unlike_2_7 : decode cX0_unlike_2 7 = .ok (.istore_n 2, 1) := dk_61 (dk_at dksX0_unlike_2_0 7 rfl rfl)
theorem dX0_unlike_2_8 : decode cX0_unlike_2 8 = .ok (.aload_n 0, 1) := dk_42 (dk_at dksX0_unlike_2_0 8 rfl rfl)
theorem dX0_unlike_2_9 : decode cX0_unlike_2 9 = .ok (.getfield 65, 3) := dk_180 0 65 (dk_at dksX0_unlike_2_0 9 rfl rfl)
theorem dX0_unlike_2_12 : decode cX0_unlike_2 12 = .ok (.invokevirtual 227, 3) := dk_182 0 227 (dk_at dksX0_unlike_2_0 12 rfl rfl)
theorem dX0_unlike_2_15 : decode cX0_unlike_2 15 = .ok (.invokevirtual 140, 3) := dk_182 0 140 (dk_at dksX0_unlike_2_0 15 rfl rfl)
theorem dX0_unlike_2_18 : decode cX0_unlike_2 18 = .ok (.astore_n 3, 1) := dk_78 (dk_at dksX0_unlike_2_0 18 rfl rfl)
theorem dX0_unlike_2_19 : decode cX0_unlike_2 19 = .ok (.aload_n 3, 1) := dk_45 (dk_at dksX0_unlike_2_0 19 rfl rfl)
theorem dX0_unlike_2_20 : decode cX0_unlike_2 20 = .ok (.invokeinterface 146 1, 5) := by decide +kernel
theorem dX0_unlike_2_25 : decode cX0_unlike_2 25 = .ok (.ifCond .eq 38, 3) := dk_153 0 38 (dk_at dksX0_unlike_2_1 5 rfl rfl)
theorem dX0_unlike_2_28 : decode cX0_unlike_2 28 = .ok (.aload_n 3, 1) := dk_45 (dk_at dksX0_unlike_2_1 8 rfl rfl)
theorem dX0_unlike_2_29 : decode cX0_unlike_2 29 = .ok (.invokeinterface 152 1, 5) := by decide +kernel
theorem dX0_unlike_2_34 : decode cX0_unlike_2 34 = .ok (.checkcast 155, 3) := dk_192 0 155 (dk_at dksX0_unlike_2_1 14 rfl rfl)
theorem dX0_unlike_2_37 : decode cX0_unlike_2 37 = .ok (.astore 4, 2) := dk_58 4 (dk_at dksX0_unlike_2_1 17 rfl rfl)
theorem dX0_unlike_2_39 : decode cX0_unlike_2 39 = .ok (.aload_n 1, 1) := dk_43 (dk_at dksX0_unlike_2_1 19 rfl rfl)
theorem dX0_unlike_2_40 : decode cX0_unlike_2 40 = .ok (.aload 4, 2) := dk_25 4 (dk_at dksX0_unlike_2_1 20 rfl rfl)
theorem dX0_unlike_2_42 : decode cX0_unlike_2 42 = .ok (.getfield 171, 3) := dk_180 0 171 (dk_at dksX0_unlike_2_2 0 rfl rfl)
theorem dX0_unlike_2_45 : decode cX0_unlike_2 45 = .ok (.baload, 1) := dk_51 (dk_at dksX0_unlike_2_2 3 rfl rfl)
theorem dX0_unlike_2_46 : decode cX0_unlike_2 46 = .ok (.ifCond .ne 6, 3) := dk_154 0 6 (dk_at dksX0_unlike_2_2 4 rfl rfl)
theorem dX0_unlike_2_49 : decode cX0_unlike_2 49 = .ok (.iinc 2 1, 3) := dk_132 2 1 (dk_at dksX0_unlike_2_2 7 rfl rfl)
theorem dX0_unlike_2_52 : decode cX0_unlike_2 52 = .ok (.aload_n 1, 1) := dk_43 (dk_at dksX0_unlike_2_2 10 rfl rfl)
theorem dX0_unlike_2_53 : decode cX0_unlike_2 53 = .ok (.aload 4, 2) := dk_25 4 (dk_at dksX0_unlike_2_2 11 rfl rfl)
theorem dX0_unlike_2_55 : decode cX0_unlike_2 55 = .ok (.getfield 171, 3) := dk_180 0 171 (dk_at dksX0_unlike_2_2 13 rfl rfl)
theorem dX0_unlike_2_58 : decode cX0_unlike_2 58 = .ok (.iconst 1, 1) := dk_4 (dk_at dksX0_unlike_2_2 16 rfl rfl)
theorem dX0_unlike_2_59 : decode cX0_unlike_2 59 = .ok (.bastore, 1) := dk_84 (dk_at dksX0_unlike_2_2 17 rfl rfl)
theorem dX0_unlike_2_60 : decode cX0_unlike_2 60 = .ok (.goto (-41), 3) := dk_167 255 215 (dk_at dksX0_unlike_2_2 18 rfl rfl)
theorem dX0_unlike_2_63 : decode cX0_unlike_2 63 = .ok (.iload_n 2, 1) := dk_28 (dk_at dksX0_unlike_2_2 21 rfl rfl)
theorem dX0_unlike_2_64 : decode cX0_unlike_2 64 = .ok (.ireturn, 1) := dk_172 (dk_at dksX0_unlike_2_2 22 rfl rfl)
abbrev cX0_ranked : ByteArray := prog_1_method_35_code
def yX0_ranked : MethodName := ⟨RX0, "ranked", "(I)I"⟩
def dkwX0_ranked_1 : List UInt8 := [182, 0, 167, 192, 0, 155, 180, 0, 232, 167, 0, 4, 2, 172]
abbrev dktX0_ranked_1 : List UInt8 := dkwX0_ranked_1 ++ []
def dkwX0_ranked_0 : List UInt8 := [42, 180, 0, 65, 182, 0, 227, 77, 27, 3, 44, 182, 0, 231, 4, 100, 184, 0, 215, 153, 0, 17, 44, 27]
abbrev dktX0_ranked_0 : List UInt8 := dkwX0_ranked_0 ++ dktX0_ranked_1
theorem dksX0_ranked_0 : cX0_ranked.data.toList.drop 0 = dktX0_ranked_0 := by decide +kernel
theorem dksX0_ranked_1 : cX0_ranked.data.toList.drop 24 = dktX0_ranked_1 := dk_seg dksX0_ranked_0 24 rfl rfl
theorem dX0_ranked_0 : decode cX0_ranked 0 = .ok (.aload_n 0, 1) := dk_42 (dk_at dksX0_ranked_0 0 rfl rfl)
theorem dX0_ranked_1 : decode cX0_ranked 1 = .ok (.getfield 65, 3) := dk_180 0 65 (dk_at dksX0_ranked_0 1 rfl rfl)
theorem dX0_ranked_4 : decode cX0_ranked 4 = .ok (.invokevirtual 227, 3) := dk_182 0 227 (dk_at dksX0_ranked_0 4 rfl rfl)
theorem dX0_ranked_7 : decode cX0_ranked 7 = .ok (.astore_n 2, 1) := dk_77 (dk_at dksX0_ranked_0 7 rfl rfl)
theorem dX0_ranked_8 : decode cX0_ranked 8 = .ok (.iload_n 1, 1) := dk_27 (dk_at dksX0_ranked_0 8 rfl rfl)
theorem dX0_ranked_9 : decode cX0_ranked 9 = .ok (.iconst 0, 1) := dk_3 (dk_at dksX0_ranked_0 9 rfl rfl)
theorem dX0_ranked_10 : decode cX0_ranked 10 = .ok (.aload_n 2, 1) := dk_44 (dk_at dksX0_ranked_0 10 rfl rfl)
theorem dX0_ranked_11 : decode cX0_ranked 11 = .ok (.invokevirtual 231, 3) := dk_182 0 231 (dk_at dksX0_ranked_0 11 rfl rfl)
theorem dX0_ranked_14 : decode cX0_ranked 14 = .ok (.iconst 1, 1) := dk_4 (dk_at dksX0_ranked_0 14 rfl rfl)
theorem dX0_ranked_15 : decode cX0_ranked 15 = .ok (.isub, 1) := dk_100 (dk_at dksX0_ranked_0 15 rfl rfl)
theorem dX0_ranked_16 : decode cX0_ranked 16 = .ok (.invokestatic 215, 3) := dk_184 0 215 (dk_at dksX0_ranked_0 16 rfl rfl)
theorem dX0_ranked_19 : decode cX0_ranked 19 = .ok (.ifCond .eq 17, 3) := dk_153 0 17 (dk_at dksX0_ranked_0 19 rfl rfl)
theorem dX0_ranked_22 : decode cX0_ranked 22 = .ok (.aload_n 2, 1) := dk_44 (dk_at dksX0_ranked_0 22 rfl rfl)
theorem dX0_ranked_23 : decode cX0_ranked 23 = .ok (.iload_n 1, 1) := dk_27 (dk_at dksX0_ranked_0 23 rfl rfl)
theorem dX0_ranked_24 : decode cX0_ranked 24 = .ok (.invokevirtual 167, 3) := dk_182 0 167 (dk_at dksX0_ranked_1 0 rfl rfl)
theorem dX0_ranked_27 : decode cX0_ranked 27 = .ok (.checkcast 155, 3) := dk_192 0 155 (dk_at dksX0_ranked_1 3 rfl rfl)
theorem dX0_ranked_30 : decode cX0_ranked 30 = .ok (.getfield 232, 3) := dk_180 0 232 (dk_at dksX0_ranked_1 6 rfl rfl)
theorem dX0_ranked_33 : decode cX0_ranked 33 = .ok (.goto 4, 3) := dk_167 0 4 (dk_at dksX0_ranked_1 9 rfl rfl)
theorem dX0_ranked_36 : decode cX0_ranked 36 = .ok (.iconst (-1), 1) := dk_2 (dk_at dksX0_ranked_1 12 rfl rfl)
theorem dX0_ranked_37 : decode cX0_ranked 37 = .ok (.ireturn, 1) := dk_172 (dk_at dksX0_ranked_1 13 rfl rfl)
abbrev cX0_would : ByteArray := prog_1_method_36_code
def yX0_would : MethodName := ⟨RX0, "would", "(IIII)I"⟩
def dkwX0_would_4 : List UInt8 := [21, 5, 167, 0, 12, 42, 180, 0, 65, 21, 5, 182, 0, 174, 172]
abbrev dktX0_would_4 : List UInt8 := dkwX0_would_4 ++ []
def dkwX0_would_3 : List UInt8 := [180, 0, 136, 28, 182, 0, 167, 192, 0, 155, 29, 183, 0, 237, 182, 0, 240, 54, 5, 21, 4, 154, 0, 8]
abbrev dktX0_would_3 : List UInt8 := dkwX0_would_3 ++ dktX0_would_4
def dkwX0_would_2 : List UInt8 := [187, 0, 235, 89, 42, 180, 0, 65, 180, 0, 136, 27, 182, 0, 167, 192, 0, 155, 42, 180, 0, 65]
abbrev dktX0_would_2 : List UInt8 := dkwX0_would_2 ++ dktX0_would_3
def dkwX0_would_1 : List UInt8 := [29, 3, 16, 8, 184, 0, 215, 153, 0, 13, 21, 4, 3, 4, 184, 0, 215, 154, 0, 6, 16, 254, 172]
abbrev dktX0_would_1 : List UInt8 := dkwX0_would_1 ++ dktX0_would_2
def dkwX0_would_0 : List UInt8 := [42, 180, 0, 65, 27, 182, 0, 163, 153, 0, 14, 42, 180, 0, 65, 28, 182, 0, 163, 154, 0, 5, 2, 172]
abbrev dktX0_would_0 : List UInt8 := dkwX0_would_0 ++ dktX0_would_1
theorem dksX0_would_0 : cX0_would.data.toList.drop 0 = dktX0_would_0 := by decide +kernel
theorem dksX0_would_1 : cX0_would.data.toList.drop 24 = dktX0_would_1 := dk_seg dksX0_would_0 24 rfl rfl
theorem dksX0_would_2 : cX0_would.data.toList.drop 47 = dktX0_would_2 := dk_seg dksX0_would_1 23 rfl rfl
theorem dksX0_would_3 : cX0_would.data.toList.drop 69 = dktX0_would_3 := dk_seg dksX0_would_2 22 rfl rfl
theorem dksX0_would_4 : cX0_would.data.toList.drop 93 = dktX0_would_4 := dk_seg dksX0_would_3 24 rfl rfl
theorem dX0_would_0 : decode cX0_would 0 = .ok (.aload_n 0, 1) := dk_42 (dk_at dksX0_would_0 0 rfl rfl)
theorem dX0_would_1 : decode cX0_would 1 = .ok (.getfield 65, 3) := dk_180 0 65 (dk_at dksX0_would_0 1 rfl rfl)
theorem dX0_would_4 : decode cX0_would 4 = .ok (.iload_n 1, 1) := dk_27 (dk_at dksX0_would_0 4 rfl rfl)
theorem dX0_would_5 : decode cX0_would 5 = .ok (.invokevirtual 163, 3) := dk_182 0 163 (dk_at dksX0_would_0 5 rfl rfl)
theorem dX0_would_8 : decode cX0_would 8 = .ok (.ifCond .eq 14, 3) := dk_153 0 14 (dk_at dksX0_would_0 8 rfl rfl)
theorem dX0_would_11 : decode cX0_would 11 = .ok (.aload_n 0, 1) := dk_42 (dk_at dksX0_would_0 11 rfl rfl)
theorem dX0_would_12 : decode cX0_would 12 = .ok (.getfield 65, 3) := dk_180 0 65 (dk_at dksX0_would_0 12 rfl rfl)
theorem dX0_would_15 : decode cX0_would 15 = .ok (.iload_n 2, 1) := dk_28 (dk_at dksX0_would_0 15 rfl rfl)
theorem dX0_would_16 : decode cX0_would 16 = .ok (.invokevirtual 163, 3) := dk_182 0 163 (dk_at dksX0_would_0 16 rfl rfl)
theorem dX0_would_19 : decode cX0_would 19 = .ok (.ifCond .ne 5, 3) := dk_154 0 5 (dk_at dksX0_would_0 19 rfl rfl)
theorem dX0_would_22 : decode cX0_would 22 = .ok (.iconst (-1), 1) := dk_2 (dk_at dksX0_would_0 22 rfl rfl)
theorem dX0_would_23 : decode cX0_would 23 = .ok (.ireturn, 1) := dk_172 (dk_at dksX0_would_0 23 rfl rfl)
theorem dX0_would_24 : decode cX0_would 24 = .ok (.iload_n 3, 1) := dk_29 (dk_at dksX0_would_1 0 rfl rfl)
theorem dX0_would_25 : decode cX0_would 25 = .ok (.iconst 0, 1) := dk_3 (dk_at dksX0_would_1 1 rfl rfl)
theorem dX0_would_26 : decode cX0_would 26 = .ok (.bipush 8, 2) := dk_16 8 (dk_at dksX0_would_1 2 rfl rfl)
theorem dX0_would_28 : decode cX0_would 28 = .ok (.invokestatic 215, 3) := dk_184 0 215 (dk_at dksX0_would_1 4 rfl rfl)
theorem dX0_would_31 : decode cX0_would 31 = .ok (.ifCond .eq 13, 3) := dk_153 0 13 (dk_at dksX0_would_1 7 rfl rfl)
theorem dX0_would_34 : decode cX0_would 34 = .ok (.iload 4, 2) := dk_21 4 (dk_at dksX0_would_1 10 rfl rfl)
theorem dX0_would_36 : decode cX0_would 36 = .ok (.iconst 0, 1) := dk_3 (dk_at dksX0_would_1 12 rfl rfl)
theorem dX0_would_37 : decode cX0_would 37 = .ok (.iconst 1, 1) := dk_4 (dk_at dksX0_would_1 13 rfl rfl)
theorem dX0_would_38 : decode cX0_would 38 = .ok (.invokestatic 215, 3) := dk_184 0 215 (dk_at dksX0_would_1 14 rfl rfl)
theorem dX0_would_41 : decode cX0_would 41 = .ok (.ifCond .ne 6, 3) := dk_154 0 6 (dk_at dksX0_would_1 17 rfl rfl)
theorem dX0_would_44 : decode cX0_would 44 = .ok (.bipush (-2), 2) := dk_16 254 (dk_at dksX0_would_1 20 rfl rfl)
theorem dX0_would_46 : decode cX0_would 46 = .ok (.ireturn, 1) := dk_172 (dk_at dksX0_would_1 22 rfl rfl)
theorem dX0_would_47 : decode cX0_would 47 = .ok (.new 235, 3) := dk_187 0 235 (dk_at dksX0_would_2 0 rfl rfl)
theorem dX0_would_50 : decode cX0_would 50 = .ok (.dup, 1) := dk_89 (dk_at dksX0_would_2 3 rfl rfl)
theorem dX0_would_51 : decode cX0_would 51 = .ok (.aload_n 0, 1) := dk_42 (dk_at dksX0_would_2 4 rfl rfl)
theorem dX0_would_52 : decode cX0_would 52 = .ok (.getfield 65, 3) := dk_180 0 65 (dk_at dksX0_would_2 5 rfl rfl)
theorem dX0_would_55 : decode cX0_would 55 = .ok (.getfield 136, 3) := dk_180 0 136 (dk_at dksX0_would_2 8 rfl rfl)
theorem dX0_would_58 : decode cX0_would 58 = .ok (.iload_n 1, 1) := dk_27 (dk_at dksX0_would_2 11 rfl rfl)
theorem dX0_would_59 : decode cX0_would 59 = .ok (.invokevirtual 167, 3) := dk_182 0 167 (dk_at dksX0_would_2 12 rfl rfl)
theorem dX0_would_62 : decode cX0_would 62 = .ok (.checkcast 155, 3) := dk_192 0 155 (dk_at dksX0_would_2 15 rfl rfl)
theorem dX0_would_65 : decode cX0_would 65 = .ok (.aload_n 0, 1) := dk_42 (dk_at dksX0_would_2 18 rfl rfl)
theorem dX0_would_66 : decode cX0_would 66 = .ok (.getfield 65, 3) := dk_180 0 65 (dk_at dksX0_would_2 19 rfl rfl)
theorem dX0_would_69 : decode cX0_would 69 = .ok (.getfield 136, 3) := dk_180 0 136 (dk_at dksX0_would_3 0 rfl rfl)
theorem dX0_would_72 : decode cX0_would 72 = .ok (.iload_n 2, 1) := dk_28 (dk_at dksX0_would_3 3 rfl rfl)
theorem dX0_would_73 : decode cX0_would 73 = .ok (.invokevirtual 167, 3) := dk_182 0 167 (dk_at dksX0_would_3 4 rfl rfl)
theorem dX0_would_76 : decode cX0_would 76 = .ok (.checkcast 155, 3) := dk_192 0 155 (dk_at dksX0_would_3 7 rfl rfl)
theorem dX0_would_79 : decode cX0_would 79 = .ok (.iload_n 3, 1) := dk_29 (dk_at dksX0_would_3 10 rfl rfl)
theorem dX0_would_80 : decode cX0_would 80 = .ok (.invokespecial 237, 3) := dk_183 0 237 (dk_at dksX0_would_3 11 rfl rfl)
theorem dX0_would_83 : decode cX0_would 83 = .ok (.invokevirtual 240, 3) := dk_182 0 240 (dk_at dksX0_would_3 14 rfl rfl)
theorem dX0_would_86 : decode cX0_would 86 = .ok (.istore 5, 2) := dk_54 5 (dk_at dksX0_would_3 17 rfl rfl)
theorem dX0_would_88 : decode cX0_would 88 = .ok (.iload 4, 2) := dk_21 4 (dk_at dksX0_would_3 19 rfl rfl)
theorem dX0_would_90 : decode cX0_would 90 = .ok (.ifCond .ne 8, 3) := dk_154 0 8 (dk_at dksX0_would_3 21 rfl rfl)
theorem dX0_would_93 : decode cX0_would 93 = .ok (.iload 5, 2) := dk_21 5 (dk_at dksX0_would_4 0 rfl rfl)
theorem dX0_would_95 : decode cX0_would 95 = .ok (.goto 12, 3) := dk_167 0 12 (dk_at dksX0_would_4 2 rfl rfl)
theorem dX0_would_98 : decode cX0_would 98 = .ok (.aload_n 0, 1) := dk_42 (dk_at dksX0_would_4 5 rfl rfl)
theorem dX0_would_99 : decode cX0_would 99 = .ok (.getfield 65, 3) := dk_180 0 65 (dk_at dksX0_would_4 6 rfl rfl)
theorem dX0_would_102 : decode cX0_would 102 = .ok (.iload 5, 2) := dk_21 5 (dk_at dksX0_would_4 9 rfl rfl)
theorem dX0_would_104 : decode cX0_would 104 = .ok (.invokevirtual 174, 3) := dk_182 0 174 (dk_at dksX0_would_4 11 rfl rfl)
theorem dX0_would_107 : decode cX0_would 107 = .ok (.ireturn, 1) := dk_172 (dk_at dksX0_would_4 14 rfl rfl)
abbrev cX0_bestPoint : ByteArray := prog_1_method_39_code
def yX0_bestPoint : MethodName := ⟨RX0, "bestPoint", "(II)I"⟩
def dkwX0_bestPoint_3 : List UInt8 := [180, 1, 9, 172]
abbrev dktX0_bestPoint_3 : List UInt8 := dkwX0_bestPoint_3 ++ []
def dkwX0_bestPoint_2 : List UInt8 := [180, 0, 65, 180, 0, 136, 28, 182, 0, 167, 192, 0, 155, 182, 1, 2, 45, 182, 1, 6, 192, 0, 235]
abbrev dktX0_bestPoint_2 : List UInt8 := dkwX0_bestPoint_2 ++ dktX0_bestPoint_3
def dkwX0_bestPoint_1 : List UInt8 := [42, 182, 0, 254, 78, 42, 45, 42, 180, 0, 65, 180, 0, 136, 27, 182, 0, 167, 192, 0, 155, 42]
abbrev dktX0_bestPoint_1 : List UInt8 := dkwX0_bestPoint_1 ++ dktX0_bestPoint_2
def dkwX0_bestPoint_0 : List UInt8 := [42, 180, 0, 65, 27, 182, 0, 163, 153, 0, 14, 42, 180, 0, 65, 28, 182, 0, 163, 154, 0, 5, 2, 172]
abbrev dktX0_bestPoint_0 : List UInt8 := dkwX0_bestPoint_0 ++ dktX0_bestPoint_1
theorem dksX0_bestPoint_0 : cX0_bestPoint.data.toList.drop 0 = dktX0_bestPoint_0 := by decide +kernel
theorem dksX0_bestPoint_1 : cX0_bestPoint.data.toList.drop 24 = dktX0_bestPoint_1 := dk_seg dksX0_bestPoint_0 24 rfl rfl
theorem dksX0_bestPoint_2 : cX0_bestPoint.data.toList.drop 46 = dktX0_bestPoint_2 := dk_seg dksX0_bestPoint_1 22 rfl rfl
theorem dksX0_bestPoint_3 : cX0_bestPoint.data.toList.drop 69 = dktX0_bestPoint_3 := dk_seg dksX0_bestPoint_2 23 rfl rfl
theorem dX0_bestPoint_0 : decode cX0_bestPoint 0 = .ok (.aload_n 0, 1) := dk_42 (dk_at dksX0_bestPoint_0 0 rfl rfl)
theorem dX0_bestPoint_1 : decode cX0_bestPoint 1 = .ok (.getfield 65, 3) := dk_180 0 65 (dk_at dksX0_bestPoint_0 1 rfl rfl)
theorem dX0_bestPoint_4 : decode cX0_bestPoint 4 = .ok (.iload_n 1, 1) := dk_27 (dk_at dksX0_bestPoint_0 4 rfl rfl)
theorem dX0_bestPoint_5 : decode cX0_bestPoint 5 = .ok (.invokevirtual 163, 3) := dk_182 0 163 (dk_at dksX0_bestPoint_0 5 rfl rfl)
theorem dX0_bestPoint_8 : decode cX0_bestPoint 8 = .ok (.ifCond .eq 14, 3) := dk_153 0 14 (dk_at dksX0_bestPoint_0 8 rfl rfl)
theorem dX0_bestPoint_11 : decode cX0_bestPoint 11 = .ok (.aload_n 0, 1) := dk_42 (dk_at dksX0_bestPoint_0 11 rfl rfl)
theorem dX0_bestPoint_12 : decode cX0_bestPoint 12 = .ok (.getfield 65, 3) := dk_180 0 65 (dk_at dksX0_bestPoint_0 12 rfl rfl)
theorem dX0_bestPoint_15 : decode cX0_bestPoint 15 = .ok (.iload_n 2, 1) := dk_28 (dk_at dksX0_bestPoint_0 15 rfl rfl)
theorem dX0_bestPoint_16 : decode cX0_bestPoint 16 = .ok (.invokevirtual 163, 3) := dk_182 0 163 (dk_at dksX0_bestPoint_0 16 rfl rfl)
theorem dX0_bestPoint_19 : decode cX0_bestPoint 19 = .ok (.ifCond .ne 5, 3) := dk_154 0 5 (dk_at dksX0_bestPoint_0 19 rfl rfl)
theorem dX0_bestPoint_22 : decode cX0_bestPoint 22 = .ok (.iconst (-1), 1) := dk_2 (dk_at dksX0_bestPoint_0 22 rfl rfl)
theorem dX0_bestPoint_23 : decode cX0_bestPoint 23 = .ok (.ireturn, 1) := dk_172 (dk_at dksX0_bestPoint_0 23 rfl rfl)
theorem dX0_bestPoint_24 : decode cX0_bestPoint 24 = .ok (.aload_n 0, 1) := dk_42 (dk_at dksX0_bestPoint_1 0 rfl rfl)
theorem dX0_bestPoint_25 : decode cX0_bestPoint 25 = .ok (.invokevirtual 254, 3) := dk_182 0 254 (dk_at dksX0_bestPoint_1 1 rfl rfl)
theorem dX0_bestPoint_28 : decode cX0_bestPoint 28 = .ok (.astore_n 3, 1) := dk_78 (dk_at dksX0_bestPoint_1 4 rfl rfl)
theorem dX0_bestPoint_29 : decode cX0_bestPoint 29 = .ok (.aload_n 0, 1) := dk_42 (dk_at dksX0_bestPoint_1 5 rfl rfl)
theorem dX0_bestPoint_30 : decode cX0_bestPoint 30 = .ok (.aload_n 3, 1) := dk_45 (dk_at dksX0_bestPoint_1 6 rfl rfl)
theorem dX0_bestPoint_31 : decode cX0_bestPoint 31 = .ok (.aload_n 0, 1) := dk_42 (dk_at dksX0_bestPoint_1 7 rfl rfl)
theorem dX0_bestPoint_32 : decode cX0_bestPoint 32 = .ok (.getfield 65, 3) := dk_180 0 65 (dk_at dksX0_bestPoint_1 8 rfl rfl)
theorem dX0_bestPoint_35 : decode cX0_bestPoint 35 = .ok (.getfield 136, 3) := dk_180 0 136 (dk_at dksX0_bestPoint_1 11 rfl rfl)
theorem dX0_bestPoint_38 : decode cX0_bestPoint 38 = .ok (.iload_n 1, 1) := dk_27 (dk_at dksX0_bestPoint_1 14 rfl rfl)
theorem dX0_bestPoint_39 : decode cX0_bestPoint 39 = .ok (.invokevirtual 167, 3) := dk_182 0 167 (dk_at dksX0_bestPoint_1 15 rfl rfl)
theorem dX0_bestPoint_42 : decode cX0_bestPoint 42 = .ok (.checkcast 155, 3) := dk_192 0 155 (dk_at dksX0_bestPoint_1 18 rfl rfl)
theorem dX0_bestPoint_45 : decode cX0_bestPoint 45 = .ok (.aload_n 0, 1) := dk_42 (dk_at dksX0_bestPoint_1 21 rfl rfl)
theorem dX0_bestPoint_46 : decode cX0_bestPoint 46 = .ok (.getfield 65, 3) := dk_180 0 65 (dk_at dksX0_bestPoint_2 0 rfl rfl)
theorem dX0_bestPoint_49 : decode cX0_bestPoint 49 = .ok (.getfield 136, 3) := dk_180 0 136 (dk_at dksX0_bestPoint_2 3 rfl rfl)
theorem dX0_bestPoint_52 : decode cX0_bestPoint 52 = .ok (.iload_n 2, 1) := dk_28 (dk_at dksX0_bestPoint_2 6 rfl rfl)
theorem dX0_bestPoint_53 : decode cX0_bestPoint 53 = .ok (.invokevirtual 167, 3) := dk_182 0 167 (dk_at dksX0_bestPoint_2 7 rfl rfl)
theorem dX0_bestPoint_56 : decode cX0_bestPoint 56 = .ok (.checkcast 155, 3) := dk_192 0 155 (dk_at dksX0_bestPoint_2 10 rfl rfl)
theorem dX0_bestPoint_59 : decode cX0_bestPoint 59 = .ok (.invokevirtual 258, 3) := dk_182 1 2 (dk_at dksX0_bestPoint_2 13 rfl rfl)
theorem dX0_bestPoint_62 : decode cX0_bestPoint 62 = .ok (.aload_n 3, 1) := dk_45 (dk_at dksX0_bestPoint_2 16 rfl rfl)
theorem dX0_bestPoint_63 : decode cX0_bestPoint 63 = .ok (.invokevirtual 262, 3) := dk_182 1 6 (dk_at dksX0_bestPoint_2 17 rfl rfl)
theorem dX0_bestPoint_66 : decode cX0_bestPoint 66 = .ok (.checkcast 235, 3) := dk_192 0 235 (dk_at dksX0_bestPoint_2 20 rfl rfl)
theorem dX0_bestPoint_69 : decode cX0_bestPoint 69 = .ok (.getfield 265, 3) := dk_180 1 9 (dk_at dksX0_bestPoint_3 0 rfl rfl)
theorem dX0_bestPoint_72 : decode cX0_bestPoint 72 = .ok (.ireturn, 1) := dk_172 (dk_at dksX0_bestPoint_3 3 rfl rfl)
abbrev cX0_finder : ByteArray := prog_1_method_37_code
def yX0_finder : MethodName := ⟨RX0, "finder", "()LTulipLines$Finder;"⟩
def dkwX0_finder_0 : List UInt8 := [42, 180, 0, 65, 76, 187, 0, 242, 89, 43, 186, 0, 244, 0, 0, 183, 0, 248, 176]
abbrev dktX0_finder_0 : List UInt8 := dkwX0_finder_0 ++ []
theorem dksX0_finder_0 : cX0_finder.data.toList.drop 0 = dktX0_finder_0 := by decide +kernel
theorem dX0_finder_0 : decode cX0_finder 0 = .ok (.aload_n 0, 1) := dk_42 (dk_at dksX0_finder_0 0 rfl rfl)
theorem dX0_finder_1 : decode cX0_finder 1 = .ok (.getfield 65, 3) := dk_180 0 65 (dk_at dksX0_finder_0 1 rfl rfl)
theorem dX0_finder_4 : decode cX0_finder 4 = .ok (.astore_n 1, 1) := dk_76 (dk_at dksX0_finder_0 4 rfl rfl)
theorem dX0_finder_5 : decode cX0_finder 5 = .ok (.new 242, 3) := dk_187 0 242 (dk_at dksX0_finder_0 5 rfl rfl)
theorem dX0_finder_8 : decode cX0_finder 8 = .ok (.dup, 1) := dk_89 (dk_at dksX0_finder_0 8 rfl rfl)
theorem dX0_finder_9 : decode cX0_finder 9 = .ok (.aload_n 1, 1) := dk_43 (dk_at dksX0_finder_0 9 rfl rfl)
theorem dX0_finder_10 : decode cX0_finder 10 = .ok (.invokedynamic 244, 5) := by decide +kernel
theorem dX0_finder_15 : decode cX0_finder 15 = .ok (.invokespecial 248, 3) := dk_183 0 248 (dk_at dksX0_finder_0 15 rfl rfl)
theorem dX0_finder_18 : decode cX0_finder 18 = .ok (.areturn, 1) := dk_176 (dk_at dksX0_finder_0 18 rfl rfl)
abbrev cX0_lambda_finder_9 : ByteArray := prog_1_method_57_code
def yX0_lambda_finder_9 : MethodName := ⟨RX0, "lambda$finder$9", "(LTulipLines$Bed;LTulipLines$Crossing;)I"⟩
def dkwX0_lambda_finder_9_0 : List UInt8 := [42, 43, 182, 0, 240, 182, 0, 174, 172]
abbrev dktX0_lambda_finder_9_0 : List UInt8 := dkwX0_lambda_finder_9_0 ++ []
theorem dksX0_lambda_finder_9_0 : cX0_lambda_finder_9.data.toList.drop 0 = dktX0_lambda_finder_9_0 := by decide +kernel
theorem dX0_lambda_finder_9_0 : decode cX0_lambda_finder_9 0 = .ok (.aload_n 0, 1) := dk_42 (dk_at dksX0_lambda_finder_9_0 0 rfl rfl)
theorem dX0_lambda_finder_9_1 : decode cX0_lambda_finder_9 1 = .ok (.aload_n 1, 1) := dk_43 (dk_at dksX0_lambda_finder_9_0 1 rfl rfl)
theorem dX0_lambda_finder_9_2 : decode cX0_lambda_finder_9 2 = .ok (.invokevirtual 240, 3) := dk_182 0 240 (dk_at dksX0_lambda_finder_9_0 2 rfl rfl)
theorem dX0_lambda_finder_9_5 : decode cX0_lambda_finder_9 5 = .ok (.invokevirtual 174, 3) := dk_182 0 174 (dk_at dksX0_lambda_finder_9_0 5 rfl rfl)
theorem dX0_lambda_finder_9_8 : decode cX0_lambda_finder_9 8 = .ok (.ireturn, 1) := dk_172 (dk_at dksX0_lambda_finder_9_0 8 rfl rfl)
abbrev cX0_seesAll : ByteArray := prog_1_method_38_code
def yX0_seesAll : MethodName := ⟨RX0, "seesAll", "(LTulipLines$Finder;LTulipLines$Bulb;LTulipLines$Bulb;)V"⟩
def dkwX0_seesAll_1 : List UInt8 := [182, 0, 251, 132, 4, 1, 167, 255, 231, 177]
abbrev dktX0_seesAll_1 : List UInt8 := dkwX0_seesAll_1 ++ []
def dkwX0_seesAll_0 : List UInt8 := [3, 54, 4, 21, 4, 16, 8, 163, 0, 24, 43, 187, 0, 235, 89, 44, 45, 21, 4, 183, 0, 237]
abbrev dktX0_seesAll_0 : List UInt8 := dkwX0_seesAll_0 ++ dktX0_seesAll_1
theorem dksX0_seesAll_0 : cX0_seesAll.data.toList.drop 0 = dktX0_seesAll_0 := by decide +kernel
theorem dksX0_seesAll_1 : cX0_seesAll.data.toList.drop 22 = dktX0_seesAll_1 := dk_seg dksX0_seesAll_0 22 rfl rfl
theorem dX0_seesAll_0 : decode cX0_seesAll 0 = .ok (.iconst 0, 1) := dk_3 (dk_at dksX0_seesAll_0 0 rfl rfl)
theorem dX0_seesAll_1 : decode cX0_seesAll 1 = .ok (.istore 4, 2) := dk_54 4 (dk_at dksX0_seesAll_0 1 rfl rfl)
theorem dX0_seesAll_3 : decode cX0_seesAll 3 = .ok (.iload 4, 2) := dk_21 4 (dk_at dksX0_seesAll_0 3 rfl rfl)
theorem dX0_seesAll_5 : decode cX0_seesAll 5 = .ok (.bipush 8, 2) := dk_16 8 (dk_at dksX0_seesAll_0 5 rfl rfl)
theorem dX0_seesAll_7 : decode cX0_seesAll 7 = .ok (.if_icmp .gt 24, 3) := dk_163 0 24 (dk_at dksX0_seesAll_0 7 rfl rfl)
theorem dX0_seesAll_10 : decode cX0_seesAll 10 = .ok (.aload_n 1, 1) := dk_43 (dk_at dksX0_seesAll_0 10 rfl rfl)
theorem dX0_seesAll_11 : decode cX0_seesAll 11 = .ok (.new 235, 3) := dk_187 0 235 (dk_at dksX0_seesAll_0 11 rfl rfl)
theorem dX0_seesAll_14 : decode cX0_seesAll 14 = .ok (.dup, 1) := dk_89 (dk_at dksX0_seesAll_0 14 rfl rfl)
theorem dX0_seesAll_15 : decode cX0_seesAll 15 = .ok (.aload_n 2, 1) := dk_44 (dk_at dksX0_seesAll_0 15 rfl rfl)
theorem dX0_seesAll_16 : decode cX0_seesAll 16 = .ok (.aload_n 3, 1) := dk_45 (dk_at dksX0_seesAll_0 16 rfl rfl)
theorem dX0_seesAll_17 : decode cX0_seesAll 17 = .ok (.iload 4, 2) := dk_21 4 (dk_at dksX0_seesAll_0 17 rfl rfl)
theorem dX0_seesAll_19 : decode cX0_seesAll 19 = .ok (.invokespecial 237, 3) := dk_183 0 237 (dk_at dksX0_seesAll_0 19 rfl rfl)
theorem dX0_seesAll_22 : decode cX0_seesAll 22 = .ok (.invokevirtual 251, 3) := dk_182 0 251 (dk_at dksX0_seesAll_1 0 rfl rfl)
theorem dX0_seesAll_25 : decode cX0_seesAll 25 = .ok (.iinc 4 1, 3) := dk_132 4 1 (dk_at dksX0_seesAll_1 3 rfl rfl)
theorem dX0_seesAll_28 : decode cX0_seesAll 28 = .ok (.goto (-25), 3) := dk_167 255 231 (dk_at dksX0_seesAll_1 6 rfl rfl)
theorem dX0_seesAll_31 : decode cX0_seesAll 31 = .ok (.return_, 1) := dk_177 (dk_at dksX0_seesAll_1 9 rfl rfl)
abbrev cX0_bestPair : ByteArray := prog_1_method_40_code
def yX0_bestPair : MethodName := ⟨RX0, "bestPair", "(I)I"⟩
def dkwX0_bestPair_6 : List UInt8 := [180, 0, 232, 167, 0, 10, 45, 180, 1, 15, 180, 0, 232, 172]
abbrev dktX0_bestPair_6 : List UInt8 := dkwX0_bestPair_6 ++ []
def dkwX0_bestPair_5 : List UInt8 := [192, 0, 235, 78, 45, 199, 0, 8, 16, 252, 167, 0, 25, 27, 4, 160, 0, 13, 45, 180, 1, 12]
abbrev dktX0_bestPair_5 : List UInt8 := dkwX0_bestPair_5 ++ dktX0_bestPair_6
def dkwX0_bestPair_4 : List UInt8 := [154, 0, 12, 42, 44, 25, 4, 25, 6, 182, 1, 2, 167, 255, 209, 167, 255, 174, 44, 182, 1, 6]
abbrev dktX0_bestPair_4 : List UInt8 := dkwX0_bestPair_4 ++ dktX0_bestPair_5
def dkwX0_bestPair_3 : List UInt8 := [185, 0, 152, 1, 0, 192, 0, 155, 58, 6, 25, 4, 180, 0, 178, 154, 0, 20, 25, 6, 180, 0, 178]
abbrev dktX0_bestPair_3 : List UInt8 := dkwX0_bestPair_3 ++ dktX0_bestPair_4
def dkwX0_bestPair_2 : List UInt8 := [42, 180, 0, 65, 180, 0, 136, 182, 0, 140, 58, 5, 25, 5, 185, 0, 146, 1, 0, 153, 0, 43, 25, 5]
abbrev dktX0_bestPair_2 : List UInt8 := dkwX0_bestPair_2 ++ dktX0_bestPair_3
def dkwX0_bestPair_1 : List UInt8 := [182, 0, 140, 78, 45, 185, 0, 146, 1, 0, 153, 0, 79, 45, 185, 0, 152, 1, 0, 192, 0, 155, 58, 4]
abbrev dktX0_bestPair_1 : List UInt8 := dkwX0_bestPair_1 ++ dktX0_bestPair_2
def dkwX0_bestPair_0 : List UInt8 := [27, 3, 4, 184, 0, 215, 154, 0, 6, 16, 254, 172, 42, 182, 0, 254, 77, 42, 180, 0, 65, 180, 0, 136]
abbrev dktX0_bestPair_0 : List UInt8 := dkwX0_bestPair_0 ++ dktX0_bestPair_1
theorem dksX0_bestPair_0 : cX0_bestPair.data.toList.drop 0 = dktX0_bestPair_0 := by decide +kernel
theorem dksX0_bestPair_1 : cX0_bestPair.data.toList.drop 24 = dktX0_bestPair_1 := dk_seg dksX0_bestPair_0 24 rfl rfl
theorem dksX0_bestPair_2 : cX0_bestPair.data.toList.drop 48 = dktX0_bestPair_2 := dk_seg dksX0_bestPair_1 24 rfl rfl
theorem dksX0_bestPair_3 : cX0_bestPair.data.toList.drop 72 = dktX0_bestPair_3 := dk_seg dksX0_bestPair_2 24 rfl rfl
theorem dksX0_bestPair_4 : cX0_bestPair.data.toList.drop 95 = dktX0_bestPair_4 := dk_seg dksX0_bestPair_3 23 rfl rfl
theorem dksX0_bestPair_5 : cX0_bestPair.data.toList.drop 117 = dktX0_bestPair_5 := dk_seg dksX0_bestPair_4 22 rfl rfl
theorem dksX0_bestPair_6 : cX0_bestPair.data.toList.drop 139 = dktX0_bestPair_6 := dk_seg dksX0_bestPair_5 22 rfl rfl
theorem dX0_bestPair_0 : decode cX0_bestPair 0 = .ok (.iload_n 1, 1) := dk_27 (dk_at dksX0_bestPair_0 0 rfl rfl)
theorem dX0_bestPair_1 : decode cX0_bestPair 1 = .ok (.iconst 0, 1) := dk_3 (dk_at dksX0_bestPair_0 1 rfl rfl)
theorem dX0_bestPair_2 : decode cX0_bestPair 2 = .ok (.iconst 1, 1) := dk_4 (dk_at dksX0_bestPair_0 2 rfl rfl)
theorem dX0_bestPair_3 : decode cX0_bestPair 3 = .ok (.invokestatic 215, 3) := dk_184 0 215 (dk_at dksX0_bestPair_0 3 rfl rfl)
theorem dX0_bestPair_6 : decode cX0_bestPair 6 = .ok (.ifCond .ne 6, 3) := dk_154 0 6 (dk_at dksX0_bestPair_0 6 rfl rfl)
theorem dX0_bestPair_9 : decode cX0_bestPair 9 = .ok (.bipush (-2), 2) := dk_16 254 (dk_at dksX0_bestPair_0 9 rfl rfl)
theorem dX0_bestPair_11 : decode cX0_bestPair 11 = .ok (.ireturn, 1) := dk_172 (dk_at dksX0_bestPair_0 11 rfl rfl)
theorem dX0_bestPair_12 : decode cX0_bestPair 12 = .ok (.aload_n 0, 1) := dk_42 (dk_at dksX0_bestPair_0 12 rfl rfl)
theorem dX0_bestPair_13 : decode cX0_bestPair 13 = .ok (.invokevirtual 254, 3) := dk_182 0 254 (dk_at dksX0_bestPair_0 13 rfl rfl)
theorem dX0_bestPair_16 : decode cX0_bestPair 16 = .ok (.astore_n 2, 1) := dk_77 (dk_at dksX0_bestPair_0 16 rfl rfl)
theorem dX0_bestPair_17 : decode cX0_bestPair 17 = .ok (.aload_n 0, 1) := dk_42 (dk_at dksX0_bestPair_0 17 rfl rfl)
theorem dX0_bestPair_18 : decode cX0_bestPair 18 = .ok (.getfield 65, 3) := dk_180 0 65 (dk_at dksX0_bestPair_0 18 rfl rfl)
theorem dX0_bestPair_21 : decode cX0_bestPair 21 = .ok (.getfield 136, 3) := dk_180 0 136 (dk_at dksX0_bestPair_0 21 rfl rfl)
theorem dX0_bestPair_24 : decode cX0_bestPair 24 = .ok (.invokevirtual 140, 3) := dk_182 0 140 (dk_at dksX0_bestPair_1 0 rfl rfl)
theorem dX0_bestPair_27 : decode cX0_bestPair 27 = .ok (.astore_n 3, 1) := dk_78 (dk_at dksX0_bestPair_1 3 rfl rfl)
theorem dX0_bestPair_28 : decode cX0_bestPair 28 = .ok (.aload_n 3, 1) := dk_45 (dk_at dksX0_bestPair_1 4 rfl rfl)
theorem dX0_bestPair_29 : decode cX0_bestPair 29 = .ok (.invokeinterface 146 1, 5) := by decide +kernel
theorem dX0_bestPair_34 : decode cX0_bestPair 34 = .ok (.ifCond .eq 79, 3) := dk_153 0 79 (dk_at dksX0_bestPair_1 10 rfl rfl)
theorem dX0_bestPair_37 : decode cX0_bestPair 37 = .ok (.aload_n 3, 1) := dk_45 (dk_at dksX0_bestPair_1 13 rfl rfl)
theorem dX0_bestPair_38 : decode cX0_bestPair 38 = .ok (.invokeinterface 152 1, 5) := by decide +kernel
theorem dX0_bestPair_43 : decode cX0_bestPair 43 = .ok (.checkcast 155, 3) := dk_192 0 155 (dk_at dksX0_bestPair_1 19 rfl rfl)
theorem dX0_bestPair_46 : decode cX0_bestPair 46 = .ok (.astore 4, 2) := dk_58 4 (dk_at dksX0_bestPair_1 22 rfl rfl)
theorem dX0_bestPair_48 : decode cX0_bestPair 48 = .ok (.aload_n 0, 1) := dk_42 (dk_at dksX0_bestPair_2 0 rfl rfl)
theorem dX0_bestPair_49 : decode cX0_bestPair 49 = .ok (.getfield 65, 3) := dk_180 0 65 (dk_at dksX0_bestPair_2 1 rfl rfl)
theorem dX0_bestPair_52 : decode cX0_bestPair 52 = .ok (.getfield 136, 3) := dk_180 0 136 (dk_at dksX0_bestPair_2 4 rfl rfl)
theorem dX0_bestPair_55 : decode cX0_bestPair 55 = .ok (.invokevirtual 140, 3) := dk_182 0 140 (dk_at dksX0_bestPair_2 7 rfl rfl)
theorem dX0_bestPair_58 : decode cX0_bestPair 58 = .ok (.astore 5, 2) := dk_58 5 (dk_at dksX0_bestPair_2 10 rfl rfl)
theorem dX0_bestPair_60 : decode cX0_bestPair 60 = .ok (.aload 5, 2) := dk_25 5 (dk_at dksX0_bestPair_2 12 rfl rfl)
theorem dX0_bestPair_62 : decode cX0_bestPair 62 = .ok (.invokeinterface 146 1, 5) := by decide +kernel
theorem dX0_bestPair_67 : decode cX0_bestPair 67 = .ok (.ifCond .eq 43, 3) := dk_153 0 43 (dk_at dksX0_bestPair_2 19 rfl rfl)
theorem dX0_bestPair_70 : decode cX0_bestPair 70 = .ok (.aload 5, 2) := dk_25 5 (dk_at dksX0_bestPair_2 22 rfl rfl)
theorem dX0_bestPair_72 : decode cX0_bestPair 72 = .ok (.invokeinterface 152 1, 5) := by decide +kernel
theorem dX0_bestPair_77 : decode cX0_bestPair 77 = .ok (.checkcast 155, 3) := dk_192 0 155 (dk_at dksX0_bestPair_3 5 rfl rfl)
theorem dX0_bestPair_80 : decode cX0_bestPair 80 = .ok (.astore 6, 2) := dk_58 6 (dk_at dksX0_bestPair_3 8 rfl rfl)
theorem dX0_bestPair_82 : decode cX0_bestPair 82 = .ok (.aload 4, 2) := dk_25 4 (dk_at dksX0_bestPair_3 10 rfl rfl)
theorem dX0_bestPair_84 : decode cX0_bestPair 84 = .ok (.getfield 178, 3) := dk_180 0 178 (dk_at dksX0_bestPair_3 12 rfl rfl)
theorem dX0_bestPair_87 : decode cX0_bestPair 87 = .ok (.ifCond .ne 20, 3) := dk_154 0 20 (dk_at dksX0_bestPair_3 15 rfl rfl)
theorem dX0_bestPair_90 : decode cX0_bestPair 90 = .ok (.aload 6, 2) := dk_25 6 (dk_at dksX0_bestPair_3 18 rfl rfl)
theorem dX0_bestPair_92 : decode cX0_bestPair 92 = .ok (.getfield 178, 3) := dk_180 0 178 (dk_at dksX0_bestPair_3 20 rfl rfl)
theorem dX0_bestPair_95 : decode cX0_bestPair 95 = .ok (.ifCond .ne 12, 3) := dk_154 0 12 (dk_at dksX0_bestPair_4 0 rfl rfl)
theorem dX0_bestPair_98 : decode cX0_bestPair 98 = .ok (.aload_n 0, 1) := dk_42 (dk_at dksX0_bestPair_4 3 rfl rfl)
theorem dX0_bestPair_99 : decode cX0_bestPair 99 = .ok (.aload_n 2, 1) := dk_44 (dk_at dksX0_bestPair_4 4 rfl rfl)
theorem dX0_bestPair_100 : decode cX0_bestPair 100 = .ok (.aload 4, 2) := dk_25 4 (dk_at dksX0_bestPair_4 5 rfl rfl)
theorem dX0_bestPair_102 : decode cX0_bestPair 102 = .ok (.aload 6, 2) := dk_25 6 (dk_at dksX0_bestPair_4 7 rfl rfl)
theorem dX0_bestPair_104 : decode cX0_bestPair 104 = .ok (.invokevirtual 258, 3) := dk_182 1 2 (dk_at dksX0_bestPair_4 9 rfl rfl)
theorem dX0_bestPair_107 : decode cX0_bestPair 107 = .ok (.goto (-47), 3) := dk_167 255 209 (dk_at dksX0_bestPair_4 12 rfl rfl)
theorem dX0_bestPair_110 : decode cX0_bestPair 110 = .ok (.goto (-82), 3) := dk_167 255 174 (dk_at dksX0_bestPair_4 15 rfl rfl)
theorem dX0_bestPair_113 : decode cX0_bestPair 113 = .ok (.aload_n 2, 1) := dk_44 (dk_at dksX0_bestPair_4 18 rfl rfl)
theorem dX0_bestPair_114 : decode cX0_bestPair 114 = .ok (.invokevirtual 262, 3) := dk_182 1 6 (dk_at dksX0_bestPair_4 19 rfl rfl)
theorem dX0_bestPair_117 : decode cX0_bestPair 117 = .ok (.checkcast 235, 3) := dk_192 0 235 (dk_at dksX0_bestPair_5 0 rfl rfl)
theorem dX0_bestPair_120 : decode cX0_bestPair 120 = .ok (.astore_n 3, 1) := dk_78 (dk_at dksX0_bestPair_5 3 rfl rfl)
theorem dX0_bestPair_121 : decode cX0_bestPair 121 = .ok (.aload_n 3, 1) := dk_45 (dk_at dksX0_bestPair_5 4 rfl rfl)
theorem dX0_bestPair_122 : decode cX0_bestPair 122 = .ok (.ifnonnull 8, 3) := dk_199 0 8 (dk_at dksX0_bestPair_5 5 rfl rfl)
theorem dX0_bestPair_125 : decode cX0_bestPair 125 = .ok (.bipush (-4), 2) := dk_16 252 (dk_at dksX0_bestPair_5 8 rfl rfl)
theorem dX0_bestPair_127 : decode cX0_bestPair 127 = .ok (.goto 25, 3) := dk_167 0 25 (dk_at dksX0_bestPair_5 10 rfl rfl)
theorem dX0_bestPair_130 : decode cX0_bestPair 130 = .ok (.iload_n 1, 1) := dk_27 (dk_at dksX0_bestPair_5 13 rfl rfl)
theorem dX0_bestPair_131 : decode cX0_bestPair 131 = .ok (.iconst 1, 1) := dk_4 (dk_at dksX0_bestPair_5 14 rfl rfl)
theorem dX0_bestPair_132 : decode cX0_bestPair 132 = .ok (.if_icmp .ne 13, 3) := dk_160 0 13 (dk_at dksX0_bestPair_5 15 rfl rfl)
theorem dX0_bestPair_135 : decode cX0_bestPair 135 = .ok (.aload_n 3, 1) := dk_45 (dk_at dksX0_bestPair_5 18 rfl rfl)
theorem dX0_bestPair_136 : decode cX0_bestPair 136 = .ok (.getfield 268, 3) := dk_180 1 12 (dk_at dksX0_bestPair_5 19 rfl rfl)
theorem dX0_bestPair_139 : decode cX0_bestPair 139 = .ok (.getfield 232, 3) := dk_180 0 232 (dk_at dksX0_bestPair_6 0 rfl rfl)
theorem dX0_bestPair_142 : decode cX0_bestPair 142 = .ok (.goto 10, 3) := dk_167 0 10 (dk_at dksX0_bestPair_6 3 rfl rfl)
theorem dX0_bestPair_145 : decode cX0_bestPair 145 = .ok (.aload_n 3, 1) := dk_45 (dk_at dksX0_bestPair_6 6 rfl rfl)
theorem dX0_bestPair_146 : decode cX0_bestPair 146 = .ok (.getfield 271, 3) := dk_180 1 15 (dk_at dksX0_bestPair_6 7 rfl rfl)
theorem dX0_bestPair_149 : decode cX0_bestPair 149 = .ok (.getfield 232, 3) := dk_180 0 232 (dk_at dksX0_bestPair_6 10 rfl rfl)
theorem dX0_bestPair_152 : decode cX0_bestPair 152 = .ok (.ireturn, 1) := dk_172 (dk_at dksX0_bestPair_6 13 rfl rfl)
abbrev cX0_worthIn : ByteArray := prog_1_method_41_code
def yX0_worthIn : MethodName := ⟨RX0, "worthIn", "(I)I"⟩
def dkwX0_worthIn_2 : List UInt8 := [167, 0, 19, 44, 25, 4, 3, 182, 0, 167, 192, 0, 155, 180, 0, 171, 182, 0, 174, 172]
abbrev dktX0_worthIn_2 : List UInt8 := dkwX0_worthIn_2 ++ []
def dkwX0_worthIn_1 : List UInt8 := [77, 44, 27, 182, 1, 17, 62, 44, 182, 0, 227, 58, 4, 25, 4, 182, 1, 20, 153, 0, 8, 16, 252]
abbrev dktX0_worthIn_1 : List UInt8 := dkwX0_worthIn_1 ++ dktX0_worthIn_2
def dkwX0_worthIn_0 : List UInt8 := [27, 3, 16, 20, 184, 0, 215, 154, 0, 6, 16, 254, 172, 187, 0, 28, 89, 42, 180, 0, 65, 183, 0, 69]
abbrev dktX0_worthIn_0 : List UInt8 := dkwX0_worthIn_0 ++ dktX0_worthIn_1
theorem dksX0_worthIn_0 : cX0_worthIn.data.toList.drop 0 = dktX0_worthIn_0 := by decide +kernel
theorem dksX0_worthIn_1 : cX0_worthIn.data.toList.drop 24 = dktX0_worthIn_1 := dk_seg dksX0_worthIn_0 24 rfl rfl
theorem dksX0_worthIn_2 : cX0_worthIn.data.toList.drop 47 = dktX0_worthIn_2 := dk_seg dksX0_worthIn_1 23 rfl rfl
theorem dX0_worthIn_0 : decode cX0_worthIn 0 = .ok (.iload_n 1, 1) := dk_27 (dk_at dksX0_worthIn_0 0 rfl rfl)
theorem dX0_worthIn_1 : decode cX0_worthIn 1 = .ok (.iconst 0, 1) := dk_3 (dk_at dksX0_worthIn_0 1 rfl rfl)
theorem dX0_worthIn_2 : decode cX0_worthIn 2 = .ok (.bipush 20, 2) := dk_16 20 (dk_at dksX0_worthIn_0 2 rfl rfl)
theorem dX0_worthIn_4 : decode cX0_worthIn 4 = .ok (.invokestatic 215, 3) := dk_184 0 215 (dk_at dksX0_worthIn_0 4 rfl rfl)
theorem dX0_worthIn_7 : decode cX0_worthIn 7 = .ok (.ifCond .ne 6, 3) := dk_154 0 6 (dk_at dksX0_worthIn_0 7 rfl rfl)
theorem dX0_worthIn_10 : decode cX0_worthIn 10 = .ok (.bipush (-2), 2) := dk_16 254 (dk_at dksX0_worthIn_0 10 rfl rfl)
theorem dX0_worthIn_12 : decode cX0_worthIn 12 = .ok (.ireturn, 1) := dk_172 (dk_at dksX0_worthIn_0 12 rfl rfl)
theorem dX0_worthIn_13 : decode cX0_worthIn 13 = .ok (.new 28, 3) := dk_187 0 28 (dk_at dksX0_worthIn_0 13 rfl rfl)
theorem dX0_worthIn_16 : decode cX0_worthIn 16 = .ok (.dup, 1) := dk_89 (dk_at dksX0_worthIn_0 16 rfl rfl)
theorem dX0_worthIn_17 : decode cX0_worthIn 17 = .ok (.aload_n 0, 1) := dk_42 (dk_at dksX0_worthIn_0 17 rfl rfl)
theorem dX0_worthIn_18 : decode cX0_worthIn 18 = .ok (.getfield 65, 3) := dk_180 0 65 (dk_at dksX0_worthIn_0 18 rfl rfl)
theorem dX0_worthIn_21 : decode cX0_worthIn 21 = .ok (.invokespecial 69, 3) := dk_183 0 69 (dk_at dksX0_worthIn_0 21 rfl rfl)
theorem dX0_worthIn_24 : decode cX0_worthIn 24 = .ok (.astore_n 2, 1) := dk_77 (dk_at dksX0_worthIn_1 0 rfl rfl)
theorem dX0_worthIn_25 : decode cX0_worthIn 25 = .ok (.aload_n 2, 1) := dk_44 (dk_at dksX0_worthIn_1 1 rfl rfl)
theorem dX0_worthIn_26 : decode cX0_worthIn 26 = .ok (.iload_n 1, 1) := dk_27 (dk_at dksX0_worthIn_1 2 rfl rfl)
theorem dX0_worthIn_27 : decode cX0_worthIn 27 = .ok (.invokevirtual 273, 3) := dk_182 1 17 (dk_at dksX0_worthIn_1 3 rfl rfl)
theorem dX0_worthIn_30 : decode cX0_worthIn 30 = .ok (.istore_n 3, 1) := dk_62 (dk_at dksX0_worthIn_1 6 rfl rfl)
theorem dX0_worthIn_31 : decode cX0_worthIn 31 = .ok (.aload_n 2, 1) := dk_44 (dk_at dksX0_worthIn_1 7 rfl rfl)
theorem dX0_worthIn_32 : decode cX0_worthIn 32 = .ok (.invokevirtual 227, 3) := dk_182 0 227 (dk_at dksX0_worthIn_1 8 rfl rfl)
theorem dX0_worthIn_35 : decode cX0_worthIn 35 = .ok (.astore 4, 2) := dk_58 4 (dk_at dksX0_worthIn_1 11 rfl rfl)
theorem dX0_worthIn_37 : decode cX0_worthIn 37 = .ok (.aload 4, 2) := dk_25 4 (dk_at dksX0_worthIn_1 13 rfl rfl)
theorem dX0_worthIn_39 : decode cX0_worthIn 39 = .ok (.invokevirtual 276, 3) := dk_182 1 20 (dk_at dksX0_worthIn_1 15 rfl rfl)
theorem dX0_worthIn_42 : decode cX0_worthIn 42 = .ok (.ifCond .eq 8, 3) := dk_153 0 8 (dk_at dksX0_worthIn_1 18 rfl rfl)
theorem dX0_worthIn_45 : decode cX0_worthIn 45 = .ok (.bipush (-4), 2) := dk_16 252 (dk_at dksX0_worthIn_1 21 rfl rfl)
theorem dX0_worthIn_47 : decode cX0_worthIn 47 = .ok (.goto 19, 3) := dk_167 0 19 (dk_at dksX0_worthIn_2 0 rfl rfl)
theorem dX0_worthIn_50 : decode cX0_worthIn 50 = .ok (.aload_n 2, 1) := dk_44 (dk_at dksX0_worthIn_2 3 rfl rfl)
theorem dX0_worthIn_51 : decode cX0_worthIn 51 = .ok (.aload 4, 2) := dk_25 4 (dk_at dksX0_worthIn_2 4 rfl rfl)
theorem dX0_worthIn_53 : decode cX0_worthIn 53 = .ok (.iconst 0, 1) := dk_3 (dk_at dksX0_worthIn_2 6 rfl rfl)
theorem dX0_worthIn_54 : decode cX0_worthIn 54 = .ok (.invokevirtual 167, 3) := dk_182 0 167 (dk_at dksX0_worthIn_2 7 rfl rfl)
theorem dX0_worthIn_57 : decode cX0_worthIn 57 = .ok (.checkcast 155, 3) := dk_192 0 155 (dk_at dksX0_worthIn_2 10 rfl rfl)
theorem dX0_worthIn_60 : decode cX0_worthIn 60 = .ok (.getfield 171, 3) := dk_180 0 171 (dk_at dksX0_worthIn_2 13 rfl rfl)
theorem dX0_worthIn_63 : decode cX0_worthIn 63 = .ok (.invokevirtual 174, 3) := dk_182 0 174 (dk_at dksX0_worthIn_2 16 rfl rfl)
theorem dX0_worthIn_66 : decode cX0_worthIn 66 = .ok (.ireturn, 1) := dk_172 (dk_at dksX0_worthIn_2 19 rfl rfl)
abbrev cX0_describe : ByteArray := prog_1_method_43_code
def yX0_describe : MethodName := ⟨RX0, "describe", "(I)I"⟩
def dkwX0_describe_6 : List UInt8 := [180, 0, 178, 153, 0, 10, 45, 16, 43, 182, 1, 36, 87, 42, 45, 182, 1, 46, 172]
abbrev dktX0_describe_6 : List UInt8 := dkwX0_describe_6 ++ []
def dkwX0_describe_5 : List UInt8 := [182, 1, 36, 44, 180, 0, 157, 182, 1, 32, 16, 120, 182, 1, 36, 44, 180, 0, 160, 182, 1, 32, 87, 44]
abbrev dktX0_describe_5 : List UInt8 := dkwX0_describe_5 ++ dktX0_describe_6
def dkwX0_describe_4 : List UInt8 := [180, 0, 65, 44, 180, 0, 171, 182, 0, 174, 182, 1, 32, 87, 44, 182, 1, 43, 153, 0, 29, 45, 16, 126]
abbrev dktX0_describe_4 : List UInt8 := dkwX0_describe_4 ++ dktX0_describe_5
def dkwX0_describe_3 : List UInt8 := [167, 0, 5, 16, 119, 182, 1, 36, 87, 132, 4, 1, 167, 255, 222, 45, 16, 35, 182, 1, 36, 42]
abbrev dktX0_describe_3 : List UInt8 := dkwX0_describe_3 ++ dktX0_describe_4
def dkwX0_describe_2 : List UInt8 := [54, 4, 21, 4, 16, 8, 162, 0, 33, 45, 44, 180, 0, 171, 21, 4, 184, 1, 39, 153, 0, 8, 16, 82]
abbrev dktX0_describe_2 : List UInt8 := dkwX0_describe_2 ++ dktX0_describe_3
def dkwX0_describe_1 : List UInt8 := [192, 0, 155, 77, 187, 0, 100, 89, 183, 0, 102, 78, 45, 27, 182, 1, 32, 16, 61, 182, 1, 36, 87, 3]
abbrev dktX0_describe_1 : List UInt8 := dkwX0_describe_1 ++ dktX0_describe_2
def dkwX0_describe_0 : List UInt8 := [42, 180, 0, 65, 27, 182, 0, 163, 154, 0, 5, 2, 172, 42, 180, 0, 65, 180, 0, 136, 27, 182, 0, 167]
abbrev dktX0_describe_0 : List UInt8 := dkwX0_describe_0 ++ dktX0_describe_1
theorem dksX0_describe_0 : cX0_describe.data.toList.drop 0 = dktX0_describe_0 := by decide +kernel
theorem dksX0_describe_1 : cX0_describe.data.toList.drop 24 = dktX0_describe_1 := dk_seg dksX0_describe_0 24 rfl rfl
theorem dksX0_describe_2 : cX0_describe.data.toList.drop 48 = dktX0_describe_2 := dk_seg dksX0_describe_1 24 rfl rfl
theorem dksX0_describe_3 : cX0_describe.data.toList.drop 72 = dktX0_describe_3 := dk_seg dksX0_describe_2 24 rfl rfl
theorem dksX0_describe_4 : cX0_describe.data.toList.drop 94 = dktX0_describe_4 := dk_seg dksX0_describe_3 22 rfl rfl
theorem dksX0_describe_5 : cX0_describe.data.toList.drop 118 = dktX0_describe_5 := dk_seg dksX0_describe_4 24 rfl rfl
theorem dksX0_describe_6 : cX0_describe.data.toList.drop 142 = dktX0_describe_6 := dk_seg dksX0_describe_5 24 rfl rfl
theorem dX0_describe_0 : decode cX0_describe 0 = .ok (.aload_n 0, 1) := dk_42 (dk_at dksX0_describe_0 0 rfl rfl)
theorem dX0_describe_1 : decode cX0_describe 1 = .ok (.getfield 65, 3) := dk_180 0 65 (dk_at dksX0_describe_0 1 rfl rfl)
theorem dX0_describe_4 : decode cX0_describe 4 = .ok (.iload_n 1, 1) := dk_27 (dk_at dksX0_describe_0 4 rfl rfl)
theorem dX0_describe_5 : decode cX0_describe 5 = .ok (.invokevirtual 163, 3) := dk_182 0 163 (dk_at dksX0_describe_0 5 rfl rfl)
theorem dX0_describe_8 : decode cX0_describe 8 = .ok (.ifCond .ne 5, 3) := dk_154 0 5 (dk_at dksX0_describe_0 8 rfl rfl)
theorem dX0_describe_11 : decode cX0_describe 11 = .ok (.iconst (-1), 1) := dk_2 (dk_at dksX0_describe_0 11 rfl rfl)
theorem dX0_describe_12 : decode cX0_describe 12 = .ok (.ireturn, 1) := dk_172 (dk_at dksX0_describe_0 12 rfl rfl)
theorem dX0_describe_13 : decode cX0_describe 13 = .ok (.aload_n 0, 1) := dk_42 (dk_at dksX0_describe_0 13 rfl rfl)
theorem dX0_describe_14 : decode cX0_describe 14 = .ok (.getfield 65, 3) := dk_180 0 65 (dk_at dksX0_describe_0 14 rfl rfl)
theorem dX0_describe_17 : decode cX0_describe 17 = .ok (.getfield 136, 3) := dk_180 0 136 (dk_at dksX0_describe_0 17 rfl rfl)
theorem dX0_describe_20 : decode cX0_describe 20 = .ok (.iload_n 1, 1) := dk_27 (dk_at dksX0_describe_0 20 rfl rfl)
theorem dX0_describe_21 : decode cX0_describe 21 = .ok (.invokevirtual 167, 3) := dk_182 0 167 (dk_at dksX0_describe_0 21 rfl rfl)
theorem dX0_describe_24 : decode cX0_describe 24 = .ok (.checkcast 155, 3) := dk_192 0 155 (dk_at dksX0_describe_1 0 rfl rfl)
theorem dX0_describe_27 : decode cX0_describe 27 = .ok (.astore_n 2, 1) := dk_77 (dk_at dksX0_describe_1 3 rfl rfl)
theorem dX0_describe_28 : decode cX0_describe 28 = .ok (.new 100, 3) := dk_187 0 100 (dk_at dksX0_describe_1 4 rfl rfl)
theorem dX0_describe_31 : decode cX0_describe 31 = .ok (.dup, 1) := dk_89 (dk_at dksX0_describe_1 7 rfl rfl)
theorem dX0_describe_32 : decode cX0_describe 32 = .ok (.invokespecial 102, 3) := dk_183 0 102 (dk_at dksX0_describe_1 8 rfl rfl)
theorem dX0_describe_35 : decode cX0_describe 35 = .ok (.astore_n 3, 1) := dk_78 (dk_at dksX0_describe_1 11 rfl rfl)
theorem dX0_describe_36 : decode cX0_describe 36 = .ok (.aload_n 3, 1) := dk_45 (dk_at dksX0_describe_1 12 rfl rfl)
theorem dX0_describe_37 : decode cX0_describe 37 = .ok (.iload_n 1, 1) := dk_27 (dk_at dksX0_describe_1 13 rfl rfl)
theorem dX0_describe_38 : decode cX0_describe 38 = .ok (.invokevirtual 288, 3) := dk_182 1 32 (dk_at dksX0_describe_1 14 rfl rfl)
theorem dX0_describe_41 : decode cX0_describe 41 = .ok (.bipush 61, 2) := dk_16 61 (dk_at dksX0_describe_1 17 rfl rfl)
theorem dX0_describe_43 : decode cX0_describe 43 = .ok (.invokevirtual 292, 3) := dk_182 1 36 (dk_at dksX0_describe_1 19 rfl rfl)
theorem dX0_describe_46 : decode cX0_describe 46 = .ok (.pop, 1) := dk_87 (dk_at dksX0_describe_1 22 rfl rfl)
theorem dX0_describe_47 : decode cX0_describe 47 = .ok (.iconst 0, 1) := dk_3 (dk_at dksX0_describe_1 23 rfl rfl)
theorem dX0_describe_48 : decode cX0_describe 48 = .ok (.istore 4, 2) := dk_54 4 (dk_at dksX0_describe_2 0 rfl rfl)
theorem dX0_describe_50 : decode cX0_describe 50 = .ok (.iload 4, 2) := dk_21 4 (dk_at dksX0_describe_2 2 rfl rfl)
theorem dX0_describe_52 : decode cX0_describe 52 = .ok (.bipush 8, 2) := dk_16 8 (dk_at dksX0_describe_2 4 rfl rfl)
theorem dX0_describe_54 : decode cX0_describe 54 = .ok (.if_icmp .ge 33, 3) := dk_162 0 33 (dk_at dksX0_describe_2 6 rfl rfl)
theorem dX0_describe_57 : decode cX0_describe 57 = .ok (.aload_n 3, 1) := dk_45 (dk_at dksX0_describe_2 9 rfl rfl)
theorem dX0_describe_58 : decode cX0_describe 58 = .ok (.aload_n 2, 1) := dk_44 (dk_at dksX0_describe_2 10 rfl rfl)
theorem dX0_describe_59 : decode cX0_describe 59 = .ok (.getfield 171, 3) := dk_180 0 171 (dk_at dksX0_describe_2 11 rfl rfl)
theorem dX0_describe_62 : decode cX0_describe 62 = .ok (.iload 4, 2) := dk_21 4 (dk_at dksX0_describe_2 14 rfl rfl)
theorem dX0_describe_64 : decode cX0_describe 64 = .ok (.invokestatic 295, 3) := dk_184 1 39 (dk_at dksX0_describe_2 16 rfl rfl)
theorem dX0_describe_67 : decode cX0_describe 67 = .ok (.ifCond .eq 8, 3) := dk_153 0 8 (dk_at dksX0_describe_2 19 rfl rfl)
theorem dX0_describe_70 : decode cX0_describe 70 = .ok (.bipush 82, 2) := dk_16 82 (dk_at dksX0_describe_2 22 rfl rfl)
theorem dX0_describe_72 : decode cX0_describe 72 = .ok (.goto 5, 3) := dk_167 0 5 (dk_at dksX0_describe_3 0 rfl rfl)
theorem dX0_describe_75 : decode cX0_describe 75 = .ok (.bipush 119, 2) := dk_16 119 (dk_at dksX0_describe_3 3 rfl rfl)
theorem dX0_describe_77 : decode cX0_describe 77 = .ok (.invokevirtual 292, 3) := dk_182 1 36 (dk_at dksX0_describe_3 5 rfl rfl)
theorem dX0_describe_80 : decode cX0_describe 80 = .ok (.pop, 1) := dk_87 (dk_at dksX0_describe_3 8 rfl rfl)
theorem dX0_describe_81 : decode cX0_describe 81 = .ok (.iinc 4 1, 3) := dk_132 4 1 (dk_at dksX0_describe_3 9 rfl rfl)
theorem dX0_describe_84 : decode cX0_describe 84 = .ok (.goto (-34), 3) := dk_167 255 222 (dk_at dksX0_describe_3 12 rfl rfl)
theorem dX0_describe_87 : decode cX0_describe 87 = .ok (.aload_n 3, 1) := dk_45 (dk_at dksX0_describe_3 15 rfl rfl)
theorem dX0_describe_88 : decode cX0_describe 88 = .ok (.bipush 35, 2) := dk_16 35 (dk_at dksX0_describe_3 16 rfl rfl)
theorem dX0_describe_90 : decode cX0_describe 90 = .ok (.invokevirtual 292, 3) := dk_182 1 36 (dk_at dksX0_describe_3 18 rfl rfl)
theorem dX0_describe_93 : decode cX0_describe 93 = .ok (.aload_n 0, 1) := dk_42 (dk_at dksX0_describe_3 21 rfl rfl)
theorem dX0_describe_94 : decode cX0_describe 94 = .ok (.getfield 65, 3) := dk_180 0 65 (dk_at dksX0_describe_4 0 rfl rfl)
theorem dX0_describe_97 : decode cX0_describe 97 = .ok (.aload_n 2, 1) := dk_44 (dk_at dksX0_describe_4 3 rfl rfl)
theorem dX0_describe_98 : decode cX0_describe 98 = .ok (.getfield 171, 3) := dk_180 0 171 (dk_at dksX0_describe_4 4 rfl rfl)
theorem dX0_describe_101 : decode cX0_describe 101 = .ok (.invokevirtual 174, 3) := dk_182 0 174 (dk_at dksX0_describe_4 7 rfl rfl)
theorem dX0_describe_104 : decode cX0_describe 104 = .ok (.invokevirtual 288, 3) := dk_182 1 32 (dk_at dksX0_describe_4 10 rfl rfl)
theorem dX0_describe_107 : decode cX0_describe 107 = .ok (.pop, 1) := dk_87 (dk_at dksX0_describe_4 13 rfl rfl)
theorem dX0_describe_108 : decode cX0_describe 108 = .ok (.aload_n 2, 1) := dk_44 (dk_at dksX0_describe_4 14 rfl rfl)
theorem dX0_describe_109 : decode cX0_describe 109 = .ok (.invokevirtual 299, 3) := dk_182 1 43 (dk_at dksX0_describe_4 15 rfl rfl)
theorem dX0_describe_112 : decode cX0_describe 112 = .ok (.ifCond .eq 29, 3) := dk_153 0 29 (dk_at dksX0_describe_4 18 rfl rfl)
theorem dX0_describe_115 : decode cX0_describe 115 = .ok (.aload_n 3, 1) := dk_45 (dk_at dksX0_describe_4 21 rfl rfl)
theorem dX0_describe_116 : decode cX0_describe 116 = .ok (.bipush 126, 2) := dk_16 126 (dk_at dksX0_describe_4 22 rfl rfl)
theorem dX0_describe_118 : decode cX0_describe 118 = .ok (.invokevirtual 292, 3) := dk_182 1 36 (dk_at dksX0_describe_5 0 rfl rfl)
theorem dX0_describe_121 : decode cX0_describe 121 = .ok (.aload_n 2, 1) := dk_44 (dk_at dksX0_describe_5 3 rfl rfl)
theorem dX0_describe_122 : decode cX0_describe 122 = .ok (.getfield 157, 3) := dk_180 0 157 (dk_at dksX0_describe_5 4 rfl rfl)
theorem dX0_describe_125 : decode cX0_describe 125 = .ok (.invokevirtual 288, 3) := dk_182 1 32 (dk_at dksX0_describe_5 7 rfl rfl)
theorem dX0_describe_128 : decode cX0_describe 128 = .ok (.bipush 120, 2) := dk_16 120 (dk_at dksX0_describe_5 10 rfl rfl)
theorem dX0_describe_130 : decode cX0_describe 130 = .ok (.invokevirtual 292, 3) := dk_182 1 36 (dk_at dksX0_describe_5 12 rfl rfl)
theorem dX0_describe_133 : decode cX0_describe 133 = .ok (.aload_n 2, 1) := dk_44 (dk_at dksX0_describe_5 15 rfl rfl)
theorem dX0_describe_134 : decode cX0_describe 134 = .ok (.getfield 160, 3) := dk_180 0 160 (dk_at dksX0_describe_5 16 rfl rfl)
theorem dX0_describe_137 : decode cX0_describe 137 = .ok (.invokevirtual 288, 3) := dk_182 1 32 (dk_at dksX0_describe_5 19 rfl rfl)
theorem dX0_describe_140 : decode cX0_describe 140 = .ok (.pop, 1) := dk_87 (dk_at dksX0_describe_5 22 rfl rfl)
theorem dX0_describe_141 : decode cX0_describe 141 = .ok (.aload_n 2, 1) := dk_44 (dk_at dksX0_describe_5 23 rfl rfl)
theorem dX0_describe_142 : decode cX0_describe 142 = .ok (.getfield 178, 3) := dk_180 0 178 (dk_at dksX0_describe_6 0 rfl rfl)
theorem dX0_describe_145 : decode cX0_describe 145 = .ok (.ifCond .eq 10, 3) := dk_153 0 10 (dk_at dksX0_describe_6 3 rfl rfl)
theorem dX0_describe_148 : decode cX0_describe 148 = .ok (.aload_n 3, 1) := dk_45 (dk_at dksX0_describe_6 6 rfl rfl)
theorem dX0_describe_149 : decode cX0_describe 149 = .ok (.bipush 43, 2) := dk_16 43 (dk_at dksX0_describe_6 7 rfl rfl)
theorem dX0_describe_151 : decode cX0_describe 151 = .ok (.invokevirtual 292, 3) := dk_182 1 36 (dk_at dksX0_describe_6 9 rfl rfl)
theorem dX0_describe_154 : decode cX0_describe 154 = .ok (.pop, 1) := dk_87 (dk_at dksX0_describe_6 12 rfl rfl)
theorem dX0_describe_155 : decode cX0_describe 155 = .ok (.aload_n 0, 1) := dk_42 (dk_at dksX0_describe_6 13 rfl rfl)
theorem dX0_describe_156 : decode cX0_describe 156 = .ok (.aload_n 3, 1) := dk_45 (dk_at dksX0_describe_6 14 rfl rfl)
theorem dX0_describe_157 : decode cX0_describe 157 = .ok (.invokevirtual 302, 3) := dk_182 1 46 (dk_at dksX0_describe_6 15 rfl rfl)
theorem dX0_describe_160 : decode cX0_describe 160 = .ok (.ireturn, 1) := dk_172 (dk_at dksX0_describe_6 18 rfl rfl)
abbrev cX0_lays : ByteArray := prog_1_method_42_code
def yX0_lays : MethodName := ⟨RX0, "lays", "(Ljava/lang/StringBuilder;)I"⟩
def dkwX0_lays_0 : List UInt8 := [42, 43, 182, 1, 23, 181, 0, 96, 42, 180, 0, 96, 182, 1, 27, 172]
abbrev dktX0_lays_0 : List UInt8 := dkwX0_lays_0 ++ []
theorem dksX0_lays_0 : cX0_lays.data.toList.drop 0 = dktX0_lays_0 := by decide +kernel
theorem dX0_lays_0 : decode cX0_lays 0 = .ok (.aload_n 0, 1) := dk_42 (dk_at dksX0_lays_0 0 rfl rfl)
theorem dX0_lays_1 : decode cX0_lays 1 = .ok (.aload_n 1, 1) := dk_43 (dk_at dksX0_lays_0 1 rfl rfl)
theorem dX0_lays_2 : decode cX0_lays 2 = .ok (.invokevirtual 279, 3) := dk_182 1 23 (dk_at dksX0_lays_0 2 rfl rfl)
theorem dX0_lays_5 : decode cX0_lays 5 = .ok (.putfield 96, 3) := dk_181 0 96 (dk_at dksX0_lays_0 5 rfl rfl)
theorem dX0_lays_8 : decode cX0_lays 8 = .ok (.aload_n 0, 1) := dk_42 (dk_at dksX0_lays_0 8 rfl rfl)
theorem dX0_lays_9 : decode cX0_lays 9 = .ok (.getfield 96, 3) := dk_180 0 96 (dk_at dksX0_lays_0 9 rfl rfl)
theorem dX0_lays_12 : decode cX0_lays 12 = .ok (.invokevirtual 283, 3) := dk_182 1 27 (dk_at dksX0_lays_0 12 rfl rfl)
theorem dX0_lays_15 : decode cX0_lays 15 = .ok (.ireturn, 1) := dk_172 (dk_at dksX0_lays_0 15 rfl rfl)
abbrev cX0_tell : ByteArray := prog_1_method_44_code
def yX0_tell : MethodName := ⟨RX0, "tell", "()I"⟩
def dkwX0_tell_3 : List UInt8 := [182, 1, 46, 172]
abbrev dktX0_tell_3 : List UInt8 := dkwX0_tell_3 ++ []
def dkwX0_tell_2 : List UInt8 := [158, 0, 10, 43, 16, 44, 182, 1, 36, 87, 43, 45, 180, 0, 232, 182, 1, 32, 87, 167, 255, 214, 42, 43]
abbrev dktX0_tell_2 : List UInt8 := dkwX0_tell_2 ++ dktX0_tell_3
def dkwX0_tell_1 : List UInt8 := [185, 0, 146, 1, 0, 153, 0, 39, 44, 185, 0, 152, 1, 0, 192, 0, 155, 78, 43, 182, 1, 50]
abbrev dktX0_tell_1 : List UInt8 := dkwX0_tell_1 ++ dktX0_tell_2
def dkwX0_tell_0 : List UInt8 := [187, 0, 100, 89, 183, 0, 102, 76, 42, 180, 0, 65, 182, 0, 227, 182, 0, 140, 77, 44]
abbrev dktX0_tell_0 : List UInt8 := dkwX0_tell_0 ++ dktX0_tell_1
theorem dksX0_tell_0 : cX0_tell.data.toList.drop 0 = dktX0_tell_0 := by decide +kernel
theorem dksX0_tell_1 : cX0_tell.data.toList.drop 20 = dktX0_tell_1 := dk_seg dksX0_tell_0 20 rfl rfl
theorem dksX0_tell_2 : cX0_tell.data.toList.drop 42 = dktX0_tell_2 := dk_seg dksX0_tell_1 22 rfl rfl
theorem dksX0_tell_3 : cX0_tell.data.toList.drop 66 = dktX0_tell_3 := dk_seg dksX0_tell_2 24 rfl rfl
theorem dX0_tell_0 : decode cX0_tell 0 = .ok (.new 100, 3) := dk_187 0 100 (dk_at dksX0_tell_0 0 rfl rfl)
theorem dX0_tell_3 : decode cX0_tell 3 = .ok (.dup, 1) := dk_89 (dk_at dksX0_tell_0 3 rfl rfl)
theorem dX0_tell_4 : decode cX0_tell 4 = .ok (.invokespecial 102, 3) := dk_183 0 102 (dk_at dksX0_tell_0 4 rfl rfl)
theorem dX0_tell_7 : decode cX0_tell 7 = .ok (.astore_n 1, 1) := dk_76 (dk_at dksX0_tell_0 7 rfl rfl)
theorem dX0_tell_8 : decode cX0_tell 8 = .ok (.aload_n 0, 1) := dk_42 (dk_at dksX0_tell_0 8 rfl rfl)
theorem dX0_tell_9 : decode cX0_tell 9 = .ok (.getfield 65, 3) := dk_180 0 65 (dk_at dksX0_tell_0 9 rfl rfl)
theorem dX0_tell_12 : decode cX0_tell 12 = .ok (.invokevirtual 227, 3) := dk_182 0 227 (dk_at dksX0_tell_0 12 rfl rfl)
theorem dX0_tell_15 : decode cX0_tell 15 = .ok (.invokevirtual 140, 3) := dk_182 0 140 (dk_at dksX0_tell_0 15 rfl rfl)
theorem dX0_tell_18 : decode cX0_tell 18 = .ok (.astore_n 2, 1) := dk_77 (dk_at dksX0_tell_0 18 rfl rfl)
theorem dX0_tell_19 : decode cX0_tell 19 = .ok (.aload_n 2, 1) := dk_44 (dk_at dksX0_tell_0 19 rfl rfl)
theorem dX0_tell_20 : decode cX0_tell 20 = .ok (.invokeinterface 146 1, 5) := by decide +kernel
theorem dX0_tell_25 : decode cX0_tell 25 = .ok (.ifCond .eq 39, 3) := dk_153 0 39 (dk_at dksX0_tell_1 5 rfl rfl)
theorem dX0_tell_28 : decode cX0_tell 28 = .ok (.aload_n 2, 1) := dk_44 (dk_at dksX0_tell_1 8 rfl rfl)
theorem dX0_tell_29 : decode cX0_tell 29 = .ok (.invokeinterface 152 1, 5) := by decide +kernel
theorem dX0_tell_34 : decode cX0_tell 34 = .ok (.checkcast 155, 3) := dk_192 0 155 (dk_at dksX0_tell_1 14 rfl rfl)
theorem dX0_tell_37 : decode cX0_tell 37 = .ok (.astore_n 3, 1) := dk_78 (dk_at dksX0_tell_1 17 rfl rfl)
theorem dX0_tell_38 : decode cX0_tell 38 = .ok (.aload_n 1, 1) := dk_43 (dk_at dksX0_tell_1 18 rfl rfl)
theorem dX0_tell_39 : decode cX0_tell 39 = .ok (.invokevirtual 306, 3) := dk_182 1 50 (dk_at dksX0_tell_1 19 rfl rfl)
theorem dX0_tell_42 : decode cX0_tell 42 = .ok (.ifCond .le 10, 3) := dk_158 0 10 (dk_at dksX0_tell_2 0 rfl rfl)
theorem dX0_tell_45 : decode cX0_tell 45 = .ok (.aload_n 1, 1) := dk_43 (dk_at dksX0_tell_2 3 rfl rfl)
theorem dX0_tell_46 : decode cX0_tell 46 = .ok (.bipush 44, 2) := dk_16 44 (dk_at dksX0_tell_2 4 rfl rfl)
theorem dX0_tell_48 : decode cX0_tell 48 = .ok (.invokevirtual 292, 3) := dk_182 1 36 (dk_at dksX0_tell_2 6 rfl rfl)
theorem dX0_tell_51 : decode cX0_tell 51 = .ok (.pop, 1) := dk_87 (dk_at dksX0_tell_2 9 rfl rfl)
theorem dX0_tell_52 : decode cX0_tell 52 = .ok (.aload_n 1, 1) := dk_43 (dk_at dksX0_tell_2 10 rfl rfl)
theorem dX0_tell_53 : decode cX0_tell 53 = .ok (.aload_n 3, 1) := dk_45 (dk_at dksX0_tell_2 11 rfl rfl)
theorem dX0_tell_54 : decode cX0_tell 54 = .ok (.getfield 232, 3) := dk_180 0 232 (dk_at dksX0_tell_2 12 rfl rfl)
theorem dX0_tell_57 : decode cX0_tell 57 = .ok (.invokevirtual 288, 3) := dk_182 1 32 (dk_at dksX0_tell_2 15 rfl rfl)
theorem dX0_tell_60 : decode cX0_tell 60 = .ok (.pop, 1) := dk_87 (dk_at dksX0_tell_2 18 rfl rfl)
theorem dX0_tell_61 : decode cX0_tell 61 = .ok (.goto (-42), 3) := dk_167 255 214 (dk_at dksX0_tell_2 19 rfl rfl)
theorem dX0_tell_64 : decode cX0_tell 64 = .ok (.aload_n 0, 1) := dk_42 (dk_at dksX0_tell_2 22 rfl rfl)
theorem dX0_tell_65 : decode cX0_tell 65 = .ok (.aload_n 1, 1) := dk_43 (dk_at dksX0_tell_2 23 rfl rfl)
theorem dX0_tell_66 : decode cX0_tell 66 = .ok (.invokevirtual 302, 3) := dk_182 1 46 (dk_at dksX0_tell_3 0 rfl rfl)
theorem dX0_tell_69 : decode cX0_tell 69 = .ok (.ireturn, 1) := dk_172 (dk_at dksX0_tell_3 3 rfl rfl)
abbrev cX0_sign : ByteArray := prog_1_method_45_code
def yX0_sign : MethodName := ⟨RX0, "sign", "(I)I"⟩
def dkwX0_sign_1 : List UInt8 := [182, 1, 51, 167, 0, 4, 2, 172]
abbrev dktX0_sign_1 : List UInt8 := dkwX0_sign_1 ++ []
def dkwX0_sign_0 : List UInt8 := [27, 3, 42, 180, 0, 96, 182, 1, 27, 4, 100, 184, 0, 215, 153, 0, 14, 42, 180, 0, 96, 27]
abbrev dktX0_sign_0 : List UInt8 := dkwX0_sign_0 ++ dktX0_sign_1
theorem dksX0_sign_0 : cX0_sign.data.toList.drop 0 = dktX0_sign_0 := by decide +kernel
theorem dksX0_sign_1 : cX0_sign.data.toList.drop 22 = dktX0_sign_1 := dk_seg dksX0_sign_0 22 rfl rfl
theorem dX0_sign_0 : decode cX0_sign 0 = .ok (.iload_n 1, 1) := dk_27 (dk_at dksX0_sign_0 0 rfl rfl)
theorem dX0_sign_1 : decode cX0_sign 1 = .ok (.iconst 0, 1) := dk_3 (dk_at dksX0_sign_0 1 rfl rfl)
theorem dX0_sign_2 : decode cX0_sign 2 = .ok (.aload_n 0, 1) := dk_42 (dk_at dksX0_sign_0 2 rfl rfl)
theorem dX0_sign_3 : decode cX0_sign 3 = .ok (.getfield 96, 3) := dk_180 0 96 (dk_at dksX0_sign_0 3 rfl rfl)
theorem dX0_sign_6 : decode cX0_sign 6 = .ok (.invokevirtual 283, 3) := dk_182 1 27 (dk_at dksX0_sign_0 6 rfl rfl)
theorem dX0_sign_9 : decode cX0_sign 9 = .ok (.iconst 1, 1) := dk_4 (dk_at dksX0_sign_0 9 rfl rfl)
theorem dX0_sign_10 : decode cX0_sign 10 = .ok (.isub, 1) := dk_100 (dk_at dksX0_sign_0 10 rfl rfl)
theorem dX0_sign_11 : decode cX0_sign 11 = .ok (.invokestatic 215, 3) := dk_184 0 215 (dk_at dksX0_sign_0 11 rfl rfl)
theorem dX0_sign_14 : decode cX0_sign 14 = .ok (.ifCond .eq 14, 3) := dk_153 0 14 (dk_at dksX0_sign_0 14 rfl rfl)
theorem dX0_sign_17 : decode cX0_sign 17 = .ok (.aload_n 0, 1) := dk_42 (dk_at dksX0_sign_0 17 rfl rfl)
theorem dX0_sign_18 : decode cX0_sign 18 = .ok (.getfield 96, 3) := dk_180 0 96 (dk_at dksX0_sign_0 18 rfl rfl)
theorem dX0_sign_21 : decode cX0_sign 21 = .ok (.iload_n 1, 1) := dk_27 (dk_at dksX0_sign_0 21 rfl rfl)
theorem dX0_sign_22 : decode cX0_sign 22 = .ok (.invokevirtual 307, 3) := dk_182 1 51 (dk_at dksX0_sign_1 0 rfl rfl)
theorem dX0_sign_25 : decode cX0_sign 25 = .ok (.goto 4, 3) := dk_167 0 4 (dk_at dksX0_sign_1 3 rfl rfl)
theorem dX0_sign_28 : decode cX0_sign 28 = .ok (.iconst (-1), 1) := dk_2 (dk_at dksX0_sign_1 6 rfl rfl)
theorem dX0_sign_29 : decode cX0_sign 29 = .ok (.ireturn, 1) := dk_172 (dk_at dksX0_sign_1 7 rfl rfl)
abbrev cX0_append : ByteArray := prog_1_method_46_code
def yX0_append : MethodName := ⟨RX0, "append", "(I)I"⟩
def dkwX0_append_1 : List UInt8 := [16, 254, 172, 42, 180, 0, 103, 27, 146, 182, 1, 36, 87, 42, 180, 0, 103, 182, 1, 50, 172]
abbrev dktX0_append_1 : List UInt8 := dkwX0_append_1 ++ []
def dkwX0_append_0 : List UInt8 := [27, 16, 32, 16, 126, 184, 0, 215, 153, 0, 15, 42, 180, 0, 103, 182, 1, 50, 16, 70, 160, 0, 6]
abbrev dktX0_append_0 : List UInt8 := dkwX0_append_0 ++ dktX0_append_1
theorem dksX0_append_0 : cX0_append.data.toList.drop 0 = dktX0_append_0 := by decide +kernel
theorem dksX0_append_1 : cX0_append.data.toList.drop 23 = dktX0_append_1 := dk_seg dksX0_append_0 23 rfl rfl
theorem dX0_append_0 : decode cX0_append 0 = .ok (.iload_n 1, 1) := dk_27 (dk_at dksX0_append_0 0 rfl rfl)
theorem dX0_append_1 : decode cX0_append 1 = .ok (.bipush 32, 2) := dk_16 32 (dk_at dksX0_append_0 1 rfl rfl)
theorem dX0_append_3 : decode cX0_append 3 = .ok (.bipush 126, 2) := dk_16 126 (dk_at dksX0_append_0 3 rfl rfl)
theorem dX0_append_5 : decode cX0_append 5 = .ok (.invokestatic 215, 3) := dk_184 0 215 (dk_at dksX0_append_0 5 rfl rfl)
theorem dX0_append_8 : decode cX0_append 8 = .ok (.ifCond .eq 15, 3) := dk_153 0 15 (dk_at dksX0_append_0 8 rfl rfl)
theorem dX0_append_11 : decode cX0_append 11 = .ok (.aload_n 0, 1) := dk_42 (dk_at dksX0_append_0 11 rfl rfl)
theorem dX0_append_12 : decode cX0_append 12 = .ok (.getfield 103, 3) := dk_180 0 103 (dk_at dksX0_append_0 12 rfl rfl)
theorem dX0_append_15 : decode cX0_append 15 = .ok (.invokevirtual 306, 3) := dk_182 1 50 (dk_at dksX0_append_0 15 rfl rfl)
theorem dX0_append_18 : decode cX0_append 18 = .ok (.bipush 70, 2) := dk_16 70 (dk_at dksX0_append_0 18 rfl rfl)
theorem dX0_append_20 : decode cX0_append 20 = .ok (.if_icmp .ne 6, 3) := dk_160 0 6 (dk_at dksX0_append_0 20 rfl rfl)
theorem dX0_append_23 : decode cX0_append 23 = .ok (.bipush (-2), 2) := dk_16 254 (dk_at dksX0_append_1 0 rfl rfl)
theorem dX0_append_25 : decode cX0_append 25 = .ok (.ireturn, 1) := dk_172 (dk_at dksX0_append_1 2 rfl rfl)
theorem dX0_append_26 : decode cX0_append 26 = .ok (.aload_n 0, 1) := dk_42 (dk_at dksX0_append_1 3 rfl rfl)
theorem dX0_append_27 : decode cX0_append 27 = .ok (.getfield 103, 3) := dk_180 0 103 (dk_at dksX0_append_1 4 rfl rfl)
theorem dX0_append_30 : decode cX0_append 30 = .ok (.iload_n 1, 1) := dk_27 (dk_at dksX0_append_1 7 rfl rfl)
theorem dX0_append_31 : decode cX0_append 31 = .ok (.i2c, 1) := dk_146 (dk_at dksX0_append_1 8 rfl rfl)
theorem dX0_append_32 : decode cX0_append 32 = .ok (.invokevirtual 292, 3) := dk_182 1 36 (dk_at dksX0_append_1 9 rfl rfl)
theorem dX0_append_35 : decode cX0_append 35 = .ok (.pop, 1) := dk_87 (dk_at dksX0_append_1 12 rfl rfl)
theorem dX0_append_36 : decode cX0_append 36 = .ok (.aload_n 0, 1) := dk_42 (dk_at dksX0_append_1 13 rfl rfl)
theorem dX0_append_37 : decode cX0_append 37 = .ok (.getfield 103, 3) := dk_180 0 103 (dk_at dksX0_append_1 14 rfl rfl)
theorem dX0_append_40 : decode cX0_append 40 = .ok (.invokevirtual 306, 3) := dk_182 1 50 (dk_at dksX0_append_1 17 rfl rfl)
theorem dX0_append_43 : decode cX0_append 43 = .ok (.ireturn, 1) := dk_172 (dk_at dksX0_append_1 20 rfl rfl)
abbrev cX0_read : ByteArray := prog_1_method_47_code
def yX0_read : MethodName := ⟨RX0, "read", "()I"⟩
def dkwX0_read_10 : List UInt8 := [42, 45, 181, 0, 65, 42, 180, 0, 103, 3, 182, 1, 63, 25, 7, 191]
abbrev dktX0_read_10 : List UInt8 := dkwX0_read_10 ++ []
def dkwX0_read_9 : List UInt8 := [180, 0, 103, 3, 182, 1, 63, 21, 5, 172, 58, 7, 28, 153, 0, 11, 42, 45, 182, 0, 77, 167, 0, 8]
abbrev dktX0_read_9 : List UInt8 := dkwX0_read_9 ++ dktX0_read_10
def dkwX0_read_8 : List UInt8 := [27, 182, 0, 83, 54, 5, 28, 153, 0, 11, 42, 45, 182, 0, 77, 167, 0, 8, 42, 45, 181, 0, 65, 42]
abbrev dktX0_read_8 : List UInt8 := dkwX0_read_8 ++ dktX0_read_9
def dkwX0_read_7 : List UInt8 := [167, 0, 8, 42, 45, 181, 0, 65, 42, 180, 0, 103, 3, 182, 1, 63, 21, 5, 172, 58, 4, 42, 25, 4]
abbrev dktX0_read_7 : List UInt8 := dkwX0_read_7 ++ dktX0_read_8
def dkwX0_read_6 : List UInt8 := [3, 182, 1, 63, 21, 5, 172, 58, 4, 16, 254, 54, 5, 28, 153, 0, 11, 42, 45, 182, 0, 77]
abbrev dktX0_read_6 : List UInt8 := dkwX0_read_6 ++ dktX0_read_7
def dkwX0_read_5 : List UInt8 := [100, 54, 5, 28, 153, 0, 11, 42, 45, 182, 0, 77, 167, 0, 8, 42, 45, 181, 0, 65, 42, 180, 0, 103]
abbrev dktX0_read_5 : List UInt8 := dkwX0_read_5 ++ dktX0_read_6
def dkwX0_read_4 : List UInt8 := [45, 181, 0, 65, 42, 180, 0, 103, 3, 182, 1, 63, 21, 4, 172, 58, 4, 16, 156, 25, 4, 180, 1, 68]
abbrev dktX0_read_4 : List UInt8 := dkwX0_read_4 ++ dktX0_read_5
def dkwX0_read_3 : List UInt8 := [132, 1, 1, 167, 255, 218, 4, 61, 27, 54, 4, 28, 153, 0, 11, 42, 45, 182, 0, 77, 167, 0, 8, 42]
abbrev dktX0_read_3 : List UInt8 := dkwX0_read_3 ++ dktX0_read_4
def dkwX0_read_2 : List UInt8 := [185, 0, 152, 1, 0, 192, 0, 73, 58, 5, 25, 5, 42, 180, 0, 65, 185, 0, 72, 2, 0, 54, 6]
abbrev dktX0_read_2 : List UInt8 := dkwX0_read_2 ++ dktX0_read_3
def dkwX0_read_1 : List UInt8 := [182, 1, 60, 182, 0, 140, 58, 4, 25, 4, 185, 0, 146, 1, 0, 153, 0, 34, 25, 4]
abbrev dktX0_read_1 : List UInt8 := dkwX0_read_1 ++ dktX0_read_2
def dkwX0_read_0 : List UInt8 := [3, 60, 3, 61, 187, 0, 28, 89, 42, 180, 0, 65, 183, 0, 69, 78, 187, 1, 55, 89, 42, 183, 1, 57]
abbrev dktX0_read_0 : List UInt8 := dkwX0_read_0 ++ dktX0_read_1
theorem dksX0_read_0 : cX0_read.data.toList.drop 0 = dktX0_read_0 := by decide +kernel
theorem dksX0_read_1 : cX0_read.data.toList.drop 24 = dktX0_read_1 := dk_seg dksX0_read_0 24 rfl rfl
theorem dksX0_read_2 : cX0_read.data.toList.drop 44 = dktX0_read_2 := dk_seg dksX0_read_1 20 rfl rfl
theorem dksX0_read_3 : cX0_read.data.toList.drop 67 = dktX0_read_3 := dk_seg dksX0_read_2 23 rfl rfl
theorem dksX0_read_4 : cX0_read.data.toList.drop 91 = dktX0_read_4 := dk_seg dksX0_read_3 24 rfl rfl
theorem dksX0_read_5 : cX0_read.data.toList.drop 115 = dktX0_read_5 := dk_seg dksX0_read_4 24 rfl rfl
theorem dksX0_read_6 : cX0_read.data.toList.drop 139 = dktX0_read_6 := dk_seg dksX0_read_5 24 rfl rfl
theorem dksX0_read_7 : cX0_read.data.toList.drop 161 = dktX0_read_7 := dk_seg dksX0_read_6 22 rfl rfl
theorem dksX0_read_8 : cX0_read.data.toList.drop 185 = dktX0_read_8 := dk_seg dksX0_read_7 24 rfl rfl
theorem dksX0_read_9 : cX0_read.data.toList.drop 209 = dktX0_read_9 := dk_seg dksX0_read_8 24 rfl rfl
theorem dksX0_read_10 : cX0_read.data.toList.drop 233 = dktX0_read_10 := dk_seg dksX0_read_9 24 rfl rfl
theorem dX0_read_0 : decode cX0_read 0 = .ok (.iconst 0, 1) := dk_3 (dk_at dksX0_read_0 0 rfl rfl)
theorem dX0_read_1 : decode cX0_read 1 = .ok (.istore_n 1, 1) := dk_60 (dk_at dksX0_read_0 1 rfl rfl)
theorem dX0_read_2 : decode cX0_read 2 = .ok (.iconst 0, 1) := dk_3 (dk_at dksX0_read_0 2 rfl rfl)
theorem dX0_read_3 : decode cX0_read 3 = .ok (.istore_n 2, 1) := dk_61 (dk_at dksX0_read_0 3 rfl rfl)
theorem dX0_read_4 : decode cX0_read 4 = .ok (.new 28, 3) := dk_187 0 28 (dk_at dksX0_read_0 4 rfl rfl)
theorem dX0_read_7 : decode cX0_read 7 = .ok (.dup, 1) := dk_89 (dk_at dksX0_read_0 7 rfl rfl)
theorem dX0_read_8 : decode cX0_read 8 = .ok (.aload_n 0, 1) := dk_42 (dk_at dksX0_read_0 8 rfl rfl)
theorem dX0_read_9 : decode cX0_read 9 = .ok (.getfield 65, 3) := dk_180 0 65 (dk_at dksX0_read_0 9 rfl rfl)
theorem dX0_read_12 : decode cX0_read 12 = .ok (.invokespecial 69, 3) := dk_183 0 69 (dk_at dksX0_read_0 12 rfl rfl)
theorem dX0_read_15 : decode cX0_read 15 = .ok (.astore_n 3, 1) := dk_78 (dk_at dksX0_read_0 15 rfl rfl)
theorem dX0_read_16 : decode cX0_read 16 = .ok (.new 311, 3) := dk_187 1 55 (dk_at dksX0_read_0 16 rfl rfl)
theorem dX0_read_19 : decode cX0_read 19 = .ok (.dup, 1) := dk_89 (dk_at dksX0_read_0 19 rfl rfl)
theorem dX0_read_20 : decode cX0_read 20 = .ok (.aload_n 0, 1) := dk_42 (dk_at dksX0_read_0 20 rfl rfl)
theorem dX0_read_21 : decode cX0_read 21 = .ok (.invokespecial 313, 3) := dk_183 1 57 (dk_at dksX0_read_0 21 rfl rfl)
theorem dX0_read_24 : decode cX0_read 24 = .ok (.invokevirtual 316, 3) := dk_182 1 60 (dk_at dksX0_read_1 0 rfl rfl)
theorem dX0_read_27 : decode cX0_read 27 = .ok (.invokevirtual 140, 3) := dk_182 0 140 (dk_at dksX0_read_1 3 rfl rfl)
theorem dX0_read_30 : decode cX0_read 30 = .ok (.astore 4, 2) := dk_58 4 (dk_at dksX0_read_1 6 rfl rfl)
theorem dX0_read_32 : decode cX0_read 32 = .ok (.aload 4, 2) := dk_25 4 (dk_at dksX0_read_1 8 rfl rfl)
theorem dX0_read_34 : decode cX0_read 34 = .ok (.invokeinterface 146 1, 5) := by decide +kernel
theorem dX0_read_39 : decode cX0_read 39 = .ok (.ifCond .eq 34, 3) := dk_153 0 34 (dk_at dksX0_read_1 15 rfl rfl)
theorem dX0_read_42 : decode cX0_read 42 = .ok (.aload 4, 2) := dk_25 4 (dk_at dksX0_read_1 18 rfl rfl)
theorem dX0_read_44 : decode cX0_read 44 = .ok (.invokeinterface 152 1, 5) := by decide +kernel
theorem dX0_read_49 : decode cX0_read 49 = .ok (.checkcast 73, 3) := dk_192 0 73 (dk_at dksX0_read_2 5 rfl rfl)
theorem dX0_read_52 : decode cX0_read 52 = .ok (.astore 5, 2) := dk_58 5 (dk_at dksX0_read_2 8 rfl rfl)
theorem dX0_read_54 : decode cX0_read 54 = .ok (.aload 5, 2) := dk_25 5 (dk_at dksX0_read_2 10 rfl rfl)
theorem dX0_read_56 : decode cX0_read 56 = .ok (.aload_n 0, 1) := dk_42 (dk_at dksX0_read_2 12 rfl rfl)
theorem dX0_read_57 : decode cX0_read 57 = .ok (.getfield 65, 3) := dk_180 0 65 (dk_at dksX0_read_2 13 rfl rfl)
theorem dX0_read_60 : decode cX0_read 60 = .ok (.invokeinterface 72 2, 5) := by decide +kernel
theorem dX0_read_65 : decode cX0_read 65 = .ok (.istore 6, 2) := dk_54 6 (dk_at dksX0_read_2 21 rfl rfl)
theorem dX0_read_67 : decode cX0_read 67 = .ok (.iinc 1 1, 3) := dk_132 1 1 (dk_at dksX0_read_3 0 rfl rfl)
theorem dX0_read_70 : decode cX0_read 70 = .ok (.goto (-38), 3) := dk_167 255 218 (dk_at dksX0_read_3 3 rfl rfl)
theorem dX0_read_73 : decode cX0_read 73 = .ok (.iconst 1, 1) := dk_4 (dk_at dksX0_read_3 6 rfl rfl)
theorem dX0_read_74 : decode cX0_read 74 = .ok (.istore_n 2, 1) := dk_61 (dk_at dksX0_read_3 7 rfl rfl)
theorem dX0_read_75 : decode cX0_read 75 = .ok (.iload_n 1, 1) := dk_27 (dk_at dksX0_read_3 8 rfl rfl)
theorem dX0_read_76 : decode cX0_read 76 = .ok (.istore 4, 2) := dk_54 4 (dk_at dksX0_read_3 9 rfl rfl)
theorem dX0_read_78 : decode cX0_read 78 = .ok (.iload_n 2, 1) := dk_28 (dk_at dksX0_read_3 11 rfl rfl)
theorem dX0_read_79 : decode cX0_read 79 = .ok (.ifCond .eq 11, 3) := dk_153 0 11 (dk_at dksX0_read_3 12 rfl rfl)
theorem dX0_read_82 : decode cX0_read 82 = .ok (.aload_n 0, 1) := dk_42 (dk_at dksX0_read_3 15 rfl rfl)
theorem dX0_read_83 : decode cX0_read 83 = .ok (.aload_n 3, 1) := dk_45 (dk_at dksX0_read_3 16 rfl rfl)
theorem dX0_read_84 : decode cX0_read 84 = .ok (.invokevirtual 77, 3) := dk_182 0 77 (dk_at dksX0_read_3 17 rfl rfl)
theorem dX0_read_87 : decode cX0_read 87 = .ok (.goto 8, 3) := dk_167 0 8 (dk_at dksX0_read_3 20 rfl rfl)
theorem dX0_read_90 : decode cX0_read 90 = .ok (.aload_n 0, 1) := dk_42 (dk_at dksX0_read_3 23 rfl rfl)
theorem dX0_read_91 : decode cX0_read 91 = .ok (.aload_n 3, 1) := dk_45 (dk_at dksX0_read_4 0 rfl rfl)
theorem dX0_read_92 : decode cX0_read 92 = .ok (.putfield 65, 3) := dk_181 0 65 (dk_at dksX0_read_4 1 rfl rfl)
theorem dX0_read_95 : decode cX0_read 95 = .ok (.aload_n 0, 1) := dk_42 (dk_at dksX0_read_4 4 rfl rfl)
theorem dX0_read_96 : decode cX0_read 96 = .ok (.getfield 103, 3) := dk_180 0 103 (dk_at dksX0_read_4 5 rfl rfl)
theorem dX0_read_99 : decode cX0_read 99 = .ok (.iconst 0, 1) := dk_3 (dk_at dksX0_read_4 8 rfl rfl)
theorem dX0_read_100 : decode cX0_read 100 = .ok (.invokevirtual 319, 3) := dk_182 1 63 (dk_at dksX0_read_4 9 rfl rfl)
theorem dX0_read_103 : decode cX0_read 103 = .ok (.iload 4, 2) := dk_21 4 (dk_at dksX0_read_4 12 rfl rfl)
theorem dX0_read_105 : decode cX0_read 105 = .ok (.ireturn, 1) := dk_172 (dk_at dksX0_read_4 14 rfl rfl)
theorem dX0_read_106 : decode cX0_read 106 = .ok (.astore 4, 2) := dk_58 4 (dk_at dksX0_read_4 15 rfl rfl)
theorem dX0_read_108 : decode cX0_read 108 = .ok (.bipush (-100), 2) := dk_16 156 (dk_at dksX0_read_4 17 rfl rfl)
theorem dX0_read_110 : decode cX0_read 110 = .ok (.aload 4, 2) := dk_25 4 (dk_at dksX0_read_4 19 rfl rfl)
theorem dX0_read_112 : decode cX0_read 112 = .ok (.getfield 324, 3) := dk_180 1 68 (dk_at dksX0_read_4 21 rfl rfl)
theorem dX0_read_115 : decode cX0_read 115 = .ok (.isub, 1) := dk_100 (dk_at dksX0_read_5 0 rfl rfl)
theorem dX0_read_116 : decode cX0_read 116 = .ok (.istore 5, 2) := dk_54 5 (dk_at dksX0_read_5 1 rfl rfl)
theorem dX0_read_118 : decode cX0_read 118 = .ok (.iload_n 2, 1) := dk_28 (dk_at dksX0_read_5 3 rfl rfl)
theorem dX0_read_119 : decode cX0_read 119 = .ok (.ifCond .eq 11, 3) := dk_153 0 11 (dk_at dksX0_read_5 4 rfl rfl)
theorem dX0_read_122 : decode cX0_read 122 = .ok (.aload_n 0, 1) := dk_42 (dk_at dksX0_read_5 7 rfl rfl)
theorem dX0_read_123 : decode cX0_read 123 = .ok (.aload_n 3, 1) := dk_45 (dk_at dksX0_read_5 8 rfl rfl)
theorem dX0_read_124 : decode cX0_read 124 = .ok (.invokevirtual 77, 3) := dk_182 0 77 (dk_at dksX0_read_5 9 rfl rfl)
theorem dX0_read_127 : decode cX0_read 127 = .ok (.goto 8, 3) := dk_167 0 8 (dk_at dksX0_read_5 12 rfl rfl)
theorem dX0_read_130 : decode cX0_read 130 = .ok (.aload_n 0, 1) := dk_42 (dk_at dksX0_read_5 15 rfl rfl)
theorem dX0_read_131 : decode cX0_read 131 = .ok (.aload_n 3, 1) := dk_45 (dk_at dksX0_read_5 16 rfl rfl)
theorem dX0_read_132 : decode cX0_read 132 = .ok (.putfield 65, 3) := dk_181 0 65 (dk_at dksX0_read_5 17 rfl rfl)
theorem dX0_read_135 : decode cX0_read 135 = .ok (.aload_n 0, 1) := dk_42 (dk_at dksX0_read_5 20 rfl rfl)
theorem dX0_read_136 : decode cX0_read 136 = .ok (.getfield 103, 3) := dk_180 0 103 (dk_at dksX0_read_5 21 rfl rfl)
theorem dX0_read_139 : decode cX0_read 139 = .ok (.iconst 0, 1) := dk_3 (dk_at dksX0_read_6 0 rfl rfl)
theorem dX0_read_140 : decode cX0_read 140 = .ok (.invokevirtual 319, 3) := dk_182 1 63 (dk_at dksX0_read_6 1 rfl rfl)
theorem dX0_read_143 : decode cX0_read 143 = .ok (.iload 5, 2) := dk_21 5 (dk_at dksX0_read_6 4 rfl rfl)
theorem dX0_read_145 : decode cX0_read 145 = .ok (.ireturn, 1) := dk_172 (dk_at dksX0_read_6 6 rfl rfl)
theorem dX0_read_146 : decode cX0_read 146 = .ok (.astore 4, 2) := dk_58 4 (dk_at dksX0_read_6 7 rfl rfl)
theorem dX0_read_148 : decode cX0_read 148 = .ok (.bipush (-2), 2) := dk_16 254 (dk_at dksX0_read_6 9 rfl rfl)
theorem dX0_read_150 : decode cX0_read 150 = .ok (.istore 5, 2) := dk_54 5 (dk_at dksX0_read_6 11 rfl rfl)
theorem dX0_read_152 : decode cX0_read 152 = .ok (.iload_n 2, 1) := dk_28 (dk_at dksX0_read_6 13 rfl rfl)
theorem dX0_read_153 : decode cX0_read 153 = .ok (.ifCond .eq 11, 3) := dk_153 0 11 (dk_at dksX0_read_6 14 rfl rfl)
theorem dX0_read_156 : decode cX0_read 156 = .ok (.aload_n 0, 1) := dk_42 (dk_at dksX0_read_6 17 rfl rfl)
theorem dX0_read_157 : decode cX0_read 157 = .ok (.aload_n 3, 1) := dk_45 (dk_at dksX0_read_6 18 rfl rfl)
theorem dX0_read_158 : decode cX0_read 158 = .ok (.invokevirtual 77, 3) := dk_182 0 77 (dk_at dksX0_read_6 19 rfl rfl)
theorem dX0_read_161 : decode cX0_read 161 = .ok (.goto 8, 3) := dk_167 0 8 (dk_at dksX0_read_7 0 rfl rfl)
theorem dX0_read_164 : decode cX0_read 164 = .ok (.aload_n 0, 1) := dk_42 (dk_at dksX0_read_7 3 rfl rfl)
theorem dX0_read_165 : decode cX0_read 165 = .ok (.aload_n 3, 1) := dk_45 (dk_at dksX0_read_7 4 rfl rfl)
theorem dX0_read_166 : decode cX0_read 166 = .ok (.putfield 65, 3) := dk_181 0 65 (dk_at dksX0_read_7 5 rfl rfl)
theorem dX0_read_169 : decode cX0_read 169 = .ok (.aload_n 0, 1) := dk_42 (dk_at dksX0_read_7 8 rfl rfl)
theorem dX0_read_170 : decode cX0_read 170 = .ok (.getfield 103, 3) := dk_180 0 103 (dk_at dksX0_read_7 9 rfl rfl)
theorem dX0_read_173 : decode cX0_read 173 = .ok (.iconst 0, 1) := dk_3 (dk_at dksX0_read_7 12 rfl rfl)
theorem dX0_read_174 : decode cX0_read 174 = .ok (.invokevirtual 319, 3) := dk_182 1 63 (dk_at dksX0_read_7 13 rfl rfl)
theorem dX0_read_177 : decode cX0_read 177 = .ok (.iload 5, 2) := dk_21 5 (dk_at dksX0_read_7 16 rfl rfl)
theorem dX0_read_179 : decode cX0_read 179 = .ok (.ireturn, 1) := dk_172 (dk_at dksX0_read_7 18 rfl rfl)
theorem dX0_read_180 : decode cX0_read 180 = .ok (.astore 4, 2) := dk_58 4 (dk_at dksX0_read_7 19 rfl rfl)
theorem dX0_read_182 : decode cX0_read 182 = .ok (.aload_n 0, 1) := dk_42 (dk_at dksX0_read_7 21 rfl rfl)
theorem dX0_read_183 : decode cX0_read 183 = .ok (.aload 4, 2) := dk_25 4 (dk_at dksX0_read_7 22 rfl rfl)
theorem dX0_read_185 : decode cX0_read 185 = .ok (.iload_n 1, 1) := dk_27 (dk_at dksX0_read_8 0 rfl rfl)
theorem dX0_read_186 : decode cX0_read 186 = .ok (.invokevirtual 83, 3) := dk_182 0 83 (dk_at dksX0_read_8 1 rfl rfl)
theorem dX0_read_189 : decode cX0_read 189 = .ok (.istore 5, 2) := dk_54 5 (dk_at dksX0_read_8 4 rfl rfl)
theorem dX0_read_191 : decode cX0_read 191 = .ok (.iload_n 2, 1) := dk_28 (dk_at dksX0_read_8 6 rfl rfl)
theorem dX0_read_192 : decode cX0_read 192 = .ok (.ifCond .eq 11, 3) := dk_153 0 11 (dk_at dksX0_read_8 7 rfl rfl)
theorem dX0_read_195 : decode cX0_read 195 = .ok (.aload_n 0, 1) := dk_42 (dk_at dksX0_read_8 10 rfl rfl)
theorem dX0_read_196 : decode cX0_read 196 = .ok (.aload_n 3, 1) := dk_45 (dk_at dksX0_read_8 11 rfl rfl)
theorem dX0_read_197 : decode cX0_read 197 = .ok (.invokevirtual 77, 3) := dk_182 0 77 (dk_at dksX0_read_8 12 rfl rfl)
theorem dX0_read_200 : decode cX0_read 200 = .ok (.goto 8, 3) := dk_167 0 8 (dk_at dksX0_read_8 15 rfl rfl)
theorem dX0_read_203 : decode cX0_read 203 = .ok (.aload_n 0, 1) := dk_42 (dk_at dksX0_read_8 18 rfl rfl)
theorem dX0_read_204 : decode cX0_read 204 = .ok (.aload_n 3, 1) := dk_45 (dk_at dksX0_read_8 19 rfl rfl)
theorem dX0_read_205 : decode cX0_read 205 = .ok (.putfield 65, 3) := dk_181 0 65 (dk_at dksX0_read_8 20 rfl rfl)
theorem dX0_read_208 : decode cX0_read 208 = .ok (.aload_n 0, 1) := dk_42 (dk_at dksX0_read_8 23 rfl rfl)
theorem dX0_read_209 : decode cX0_read 209 = .ok (.getfield 103, 3) := dk_180 0 103 (dk_at dksX0_read_9 0 rfl rfl)
theorem dX0_read_212 : decode cX0_read 212 = .ok (.iconst 0, 1) := dk_3 (dk_at dksX0_read_9 3 rfl rfl)
theorem dX0_read_213 : decode cX0_read 213 = .ok (.invokevirtual 319, 3) := dk_182 1 63 (dk_at dksX0_read_9 4 rfl rfl)
theorem dX0_read_216 : decode cX0_read 216 = .ok (.iload 5, 2) := dk_21 5 (dk_at dksX0_read_9 7 rfl rfl)
theorem dX0_read_218 : decode cX0_read 218 = .ok (.ireturn, 1) := dk_172 (dk_at dksX0_read_9 9 rfl rfl)
theorem dX0_read_219 : decode cX0_read 219 = .ok (.astore 7, 2) := dk_58 7 (dk_at dksX0_read_9 10 rfl rfl)
theorem dX0_read_221 : decode cX0_read 221 = .ok (.iload_n 2, 1) := dk_28 (dk_at dksX0_read_9 12 rfl rfl)
theorem dX0_read_222 : decode cX0_read 222 = .ok (.ifCond .eq 11, 3) := dk_153 0 11 (dk_at dksX0_read_9 13 rfl rfl)
theorem dX0_read_225 : decode cX0_read 225 = .ok (.aload_n 0, 1) := dk_42 (dk_at dksX0_read_9 16 rfl rfl)
theorem dX0_read_226 : decode cX0_read 226 = .ok (.aload_n 3, 1) := dk_45 (dk_at dksX0_read_9 17 rfl rfl)
theorem dX0_read_227 : decode cX0_read 227 = .ok (.invokevirtual 77, 3) := dk_182 0 77 (dk_at dksX0_read_9 18 rfl rfl)
theorem dX0_read_230 : decode cX0_read 230 = .ok (.goto 8, 3) := dk_167 0 8 (dk_at dksX0_read_9 21 rfl rfl)
theorem dX0_read_233 : decode cX0_read 233 = .ok (.aload_n 0, 1) := dk_42 (dk_at dksX0_read_10 0 rfl rfl)
theorem dX0_read_234 : decode cX0_read 234 = .ok (.aload_n 3, 1) := dk_45 (dk_at dksX0_read_10 1 rfl rfl)
theorem dX0_read_235 : decode cX0_read 235 = .ok (.putfield 65, 3) := dk_181 0 65 (dk_at dksX0_read_10 2 rfl rfl)
theorem dX0_read_238 : decode cX0_read 238 = .ok (.aload_n 0, 1) := dk_42 (dk_at dksX0_read_10 5 rfl rfl)
theorem dX0_read_239 : decode cX0_read 239 = .ok (.getfield 103, 3) := dk_180 0 103 (dk_at dksX0_read_10 6 rfl rfl)
theorem dX0_read_242 : decode cX0_read 242 = .ok (.iconst 0, 1) := dk_3 (dk_at dksX0_read_10 9 rfl rfl)
theorem dX0_read_243 : decode cX0_read 243 = .ok (.invokevirtual 319, 3) := dk_182 1 63 (dk_at dksX0_read_10 10 rfl rfl)
theorem dX0_read_246 : decode cX0_read 246 = .ok (.aload 7, 2) := dk_25 7 (dk_at dksX0_read_10 13 rfl rfl)
theorem dX0_read_248 : decode cX0_read 248 = .ok (.athrow, 1) := dk_191 (dk_at dksX0_read_10 15 rfl rfl)
abbrev cX0_refusal : ByteArray := prog_1_method_48_code
def yX0_refusal : MethodName := ⟨RX0, "refusal", "(I)I"⟩
def dkwX0_refusal_1 : List UInt8 := [5, 160, 0, 10, 42, 180, 0, 47, 167, 0, 5, 16, 254, 172]
abbrev dktX0_refusal_1 : List UInt8 := dkwX0_refusal_1 ++ []
def dkwX0_refusal_0 : List UInt8 := [27, 154, 0, 10, 42, 180, 0, 38, 167, 0, 29, 27, 4, 160, 0, 10, 42, 180, 0, 44, 167, 0, 17, 27]
abbrev dktX0_refusal_0 : List UInt8 := dkwX0_refusal_0 ++ dktX0_refusal_1
theorem dksX0_refusal_0 : cX0_refusal.data.toList.drop 0 = dktX0_refusal_0 := by decide +kernel
theorem dksX0_refusal_1 : cX0_refusal.data.toList.drop 24 = dktX0_refusal_1 := dk_seg dksX0_refusal_0 24 rfl rfl
theorem dX0_refusal_0 : decode cX0_refusal 0 = .ok (.iload_n 1, 1) := dk_27 (dk_at dksX0_refusal_0 0 rfl rfl)
theorem dX0_refusal_1 : decode cX0_refusal 1 = .ok (.ifCond .ne 10, 3) := dk_154 0 10 (dk_at dksX0_refusal_0 1 rfl rfl)
theorem dX0_refusal_4 : decode cX0_refusal 4 = .ok (.aload_n 0, 1) := dk_42 (dk_at dksX0_refusal_0 4 rfl rfl)
theorem dX0_refusal_5 : decode cX0_refusal 5 = .ok (.getfield 38, 3) := dk_180 0 38 (dk_at dksX0_refusal_0 5 rfl rfl)
theorem dX0_refusal_8 : decode cX0_refusal 8 = .ok (.goto 29, 3) := dk_167 0 29 (dk_at dksX0_refusal_0 8 rfl rfl)
theorem dX0_refusal_11 : decode cX0_refusal 11 = .ok (.iload_n 1, 1) := dk_27 (dk_at dksX0_refusal_0 11 rfl rfl)
theorem dX0_refusal_12 : decode cX0_refusal 12 = .ok (.iconst 1, 1) := dk_4 (dk_at dksX0_refusal_0 12 rfl rfl)
theorem dX0_refusal_13 : decode cX0_refusal 13 = .ok (.if_icmp .ne 10, 3) := dk_160 0 10 (dk_at dksX0_refusal_0 13 rfl rfl)
theorem dX0_refusal_16 : decode cX0_refusal 16 = .ok (.aload_n 0, 1) := dk_42 (dk_at dksX0_refusal_0 16 rfl rfl)
theorem dX0_refusal_17 : decode cX0_refusal 17 = .ok (.getfield 44, 3) := dk_180 0 44 (dk_at dksX0_refusal_0 17 rfl rfl)
theorem dX0_refusal_20 : decode cX0_refusal 20 = .ok (.goto 17, 3) := dk_167 0 17 (dk_at dksX0_refusal_0 20 rfl rfl)
theorem dX0_refusal_23 : decode cX0_refusal 23 = .ok (.iload_n 1, 1) := dk_27 (dk_at dksX0_refusal_0 23 rfl rfl)
theorem dX0_refusal_24 : decode cX0_refusal 24 = .ok (.iconst 2, 1) := dk_5 (dk_at dksX0_refusal_1 0 rfl rfl)
theorem dX0_refusal_25 : decode cX0_refusal 25 = .ok (.if_icmp .ne 10, 3) := dk_160 0 10 (dk_at dksX0_refusal_1 1 rfl rfl)
theorem dX0_refusal_28 : decode cX0_refusal 28 = .ok (.aload_n 0, 1) := dk_42 (dk_at dksX0_refusal_1 4 rfl rfl)
theorem dX0_refusal_29 : decode cX0_refusal 29 = .ok (.getfield 47, 3) := dk_180 0 47 (dk_at dksX0_refusal_1 5 rfl rfl)
theorem dX0_refusal_32 : decode cX0_refusal 32 = .ok (.goto 5, 3) := dk_167 0 5 (dk_at dksX0_refusal_1 8 rfl rfl)
theorem dX0_refusal_35 : decode cX0_refusal 35 = .ok (.bipush (-2), 2) := dk_16 254 (dk_at dksX0_refusal_1 11 rfl rfl)
theorem dX0_refusal_37 : decode cX0_refusal 37 = .ok (.ireturn, 1) := dk_172 (dk_at dksX0_refusal_1 13 rfl rfl)
abbrev cX0_account : ByteArray := prog_1_method_51_code
def yX0_account : MethodName := ⟨RX0, "account", "(I)I"⟩
def dkwX0_account_6 : List UInt8 := [182, 0, 18, 172, 16, 254, 172]
abbrev dktX0_account_6 : List UInt8 := dkwX0_account_6 ++ []
def dkwX0_account_5 : List UInt8 := [180, 1, 89, 172, 42, 5, 182, 1, 78, 172, 42, 180, 0, 103, 182, 1, 50, 172, 42, 180, 0, 12]
abbrev dktX0_account_5 : List UInt8 := dkwX0_account_5 ++ dktX0_account_6
def dkwX0_account_4 : List UInt8 := [182, 1, 81, 172, 42, 180, 0, 65, 180, 1, 83, 172, 42, 180, 0, 65, 180, 1, 86, 172, 42, 180, 0, 65]
abbrev dktX0_account_4 : List UInt8 := dkwX0_account_4 ++ dktX0_account_5
def dkwX0_account_3 : List UInt8 := [172, 42, 4, 182, 1, 78, 172, 42, 180, 0, 65, 180, 1, 80, 172, 42, 180, 0, 65, 180, 0, 194, 172, 42]
abbrev dktX0_account_3 : List UInt8 := dkwX0_account_3 ++ dktX0_account_4
def dkwX0_account_2 : List UInt8 := [42, 180, 0, 65, 180, 0, 136, 182, 0, 231, 172, 42, 180, 0, 65, 182, 1, 75, 172, 42, 3, 182, 1, 78]
abbrev dktX0_account_2 : List UInt8 := dkwX0_account_2 ++ dktX0_account_3
def dkwX0_account_1 : List UInt8 := [170, 0, 0, 0, 0, 0, 165, 0, 0, 0, 0, 0, 0, 0, 12, 0, 0, 0, 67, 0, 0, 0, 78, 0, 0, 0, 86, 0, 0, 0, 92, 0, 0, 0, 98, 0, 0, 0, 106, 0, 0, 0, 114, 0, 0, 0, 119, 0, 0, 0, 127, 0, 0, 0, 135, 0, 0, 0, 143, 0, 0, 0, 149, 0, 0, 0, 157]
abbrev dktX0_account_1 : List UInt8 := dkwX0_account_1 ++ dktX0_account_2
def dkwX0_account_0 : List UInt8 := [27]
abbrev dktX0_account_0 : List UInt8 := dkwX0_account_0 ++ dktX0_account_1
theorem dksX0_account_0 : cX0_account.data.toList.drop 0 = dktX0_account_0 := by decide +kernel
theorem dksX0_account_1 : cX0_account.data.toList.drop 1 = dktX0_account_1 := dk_seg dksX0_account_0 1 rfl rfl
theorem dksX0_account_2 : cX0_account.data.toList.drop 68 = dktX0_account_2 := dk_seg dksX0_account_1 67 rfl rfl
theorem dksX0_account_3 : cX0_account.data.toList.drop 92 = dktX0_account_3 := dk_seg dksX0_account_2 24 rfl rfl
theorem dksX0_account_4 : cX0_account.data.toList.drop 116 = dktX0_account_4 := dk_seg dksX0_account_3 24 rfl rfl
theorem dksX0_account_5 : cX0_account.data.toList.drop 140 = dktX0_account_5 := dk_seg dksX0_account_4 24 rfl rfl
theorem dksX0_account_6 : cX0_account.data.toList.drop 162 = dktX0_account_6 := dk_seg dksX0_account_5 22 rfl rfl
theorem dX0_account_0 : decode cX0_account 0 = .ok (.iload_n 1, 1) := dk_27 (dk_at dksX0_account_0 0 rfl rfl)
theorem dX0_account_1 : decode cX0_account 1 = .ok (.tableswitch 165 0 12 #[67, 78, 86, 92, 98, 106, 114, 119, 127, 135, 143, 149, 157], 67) := by decide +kernel
theorem dX0_account_68 : decode cX0_account 68 = .ok (.aload_n 0, 1) := dk_42 (dk_at dksX0_account_2 0 rfl rfl)
theorem dX0_account_69 : decode cX0_account 69 = .ok (.getfield 65, 3) := dk_180 0 65 (dk_at dksX0_account_2 1 rfl rfl)
theorem dX0_account_72 : decode cX0_account 72 = .ok (.getfield 136, 3) := dk_180 0 136 (dk_at dksX0_account_2 4 rfl rfl)
theorem dX0_account_75 : decode cX0_account 75 = .ok (.invokevirtual 231, 3) := dk_182 0 231 (dk_at dksX0_account_2 7 rfl rfl)
theorem dX0_account_78 : decode cX0_account 78 = .ok (.ireturn, 1) := dk_172 (dk_at dksX0_account_2 10 rfl rfl)
theorem dX0_account_79 : decode cX0_account 79 = .ok (.aload_n 0, 1) := dk_42 (dk_at dksX0_account_2 11 rfl rfl)
theorem dX0_account_80 : decode cX0_account 80 = .ok (.getfield 65, 3) := dk_180 0 65 (dk_at dksX0_account_2 12 rfl rfl)
theorem dX0_account_83 : decode cX0_account 83 = .ok (.invokevirtual 331, 3) := dk_182 1 75 (dk_at dksX0_account_2 15 rfl rfl)
theorem dX0_account_86 : decode cX0_account 86 = .ok (.ireturn, 1) := dk_172 (dk_at dksX0_account_2 18 rfl rfl)
theorem dX0_account_87 : decode cX0_account 87 = .ok (.aload_n 0, 1) := dk_42 (dk_at dksX0_account_2 19 rfl rfl)
theorem dX0_account_88 : decode cX0_account 88 = .ok (.iconst 0, 1) := dk_3 (dk_at dksX0_account_2 20 rfl rfl)
theorem dX0_account_89 : decode cX0_account 89 = .ok (.invokevirtual 334, 3) := dk_182 1 78 (dk_at dksX0_account_2 21 rfl rfl)
theorem dX0_account_92 : decode cX0_account 92 = .ok (.ireturn, 1) := dk_172 (dk_at dksX0_account_3 0 rfl rfl)
theorem dX0_account_93 : decode cX0_account 93 = .ok (.aload_n 0, 1) := dk_42 (dk_at dksX0_account_3 1 rfl rfl)
theorem dX0_account_94 : decode cX0_account 94 = .ok (.iconst 1, 1) := dk_4 (dk_at dksX0_account_3 2 rfl rfl)
theorem dX0_account_95 : decode cX0_account 95 = .ok (.invokevirtual 334, 3) := dk_182 1 78 (dk_at dksX0_account_3 3 rfl rfl)
theorem dX0_account_98 : decode cX0_account 98 = .ok (.ireturn, 1) := dk_172 (dk_at dksX0_account_3 6 rfl rfl)
theorem dX0_account_99 : decode cX0_account 99 = .ok (.aload_n 0, 1) := dk_42 (dk_at dksX0_account_3 7 rfl rfl)
theorem dX0_account_100 : decode cX0_account 100 = .ok (.getfield 65, 3) := dk_180 0 65 (dk_at dksX0_account_3 8 rfl rfl)
theorem dX0_account_103 : decode cX0_account 103 = .ok (.getfield 336, 3) := dk_180 1 80 (dk_at dksX0_account_3 11 rfl rfl)
theorem dX0_account_106 : decode cX0_account 106 = .ok (.ireturn, 1) := dk_172 (dk_at dksX0_account_3 14 rfl rfl)
theorem dX0_account_107 : decode cX0_account 107 = .ok (.aload_n 0, 1) := dk_42 (dk_at dksX0_account_3 15 rfl rfl)
theorem dX0_account_108 : decode cX0_account 108 = .ok (.getfield 65, 3) := dk_180 0 65 (dk_at dksX0_account_3 16 rfl rfl)
theorem dX0_account_111 : decode cX0_account 111 = .ok (.getfield 194, 3) := dk_180 0 194 (dk_at dksX0_account_3 19 rfl rfl)
theorem dX0_account_114 : decode cX0_account 114 = .ok (.ireturn, 1) := dk_172 (dk_at dksX0_account_3 22 rfl rfl)
theorem dX0_account_115 : decode cX0_account 115 = .ok (.aload_n 0, 1) := dk_42 (dk_at dksX0_account_3 23 rfl rfl)
theorem dX0_account_116 : decode cX0_account 116 = .ok (.invokevirtual 337, 3) := dk_182 1 81 (dk_at dksX0_account_4 0 rfl rfl)
theorem dX0_account_119 : decode cX0_account 119 = .ok (.ireturn, 1) := dk_172 (dk_at dksX0_account_4 3 rfl rfl)
theorem dX0_account_120 : decode cX0_account 120 = .ok (.aload_n 0, 1) := dk_42 (dk_at dksX0_account_4 4 rfl rfl)
theorem dX0_account_121 : decode cX0_account 121 = .ok (.getfield 65, 3) := dk_180 0 65 (dk_at dksX0_account_4 5 rfl rfl)
theorem dX0_account_124 : decode cX0_account 124 = .ok (.getfield 339, 3) := dk_180 1 83 (dk_at dksX0_account_4 8 rfl rfl)
theorem dX0_account_127 : decode cX0_account 127 = .ok (.ireturn, 1) := dk_172 (dk_at dksX0_account_4 11 rfl rfl)
theorem dX0_account_128 : decode cX0_account 128 = .ok (.aload_n 0, 1) := dk_42 (dk_at dksX0_account_4 12 rfl rfl)
theorem dX0_account_129 : decode cX0_account 129 = .ok (.getfield 65, 3) := dk_180 0 65 (dk_at dksX0_account_4 13 rfl rfl)
theorem dX0_account_132 : decode cX0_account 132 = .ok (.getfield 342, 3) := dk_180 1 86 (dk_at dksX0_account_4 16 rfl rfl)
theorem dX0_account_135 : decode cX0_account 135 = .ok (.ireturn, 1) := dk_172 (dk_at dksX0_account_4 19 rfl rfl)
theorem dX0_account_136 : decode cX0_account 136 = .ok (.aload_n 0, 1) := dk_42 (dk_at dksX0_account_4 20 rfl rfl)
theorem dX0_account_137 : decode cX0_account 137 = .ok (.getfield 65, 3) := dk_180 0 65 (dk_at dksX0_account_4 21 rfl rfl)
theorem dX0_account_140 : decode cX0_account 140 = .ok (.getfield 345, 3) := dk_180 1 89 (dk_at dksX0_account_5 0 rfl rfl)
theorem dX0_account_143 : decode cX0_account 143 = .ok (.ireturn, 1) := dk_172 (dk_at dksX0_account_5 3 rfl rfl)
theorem dX0_account_144 : decode cX0_account 144 = .ok (.aload_n 0, 1) := dk_42 (dk_at dksX0_account_5 4 rfl rfl)
theorem dX0_account_145 : decode cX0_account 145 = .ok (.iconst 2, 1) := dk_5 (dk_at dksX0_account_5 5 rfl rfl)
theorem dX0_account_146 : decode cX0_account 146 = .ok (.invokevirtual 334, 3) := dk_182 1 78 (dk_at dksX0_account_5 6 rfl rfl)
theorem dX0_account_149 : decode cX0_account 149 = .ok (.ireturn, 1) := dk_172 (dk_at dksX0_account_5 9 rfl rfl)
theorem dX0_account_150 : decode cX0_account 150 = .ok (.aload_n 0, 1) := dk_42 (dk_at dksX0_account_5 10 rfl rfl)
theorem dX0_account_151 : decode cX0_account 151 = .ok (.getfield 103, 3) := dk_180 0 103 (dk_at dksX0_account_5 11 rfl rfl)
theorem dX0_account_154 : decode cX0_account 154 = .ok (.invokevirtual 306, 3) := dk_182 1 50 (dk_at dksX0_account_5 14 rfl rfl)
theorem dX0_account_157 : decode cX0_account 157 = .ok (.ireturn, 1) := dk_172 (dk_at dksX0_account_5 17 rfl rfl)
theorem dX0_account_158 : decode cX0_account 158 = .ok (.aload_n 0, 1) := dk_42 (dk_at dksX0_account_5 18 rfl rfl)
theorem dX0_account_159 : decode cX0_account 159 = .ok (.getfield 12, 3) := dk_180 0 12 (dk_at dksX0_account_5 19 rfl rfl)
theorem dX0_account_162 : decode cX0_account 162 = .ok (.invokevirtual 18, 3) := dk_182 0 18 (dk_at dksX0_account_6 0 rfl rfl)
theorem dX0_account_165 : decode cX0_account 165 = .ok (.ireturn, 1) := dk_172 (dk_at dksX0_account_6 3 rfl rfl)
theorem dX0_account_166 : decode cX0_account 166 = .ok (.bipush (-2), 2) := dk_16 254 (dk_at dksX0_account_6 4 rfl rfl)
theorem dX0_account_168 : decode cX0_account 168 = .ok (.ireturn, 1) := dk_172 (dk_at dksX0_account_6 6 rfl rfl)
abbrev cX0_bulbs : ByteArray := prog_1_method_49_code
def yX0_bulbs : MethodName := ⟨RX0, "bulbs", "(I)I"⟩
def dkwX0_bulbs_3 : List UInt8 := [180, 0, 188, 153, 0, 7, 4, 167, 0, 4, 3, 96, 61, 167, 255, 186, 28, 172]
abbrev dktX0_bulbs_3 : List UInt8 := dkwX0_bulbs_3 ++ []
def dkwX0_bulbs_2 : List UInt8 := [167, 0, 35, 28, 27, 154, 0, 11, 25, 4, 182, 1, 43, 154, 0, 16, 27, 4, 160, 0, 15, 25, 4]
abbrev dktX0_bulbs_2 : List UInt8 := dkwX0_bulbs_2 ++ dktX0_bulbs_3
def dkwX0_bulbs_1 : List UInt8 := [185, 0, 152, 1, 0, 192, 0, 155, 58, 4, 27, 5, 160, 0, 15, 28, 25, 4, 180, 0, 185, 184, 0, 222]
abbrev dktX0_bulbs_1 : List UInt8 := dkwX0_bulbs_1 ++ dktX0_bulbs_2
def dkwX0_bulbs_0 : List UInt8 := [3, 61, 42, 180, 0, 65, 180, 0, 136, 182, 0, 140, 78, 45, 185, 0, 146, 1, 0, 153, 0, 67, 45]
abbrev dktX0_bulbs_0 : List UInt8 := dkwX0_bulbs_0 ++ dktX0_bulbs_1
theorem dksX0_bulbs_0 : cX0_bulbs.data.toList.drop 0 = dktX0_bulbs_0 := by decide +kernel
theorem dksX0_bulbs_1 : cX0_bulbs.data.toList.drop 23 = dktX0_bulbs_1 := dk_seg dksX0_bulbs_0 23 rfl rfl
theorem dksX0_bulbs_2 : cX0_bulbs.data.toList.drop 47 = dktX0_bulbs_2 := dk_seg dksX0_bulbs_1 24 rfl rfl
theorem dksX0_bulbs_3 : cX0_bulbs.data.toList.drop 70 = dktX0_bulbs_3 := dk_seg dksX0_bulbs_2 23 rfl rfl
theorem dX0_bulbs_0 : decode cX0_bulbs 0 = .ok (.iconst 0, 1) := dk_3 (dk_at dksX0_bulbs_0 0 rfl rfl)
theorem dX0_bulbs_1 : decode cX0_bulbs 1 = .ok (.istore_n 2, 1) := dk_61 (dk_at dksX0_bulbs_0 1 rfl rfl)
theorem dX0_bulbs_2 : decode cX0_bulbs 2 = .ok (.aload_n 0, 1) := dk_42 (dk_at dksX0_bulbs_0 2 rfl rfl)
theorem dX0_bulbs_3 : decode cX0_bulbs 3 = .ok (.getfield 65, 3) := dk_180 0 65 (dk_at dksX0_bulbs_0 3 rfl rfl)
theorem dX0_bulbs_6 : decode cX0_bulbs 6 = .ok (.getfield 136, 3) := dk_180 0 136 (dk_at dksX0_bulbs_0 6 rfl rfl)
theorem dX0_bulbs_9 : decode cX0_bulbs 9 = .ok (.invokevirtual 140, 3) := dk_182 0 140 (dk_at dksX0_bulbs_0 9 rfl rfl)
theorem dX0_bulbs_12 : decode cX0_bulbs 12 = .ok (.astore_n 3, 1) := dk_78 (dk_at dksX0_bulbs_0 12 rfl rfl)
theorem dX0_bulbs_13 : decode cX0_bulbs 13 = .ok (.aload_n 3, 1) := dk_45 (dk_at dksX0_bulbs_0 13 rfl rfl)
theorem dX0_bulbs_14 : decode cX0_bulbs 14 = .ok (.invokeinterface 146 1, 5) := by decide +kernel
theorem dX0_bulbs_19 : decode cX0_bulbs 19 = .ok (.ifCond .eq 67, 3) := dk_153 0 67 (dk_at dksX0_bulbs_0 19 rfl rfl)
theorem dX0_bulbs_22 : decode cX0_bulbs 22 = .ok (.aload_n 3, 1) := dk_45 (dk_at dksX0_bulbs_0 22 rfl rfl)
theorem dX0_bulbs_23 : decode cX0_bulbs 23 = .ok (.invokeinterface 152 1, 5) := by decide +kernel
theorem dX0_bulbs_28 : decode cX0_bulbs 28 = .ok (.checkcast 155, 3) := dk_192 0 155 (dk_at dksX0_bulbs_1 5 rfl rfl)
theorem dX0_bulbs_31 : decode cX0_bulbs 31 = .ok (.astore 4, 2) := dk_58 4 (dk_at dksX0_bulbs_1 8 rfl rfl)
theorem dX0_bulbs_33 : decode cX0_bulbs 33 = .ok (.iload_n 1, 1) := dk_27 (dk_at dksX0_bulbs_1 10 rfl rfl)
theorem dX0_bulbs_34 : decode cX0_bulbs 34 = .ok (.iconst 2, 1) := dk_5 (dk_at dksX0_bulbs_1 11 rfl rfl)
theorem dX0_bulbs_35 : decode cX0_bulbs 35 = .ok (.if_icmp .ne 15, 3) := dk_160 0 15 (dk_at dksX0_bulbs_1 12 rfl rfl)
theorem dX0_bulbs_38 : decode cX0_bulbs 38 = .ok (.iload_n 2, 1) := dk_28 (dk_at dksX0_bulbs_1 15 rfl rfl)
theorem dX0_bulbs_39 : decode cX0_bulbs 39 = .ok (.aload 4, 2) := dk_25 4 (dk_at dksX0_bulbs_1 16 rfl rfl)
theorem dX0_bulbs_41 : decode cX0_bulbs 41 = .ok (.getfield 185, 3) := dk_180 0 185 (dk_at dksX0_bulbs_1 18 rfl rfl)
theorem dX0_bulbs_44 : decode cX0_bulbs 44 = .ok (.invokestatic 222, 3) := dk_184 0 222 (dk_at dksX0_bulbs_1 21 rfl rfl)
theorem dX0_bulbs_47 : decode cX0_bulbs 47 = .ok (.goto 35, 3) := dk_167 0 35 (dk_at dksX0_bulbs_2 0 rfl rfl)
theorem dX0_bulbs_50 : decode cX0_bulbs 50 = .ok (.iload_n 2, 1) := dk_28 (dk_at dksX0_bulbs_2 3 rfl rfl)
theorem dX0_bulbs_51 : decode cX0_bulbs 51 = .ok (.iload_n 1, 1) := dk_27 (dk_at dksX0_bulbs_2 4 rfl rfl)
theorem dX0_bulbs_52 : decode cX0_bulbs 52 = .ok (.ifCond .ne 11, 3) := dk_154 0 11 (dk_at dksX0_bulbs_2 5 rfl rfl)
theorem dX0_bulbs_55 : decode cX0_bulbs 55 = .ok (.aload 4, 2) := dk_25 4 (dk_at dksX0_bulbs_2 8 rfl rfl)
theorem dX0_bulbs_57 : decode cX0_bulbs 57 = .ok (.invokevirtual 299, 3) := dk_182 1 43 (dk_at dksX0_bulbs_2 10 rfl rfl)
theorem dX0_bulbs_60 : decode cX0_bulbs 60 = .ok (.ifCond .ne 16, 3) := dk_154 0 16 (dk_at dksX0_bulbs_2 13 rfl rfl)
theorem dX0_bulbs_63 : decode cX0_bulbs 63 = .ok (.iload_n 1, 1) := dk_27 (dk_at dksX0_bulbs_2 16 rfl rfl)
theorem dX0_bulbs_64 : decode cX0_bulbs 64 = .ok (.iconst 1, 1) := dk_4 (dk_at dksX0_bulbs_2 17 rfl rfl)
theorem dX0_bulbs_65 : decode cX0_bulbs 65 = .ok (.if_icmp .ne 15, 3) := dk_160 0 15 (dk_at dksX0_bulbs_2 18 rfl rfl)
theorem dX0_bulbs_68 : decode cX0_bulbs 68 = .ok (.aload 4, 2) := dk_25 4 (dk_at dksX0_bulbs_2 21 rfl rfl)
theorem dX0_bulbs_70 : decode cX0_bulbs 70 = .ok (.getfield 188, 3) := dk_180 0 188 (dk_at dksX0_bulbs_3 0 rfl rfl)
theorem dX0_bulbs_73 : decode cX0_bulbs 73 = .ok (.ifCond .eq 7, 3) := dk_153 0 7 (dk_at dksX0_bulbs_3 3 rfl rfl)
theorem dX0_bulbs_76 : decode cX0_bulbs 76 = .ok (.iconst 1, 1) := dk_4 (dk_at dksX0_bulbs_3 6 rfl rfl)
theorem dX0_bulbs_77 : decode cX0_bulbs 77 = .ok (.goto 4, 3) := dk_167 0 4 (dk_at dksX0_bulbs_3 7 rfl rfl)
theorem dX0_bulbs_80 : decode cX0_bulbs 80 = .ok (.iconst 0, 1) := dk_3 (dk_at dksX0_bulbs_3 10 rfl rfl)
theorem dX0_bulbs_81 : decode cX0_bulbs 81 = .ok (.iadd, 1) := dk_96 (dk_at dksX0_bulbs_3 11 rfl rfl)
theorem dX0_bulbs_82 : decode cX0_bulbs 82 = .ok (.istore_n 2, 1) := dk_61 (dk_at dksX0_bulbs_3 12 rfl rfl)
theorem dX0_bulbs_83 : decode cX0_bulbs 83 = .ok (.goto (-70), 3) := dk_167 255 186 (dk_at dksX0_bulbs_3 13 rfl rfl)
theorem dX0_bulbs_86 : decode cX0_bulbs 86 = .ok (.iload_n 2, 1) := dk_28 (dk_at dksX0_bulbs_3 16 rfl rfl)
theorem dX0_bulbs_87 : decode cX0_bulbs 87 = .ok (.ireturn, 1) := dk_172 (dk_at dksX0_bulbs_3 17 rfl rfl)
abbrev cX0_weights : ByteArray := prog_1_method_50_code
def yX0_weights : MethodName := ⟨RX0, "weights", "()I"⟩
def dkwX0_weights_1 : List UInt8 := [21, 4, 46, 54, 5, 27, 21, 5, 96, 60, 132, 4, 1, 167, 255, 236, 27, 172]
abbrev dktX0_weights_1 : List UInt8 := dkwX0_weights_1 ++ []
def dkwX0_weights_0 : List UInt8 := [3, 60, 42, 180, 0, 65, 180, 1, 71, 77, 44, 190, 62, 3, 54, 4, 21, 4, 29, 162, 0, 20, 44]
abbrev dktX0_weights_0 : List UInt8 := dkwX0_weights_0 ++ dktX0_weights_1
theorem dksX0_weights_0 : cX0_weights.data.toList.drop 0 = dktX0_weights_0 := by decide +kernel
theorem dksX0_weights_1 : cX0_weights.data.toList.drop 23 = dktX0_weights_1 := dk_seg dksX0_weights_0 23 rfl rfl
theorem dX0_weights_0 : decode cX0_weights 0 = .ok (.iconst 0, 1) := dk_3 (dk_at dksX0_weights_0 0 rfl rfl)
theorem dX0_weights_1 : decode cX0_weights 1 = .ok (.istore_n 1, 1) := dk_60 (dk_at dksX0_weights_0 1 rfl rfl)
theorem dX0_weights_2 : decode cX0_weights 2 = .ok (.aload_n 0, 1) := dk_42 (dk_at dksX0_weights_0 2 rfl rfl)
theorem dX0_weights_3 : decode cX0_weights 3 = .ok (.getfield 65, 3) := dk_180 0 65 (dk_at dksX0_weights_0 3 rfl rfl)
theorem dX0_weights_6 : decode cX0_weights 6 = .ok (.getfield 327, 3) := dk_180 1 71 (dk_at dksX0_weights_0 6 rfl rfl)
theorem dX0_weights_9 : decode cX0_weights 9 = .ok (.astore_n 2, 1) := dk_77 (dk_at dksX0_weights_0 9 rfl rfl)
theorem dX0_weights_10 : decode cX0_weights 10 = .ok (.aload_n 2, 1) := dk_44 (dk_at dksX0_weights_0 10 rfl rfl)
theorem dX0_weights_11 : decode cX0_weights 11 = .ok (.arraylength, 1) := dk_190 (dk_at dksX0_weights_0 11 rfl rfl)
theorem dX0_weights_12 : decode cX0_weights 12 = .ok (.istore_n 3, 1) := dk_62 (dk_at dksX0_weights_0 12 rfl rfl)
theorem dX0_weights_13 : decode cX0_weights 13 = .ok (.iconst 0, 1) := dk_3 (dk_at dksX0_weights_0 13 rfl rfl)
theorem dX0_weights_14 : decode cX0_weights 14 = .ok (.istore 4, 2) := dk_54 4 (dk_at dksX0_weights_0 14 rfl rfl)
theorem dX0_weights_16 : decode cX0_weights 16 = .ok (.iload 4, 2) := dk_21 4 (dk_at dksX0_weights_0 16 rfl rfl)
theorem dX0_weights_18 : decode cX0_weights 18 = .ok (.iload_n 3, 1) := dk_29 (dk_at dksX0_weights_0 18 rfl rfl)
theorem dX0_weights_19 : decode cX0_weights 19 = .ok (.if_icmp .ge 20, 3) := dk_162 0 20 (dk_at dksX0_weights_0 19 rfl rfl)
theorem dX0_weights_22 : decode cX0_weights 22 = .ok (.aload_n 2, 1) := dk_44 (dk_at dksX0_weights_0 22 rfl rfl)
theorem dX0_weights_23 : decode cX0_weights 23 = .ok (.iload 4, 2) := dk_21 4 (dk_at dksX0_weights_1 0 rfl rfl)
theorem dX0_weights_25 : decode cX0_weights 25 = .ok (.iaload, 1) := dk_46 (dk_at dksX0_weights_1 2 rfl rfl)
theorem dX0_weights_26 : decode cX0_weights 26 = .ok (.istore 5, 2) := dk_54 5 (dk_at dksX0_weights_1 3 rfl rfl)
theorem dX0_weights_28 : decode cX0_weights 28 = .ok (.iload_n 1, 1) := dk_27 (dk_at dksX0_weights_1 5 rfl rfl)
theorem dX0_weights_29 : decode cX0_weights 29 = .ok (.iload 5, 2) := dk_21 5 (dk_at dksX0_weights_1 6 rfl rfl)
theorem dX0_weights_31 : decode cX0_weights 31 = .ok (.iadd, 1) := dk_96 (dk_at dksX0_weights_1 8 rfl rfl)
theorem dX0_weights_32 : decode cX0_weights 32 = .ok (.istore_n 1, 1) := dk_60 (dk_at dksX0_weights_1 9 rfl rfl)
theorem dX0_weights_33 : decode cX0_weights 33 = .ok (.iinc 4 1, 3) := dk_132 4 1 (dk_at dksX0_weights_1 10 rfl rfl)
theorem dX0_weights_36 : decode cX0_weights 36 = .ok (.goto (-20), 3) := dk_167 255 236 (dk_at dksX0_weights_1 13 rfl rfl)
theorem dX0_weights_39 : decode cX0_weights 39 = .ok (.iload_n 1, 1) := dk_27 (dk_at dksX0_weights_1 16 rfl rfl)
theorem dX0_weights_40 : decode cX0_weights 40 = .ok (.ireturn, 1) := dk_172 (dk_at dksX0_weights_1 17 rfl rfl)
abbrev cX0_isWell : ByteArray := prog_1_method_52_code
def yX0_isWell : MethodName := ⟨RX0, "isWell", "()I"⟩
def dkwX0_isWell_12 : List UInt8 := [167, 255, 162, 132, 3, 1, 167, 255, 145, 4, 172]
abbrev dktX0_isWell_12 : List UInt8 := dkwX0_isWell_12 ++ []
def dkwX0_isWell_11 : List UInt8 := [25, 6, 44, 21, 4, 182, 0, 167, 192, 0, 213, 182, 1, 100, 159, 0, 5, 3, 172, 132, 4, 1]
abbrev dktX0_isWell_11 : List UInt8 := dkwX0_isWell_11 ++ dktX0_isWell_12
def dkwX0_isWell_10 : List UInt8 := [182, 0, 167, 192, 0, 213, 182, 1, 97, 42, 180, 0, 65, 25, 5, 44, 29, 182, 0, 167, 192, 0, 213]
abbrev dktX0_isWell_10 : List UInt8 := dkwX0_isWell_10 ++ dktX0_isWell_11
def dkwX0_isWell_9 : List UInt8 := [192, 0, 155, 58, 6, 42, 180, 0, 65, 25, 5, 44, 29, 182, 0, 167, 192, 0, 213, 25, 6, 44, 21, 4]
abbrev dktX0_isWell_9 : List UInt8 := dkwX0_isWell_9 ++ dktX0_isWell_10
def dkwX0_isWell_8 : List UInt8 := [182, 0, 231, 162, 0, 91, 43, 29, 182, 0, 167, 192, 0, 155, 58, 5, 43, 21, 4, 182, 0, 167]
abbrev dktX0_isWell_8 : List UInt8 := dkwX0_isWell_8 ++ dktX0_isWell_9
def dkwX0_isWell_7 : List UInt8 := [132, 3, 1, 167, 255, 224, 3, 62, 29, 43, 182, 0, 231, 162, 0, 109, 3, 54, 4, 21, 4, 43]
abbrev dktX0_isWell_7 : List UInt8 := dkwX0_isWell_7 ++ dktX0_isWell_8
def dkwX0_isWell_6 : List UInt8 := [162, 0, 30, 44, 42, 180, 0, 65, 43, 29, 182, 0, 167, 192, 0, 155, 182, 0, 208, 182, 1, 93, 54, 4]
abbrev dktX0_isWell_6 : List UInt8 := dkwX0_isWell_6 ++ dktX0_isWell_7
def dkwX0_isWell_5 : List UInt8 := [180, 0, 65, 182, 0, 227, 76, 187, 0, 141, 89, 183, 1, 92, 77, 3, 62, 29, 43, 182, 0, 231]
abbrev dktX0_isWell_5 : List UInt8 := dkwX0_isWell_5 ++ dktX0_isWell_6
def dkwX0_isWell_4 : List UInt8 := [180, 0, 171, 29, 130, 44, 180, 0, 171, 21, 4, 130, 126, 153, 0, 5, 3, 172, 167, 255, 158, 42]
abbrev dktX0_isWell_4 : List UInt8 := dkwX0_isWell_4 ++ dktX0_isWell_5
def dkwX0_isWell_3 : List UInt8 := [42, 180, 0, 65, 180, 0, 136, 44, 180, 0, 160, 182, 0, 167, 192, 0, 155, 180, 0, 171, 54, 4, 44]
abbrev dktX0_isWell_3 : List UInt8 := dkwX0_isWell_3 ++ dktX0_isWell_4
def dkwX0_isWell_2 : List UInt8 := [167, 255, 223, 42, 180, 0, 65, 180, 0, 136, 44, 180, 0, 157, 182, 0, 167, 192, 0, 155, 180, 0, 171, 62]
abbrev dktX0_isWell_2 : List UInt8 := dkwX0_isWell_2 ++ dktX0_isWell_3
def dkwX0_isWell_1 : List UInt8 := [185, 0, 152, 1, 0, 192, 0, 155, 77, 44, 182, 1, 43, 153, 255, 233, 44, 180, 0, 188, 153, 0, 6]
abbrev dktX0_isWell_1 : List UInt8 := dkwX0_isWell_1 ++ dktX0_isWell_2
def dkwX0_isWell_0 : List UInt8 := [42, 180, 0, 65, 180, 0, 136, 182, 0, 140, 76, 43, 185, 0, 146, 1, 0, 153, 0, 95, 43]
abbrev dktX0_isWell_0 : List UInt8 := dkwX0_isWell_0 ++ dktX0_isWell_1
theorem dksX0_isWell_0 : cX0_isWell.data.toList.drop 0 = dktX0_isWell_0 := by decide +kernel
theorem dksX0_isWell_1 : cX0_isWell.data.toList.drop 21 = dktX0_isWell_1 := dk_seg dksX0_isWell_0 21 rfl rfl
theorem dksX0_isWell_2 : cX0_isWell.data.toList.drop 44 = dktX0_isWell_2 := dk_seg dksX0_isWell_1 23 rfl rfl
theorem dksX0_isWell_3 : cX0_isWell.data.toList.drop 68 = dktX0_isWell_3 := dk_seg dksX0_isWell_2 24 rfl rfl
theorem dksX0_isWell_4 : cX0_isWell.data.toList.drop 91 = dktX0_isWell_4 := dk_seg dksX0_isWell_3 23 rfl rfl
theorem dksX0_isWell_5 : cX0_isWell.data.toList.drop 113 = dktX0_isWell_5 := dk_seg dksX0_isWell_4 22 rfl rfl
theorem dksX0_isWell_6 : cX0_isWell.data.toList.drop 135 = dktX0_isWell_6 := dk_seg dksX0_isWell_5 22 rfl rfl
theorem dksX0_isWell_7 : cX0_isWell.data.toList.drop 159 = dktX0_isWell_7 := dk_seg dksX0_isWell_6 24 rfl rfl
theorem dksX0_isWell_8 : cX0_isWell.data.toList.drop 181 = dktX0_isWell_8 := dk_seg dksX0_isWell_7 22 rfl rfl
theorem dksX0_isWell_9 : cX0_isWell.data.toList.drop 203 = dktX0_isWell_9 := dk_seg dksX0_isWell_8 22 rfl rfl
theorem dksX0_isWell_10 : cX0_isWell.data.toList.drop 227 = dktX0_isWell_10 := dk_seg dksX0_isWell_9 24 rfl rfl
theorem dksX0_isWell_11 : cX0_isWell.data.toList.drop 250 = dktX0_isWell_11 := dk_seg dksX0_isWell_10 23 rfl rfl
theorem dksX0_isWell_12 : cX0_isWell.data.toList.drop 272 = dktX0_isWell_12 := dk_seg dksX0_isWell_11 22 rfl rfl
theorem dX0_isWell_0 : decode cX0_isWell 0 = .ok (.aload_n 0, 1) := dk_42 (dk_at dksX0_isWell_0 0 rfl rfl)
theorem dX0_isWell_1 : decode cX0_isWell 1 = .ok (.getfield 65, 3) := dk_180 0 65 (dk_at dksX0_isWell_0 1 rfl rfl)
theorem dX0_isWell_4 : decode cX0_isWell 4 = .ok (.getfield 136, 3) := dk_180 0 136 (dk_at dksX0_isWell_0 4 rfl rfl)
theorem dX0_isWell_7 : decode cX0_isWell 7 = .ok (.invokevirtual 140, 3) := dk_182 0 140 (dk_at dksX0_isWell_0 7 rfl rfl)
theorem dX0_isWell_10 : decode cX0_isWell 10 = .ok (.astore_n 1, 1) := dk_76 (dk_at dksX0_isWell_0 10 rfl rfl)
theorem dX0_isWell_11 : decode cX0_isWell 11 = .ok (.aload_n 1, 1) := dk_43 (dk_at dksX0_isWell_0 11 rfl rfl)
theorem dX0_isWell_12 : decode cX0_isWell 12 = .ok (.invokeinterface 146 1, 5) := by decide +kernel
theorem dX0_isWell_17 : decode cX0_isWell 17 = .ok (.ifCond .eq 95, 3) := dk_153 0 95 (dk_at dksX0_isWell_0 17 rfl rfl)
theorem dX0_isWell_20 : decode cX0_isWell 20 = .ok (.aload_n 1, 1) := dk_43 (dk_at dksX0_isWell_0 20 rfl rfl)
theorem dX0_isWell_21 : decode cX0_isWell 21 = .ok (.invokeinterface 152 1, 5) := by decide +kernel
theorem dX0_isWell_26 : decode cX0_isWell 26 = .ok (.checkcast 155, 3) := dk_192 0 155 (dk_at dksX0_isWell_1 5 rfl rfl)
theorem dX0_isWell_29 : decode cX0_isWell 29 = .ok (.astore_n 2, 1) := dk_77 (dk_at dksX0_isWell_1 8 rfl rfl)
theorem dX0_isWell_30 : decode cX0_isWell 30 = .ok (.aload_n 2, 1) := dk_44 (dk_at dksX0_isWell_1 9 rfl rfl)
theorem dX0_isWell_31 : decode cX0_isWell 31 = .ok (.invokevirtual 299, 3) := dk_182 1 43 (dk_at dksX0_isWell_1 10 rfl rfl)
theorem dX0_isWell_34 : decode cX0_isWell 34 = .ok (.ifCond .eq (-23), 3) := dk_153 255 233 (dk_at dksX0_isWell_1 13 rfl rfl)
theorem dX0_isWell_37 : decode cX0_isWell 37 = .ok (.aload_n 2, 1) := dk_44 (dk_at dksX0_isWell_1 16 rfl rfl)
theorem dX0_isWell_38 : decode cX0_isWell 38 = .ok (.getfield 188, 3) := dk_180 0 188 (dk_at dksX0_isWell_1 17 rfl rfl)
theorem dX0_isWell_41 : decode cX0_isWell 41 = .ok (.ifCond .eq 6, 3) := dk_153 0 6 (dk_at dksX0_isWell_1 20 rfl rfl)
theorem dX0_isWell_44 : decode cX0_isWell 44 = .ok (.goto (-33), 3) := dk_167 255 223 (dk_at dksX0_isWell_2 0 rfl rfl)
theorem dX0_isWell_47 : decode cX0_isWell 47 = .ok (.aload_n 0, 1) := dk_42 (dk_at dksX0_isWell_2 3 rfl rfl)
theorem dX0_isWell_48 : decode cX0_isWell 48 = .ok (.getfield 65, 3) := dk_180 0 65 (dk_at dksX0_isWell_2 4 rfl rfl)
theorem dX0_isWell_51 : decode cX0_isWell 51 = .ok (.getfield 136, 3) := dk_180 0 136 (dk_at dksX0_isWell_2 7 rfl rfl)
theorem dX0_isWell_54 : decode cX0_isWell 54 = .ok (.aload_n 2, 1) := dk_44 (dk_at dksX0_isWell_2 10 rfl rfl)
theorem dX0_isWell_55 : decode cX0_isWell 55 = .ok (.getfield 157, 3) := dk_180 0 157 (dk_at dksX0_isWell_2 11 rfl rfl)
theorem dX0_isWell_58 : decode cX0_isWell 58 = .ok (.invokevirtual 167, 3) := dk_182 0 167 (dk_at dksX0_isWell_2 14 rfl rfl)
theorem dX0_isWell_61 : decode cX0_isWell 61 = .ok (.checkcast 155, 3) := dk_192 0 155 (dk_at dksX0_isWell_2 17 rfl rfl)
theorem dX0_isWell_64 : decode cX0_isWell 64 = .ok (.getfield 171, 3) := dk_180 0 171 (dk_at dksX0_isWell_2 20 rfl rfl)
theorem dX0_isWell_67 : decode cX0_isWell 67 = .ok (.istore_n 3, 1) := dk_62 (dk_at dksX0_isWell_2 23 rfl rfl)
theorem dX0_isWell_68 : decode cX0_isWell 68 = .ok (.aload_n 0, 1) := dk_42 (dk_at dksX0_isWell_3 0 rfl rfl)
theorem dX0_isWell_69 : decode cX0_isWell 69 = .ok (.getfield 65, 3) := dk_180 0 65 (dk_at dksX0_isWell_3 1 rfl rfl)
theorem dX0_isWell_72 : decode cX0_isWell 72 = .ok (.getfield 136, 3) := dk_180 0 136 (dk_at dksX0_isWell_3 4 rfl rfl)
theorem dX0_isWell_75 : decode cX0_isWell 75 = .ok (.aload_n 2, 1) := dk_44 (dk_at dksX0_isWell_3 7 rfl rfl)
theorem dX0_isWell_76 : decode cX0_isWell 76 = .ok (.getfield 160, 3) := dk_180 0 160 (dk_at dksX0_isWell_3 8 rfl rfl)
theorem dX0_isWell_79 : decode cX0_isWell 79 = .ok (.invokevirtual 167, 3) := dk_182 0 167 (dk_at dksX0_isWell_3 11 rfl rfl)
theorem dX0_isWell_82 : decode cX0_isWell 82 = .ok (.checkcast 155, 3) := dk_192 0 155 (dk_at dksX0_isWell_3 14 rfl rfl)
theorem dX0_isWell_85 : decode cX0_isWell 85 = .ok (.getfield 171, 3) := dk_180 0 171 (dk_at dksX0_isWell_3 17 rfl rfl)
theorem dX0_isWell_88 : decode cX0_isWell 88 = .ok (.istore 4, 2) := dk_54 4 (dk_at dksX0_isWell_3 20 rfl rfl)
theorem dX0_isWell_90 : decode cX0_isWell 90 = .ok (.aload_n 2, 1) := dk_44 (dk_at dksX0_isWell_3 22 rfl rfl)
theorem dX0_isWell_91 : decode cX0_isWell 91 = .ok (.getfield 171, 3) := dk_180 0 171 (dk_at dksX0_isWell_4 0 rfl rfl)
theorem dX0_isWell_94 : decode cX0_isWell 94 = .ok (.iload_n 3, 1) := dk_29 (dk_at dksX0_isWell_4 3 rfl rfl)
theorem dX0_isWell_95 : decode cX0_isWell 95 = .ok (.ixor, 1) := dk_130 (dk_at dksX0_isWell_4 4 rfl rfl)
theorem dX0_isWell_96 : decode cX0_isWell 96 = .ok (.aload_n 2, 1) := dk_44 (dk_at dksX0_isWell_4 5 rfl rfl)
theorem dX0_isWell_97 : decode cX0_isWell 97 = .ok (.getfield 171, 3) := dk_180 0 171 (dk_at dksX0_isWell_4 6 rfl rfl)
theorem dX0_isWell_100 : decode cX0_isWell 100 = .ok (.iload 4, 2) := dk_21 4 (dk_at dksX0_isWell_4 9 rfl rfl)
theorem dX0_isWell_102 : decode cX0_isWell 102 = .ok (.ixor, 1) := dk_130 (dk_at dksX0_isWell_4 11 rfl rfl)
theorem dX0_isWell_103 : decode cX0_isWell 103 = .ok (.iand, 1) := dk_126 (dk_at dksX0_isWell_4 12 rfl rfl)
theorem dX0_isWell_104 : decode cX0_isWell 104 = .ok (.ifCond .eq 5, 3) := dk_153 0 5 (dk_at dksX0_isWell_4 13 rfl rfl)
theorem dX0_isWell_107 : decode cX0_isWell 107 = .ok (.iconst 0, 1) := dk_3 (dk_at dksX0_isWell_4 16 rfl rfl)
theorem dX0_isWell_108 : decode cX0_isWell 108 = .ok (.ireturn, 1) := dk_172 (dk_at dksX0_isWell_4 17 rfl rfl)
theorem dX0_isWell_109 : decode cX0_isWell 109 = .ok (.goto (-98), 3) := dk_167 255 158 (dk_at dksX0_isWell_4 18 rfl rfl)
theorem dX0_isWell_112 : decode cX0_isWell 112 = .ok (.aload_n 0, 1) := dk_42 (dk_at dksX0_isWell_4 21 rfl rfl)
theorem dX0_isWell_113 : decode cX0_isWell 113 = .ok (.getfield 65, 3) := dk_180 0 65 (dk_at dksX0_isWell_5 0 rfl rfl)
theorem dX0_isWell_116 : decode cX0_isWell 116 = .ok (.invokevirtual 227, 3) := dk_182 0 227 (dk_at dksX0_isWell_5 3 rfl rfl)
theorem dX0_isWell_119 : decode cX0_isWell 119 = .ok (.astore_n 1, 1) := dk_76 (dk_at dksX0_isWell_5 6 rfl rfl)
theorem dX0_isWell_120 : decode cX0_isWell 120 = .ok (.new 141, 3) := dk_187 0 141 (dk_at dksX0_isWell_5 7 rfl rfl)
theorem dX0_isWell_123 : decode cX0_isWell 123 = .ok (.dup, 1) := dk_89 (dk_at dksX0_isWell_5 10 rfl rfl)
theorem dX0_isWell_124 : decode cX0_isWell 124 = .ok (.invokespecial 348, 3) := dk_183 1 92 (dk_at dksX0_isWell_5 11 rfl rfl)
theorem dX0_isWell_127 : decode cX0_isWell 127 = .ok (.astore_n 2, 1) := dk_77 (dk_at dksX0_isWell_5 14 rfl rfl)
theorem dX0_isWell_128 : decode cX0_isWell 128 = .ok (.iconst 0, 1) := dk_3 (dk_at dksX0_isWell_5 15 rfl rfl)
theorem dX0_isWell_129 : decode cX0_isWell 129 = .ok (.istore_n 3, 1) := dk_62 (dk_at dksX0_isWell_5 16 rfl rfl)
theorem dX0_isWell_130 : decode cX0_isWell 130 = .ok (.iload_n 3, 1) := dk_29 (dk_at dksX0_isWell_5 17 rfl rfl)
theorem dX0_isWell_131 : decode cX0_isWell 131 = .ok (.aload_n 1, 1) := dk_43 (dk_at dksX0_isWell_5 18 rfl rfl)
theorem dX0_isWell_132 : decode cX0_isWell 132 = .ok (.invokevirtual 231, 3) := dk_182 0 231 (dk_at dksX0_isWell_5 19 rfl rfl)
theorem dX0_isWell_135 : decode cX0_isWell 135 = .ok (.if_icmp .ge 30, 3) := dk_162 0 30 (dk_at dksX0_isWell_6 0 rfl rfl)
theorem dX0_isWell_138 : decode cX0_isWell 138 = .ok (.aload_n 2, 1) := dk_44 (dk_at dksX0_isWell_6 3 rfl rfl)
theorem dX0_isWell_139 : decode cX0_isWell 139 = .ok (.aload_n 0, 1) := dk_42 (dk_at dksX0_isWell_6 4 rfl rfl)
theorem dX0_isWell_140 : decode cX0_isWell 140 = .ok (.getfield 65, 3) := dk_180 0 65 (dk_at dksX0_isWell_6 5 rfl rfl)
theorem dX0_isWell_143 : decode cX0_isWell 143 = .ok (.aload_n 1, 1) := dk_43 (dk_at dksX0_isWell_6 8 rfl rfl)
theorem dX0_isWell_144 : decode cX0_isWell 144 = .ok (.iload_n 3, 1) := dk_29 (dk_at dksX0_isWell_6 9 rfl rfl)
theorem dX0_isWell_145 : decode cX0_isWell 145 = .ok (.invokevirtual 167, 3) := dk_182 0 167 (dk_at dksX0_isWell_6 10 rfl rfl)
theorem dX0_isWell_148 : decode cX0_isWell 148 = .ok (.checkcast 155, 3) := dk_192 0 155 (dk_at dksX0_isWell_6 13 rfl rfl)
theorem dX0_isWell_151 : decode cX0_isWell 151 = .ok (.invokevirtual 208, 3) := dk_182 0 208 (dk_at dksX0_isWell_6 16 rfl rfl)
theorem dX0_isWell_154 : decode cX0_isWell 154 = .ok (.invokevirtual 349, 3) := dk_182 1 93 (dk_at dksX0_isWell_6 19 rfl rfl)
theorem dX0_isWell_157 : decode cX0_isWell 157 = .ok (.istore 4, 2) := dk_54 4 (dk_at dksX0_isWell_6 22 rfl rfl)
theorem dX0_isWell_159 : decode cX0_isWell 159 = .ok (.iinc 3 1, 3) := dk_132 3 1 (dk_at dksX0_isWell_7 0 rfl rfl)
theorem dX0_isWell_162 : decode cX0_isWell 162 = .ok (.goto (-32), 3) := dk_167 255 224 (dk_at dksX0_isWell_7 3 rfl rfl)
theorem dX0_isWell_165 : decode cX0_isWell 165 = .ok (.iconst 0, 1) := dk_3 (dk_at dksX0_isWell_7 6 rfl rfl)
theorem dX0_isWell_166 : decode cX0_isWell 166 = .ok (.istore_n 3, 1) := dk_62 (dk_at dksX0_isWell_7 7 rfl rfl)
theorem dX0_isWell_167 : decode cX0_isWell 167 = .ok (.iload_n 3, 1) := dk_29 (dk_at dksX0_isWell_7 8 rfl rfl)
theorem dX0_isWell_168 : decode cX0_isWell 168 = .ok (.aload_n 1, 1) := dk_43 (dk_at dksX0_isWell_7 9 rfl rfl)
theorem dX0_isWell_169 : decode cX0_isWell 169 = .ok (.invokevirtual 231, 3) := dk_182 0 231 (dk_at dksX0_isWell_7 10 rfl rfl)
theorem dX0_isWell_172 : decode cX0_isWell 172 = .ok (.if_icmp .ge 109, 3) := dk_162 0 109 (dk_at dksX0_isWell_7 13 rfl rfl)
theorem dX0_isWell_175 : decode cX0_isWell 175 = .ok (.iconst 0, 1) := dk_3 (dk_at dksX0_isWell_7 16 rfl rfl)
theorem dX0_isWell_176 : decode cX0_isWell 176 = .ok (.istore 4, 2) := dk_54 4 (dk_at dksX0_isWell_7 17 rfl rfl)
theorem dX0_isWell_178 : decode cX0_isWell 178 = .ok (.iload 4, 2) := dk_21 4 (dk_at dksX0_isWell_7 19 rfl rfl)
theorem dX0_isWell_180 : decode cX0_isWell 180 = .ok (.aload_n 1, 1) := dk_43 (dk_at dksX0_isWell_7 21 rfl rfl)
theorem dX0_isWell_181 : decode cX0_isWell 181 = .ok (.invokevirtual 231, 3) := dk_182 0 231 (dk_at dksX0_isWell_8 0 rfl rfl)
theorem dX0_isWell_184 : decode cX0_isWell 184 = .ok (.if_icmp .ge 91, 3) := dk_162 0 91 (dk_at dksX0_isWell_8 3 rfl rfl)
theorem dX0_isWell_187 : decode cX0_isWell 187 = .ok (.aload_n 1, 1) := dk_43 (dk_at dksX0_isWell_8 6 rfl rfl)
theorem dX0_isWell_188 : decode cX0_isWell 188 = .ok (.iload_n 3, 1) := dk_29 (dk_at dksX0_isWell_8 7 rfl rfl)
theorem dX0_isWell_189 : decode cX0_isWell 189 = .ok (.invokevirtual 167, 3) := dk_182 0 167 (dk_at dksX0_isWell_8 8 rfl rfl)
theorem dX0_isWell_192 : decode cX0_isWell 192 = .ok (.checkcast 155, 3) := dk_192 0 155 (dk_at dksX0_isWell_8 11 rfl rfl)
theorem dX0_isWell_195 : decode cX0_isWell 195 = .ok (.astore 5, 2) := dk_58 5 (dk_at dksX0_isWell_8 14 rfl rfl)
theorem dX0_isWell_197 : decode cX0_isWell 197 = .ok (.aload_n 1, 1) := dk_43 (dk_at dksX0_isWell_8 16 rfl rfl)
theorem dX0_isWell_198 : decode cX0_isWell 198 = .ok (.iload 4, 2) := dk_21 4 (dk_at dksX0_isWell_8 17 rfl rfl)
theorem dX0_isWell_200 : decode cX0_isWell 200 = .ok (.invokevirtual 167, 3) := dk_182 0 167 (dk_at dksX0_isWell_8 19 rfl rfl)
theorem dX0_isWell_203 : decode cX0_isWell 203 = .ok (.checkcast 155, 3) := dk_192 0 155 (dk_at dksX0_isWell_9 0 rfl rfl)
theorem dX0_isWell_206 : decode cX0_isWell 206 = .ok (.astore 6, 2) := dk_58 6 (dk_at dksX0_isWell_9 3 rfl rfl)
theorem dX0_isWell_208 : decode cX0_isWell 208 = .ok (.aload_n 0, 1) := dk_42 (dk_at dksX0_isWell_9 5 rfl rfl)
theorem dX0_isWell_209 : decode cX0_isWell 209 = .ok (.getfield 65, 3) := dk_180 0 65 (dk_at dksX0_isWell_9 6 rfl rfl)
theorem dX0_isWell_212 : decode cX0_isWell 212 = .ok (.aload 5, 2) := dk_25 5 (dk_at dksX0_isWell_9 9 rfl rfl)
theorem dX0_isWell_214 : decode cX0_isWell 214 = .ok (.aload_n 2, 1) := dk_44 (dk_at dksX0_isWell_9 11 rfl rfl)
theorem dX0_isWell_215 : decode cX0_isWell 215 = .ok (.iload_n 3, 1) := dk_29 (dk_at dksX0_isWell_9 12 rfl rfl)
theorem dX0_isWell_216 : decode cX0_isWell 216 = .ok (.invokevirtual 167, 3) := dk_182 0 167 (dk_at dksX0_isWell_9 13 rfl rfl)
theorem dX0_isWell_219 : decode cX0_isWell 219 = .ok (.checkcast 213, 3) := dk_192 0 213 (dk_at dksX0_isWell_9 16 rfl rfl)
theorem dX0_isWell_222 : decode cX0_isWell 222 = .ok (.aload 6, 2) := dk_25 6 (dk_at dksX0_isWell_9 19 rfl rfl)
theorem dX0_isWell_224 : decode cX0_isWell 224 = .ok (.aload_n 2, 1) := dk_44 (dk_at dksX0_isWell_9 21 rfl rfl)
theorem dX0_isWell_225 : decode cX0_isWell 225 = .ok (.iload 4, 2) := dk_21 4 (dk_at dksX0_isWell_9 22 rfl rfl)
theorem dX0_isWell_227 : decode cX0_isWell 227 = .ok (.invokevirtual 167, 3) := dk_182 0 167 (dk_at dksX0_isWell_10 0 rfl rfl)
theorem dX0_isWell_230 : decode cX0_isWell 230 = .ok (.checkcast 213, 3) := dk_192 0 213 (dk_at dksX0_isWell_10 3 rfl rfl)
theorem dX0_isWell_233 : decode cX0_isWell 233 = .ok (.invokevirtual 353, 3) := dk_182 1 97 (dk_at dksX0_isWell_10 6 rfl rfl)
theorem dX0_isWell_236 : decode cX0_isWell 236 = .ok (.aload_n 0, 1) := dk_42 (dk_at dksX0_isWell_10 9 rfl rfl)
theorem dX0_isWell_237 : decode cX0_isWell 237 = .ok (.getfield 65, 3) := dk_180 0 65 (dk_at dksX0_isWell_10 10 rfl rfl)
theorem dX0_isWell_240 : decode cX0_isWell 240 = .ok (.aload 5, 2) := dk_25 5 (dk_at dksX0_isWell_10 13 rfl rfl)
theorem dX0_isWell_242 : decode cX0_isWell 242 = .ok (.aload_n 2, 1) := dk_44 (dk_at dksX0_isWell_10 15 rfl rfl)
theorem dX0_isWell_243 : decode cX0_isWell 243 = .ok (.iload_n 3, 1) := dk_29 (dk_at dksX0_isWell_10 16 rfl rfl)
theorem dX0_isWell_244 : decode cX0_isWell 244 = .ok (.invokevirtual 167, 3) := dk_182 0 167 (dk_at dksX0_isWell_10 17 rfl rfl)
theorem dX0_isWell_247 : decode cX0_isWell 247 = .ok (.checkcast 213, 3) := dk_192 0 213 (dk_at dksX0_isWell_10 20 rfl rfl)
theorem dX0_isWell_250 : decode cX0_isWell 250 = .ok (.aload 6, 2) := dk_25 6 (dk_at dksX0_isWell_11 0 rfl rfl)
theorem dX0_isWell_252 : decode cX0_isWell 252 = .ok (.aload_n 2, 1) := dk_44 (dk_at dksX0_isWell_11 2 rfl rfl)
theorem dX0_isWell_253 : decode cX0_isWell 253 = .ok (.iload 4, 2) := dk_21 4 (dk_at dksX0_isWell_11 3 rfl rfl)
theorem dX0_isWell_255 : decode cX0_isWell 255 = .ok (.invokevirtual 167, 3) := dk_182 0 167 (dk_at dksX0_isWell_11 5 rfl rfl)
theorem dX0_isWell_258 : decode cX0_isWell 258 = .ok (.checkcast 213, 3) := dk_192 0 213 (dk_at dksX0_isWell_11 8 rfl rfl)
theorem dX0_isWell_261 : decode cX0_isWell 261 = .ok (.invokevirtual 356, 3) := dk_182 1 100 (dk_at dksX0_isWell_11 11 rfl rfl)
theorem dX0_isWell_264 : decode cX0_isWell 264 = .ok (.if_icmp .eq 5, 3) := dk_159 0 5 (dk_at dksX0_isWell_11 14 rfl rfl)
theorem dX0_isWell_267 : decode cX0_isWell 267 = .ok (.iconst 0, 1) := dk_3 (dk_at dksX0_isWell_11 17 rfl rfl)
theorem dX0_isWell_268 : decode cX0_isWell 268 = .ok (.ireturn, 1) := dk_172 (dk_at dksX0_isWell_11 18 rfl rfl)
theorem dX0_isWell_269 : decode cX0_isWell 269 = .ok (.iinc 4 1, 3) := dk_132 4 1 (dk_at dksX0_isWell_11 19 rfl rfl)
theorem dX0_isWell_272 : decode cX0_isWell 272 = .ok (.goto (-94), 3) := dk_167 255 162 (dk_at dksX0_isWell_12 0 rfl rfl)
theorem dX0_isWell_275 : decode cX0_isWell 275 = .ok (.iinc 3 1, 3) := dk_132 3 1 (dk_at dksX0_isWell_12 3 rfl rfl)
theorem dX0_isWell_278 : decode cX0_isWell 278 = .ok (.goto (-111), 3) := dk_167 255 145 (dk_at dksX0_isWell_12 6 rfl rfl)
theorem dX0_isWell_281 : decode cX0_isWell 281 = .ok (.iconst 1, 1) := dk_4 (dk_at dksX0_isWell_12 9 rfl rfl)
theorem dX0_isWell_282 : decode cX0_isWell 282 = .ok (.ireturn, 1) := dk_172 (dk_at dksX0_isWell_12 10 rfl rfl)
abbrev cX0_mean : ByteArray := prog_1_method_53_code
def yX0_mean : MethodName := ⟨RX0, "mean", "()I"⟩
def dkwX0_mean_3 : List UInt8 := [27, 134, 110, 184, 1, 102, 172]
abbrev dktX0_mean_3 : List UInt8 := dkwX0_mean_3 ++ []
def dkwX0_mean_2 : List UInt8 := [25, 4, 180, 0, 171, 182, 0, 174, 96, 61, 167, 255, 221, 27, 154, 0, 8, 16, 252, 167, 0, 11, 28, 134]
abbrev dktX0_mean_2 : List UInt8 := dkwX0_mean_2 ++ dktX0_mean_3
def dkwX0_mean_1 : List UInt8 := [185, 0, 146, 1, 0, 153, 0, 32, 45, 185, 0, 152, 1, 0, 192, 0, 155, 58, 4, 28, 42, 180, 0, 65]
abbrev dktX0_mean_1 : List UInt8 := dkwX0_mean_1 ++ dktX0_mean_2
def dkwX0_mean_0 : List UInt8 := [42, 180, 0, 65, 182, 1, 75, 60, 3, 61, 42, 180, 0, 65, 182, 0, 227, 182, 0, 140, 78, 45]
abbrev dktX0_mean_0 : List UInt8 := dkwX0_mean_0 ++ dktX0_mean_1
theorem dksX0_mean_0 : cX0_mean.data.toList.drop 0 = dktX0_mean_0 := by decide +kernel
theorem dksX0_mean_1 : cX0_mean.data.toList.drop 22 = dktX0_mean_1 := dk_seg dksX0_mean_0 22 rfl rfl
theorem dksX0_mean_2 : cX0_mean.data.toList.drop 46 = dktX0_mean_2 := dk_seg dksX0_mean_1 24 rfl rfl
theorem dksX0_mean_3 : cX0_mean.data.toList.drop 70 = dktX0_mean_3 := dk_seg dksX0_mean_2 24 rfl rfl
theorem dX0_mean_0 : decode cX0_mean 0 = .ok (.aload_n 0, 1) := dk_42 (dk_at dksX0_mean_0 0 rfl rfl)
theorem dX0_mean_1 : decode cX0_mean 1 = .ok (.getfield 65, 3) := dk_180 0 65 (dk_at dksX0_mean_0 1 rfl rfl)
theorem dX0_mean_4 : decode cX0_mean 4 = .ok (.invokevirtual 331, 3) := dk_182 1 75 (dk_at dksX0_mean_0 4 rfl rfl)
theorem dX0_mean_7 : decode cX0_mean 7 = .ok (.istore_n 1, 1) := dk_60 (dk_at dksX0_mean_0 7 rfl rfl)
theorem dX0_mean_8 : decode cX0_mean 8 = .ok (.iconst 0, 1) := dk_3 (dk_at dksX0_mean_0 8 rfl rfl)
theorem dX0_mean_9 : decode cX0_mean 9 = .ok (.istore_n 2, 1) := dk_61 (dk_at dksX0_mean_0 9 rfl rfl)
theorem dX0_mean_10 : decode cX0_mean 10 = .ok (.aload_n 0, 1) := dk_42 (dk_at dksX0_mean_0 10 rfl rfl)
theorem dX0_mean_11 : decode cX0_mean 11 = .ok (.getfield 65, 3) := dk_180 0 65 (dk_at dksX0_mean_0 11 rfl rfl)
theorem dX0_mean_14 : decode cX0_mean 14 = .ok (.invokevirtual 227, 3) := dk_182 0 227 (dk_at dksX0_mean_0 14 rfl rfl)
theorem dX0_mean_17 : decode cX0_mean 17 = .ok (.invokevirtual 140, 3) := dk_182 0 140 (dk_at dksX0_mean_0 17 rfl rfl)
theorem dX0_mean_20 : decode cX0_mean 20 = .ok (.astore_n 3, 1) := dk_78 (dk_at dksX0_mean_0 20 rfl rfl)
theorem dX0_mean_21 : decode cX0_mean 21 = .ok (.aload_n 3, 1) := dk_45 (dk_at dksX0_mean_0 21 rfl rfl)
theorem dX0_mean_22 : decode cX0_mean 22 = .ok (.invokeinterface 146 1, 5) := by decide +kernel
theorem dX0_mean_27 : decode cX0_mean 27 = .ok (.ifCond .eq 32, 3) := dk_153 0 32 (dk_at dksX0_mean_1 5 rfl rfl)
theorem dX0_mean_30 : decode cX0_mean 30 = .ok (.aload_n 3, 1) := dk_45 (dk_at dksX0_mean_1 8 rfl rfl)
theorem dX0_mean_31 : decode cX0_mean 31 = .ok (.invokeinterface 152 1, 5) := by decide +kernel
theorem dX0_mean_36 : decode cX0_mean 36 = .ok (.checkcast 155, 3) := dk_192 0 155 (dk_at dksX0_mean_1 14 rfl rfl)
theorem dX0_mean_39 : decode cX0_mean 39 = .ok (.astore 4, 2) := dk_58 4 (dk_at dksX0_mean_1 17 rfl rfl)
theorem dX0_mean_41 : decode cX0_mean 41 = .ok (.iload_n 2, 1) := dk_28 (dk_at dksX0_mean_1 19 rfl rfl)
theorem dX0_mean_42 : decode cX0_mean 42 = .ok (.aload_n 0, 1) := dk_42 (dk_at dksX0_mean_1 20 rfl rfl)
theorem dX0_mean_43 : decode cX0_mean 43 = .ok (.getfield 65, 3) := dk_180 0 65 (dk_at dksX0_mean_1 21 rfl rfl)
theorem dX0_mean_46 : decode cX0_mean 46 = .ok (.aload 4, 2) := dk_25 4 (dk_at dksX0_mean_2 0 rfl rfl)
theorem dX0_mean_48 : decode cX0_mean 48 = .ok (.getfield 171, 3) := dk_180 0 171 (dk_at dksX0_mean_2 2 rfl rfl)
theorem dX0_mean_51 : decode cX0_mean 51 = .ok (.invokevirtual 174, 3) := dk_182 0 174 (dk_at dksX0_mean_2 5 rfl rfl)
theorem dX0_mean_54 : decode cX0_mean 54 = .ok (.iadd, 1) := dk_96 (dk_at dksX0_mean_2 8 rfl rfl)
theorem dX0_mean_55 : decode cX0_mean 55 = .ok (.istore_n 2, 1) := dk_61 (dk_at dksX0_mean_2 9 rfl rfl)
theorem dX0_mean_56 : decode cX0_mean 56 = .ok (.goto (-35), 3) := dk_167 255 221 (dk_at dksX0_mean_2 10 rfl rfl)
theorem dX0_mean_59 : decode cX0_mean 59 = .ok (.iload_n 1, 1) := dk_27 (dk_at dksX0_mean_2 13 rfl rfl)
theorem dX0_mean_60 : decode cX0_mean 60 = .ok (.ifCond .ne 8, 3) := dk_154 0 8 (dk_at dksX0_mean_2 14 rfl rfl)
theorem dX0_mean_63 : decode cX0_mean 63 = .ok (.bipush (-4), 2) := dk_16 252 (dk_at dksX0_mean_2 17 rfl rfl)
theorem dX0_mean_65 : decode cX0_mean 65 = .ok (.goto 11, 3) := dk_167 0 11 (dk_at dksX0_mean_2 19 rfl rfl)
theorem dX0_mean_68 : decode cX0_mean 68 = .ok (.iload_n 2, 1) := dk_28 (dk_at dksX0_mean_2 22 rfl rfl)
theorem dX0_mean_69 : decode cX0_mean 69 = .ok (.i2f, 1) := dk_134 (dk_at dksX0_mean_2 23 rfl rfl)
theorem dX0_mean_70 : decode cX0_mean 70 = .ok (.iload_n 1, 1) := dk_27 (dk_at dksX0_mean_3 0 rfl rfl)
theorem dX0_mean_71 : decode cX0_mean 71 = .ok (.i2f, 1) := dk_134 (dk_at dksX0_mean_3 1 rfl rfl)
theorem dX0_mean_72 : decode cX0_mean 72 = .ok (.fdiv, 1) := dk_110 (dk_at dksX0_mean_3 2 rfl rfl)
theorem dX0_mean_73 : decode cX0_mean 73 = .ok (.invokestatic 358, 3) := dk_184 1 102 (dk_at dksX0_mean_3 3 rfl rfl)
theorem dX0_mean_76 : decode cX0_mean 76 = .ok (.ireturn, 1) := dk_172 (dk_at dksX0_mean_3 6 rfl rfl)
abbrev cX0_undo : ByteArray := prog_1_method_54_code
def yX0_undo : MethodName := ⟨RX0, "undo", "()I"⟩
def dkwX0_undo_1 : List UInt8 := [181, 0, 65, 42, 180, 0, 12, 182, 0, 18, 172]
abbrev dktX0_undo_1 : List UInt8 := dkwX0_undo_1 ++ []
def dkwX0_undo_0 : List UInt8 := [42, 180, 0, 12, 182, 1, 108, 153, 0, 6, 16, 252, 172, 42, 42, 180, 0, 12, 182, 1, 109, 192, 0, 28]
abbrev dktX0_undo_0 : List UInt8 := dkwX0_undo_0 ++ dktX0_undo_1
theorem dksX0_undo_0 : cX0_undo.data.toList.drop 0 = dktX0_undo_0 := by decide +kernel
theorem dksX0_undo_1 : cX0_undo.data.toList.drop 24 = dktX0_undo_1 := dk_seg dksX0_undo_0 24 rfl rfl
theorem dX0_undo_0 : decode cX0_undo 0 = .ok (.aload_n 0, 1) := dk_42 (dk_at dksX0_undo_0 0 rfl rfl)
theorem dX0_undo_1 : decode cX0_undo 1 = .ok (.getfield 12, 3) := dk_180 0 12 (dk_at dksX0_undo_0 1 rfl rfl)
theorem dX0_undo_4 : decode cX0_undo 4 = .ok (.invokevirtual 364, 3) := dk_182 1 108 (dk_at dksX0_undo_0 4 rfl rfl)
theorem dX0_undo_7 : decode cX0_undo 7 = .ok (.ifCond .eq 6, 3) := dk_153 0 6 (dk_at dksX0_undo_0 7 rfl rfl)
theorem dX0_undo_10 : decode cX0_undo 10 = .ok (.bipush (-4), 2) := dk_16 252 (dk_at dksX0_undo_0 10 rfl rfl)
theorem dX0_undo_12 : decode cX0_undo 12 = .ok (.ireturn, 1) := dk_172 (dk_at dksX0_undo_0 12 rfl rfl)
theorem dX0_undo_13 : decode cX0_undo 13 = .ok (.aload_n 0, 1) := dk_42 (dk_at dksX0_undo_0 13 rfl rfl)
theorem dX0_undo_14 : decode cX0_undo 14 = .ok (.aload_n 0, 1) := dk_42 (dk_at dksX0_undo_0 14 rfl rfl)
theorem dX0_undo_15 : decode cX0_undo 15 = .ok (.getfield 12, 3) := dk_180 0 12 (dk_at dksX0_undo_0 15 rfl rfl)
theorem dX0_undo_18 : decode cX0_undo 18 = .ok (.invokevirtual 365, 3) := dk_182 1 109 (dk_at dksX0_undo_0 18 rfl rfl)
theorem dX0_undo_21 : decode cX0_undo 21 = .ok (.checkcast 28, 3) := dk_192 0 28 (dk_at dksX0_undo_0 21 rfl rfl)
theorem dX0_undo_24 : decode cX0_undo 24 = .ok (.putfield 65, 3) := dk_181 0 65 (dk_at dksX0_undo_1 0 rfl rfl)
theorem dX0_undo_27 : decode cX0_undo 27 = .ok (.aload_n 0, 1) := dk_42 (dk_at dksX0_undo_1 3 rfl rfl)
theorem dX0_undo_28 : decode cX0_undo 28 = .ok (.getfield 12, 3) := dk_180 0 12 (dk_at dksX0_undo_1 4 rfl rfl)
theorem dX0_undo_31 : decode cX0_undo 31 = .ok (.invokevirtual 18, 3) := dk_182 0 18 (dk_at dksX0_undo_1 7 rfl rfl)
theorem dX0_undo_34 : decode cX0_undo 34 = .ok (.ireturn, 1) := dk_172 (dk_at dksX0_undo_1 10 rfl rfl)
abbrev cX0_save : ByteArray := prog_1_method_55_code
def yX0_save : MethodName := ⟨RX0, "save", "()I"⟩
def dkwX0_save_0 : List UInt8 := [42, 187, 0, 28, 89, 42, 180, 0, 65, 183, 0, 69, 181, 1, 112, 42, 180, 0, 65, 182, 1, 75, 172]
abbrev dktX0_save_0 : List UInt8 := dkwX0_save_0 ++ []
theorem dksX0_save_0 : cX0_save.data.toList.drop 0 = dktX0_save_0 := by decide +kernel
theorem dX0_save_0 : decode cX0_save 0 = .ok (.aload_n 0, 1) := dk_42 (dk_at dksX0_save_0 0 rfl rfl)
theorem dX0_save_1 : decode cX0_save 1 = .ok (.new 28, 3) := dk_187 0 28 (dk_at dksX0_save_0 1 rfl rfl)
theorem dX0_save_4 : decode cX0_save 4 = .ok (.dup, 1) := dk_89 (dk_at dksX0_save_0 4 rfl rfl)
theorem dX0_save_5 : decode cX0_save 5 = .ok (.aload_n 0, 1) := dk_42 (dk_at dksX0_save_0 5 rfl rfl)
theorem dX0_save_6 : decode cX0_save 6 = .ok (.getfield 65, 3) := dk_180 0 65 (dk_at dksX0_save_0 6 rfl rfl)
theorem dX0_save_9 : decode cX0_save 9 = .ok (.invokespecial 69, 3) := dk_183 0 69 (dk_at dksX0_save_0 9 rfl rfl)
theorem dX0_save_12 : decode cX0_save 12 = .ok (.putfield 368, 3) := dk_181 1 112 (dk_at dksX0_save_0 12 rfl rfl)
theorem dX0_save_15 : decode cX0_save 15 = .ok (.aload_n 0, 1) := dk_42 (dk_at dksX0_save_0 15 rfl rfl)
theorem dX0_save_16 : decode cX0_save 16 = .ok (.getfield 65, 3) := dk_180 0 65 (dk_at dksX0_save_0 16 rfl rfl)
theorem dX0_save_19 : decode cX0_save 19 = .ok (.invokevirtual 331, 3) := dk_182 1 75 (dk_at dksX0_save_0 19 rfl rfl)
theorem dX0_save_22 : decode cX0_save 22 = .ok (.ireturn, 1) := dk_172 (dk_at dksX0_save_0 22 rfl rfl)
abbrev cX0_restore : ByteArray := prog_1_method_56_code
def yX0_restore : MethodName := ⟨RX0, "restore", "()I"⟩
def dkwX0_restore_1 : List UInt8 := [181, 0, 65, 42, 180, 0, 12, 182, 1, 115, 42, 180, 0, 65, 182, 1, 75, 172]
abbrev dktX0_restore_1 : List UInt8 := dkwX0_restore_1 ++ []
def dkwX0_restore_0 : List UInt8 := [42, 180, 1, 112, 199, 0, 6, 16, 252, 172, 42, 187, 0, 28, 89, 42, 180, 1, 112, 183, 0, 69]
abbrev dktX0_restore_0 : List UInt8 := dkwX0_restore_0 ++ dktX0_restore_1
theorem dksX0_restore_0 : cX0_restore.data.toList.drop 0 = dktX0_restore_0 := by decide +kernel
theorem dksX0_restore_1 : cX0_restore.data.toList.drop 22 = dktX0_restore_1 := dk_seg dksX0_restore_0 22 rfl rfl
theorem dX0_restore_0 : decode cX0_restore 0 = .ok (.aload_n 0, 1) := dk_42 (dk_at dksX0_restore_0 0 rfl rfl)
theorem dX0_restore_1 : decode cX0_restore 1 = .ok (.getfield 368, 3) := dk_180 1 112 (dk_at dksX0_restore_0 1 rfl rfl)
theorem dX0_restore_4 : decode cX0_restore 4 = .ok (.ifnonnull 6, 3) := dk_199 0 6 (dk_at dksX0_restore_0 4 rfl rfl)
theorem dX0_restore_7 : decode cX0_restore 7 = .ok (.bipush (-4), 2) := dk_16 252 (dk_at dksX0_restore_0 7 rfl rfl)
theorem dX0_restore_9 : decode cX0_restore 9 = .ok (.ireturn, 1) := dk_172 (dk_at dksX0_restore_0 9 rfl rfl)
theorem dX0_restore_10 : decode cX0_restore 10 = .ok (.aload_n 0, 1) := dk_42 (dk_at dksX0_restore_0 10 rfl rfl)
theorem dX0_restore_11 : decode cX0_restore 11 = .ok (.new 28, 3) := dk_187 0 28 (dk_at dksX0_restore_0 11 rfl rfl)
theorem dX0_restore_14 : decode cX0_restore 14 = .ok (.dup, 1) := dk_89 (dk_at dksX0_restore_0 14 rfl rfl)
theorem dX0_restore_15 : decode cX0_restore 15 = .ok (.aload_n 0, 1) := dk_42 (dk_at dksX0_restore_0 15 rfl rfl)
theorem dX0_restore_16 : decode cX0_restore 16 = .ok (.getfield 368, 3) := dk_180 1 112 (dk_at dksX0_restore_0 16 rfl rfl)
theorem dX0_restore_19 : decode cX0_restore 19 = .ok (.invokespecial 69, 3) := dk_183 0 69 (dk_at dksX0_restore_0 19 rfl rfl)
theorem dX0_restore_22 : decode cX0_restore 22 = .ok (.putfield 65, 3) := dk_181 0 65 (dk_at dksX0_restore_1 0 rfl rfl)
theorem dX0_restore_25 : decode cX0_restore 25 = .ok (.aload_n 0, 1) := dk_42 (dk_at dksX0_restore_1 3 rfl rfl)
theorem dX0_restore_26 : decode cX0_restore 26 = .ok (.getfield 12, 3) := dk_180 0 12 (dk_at dksX0_restore_1 4 rfl rfl)
theorem dX0_restore_29 : decode cX0_restore 29 = .ok (.invokevirtual 371, 3) := dk_182 1 115 (dk_at dksX0_restore_1 7 rfl rfl)
theorem dX0_restore_32 : decode cX0_restore 32 = .ok (.aload_n 0, 1) := dk_42 (dk_at dksX0_restore_1 10 rfl rfl)
theorem dX0_restore_33 : decode cX0_restore 33 = .ok (.getfield 65, 3) := dk_180 0 65 (dk_at dksX0_restore_1 11 rfl rfl)
theorem dX0_restore_36 : decode cX0_restore 36 = .ok (.invokevirtual 331, 3) := dk_182 1 75 (dk_at dksX0_restore_1 14 rfl rfl)
theorem dX0_restore_39 : decode cX0_restore 39 = .ok (.ireturn, 1) := dk_172 (dk_at dksX0_restore_1 17 rfl rfl)
theorem q69 : (Jvm.Cond.initialized "TulipLines") ∈ lw_all := lw_g (lw_at lw_m1 1 rfl) rfl
theorem q103 : (Jvm.Cond.instantiable "TulipLines" (8 : Nat)) ∈ lw_all := lw_g (lw_at lw_m1 35 rfl) rfl
theorem q105 : (Jvm.Cond.instanceMethod ({ cls := "TulipLines", name := "<init>", desc := "()V" } : Jvm.MethodName)) ∈ lw_all := lw_g (lw_at lw_m1 37 rfl) rfl
theorem q106 : (Jvm.Cond.code ({ cls := "TulipLines", name := "<init>", desc := "()V" } : Jvm.MethodName) prog_1_method_16_code (1 : Nat) (Option.none : Option Jvm.ClassFile.FieldType)) ∈ lw_all := lw_g (lw_at lw_m1 38 rfl) rfl
theorem q107 : (Jvm.Cond.methodLink "TulipLines" (87 : Nat) ({ cls := "java/lang/Object", name := "<init>", desc := "()V" } : Jvm.MethodName)) ∈ lw_all := lw_g (lw_at lw_m1 39 rfl) rfl
theorem q110 : (Jvm.Cond.classLink "TulipLines" (28 : Nat) "TulipLines$Bed") ∈ lw_all := lw_g (lw_at lw_m1 42 rfl) rfl
theorem q112 : (Jvm.Cond.methodLink "TulipLines" (92 : Nat) ({ cls := "TulipLines$Bed", name := "<init>", desc := "()V" } : Jvm.MethodName)) ∈ lw_all := lw_g (lw_at lw_m1 44 rfl) rfl
theorem q146 : (Jvm.Cond.fieldLink "TulipLines" (136 : Nat) "TulipLines$Bed" "bulbs" "Ljava/util/ArrayList;") ∈ lw_all := lw_g (lw_at lw_m1 78 rfl) rfl
theorem q148 : (Jvm.Cond.fieldLinkNest "TulipLines" (327 : Nat) "TulipLines$Bed" "weights" "[I" "TulipLines") ∈ lw_tbl := lw_at lw_m1 80 rfl
theorem q150 : (Jvm.Cond.fieldLink "TulipLines" (194 : Nat) "TulipLines$Bed" "wanted" "I") ∈ lw_all := lw_g (lw_at lw_m1 82 rfl) rfl
theorem q152 : (Jvm.Cond.fieldLink "TulipLines" (339 : Nat) "TulipLines$Bed" "luck" "I") ∈ lw_all := lw_g (lw_at lw_m1 84 rfl) rfl
theorem q154 : (Jvm.Cond.fieldLink "TulipLines" (342 : Nat) "TulipLines$Bed" "seed" "I") ∈ lw_all := lw_g (lw_at lw_m1 86 rfl) rfl
theorem q156 : (Jvm.Cond.fieldLink "TulipLines" (345 : Nat) "TulipLines$Bed" "room" "I") ∈ lw_all := lw_g (lw_at lw_m1 88 rfl) rfl
theorem q158 : (Jvm.Cond.fieldLink "TulipLines" (336 : Nat) "TulipLines$Bed" "year" "I") ∈ lw_all := lw_g (lw_at lw_m1 90 rfl) rfl
theorem q175 : (Jvm.Cond.classLink "TulipLines" (19 : Nat) "java/util/ArrayDeque") ∈ lw_all := lw_g (lw_at lw_m1 107 rfl) rfl
theorem q177 : (Jvm.Cond.methodLink "TulipLines" (93 : Nat) ({ cls := "java/util/ArrayDeque", name := "<init>", desc := "()V" } : Jvm.MethodName)) ∈ lw_all := lw_g (lw_at lw_m1 109 rfl) rfl
theorem q193 : (Jvm.Cond.stringRef "TulipLines" (94 : Nat) "") ∈ lw_tbl := lw_at lw_m1 125 rfl
theorem q194 : (Jvm.Cond.classLink "TulipLines" (100 : Nat) "java/lang/StringBuilder") ∈ lw_all := lw_g (lw_at lw_m1 126 rfl) rfl
theorem q196 : (Jvm.Cond.methodLink "TulipLines" (102 : Nat) ({ cls := "java/lang/StringBuilder", name := "<init>", desc := "()V" } : Jvm.MethodName)) ∈ lw_all := lw_g (lw_at lw_m1 128 rfl) rfl
theorem q227 : (Jvm.Cond.fieldLink "TulipLines" (65 : Nat) "TulipLines" "bed" "LTulipLines$Bed;") ∈ lw_all := lw_g (lw_at lw_m1 159 rfl) rfl
theorem q228 : (Jvm.Cond.fieldLink "TulipLines" (368 : Nat) "TulipLines" "saved" "LTulipLines$Bed;") ∈ lw_all := lw_g (lw_at lw_m1 160 rfl) rfl
theorem q229 : (Jvm.Cond.fieldLink "TulipLines" (12 : Nat) "TulipLines" "undos" "Ljava/util/ArrayDeque;") ∈ lw_all := lw_g (lw_at lw_m1 161 rfl) rfl
theorem q230 : (Jvm.Cond.fieldLink "TulipLines" (38 : Nat) "TulipLines" "refusedFor" "I") ∈ lw_all := lw_g (lw_at lw_m1 162 rfl) rfl
theorem q231 : (Jvm.Cond.fieldLink "TulipLines" (44 : Nat) "TulipLines" "refusedWith" "I") ∈ lw_all := lw_g (lw_at lw_m1 163 rfl) rfl
theorem q232 : (Jvm.Cond.fieldLink "TulipLines" (47 : Nat) "TulipLines" "refusedAt" "I") ∈ lw_all := lw_g (lw_at lw_m1 164 rfl) rfl
theorem q233 : (Jvm.Cond.fieldLink "TulipLines" (96 : Nat) "TulipLines" "line" "Ljava/lang/String;") ∈ lw_all := lw_g (lw_at lw_m1 165 rfl) rfl
theorem q235 : (Jvm.Cond.fieldLink "TulipLines" (103 : Nat) "TulipLines" "text" "Ljava/lang/StringBuilder;") ∈ lw_all := lw_g (lw_at lw_m1 167 rfl) rfl
theorem q236 : (Jvm.Cond.lays "TulipLines" "TulipLines" "bed" "LTulipLines$Bed;") ∈ lw_all := lw_g (lw_at lw_m1 168 rfl) rfl
theorem q237 : (Jvm.Cond.soleField "TulipLines" "bed") ∈ lw_all := lw_g (lw_at lw_m1 169 rfl) rfl
theorem q238 : (Jvm.Cond.lays "TulipLines" "TulipLines" "saved" "LTulipLines$Bed;") ∈ lw_all := lw_g (lw_at lw_m1 170 rfl) rfl
theorem q239 : (Jvm.Cond.soleField "TulipLines" "saved") ∈ lw_all := lw_g (lw_at lw_m1 171 rfl) rfl
theorem q240 : (Jvm.Cond.laysFinal "TulipLines" "TulipLines" "undos" "Ljava/util/ArrayDeque;") ∈ lw_all := lw_g (lw_at lw_m1 172 rfl) rfl
theorem q241 : (Jvm.Cond.soleField "TulipLines" "undos") ∈ lw_all := lw_g (lw_at lw_m1 173 rfl) rfl
theorem q242 : (Jvm.Cond.lays "TulipLines" "TulipLines" "refusedFor" "I") ∈ lw_all := lw_g (lw_at lw_m1 174 rfl) rfl
theorem q243 : (Jvm.Cond.soleField "TulipLines" "refusedFor") ∈ lw_all := lw_g (lw_at lw_m1 175 rfl) rfl
theorem q244 : (Jvm.Cond.lays "TulipLines" "TulipLines" "refusedWith" "I") ∈ lw_all := lw_g (lw_at lw_m1 176 rfl) rfl
theorem q245 : (Jvm.Cond.soleField "TulipLines" "refusedWith") ∈ lw_all := lw_g (lw_at lw_m1 177 rfl) rfl
theorem q246 : (Jvm.Cond.lays "TulipLines" "TulipLines" "refusedAt" "I") ∈ lw_all := lw_g (lw_at lw_m1 178 rfl) rfl
theorem q247 : (Jvm.Cond.soleField "TulipLines" "refusedAt") ∈ lw_all := lw_g (lw_at lw_m1 179 rfl) rfl
theorem q248 : (Jvm.Cond.lays "TulipLines" "TulipLines" "line" "Ljava/lang/String;") ∈ lw_all := lw_g (lw_at lw_m1 180 rfl) rfl
theorem q249 : (Jvm.Cond.soleField "TulipLines" "line") ∈ lw_all := lw_g (lw_at lw_m1 181 rfl) rfl
theorem q250 : (Jvm.Cond.laysFinal "TulipLines" "TulipLines" "text" "Ljava/lang/StringBuilder;") ∈ lw_all := lw_g (lw_at lw_m1 182 rfl) rfl
theorem q251 : (Jvm.Cond.soleField "TulipLines" "text") ∈ lw_all := lw_g (lw_at lw_m1 183 rfl) rfl
theorem q252 : (Jvm.Cond.superclass "TulipLines" "java/lang/Object") ∈ lw_all := lw_g (lw_at lw_m1 184 rfl) rfl
theorem q254 : (Jvm.Cond.instanceMethod ({ cls := "TulipLines", name := "plant", desc := "(I)I" } : Jvm.MethodName)) ∈ lw_all := lw_g (lw_at lw_m1 186 rfl) rfl
theorem q255 : (Jvm.Cond.selects "TulipLines" ({ cls := "TulipLines", name := "plant", desc := "(I)I" } : Jvm.MethodName) ({ cls := "TulipLines", name := "plant", desc := "(I)I" } : Jvm.MethodName)) ∈ lw_all := lw_g (lw_at lw_m1 187 rfl) rfl
theorem q256 : (Jvm.Cond.code ({ cls := "TulipLines", name := "plant", desc := "(I)I" } : Jvm.MethodName) prog_1_method_17_code (2 : Nat) (Option.some Jvm.ClassFile.FieldType.int)) ∈ lw_all := lw_g (lw_at lw_m1 188 rfl) rfl
theorem q257 : (Jvm.Cond.methodLink "TulipLines" (107 : Nat) ({ cls := "TulipLines", name := "planting", desc := "(I)LTulipLines$Change;" } : Jvm.MethodName)) ∈ lw_all := lw_g (lw_at lw_m1 189 rfl) rfl
theorem q258 : (Jvm.Cond.static ({ cls := "TulipLines", name := "planting", desc := "(I)LTulipLines$Change;" } : Jvm.MethodName)) ∈ lw_all := lw_g (lw_at lw_m1 190 rfl) rfl
theorem q259 : (Jvm.Cond.code ({ cls := "TulipLines", name := "planting", desc := "(I)LTulipLines$Change;" } : Jvm.MethodName) prog_1_method_7_code (1 : Nat) (Option.some (Jvm.ClassFile.FieldType.object "TulipLines$Change"))) ∈ lw_all := lw_g (lw_at lw_m1 191 rfl) rfl
theorem q260 : (Jvm.Cond.static ({ cls := "TulipLines", name := "lambda$planting$0", desc := "(ILTulipLines$Bed;)I" } : Jvm.MethodName)) ∈ lw_all := lw_g (lw_at lw_m1 192 rfl) rfl
theorem q261 : (Jvm.Cond.code ({ cls := "TulipLines", name := "lambda$planting$0", desc := "(ILTulipLines$Bed;)I" } : Jvm.MethodName) prog_1_method_66_code (2 : Nat) (Option.some Jvm.ClassFile.FieldType.int)) ∈ lw_all := lw_g (lw_at lw_m1 193 rfl) rfl
theorem q262 : (Jvm.Cond.methodLink "TulipLines" (215 : Nat) ({ cls := "TulipLines", name := "isBetween", desc := "(III)Z" } : Jvm.MethodName)) ∈ lw_all := lw_g (lw_at lw_m1 194 rfl) rfl
theorem q263 : (Jvm.Cond.static ({ cls := "TulipLines", name := "isBetween", desc := "(III)Z" } : Jvm.MethodName)) ∈ lw_all := lw_g (lw_at lw_m1 195 rfl) rfl
theorem q264 : (Jvm.Cond.code ({ cls := "TulipLines", name := "isBetween", desc := "(III)Z" } : Jvm.MethodName) prog_1_method_1_code (3 : Nat) (Option.some Jvm.ClassFile.FieldType.boolean)) ∈ lw_all := lw_g (lw_at lw_m1 196 rfl) rfl
theorem q265 : (Jvm.Cond.methodLink "TulipLines" (375 : Nat) ({ cls := "TulipLines", name := "wants", desc := "(ZI)V" } : Jvm.MethodName)) ∈ lw_all := lw_g (lw_at lw_m1 197 rfl) rfl
theorem q266 : (Jvm.Cond.static ({ cls := "TulipLines", name := "wants", desc := "(ZI)V" } : Jvm.MethodName)) ∈ lw_all := lw_g (lw_at lw_m1 198 rfl) rfl
theorem q267 : (Jvm.Cond.code ({ cls := "TulipLines", name := "wants", desc := "(ZI)V" } : Jvm.MethodName) prog_1_method_4_code (2 : Nat) (Option.none : Option Jvm.ClassFile.FieldType)) ∈ lw_all := lw_g (lw_at lw_m1 199 rfl) rfl
theorem q268 : (Jvm.Cond.classLink "TulipLines" (7 : Nat) "TulipLines$Wrong") ∈ lw_all := lw_g (lw_at lw_m1 200 rfl) rfl
theorem q307 : (Jvm.Cond.methodLink "TulipLines" (9 : Nat) ({ cls := "TulipLines$Wrong", name := "<init>", desc := "(I)V" } : Jvm.MethodName)) ∈ lw_all := lw_g (lw_at lw_m1 239 rfl) rfl
theorem q315 : (Jvm.Cond.fieldLink "TulipLines" (80 : Nat) "TulipLines$Wrong" "code" "I") ∈ lw_all := lw_g (lw_at lw_m2 7 rfl) rfl
theorem q330 : (Jvm.Cond.methodLink "TulipLines" (406 : Nat) ({ cls := "TulipLines$Bed", name := "plants", desc := "(I)I" } : Jvm.MethodName)) ∈ lw_all := lw_g (lw_at lw_m2 22 rfl) rfl
theorem q343 : (Jvm.Cond.static ({ cls := "TulipLines", name := "refuseIf", desc := "(ZII)V" } : Jvm.MethodName)) ∈ lw_all := lw_g (lw_at lw_m2 35 rfl) rfl
theorem q344 : (Jvm.Cond.code ({ cls := "TulipLines", name := "refuseIf", desc := "(ZII)V" } : Jvm.MethodName) prog_1_method_3_code (3 : Nat) (Option.none : Option Jvm.ClassFile.FieldType)) ∈ lw_all := lw_g (lw_at lw_m2 36 rfl) rfl
theorem q345 : (Jvm.Cond.classLink "TulipLines" (1 : Nat) "TulipLines$Refusal") ∈ lw_all := lw_g (lw_at lw_m2 37 rfl) rfl
theorem q354 : (Jvm.Cond.methodLink "TulipLines" (3 : Nat) ({ cls := "TulipLines$Refusal", name := "<init>", desc := "(II)V" } : Jvm.MethodName)) ∈ lw_all := lw_g (lw_at lw_m2 46 rfl) rfl
theorem q359 : (Jvm.Cond.fieldLink "TulipLines" (34 : Nat) "TulipLines$Refusal" "reason" "I") ∈ lw_all := lw_g (lw_at lw_m2 51 rfl) rfl
theorem q361 : (Jvm.Cond.fieldLink "TulipLines" (41 : Nat) "TulipLines$Refusal" "detail" "I") ∈ lw_all := lw_g (lw_at lw_m2 53 rfl) rfl
theorem q426 : (Jvm.Cond.fieldLink "TulipLines" (232 : Nat) "TulipLines$Bulb" "number" "I") ∈ lw_all := lw_g (lw_at lw_m2 118 rfl) rfl
theorem q430 : (Jvm.Cond.fieldLink "TulipLines" (171 : Nat) "TulipLines$Bulb" "pattern" "I") ∈ lw_all := lw_g (lw_at lw_m2 122 rfl) rfl
theorem q433 : (Jvm.Cond.fieldLink "TulipLines" (157 : Nat) "TulipLines$Bulb" "mother" "I") ∈ lw_all := lw_g (lw_at lw_m2 125 rfl) rfl
theorem q436 : (Jvm.Cond.fieldLink "TulipLines" (160 : Nat) "TulipLines$Bulb" "father" "I") ∈ lw_all := lw_g (lw_at lw_m2 128 rfl) rfl
theorem q438 : (Jvm.Cond.fieldLink "TulipLines" (182 : Nat) "TulipLines$Bulb" "year" "I") ∈ lw_all := lw_g (lw_at lw_m2 130 rfl) rfl
theorem q441 : (Jvm.Cond.fieldLink "TulipLines" (185 : Nat) "TulipLines$Bulb" "generation" "I") ∈ lw_all := lw_g (lw_at lw_m2 133 rfl) rfl
theorem q443 : (Jvm.Cond.fieldLink "TulipLines" (188 : Nat) "TulipLines$Bulb" "isSport" "Z") ∈ lw_all := lw_g (lw_at lw_m2 135 rfl) rfl
theorem q446 : (Jvm.Cond.fieldLink "TulipLines" (178 : Nat) "TulipLines$Bulb" "hasDied" "Z") ∈ lw_all := lw_g (lw_at lw_m2 138 rfl) rfl
theorem q500 : (Jvm.Cond.selects "TulipLines" ({ cls := "java/lang/Object", name := "getClass", desc := "()Ljava/lang/Class;" } : Jvm.MethodName) ({ cls := "java/lang/Object", name := "getClass", desc := "()Ljava/lang/Class;" } : Jvm.MethodName)) ∈ lw_all := lw_g (lw_at lw_m2 192 rfl) rfl
theorem q530 : (Jvm.Cond.methodLink "TulipLines" (110 : Nat) ({ cls := "TulipLines", name := "carryOut", desc := "(LTulipLines$Change;)I" } : Jvm.MethodName)) ∈ lw_all := lw_g (lw_at lw_m2 222 rfl) rfl
theorem q531 : (Jvm.Cond.privateMethod ({ cls := "TulipLines", name := "carryOut", desc := "(LTulipLines$Change;)I" } : Jvm.MethodName)) ∈ lw_tbl := lw_at lw_m2 223 rfl
theorem q532 : (Jvm.Cond.instanceMethod ({ cls := "TulipLines", name := "carryOut", desc := "(LTulipLines$Change;)I" } : Jvm.MethodName)) ∈ lw_all := lw_g (lw_at lw_m2 224 rfl) rfl
theorem q533 : (Jvm.Cond.codeWith ({ cls := "TulipLines", name := "carryOut", desc := "(LTulipLines$Change;)I" } : Jvm.MethodName) prog_1_method_15_code (7 : Nat) (Option.some Jvm.ClassFile.FieldType.int) [((14 : Nat), (32 : Nat), (52 : Nat), (7 : Nat)), ((14 : Nat), (32 : Nat), (81 : Nat), (1 : Nat)), ((14 : Nat), (32 : Nat), (113 : Nat), (0 : Nat)), ((52 : Nat), (61 : Nat), (113 : Nat), (0 : Nat)), ((81 : Nat), (93 : Nat), (113 : Nat), (0 : Nat)), ((113 : Nat), (115 : Nat), (113 : Nat), (0 : Nat))]) ∈ lw_all := lw_g (lw_at lw_m2 225 rfl) rfl
theorem q534 : (Jvm.Cond.methodLink "TulipLines" (69 : Nat) ({ cls := "TulipLines$Bed", name := "<init>", desc := "(LTulipLines$Bed;)V" } : Jvm.MethodName)) ∈ lw_all := lw_g (lw_at lw_m2 226 rfl) rfl
theorem q544 : (Jvm.Cond.interfaceEntry "TulipLines" (72 : Nat)) ∈ lw_tbl := lw_at lw_m2 236 rfl
theorem q545 : (Jvm.Cond.methodLink "TulipLines" (72 : Nat) ({ cls := "TulipLines$Change", name := "does", desc := "(LTulipLines$Bed;)I" } : Jvm.MethodName)) ∈ lw_all := lw_g (lw_at lw_m2 237 rfl) rfl
theorem q548 : (Jvm.Cond.methodLink "TulipLines" (77 : Nat) ({ cls := "TulipLines", name := "keep", desc := "(LTulipLines$Bed;)V" } : Jvm.MethodName)) ∈ lw_all := lw_g (lw_at lw_m3 0 rfl) rfl
theorem q549 : (Jvm.Cond.privateMethod ({ cls := "TulipLines", name := "keep", desc := "(LTulipLines$Bed;)V" } : Jvm.MethodName)) ∈ lw_tbl := lw_at lw_m3 1 rfl
theorem q550 : (Jvm.Cond.instanceMethod ({ cls := "TulipLines", name := "keep", desc := "(LTulipLines$Bed;)V" } : Jvm.MethodName)) ∈ lw_all := lw_g (lw_at lw_m3 2 rfl) rfl
theorem q551 : (Jvm.Cond.code ({ cls := "TulipLines", name := "keep", desc := "(LTulipLines$Bed;)V" } : Jvm.MethodName) prog_1_method_5_code (3 : Nat) (Option.none : Option Jvm.ClassFile.FieldType)) ∈ lw_all := lw_g (lw_at lw_m3 3 rfl) rfl
theorem q552 : (Jvm.Cond.methodLink "TulipLines" (18 : Nat) ({ cls := "java/util/ArrayDeque", name := "size", desc := "()I" } : Jvm.MethodName)) ∈ lw_all := lw_g (lw_at lw_m3 4 rfl) rfl
theorem q559 : (Jvm.Cond.methodLink "TulipLines" (24 : Nat) ({ cls := "java/util/ArrayDeque", name := "removeLast", desc := "()Ljava/lang/Object;" } : Jvm.MethodName)) ∈ lw_all := lw_g (lw_at lw_m3 11 rfl) rfl
theorem q573 : (Jvm.Cond.methodLink "TulipLines" (30 : Nat) ({ cls := "java/util/ArrayDeque", name := "push", desc := "(Ljava/lang/Object;)V" } : Jvm.MethodName)) ∈ lw_all := lw_g (lw_at lw_m3 25 rfl) rfl
theorem q593 : (Jvm.Cond.methodLink "TulipLines" (83 : Nat) ({ cls := "TulipLines", name := "refused", desc := "(LTulipLines$Refusal;I)I" } : Jvm.MethodName)) ∈ lw_all := lw_g (lw_at lw_m3 45 rfl) rfl
theorem q594 : (Jvm.Cond.privateMethod ({ cls := "TulipLines", name := "refused", desc := "(LTulipLines$Refusal;I)I" } : Jvm.MethodName)) ∈ lw_tbl := lw_at lw_m3 46 rfl
theorem q595 : (Jvm.Cond.instanceMethod ({ cls := "TulipLines", name := "refused", desc := "(LTulipLines$Refusal;I)I" } : Jvm.MethodName)) ∈ lw_all := lw_g (lw_at lw_m3 47 rfl) rfl
theorem q596 : (Jvm.Cond.code ({ cls := "TulipLines", name := "refused", desc := "(LTulipLines$Refusal;I)I" } : Jvm.MethodName) prog_1_method_6_code (3 : Nat) (Option.some Jvm.ClassFile.FieldType.int)) ∈ lw_all := lw_g (lw_at lw_m3 48 rfl) rfl
theorem q598 : (Jvm.Cond.instanceMethod ({ cls := "TulipLines", name := "cross", desc := "(III)I" } : Jvm.MethodName)) ∈ lw_all := lw_g (lw_at lw_m3 50 rfl) rfl
theorem q599 : (Jvm.Cond.selects "TulipLines" ({ cls := "TulipLines", name := "cross", desc := "(III)I" } : Jvm.MethodName) ({ cls := "TulipLines", name := "cross", desc := "(III)I" } : Jvm.MethodName)) ∈ lw_all := lw_g (lw_at lw_m3 51 rfl) rfl
theorem q600 : (Jvm.Cond.code ({ cls := "TulipLines", name := "cross", desc := "(III)I" } : Jvm.MethodName) prog_1_method_18_code (4 : Nat) (Option.some Jvm.ClassFile.FieldType.int)) ∈ lw_all := lw_g (lw_at lw_m3 52 rfl) rfl
theorem q601 : (Jvm.Cond.methodLink "TulipLines" (114 : Nat) ({ cls := "TulipLines", name := "crossing", desc := "(III)LTulipLines$Change;" } : Jvm.MethodName)) ∈ lw_all := lw_g (lw_at lw_m3 53 rfl) rfl
theorem q602 : (Jvm.Cond.static ({ cls := "TulipLines", name := "crossing", desc := "(III)LTulipLines$Change;" } : Jvm.MethodName)) ∈ lw_all := lw_g (lw_at lw_m3 54 rfl) rfl
theorem q603 : (Jvm.Cond.code ({ cls := "TulipLines", name := "crossing", desc := "(III)LTulipLines$Change;" } : Jvm.MethodName) prog_1_method_8_code (3 : Nat) (Option.some (Jvm.ClassFile.FieldType.object "TulipLines$Change"))) ∈ lw_all := lw_g (lw_at lw_m3 55 rfl) rfl
theorem q604 : (Jvm.Cond.static ({ cls := "TulipLines", name := "lambda$crossing$1", desc := "(IIILTulipLines$Bed;)I" } : Jvm.MethodName)) ∈ lw_all := lw_g (lw_at lw_m3 56 rfl) rfl
theorem q605 : (Jvm.Cond.code ({ cls := "TulipLines", name := "lambda$crossing$1", desc := "(IIILTulipLines$Bed;)I" } : Jvm.MethodName) prog_1_method_65_code (6 : Nat) (Option.some Jvm.ClassFile.FieldType.int)) ∈ lw_all := lw_g (lw_at lw_m3 57 rfl) rfl
theorem q606 : (Jvm.Cond.methodLink "TulipLines" (394 : Nat) ({ cls := "TulipLines$Bed", name := "bulb", desc := "(I)LTulipLines$Bulb;" } : Jvm.MethodName)) ∈ lw_all := lw_g (lw_at lw_m3 58 rfl) rfl
theorem q630 : (Jvm.Cond.classLink "TulipLines" (235 : Nat) "TulipLines$Crossing") ∈ lw_all := lw_g (lw_at lw_m3 82 rfl) rfl
theorem q632 : (Jvm.Cond.methodLink "TulipLines" (237 : Nat) ({ cls := "TulipLines$Crossing", name := "<init>", desc := "(LTulipLines$Bulb;LTulipLines$Bulb;I)V" } : Jvm.MethodName)) ∈ lw_all := lw_g (lw_at lw_m3 84 rfl) rfl
theorem q638 : (Jvm.Cond.fieldLink "TulipLines" (271 : Nat) "TulipLines$Crossing" "mother" "LTulipLines$Bulb;") ∈ lw_all := lw_g (lw_at lw_m3 90 rfl) rfl
theorem q641 : (Jvm.Cond.fieldLink "TulipLines" (268 : Nat) "TulipLines$Crossing" "father" "LTulipLines$Bulb;") ∈ lw_all := lw_g (lw_at lw_m3 93 rfl) rfl
theorem q643 : (Jvm.Cond.fieldLink "TulipLines" (265 : Nat) "TulipLines$Crossing" "point" "I") ∈ lw_all := lw_g (lw_at lw_m3 95 rfl) rfl
theorem q651 : (Jvm.Cond.methodLink "TulipLines" (402 : Nat) ({ cls := "TulipLines$Bed", name := "crosses", desc := "(LTulipLines$Crossing;)I" } : Jvm.MethodName)) ∈ lw_all := lw_g (lw_at lw_m3 103 rfl) rfl
theorem q672 : (Jvm.Cond.instanceMethod ({ cls := "TulipLines", name := "die", desc := "(I)I" } : Jvm.MethodName)) ∈ lw_all := lw_g (lw_at lw_m3 124 rfl) rfl
theorem q673 : (Jvm.Cond.selects "TulipLines" ({ cls := "TulipLines", name := "die", desc := "(I)I" } : Jvm.MethodName) ({ cls := "TulipLines", name := "die", desc := "(I)I" } : Jvm.MethodName)) ∈ lw_all := lw_g (lw_at lw_m3 125 rfl) rfl
theorem q674 : (Jvm.Cond.code ({ cls := "TulipLines", name := "die", desc := "(I)I" } : Jvm.MethodName) prog_1_method_19_code (2 : Nat) (Option.some Jvm.ClassFile.FieldType.int)) ∈ lw_all := lw_g (lw_at lw_m3 126 rfl) rfl
theorem q675 : (Jvm.Cond.methodLink "TulipLines" (117 : Nat) ({ cls := "TulipLines", name := "dying", desc := "(I)LTulipLines$Change;" } : Jvm.MethodName)) ∈ lw_all := lw_g (lw_at lw_m3 127 rfl) rfl
theorem q676 : (Jvm.Cond.static ({ cls := "TulipLines", name := "dying", desc := "(I)LTulipLines$Change;" } : Jvm.MethodName)) ∈ lw_all := lw_g (lw_at lw_m3 128 rfl) rfl
theorem q677 : (Jvm.Cond.code ({ cls := "TulipLines", name := "dying", desc := "(I)LTulipLines$Change;" } : Jvm.MethodName) prog_1_method_9_code (1 : Nat) (Option.some (Jvm.ClassFile.FieldType.object "TulipLines$Change"))) ∈ lw_all := lw_g (lw_at lw_m3 129 rfl) rfl
theorem q678 : (Jvm.Cond.static ({ cls := "TulipLines", name := "lambda$dying$2", desc := "(ILTulipLines$Bed;)I" } : Jvm.MethodName)) ∈ lw_all := lw_g (lw_at lw_m3 130 rfl) rfl
theorem q679 : (Jvm.Cond.code ({ cls := "TulipLines", name := "lambda$dying$2", desc := "(ILTulipLines$Bed;)I" } : Jvm.MethodName) prog_1_method_64_code (2 : Nat) (Option.some Jvm.ClassFile.FieldType.int)) ∈ lw_all := lw_g (lw_at lw_m3 131 rfl) rfl
theorem q680 : (Jvm.Cond.methodLink "TulipLines" (398 : Nat) ({ cls := "TulipLines$Bed", name := "dies", desc := "(LTulipLines$Bulb;)I" } : Jvm.MethodName)) ∈ lw_all := lw_g (lw_at lw_m3 132 rfl) rfl
theorem q685 : (Jvm.Cond.instanceMethod ({ cls := "TulipLines", name := "want", desc := "(I)I" } : Jvm.MethodName)) ∈ lw_all := lw_g (lw_at lw_m3 137 rfl) rfl
theorem q686 : (Jvm.Cond.selects "TulipLines" ({ cls := "TulipLines", name := "want", desc := "(I)I" } : Jvm.MethodName) ({ cls := "TulipLines", name := "want", desc := "(I)I" } : Jvm.MethodName)) ∈ lw_all := lw_g (lw_at lw_m3 138 rfl) rfl
theorem q687 : (Jvm.Cond.code ({ cls := "TulipLines", name := "want", desc := "(I)I" } : Jvm.MethodName) prog_1_method_20_code (2 : Nat) (Option.some Jvm.ClassFile.FieldType.int)) ∈ lw_all := lw_g (lw_at lw_m3 139 rfl) rfl
theorem q688 : (Jvm.Cond.methodLink "TulipLines" (120 : Nat) ({ cls := "TulipLines", name := "wanting", desc := "(I)LTulipLines$Change;" } : Jvm.MethodName)) ∈ lw_all := lw_g (lw_at lw_m3 140 rfl) rfl
theorem q689 : (Jvm.Cond.static ({ cls := "TulipLines", name := "wanting", desc := "(I)LTulipLines$Change;" } : Jvm.MethodName)) ∈ lw_all := lw_g (lw_at lw_m3 141 rfl) rfl
theorem q690 : (Jvm.Cond.code ({ cls := "TulipLines", name := "wanting", desc := "(I)LTulipLines$Change;" } : Jvm.MethodName) prog_1_method_10_code (1 : Nat) (Option.some (Jvm.ClassFile.FieldType.object "TulipLines$Change"))) ∈ lw_all := lw_g (lw_at lw_m3 142 rfl) rfl
theorem q691 : (Jvm.Cond.static ({ cls := "TulipLines", name := "lambda$wanting$3", desc := "(ILTulipLines$Bed;)I" } : Jvm.MethodName)) ∈ lw_all := lw_g (lw_at lw_m3 143 rfl) rfl
theorem q692 : (Jvm.Cond.code ({ cls := "TulipLines", name := "lambda$wanting$3", desc := "(ILTulipLines$Bed;)I" } : Jvm.MethodName) prog_1_method_63_code (2 : Nat) (Option.some Jvm.ClassFile.FieldType.int)) ∈ lw_all := lw_g (lw_at lw_m3 144 rfl) rfl
theorem q693 : (Jvm.Cond.methodLink "TulipLines" (391 : Nat) ({ cls := "TulipLines$Bed", name := "hasWanted", desc := "(I)I" } : Jvm.MethodName)) ∈ lw_all := lw_g (lw_at lw_m3 145 rfl) rfl
theorem q701 : (Jvm.Cond.instanceMethod ({ cls := "TulipLines", name := "heavy", desc := "(II)I" } : Jvm.MethodName)) ∈ lw_all := lw_g (lw_at lw_m3 153 rfl) rfl
theorem q702 : (Jvm.Cond.selects "TulipLines" ({ cls := "TulipLines", name := "heavy", desc := "(II)I" } : Jvm.MethodName) ({ cls := "TulipLines", name := "heavy", desc := "(II)I" } : Jvm.MethodName)) ∈ lw_all := lw_g (lw_at lw_m3 154 rfl) rfl
theorem q703 : (Jvm.Cond.code ({ cls := "TulipLines", name := "heavy", desc := "(II)I" } : Jvm.MethodName) prog_1_method_21_code (3 : Nat) (Option.some Jvm.ClassFile.FieldType.int)) ∈ lw_all := lw_g (lw_at lw_m3 155 rfl) rfl
theorem q704 : (Jvm.Cond.methodLink "TulipLines" (123 : Nat) ({ cls := "TulipLines", name := "weighing", desc := "(II)LTulipLines$Change;" } : Jvm.MethodName)) ∈ lw_all := lw_g (lw_at lw_m3 156 rfl) rfl
theorem q705 : (Jvm.Cond.static ({ cls := "TulipLines", name := "weighing", desc := "(II)LTulipLines$Change;" } : Jvm.MethodName)) ∈ lw_all := lw_g (lw_at lw_m3 157 rfl) rfl
theorem q706 : (Jvm.Cond.code ({ cls := "TulipLines", name := "weighing", desc := "(II)LTulipLines$Change;" } : Jvm.MethodName) prog_1_method_11_code (2 : Nat) (Option.some (Jvm.ClassFile.FieldType.object "TulipLines$Change"))) ∈ lw_all := lw_g (lw_at lw_m3 158 rfl) rfl
theorem q707 : (Jvm.Cond.static ({ cls := "TulipLines", name := "lambda$weighing$4", desc := "(IILTulipLines$Bed;)I" } : Jvm.MethodName)) ∈ lw_all := lw_g (lw_at lw_m3 159 rfl) rfl
theorem q708 : (Jvm.Cond.code ({ cls := "TulipLines", name := "lambda$weighing$4", desc := "(IILTulipLines$Bed;)I" } : Jvm.MethodName) prog_1_method_62_code (3 : Nat) (Option.some Jvm.ClassFile.FieldType.int)) ∈ lw_all := lw_g (lw_at lw_m3 160 rfl) rfl
theorem q709 : (Jvm.Cond.methodLink "TulipLines" (388 : Nat) ({ cls := "TulipLines$Bed", name := "weighs", desc := "(II)I" } : Jvm.MethodName)) ∈ lw_all := lw_g (lw_at lw_m3 161 rfl) rfl
theorem q714 : (Jvm.Cond.instanceMethod ({ cls := "TulipLines", name := "luck", desc := "(I)I" } : Jvm.MethodName)) ∈ lw_all := lw_g (lw_at lw_m3 166 rfl) rfl
theorem q715 : (Jvm.Cond.selects "TulipLines" ({ cls := "TulipLines", name := "luck", desc := "(I)I" } : Jvm.MethodName) ({ cls := "TulipLines", name := "luck", desc := "(I)I" } : Jvm.MethodName)) ∈ lw_all := lw_g (lw_at lw_m3 167 rfl) rfl
theorem q716 : (Jvm.Cond.code ({ cls := "TulipLines", name := "luck", desc := "(I)I" } : Jvm.MethodName) prog_1_method_22_code (2 : Nat) (Option.some Jvm.ClassFile.FieldType.int)) ∈ lw_all := lw_g (lw_at lw_m3 168 rfl) rfl
theorem q717 : (Jvm.Cond.methodLink "TulipLines" (126 : Nat) ({ cls := "TulipLines", name := "lucky", desc := "(I)LTulipLines$Change;" } : Jvm.MethodName)) ∈ lw_all := lw_g (lw_at lw_m3 169 rfl) rfl
theorem q718 : (Jvm.Cond.static ({ cls := "TulipLines", name := "lucky", desc := "(I)LTulipLines$Change;" } : Jvm.MethodName)) ∈ lw_all := lw_g (lw_at lw_m3 170 rfl) rfl
theorem q719 : (Jvm.Cond.code ({ cls := "TulipLines", name := "lucky", desc := "(I)LTulipLines$Change;" } : Jvm.MethodName) prog_1_method_12_code (1 : Nat) (Option.some (Jvm.ClassFile.FieldType.object "TulipLines$Change"))) ∈ lw_all := lw_g (lw_at lw_m3 171 rfl) rfl
theorem q720 : (Jvm.Cond.static ({ cls := "TulipLines", name := "lambda$lucky$5", desc := "(ILTulipLines$Bed;)I" } : Jvm.MethodName)) ∈ lw_all := lw_g (lw_at lw_m3 172 rfl) rfl
theorem q721 : (Jvm.Cond.code ({ cls := "TulipLines", name := "lambda$lucky$5", desc := "(ILTulipLines$Bed;)I" } : Jvm.MethodName) prog_1_method_61_code (2 : Nat) (Option.some Jvm.ClassFile.FieldType.int)) ∈ lw_all := lw_g (lw_at lw_m3 173 rfl) rfl
theorem q722 : (Jvm.Cond.methodLink "TulipLines" (385 : Nat) ({ cls := "TulipLines$Bed", name := "hasLuck", desc := "(I)I" } : Jvm.MethodName)) ∈ lw_all := lw_g (lw_at lw_m3 174 rfl) rfl
theorem q727 : (Jvm.Cond.instanceMethod ({ cls := "TulipLines", name := "seed", desc := "(I)I" } : Jvm.MethodName)) ∈ lw_all := lw_g (lw_at lw_m3 179 rfl) rfl
theorem q728 : (Jvm.Cond.selects "TulipLines" ({ cls := "TulipLines", name := "seed", desc := "(I)I" } : Jvm.MethodName) ({ cls := "TulipLines", name := "seed", desc := "(I)I" } : Jvm.MethodName)) ∈ lw_all := lw_g (lw_at lw_m3 180 rfl) rfl
theorem q729 : (Jvm.Cond.code ({ cls := "TulipLines", name := "seed", desc := "(I)I" } : Jvm.MethodName) prog_1_method_23_code (2 : Nat) (Option.some Jvm.ClassFile.FieldType.int)) ∈ lw_all := lw_g (lw_at lw_m3 181 rfl) rfl
theorem q730 : (Jvm.Cond.static ({ cls := "TulipLines", name := "lambda$seed$8", desc := "(ILTulipLines$Bed;)I" } : Jvm.MethodName)) ∈ lw_all := lw_g (lw_at lw_m3 182 rfl) rfl
theorem q731 : (Jvm.Cond.code ({ cls := "TulipLines", name := "lambda$seed$8", desc := "(ILTulipLines$Bed;)I" } : Jvm.MethodName) prog_1_method_58_code (2 : Nat) (Option.some Jvm.ClassFile.FieldType.int)) ∈ lw_all := lw_g (lw_at lw_m3 183 rfl) rfl
theorem q732 : (Jvm.Cond.constant "TulipLines" (374 : Nat) (999999 : Int32)) ∈ lw_all := lw_g (lw_at lw_m3 184 rfl) rfl
theorem q733 : (Jvm.Cond.methodLink "TulipLines" (379 : Nat) ({ cls := "TulipLines$Bed", name := "hasSeed", desc := "(I)I" } : Jvm.MethodName)) ∈ lw_all := lw_g (lw_at lw_m3 185 rfl) rfl
theorem q738 : (Jvm.Cond.instanceMethod ({ cls := "TulipLines", name := "room", desc := "(I)I" } : Jvm.MethodName)) ∈ lw_all := lw_g (lw_at lw_m3 190 rfl) rfl
theorem q739 : (Jvm.Cond.selects "TulipLines" ({ cls := "TulipLines", name := "room", desc := "(I)I" } : Jvm.MethodName) ({ cls := "TulipLines", name := "room", desc := "(I)I" } : Jvm.MethodName)) ∈ lw_all := lw_g (lw_at lw_m3 191 rfl) rfl
theorem q740 : (Jvm.Cond.code ({ cls := "TulipLines", name := "room", desc := "(I)I" } : Jvm.MethodName) prog_1_method_24_code (2 : Nat) (Option.some Jvm.ClassFile.FieldType.int)) ∈ lw_all := lw_g (lw_at lw_m3 192 rfl) rfl
theorem q741 : (Jvm.Cond.methodLink "TulipLines" (130 : Nat) ({ cls := "TulipLines", name := "roomy", desc := "(I)LTulipLines$Change;" } : Jvm.MethodName)) ∈ lw_all := lw_g (lw_at lw_m3 193 rfl) rfl
theorem q742 : (Jvm.Cond.static ({ cls := "TulipLines", name := "roomy", desc := "(I)LTulipLines$Change;" } : Jvm.MethodName)) ∈ lw_all := lw_g (lw_at lw_m3 194 rfl) rfl
theorem q743 : (Jvm.Cond.code ({ cls := "TulipLines", name := "roomy", desc := "(I)LTulipLines$Change;" } : Jvm.MethodName) prog_1_method_13_code (1 : Nat) (Option.some (Jvm.ClassFile.FieldType.object "TulipLines$Change"))) ∈ lw_all := lw_g (lw_at lw_m3 195 rfl) rfl
theorem q744 : (Jvm.Cond.static ({ cls := "TulipLines", name := "lambda$roomy$6", desc := "(ILTulipLines$Bed;)I" } : Jvm.MethodName)) ∈ lw_all := lw_g (lw_at lw_m3 196 rfl) rfl
theorem q745 : (Jvm.Cond.code ({ cls := "TulipLines", name := "lambda$roomy$6", desc := "(ILTulipLines$Bed;)I" } : Jvm.MethodName) prog_1_method_60_code (2 : Nat) (Option.some Jvm.ClassFile.FieldType.int)) ∈ lw_all := lw_g (lw_at lw_m3 197 rfl) rfl
theorem q746 : (Jvm.Cond.methodLink "TulipLines" (382 : Nat) ({ cls := "TulipLines$Bed", name := "hasRoom", desc := "(I)I" } : Jvm.MethodName)) ∈ lw_all := lw_g (lw_at lw_m3 198 rfl) rfl
theorem q751 : (Jvm.Cond.instanceMethod ({ cls := "TulipLines", name := "years", desc := "(I)I" } : Jvm.MethodName)) ∈ lw_all := lw_g (lw_at lw_m3 203 rfl) rfl
theorem q752 : (Jvm.Cond.selects "TulipLines" ({ cls := "TulipLines", name := "years", desc := "(I)I" } : Jvm.MethodName) ({ cls := "TulipLines", name := "years", desc := "(I)I" } : Jvm.MethodName)) ∈ lw_all := lw_g (lw_at lw_m3 204 rfl) rfl
theorem q753 : (Jvm.Cond.code ({ cls := "TulipLines", name := "years", desc := "(I)I" } : Jvm.MethodName) prog_1_method_25_code (2 : Nat) (Option.some Jvm.ClassFile.FieldType.int)) ∈ lw_all := lw_g (lw_at lw_m3 205 rfl) rfl
theorem q754 : (Jvm.Cond.methodLink "TulipLines" (133 : Nat) ({ cls := "TulipLines", name := "passing", desc := "(I)LTulipLines$Change;" } : Jvm.MethodName)) ∈ lw_all := lw_g (lw_at lw_m3 206 rfl) rfl
theorem q755 : (Jvm.Cond.static ({ cls := "TulipLines", name := "passing", desc := "(I)LTulipLines$Change;" } : Jvm.MethodName)) ∈ lw_all := lw_g (lw_at lw_m3 207 rfl) rfl
theorem q756 : (Jvm.Cond.code ({ cls := "TulipLines", name := "passing", desc := "(I)LTulipLines$Change;" } : Jvm.MethodName) prog_1_method_14_code (1 : Nat) (Option.some (Jvm.ClassFile.FieldType.object "TulipLines$Change"))) ∈ lw_all := lw_g (lw_at lw_m3 208 rfl) rfl
theorem q757 : (Jvm.Cond.static ({ cls := "TulipLines", name := "lambda$passing$7", desc := "(ILTulipLines$Bed;)I" } : Jvm.MethodName)) ∈ lw_all := lw_g (lw_at lw_m3 209 rfl) rfl
theorem q758 : (Jvm.Cond.code ({ cls := "TulipLines", name := "lambda$passing$7", desc := "(ILTulipLines$Bed;)I" } : Jvm.MethodName) prog_1_method_59_code (2 : Nat) (Option.some Jvm.ClassFile.FieldType.int)) ∈ lw_all := lw_g (lw_at lw_m3 210 rfl) rfl
theorem q759 : (Jvm.Cond.methodLink "TulipLines" (273 : Nat) ({ cls := "TulipLines$Bed", name := "passes", desc := "(I)I" } : Jvm.MethodName)) ∈ lw_all := lw_g (lw_at lw_m3 211 rfl) rfl
theorem q780 : (Jvm.Cond.static ({ cls := "TulipLines", name := "isRed", desc := "(II)Z" } : Jvm.MethodName)) ∈ lw_all := lw_g (lw_at lw_m3 232 rfl) rfl
theorem q781 : (Jvm.Cond.code ({ cls := "TulipLines", name := "isRed", desc := "(II)Z" } : Jvm.MethodName) prog_1_method_2_code (2 : Nat) (Option.some Jvm.ClassFile.FieldType.boolean)) ∈ lw_all := lw_g (lw_at lw_m3 233 rfl) rfl
theorem q794 : (Jvm.Cond.instanceMethod ({ cls := "TulipLines", name := "bulbOf", desc := "(II)I" } : Jvm.MethodName)) ∈ lw_all := lw_g (lw_at lw_m4 6 rfl) rfl
theorem q795 : (Jvm.Cond.selects "TulipLines" ({ cls := "TulipLines", name := "bulbOf", desc := "(II)I" } : Jvm.MethodName) ({ cls := "TulipLines", name := "bulbOf", desc := "(II)I" } : Jvm.MethodName)) ∈ lw_all := lw_g (lw_at lw_m4 7 rfl) rfl
theorem q796 : (Jvm.Cond.code ({ cls := "TulipLines", name := "bulbOf", desc := "(II)I" } : Jvm.MethodName) prog_1_method_28_code (4 : Nat) (Option.some Jvm.ClassFile.FieldType.int)) ∈ lw_all := lw_g (lw_at lw_m4 8 rfl) rfl
theorem q797 : (Jvm.Cond.methodLink "TulipLines" (163 : Nat) ({ cls := "TulipLines$Bed", name := "has", desc := "(I)Z" } : Jvm.MethodName)) ∈ lw_all := lw_g (lw_at lw_m4 9 rfl) rfl
theorem q798 : (Jvm.Cond.methodLink "TulipLines" (167 : Nat) ({ cls := "java/util/ArrayList", name := "get", desc := "(I)Ljava/lang/Object;" } : Jvm.MethodName)) ∈ lw_all := lw_g (lw_at lw_m4 10 rfl) rfl
theorem q799 : (Jvm.Cond.classLink "TulipLines" (155 : Nat) "TulipLines$Bulb") ∈ lw_all := lw_g (lw_at lw_m4 11 rfl) rfl
theorem q800 : (Jvm.Cond.methodLink "TulipLines" (174 : Nat) ({ cls := "TulipLines$Bed", name := "worth", desc := "(I)I" } : Jvm.MethodName)) ∈ lw_all := lw_g (lw_at lw_m4 12 rfl) rfl
theorem q801 : (Jvm.Cond.methodLink "TulipLines" (191 : Nat) ({ cls := "TulipLines", name := "children", desc := "(I)I" } : Jvm.MethodName)) ∈ lw_all := lw_g (lw_at lw_m4 13 rfl) rfl
theorem q802 : (Jvm.Cond.privateMethod ({ cls := "TulipLines", name := "children", desc := "(I)I" } : Jvm.MethodName)) ∈ lw_tbl := lw_at lw_m4 14 rfl
theorem q803 : (Jvm.Cond.instanceMethod ({ cls := "TulipLines", name := "children", desc := "(I)I" } : Jvm.MethodName)) ∈ lw_all := lw_g (lw_at lw_m4 15 rfl) rfl
theorem q804 : (Jvm.Cond.code ({ cls := "TulipLines", name := "children", desc := "(I)I" } : Jvm.MethodName) prog_1_method_26_code (5 : Nat) (Option.some Jvm.ClassFile.FieldType.int)) ∈ lw_all := lw_g (lw_at lw_m4 16 rfl) rfl
theorem q805 : (Jvm.Cond.methodLink "TulipLines" (140 : Nat) ({ cls := "java/util/ArrayList", name := "iterator", desc := "()Ljava/util/Iterator;" } : Jvm.MethodName)) ∈ lw_all := lw_g (lw_at lw_m4 17 rfl) rfl
theorem q806 : (Jvm.Cond.interfaceEntry "TulipLines" (146 : Nat)) ∈ lw_tbl := lw_at lw_m4 18 rfl
theorem q807 : (Jvm.Cond.methodLink "TulipLines" (146 : Nat) ({ cls := "java/util/Iterator", name := "hasNext", desc := "()Z" } : Jvm.MethodName)) ∈ lw_all := lw_g (lw_at lw_m4 19 rfl) rfl
theorem q808 : (Jvm.Cond.interfaceEntry "TulipLines" (152 : Nat)) ∈ lw_tbl := lw_at lw_m4 20 rfl
theorem q809 : (Jvm.Cond.methodLink "TulipLines" (152 : Nat) ({ cls := "java/util/Iterator", name := "next", desc := "()Ljava/lang/Object;" } : Jvm.MethodName)) ∈ lw_all := lw_g (lw_at lw_m4 21 rfl) rfl
theorem q810 : (Jvm.Cond.methodLink "TulipLines" (197 : Nat) ({ cls := "TulipLines", name := "unlike", desc := "(II)I" } : Jvm.MethodName)) ∈ lw_all := lw_g (lw_at lw_m4 22 rfl) rfl
theorem q811 : (Jvm.Cond.static ({ cls := "TulipLines", name := "unlike", desc := "(II)I" } : Jvm.MethodName)) ∈ lw_all := lw_g (lw_at lw_m4 23 rfl) rfl
theorem q812 : (Jvm.Cond.code ({ cls := "TulipLines", name := "unlike", desc := "(II)I" } : Jvm.MethodName) prog_1_method_27_code (4 : Nat) (Option.some Jvm.ClassFile.FieldType.int)) ∈ lw_all := lw_g (lw_at lw_m4 24 rfl) rfl
theorem q814 : (Jvm.Cond.instanceMethod ({ cls := "TulipLines", name := "areKin", desc := "(II)I" } : Jvm.MethodName)) ∈ lw_all := lw_g (lw_at lw_m4 26 rfl) rfl
theorem q815 : (Jvm.Cond.selects "TulipLines" ({ cls := "TulipLines", name := "areKin", desc := "(II)I" } : Jvm.MethodName) ({ cls := "TulipLines", name := "areKin", desc := "(II)I" } : Jvm.MethodName)) ∈ lw_all := lw_g (lw_at lw_m4 27 rfl) rfl
theorem q816 : (Jvm.Cond.code ({ cls := "TulipLines", name := "areKin", desc := "(II)I" } : Jvm.MethodName) prog_1_method_29_code (3 : Nat) (Option.some Jvm.ClassFile.FieldType.int)) ∈ lw_all := lw_g (lw_at lw_m4 28 rfl) rfl
theorem q817 : (Jvm.Cond.methodLink "TulipLines" (201 : Nat) ({ cls := "TulipLines$Bed", name := "areKin", desc := "(LTulipLines$Bulb;LTulipLines$Bulb;)Z" } : Jvm.MethodName)) ∈ lw_all := lw_g (lw_at lw_m4 29 rfl) rfl
theorem q871 : (Jvm.Cond.instanceMethod ({ cls := "TulipLines", name := "areKinAgain", desc := "(II)I" } : Jvm.MethodName)) ∈ lw_all := lw_g (lw_at lw_m4 83 rfl) rfl
theorem q872 : (Jvm.Cond.selects "TulipLines" ({ cls := "TulipLines", name := "areKinAgain", desc := "(II)I" } : Jvm.MethodName) ({ cls := "TulipLines", name := "areKinAgain", desc := "(II)I" } : Jvm.MethodName)) ∈ lw_all := lw_g (lw_at lw_m4 84 rfl) rfl
theorem q873 : (Jvm.Cond.code ({ cls := "TulipLines", name := "areKinAgain", desc := "(II)I" } : Jvm.MethodName) prog_1_method_30_code (3 : Nat) (Option.some Jvm.ClassFile.FieldType.int)) ∈ lw_all := lw_g (lw_at lw_m4 85 rfl) rfl
theorem q874 : (Jvm.Cond.methodLink "TulipLines" (205 : Nat) ({ cls := "TulipLines$Bed", name := "areKinAgain", desc := "(LTulipLines$Bulb;LTulipLines$Bulb;)Z" } : Jvm.MethodName)) ∈ lw_all := lw_g (lw_at lw_m4 86 rfl) rfl
theorem q883 : (Jvm.Cond.instanceMethod ({ cls := "TulipLines", name := "forebears", desc := "(I)I" } : Jvm.MethodName)) ∈ lw_all := lw_g (lw_at lw_m4 95 rfl) rfl
theorem q884 : (Jvm.Cond.selects "TulipLines" ({ cls := "TulipLines", name := "forebears", desc := "(I)I" } : Jvm.MethodName) ({ cls := "TulipLines", name := "forebears", desc := "(I)I" } : Jvm.MethodName)) ∈ lw_all := lw_g (lw_at lw_m4 96 rfl) rfl
theorem q885 : (Jvm.Cond.code ({ cls := "TulipLines", name := "forebears", desc := "(I)I" } : Jvm.MethodName) prog_1_method_31_code (2 : Nat) (Option.some Jvm.ClassFile.FieldType.int)) ∈ lw_all := lw_g (lw_at lw_m4 97 rfl) rfl
theorem q886 : (Jvm.Cond.methodLink "TulipLines" (208 : Nat) ({ cls := "TulipLines$Bed", name := "forebears", desc := "(LTulipLines$Bulb;)LTulipLines$Once;" } : Jvm.MethodName)) ∈ lw_all := lw_g (lw_at lw_m4 98 rfl) rfl
theorem q887 : (Jvm.Cond.methodLink "TulipLines" (212 : Nat) ({ cls := "TulipLines$Once", name := "size", desc := "()I" } : Jvm.MethodName)) ∈ lw_all := lw_g (lw_at lw_m4 99 rfl) rfl
theorem q889 : (Jvm.Cond.instanceMethod ({ cls := "TulipLines", name := "lineOf", desc := "(II)I" } : Jvm.MethodName)) ∈ lw_all := lw_g (lw_at lw_m4 101 rfl) rfl
theorem q890 : (Jvm.Cond.selects "TulipLines" ({ cls := "TulipLines", name := "lineOf", desc := "(II)I" } : Jvm.MethodName) ({ cls := "TulipLines", name := "lineOf", desc := "(II)I" } : Jvm.MethodName)) ∈ lw_all := lw_g (lw_at lw_m4 102 rfl) rfl
theorem q891 : (Jvm.Cond.code ({ cls := "TulipLines", name := "lineOf", desc := "(II)I" } : Jvm.MethodName) prog_1_method_32_code (8 : Nat) (Option.some Jvm.ClassFile.FieldType.int)) ∈ lw_all := lw_g (lw_at lw_m4 103 rfl) rfl
theorem q892 : (Jvm.Cond.methodLink "TulipLines" (219 : Nat) ({ cls := "TulipLines$Bed", name := "isInLine", desc := "(LTulipLines$Bulb;LTulipLines$Bulb;)Z" } : Jvm.MethodName)) ∈ lw_all := lw_g (lw_at lw_m4 104 rfl) rfl
theorem q896 : (Jvm.Cond.methodLink "TulipLines" (222 : Nat) ({ cls := "java/lang/Math", name := "max", desc := "(II)I" } : Jvm.MethodName)) ∈ lw_all := lw_g (lw_at lw_m4 108 rfl) rfl
theorem q898 : (Jvm.Cond.instanceMethod ({ cls := "TulipLines", name := "apart", desc := "(II)I" } : Jvm.MethodName)) ∈ lw_all := lw_g (lw_at lw_m4 110 rfl) rfl
theorem q899 : (Jvm.Cond.selects "TulipLines" ({ cls := "TulipLines", name := "apart", desc := "(II)I" } : Jvm.MethodName) ({ cls := "TulipLines", name := "apart", desc := "(II)I" } : Jvm.MethodName)) ∈ lw_all := lw_g (lw_at lw_m4 111 rfl) rfl
theorem q900 : (Jvm.Cond.code ({ cls := "TulipLines", name := "apart", desc := "(II)I" } : Jvm.MethodName) prog_1_method_33_code (3 : Nat) (Option.some Jvm.ClassFile.FieldType.int)) ∈ lw_all := lw_g (lw_at lw_m4 112 rfl) rfl
theorem q902 : (Jvm.Cond.instanceMethod ({ cls := "TulipLines", name := "unlike", desc := "()I" } : Jvm.MethodName)) ∈ lw_all := lw_g (lw_at lw_m4 114 rfl) rfl
theorem q903 : (Jvm.Cond.selects "TulipLines" ({ cls := "TulipLines", name := "unlike", desc := "()I" } : Jvm.MethodName) ({ cls := "TulipLines", name := "unlike", desc := "()I" } : Jvm.MethodName)) ∈ lw_all := lw_g (lw_at lw_m4 115 rfl) rfl
theorem q904 : (Jvm.Cond.code ({ cls := "TulipLines", name := "unlike", desc := "()I" } : Jvm.MethodName) prog_1_method_34_code (5 : Nat) (Option.some Jvm.ClassFile.FieldType.int)) ∈ lw_all := lw_g (lw_at lw_m4 116 rfl) rfl
theorem q905 : (Jvm.Cond.methodLink "TulipLines" (227 : Nat) ({ cls := "TulipLines$Bed", name := "order", desc := "()Ljava/util/ArrayList;" } : Jvm.MethodName)) ∈ lw_all := lw_g (lw_at lw_m4 117 rfl) rfl
theorem q908 : (Jvm.Cond.instanceMethod ({ cls := "TulipLines", name := "ranked", desc := "(I)I" } : Jvm.MethodName)) ∈ lw_all := lw_g (lw_at lw_m4 120 rfl) rfl
theorem q909 : (Jvm.Cond.selects "TulipLines" ({ cls := "TulipLines", name := "ranked", desc := "(I)I" } : Jvm.MethodName) ({ cls := "TulipLines", name := "ranked", desc := "(I)I" } : Jvm.MethodName)) ∈ lw_all := lw_g (lw_at lw_m4 121 rfl) rfl
theorem q910 : (Jvm.Cond.code ({ cls := "TulipLines", name := "ranked", desc := "(I)I" } : Jvm.MethodName) prog_1_method_35_code (3 : Nat) (Option.some Jvm.ClassFile.FieldType.int)) ∈ lw_all := lw_g (lw_at lw_m4 122 rfl) rfl
theorem q911 : (Jvm.Cond.methodLink "TulipLines" (231 : Nat) ({ cls := "java/util/ArrayList", name := "size", desc := "()I" } : Jvm.MethodName)) ∈ lw_all := lw_g (lw_at lw_m4 123 rfl) rfl
theorem q913 : (Jvm.Cond.instanceMethod ({ cls := "TulipLines", name := "would", desc := "(IIII)I" } : Jvm.MethodName)) ∈ lw_all := lw_g (lw_at lw_m4 125 rfl) rfl
theorem q914 : (Jvm.Cond.selects "TulipLines" ({ cls := "TulipLines", name := "would", desc := "(IIII)I" } : Jvm.MethodName) ({ cls := "TulipLines", name := "would", desc := "(IIII)I" } : Jvm.MethodName)) ∈ lw_all := lw_g (lw_at lw_m4 126 rfl) rfl
theorem q915 : (Jvm.Cond.code ({ cls := "TulipLines", name := "would", desc := "(IIII)I" } : Jvm.MethodName) prog_1_method_36_code (6 : Nat) (Option.some Jvm.ClassFile.FieldType.int)) ∈ lw_all := lw_g (lw_at lw_m4 127 rfl) rfl
theorem q916 : (Jvm.Cond.methodLink "TulipLines" (240 : Nat) ({ cls := "TulipLines$Crossing", name := "pattern", desc := "()I" } : Jvm.MethodName)) ∈ lw_all := lw_g (lw_at lw_m4 128 rfl) rfl
theorem q918 : (Jvm.Cond.instanceMethod ({ cls := "TulipLines", name := "bestPoint", desc := "(II)I" } : Jvm.MethodName)) ∈ lw_all := lw_g (lw_at lw_m4 130 rfl) rfl
theorem q919 : (Jvm.Cond.selects "TulipLines" ({ cls := "TulipLines", name := "bestPoint", desc := "(II)I" } : Jvm.MethodName) ({ cls := "TulipLines", name := "bestPoint", desc := "(II)I" } : Jvm.MethodName)) ∈ lw_all := lw_g (lw_at lw_m4 131 rfl) rfl
theorem q920 : (Jvm.Cond.code ({ cls := "TulipLines", name := "bestPoint", desc := "(II)I" } : Jvm.MethodName) prog_1_method_39_code (4 : Nat) (Option.some Jvm.ClassFile.FieldType.int)) ∈ lw_all := lw_g (lw_at lw_m4 132 rfl) rfl
theorem q921 : (Jvm.Cond.methodLink "TulipLines" (254 : Nat) ({ cls := "TulipLines", name := "finder", desc := "()LTulipLines$Finder;" } : Jvm.MethodName)) ∈ lw_all := lw_g (lw_at lw_m4 133 rfl) rfl
theorem q922 : (Jvm.Cond.privateMethod ({ cls := "TulipLines", name := "finder", desc := "()LTulipLines$Finder;" } : Jvm.MethodName)) ∈ lw_tbl := lw_at lw_m4 134 rfl
theorem q923 : (Jvm.Cond.instanceMethod ({ cls := "TulipLines", name := "finder", desc := "()LTulipLines$Finder;" } : Jvm.MethodName)) ∈ lw_all := lw_g (lw_at lw_m4 135 rfl) rfl
theorem q924 : (Jvm.Cond.code ({ cls := "TulipLines", name := "finder", desc := "()LTulipLines$Finder;" } : Jvm.MethodName) prog_1_method_37_code (2 : Nat) (Option.some (Jvm.ClassFile.FieldType.object "TulipLines$Finder"))) ∈ lw_all := lw_g (lw_at lw_m4 136 rfl) rfl
theorem q925 : (Jvm.Cond.classLink "TulipLines" (242 : Nat) "TulipLines$Finder") ∈ lw_all := lw_g (lw_at lw_m4 137 rfl) rfl
theorem q927 : (Jvm.Cond.static ({ cls := "TulipLines", name := "lambda$finder$9", desc := "(LTulipLines$Bed;LTulipLines$Crossing;)I" } : Jvm.MethodName)) ∈ lw_all := lw_g (lw_at lw_m4 139 rfl) rfl
theorem q928 : (Jvm.Cond.code ({ cls := "TulipLines", name := "lambda$finder$9", desc := "(LTulipLines$Bed;LTulipLines$Crossing;)I" } : Jvm.MethodName) prog_1_method_57_code (2 : Nat) (Option.some Jvm.ClassFile.FieldType.int)) ∈ lw_all := lw_g (lw_at lw_m4 140 rfl) rfl
theorem q929 : (Jvm.Cond.methodLink "TulipLines" (248 : Nat) ({ cls := "TulipLines$Finder", name := "<init>", desc := "(LTulipLines$Measure;)V" } : Jvm.MethodName)) ∈ lw_all := lw_g (lw_at lw_m4 141 rfl) rfl
theorem q940 : (Jvm.Cond.methodLink "TulipLines" (258 : Nat) ({ cls := "TulipLines", name := "seesAll", desc := "(LTulipLines$Finder;LTulipLines$Bulb;LTulipLines$Bulb;)V" } : Jvm.MethodName)) ∈ lw_all := lw_g (lw_at lw_m4 152 rfl) rfl
theorem q941 : (Jvm.Cond.privateMethod ({ cls := "TulipLines", name := "seesAll", desc := "(LTulipLines$Finder;LTulipLines$Bulb;LTulipLines$Bulb;)V" } : Jvm.MethodName)) ∈ lw_tbl := lw_at lw_m4 153 rfl
theorem q942 : (Jvm.Cond.instanceMethod ({ cls := "TulipLines", name := "seesAll", desc := "(LTulipLines$Finder;LTulipLines$Bulb;LTulipLines$Bulb;)V" } : Jvm.MethodName)) ∈ lw_all := lw_g (lw_at lw_m4 154 rfl) rfl
theorem q943 : (Jvm.Cond.code ({ cls := "TulipLines", name := "seesAll", desc := "(LTulipLines$Finder;LTulipLines$Bulb;LTulipLines$Bulb;)V" } : Jvm.MethodName) prog_1_method_38_code (5 : Nat) (Option.none : Option Jvm.ClassFile.FieldType)) ∈ lw_all := lw_g (lw_at lw_m4 155 rfl) rfl
theorem q944 : (Jvm.Cond.methodLink "TulipLines" (251 : Nat) ({ cls := "TulipLines$Finder", name := "sees", desc := "(Ljava/lang/Object;)V" } : Jvm.MethodName)) ∈ lw_all := lw_g (lw_at lw_m4 156 rfl) rfl
theorem q952 : (Jvm.Cond.methodLink "TulipLines" (262 : Nat) ({ cls := "TulipLines$Finder", name := "best", desc := "()Ljava/lang/Object;" } : Jvm.MethodName)) ∈ lw_all := lw_g (lw_at lw_m4 164 rfl) rfl
theorem q957 : (Jvm.Cond.instanceMethod ({ cls := "TulipLines", name := "bestPair", desc := "(I)I" } : Jvm.MethodName)) ∈ lw_all := lw_g (lw_at lw_m4 169 rfl) rfl
theorem q958 : (Jvm.Cond.selects "TulipLines" ({ cls := "TulipLines", name := "bestPair", desc := "(I)I" } : Jvm.MethodName) ({ cls := "TulipLines", name := "bestPair", desc := "(I)I" } : Jvm.MethodName)) ∈ lw_all := lw_g (lw_at lw_m4 170 rfl) rfl
theorem q959 : (Jvm.Cond.code ({ cls := "TulipLines", name := "bestPair", desc := "(I)I" } : Jvm.MethodName) prog_1_method_40_code (7 : Nat) (Option.some Jvm.ClassFile.FieldType.int)) ∈ lw_all := lw_g (lw_at lw_m4 171 rfl) rfl
theorem q961 : (Jvm.Cond.instanceMethod ({ cls := "TulipLines", name := "worthIn", desc := "(I)I" } : Jvm.MethodName)) ∈ lw_all := lw_g (lw_at lw_m4 173 rfl) rfl
theorem q962 : (Jvm.Cond.selects "TulipLines" ({ cls := "TulipLines", name := "worthIn", desc := "(I)I" } : Jvm.MethodName) ({ cls := "TulipLines", name := "worthIn", desc := "(I)I" } : Jvm.MethodName)) ∈ lw_all := lw_g (lw_at lw_m4 174 rfl) rfl
theorem q963 : (Jvm.Cond.code ({ cls := "TulipLines", name := "worthIn", desc := "(I)I" } : Jvm.MethodName) prog_1_method_41_code (5 : Nat) (Option.some Jvm.ClassFile.FieldType.int)) ∈ lw_all := lw_g (lw_at lw_m4 175 rfl) rfl
theorem q964 : (Jvm.Cond.methodLink "TulipLines" (276 : Nat) ({ cls := "java/util/ArrayList", name := "isEmpty", desc := "()Z" } : Jvm.MethodName)) ∈ lw_all := lw_g (lw_at lw_m4 176 rfl) rfl
theorem q969 : (Jvm.Cond.instanceMethod ({ cls := "TulipLines", name := "describe", desc := "(I)I" } : Jvm.MethodName)) ∈ lw_all := lw_g (lw_at lw_m4 181 rfl) rfl
theorem q970 : (Jvm.Cond.selects "TulipLines" ({ cls := "TulipLines", name := "describe", desc := "(I)I" } : Jvm.MethodName) ({ cls := "TulipLines", name := "describe", desc := "(I)I" } : Jvm.MethodName)) ∈ lw_all := lw_g (lw_at lw_m4 182 rfl) rfl
theorem q971 : (Jvm.Cond.code ({ cls := "TulipLines", name := "describe", desc := "(I)I" } : Jvm.MethodName) prog_1_method_43_code (5 : Nat) (Option.some Jvm.ClassFile.FieldType.int)) ∈ lw_all := lw_g (lw_at lw_m4 183 rfl) rfl
theorem q972 : (Jvm.Cond.methodLink "TulipLines" (288 : Nat) ({ cls := "java/lang/StringBuilder", name := "append", desc := "(I)Ljava/lang/StringBuilder;" } : Jvm.MethodName)) ∈ lw_all := lw_g (lw_at lw_m4 184 rfl) rfl
theorem q1045 : (Jvm.Cond.methodLink "TulipLines" (292 : Nat) ({ cls := "java/lang/StringBuilder", name := "append", desc := "(C)Ljava/lang/StringBuilder;" } : Jvm.MethodName)) ∈ lw_all := lw_g (lw_at lw_m5 17 rfl) rfl
theorem q1084 : (Jvm.Cond.methodLink "TulipLines" (295 : Nat) ({ cls := "TulipLines", name := "isRed", desc := "(II)Z" } : Jvm.MethodName)) ∈ lw_all := lw_g (lw_at lw_m5 56 rfl) rfl
theorem q1085 : (Jvm.Cond.methodLink "TulipLines" (299 : Nat) ({ cls := "TulipLines$Bulb", name := "isBred", desc := "()Z" } : Jvm.MethodName)) ∈ lw_all := lw_g (lw_at lw_m5 57 rfl) rfl
theorem q1086 : (Jvm.Cond.methodLink "TulipLines" (302 : Nat) ({ cls := "TulipLines", name := "lays", desc := "(Ljava/lang/StringBuilder;)I" } : Jvm.MethodName)) ∈ lw_all := lw_g (lw_at lw_m5 58 rfl) rfl
theorem q1087 : (Jvm.Cond.privateMethod ({ cls := "TulipLines", name := "lays", desc := "(Ljava/lang/StringBuilder;)I" } : Jvm.MethodName)) ∈ lw_tbl := lw_at lw_m5 59 rfl
theorem q1088 : (Jvm.Cond.instanceMethod ({ cls := "TulipLines", name := "lays", desc := "(Ljava/lang/StringBuilder;)I" } : Jvm.MethodName)) ∈ lw_all := lw_g (lw_at lw_m5 60 rfl) rfl
theorem q1089 : (Jvm.Cond.code ({ cls := "TulipLines", name := "lays", desc := "(Ljava/lang/StringBuilder;)I" } : Jvm.MethodName) prog_1_method_42_code (2 : Nat) (Option.some Jvm.ClassFile.FieldType.int)) ∈ lw_all := lw_g (lw_at lw_m5 61 rfl) rfl
theorem q1090 : (Jvm.Cond.methodLink "TulipLines" (279 : Nat) ({ cls := "java/lang/StringBuilder", name := "toString", desc := "()Ljava/lang/String;" } : Jvm.MethodName)) ∈ lw_all := lw_g (lw_at lw_m5 62 rfl) rfl
theorem q1151 : (Jvm.Cond.methodLink "TulipLines" (283 : Nat) ({ cls := "java/lang/String", name := "length", desc := "()I" } : Jvm.MethodName)) ∈ lw_all := lw_g (lw_at lw_m5 123 rfl) rfl
theorem q1160 : (Jvm.Cond.instanceMethod ({ cls := "TulipLines", name := "tell", desc := "()I" } : Jvm.MethodName)) ∈ lw_all := lw_g (lw_at lw_m5 132 rfl) rfl
theorem q1161 : (Jvm.Cond.selects "TulipLines" ({ cls := "TulipLines", name := "tell", desc := "()I" } : Jvm.MethodName) ({ cls := "TulipLines", name := "tell", desc := "()I" } : Jvm.MethodName)) ∈ lw_all := lw_g (lw_at lw_m5 133 rfl) rfl
theorem q1162 : (Jvm.Cond.code ({ cls := "TulipLines", name := "tell", desc := "()I" } : Jvm.MethodName) prog_1_method_44_code (4 : Nat) (Option.some Jvm.ClassFile.FieldType.int)) ∈ lw_all := lw_g (lw_at lw_m5 134 rfl) rfl
theorem q1163 : (Jvm.Cond.methodLink "TulipLines" (306 : Nat) ({ cls := "java/lang/StringBuilder", name := "length", desc := "()I" } : Jvm.MethodName)) ∈ lw_all := lw_g (lw_at lw_m5 135 rfl) rfl
theorem q1165 : (Jvm.Cond.instanceMethod ({ cls := "TulipLines", name := "sign", desc := "(I)I" } : Jvm.MethodName)) ∈ lw_all := lw_g (lw_at lw_m5 137 rfl) rfl
theorem q1166 : (Jvm.Cond.selects "TulipLines" ({ cls := "TulipLines", name := "sign", desc := "(I)I" } : Jvm.MethodName) ({ cls := "TulipLines", name := "sign", desc := "(I)I" } : Jvm.MethodName)) ∈ lw_all := lw_g (lw_at lw_m5 138 rfl) rfl
theorem q1167 : (Jvm.Cond.code ({ cls := "TulipLines", name := "sign", desc := "(I)I" } : Jvm.MethodName) prog_1_method_45_code (2 : Nat) (Option.some Jvm.ClassFile.FieldType.int)) ∈ lw_all := lw_g (lw_at lw_m5 139 rfl) rfl
theorem q1168 : (Jvm.Cond.methodLink "TulipLines" (307 : Nat) ({ cls := "java/lang/String", name := "charAt", desc := "(I)C" } : Jvm.MethodName)) ∈ lw_all := lw_g (lw_at lw_m5 140 rfl) rfl
theorem q1184 : (Jvm.Cond.instanceMethod ({ cls := "TulipLines", name := "append", desc := "(I)I" } : Jvm.MethodName)) ∈ lw_all := lw_g (lw_at lw_m5 156 rfl) rfl
theorem q1185 : (Jvm.Cond.selects "TulipLines" ({ cls := "TulipLines", name := "append", desc := "(I)I" } : Jvm.MethodName) ({ cls := "TulipLines", name := "append", desc := "(I)I" } : Jvm.MethodName)) ∈ lw_all := lw_g (lw_at lw_m5 157 rfl) rfl
theorem q1186 : (Jvm.Cond.code ({ cls := "TulipLines", name := "append", desc := "(I)I" } : Jvm.MethodName) prog_1_method_46_code (2 : Nat) (Option.some Jvm.ClassFile.FieldType.int)) ∈ lw_all := lw_g (lw_at lw_m5 158 rfl) rfl
theorem q1188 : (Jvm.Cond.instanceMethod ({ cls := "TulipLines", name := "read", desc := "()I" } : Jvm.MethodName)) ∈ lw_all := lw_g (lw_at lw_m5 160 rfl) rfl
theorem q1189 : (Jvm.Cond.selects "TulipLines" ({ cls := "TulipLines", name := "read", desc := "()I" } : Jvm.MethodName) ({ cls := "TulipLines", name := "read", desc := "()I" } : Jvm.MethodName)) ∈ lw_all := lw_g (lw_at lw_m5 161 rfl) rfl
theorem q1190 : (Jvm.Cond.codeWith ({ cls := "TulipLines", name := "read", desc := "()I" } : Jvm.MethodName) prog_1_method_47_code (8 : Nat) (Option.some Jvm.ClassFile.FieldType.int) [((16 : Nat), (78 : Nat), (106 : Nat), (322 : Nat)), ((16 : Nat), (78 : Nat), (146 : Nat), (7 : Nat)), ((16 : Nat), (78 : Nat), (180 : Nat), (1 : Nat)), ((16 : Nat), (78 : Nat), (219 : Nat), (0 : Nat)), ((106 : Nat), (118 : Nat), (219 : Nat), (0 : Nat)), ((146 : Nat), (152 : Nat), (219 : Nat), (0 : Nat)), ((180 : Nat), (191 : Nat), (219 : Nat), (0 : Nat)), ((219 : Nat), (221 : Nat), (219 : Nat), (0 : Nat))]) ∈ lw_all := lw_g (lw_at lw_m5 162 rfl) rfl
theorem q1191 : (Jvm.Cond.classLink "TulipLines" (322 : Nat) "TulipLines$SyntaxException") ∈ lw_all := lw_g (lw_at lw_m5 163 rfl) rfl
theorem q1192 : (Jvm.Cond.classLink "TulipLines" (311 : Nat) "TulipLines$Reader") ∈ lw_all := lw_g (lw_at lw_m5 164 rfl) rfl
theorem q1194 : (Jvm.Cond.methodLinkNest "TulipLines" (313 : Nat) ({ cls := "TulipLines$Reader", name := "<init>", desc := "(LTulipLines;)V" } : Jvm.MethodName) "TulipLines") ∈ lw_tbl := lw_at lw_m5 166 rfl
theorem q1205 : (Jvm.Cond.methodLink "TulipLines" (316 : Nat) ({ cls := "TulipLines$Reader", name := "commands", desc := "()Ljava/util/ArrayList;" } : Jvm.MethodName)) ∈ lw_all := lw_g (lw_at lw_m5 177 rfl) rfl
theorem q1287 : (Jvm.Cond.fieldLink "TulipLines" (324 : Nat) "TulipLines$SyntaxException" "place" "I") ∈ lw_all := lw_g (lw_at lw_m6 19 rfl) rfl
theorem q1326 : (Jvm.Cond.classLink "TulipLines" (73 : Nat) "TulipLines$Change") ∈ lw_all := lw_g (lw_at lw_m6 58 rfl) rfl
theorem q1327 : (Jvm.Cond.methodLink "TulipLines" (319 : Nat) ({ cls := "java/lang/StringBuilder", name := "setLength", desc := "(I)V" } : Jvm.MethodName)) ∈ lw_all := lw_g (lw_at lw_m6 59 rfl) rfl
theorem q1348 : (Jvm.Cond.instanceMethod ({ cls := "TulipLines", name := "refusal", desc := "(I)I" } : Jvm.MethodName)) ∈ lw_all := lw_g (lw_at lw_m6 80 rfl) rfl
theorem q1349 : (Jvm.Cond.selects "TulipLines" ({ cls := "TulipLines", name := "refusal", desc := "(I)I" } : Jvm.MethodName) ({ cls := "TulipLines", name := "refusal", desc := "(I)I" } : Jvm.MethodName)) ∈ lw_all := lw_g (lw_at lw_m6 81 rfl) rfl
theorem q1350 : (Jvm.Cond.code ({ cls := "TulipLines", name := "refusal", desc := "(I)I" } : Jvm.MethodName) prog_1_method_48_code (2 : Nat) (Option.some Jvm.ClassFile.FieldType.int)) ∈ lw_all := lw_g (lw_at lw_m6 82 rfl) rfl
theorem q1352 : (Jvm.Cond.instanceMethod ({ cls := "TulipLines", name := "account", desc := "(I)I" } : Jvm.MethodName)) ∈ lw_all := lw_g (lw_at lw_m6 84 rfl) rfl
theorem q1353 : (Jvm.Cond.selects "TulipLines" ({ cls := "TulipLines", name := "account", desc := "(I)I" } : Jvm.MethodName) ({ cls := "TulipLines", name := "account", desc := "(I)I" } : Jvm.MethodName)) ∈ lw_all := lw_g (lw_at lw_m6 85 rfl) rfl
theorem q1354 : (Jvm.Cond.code ({ cls := "TulipLines", name := "account", desc := "(I)I" } : Jvm.MethodName) prog_1_method_51_code (2 : Nat) (Option.some Jvm.ClassFile.FieldType.int)) ∈ lw_all := lw_g (lw_at lw_m6 86 rfl) rfl
theorem q1355 : (Jvm.Cond.methodLink "TulipLines" (331 : Nat) ({ cls := "TulipLines$Bed", name := "living", desc := "()I" } : Jvm.MethodName)) ∈ lw_all := lw_g (lw_at lw_m6 87 rfl) rfl
theorem q1356 : (Jvm.Cond.methodLink "TulipLines" (334 : Nat) ({ cls := "TulipLines", name := "bulbs", desc := "(I)I" } : Jvm.MethodName)) ∈ lw_all := lw_g (lw_at lw_m6 88 rfl) rfl
theorem q1357 : (Jvm.Cond.privateMethod ({ cls := "TulipLines", name := "bulbs", desc := "(I)I" } : Jvm.MethodName)) ∈ lw_tbl := lw_at lw_m6 89 rfl
theorem q1358 : (Jvm.Cond.instanceMethod ({ cls := "TulipLines", name := "bulbs", desc := "(I)I" } : Jvm.MethodName)) ∈ lw_all := lw_g (lw_at lw_m6 90 rfl) rfl
theorem q1359 : (Jvm.Cond.code ({ cls := "TulipLines", name := "bulbs", desc := "(I)I" } : Jvm.MethodName) prog_1_method_49_code (5 : Nat) (Option.some Jvm.ClassFile.FieldType.int)) ∈ lw_all := lw_g (lw_at lw_m6 91 rfl) rfl
theorem q1360 : (Jvm.Cond.methodLink "TulipLines" (337 : Nat) ({ cls := "TulipLines", name := "weights", desc := "()I" } : Jvm.MethodName)) ∈ lw_all := lw_g (lw_at lw_m6 92 rfl) rfl
theorem q1361 : (Jvm.Cond.privateMethod ({ cls := "TulipLines", name := "weights", desc := "()I" } : Jvm.MethodName)) ∈ lw_tbl := lw_at lw_m6 93 rfl
theorem q1362 : (Jvm.Cond.instanceMethod ({ cls := "TulipLines", name := "weights", desc := "()I" } : Jvm.MethodName)) ∈ lw_all := lw_g (lw_at lw_m6 94 rfl) rfl
theorem q1363 : (Jvm.Cond.code ({ cls := "TulipLines", name := "weights", desc := "()I" } : Jvm.MethodName) prog_1_method_50_code (6 : Nat) (Option.some Jvm.ClassFile.FieldType.int)) ∈ lw_all := lw_g (lw_at lw_m6 95 rfl) rfl
theorem q1365 : (Jvm.Cond.instanceMethod ({ cls := "TulipLines", name := "isWell", desc := "()I" } : Jvm.MethodName)) ∈ lw_all := lw_g (lw_at lw_m6 97 rfl) rfl
theorem q1366 : (Jvm.Cond.selects "TulipLines" ({ cls := "TulipLines", name := "isWell", desc := "()I" } : Jvm.MethodName) ({ cls := "TulipLines", name := "isWell", desc := "()I" } : Jvm.MethodName)) ∈ lw_all := lw_g (lw_at lw_m6 98 rfl) rfl
theorem q1367 : (Jvm.Cond.code ({ cls := "TulipLines", name := "isWell", desc := "()I" } : Jvm.MethodName) prog_1_method_52_code (7 : Nat) (Option.some Jvm.ClassFile.FieldType.int)) ∈ lw_all := lw_g (lw_at lw_m6 99 rfl) rfl
theorem q1368 : (Jvm.Cond.classLink "TulipLines" (141 : Nat) "java/util/ArrayList") ∈ lw_all := lw_g (lw_at lw_m6 100 rfl) rfl
theorem q1369 : (Jvm.Cond.methodLink "TulipLines" (348 : Nat) ({ cls := "java/util/ArrayList", name := "<init>", desc := "()V" } : Jvm.MethodName)) ∈ lw_all := lw_g (lw_at lw_m6 101 rfl) rfl
theorem q1370 : (Jvm.Cond.methodLink "TulipLines" (349 : Nat) ({ cls := "java/util/ArrayList", name := "add", desc := "(Ljava/lang/Object;)Z" } : Jvm.MethodName)) ∈ lw_all := lw_g (lw_at lw_m6 102 rfl) rfl
theorem q1371 : (Jvm.Cond.classLink "TulipLines" (213 : Nat) "TulipLines$Once") ∈ lw_all := lw_g (lw_at lw_m6 103 rfl) rfl
theorem q1372 : (Jvm.Cond.methodLink "TulipLines" (353 : Nat) ({ cls := "TulipLines$Bed", name := "areKin", desc := "(LTulipLines$Bulb;LTulipLines$Once;LTulipLines$Bulb;LTulipLines$Once;)Z" } : Jvm.MethodName)) ∈ lw_all := lw_g (lw_at lw_m6 104 rfl) rfl
theorem q1373 : (Jvm.Cond.methodLink "TulipLines" (356 : Nat) ({ cls := "TulipLines$Bed", name := "areKinAgain", desc := "(LTulipLines$Bulb;LTulipLines$Once;LTulipLines$Bulb;LTulipLines$Once;)Z" } : Jvm.MethodName)) ∈ lw_all := lw_g (lw_at lw_m6 105 rfl) rfl
theorem q1375 : (Jvm.Cond.instanceMethod ({ cls := "TulipLines", name := "mean", desc := "()I" } : Jvm.MethodName)) ∈ lw_all := lw_g (lw_at lw_m6 107 rfl) rfl
theorem q1376 : (Jvm.Cond.selects "TulipLines" ({ cls := "TulipLines", name := "mean", desc := "()I" } : Jvm.MethodName) ({ cls := "TulipLines", name := "mean", desc := "()I" } : Jvm.MethodName)) ∈ lw_all := lw_g (lw_at lw_m6 108 rfl) rfl
theorem q1377 : (Jvm.Cond.code ({ cls := "TulipLines", name := "mean", desc := "()I" } : Jvm.MethodName) prog_1_method_53_code (5 : Nat) (Option.some Jvm.ClassFile.FieldType.int)) ∈ lw_all := lw_g (lw_at lw_m6 109 rfl) rfl
theorem q1378 : (Jvm.Cond.methodLink "TulipLines" (358 : Nat) ({ cls := "java/lang/Float", name := "floatToIntBits", desc := "(F)I" } : Jvm.MethodName)) ∈ lw_all := lw_g (lw_at lw_m6 110 rfl) rfl
theorem q1389 : (Jvm.Cond.instanceMethod ({ cls := "TulipLines", name := "undo", desc := "()I" } : Jvm.MethodName)) ∈ lw_all := lw_g (lw_at lw_m6 121 rfl) rfl
theorem q1390 : (Jvm.Cond.selects "TulipLines" ({ cls := "TulipLines", name := "undo", desc := "()I" } : Jvm.MethodName) ({ cls := "TulipLines", name := "undo", desc := "()I" } : Jvm.MethodName)) ∈ lw_all := lw_g (lw_at lw_m6 122 rfl) rfl
theorem q1391 : (Jvm.Cond.code ({ cls := "TulipLines", name := "undo", desc := "()I" } : Jvm.MethodName) prog_1_method_54_code (1 : Nat) (Option.some Jvm.ClassFile.FieldType.int)) ∈ lw_all := lw_g (lw_at lw_m6 123 rfl) rfl
theorem q1392 : (Jvm.Cond.methodLink "TulipLines" (364 : Nat) ({ cls := "java/util/ArrayDeque", name := "isEmpty", desc := "()Z" } : Jvm.MethodName)) ∈ lw_all := lw_g (lw_at lw_m6 124 rfl) rfl
theorem q1396 : (Jvm.Cond.methodLink "TulipLines" (365 : Nat) ({ cls := "java/util/ArrayDeque", name := "pop", desc := "()Ljava/lang/Object;" } : Jvm.MethodName)) ∈ lw_all := lw_g (lw_at lw_m6 128 rfl) rfl
theorem q1412 : (Jvm.Cond.instanceMethod ({ cls := "TulipLines", name := "save", desc := "()I" } : Jvm.MethodName)) ∈ lw_all := lw_g (lw_at lw_m6 144 rfl) rfl
theorem q1413 : (Jvm.Cond.selects "TulipLines" ({ cls := "TulipLines", name := "save", desc := "()I" } : Jvm.MethodName) ({ cls := "TulipLines", name := "save", desc := "()I" } : Jvm.MethodName)) ∈ lw_all := lw_g (lw_at lw_m6 145 rfl) rfl
theorem q1414 : (Jvm.Cond.code ({ cls := "TulipLines", name := "save", desc := "()I" } : Jvm.MethodName) prog_1_method_55_code (1 : Nat) (Option.some Jvm.ClassFile.FieldType.int)) ∈ lw_all := lw_g (lw_at lw_m6 146 rfl) rfl
theorem q1416 : (Jvm.Cond.instanceMethod ({ cls := "TulipLines", name := "restore", desc := "()I" } : Jvm.MethodName)) ∈ lw_all := lw_g (lw_at lw_m6 148 rfl) rfl
theorem q1417 : (Jvm.Cond.selects "TulipLines" ({ cls := "TulipLines", name := "restore", desc := "()I" } : Jvm.MethodName) ({ cls := "TulipLines", name := "restore", desc := "()I" } : Jvm.MethodName)) ∈ lw_all := lw_g (lw_at lw_m6 149 rfl) rfl
theorem q1418 : (Jvm.Cond.code ({ cls := "TulipLines", name := "restore", desc := "()I" } : Jvm.MethodName) prog_1_method_56_code (1 : Nat) (Option.some Jvm.ClassFile.FieldType.int)) ∈ lw_all := lw_g (lw_at lw_m6 150 rfl) rfl
theorem q1419 : (Jvm.Cond.methodLink "TulipLines" (371 : Nat) ({ cls := "java/util/ArrayDeque", name := "clear", desc := "()V" } : Jvm.MethodName)) ∈ lw_all := lw_g (lw_at lw_m6 151 rfl) rfl
theorem q1816 : (Jvm.Cond.castable "TulipLines" "java/lang/Object") ∈ lw_tbl := lw_at lw_m8 68 rfl
theorem in_X0 : ∀ w ∈ wsX00, w ∈ lw_all := lw_in wsX00 [236, 238, 240, 242, 244, 246, 248, 250] (by decide +kernel) (by decide +kernel)
