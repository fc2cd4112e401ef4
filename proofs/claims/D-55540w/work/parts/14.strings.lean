/-! java/lang/AbstractStringBuilder -/
set_option maxRecDepth 100000
def RJ4 : String := "java/lang/AbstractStringBuilder"
abbrev cJ4_init : ByteArray := prog_16_method_2_code
def yJ4_init : MethodName := ⟨RJ4, "<init>", "(I)V"⟩
def dkwJ4_init_1 : List UInt8 := [167, 0, 16, 42, 27, 184, 0, 26, 181, 0, 15, 42, 4, 181, 0, 22, 177]
abbrev dktJ4_init_1 : List UInt8 := dkwJ4_init_1 ++ []
def dkwJ4_init_0 : List UInt8 := [42, 183, 0, 3, 178, 0, 18, 153, 0, 18, 42, 27, 188, 8, 181, 0, 15, 42, 3, 181, 0, 22]
abbrev dktJ4_init_0 : List UInt8 := dkwJ4_init_0 ++ dktJ4_init_1
theorem dksJ4_init_0 : cJ4_init.data.toList.drop 0 = dktJ4_init_0 := by decide +kernel
theorem dksJ4_init_1 : cJ4_init.data.toList.drop 22 = dktJ4_init_1 := dk_seg dksJ4_init_0 22 rfl rfl
theorem dJ4_init_0 : decode cJ4_init 0 = .ok (.aload_n 0, 1) := dk_42 (dk_at dksJ4_init_0 0 rfl rfl)
theorem dJ4_init_1 : decode cJ4_init 1 = .ok (.invokespecial 3, 3) := dk_183 0 3 (dk_at dksJ4_init_0 1 rfl rfl)
theorem dJ4_init_4 : decode cJ4_init 4 = .ok (.getstatic 18, 3) := dk_178 0 18 (dk_at dksJ4_init_0 4 rfl rfl)
theorem dJ4_init_7 : decode cJ4_init 7 = .ok (.ifCond .eq 18, 3) := dk_153 0 18 (dk_at dksJ4_init_0 7 rfl rfl)
theorem dJ4_init_10 : decode cJ4_init 10 = .ok (.aload_n 0, 1) := dk_42 (dk_at dksJ4_init_0 10 rfl rfl)
theorem dJ4_init_11 : decode cJ4_init 11 = .ok (.iload_n 1, 1) := dk_27 (dk_at dksJ4_init_0 11 rfl rfl)
theorem dJ4_init_12 : decode cJ4_init 12 = .ok (.newarray .byte, 2) := dk_188_8 (dk_at dksJ4_init_0 12 rfl rfl)
theorem dJ4_init_14 : decode cJ4_init 14 = .ok (.putfield 15, 3) := dk_181 0 15 (dk_at dksJ4_init_0 14 rfl rfl)
theorem dJ4_init_17 : decode cJ4_init 17 = .ok (.aload_n 0, 1) := dk_42 (dk_at dksJ4_init_0 17 rfl rfl)
theorem dJ4_init_18 : decode cJ4_init 18 = .ok (.iconst 0, 1) := dk_3 (dk_at dksJ4_init_0 18 rfl rfl)
theorem dJ4_init_19 : decode cJ4_init 19 = .ok (.putfield 22, 3) := dk_181 0 22 (dk_at dksJ4_init_0 19 rfl rfl)
theorem dJ4_init_22 : decode cJ4_init 22 = .ok (.goto 16, 3) := dk_167 0 16 (dk_at dksJ4_init_1 0 rfl rfl)
theorem dJ4_init_25 : decode cJ4_init 25 = .ok (.aload_n 0, 1) := dk_42 (dk_at dksJ4_init_1 3 rfl rfl)
theorem dJ4_init_26 : decode cJ4_init 26 = .ok (.iload_n 1, 1) := dk_27 (dk_at dksJ4_init_1 4 rfl rfl)
theorem dJ4_init_27 : decode cJ4_init 27 = .ok (.invokestatic 26, 3) := dk_184 0 26 (dk_at dksJ4_init_1 5 rfl rfl)
theorem dJ4_init_30 : decode cJ4_init 30 = .ok (.putfield 15, 3) := dk_181 0 15 (dk_at dksJ4_init_1 8 rfl rfl)
theorem dJ4_init_33 : decode cJ4_init 33 = .ok (.aload_n 0, 1) := dk_42 (dk_at dksJ4_init_1 11 rfl rfl)
theorem dJ4_init_34 : decode cJ4_init 34 = .ok (.iconst 1, 1) := dk_4 (dk_at dksJ4_init_1 12 rfl rfl)
theorem dJ4_init_35 : decode cJ4_init 35 = .ok (.putfield 22, 3) := dk_181 0 22 (dk_at dksJ4_init_1 13 rfl rfl)
theorem dJ4_init_38 : decode cJ4_init 38 = .ok (.return_, 1) := dk_177 (dk_at dksJ4_init_1 16 rfl rfl)
abbrev cJ4_append : ByteArray := prog_16_method_32_code
def yJ4_append : MethodName := ⟨RJ4, "append", "(I)Ljava/lang/AbstractStringBuilder;"⟩
def dkwJ4_append_2 : List UInt8 := [42, 29, 181, 0, 79, 42, 176]
abbrev dktJ4_append_2 : List UInt8 := dkwJ4_append_2 ++ []
def dkwJ4_append_1 : List UInt8 := [27, 29, 42, 180, 0, 15, 184, 0, 248, 87, 167, 0, 14, 27, 28, 29, 42, 180, 0, 15, 184, 0, 251, 87]
abbrev dktJ4_append_1 : List UInt8 := dkwJ4_append_1 ++ dktJ4_append_2
def dkwJ4_append_0 : List UInt8 := [42, 180, 0, 79, 61, 28, 27, 184, 0, 245, 96, 62, 42, 29, 182, 0, 100, 42, 182, 0, 83, 153, 0, 16]
abbrev dktJ4_append_0 : List UInt8 := dkwJ4_append_0 ++ dktJ4_append_1
theorem dksJ4_append_0 : cJ4_append.data.toList.drop 0 = dktJ4_append_0 := by decide +kernel
theorem dksJ4_append_1 : cJ4_append.data.toList.drop 24 = dktJ4_append_1 := dk_seg dksJ4_append_0 24 rfl rfl
theorem dksJ4_append_2 : cJ4_append.data.toList.drop 48 = dktJ4_append_2 := dk_seg dksJ4_append_1 24 rfl rfl
theorem dJ4_append_0 : decode cJ4_append 0 = .ok (.aload_n 0, 1) := dk_42 (dk_at dksJ4_append_0 0 rfl rfl)
theorem dJ4_append_1 : decode cJ4_append 1 = .ok (.getfield 79, 3) := dk_180 0 79 (dk_at dksJ4_append_0 1 rfl rfl)
theorem dJ4_append_4 : decode cJ4_append 4 = .ok (.istore_n 2, 1) := dk_61 (dk_at dksJ4_append_0 4 rfl rfl)
theorem dJ4_append_5 : decode cJ4_append 5 = .ok (.iload_n 2, 1) := dk_28 (dk_at dksJ4_append_0 5 rfl rfl)
theorem dJ4_append_6 : decode cJ4_append 6 = .ok (.iload_n 1, 1) := dk_27 (dk_at dksJ4_append_0 6 rfl rfl)
theorem dJ4_append_7 : decode cJ4_append 7 = .ok (.invokestatic 245, 3) := dk_184 0 245 (dk_at dksJ4_append_0 7 rfl rfl)
theorem dJ4_append_10 : decode cJ4_append 10 = .ok (.iadd, 1) := dk_96 (dk_at dksJ4_append_0 10 rfl rfl)
theorem dJ4_append_11 : decode cJ4_append 11 = .ok (.istore_n 3, 1) := dk_62 (dk_at dksJ4_append_0 11 rfl rfl)
theorem dJ4_append_12 : decode cJ4_append 12 = .ok (.aload_n 0, 1) := dk_42 (dk_at dksJ4_append_0 12 rfl rfl)
theorem dJ4_append_13 : decode cJ4_append 13 = .ok (.iload_n 3, 1) := dk_29 (dk_at dksJ4_append_0 13 rfl rfl)
theorem dJ4_append_14 : decode cJ4_append 14 = .ok (.invokevirtual 100, 3) := dk_182 0 100 (dk_at dksJ4_append_0 14 rfl rfl)
theorem dJ4_append_17 : decode cJ4_append 17 = .ok (.aload_n 0, 1) := dk_42 (dk_at dksJ4_append_0 17 rfl rfl)
theorem dJ4_append_18 : decode cJ4_append 18 = .ok (.invokevirtual 83, 3) := dk_182 0 83 (dk_at dksJ4_append_0 18 rfl rfl)
theorem dJ4_append_21 : decode cJ4_append 21 = .ok (.ifCond .eq 16, 3) := dk_153 0 16 (dk_at dksJ4_append_0 21 rfl rfl)
theorem dJ4_append_24 : decode cJ4_append 24 = .ok (.iload_n 1, 1) := dk_27 (dk_at dksJ4_append_1 0 rfl rfl)
theorem dJ4_append_25 : decode cJ4_append 25 = .ok (.iload_n 3, 1) := dk_29 (dk_at dksJ4_append_1 1 rfl rfl)
theorem dJ4_append_26 : decode cJ4_append 26 = .ok (.aload_n 0, 1) := dk_42 (dk_at dksJ4_append_1 2 rfl rfl)
theorem dJ4_append_27 : decode cJ4_append 27 = .ok (.getfield 15, 3) := dk_180 0 15 (dk_at dksJ4_append_1 3 rfl rfl)
theorem dJ4_append_30 : decode cJ4_append 30 = .ok (.invokestatic 248, 3) := dk_184 0 248 (dk_at dksJ4_append_1 6 rfl rfl)
theorem dJ4_append_33 : decode cJ4_append 33 = .ok (.pop, 1) := dk_87 (dk_at dksJ4_append_1 9 rfl rfl)
theorem dJ4_append_34 : decode cJ4_append 34 = .ok (.goto 14, 3) := dk_167 0 14 (dk_at dksJ4_append_1 10 rfl rfl)
theorem dJ4_append_37 : decode cJ4_append 37 = .ok (.iload_n 1, 1) := dk_27 (dk_at dksJ4_append_1 13 rfl rfl)
theorem dJ4_append_38 : decode cJ4_append 38 = .ok (.iload_n 2, 1) := dk_28 (dk_at dksJ4_append_1 14 rfl rfl)
theorem dJ4_append_39 : decode cJ4_append 39 = .ok (.iload_n 3, 1) := dk_29 (dk_at dksJ4_append_1 15 rfl rfl)
theorem dJ4_append_40 : decode cJ4_append 40 = .ok (.aload_n 0, 1) := dk_42 (dk_at dksJ4_append_1 16 rfl rfl)
theorem dJ4_append_41 : decode cJ4_append 41 = .ok (.getfield 15, 3) := dk_180 0 15 (dk_at dksJ4_append_1 17 rfl rfl)
theorem dJ4_append_44 : decode cJ4_append 44 = .ok (.invokestatic 251, 3) := dk_184 0 251 (dk_at dksJ4_append_1 20 rfl rfl)
theorem dJ4_append_47 : decode cJ4_append 47 = .ok (.pop, 1) := dk_87 (dk_at dksJ4_append_1 23 rfl rfl)
theorem dJ4_append_48 : decode cJ4_append 48 = .ok (.aload_n 0, 1) := dk_42 (dk_at dksJ4_append_2 0 rfl rfl)
theorem dJ4_append_49 : decode cJ4_append 49 = .ok (.iload_n 3, 1) := dk_29 (dk_at dksJ4_append_2 1 rfl rfl)
theorem dJ4_append_50 : decode cJ4_append 50 = .ok (.putfield 79, 3) := dk_181 0 79 (dk_at dksJ4_append_2 2 rfl rfl)
theorem dJ4_append_53 : decode cJ4_append 53 = .ok (.aload_n 0, 1) := dk_42 (dk_at dksJ4_append_2 5 rfl rfl)
theorem dJ4_append_54 : decode cJ4_append 54 = .ok (.areturn, 1) := dk_176 (dk_at dksJ4_append_2 6 rfl rfl)
abbrev cJ4_ensureCapacityInternal : ByteArray := prog_16_method_9_code
def yJ4_ensureCapacityInternal : MethodName := ⟨RJ4, "ensureCapacityInternal", "(I)V"⟩
def dkwJ4_ensureCapacityInternal_1 : List UInt8 := [182, 0, 104, 42, 180, 0, 22, 120, 184, 0, 108, 181, 0, 15, 177]
abbrev dktJ4_ensureCapacityInternal_1 : List UInt8 := dkwJ4_ensureCapacityInternal_1 ++ []
def dkwJ4_ensureCapacityInternal_0 : List UInt8 := [42, 180, 0, 15, 190, 42, 180, 0, 22, 122, 61, 27, 28, 100, 158, 0, 24, 42, 42, 180, 0, 15, 42, 27]
abbrev dktJ4_ensureCapacityInternal_0 : List UInt8 := dkwJ4_ensureCapacityInternal_0 ++ dktJ4_ensureCapacityInternal_1
theorem dksJ4_ensureCapacityInternal_0 : cJ4_ensureCapacityInternal.data.toList.drop 0 = dktJ4_ensureCapacityInternal_0 := by decide +kernel
theorem dksJ4_ensureCapacityInternal_1 : cJ4_ensureCapacityInternal.data.toList.drop 24 = dktJ4_ensureCapacityInternal_1 := dk_seg dksJ4_ensureCapacityInternal_0 24 rfl rfl
theorem dJ4_ensureCapacityInternal_0 : decode cJ4_ensureCapacityInternal 0 = .ok (.aload_n 0, 1) := dk_42 (dk_at dksJ4_ensureCapacityInternal_0 0 rfl rfl)
theorem dJ4_ensureCapacityInternal_1 : decode cJ4_ensureCapacityInternal 1 = .ok (.getfield 15, 3) := dk_180 0 15 (dk_at dksJ4_ensureCapacityInternal_0 1 rfl rfl)
theorem dJ4_ensureCapacityInternal_4 : decode cJ4_ensureCapacityInternal 4 = .ok (.arraylength, 1) := dk_190 (dk_at dksJ4_ensureCapacityInternal_0 4 rfl rfl)
theorem dJ4_ensureCapacityInternal_5 : decode cJ4_ensureCapacityInternal 5 = .ok (.aload_n 0, 1) := dk_42 (dk_at dksJ4_ensureCapacityInternal_0 5 rfl rfl)
theorem dJ4_ensureCapacityInternal_6 : decode cJ4_ensureCapacityInternal 6 = .ok (.getfield 22, 3) := dk_180 0 22 (dk_at dksJ4_ensureCapacityInternal_0 6 rfl rfl)
theorem dJ4_ensureCapacityInternal_9 : decode cJ4_ensureCapacityInternal 9 = .ok (.ishr, 1) := dk_122 (dk_at dksJ4_ensureCapacityInternal_0 9 rfl rfl)
theorem dJ4_ensureCapacityInternal_10 : decode cJ4_ensureCapacityInternal 10 = .ok (.istore_n 2, 1) := dk_61 (dk_at dksJ4_ensureCapacityInternal_0 10 rfl rfl)
theorem dJ4_ensureCapacityInternal_11 : decode cJ4_ensureCapacityInternal 11 = .ok (.iload_n 1, 1) := dk_27 (dk_at dksJ4_ensureCapacityInternal_0 11 rfl rfl)
theorem dJ4_ensureCapacityInternal_12 : decode cJ4_ensureCapacityInternal 12 = .ok (.iload_n 2, 1) := dk_28 (dk_at dksJ4_ensureCapacityInternal_0 12 rfl rfl)
theorem dJ4_ensureCapacityInternal_13 : decode cJ4_ensureCapacityInternal 13 = .ok (.isub, 1) := dk_100 (dk_at dksJ4_ensureCapacityInternal_0 13 rfl rfl)
theorem dJ4_ensureCapacityInternal_14 : decode cJ4_ensureCapacityInternal 14 = .ok (.ifCond .le 24, 3) := dk_158 0 24 (dk_at dksJ4_ensureCapacityInternal_0 14 rfl rfl)
theorem dJ4_ensureCapacityInternal_17 : decode cJ4_ensureCapacityInternal 17 = .ok (.aload_n 0, 1) := dk_42 (dk_at dksJ4_ensureCapacityInternal_0 17 rfl rfl)
theorem dJ4_ensureCapacityInternal_18 : decode cJ4_ensureCapacityInternal 18 = .ok (.aload_n 0, 1) := dk_42 (dk_at dksJ4_ensureCapacityInternal_0 18 rfl rfl)
theorem dJ4_ensureCapacityInternal_19 : decode cJ4_ensureCapacityInternal 19 = .ok (.getfield 15, 3) := dk_180 0 15 (dk_at dksJ4_ensureCapacityInternal_0 19 rfl rfl)
theorem dJ4_ensureCapacityInternal_22 : decode cJ4_ensureCapacityInternal 22 = .ok (.aload_n 0, 1) := dk_42 (dk_at dksJ4_ensureCapacityInternal_0 22 rfl rfl)
theorem dJ4_ensureCapacityInternal_23 : decode cJ4_ensureCapacityInternal 23 = .ok (.iload_n 1, 1) := dk_27 (dk_at dksJ4_ensureCapacityInternal_0 23 rfl rfl)
theorem dJ4_ensureCapacityInternal_24 : decode cJ4_ensureCapacityInternal 24 = .ok (.invokevirtual 104, 3) := dk_182 0 104 (dk_at dksJ4_ensureCapacityInternal_1 0 rfl rfl)
theorem dJ4_ensureCapacityInternal_27 : decode cJ4_ensureCapacityInternal 27 = .ok (.aload_n 0, 1) := dk_42 (dk_at dksJ4_ensureCapacityInternal_1 3 rfl rfl)
theorem dJ4_ensureCapacityInternal_28 : decode cJ4_ensureCapacityInternal 28 = .ok (.getfield 22, 3) := dk_180 0 22 (dk_at dksJ4_ensureCapacityInternal_1 4 rfl rfl)
theorem dJ4_ensureCapacityInternal_31 : decode cJ4_ensureCapacityInternal 31 = .ok (.ishl, 1) := dk_120 (dk_at dksJ4_ensureCapacityInternal_1 7 rfl rfl)
theorem dJ4_ensureCapacityInternal_32 : decode cJ4_ensureCapacityInternal 32 = .ok (.invokestatic 108, 3) := dk_184 0 108 (dk_at dksJ4_ensureCapacityInternal_1 8 rfl rfl)
theorem dJ4_ensureCapacityInternal_35 : decode cJ4_ensureCapacityInternal 35 = .ok (.putfield 15, 3) := dk_181 0 15 (dk_at dksJ4_ensureCapacityInternal_1 11 rfl rfl)
theorem dJ4_ensureCapacityInternal_38 : decode cJ4_ensureCapacityInternal 38 = .ok (.return_, 1) := dk_177 (dk_at dksJ4_ensureCapacityInternal_1 14 rfl rfl)
abbrev cJ4_newCapacity : ByteArray := prog_16_method_10_code
def yJ4_newCapacity : MethodName := ⟨RJ4, "newCapacity", "(I)I"⟩
def dkwJ4_newCapacity_2 : List UInt8 := [183, 0, 124, 191, 21, 5, 42, 180, 0, 22, 122, 172]
abbrev dktJ4_newCapacity_2 : List UInt8 := dkwJ4_newCapacity_2 ++ []
def dkwJ4_newCapacity_1 : List UInt8 := [180, 0, 22, 120, 96, 184, 0, 114, 54, 5, 21, 5, 18, 39, 160, 0, 13, 187, 0, 120, 89, 18, 122]
abbrev dktJ4_newCapacity_1 : List UInt8 := dkwJ4_newCapacity_1 ++ dktJ4_newCapacity_2
def dkwJ4_newCapacity_0 : List UInt8 := [42, 180, 0, 15, 190, 61, 27, 42, 180, 0, 22, 120, 62, 29, 28, 100, 54, 4, 28, 21, 4, 28, 5, 42]
abbrev dktJ4_newCapacity_0 : List UInt8 := dkwJ4_newCapacity_0 ++ dktJ4_newCapacity_1
theorem dksJ4_newCapacity_0 : cJ4_newCapacity.data.toList.drop 0 = dktJ4_newCapacity_0 := by decide +kernel
theorem dksJ4_newCapacity_1 : cJ4_newCapacity.data.toList.drop 24 = dktJ4_newCapacity_1 := dk_seg dksJ4_newCapacity_0 24 rfl rfl
theorem dksJ4_newCapacity_2 : cJ4_newCapacity.data.toList.drop 47 = dktJ4_newCapacity_2 := dk_seg dksJ4_newCapacity_1 23 rfl rfl
theorem dJ4_newCapacity_0 : decode cJ4_newCapacity 0 = .ok (.aload_n 0, 1) := dk_42 (dk_at dksJ4_newCapacity_0 0 rfl rfl)
theorem dJ4_newCapacity_1 : decode cJ4_newCapacity 1 = .ok (.getfield 15, 3) := dk_180 0 15 (dk_at dksJ4_newCapacity_0 1 rfl rfl)
theorem dJ4_newCapacity_4 : decode cJ4_newCapacity 4 = .ok (.arraylength, 1) := dk_190 (dk_at dksJ4_newCapacity_0 4 rfl rfl)
theorem dJ4_newCapacity_5 : decode cJ4_newCapacity 5 = .ok (.istore_n 2, 1) := dk_61 (dk_at dksJ4_newCapacity_0 5 rfl rfl)
theorem dJ4_newCapacity_6 : decode cJ4_newCapacity 6 = .ok (.iload_n 1, 1) := dk_27 (dk_at dksJ4_newCapacity_0 6 rfl rfl)
theorem dJ4_newCapacity_7 : decode cJ4_newCapacity 7 = .ok (.aload_n 0, 1) := dk_42 (dk_at dksJ4_newCapacity_0 7 rfl rfl)
theorem dJ4_newCapacity_8 : decode cJ4_newCapacity 8 = .ok (.getfield 22, 3) := dk_180 0 22 (dk_at dksJ4_newCapacity_0 8 rfl rfl)
theorem dJ4_newCapacity_11 : decode cJ4_newCapacity 11 = .ok (.ishl, 1) := dk_120 (dk_at dksJ4_newCapacity_0 11 rfl rfl)
theorem dJ4_newCapacity_12 : decode cJ4_newCapacity 12 = .ok (.istore_n 3, 1) := dk_62 (dk_at dksJ4_newCapacity_0 12 rfl rfl)
theorem dJ4_newCapacity_13 : decode cJ4_newCapacity 13 = .ok (.iload_n 3, 1) := dk_29 (dk_at dksJ4_newCapacity_0 13 rfl rfl)
theorem dJ4_newCapacity_14 : decode cJ4_newCapacity 14 = .ok (.iload_n 2, 1) := dk_28 (dk_at dksJ4_newCapacity_0 14 rfl rfl)
theorem dJ4_newCapacity_15 : decode cJ4_newCapacity 15 = .ok (.isub, 1) := dk_100 (dk_at dksJ4_newCapacity_0 15 rfl rfl)
theorem dJ4_newCapacity_16 : decode cJ4_newCapacity 16 = .ok (.istore 4, 2) := dk_54 4 (dk_at dksJ4_newCapacity_0 16 rfl rfl)
theorem dJ4_newCapacity_18 : decode cJ4_newCapacity 18 = .ok (.iload_n 2, 1) := dk_28 (dk_at dksJ4_newCapacity_0 18 rfl rfl)
theorem dJ4_newCapacity_19 : decode cJ4_newCapacity 19 = .ok (.iload 4, 2) := dk_21 4 (dk_at dksJ4_newCapacity_0 19 rfl rfl)
theorem dJ4_newCapacity_21 : decode cJ4_newCapacity 21 = .ok (.iload_n 2, 1) := dk_28 (dk_at dksJ4_newCapacity_0 21 rfl rfl)
theorem dJ4_newCapacity_22 : decode cJ4_newCapacity 22 = .ok (.iconst 2, 1) := dk_5 (dk_at dksJ4_newCapacity_0 22 rfl rfl)
theorem dJ4_newCapacity_23 : decode cJ4_newCapacity 23 = .ok (.aload_n 0, 1) := dk_42 (dk_at dksJ4_newCapacity_0 23 rfl rfl)
theorem dJ4_newCapacity_24 : decode cJ4_newCapacity 24 = .ok (.getfield 22, 3) := dk_180 0 22 (dk_at dksJ4_newCapacity_1 0 rfl rfl)
theorem dJ4_newCapacity_27 : decode cJ4_newCapacity 27 = .ok (.ishl, 1) := dk_120 (dk_at dksJ4_newCapacity_1 3 rfl rfl)
theorem dJ4_newCapacity_28 : decode cJ4_newCapacity 28 = .ok (.iadd, 1) := dk_96 (dk_at dksJ4_newCapacity_1 4 rfl rfl)
theorem dJ4_newCapacity_29 : decode cJ4_newCapacity 29 = .ok (.invokestatic 114, 3) := dk_184 0 114 (dk_at dksJ4_newCapacity_1 5 rfl rfl)
theorem dJ4_newCapacity_32 : decode cJ4_newCapacity 32 = .ok (.istore 5, 2) := dk_54 5 (dk_at dksJ4_newCapacity_1 8 rfl rfl)
theorem dJ4_newCapacity_34 : decode cJ4_newCapacity 34 = .ok (.iload 5, 2) := dk_21 5 (dk_at dksJ4_newCapacity_1 10 rfl rfl)
theorem dJ4_newCapacity_36 : decode cJ4_newCapacity 36 = .ok (.ldc 39, 2) := dk_18 39 (dk_at dksJ4_newCapacity_1 12 rfl rfl)
theorem dJ4_newCapacity_38 : decode cJ4_newCapacity 38 = .ok (.if_icmp .ne 13, 3) := dk_160 0 13 (dk_at dksJ4_newCapacity_1 14 rfl rfl)
theorem dJ4_newCapacity_41 : decode cJ4_newCapacity 41 = .ok (.new 120, 3) := dk_187 0 120 (dk_at dksJ4_newCapacity_1 17 rfl rfl)
theorem dJ4_newCapacity_44 : decode cJ4_newCapacity 44 = .ok (.dup, 1) := dk_89 (dk_at dksJ4_newCapacity_1 20 rfl rfl)
theorem dJ4_newCapacity_45 : decode cJ4_newCapacity 45 = .ok (.ldc 122, 2) := dk_18 122 (dk_at dksJ4_newCapacity_1 21 rfl rfl)
theorem dJ4_newCapacity_47 : decode cJ4_newCapacity 47 = .ok (.invokespecial 124, 3) := dk_183 0 124 (dk_at dksJ4_newCapacity_2 0 rfl rfl)
theorem dJ4_newCapacity_50 : decode cJ4_newCapacity 50 = .ok (.athrow, 1) := dk_191 (dk_at dksJ4_newCapacity_2 3 rfl rfl)
theorem dJ4_newCapacity_51 : decode cJ4_newCapacity 51 = .ok (.iload 5, 2) := dk_21 5 (dk_at dksJ4_newCapacity_2 4 rfl rfl)
theorem dJ4_newCapacity_53 : decode cJ4_newCapacity 53 = .ok (.aload_n 0, 1) := dk_42 (dk_at dksJ4_newCapacity_2 6 rfl rfl)
theorem dJ4_newCapacity_54 : decode cJ4_newCapacity 54 = .ok (.getfield 22, 3) := dk_180 0 22 (dk_at dksJ4_newCapacity_2 7 rfl rfl)
theorem dJ4_newCapacity_57 : decode cJ4_newCapacity 57 = .ok (.ishr, 1) := dk_122 (dk_at dksJ4_newCapacity_2 10 rfl rfl)
theorem dJ4_newCapacity_58 : decode cJ4_newCapacity 58 = .ok (.ireturn, 1) := dk_172 (dk_at dksJ4_newCapacity_2 11 rfl rfl)
abbrev cJ4_isLatin1 : ByteArray := prog_16_method_68_code
def yJ4_isLatin1 : MethodName := ⟨RJ4, "isLatin1", "()Z"⟩
def dkwJ4_isLatin1_0 : List UInt8 := [178, 0, 18, 153, 0, 14, 42, 180, 0, 22, 154, 0, 7, 4, 167, 0, 4, 3, 172]
abbrev dktJ4_isLatin1_0 : List UInt8 := dkwJ4_isLatin1_0 ++ []
theorem dksJ4_isLatin1_0 : cJ4_isLatin1.data.toList.drop 0 = dktJ4_isLatin1_0 := by decide +kernel
theorem dJ4_isLatin1_0 : decode cJ4_isLatin1 0 = .ok (.getstatic 18, 3) := dk_178 0 18 (dk_at dksJ4_isLatin1_0 0 rfl rfl)
theorem dJ4_isLatin1_3 : decode cJ4_isLatin1 3 = .ok (.ifCond .eq 14, 3) := dk_153 0 14 (dk_at dksJ4_isLatin1_0 3 rfl rfl)
theorem dJ4_isLatin1_6 : decode cJ4_isLatin1 6 = .ok (.aload_n 0, 1) := dk_42 (dk_at dksJ4_isLatin1_0 6 rfl rfl)
theorem dJ4_isLatin1_7 : decode cJ4_isLatin1 7 = .ok (.getfield 22, 3) := dk_180 0 22 (dk_at dksJ4_isLatin1_0 7 rfl rfl)
theorem dJ4_isLatin1_10 : decode cJ4_isLatin1 10 = .ok (.ifCond .ne 7, 3) := dk_154 0 7 (dk_at dksJ4_isLatin1_0 10 rfl rfl)
theorem dJ4_isLatin1_13 : decode cJ4_isLatin1 13 = .ok (.iconst 1, 1) := dk_4 (dk_at dksJ4_isLatin1_0 13 rfl rfl)
theorem dJ4_isLatin1_14 : decode cJ4_isLatin1 14 = .ok (.goto 4, 3) := dk_167 0 4 (dk_at dksJ4_isLatin1_0 14 rfl rfl)
theorem dJ4_isLatin1_17 : decode cJ4_isLatin1 17 = .ok (.iconst 0, 1) := dk_3 (dk_at dksJ4_isLatin1_0 17 rfl rfl)
theorem dJ4_isLatin1_18 : decode cJ4_isLatin1 18 = .ok (.ireturn, 1) := dk_172 (dk_at dksJ4_isLatin1_0 18 rfl rfl)
abbrev cJ4_append_2 : ByteArray := prog_16_method_31_code
def yJ4_append_2 : MethodName := ⟨RJ4, "append", "(C)Ljava/lang/AbstractStringBuilder;"⟩
def dkwJ4_append_2_3 : List UInt8 := [181, 0, 79, 27, 184, 0, 197, 42, 176]
abbrev dktJ4_append_2_3 : List UInt8 := dkwJ4_append_2_3 ++ []
def dkwJ4_append_2_2 : List UInt8 := [182, 0, 83, 153, 0, 7, 42, 182, 0, 195, 42, 180, 0, 15, 42, 89, 180, 0, 79, 90, 4, 96]
abbrev dktJ4_append_2_2 : List UInt8 := dkwJ4_append_2_2 ++ dktJ4_append_2_3
def dkwJ4_append_2_1 : List UInt8 := [42, 180, 0, 15, 42, 89, 180, 0, 79, 90, 4, 96, 181, 0, 79, 27, 145, 84, 167, 0, 33, 42]
abbrev dktJ4_append_2_1 : List UInt8 := dkwJ4_append_2_1 ++ dktJ4_append_2_2
def dkwJ4_append_2_0 : List UInt8 := [42, 42, 180, 0, 79, 4, 96, 182, 0, 100, 42, 182, 0, 83, 153, 0, 31, 27, 184, 0, 191, 153, 0, 24]
abbrev dktJ4_append_2_0 : List UInt8 := dkwJ4_append_2_0 ++ dktJ4_append_2_1
theorem dksJ4_append_2_0 : cJ4_append_2.data.toList.drop 0 = dktJ4_append_2_0 := by decide +kernel
theorem dksJ4_append_2_1 : cJ4_append_2.data.toList.drop 24 = dktJ4_append_2_1 := dk_seg dksJ4_append_2_0 24 rfl rfl
theorem dksJ4_append_2_2 : cJ4_append_2.data.toList.drop 46 = dktJ4_append_2_2 := dk_seg dksJ4_append_2_1 22 rfl rfl
theorem dksJ4_append_2_3 : cJ4_append_2.data.toList.drop 68 = dktJ4_append_2_3 := dk_seg dksJ4_append_2_2 22 rfl rfl
theorem dJ4_append_2_0 : decode cJ4_append_2 0 = .ok (.aload_n 0, 1) := dk_42 (dk_at dksJ4_append_2_0 0 rfl rfl)
theorem dJ4_append_2_1 : decode cJ4_append_2 1 = .ok (.aload_n 0, 1) := dk_42 (dk_at dksJ4_append_2_0 1 rfl rfl)
theorem dJ4_append_2_2 : decode cJ4_append_2 2 = .ok (.getfield 79, 3) := dk_180 0 79 (dk_at dksJ4_append_2_0 2 rfl rfl)
theorem dJ4_append_2_5 : decode cJ4_append_2 5 = .ok (.iconst 1, 1) := dk_4 (dk_at dksJ4_append_2_0 5 rfl rfl)
theorem dJ4_append_2_6 : decode cJ4_append_2 6 = .ok (.iadd, 1) := dk_96 (dk_at dksJ4_append_2_0 6 rfl rfl)
theorem dJ4_append_2_7 : decode cJ4_append_2 7 = .ok (.invokevirtual 100, 3) := dk_182 0 100 (dk_at dksJ4_append_2_0 7 rfl rfl)
theorem dJ4_append_2_10 : decode cJ4_append_2 10 = .ok (.aload_n 0, 1) := dk_42 (dk_at dksJ4_append_2_0 10 rfl rfl)
theorem dJ4_append_2_11 : decode cJ4_append_2 11 = .ok (.invokevirtual 83, 3) := dk_182 0 83 (dk_at dksJ4_append_2_0 11 rfl rfl)
theorem dJ4_append_2_14 : decode cJ4_append_2 14 = .ok (.ifCond .eq 31, 3) := dk_153 0 31 (dk_at dksJ4_append_2_0 14 rfl rfl)
theorem dJ4_append_2_17 : decode cJ4_append_2 17 = .ok (.iload_n 1, 1) := dk_27 (dk_at dksJ4_append_2_0 17 rfl rfl)
theorem dJ4_append_2_18 : decode cJ4_append_2 18 = .ok (.invokestatic 191, 3) := dk_184 0 191 (dk_at dksJ4_append_2_0 18 rfl rfl)
theorem dJ4_append_2_21 : decode cJ4_append_2 21 = .ok (.ifCond .eq 24, 3) := dk_153 0 24 (dk_at dksJ4_append_2_0 21 rfl rfl)
theorem dJ4_append_2_24 : decode cJ4_append_2 24 = .ok (.aload_n 0, 1) := dk_42 (dk_at dksJ4_append_2_1 0 rfl rfl)
theorem dJ4_append_2_25 : decode cJ4_append_2 25 = .ok (.getfield 15, 3) := dk_180 0 15 (dk_at dksJ4_append_2_1 1 rfl rfl)
theorem dJ4_append_2_28 : decode cJ4_append_2 28 = .ok (.aload_n 0, 1) := dk_42 (dk_at dksJ4_append_2_1 4 rfl rfl)
theorem dJ4_append_2_29 : decode cJ4_append_2 29 = .ok (.dup, 1) := dk_89 (dk_at dksJ4_append_2_1 5 rfl rfl)
theorem dJ4_append_2_30 : decode cJ4_append_2 30 = .ok (.getfield 79, 3) := dk_180 0 79 (dk_at dksJ4_append_2_1 6 rfl rfl)
theorem dJ4_append_2_33 : decode cJ4_append_2 33 = .ok (.dup_x1, 1) := dk_90 (dk_at dksJ4_append_2_1 9 rfl rfl)
theorem dJ4_append_2_34 : decode cJ4_append_2 34 = .ok (.iconst 1, 1) := dk_4 (dk_at dksJ4_append_2_1 10 rfl rfl)
theorem dJ4_append_2_35 : decode cJ4_append_2 35 = .ok (.iadd, 1) := dk_96 (dk_at dksJ4_append_2_1 11 rfl rfl)
theorem dJ4_append_2_36 : decode cJ4_append_2 36 = .ok (.putfield 79, 3) := dk_181 0 79 (dk_at dksJ4_append_2_1 12 rfl rfl)
theorem dJ4_append_2_39 : decode cJ4_append_2 39 = .ok (.iload_n 1, 1) := dk_27 (dk_at dksJ4_append_2_1 15 rfl rfl)
theorem dJ4_append_2_40 : decode cJ4_append_2 40 = .ok (.i2b, 1) := dk_145 (dk_at dksJ4_append_2_1 16 rfl rfl)
theorem dJ4_append_2_41 : decode cJ4_append_2 41 = .ok (.bastore, 1) := dk_84 (dk_at dksJ4_append_2_1 17 rfl rfl)
theorem dJ4_append_2_42 : decode cJ4_append_2 42 = .ok (.goto 33, 3) := dk_167 0 33 (dk_at dksJ4_append_2_1 18 rfl rfl)
theorem dJ4_append_2_45 : decode cJ4_append_2 45 = .ok (.aload_n 0, 1) := dk_42 (dk_at dksJ4_append_2_1 21 rfl rfl)
theorem dJ4_append_2_46 : decode cJ4_append_2 46 = .ok (.invokevirtual 83, 3) := dk_182 0 83 (dk_at dksJ4_append_2_2 0 rfl rfl)
theorem dJ4_append_2_49 : decode cJ4_append_2 49 = .ok (.ifCond .eq 7, 3) := dk_153 0 7 (dk_at dksJ4_append_2_2 3 rfl rfl)
theorem dJ4_append_2_52 : decode cJ4_append_2 52 = .ok (.aload_n 0, 1) := dk_42 (dk_at dksJ4_append_2_2 6 rfl rfl)
theorem dJ4_append_2_53 : decode cJ4_append_2 53 = .ok (.invokevirtual 195, 3) := dk_182 0 195 (dk_at dksJ4_append_2_2 7 rfl rfl)
theorem dJ4_append_2_56 : decode cJ4_append_2 56 = .ok (.aload_n 0, 1) := dk_42 (dk_at dksJ4_append_2_2 10 rfl rfl)
theorem dJ4_append_2_57 : decode cJ4_append_2 57 = .ok (.getfield 15, 3) := dk_180 0 15 (dk_at dksJ4_append_2_2 11 rfl rfl)
theorem dJ4_append_2_60 : decode cJ4_append_2 60 = .ok (.aload_n 0, 1) := dk_42 (dk_at dksJ4_append_2_2 14 rfl rfl)
theorem dJ4_append_2_61 : decode cJ4_append_2 61 = .ok (.dup, 1) := dk_89 (dk_at dksJ4_append_2_2 15 rfl rfl)
theorem dJ4_append_2_62 : decode cJ4_append_2 62 = .ok (.getfield 79, 3) := dk_180 0 79 (dk_at dksJ4_append_2_2 16 rfl rfl)
theorem dJ4_append_2_65 : decode cJ4_append_2 65 = .ok (.dup_x1, 1) := dk_90 (dk_at dksJ4_append_2_2 19 rfl rfl)
theorem dJ4_append_2_66 : decode cJ4_append_2 66 = .ok (.iconst 1, 1) := dk_4 (dk_at dksJ4_append_2_2 20 rfl rfl)
theorem dJ4_append_2_67 : decode cJ4_append_2 67 = .ok (.iadd, 1) := dk_96 (dk_at dksJ4_append_2_2 21 rfl rfl)
theorem dJ4_append_2_68 : decode cJ4_append_2 68 = .ok (.putfield 79, 3) := dk_181 0 79 (dk_at dksJ4_append_2_3 0 rfl rfl)
theorem dJ4_append_2_71 : decode cJ4_append_2 71 = .ok (.iload_n 1, 1) := dk_27 (dk_at dksJ4_append_2_3 3 rfl rfl)
theorem dJ4_append_2_72 : decode cJ4_append_2 72 = .ok (.invokestatic 197, 3) := dk_184 0 197 (dk_at dksJ4_append_2_3 4 rfl rfl)
theorem dJ4_append_2_75 : decode cJ4_append_2 75 = .ok (.aload_n 0, 1) := dk_42 (dk_at dksJ4_append_2_3 7 rfl rfl)
theorem dJ4_append_2_76 : decode cJ4_append_2 76 = .ok (.areturn, 1) := dk_176 (dk_at dksJ4_append_2_3 8 rfl rfl)
abbrev cJ4_inflate : ByteArray := prog_16_method_11_code
def yJ4_inflate : MethodName := ⟨RJ4, "inflate", "()V"⟩
def dkwJ4_inflate_1 : List UInt8 := [42, 180, 0, 79, 184, 0, 125, 42, 43, 181, 0, 15, 42, 4, 181, 0, 22, 177]
abbrev dktJ4_inflate_1 : List UInt8 := dkwJ4_inflate_1 ++ []
def dkwJ4_inflate_0 : List UInt8 := [42, 182, 0, 83, 154, 0, 4, 177, 42, 180, 0, 15, 190, 184, 0, 26, 76, 42, 180, 0, 15, 3, 43, 3]
abbrev dktJ4_inflate_0 : List UInt8 := dkwJ4_inflate_0 ++ dktJ4_inflate_1
theorem dksJ4_inflate_0 : cJ4_inflate.data.toList.drop 0 = dktJ4_inflate_0 := by decide +kernel
theorem dksJ4_inflate_1 : cJ4_inflate.data.toList.drop 24 = dktJ4_inflate_1 := dk_seg dksJ4_inflate_0 24 rfl rfl
theorem dJ4_inflate_0 : decode cJ4_inflate 0 = .ok (.aload_n 0, 1) := dk_42 (dk_at dksJ4_inflate_0 0 rfl rfl)
theorem dJ4_inflate_1 : decode cJ4_inflate 1 = .ok (.invokevirtual 83, 3) := dk_182 0 83 (dk_at dksJ4_inflate_0 1 rfl rfl)
theorem dJ4_inflate_4 : decode cJ4_inflate 4 = .ok (.ifCond .ne 4, 3) := dk_154 0 4 (dk_at dksJ4_inflate_0 4 rfl rfl)
theorem dJ4_inflate_7 : decode cJ4_inflate 7 = .ok (.return_, 1) := dk_177 (dk_at dksJ4_inflate_0 7 rfl rfl)
theorem dJ4_inflate_8 : decode cJ4_inflate 8 = .ok (.aload_n 0, 1) := dk_42 (dk_at dksJ4_inflate_0 8 rfl rfl)
theorem dJ4_inflate_9 : decode cJ4_inflate 9 = .ok (.getfield 15, 3) := dk_180 0 15 (dk_at dksJ4_inflate_0 9 rfl rfl)
theorem dJ4_inflate_12 : decode cJ4_inflate 12 = .ok (.arraylength, 1) := dk_190 (dk_at dksJ4_inflate_0 12 rfl rfl)
theorem dJ4_inflate_13 : decode cJ4_inflate 13 = .ok (.invokestatic 26, 3) := dk_184 0 26 (dk_at dksJ4_inflate_0 13 rfl rfl)
theorem dJ4_inflate_16 : decode cJ4_inflate 16 = .ok (.astore_n 1, 1) := dk_76 (dk_at dksJ4_inflate_0 16 rfl rfl)
theorem dJ4_inflate_17 : decode cJ4_inflate 17 = .ok (.aload_n 0, 1) := dk_42 (dk_at dksJ4_inflate_0 17 rfl rfl)
theorem dJ4_inflate_18 : decode cJ4_inflate 18 = .ok (.getfield 15, 3) := dk_180 0 15 (dk_at dksJ4_inflate_0 18 rfl rfl)
theorem dJ4_inflate_21 : decode cJ4_inflate 21 = .ok (.iconst 0, 1) := dk_3 (dk_at dksJ4_inflate_0 21 rfl rfl)
theorem dJ4_inflate_22 : decode cJ4_inflate 22 = .ok (.aload_n 1, 1) := dk_43 (dk_at dksJ4_inflate_0 22 rfl rfl)
theorem dJ4_inflate_23 : decode cJ4_inflate 23 = .ok (.iconst 0, 1) := dk_3 (dk_at dksJ4_inflate_0 23 rfl rfl)
theorem dJ4_inflate_24 : decode cJ4_inflate 24 = .ok (.aload_n 0, 1) := dk_42 (dk_at dksJ4_inflate_1 0 rfl rfl)
theorem dJ4_inflate_25 : decode cJ4_inflate 25 = .ok (.getfield 79, 3) := dk_180 0 79 (dk_at dksJ4_inflate_1 1 rfl rfl)
theorem dJ4_inflate_28 : decode cJ4_inflate 28 = .ok (.invokestatic 125, 3) := dk_184 0 125 (dk_at dksJ4_inflate_1 4 rfl rfl)
theorem dJ4_inflate_31 : decode cJ4_inflate 31 = .ok (.aload_n 0, 1) := dk_42 (dk_at dksJ4_inflate_1 7 rfl rfl)
theorem dJ4_inflate_32 : decode cJ4_inflate 32 = .ok (.aload_n 1, 1) := dk_43 (dk_at dksJ4_inflate_1 8 rfl rfl)
theorem dJ4_inflate_33 : decode cJ4_inflate 33 = .ok (.putfield 15, 3) := dk_181 0 15 (dk_at dksJ4_inflate_1 9 rfl rfl)
theorem dJ4_inflate_36 : decode cJ4_inflate 36 = .ok (.aload_n 0, 1) := dk_42 (dk_at dksJ4_inflate_1 12 rfl rfl)
theorem dJ4_inflate_37 : decode cJ4_inflate 37 = .ok (.iconst 1, 1) := dk_4 (dk_at dksJ4_inflate_1 13 rfl rfl)
theorem dJ4_inflate_38 : decode cJ4_inflate 38 = .ok (.putfield 22, 3) := dk_181 0 22 (dk_at dksJ4_inflate_1 14 rfl rfl)
theorem dJ4_inflate_41 : decode cJ4_inflate 41 = .ok (.return_, 1) := dk_177 (dk_at dksJ4_inflate_1 17 rfl rfl)
abbrev cJ4_getValue : ByteArray := prog_16_method_64_code
def yJ4_getValue : MethodName := ⟨RJ4, "getValue", "()[B"⟩
theorem dJ4_getValue_0 : decode cJ4_getValue 0 = .ok (.aload_n 0, 1) := by decide +kernel
theorem dJ4_getValue_1 : decode cJ4_getValue 1 = .ok (.getfield 15, 3) := by decide +kernel
theorem dJ4_getValue_4 : decode cJ4_getValue 4 = .ok (.areturn, 1) := by decide +kernel
abbrev cJ4_length : ByteArray := prog_16_method_6_code
def yJ4_length : MethodName := ⟨RJ4, "length", "()I"⟩
theorem dJ4_length_0 : decode cJ4_length 0 = .ok (.aload_n 0, 1) := by decide +kernel
theorem dJ4_length_1 : decode cJ4_length 1 = .ok (.getfield 79, 3) := by decide +kernel
theorem dJ4_length_4 : decode cJ4_length 4 = .ok (.ireturn, 1) := by decide +kernel
abbrev cJ4_charAt : ByteArray := prog_16_method_14_code
def yJ4_charAt : MethodName := ⟨RJ4, "charAt", "(I)C"⟩
def dkwJ4_charAt_1 : List UInt8 := [21, 4, 184, 0, 144, 28, 154, 0, 12, 45, 27, 51, 17, 0, 255, 126, 146, 172, 45, 27, 184, 0, 148, 172]
abbrev dktJ4_charAt_1 : List UInt8 := dkwJ4_charAt_1 ++ []
def dkwJ4_charAt_0 : List UInt8 := [42, 180, 0, 22, 61, 42, 180, 0, 15, 78, 42, 180, 0, 79, 45, 190, 28, 122, 184, 0, 138, 54, 4, 27]
abbrev dktJ4_charAt_0 : List UInt8 := dkwJ4_charAt_0 ++ dktJ4_charAt_1
theorem dksJ4_charAt_0 : cJ4_charAt.data.toList.drop 0 = dktJ4_charAt_0 := by decide +kernel
theorem dksJ4_charAt_1 : cJ4_charAt.data.toList.drop 24 = dktJ4_charAt_1 := dk_seg dksJ4_charAt_0 24 rfl rfl
theorem dJ4_charAt_0 : decode cJ4_charAt 0 = .ok (.aload_n 0, 1) := dk_42 (dk_at dksJ4_charAt_0 0 rfl rfl)
theorem dJ4_charAt_1 : decode cJ4_charAt 1 = .ok (.getfield 22, 3) := dk_180 0 22 (dk_at dksJ4_charAt_0 1 rfl rfl)
theorem dJ4_charAt_4 : decode cJ4_charAt 4 = .ok (.istore_n 2, 1) := dk_61 (dk_at dksJ4_charAt_0 4 rfl rfl)
theorem dJ4_charAt_5 : decode cJ4_charAt 5 = .ok (.aload_n 0, 1) := dk_42 (dk_at dksJ4_charAt_0 5 rfl rfl)
theorem dJ4_charAt_6 : decode cJ4_charAt 6 = .ok (.getfield 15, 3) := dk_180 0 15 (dk_at dksJ4_charAt_0 6 rfl rfl)
theorem dJ4_charAt_9 : decode cJ4_charAt 9 = .ok (.astore_n 3, 1) := dk_78 (dk_at dksJ4_charAt_0 9 rfl rfl)
theorem dJ4_charAt_10 : decode cJ4_charAt 10 = .ok (.aload_n 0, 1) := dk_42 (dk_at dksJ4_charAt_0 10 rfl rfl)
theorem dJ4_charAt_11 : decode cJ4_charAt 11 = .ok (.getfield 79, 3) := dk_180 0 79 (dk_at dksJ4_charAt_0 11 rfl rfl)
theorem dJ4_charAt_14 : decode cJ4_charAt 14 = .ok (.aload_n 3, 1) := dk_45 (dk_at dksJ4_charAt_0 14 rfl rfl)
theorem dJ4_charAt_15 : decode cJ4_charAt 15 = .ok (.arraylength, 1) := dk_190 (dk_at dksJ4_charAt_0 15 rfl rfl)
theorem dJ4_charAt_16 : decode cJ4_charAt 16 = .ok (.iload_n 2, 1) := dk_28 (dk_at dksJ4_charAt_0 16 rfl rfl)
theorem dJ4_charAt_17 : decode cJ4_charAt 17 = .ok (.ishr, 1) := dk_122 (dk_at dksJ4_charAt_0 17 rfl rfl)
theorem dJ4_charAt_18 : decode cJ4_charAt 18 = .ok (.invokestatic 138, 3) := dk_184 0 138 (dk_at dksJ4_charAt_0 18 rfl rfl)
theorem dJ4_charAt_21 : decode cJ4_charAt 21 = .ok (.istore 4, 2) := dk_54 4 (dk_at dksJ4_charAt_0 21 rfl rfl)
theorem dJ4_charAt_23 : decode cJ4_charAt 23 = .ok (.iload_n 1, 1) := dk_27 (dk_at dksJ4_charAt_0 23 rfl rfl)
theorem dJ4_charAt_24 : decode cJ4_charAt 24 = .ok (.iload 4, 2) := dk_21 4 (dk_at dksJ4_charAt_1 0 rfl rfl)
theorem dJ4_charAt_26 : decode cJ4_charAt 26 = .ok (.invokestatic 144, 3) := dk_184 0 144 (dk_at dksJ4_charAt_1 2 rfl rfl)
theorem dJ4_charAt_29 : decode cJ4_charAt 29 = .ok (.iload_n 2, 1) := dk_28 (dk_at dksJ4_charAt_1 5 rfl rfl)
theorem dJ4_charAt_30 : decode cJ4_charAt 30 = .ok (.ifCond .ne 12, 3) := dk_154 0 12 (dk_at dksJ4_charAt_1 6 rfl rfl)
theorem dJ4_charAt_33 : decode cJ4_charAt 33 = .ok (.aload_n 3, 1) := dk_45 (dk_at dksJ4_charAt_1 9 rfl rfl)
theorem dJ4_charAt_34 : decode cJ4_charAt 34 = .ok (.iload_n 1, 1) := dk_27 (dk_at dksJ4_charAt_1 10 rfl rfl)
theorem dJ4_charAt_35 : decode cJ4_charAt 35 = .ok (.baload, 1) := dk_51 (dk_at dksJ4_charAt_1 11 rfl rfl)
theorem dJ4_charAt_36 : decode cJ4_charAt 36 = .ok (.sipush 255, 3) := dk_17 0 255 (dk_at dksJ4_charAt_1 12 rfl rfl)
theorem dJ4_charAt_39 : decode cJ4_charAt 39 = .ok (.iand, 1) := dk_126 (dk_at dksJ4_charAt_1 15 rfl rfl)
theorem dJ4_charAt_40 : decode cJ4_charAt 40 = .ok (.i2c, 1) := dk_146 (dk_at dksJ4_charAt_1 16 rfl rfl)
theorem dJ4_charAt_41 : decode cJ4_charAt 41 = .ok (.ireturn, 1) := dk_172 (dk_at dksJ4_charAt_1 17 rfl rfl)
theorem dJ4_charAt_42 : decode cJ4_charAt 42 = .ok (.aload_n 3, 1) := dk_45 (dk_at dksJ4_charAt_1 18 rfl rfl)
theorem dJ4_charAt_43 : decode cJ4_charAt 43 = .ok (.iload_n 1, 1) := dk_27 (dk_at dksJ4_charAt_1 19 rfl rfl)
theorem dJ4_charAt_44 : decode cJ4_charAt 44 = .ok (.invokestatic 148, 3) := dk_184 0 148 (dk_at dksJ4_charAt_1 20 rfl rfl)
theorem dJ4_charAt_47 : decode cJ4_charAt 47 = .ok (.ireturn, 1) := dk_172 (dk_at dksJ4_charAt_1 23 rfl rfl)
abbrev cJ4_setLength : ByteArray := prog_16_method_13_code
def yJ4_setLength : MethodName := ⟨RJ4, "setLength", "(I)V"⟩
def dkwJ4_setLength_3 : List UInt8 := [164, 0, 8, 42, 4, 181, 0, 73, 42, 27, 181, 0, 79, 177]
abbrev dktJ4_setLength_3 : List UInt8 := dkwJ4_setLength_3 ++ []
def dkwJ4_setLength_2 : List UInt8 := [167, 0, 31, 42, 180, 0, 15, 42, 180, 0, 79, 27, 184, 0, 137, 167, 0, 16, 42, 180, 0, 79, 27]
abbrev dktJ4_setLength_2 : List UInt8 := dkwJ4_setLength_2 ++ dktJ4_setLength_3
def dkwJ4_setLength_1 : List UInt8 := [162, 0, 40, 42, 182, 0, 83, 153, 0, 18, 42, 180, 0, 15, 42, 180, 0, 79, 27, 184, 0, 133]
abbrev dktJ4_setLength_1 : List UInt8 := dkwJ4_setLength_1 ++ dktJ4_setLength_2
def dkwJ4_setLength_0 : List UInt8 := [27, 156, 0, 12, 187, 0, 129, 89, 27, 183, 0, 131, 191, 42, 27, 182, 0, 100, 42, 180, 0, 79, 27]
abbrev dktJ4_setLength_0 : List UInt8 := dkwJ4_setLength_0 ++ dktJ4_setLength_1
theorem dksJ4_setLength_0 : cJ4_setLength.data.toList.drop 0 = dktJ4_setLength_0 := by decide +kernel
theorem dksJ4_setLength_1 : cJ4_setLength.data.toList.drop 23 = dktJ4_setLength_1 := dk_seg dksJ4_setLength_0 23 rfl rfl
theorem dksJ4_setLength_2 : cJ4_setLength.data.toList.drop 45 = dktJ4_setLength_2 := dk_seg dksJ4_setLength_1 22 rfl rfl
theorem dksJ4_setLength_3 : cJ4_setLength.data.toList.drop 68 = dktJ4_setLength_3 := dk_seg dksJ4_setLength_2 23 rfl rfl
theorem dJ4_setLength_0 : decode cJ4_setLength 0 = .ok (.iload_n 1, 1) := dk_27 (dk_at dksJ4_setLength_0 0 rfl rfl)
theorem dJ4_setLength_1 : decode cJ4_setLength 1 = .ok (.ifCond .ge 12, 3) := dk_156 0 12 (dk_at dksJ4_setLength_0 1 rfl rfl)
theorem dJ4_setLength_4 : decode cJ4_setLength 4 = .ok (.new 129, 3) := dk_187 0 129 (dk_at dksJ4_setLength_0 4 rfl rfl)
theorem dJ4_setLength_7 : decode cJ4_setLength 7 = .ok (.dup, 1) := dk_89 (dk_at dksJ4_setLength_0 7 rfl rfl)
theorem dJ4_setLength_8 : decode cJ4_setLength 8 = .ok (.iload_n 1, 1) := dk_27 (dk_at dksJ4_setLength_0 8 rfl rfl)
theorem dJ4_setLength_9 : decode cJ4_setLength 9 = .ok (.invokespecial 131, 3) := dk_183 0 131 (dk_at dksJ4_setLength_0 9 rfl rfl)
theorem dJ4_setLength_12 : decode cJ4_setLength 12 = .ok (.athrow, 1) := dk_191 (dk_at dksJ4_setLength_0 12 rfl rfl)
theorem dJ4_setLength_13 : decode cJ4_setLength 13 = .ok (.aload_n 0, 1) := dk_42 (dk_at dksJ4_setLength_0 13 rfl rfl)
theorem dJ4_setLength_14 : decode cJ4_setLength 14 = .ok (.iload_n 1, 1) := dk_27 (dk_at dksJ4_setLength_0 14 rfl rfl)
theorem dJ4_setLength_15 : decode cJ4_setLength 15 = .ok (.invokevirtual 100, 3) := dk_182 0 100 (dk_at dksJ4_setLength_0 15 rfl rfl)
theorem dJ4_setLength_18 : decode cJ4_setLength 18 = .ok (.aload_n 0, 1) := dk_42 (dk_at dksJ4_setLength_0 18 rfl rfl)
theorem dJ4_setLength_19 : decode cJ4_setLength 19 = .ok (.getfield 79, 3) := dk_180 0 79 (dk_at dksJ4_setLength_0 19 rfl rfl)
theorem dJ4_setLength_22 : decode cJ4_setLength 22 = .ok (.iload_n 1, 1) := dk_27 (dk_at dksJ4_setLength_0 22 rfl rfl)
theorem dJ4_setLength_23 : decode cJ4_setLength 23 = .ok (.if_icmp .ge 40, 3) := dk_162 0 40 (dk_at dksJ4_setLength_1 0 rfl rfl)
theorem dJ4_setLength_26 : decode cJ4_setLength 26 = .ok (.aload_n 0, 1) := dk_42 (dk_at dksJ4_setLength_1 3 rfl rfl)
theorem dJ4_setLength_27 : decode cJ4_setLength 27 = .ok (.invokevirtual 83, 3) := dk_182 0 83 (dk_at dksJ4_setLength_1 4 rfl rfl)
theorem dJ4_setLength_30 : decode cJ4_setLength 30 = .ok (.ifCond .eq 18, 3) := dk_153 0 18 (dk_at dksJ4_setLength_1 7 rfl rfl)
theorem dJ4_setLength_33 : decode cJ4_setLength 33 = .ok (.aload_n 0, 1) := dk_42 (dk_at dksJ4_setLength_1 10 rfl rfl)
theorem dJ4_setLength_34 : decode cJ4_setLength 34 = .ok (.getfield 15, 3) := dk_180 0 15 (dk_at dksJ4_setLength_1 11 rfl rfl)
theorem dJ4_setLength_37 : decode cJ4_setLength 37 = .ok (.aload_n 0, 1) := dk_42 (dk_at dksJ4_setLength_1 14 rfl rfl)
theorem dJ4_setLength_38 : decode cJ4_setLength 38 = .ok (.getfield 79, 3) := dk_180 0 79 (dk_at dksJ4_setLength_1 15 rfl rfl)
theorem dJ4_setLength_41 : decode cJ4_setLength 41 = .ok (.iload_n 1, 1) := dk_27 (dk_at dksJ4_setLength_1 18 rfl rfl)
theorem dJ4_setLength_42 : decode cJ4_setLength 42 = .ok (.invokestatic 133, 3) := dk_184 0 133 (dk_at dksJ4_setLength_1 19 rfl rfl)
theorem dJ4_setLength_45 : decode cJ4_setLength 45 = .ok (.goto 31, 3) := dk_167 0 31 (dk_at dksJ4_setLength_2 0 rfl rfl)
theorem dJ4_setLength_48 : decode cJ4_setLength 48 = .ok (.aload_n 0, 1) := dk_42 (dk_at dksJ4_setLength_2 3 rfl rfl)
theorem dJ4_setLength_49 : decode cJ4_setLength 49 = .ok (.getfield 15, 3) := dk_180 0 15 (dk_at dksJ4_setLength_2 4 rfl rfl)
theorem dJ4_setLength_52 : decode cJ4_setLength 52 = .ok (.aload_n 0, 1) := dk_42 (dk_at dksJ4_setLength_2 7 rfl rfl)
theorem dJ4_setLength_53 : decode cJ4_setLength 53 = .ok (.getfield 79, 3) := dk_180 0 79 (dk_at dksJ4_setLength_2 8 rfl rfl)
theorem dJ4_setLength_56 : decode cJ4_setLength 56 = .ok (.iload_n 1, 1) := dk_27 (dk_at dksJ4_setLength_2 11 rfl rfl)
theorem dJ4_setLength_57 : decode cJ4_setLength 57 = .ok (.invokestatic 137, 3) := dk_184 0 137 (dk_at dksJ4_setLength_2 12 rfl rfl)
theorem dJ4_setLength_60 : decode cJ4_setLength 60 = .ok (.goto 16, 3) := dk_167 0 16 (dk_at dksJ4_setLength_2 15 rfl rfl)
theorem dJ4_setLength_63 : decode cJ4_setLength 63 = .ok (.aload_n 0, 1) := dk_42 (dk_at dksJ4_setLength_2 18 rfl rfl)
theorem dJ4_setLength_64 : decode cJ4_setLength 64 = .ok (.getfield 79, 3) := dk_180 0 79 (dk_at dksJ4_setLength_2 19 rfl rfl)
theorem dJ4_setLength_67 : decode cJ4_setLength 67 = .ok (.iload_n 1, 1) := dk_27 (dk_at dksJ4_setLength_2 22 rfl rfl)
theorem dJ4_setLength_68 : decode cJ4_setLength 68 = .ok (.if_icmp .le 8, 3) := dk_164 0 8 (dk_at dksJ4_setLength_3 0 rfl rfl)
theorem dJ4_setLength_71 : decode cJ4_setLength 71 = .ok (.aload_n 0, 1) := dk_42 (dk_at dksJ4_setLength_3 3 rfl rfl)
theorem dJ4_setLength_72 : decode cJ4_setLength 72 = .ok (.iconst 1, 1) := dk_4 (dk_at dksJ4_setLength_3 4 rfl rfl)
theorem dJ4_setLength_73 : decode cJ4_setLength 73 = .ok (.putfield 73, 3) := dk_181 0 73 (dk_at dksJ4_setLength_3 5 rfl rfl)
theorem dJ4_setLength_76 : decode cJ4_setLength 76 = .ok (.aload_n 0, 1) := dk_42 (dk_at dksJ4_setLength_3 8 rfl rfl)
theorem dJ4_setLength_77 : decode cJ4_setLength 77 = .ok (.iload_n 1, 1) := dk_27 (dk_at dksJ4_setLength_3 9 rfl rfl)
theorem dJ4_setLength_78 : decode cJ4_setLength 78 = .ok (.putfield 79, 3) := dk_181 0 79 (dk_at dksJ4_setLength_3 10 rfl rfl)
theorem dJ4_setLength_81 : decode cJ4_setLength 81 = .ok (.return_, 1) := dk_177 (dk_at dksJ4_setLength_3 13 rfl rfl)
theorem q75 : (Jvm.Cond.initialized "java/lang/AbstractStringBuilder") ∈ lw_all := lw_g (lw_at lw_m1 7 rfl) rfl
theorem q200 : (Jvm.Cond.instanceMethod ({ cls := "java/lang/AbstractStringBuilder", name := "<init>", desc := "(I)V" } : Jvm.MethodName)) ∈ lw_all := lw_g (lw_at lw_m1 132 rfl) rfl
theorem q201 : (Jvm.Cond.code ({ cls := "java/lang/AbstractStringBuilder", name := "<init>", desc := "(I)V" } : Jvm.MethodName) prog_16_method_2_code (2 : Nat) (Option.none : Option Jvm.ClassFile.FieldType)) ∈ lw_all := lw_g (lw_at lw_m1 133 rfl) rfl
theorem q202 : (Jvm.Cond.methodLink "java/lang/AbstractStringBuilder" (3 : Nat) ({ cls := "java/lang/Object", name := "<init>", desc := "()V" } : Jvm.MethodName)) ∈ lw_all := lw_g (lw_at lw_m1 134 rfl) rfl
theorem q203 : (Jvm.Cond.fieldLink "java/lang/AbstractStringBuilder" (18 : Nat) "java/lang/String" "COMPACT_STRINGS" "Z") ∈ lw_all := lw_g (lw_at lw_m1 135 rfl) rfl
theorem q205 : (Jvm.Cond.methodLink "java/lang/AbstractStringBuilder" (26 : Nat) ({ cls := "java/lang/StringUTF16", name := "newBytesFor", desc := "(I)[B" } : Jvm.MethodName)) ∈ lw_all := lw_g (lw_at lw_m1 137 rfl) rfl
theorem q212 : (Jvm.Cond.fieldLink "java/lang/AbstractStringBuilder" (15 : Nat) "java/lang/AbstractStringBuilder" "value" "[B") ∈ lw_all := lw_g (lw_at lw_m1 144 rfl) rfl
theorem q213 : (Jvm.Cond.fieldLink "java/lang/AbstractStringBuilder" (22 : Nat) "java/lang/AbstractStringBuilder" "coder" "B") ∈ lw_all := lw_g (lw_at lw_m1 145 rfl) rfl
theorem q214 : (Jvm.Cond.fieldLink "java/lang/AbstractStringBuilder" (73 : Nat) "java/lang/AbstractStringBuilder" "maybeLatin1" "Z") ∈ lw_all := lw_g (lw_at lw_m1 146 rfl) rfl
theorem q216 : (Jvm.Cond.fieldLink "java/lang/AbstractStringBuilder" (79 : Nat) "java/lang/AbstractStringBuilder" "count" "I") ∈ lw_all := lw_g (lw_at lw_m1 148 rfl) rfl
theorem q218 : (Jvm.Cond.soleField "java/lang/AbstractStringBuilder" "value") ∈ lw_all := lw_g (lw_at lw_m1 150 rfl) rfl
theorem q220 : (Jvm.Cond.soleField "java/lang/AbstractStringBuilder" "coder") ∈ lw_all := lw_g (lw_at lw_m1 152 rfl) rfl
theorem q222 : (Jvm.Cond.soleField "java/lang/AbstractStringBuilder" "maybeLatin1") ∈ lw_all := lw_g (lw_at lw_m1 154 rfl) rfl
theorem q224 : (Jvm.Cond.soleField "java/lang/AbstractStringBuilder" "count") ∈ lw_all := lw_g (lw_at lw_m1 156 rfl) rfl
theorem q977 : (Jvm.Cond.instanceMethod ({ cls := "java/lang/AbstractStringBuilder", name := "append", desc := "(I)Ljava/lang/AbstractStringBuilder;" } : Jvm.MethodName)) ∈ lw_all := lw_g (lw_at lw_m4 189 rfl) rfl
theorem q978 : (Jvm.Cond.code ({ cls := "java/lang/AbstractStringBuilder", name := "append", desc := "(I)Ljava/lang/AbstractStringBuilder;" } : Jvm.MethodName) prog_16_method_32_code (4 : Nat) (Option.some (Jvm.ClassFile.FieldType.object "java/lang/AbstractStringBuilder"))) ∈ lw_all := lw_g (lw_at lw_m4 190 rfl) rfl
theorem q979 : (Jvm.Cond.methodLink "java/lang/AbstractStringBuilder" (245 : Nat) ({ cls := "java/lang/Integer", name := "stringSize", desc := "(I)I" } : Jvm.MethodName)) ∈ lw_all := lw_g (lw_at lw_m4 191 rfl) rfl
theorem q982 : (Jvm.Cond.methodLink "java/lang/AbstractStringBuilder" (100 : Nat) ({ cls := "java/lang/AbstractStringBuilder", name := "ensureCapacityInternal", desc := "(I)V" } : Jvm.MethodName)) ∈ lw_all := lw_g (lw_at lw_m4 194 rfl) rfl
theorem q983 : (Jvm.Cond.privateMethod ({ cls := "java/lang/AbstractStringBuilder", name := "ensureCapacityInternal", desc := "(I)V" } : Jvm.MethodName)) ∈ lw_tbl := lw_at lw_m4 195 rfl
theorem q984 : (Jvm.Cond.instanceMethod ({ cls := "java/lang/AbstractStringBuilder", name := "ensureCapacityInternal", desc := "(I)V" } : Jvm.MethodName)) ∈ lw_all := lw_g (lw_at lw_m4 196 rfl) rfl
theorem q985 : (Jvm.Cond.code ({ cls := "java/lang/AbstractStringBuilder", name := "ensureCapacityInternal", desc := "(I)V" } : Jvm.MethodName) prog_16_method_9_code (3 : Nat) (Option.none : Option Jvm.ClassFile.FieldType)) ∈ lw_all := lw_g (lw_at lw_m4 197 rfl) rfl
theorem q986 : (Jvm.Cond.methodLink "java/lang/AbstractStringBuilder" (104 : Nat) ({ cls := "java/lang/AbstractStringBuilder", name := "newCapacity", desc := "(I)I" } : Jvm.MethodName)) ∈ lw_all := lw_g (lw_at lw_m4 198 rfl) rfl
theorem q987 : (Jvm.Cond.privateMethod ({ cls := "java/lang/AbstractStringBuilder", name := "newCapacity", desc := "(I)I" } : Jvm.MethodName)) ∈ lw_tbl := lw_at lw_m4 199 rfl
theorem q988 : (Jvm.Cond.instanceMethod ({ cls := "java/lang/AbstractStringBuilder", name := "newCapacity", desc := "(I)I" } : Jvm.MethodName)) ∈ lw_all := lw_g (lw_at lw_m4 200 rfl) rfl
theorem q989 : (Jvm.Cond.code ({ cls := "java/lang/AbstractStringBuilder", name := "newCapacity", desc := "(I)I" } : Jvm.MethodName) prog_16_method_10_code (6 : Nat) (Option.some Jvm.ClassFile.FieldType.int)) ∈ lw_all := lw_g (lw_at lw_m4 201 rfl) rfl
theorem q990 : (Jvm.Cond.methodLink "java/lang/AbstractStringBuilder" (114 : Nat) ({ cls := "jdk/internal/util/ArraysSupport", name := "newLength", desc := "(III)I" } : Jvm.MethodName)) ∈ lw_all := lw_g (lw_at lw_m4 202 rfl) rfl
theorem q991 : (Jvm.Cond.constant "java/lang/AbstractStringBuilder" (39 : Nat) (2147483647 : Int32)) ∈ lw_all := lw_g (lw_at lw_m4 203 rfl) rfl
theorem q992 : (Jvm.Cond.methodLink "java/lang/AbstractStringBuilder" (108 : Nat) ({ cls := "java/util/Arrays", name := "copyOf", desc := "([BI)[B" } : Jvm.MethodName)) ∈ lw_all := lw_g (lw_at lw_m4 204 rfl) rfl
theorem q1002 : (Jvm.Cond.methodLink "java/lang/AbstractStringBuilder" (83 : Nat) ({ cls := "java/lang/AbstractStringBuilder", name := "isLatin1", desc := "()Z" } : Jvm.MethodName)) ∈ lw_all := lw_g (lw_at lw_m4 214 rfl) rfl
theorem q1003 : (Jvm.Cond.instanceMethod ({ cls := "java/lang/AbstractStringBuilder", name := "isLatin1", desc := "()Z" } : Jvm.MethodName)) ∈ lw_all := lw_g (lw_at lw_m4 215 rfl) rfl
theorem q1004 : (Jvm.Cond.sameMethod "java/lang/AbstractStringBuilder" "java/lang/AbstractStringBuilder" "isLatin1" "()Z") ∈ lw_all := lw_g (lw_at lw_m4 216 rfl) rfl
theorem q1006 : (Jvm.Cond.code ({ cls := "java/lang/AbstractStringBuilder", name := "isLatin1", desc := "()Z" } : Jvm.MethodName) prog_16_method_68_code (1 : Nat) (Option.some Jvm.ClassFile.FieldType.boolean)) ∈ lw_all := lw_g (lw_at lw_m4 218 rfl) rfl
theorem q1007 : (Jvm.Cond.methodLink "java/lang/AbstractStringBuilder" (248 : Nat) ({ cls := "java/lang/Integer", name := "getChars", desc := "(II[B)I" } : Jvm.MethodName)) ∈ lw_all := lw_g (lw_at lw_m4 219 rfl) rfl
theorem q1014 : (Jvm.Cond.methodLink "java/lang/AbstractStringBuilder" (251 : Nat) ({ cls := "java/lang/StringUTF16", name := "getChars", desc := "(III[B)I" } : Jvm.MethodName)) ∈ lw_all := lw_g (lw_at lw_m4 226 rfl) rfl
theorem q1050 : (Jvm.Cond.instanceMethod ({ cls := "java/lang/AbstractStringBuilder", name := "append", desc := "(C)Ljava/lang/AbstractStringBuilder;" } : Jvm.MethodName)) ∈ lw_all := lw_g (lw_at lw_m5 22 rfl) rfl
theorem q1051 : (Jvm.Cond.code ({ cls := "java/lang/AbstractStringBuilder", name := "append", desc := "(C)Ljava/lang/AbstractStringBuilder;" } : Jvm.MethodName) prog_16_method_31_code (2 : Nat) (Option.some (Jvm.ClassFile.FieldType.object "java/lang/AbstractStringBuilder"))) ∈ lw_all := lw_g (lw_at lw_m5 23 rfl) rfl
theorem q1052 : (Jvm.Cond.methodLink "java/lang/AbstractStringBuilder" (191 : Nat) ({ cls := "java/lang/StringLatin1", name := "canEncode", desc := "(C)Z" } : Jvm.MethodName)) ∈ lw_all := lw_g (lw_at lw_m5 24 rfl) rfl
theorem q1055 : (Jvm.Cond.methodLink "java/lang/AbstractStringBuilder" (195 : Nat) ({ cls := "java/lang/AbstractStringBuilder", name := "inflate", desc := "()V" } : Jvm.MethodName)) ∈ lw_all := lw_g (lw_at lw_m5 27 rfl) rfl
theorem q1056 : (Jvm.Cond.privateMethod ({ cls := "java/lang/AbstractStringBuilder", name := "inflate", desc := "()V" } : Jvm.MethodName)) ∈ lw_tbl := lw_at lw_m5 28 rfl
theorem q1057 : (Jvm.Cond.instanceMethod ({ cls := "java/lang/AbstractStringBuilder", name := "inflate", desc := "()V" } : Jvm.MethodName)) ∈ lw_all := lw_g (lw_at lw_m5 29 rfl) rfl
theorem q1058 : (Jvm.Cond.code ({ cls := "java/lang/AbstractStringBuilder", name := "inflate", desc := "()V" } : Jvm.MethodName) prog_16_method_11_code (2 : Nat) (Option.none : Option Jvm.ClassFile.FieldType)) ∈ lw_all := lw_g (lw_at lw_m5 30 rfl) rfl
theorem q1059 : (Jvm.Cond.methodLink "java/lang/AbstractStringBuilder" (125 : Nat) ({ cls := "java/lang/StringLatin1", name := "inflate", desc := "([BI[BII)V" } : Jvm.MethodName)) ∈ lw_all := lw_g (lw_at lw_m5 31 rfl) rfl
theorem q1074 : (Jvm.Cond.methodLink "java/lang/AbstractStringBuilder" (197 : Nat) ({ cls := "java/lang/StringUTF16", name := "putCharSB", desc := "([BII)V" } : Jvm.MethodName)) ∈ lw_all := lw_g (lw_at lw_m5 46 rfl) rfl
theorem q1104 : (Jvm.Cond.instanceMethod ({ cls := "java/lang/AbstractStringBuilder", name := "getValue", desc := "()[B" } : Jvm.MethodName)) ∈ lw_all := lw_g (lw_at lw_m5 76 rfl) rfl
theorem q1105 : (Jvm.Cond.sameMethod "java/lang/AbstractStringBuilder" "java/lang/AbstractStringBuilder" "getValue" "()[B") ∈ lw_all := lw_g (lw_at lw_m5 77 rfl) rfl
theorem q1107 : (Jvm.Cond.code ({ cls := "java/lang/AbstractStringBuilder", name := "getValue", desc := "()[B" } : Jvm.MethodName) prog_16_method_64_code (1 : Nat) (Option.some (Jvm.ClassFile.FieldType.array Jvm.ClassFile.FieldType.byte))) ∈ lw_all := lw_g (lw_at lw_m5 79 rfl) rfl
theorem q1109 : (Jvm.Cond.instanceMethod ({ cls := "java/lang/AbstractStringBuilder", name := "length", desc := "()I" } : Jvm.MethodName)) ∈ lw_all := lw_g (lw_at lw_m5 81 rfl) rfl
theorem q1110 : (Jvm.Cond.sameMethod "java/lang/AbstractStringBuilder" "java/lang/AbstractStringBuilder" "length" "()I") ∈ lw_all := lw_g (lw_at lw_m5 82 rfl) rfl
theorem q1115 : (Jvm.Cond.code ({ cls := "java/lang/AbstractStringBuilder", name := "length", desc := "()I" } : Jvm.MethodName) prog_16_method_6_code (1 : Nat) (Option.some Jvm.ClassFile.FieldType.int)) ∈ lw_all := lw_g (lw_at lw_m5 87 rfl) rfl
theorem q1222 : (Jvm.Cond.instanceMethod ({ cls := "java/lang/AbstractStringBuilder", name := "charAt", desc := "(I)C" } : Jvm.MethodName)) ∈ lw_all := lw_g (lw_at lw_m5 194 rfl) rfl
theorem q1223 : (Jvm.Cond.code ({ cls := "java/lang/AbstractStringBuilder", name := "charAt", desc := "(I)C" } : Jvm.MethodName) prog_16_method_14_code (5 : Nat) (Option.some Jvm.ClassFile.FieldType.char)) ∈ lw_all := lw_g (lw_at lw_m5 195 rfl) rfl
theorem q1224 : (Jvm.Cond.methodLink "java/lang/AbstractStringBuilder" (138 : Nat) ({ cls := "java/lang/Math", name := "min", desc := "(II)I" } : Jvm.MethodName)) ∈ lw_all := lw_g (lw_at lw_m5 196 rfl) rfl
theorem q1225 : (Jvm.Cond.methodLink "java/lang/AbstractStringBuilder" (144 : Nat) ({ cls := "java/lang/String", name := "checkIndex", desc := "(II)V" } : Jvm.MethodName)) ∈ lw_all := lw_g (lw_at lw_m5 197 rfl) rfl
theorem q1226 : (Jvm.Cond.methodLink "java/lang/AbstractStringBuilder" (148 : Nat) ({ cls := "java/lang/StringUTF16", name := "getChar", desc := "([BI)C" } : Jvm.MethodName)) ∈ lw_all := lw_g (lw_at lw_m5 198 rfl) rfl
theorem q1332 : (Jvm.Cond.instanceMethod ({ cls := "java/lang/AbstractStringBuilder", name := "setLength", desc := "(I)V" } : Jvm.MethodName)) ∈ lw_all := lw_g (lw_at lw_m6 64 rfl) rfl
theorem q1333 : (Jvm.Cond.code ({ cls := "java/lang/AbstractStringBuilder", name := "setLength", desc := "(I)V" } : Jvm.MethodName) prog_16_method_13_code (2 : Nat) (Option.none : Option Jvm.ClassFile.FieldType)) ∈ lw_all := lw_g (lw_at lw_m6 65 rfl) rfl
theorem q1334 : (Jvm.Cond.methodLink "java/lang/AbstractStringBuilder" (133 : Nat) ({ cls := "java/lang/StringLatin1", name := "fillNull", desc := "([BII)V" } : Jvm.MethodName)) ∈ lw_all := lw_g (lw_at lw_m6 66 rfl) rfl
theorem q1343 : (Jvm.Cond.methodLink "java/lang/AbstractStringBuilder" (137 : Nat) ({ cls := "java/lang/StringUTF16", name := "fillNull", desc := "([BII)V" } : Jvm.MethodName)) ∈ lw_all := lw_g (lw_at lw_m6 75 rfl) rfl
theorem q1807 : (Jvm.Cond.sameMethod "java/lang/AbstractStringBuilder" "java/lang/AbstractStringBuilder" "append" "(I)Ljava/lang/AbstractStringBuilder;") ∈ lw_all := lw_g (lw_at lw_m8 59 rfl) rfl
theorem q1808 : (Jvm.Cond.sameMethod "java/lang/AbstractStringBuilder" "java/lang/AbstractStringBuilder" "ensureCapacityInternal" "(I)V") ∈ lw_all := lw_g (lw_at lw_m8 60 rfl) rfl
theorem q1809 : (Jvm.Cond.sameMethod "java/lang/AbstractStringBuilder" "java/lang/AbstractStringBuilder" "newCapacity" "(I)I") ∈ lw_all := lw_g (lw_at lw_m8 61 rfl) rfl
theorem q1810 : (Jvm.Cond.sameMethod "java/lang/AbstractStringBuilder" "java/lang/AbstractStringBuilder" "append" "(C)Ljava/lang/AbstractStringBuilder;") ∈ lw_all := lw_g (lw_at lw_m8 62 rfl) rfl
theorem q1811 : (Jvm.Cond.sameMethod "java/lang/AbstractStringBuilder" "java/lang/AbstractStringBuilder" "inflate" "()V") ∈ lw_all := lw_g (lw_at lw_m8 63 rfl) rfl
theorem q1813 : (Jvm.Cond.sameMethod "java/lang/AbstractStringBuilder" "java/lang/AbstractStringBuilder" "charAt" "(I)C") ∈ lw_all := lw_g (lw_at lw_m8 65 rfl) rfl
theorem q1814 : (Jvm.Cond.sameMethod "java/lang/AbstractStringBuilder" "java/lang/AbstractStringBuilder" "setLength" "(I)V") ∈ lw_all := lw_g (lw_at lw_m8 66 rfl) rfl
/-! java/lang/StringBuilder -/
set_option maxRecDepth 100000
def RJ5 : String := "java/lang/StringBuilder"
def TJ5 : u_T := fun k => match k with
  | 0 => ("java/lang/AbstractStringBuilder", "value", "[B", false)
  | 1 => ("java/lang/AbstractStringBuilder", "coder", "B", false)
  | 2 => ("java/lang/AbstractStringBuilder", "maybeLatin1", "Z", false)
  | _ => ("java/lang/AbstractStringBuilder", "count", "I", false)
def tyJ5 : Nat → FieldType := fun k => match k with
  | 0 => .array .byte
  | 1 => .byte
  | 2 => .boolean
  | _ => .int
abbrev wsJ50 : List Cond := u_ws RJ5 TJ5 4
theorem nmJ5 : ∀ a, a < 4 → ∀ b, b < 4 → a ≠ b → (TJ5 a).2.1 ≠ (TJ5 b).2.1 := by decide +kernel
theorem tyJ5_ok : ∀ k, k < 4 → parseFieldDescriptor (TJ5 k).2.2.1 = some (tyJ5 k) := by decide +kernel
abbrev cJ5_init : ByteArray := prog_29_method_1_code
def yJ5_init : MethodName := ⟨RJ5, "<init>", "()V"⟩
def dkwJ5_init_0 : List UInt8 := [42, 16, 16, 183, 0, 1, 177]
abbrev dktJ5_init_0 : List UInt8 := dkwJ5_init_0 ++ []
theorem dksJ5_init_0 : cJ5_init.data.toList.drop 0 = dktJ5_init_0 := by decide +kernel
theorem dJ5_init_0 : decode cJ5_init 0 = .ok (.aload_n 0, 1) := dk_42 (dk_at dksJ5_init_0 0 rfl rfl)
theorem dJ5_init_1 : decode cJ5_init 1 = .ok (.bipush 16, 2) := dk_16 16 (dk_at dksJ5_init_0 1 rfl rfl)
theorem dJ5_init_3 : decode cJ5_init 3 = .ok (.invokespecial 1, 3) := dk_183 0 1 (dk_at dksJ5_init_0 3 rfl rfl)
theorem dJ5_init_6 : decode cJ5_init 6 = .ok (.return_, 1) := dk_177 (dk_at dksJ5_init_0 6 rfl rfl)
abbrev cJ5_append : ByteArray := prog_29_method_15_code
def yJ5_append : MethodName := ⟨RJ5, "append", "(I)Ljava/lang/StringBuilder;"⟩
def dkwJ5_append_0 : List UInt8 := [42, 27, 183, 0, 53, 87, 42, 176]
abbrev dktJ5_append_0 : List UInt8 := dkwJ5_append_0 ++ []
theorem dksJ5_append_0 : cJ5_append.data.toList.drop 0 = dktJ5_append_0 := by decide +kernel
theorem dJ5_append_0 : decode cJ5_append 0 = .ok (.aload_n 0, 1) := dk_42 (dk_at dksJ5_append_0 0 rfl rfl)
theorem dJ5_append_1 : decode cJ5_append 1 = .ok (.iload_n 1, 1) := dk_27 (dk_at dksJ5_append_0 1 rfl rfl)
theorem dJ5_append_2 : decode cJ5_append 2 = .ok (.invokespecial 53, 3) := dk_183 0 53 (dk_at dksJ5_append_0 2 rfl rfl)
theorem dJ5_append_5 : decode cJ5_append 5 = .ok (.pop, 1) := dk_87 (dk_at dksJ5_append_0 5 rfl rfl)
theorem dJ5_append_6 : decode cJ5_append 6 = .ok (.aload_n 0, 1) := dk_42 (dk_at dksJ5_append_0 6 rfl rfl)
theorem dJ5_append_7 : decode cJ5_append 7 = .ok (.areturn, 1) := dk_176 (dk_at dksJ5_append_0 7 rfl rfl)
abbrev cJ5_append_2 : ByteArray := prog_29_method_14_code
def yJ5_append_2 : MethodName := ⟨RJ5, "append", "(C)Ljava/lang/StringBuilder;"⟩
def dkwJ5_append_2_0 : List UInt8 := [42, 27, 183, 0, 50, 87, 42, 176]
abbrev dktJ5_append_2_0 : List UInt8 := dkwJ5_append_2_0 ++ []
theorem dksJ5_append_2_0 : cJ5_append_2.data.toList.drop 0 = dktJ5_append_2_0 := by decide +kernel
theorem dJ5_append_2_0 : decode cJ5_append_2 0 = .ok (.aload_n 0, 1) := dk_42 (dk_at dksJ5_append_2_0 0 rfl rfl)
theorem dJ5_append_2_1 : decode cJ5_append_2 1 = .ok (.iload_n 1, 1) := dk_27 (dk_at dksJ5_append_2_0 1 rfl rfl)
theorem dJ5_append_2_2 : decode cJ5_append_2 2 = .ok (.invokespecial 50, 3) := dk_183 0 50 (dk_at dksJ5_append_2_0 2 rfl rfl)
theorem dJ5_append_2_5 : decode cJ5_append_2 5 = .ok (.pop, 1) := dk_87 (dk_at dksJ5_append_2_0 5 rfl rfl)
theorem dJ5_append_2_6 : decode cJ5_append_2 6 = .ok (.aload_n 0, 1) := dk_42 (dk_at dksJ5_append_2_0 6 rfl rfl)
theorem dJ5_append_2_7 : decode cJ5_append_2 7 = .ok (.areturn, 1) := dk_176 (dk_at dksJ5_append_2_0 7 rfl rfl)
abbrev cJ5_toString : ByteArray := prog_29_method_42_code
def yJ5_toString : MethodName := ⟨RJ5, "toString", "()Ljava/lang/String;"⟩
def dkwJ5_toString_0 : List UInt8 := [187, 0, 18, 89, 42, 183, 0, 137, 176]
abbrev dktJ5_toString_0 : List UInt8 := dkwJ5_toString_0 ++ []
theorem dksJ5_toString_0 : cJ5_toString.data.toList.drop 0 = dktJ5_toString_0 := by decide +kernel
theorem dJ5_toString_0 : decode cJ5_toString 0 = .ok (.new 18, 3) := dk_187 0 18 (dk_at dksJ5_toString_0 0 rfl rfl)
theorem dJ5_toString_3 : decode cJ5_toString 3 = .ok (.dup, 1) := dk_89 (dk_at dksJ5_toString_0 3 rfl rfl)
theorem dJ5_toString_4 : decode cJ5_toString 4 = .ok (.aload_n 0, 1) := dk_42 (dk_at dksJ5_toString_0 4 rfl rfl)
theorem dJ5_toString_5 : decode cJ5_toString 5 = .ok (.invokespecial 137, 3) := dk_183 0 137 (dk_at dksJ5_toString_0 5 rfl rfl)
theorem dJ5_toString_8 : decode cJ5_toString 8 = .ok (.areturn, 1) := dk_176 (dk_at dksJ5_toString_0 8 rfl rfl)
abbrev cJ5_length : ByteArray := prog_29_method_93_code
def yJ5_length : MethodName := ⟨RJ5, "length", "()I"⟩
theorem dJ5_length_0 : decode cJ5_length 0 = .ok (.aload_n 0, 1) := by decide +kernel
theorem dJ5_length_1 : decode cJ5_length 1 = .ok (.invokespecial 343, 3) := by decide +kernel
theorem dJ5_length_4 : decode cJ5_length 4 = .ok (.ireturn, 1) := by decide +kernel
abbrev cJ5_charAt : ByteArray := prog_29_method_88_code
def yJ5_charAt : MethodName := ⟨RJ5, "charAt", "(I)C"⟩
def dkwJ5_charAt_0 : List UInt8 := [42, 27, 183, 1, 73, 172]
abbrev dktJ5_charAt_0 : List UInt8 := dkwJ5_charAt_0 ++ []
theorem dksJ5_charAt_0 : cJ5_charAt.data.toList.drop 0 = dktJ5_charAt_0 := by decide +kernel
theorem dJ5_charAt_0 : decode cJ5_charAt 0 = .ok (.aload_n 0, 1) := dk_42 (dk_at dksJ5_charAt_0 0 rfl rfl)
theorem dJ5_charAt_1 : decode cJ5_charAt 1 = .ok (.iload_n 1, 1) := dk_27 (dk_at dksJ5_charAt_0 1 rfl rfl)
theorem dJ5_charAt_2 : decode cJ5_charAt 2 = .ok (.invokespecial 329, 3) := dk_183 1 73 (dk_at dksJ5_charAt_0 2 rfl rfl)
theorem dJ5_charAt_5 : decode cJ5_charAt 5 = .ok (.ireturn, 1) := dk_172 (dk_at dksJ5_charAt_0 5 rfl rfl)
abbrev cJ5_setLength : ByteArray := prog_29_method_89_code
def yJ5_setLength : MethodName := ⟨RJ5, "setLength", "(I)V"⟩
def dkwJ5_setLength_0 : List UInt8 := [42, 27, 183, 1, 77, 177]
abbrev dktJ5_setLength_0 : List UInt8 := dkwJ5_setLength_0 ++ []
theorem dksJ5_setLength_0 : cJ5_setLength.data.toList.drop 0 = dktJ5_setLength_0 := by decide +kernel
theorem dJ5_setLength_0 : decode cJ5_setLength 0 = .ok (.aload_n 0, 1) := dk_42 (dk_at dksJ5_setLength_0 0 rfl rfl)
theorem dJ5_setLength_1 : decode cJ5_setLength 1 = .ok (.iload_n 1, 1) := dk_27 (dk_at dksJ5_setLength_0 1 rfl rfl)
theorem dJ5_setLength_2 : decode cJ5_setLength 2 = .ok (.invokespecial 333, 3) := dk_183 1 77 (dk_at dksJ5_setLength_0 2 rfl rfl)
theorem dJ5_setLength_5 : decode cJ5_setLength 5 = .ok (.return_, 1) := dk_177 (dk_at dksJ5_setLength_0 5 rfl rfl)
theorem q76 : (Jvm.Cond.initialized "java/lang/StringBuilder") ∈ lw_all := lw_g (lw_at lw_m1 8 rfl) rfl
theorem q195 : (Jvm.Cond.instantiable "java/lang/StringBuilder" (4 : Nat)) ∈ lw_all := lw_g (lw_at lw_m1 127 rfl) rfl
theorem q197 : (Jvm.Cond.instanceMethod ({ cls := "java/lang/StringBuilder", name := "<init>", desc := "()V" } : Jvm.MethodName)) ∈ lw_all := lw_g (lw_at lw_m1 129 rfl) rfl
theorem q198 : (Jvm.Cond.code ({ cls := "java/lang/StringBuilder", name := "<init>", desc := "()V" } : Jvm.MethodName) prog_29_method_1_code (1 : Nat) (Option.none : Option Jvm.ClassFile.FieldType)) ∈ lw_all := lw_g (lw_at lw_m1 130 rfl) rfl
theorem q199 : (Jvm.Cond.methodLink "java/lang/StringBuilder" (1 : Nat) ({ cls := "java/lang/AbstractStringBuilder", name := "<init>", desc := "(I)V" } : Jvm.MethodName)) ∈ lw_all := lw_g (lw_at lw_m1 131 rfl) rfl
theorem q217 : (Jvm.Cond.lays "java/lang/StringBuilder" "java/lang/AbstractStringBuilder" "value" "[B") ∈ lw_all := lw_g (lw_at lw_m1 149 rfl) rfl
theorem q219 : (Jvm.Cond.lays "java/lang/StringBuilder" "java/lang/AbstractStringBuilder" "coder" "B") ∈ lw_all := lw_g (lw_at lw_m1 151 rfl) rfl
theorem q221 : (Jvm.Cond.lays "java/lang/StringBuilder" "java/lang/AbstractStringBuilder" "maybeLatin1" "Z") ∈ lw_all := lw_g (lw_at lw_m1 153 rfl) rfl
theorem q223 : (Jvm.Cond.lays "java/lang/StringBuilder" "java/lang/AbstractStringBuilder" "count" "I") ∈ lw_all := lw_g (lw_at lw_m1 155 rfl) rfl
theorem q225 : (Jvm.Cond.superclass "java/lang/StringBuilder" "java/lang/AbstractStringBuilder") ∈ lw_all := lw_g (lw_at lw_m1 157 rfl) rfl
theorem q512 : (Jvm.Cond.selects "java/lang/StringBuilder" ({ cls := "java/lang/Object", name := "getClass", desc := "()Ljava/lang/Class;" } : Jvm.MethodName) ({ cls := "java/lang/Object", name := "getClass", desc := "()Ljava/lang/Class;" } : Jvm.MethodName)) ∈ lw_all := lw_g (lw_at lw_m2 204 rfl) rfl
theorem q973 : (Jvm.Cond.instanceMethod ({ cls := "java/lang/StringBuilder", name := "append", desc := "(I)Ljava/lang/StringBuilder;" } : Jvm.MethodName)) ∈ lw_all := lw_g (lw_at lw_m4 185 rfl) rfl
theorem q974 : (Jvm.Cond.selects "java/lang/StringBuilder" ({ cls := "java/lang/StringBuilder", name := "append", desc := "(I)Ljava/lang/StringBuilder;" } : Jvm.MethodName) ({ cls := "java/lang/StringBuilder", name := "append", desc := "(I)Ljava/lang/StringBuilder;" } : Jvm.MethodName)) ∈ lw_all := lw_g (lw_at lw_m4 186 rfl) rfl
theorem q975 : (Jvm.Cond.code ({ cls := "java/lang/StringBuilder", name := "append", desc := "(I)Ljava/lang/StringBuilder;" } : Jvm.MethodName) prog_29_method_15_code (2 : Nat) (Option.some (Jvm.ClassFile.FieldType.object "java/lang/StringBuilder"))) ∈ lw_all := lw_g (lw_at lw_m4 187 rfl) rfl
theorem q976 : (Jvm.Cond.methodLink "java/lang/StringBuilder" (53 : Nat) ({ cls := "java/lang/AbstractStringBuilder", name := "append", desc := "(I)Ljava/lang/AbstractStringBuilder;" } : Jvm.MethodName)) ∈ lw_all := lw_g (lw_at lw_m4 188 rfl) rfl
theorem q1005 : (Jvm.Cond.selects "java/lang/StringBuilder" ({ cls := "java/lang/AbstractStringBuilder", name := "isLatin1", desc := "()Z" } : Jvm.MethodName) ({ cls := "java/lang/AbstractStringBuilder", name := "isLatin1", desc := "()Z" } : Jvm.MethodName)) ∈ lw_all := lw_g (lw_at lw_m4 217 rfl) rfl
theorem q1046 : (Jvm.Cond.instanceMethod ({ cls := "java/lang/StringBuilder", name := "append", desc := "(C)Ljava/lang/StringBuilder;" } : Jvm.MethodName)) ∈ lw_all := lw_g (lw_at lw_m5 18 rfl) rfl
theorem q1047 : (Jvm.Cond.selects "java/lang/StringBuilder" ({ cls := "java/lang/StringBuilder", name := "append", desc := "(C)Ljava/lang/StringBuilder;" } : Jvm.MethodName) ({ cls := "java/lang/StringBuilder", name := "append", desc := "(C)Ljava/lang/StringBuilder;" } : Jvm.MethodName)) ∈ lw_all := lw_g (lw_at lw_m5 19 rfl) rfl
theorem q1048 : (Jvm.Cond.code ({ cls := "java/lang/StringBuilder", name := "append", desc := "(C)Ljava/lang/StringBuilder;" } : Jvm.MethodName) prog_29_method_14_code (2 : Nat) (Option.some (Jvm.ClassFile.FieldType.object "java/lang/StringBuilder"))) ∈ lw_all := lw_g (lw_at lw_m5 20 rfl) rfl
theorem q1049 : (Jvm.Cond.methodLink "java/lang/StringBuilder" (50 : Nat) ({ cls := "java/lang/AbstractStringBuilder", name := "append", desc := "(C)Ljava/lang/AbstractStringBuilder;" } : Jvm.MethodName)) ∈ lw_all := lw_g (lw_at lw_m5 21 rfl) rfl
theorem q1091 : (Jvm.Cond.instanceMethod ({ cls := "java/lang/StringBuilder", name := "toString", desc := "()Ljava/lang/String;" } : Jvm.MethodName)) ∈ lw_all := lw_g (lw_at lw_m5 63 rfl) rfl
theorem q1092 : (Jvm.Cond.selects "java/lang/StringBuilder" ({ cls := "java/lang/StringBuilder", name := "toString", desc := "()Ljava/lang/String;" } : Jvm.MethodName) ({ cls := "java/lang/StringBuilder", name := "toString", desc := "()Ljava/lang/String;" } : Jvm.MethodName)) ∈ lw_all := lw_g (lw_at lw_m5 64 rfl) rfl
theorem q1093 : (Jvm.Cond.code ({ cls := "java/lang/StringBuilder", name := "toString", desc := "()Ljava/lang/String;" } : Jvm.MethodName) prog_29_method_42_code (1 : Nat) (Option.some (Jvm.ClassFile.FieldType.object "java/lang/String"))) ∈ lw_all := lw_g (lw_at lw_m5 65 rfl) rfl
theorem q1094 : (Jvm.Cond.classLink "java/lang/StringBuilder" (18 : Nat) "java/lang/String") ∈ lw_all := lw_g (lw_at lw_m5 66 rfl) rfl
theorem q1096 : (Jvm.Cond.methodLink "java/lang/StringBuilder" (137 : Nat) ({ cls := "java/lang/String", name := "<init>", desc := "(Ljava/lang/StringBuilder;)V" } : Jvm.MethodName)) ∈ lw_all := lw_g (lw_at lw_m5 68 rfl) rfl
theorem q1106 : (Jvm.Cond.selects "java/lang/StringBuilder" ({ cls := "java/lang/AbstractStringBuilder", name := "getValue", desc := "()[B" } : Jvm.MethodName) ({ cls := "java/lang/AbstractStringBuilder", name := "getValue", desc := "()[B" } : Jvm.MethodName)) ∈ lw_all := lw_g (lw_at lw_m5 78 rfl) rfl
theorem q1111 : (Jvm.Cond.selects "java/lang/StringBuilder" ({ cls := "java/lang/AbstractStringBuilder", name := "length", desc := "()I" } : Jvm.MethodName) ({ cls := "java/lang/StringBuilder", name := "length", desc := "()I" } : Jvm.MethodName)) ∈ lw_all := lw_g (lw_at lw_m5 83 rfl) rfl
theorem q1112 : (Jvm.Cond.instanceMethod ({ cls := "java/lang/StringBuilder", name := "length", desc := "()I" } : Jvm.MethodName)) ∈ lw_all := lw_g (lw_at lw_m5 84 rfl) rfl
theorem q1113 : (Jvm.Cond.code ({ cls := "java/lang/StringBuilder", name := "length", desc := "()I" } : Jvm.MethodName) prog_29_method_93_code (1 : Nat) (Option.some Jvm.ClassFile.FieldType.int)) ∈ lw_all := lw_g (lw_at lw_m5 85 rfl) rfl
theorem q1114 : (Jvm.Cond.methodLink "java/lang/StringBuilder" (343 : Nat) ({ cls := "java/lang/AbstractStringBuilder", name := "length", desc := "()I" } : Jvm.MethodName)) ∈ lw_all := lw_g (lw_at lw_m5 86 rfl) rfl
theorem q1218 : (Jvm.Cond.instanceMethod ({ cls := "java/lang/StringBuilder", name := "charAt", desc := "(I)C" } : Jvm.MethodName)) ∈ lw_all := lw_g (lw_at lw_m5 190 rfl) rfl
theorem q1219 : (Jvm.Cond.selects "java/lang/StringBuilder" ({ cls := "java/lang/StringBuilder", name := "charAt", desc := "(I)C" } : Jvm.MethodName) ({ cls := "java/lang/StringBuilder", name := "charAt", desc := "(I)C" } : Jvm.MethodName)) ∈ lw_all := lw_g (lw_at lw_m5 191 rfl) rfl
theorem q1220 : (Jvm.Cond.code ({ cls := "java/lang/StringBuilder", name := "charAt", desc := "(I)C" } : Jvm.MethodName) prog_29_method_88_code (2 : Nat) (Option.some Jvm.ClassFile.FieldType.char)) ∈ lw_all := lw_g (lw_at lw_m5 192 rfl) rfl
theorem q1221 : (Jvm.Cond.methodLink "java/lang/StringBuilder" (329 : Nat) ({ cls := "java/lang/AbstractStringBuilder", name := "charAt", desc := "(I)C" } : Jvm.MethodName)) ∈ lw_all := lw_g (lw_at lw_m5 193 rfl) rfl
theorem q1328 : (Jvm.Cond.instanceMethod ({ cls := "java/lang/StringBuilder", name := "setLength", desc := "(I)V" } : Jvm.MethodName)) ∈ lw_all := lw_g (lw_at lw_m6 60 rfl) rfl
theorem q1329 : (Jvm.Cond.selects "java/lang/StringBuilder" ({ cls := "java/lang/StringBuilder", name := "setLength", desc := "(I)V" } : Jvm.MethodName) ({ cls := "java/lang/StringBuilder", name := "setLength", desc := "(I)V" } : Jvm.MethodName)) ∈ lw_all := lw_g (lw_at lw_m6 61 rfl) rfl
theorem q1330 : (Jvm.Cond.code ({ cls := "java/lang/StringBuilder", name := "setLength", desc := "(I)V" } : Jvm.MethodName) prog_29_method_89_code (2 : Nat) (Option.none : Option Jvm.ClassFile.FieldType)) ∈ lw_all := lw_g (lw_at lw_m6 62 rfl) rfl
theorem q1331 : (Jvm.Cond.methodLink "java/lang/StringBuilder" (333 : Nat) ({ cls := "java/lang/AbstractStringBuilder", name := "setLength", desc := "(I)V" } : Jvm.MethodName)) ∈ lw_all := lw_g (lw_at lw_m6 63 rfl) rfl
theorem q1812 : (Jvm.Cond.selects "java/lang/StringBuilder" ({ cls := "java/lang/StringBuilder", name := "length", desc := "()I" } : Jvm.MethodName) ({ cls := "java/lang/StringBuilder", name := "length", desc := "()I" } : Jvm.MethodName)) ∈ lw_all := lw_g (lw_at lw_m8 64 rfl) rfl
theorem q1820 : (Jvm.Cond.castable "java/lang/StringBuilder" "java/lang/Object") ∈ lw_tbl := lw_at lw_m8 72 rfl
theorem in_J5 : ∀ w ∈ wsJ50, w ∈ lw_all := lw_in wsJ50 [217, 219, 221, 223] (by decide +kernel) (by decide +kernel)
/-! java/lang/String -/
set_option maxRecDepth 100000
def RJ6 : String := "java/lang/String"
def TJ6 : u_T := fun k => match k with
  | 0 => ("java/lang/String", "value", "[B", true)
  | 1 => ("java/lang/String", "coder", "B", true)
  | 2 => ("java/lang/String", "hash", "I", false)
  | _ => ("java/lang/String", "hashIsZero", "Z", false)
def tyJ6 : Nat → FieldType := fun k => match k with
  | 0 => .array .byte
  | 1 => .byte
  | 2 => .int
  | _ => .boolean
abbrev wsJ60 : List Cond := u_ws RJ6 TJ6 4
theorem nmJ6 : ∀ a, a < 4 → ∀ b, b < 4 → a ≠ b → (TJ6 a).2.1 ≠ (TJ6 b).2.1 := by decide +kernel
theorem tyJ6_ok : ∀ k, k < 4 → parseFieldDescriptor (TJ6 k).2.2.1 = some (tyJ6 k) := by decide +kernel
abbrev cJ6_checkBoundsBeginEnd : ByteArray := prog_28_method_158_code
def yJ6_checkBoundsBeginEnd : MethodName := ⟨RJ6, "checkBoundsBeginEnd", "(III)V"⟩
def dkwJ6_checkBoundsBeginEnd_0 : List UInt8 := [26, 27, 28, 178, 4, 29, 184, 4, 38, 87, 177]
abbrev dktJ6_checkBoundsBeginEnd_0 : List UInt8 := dkwJ6_checkBoundsBeginEnd_0 ++ []
theorem dksJ6_checkBoundsBeginEnd_0 : cJ6_checkBoundsBeginEnd.data.toList.drop 0 = dktJ6_checkBoundsBeginEnd_0 := by decide +kernel
theorem dJ6_checkBoundsBeginEnd_0 : decode cJ6_checkBoundsBeginEnd 0 = .ok (.iload_n 0, 1) := dk_26 (dk_at dksJ6_checkBoundsBeginEnd_0 0 rfl rfl)
theorem dJ6_checkBoundsBeginEnd_1 : decode cJ6_checkBoundsBeginEnd 1 = .ok (.iload_n 1, 1) := dk_27 (dk_at dksJ6_checkBoundsBeginEnd_0 1 rfl rfl)
theorem dJ6_checkBoundsBeginEnd_2 : decode cJ6_checkBoundsBeginEnd 2 = .ok (.iload_n 2, 1) := dk_28 (dk_at dksJ6_checkBoundsBeginEnd_0 2 rfl rfl)
theorem dJ6_checkBoundsBeginEnd_3 : decode cJ6_checkBoundsBeginEnd 3 = .ok (.getstatic 1053, 3) := dk_178 4 29 (dk_at dksJ6_checkBoundsBeginEnd_0 3 rfl rfl)
theorem dJ6_checkBoundsBeginEnd_6 : decode cJ6_checkBoundsBeginEnd 6 = .ok (.invokestatic 1062, 3) := dk_184 4 38 (dk_at dksJ6_checkBoundsBeginEnd_0 6 rfl rfl)
theorem dJ6_checkBoundsBeginEnd_9 : decode cJ6_checkBoundsBeginEnd 9 = .ok (.pop, 1) := dk_87 (dk_at dksJ6_checkBoundsBeginEnd_0 9 rfl rfl)
theorem dJ6_checkBoundsBeginEnd_10 : decode cJ6_checkBoundsBeginEnd 10 = .ok (.return_, 1) := dk_177 (dk_at dksJ6_checkBoundsBeginEnd_0 10 rfl rfl)
abbrev cJ6_checkBoundsOffCount : ByteArray := prog_28_method_157_code
def yJ6_checkBoundsOffCount : MethodName := ⟨RJ6, "checkBoundsOffCount", "(III)I"⟩
def dkwJ6_checkBoundsOffCount_0 : List UInt8 := [26, 27, 28, 178, 4, 29, 184, 4, 41, 172]
abbrev dktJ6_checkBoundsOffCount_0 : List UInt8 := dkwJ6_checkBoundsOffCount_0 ++ []
theorem dksJ6_checkBoundsOffCount_0 : cJ6_checkBoundsOffCount.data.toList.drop 0 = dktJ6_checkBoundsOffCount_0 := by decide +kernel
theorem dJ6_checkBoundsOffCount_0 : decode cJ6_checkBoundsOffCount 0 = .ok (.iload_n 0, 1) := dk_26 (dk_at dksJ6_checkBoundsOffCount_0 0 rfl rfl)
theorem dJ6_checkBoundsOffCount_1 : decode cJ6_checkBoundsOffCount 1 = .ok (.iload_n 1, 1) := dk_27 (dk_at dksJ6_checkBoundsOffCount_0 1 rfl rfl)
theorem dJ6_checkBoundsOffCount_2 : decode cJ6_checkBoundsOffCount 2 = .ok (.iload_n 2, 1) := dk_28 (dk_at dksJ6_checkBoundsOffCount_0 2 rfl rfl)
theorem dJ6_checkBoundsOffCount_3 : decode cJ6_checkBoundsOffCount 3 = .ok (.getstatic 1053, 3) := dk_178 4 29 (dk_at dksJ6_checkBoundsOffCount_0 3 rfl rfl)
theorem dJ6_checkBoundsOffCount_6 : decode cJ6_checkBoundsOffCount 6 = .ok (.invokestatic 1065, 3) := dk_184 4 41 (dk_at dksJ6_checkBoundsOffCount_0 6 rfl rfl)
theorem dJ6_checkBoundsOffCount_9 : decode cJ6_checkBoundsOffCount 9 = .ok (.ireturn, 1) := dk_172 (dk_at dksJ6_checkBoundsOffCount_0 9 rfl rfl)
abbrev cJ6_checkIndex : ByteArray := prog_28_method_155_code
def yJ6_checkIndex : MethodName := ⟨RJ6, "checkIndex", "(II)V"⟩
def dkwJ6_checkIndex_0 : List UInt8 := [26, 27, 178, 4, 29, 184, 4, 35, 87, 177]
abbrev dktJ6_checkIndex_0 : List UInt8 := dkwJ6_checkIndex_0 ++ []
theorem dksJ6_checkIndex_0 : cJ6_checkIndex.data.toList.drop 0 = dktJ6_checkIndex_0 := by decide +kernel
theorem dJ6_checkIndex_0 : decode cJ6_checkIndex 0 = .ok (.iload_n 0, 1) := dk_26 (dk_at dksJ6_checkIndex_0 0 rfl rfl)
theorem dJ6_checkIndex_1 : decode cJ6_checkIndex 1 = .ok (.iload_n 1, 1) := dk_27 (dk_at dksJ6_checkIndex_0 1 rfl rfl)
theorem dJ6_checkIndex_2 : decode cJ6_checkIndex 2 = .ok (.getstatic 1053, 3) := dk_178 4 29 (dk_at dksJ6_checkIndex_0 2 rfl rfl)
theorem dJ6_checkIndex_5 : decode cJ6_checkIndex 5 = .ok (.invokestatic 1059, 3) := dk_184 4 35 (dk_at dksJ6_checkIndex_0 5 rfl rfl)
theorem dJ6_checkIndex_8 : decode cJ6_checkIndex 8 = .ok (.pop, 1) := dk_87 (dk_at dksJ6_checkIndex_0 8 rfl rfl)
theorem dJ6_checkIndex_9 : decode cJ6_checkIndex 9 = .ok (.return_, 1) := dk_177 (dk_at dksJ6_checkIndex_0 9 rfl rfl)
abbrev cJ6_init : ByteArray := prog_28_method_53_code
def yJ6_init : MethodName := ⟨RJ6, "<init>", "(Ljava/lang/StringBuilder;)V"⟩
def dkwJ6_init_0 : List UInt8 := [42, 43, 1, 183, 1, 233, 177]
abbrev dktJ6_init_0 : List UInt8 := dkwJ6_init_0 ++ []
theorem dksJ6_init_0 : cJ6_init.data.toList.drop 0 = dktJ6_init_0 := by decide +kernel
theorem dJ6_init_0 : decode cJ6_init 0 = .ok (.aload_n 0, 1) := dk_42 (dk_at dksJ6_init_0 0 rfl rfl)
theorem dJ6_init_1 : decode cJ6_init 1 = .ok (.aload_n 1, 1) := dk_43 (dk_at dksJ6_init_0 1 rfl rfl)
theorem dJ6_init_2 : decode cJ6_init 2 = .ok (.aconst_null, 1) := dk_1 (dk_at dksJ6_init_0 2 rfl rfl)
theorem dJ6_init_3 : decode cJ6_init 3 = .ok (.invokespecial 489, 3) := dk_183 1 233 (dk_at dksJ6_init_0 3 rfl rfl)
theorem dJ6_init_6 : decode cJ6_init 6 = .ok (.return_, 1) := dk_177 (dk_at dksJ6_init_0 6 rfl rfl)
abbrev cJ6_init_2 : ByteArray := prog_28_method_150_code
def yJ6_init_2 : MethodName := ⟨RJ6, "<init>", "(Ljava/lang/AbstractStringBuilder;Ljava/lang/Void;)V"⟩
def dkwJ6_init_2_4 : List UInt8 := [181, 0, 9, 177]
abbrev dktJ6_init_2_4 : List UInt8 := dkwJ6_init_2_4 ++ []
def dkwJ6_init_2_3 : List UInt8 := [184, 0, 47, 181, 0, 15, 177, 42, 4, 181, 0, 15, 42, 45, 3, 21, 4, 4, 120, 184, 0, 54]
abbrev dktJ6_init_2_3 : List UInt8 := dkwJ6_init_2_3 ++ dktJ6_init_2_4
def dkwJ6_init_2_2 : List UInt8 := [180, 4, 24, 153, 0, 28, 42, 45, 3, 21, 4, 184, 4, 27, 181, 0, 9, 42, 42, 180, 0, 9, 21, 4]
abbrev dktJ6_init_2_2 : List UInt8 := dkwJ6_init_2_2 ++ dktJ6_init_2_3
def dkwJ6_init_2_1 : List UInt8 := [181, 0, 15, 42, 45, 3, 21, 4, 184, 0, 54, 181, 0, 9, 167, 0, 59, 178, 0, 38, 153, 0, 35, 43]
abbrev dktJ6_init_2_1 : List UInt8 := dkwJ6_init_2_1 ++ dktJ6_init_2_2
def dkwJ6_init_2_0 : List UInt8 := [42, 183, 0, 1, 43, 182, 2, 40, 78, 43, 182, 2, 37, 54, 4, 43, 182, 4, 23, 153, 0, 22, 42, 3]
abbrev dktJ6_init_2_0 : List UInt8 := dkwJ6_init_2_0 ++ dktJ6_init_2_1
theorem dksJ6_init_2_0 : cJ6_init_2.data.toList.drop 0 = dktJ6_init_2_0 := by decide +kernel
theorem dksJ6_init_2_1 : cJ6_init_2.data.toList.drop 24 = dktJ6_init_2_1 := dk_seg dksJ6_init_2_0 24 rfl rfl
theorem dksJ6_init_2_2 : cJ6_init_2.data.toList.drop 48 = dktJ6_init_2_2 := dk_seg dksJ6_init_2_1 24 rfl rfl
theorem dksJ6_init_2_3 : cJ6_init_2.data.toList.drop 72 = dktJ6_init_2_3 := dk_seg dksJ6_init_2_2 24 rfl rfl
theorem dksJ6_init_2_4 : cJ6_init_2.data.toList.drop 94 = dktJ6_init_2_4 := dk_seg dksJ6_init_2_3 22 rfl rfl
theorem dJ6_init_2_0 : decode cJ6_init_2 0 = .ok (.aload_n 0, 1) := dk_42 (dk_at dksJ6_init_2_0 0 rfl rfl)
theorem dJ6_init_2_1 : decode cJ6_init_2 1 = .ok (.invokespecial 1, 3) := dk_183 0 1 (dk_at dksJ6_init_2_0 1 rfl rfl)
theorem dJ6_init_2_4 : decode cJ6_init_2 4 = .ok (.aload_n 1, 1) := dk_43 (dk_at dksJ6_init_2_0 4 rfl rfl)
theorem dJ6_init_2_5 : decode cJ6_init_2 5 = .ok (.invokevirtual 552, 3) := dk_182 2 40 (dk_at dksJ6_init_2_0 5 rfl rfl)
theorem dJ6_init_2_8 : decode cJ6_init_2 8 = .ok (.astore_n 3, 1) := dk_78 (dk_at dksJ6_init_2_0 8 rfl rfl)
theorem dJ6_init_2_9 : decode cJ6_init_2 9 = .ok (.aload_n 1, 1) := dk_43 (dk_at dksJ6_init_2_0 9 rfl rfl)
theorem dJ6_init_2_10 : decode cJ6_init_2 10 = .ok (.invokevirtual 549, 3) := dk_182 2 37 (dk_at dksJ6_init_2_0 10 rfl rfl)
theorem dJ6_init_2_13 : decode cJ6_init_2 13 = .ok (.istore 4, 2) := dk_54 4 (dk_at dksJ6_init_2_0 13 rfl rfl)
theorem dJ6_init_2_15 : decode cJ6_init_2 15 = .ok (.aload_n 1, 1) := dk_43 (dk_at dksJ6_init_2_0 15 rfl rfl)
theorem dJ6_init_2_16 : decode cJ6_init_2 16 = .ok (.invokevirtual 1047, 3) := dk_182 4 23 (dk_at dksJ6_init_2_0 16 rfl rfl)
theorem dJ6_init_2_19 : decode cJ6_init_2 19 = .ok (.ifCond .eq 22, 3) := dk_153 0 22 (dk_at dksJ6_init_2_0 19 rfl rfl)
theorem dJ6_init_2_22 : decode cJ6_init_2 22 = .ok (.aload_n 0, 1) := dk_42 (dk_at dksJ6_init_2_0 22 rfl rfl)
theorem dJ6_init_2_23 : decode cJ6_init_2 23 = .ok (.iconst 0, 1) := dk_3 (dk_at dksJ6_init_2_0 23 rfl rfl)
theorem dJ6_init_2_24 : decode cJ6_init_2 24 = .ok (.putfield 15, 3) := dk_181 0 15 (dk_at dksJ6_init_2_1 0 rfl rfl)
theorem dJ6_init_2_27 : decode cJ6_init_2 27 = .ok (.aload_n 0, 1) := dk_42 (dk_at dksJ6_init_2_1 3 rfl rfl)
theorem dJ6_init_2_28 : decode cJ6_init_2 28 = .ok (.aload_n 3, 1) := dk_45 (dk_at dksJ6_init_2_1 4 rfl rfl)
theorem dJ6_init_2_29 : decode cJ6_init_2 29 = .ok (.iconst 0, 1) := dk_3 (dk_at dksJ6_init_2_1 5 rfl rfl)
theorem dJ6_init_2_30 : decode cJ6_init_2 30 = .ok (.iload 4, 2) := dk_21 4 (dk_at dksJ6_init_2_1 6 rfl rfl)
theorem dJ6_init_2_32 : decode cJ6_init_2 32 = .ok (.invokestatic 54, 3) := dk_184 0 54 (dk_at dksJ6_init_2_1 8 rfl rfl)
theorem dJ6_init_2_35 : decode cJ6_init_2 35 = .ok (.putfield 9, 3) := dk_181 0 9 (dk_at dksJ6_init_2_1 11 rfl rfl)
theorem dJ6_init_2_38 : decode cJ6_init_2 38 = .ok (.goto 59, 3) := dk_167 0 59 (dk_at dksJ6_init_2_1 14 rfl rfl)
theorem dJ6_init_2_41 : decode cJ6_init_2 41 = .ok (.getstatic 38, 3) := dk_178 0 38 (dk_at dksJ6_init_2_1 17 rfl rfl)
theorem dJ6_init_2_44 : decode cJ6_init_2 44 = .ok (.ifCond .eq 35, 3) := dk_153 0 35 (dk_at dksJ6_init_2_1 20 rfl rfl)
theorem dJ6_init_2_47 : decode cJ6_init_2 47 = .ok (.aload_n 1, 1) := dk_43 (dk_at dksJ6_init_2_1 23 rfl rfl)
theorem dJ6_init_2_48 : decode cJ6_init_2 48 = .ok (.getfield 1048, 3) := dk_180 4 24 (dk_at dksJ6_init_2_2 0 rfl rfl)
theorem dJ6_init_2_51 : decode cJ6_init_2 51 = .ok (.ifCond .eq 28, 3) := dk_153 0 28 (dk_at dksJ6_init_2_2 3 rfl rfl)
theorem dJ6_init_2_54 : decode cJ6_init_2 54 = .ok (.aload_n 0, 1) := dk_42 (dk_at dksJ6_init_2_2 6 rfl rfl)
theorem dJ6_init_2_55 : decode cJ6_init_2 55 = .ok (.aload_n 3, 1) := dk_45 (dk_at dksJ6_init_2_2 7 rfl rfl)
theorem dJ6_init_2_56 : decode cJ6_init_2 56 = .ok (.iconst 0, 1) := dk_3 (dk_at dksJ6_init_2_2 8 rfl rfl)
theorem dJ6_init_2_57 : decode cJ6_init_2 57 = .ok (.iload 4, 2) := dk_21 4 (dk_at dksJ6_init_2_2 9 rfl rfl)
theorem dJ6_init_2_59 : decode cJ6_init_2 59 = .ok (.invokestatic 1051, 3) := dk_184 4 27 (dk_at dksJ6_init_2_2 11 rfl rfl)
theorem dJ6_init_2_62 : decode cJ6_init_2 62 = .ok (.putfield 9, 3) := dk_181 0 9 (dk_at dksJ6_init_2_2 14 rfl rfl)
theorem dJ6_init_2_65 : decode cJ6_init_2 65 = .ok (.aload_n 0, 1) := dk_42 (dk_at dksJ6_init_2_2 17 rfl rfl)
theorem dJ6_init_2_66 : decode cJ6_init_2 66 = .ok (.aload_n 0, 1) := dk_42 (dk_at dksJ6_init_2_2 18 rfl rfl)
theorem dJ6_init_2_67 : decode cJ6_init_2 67 = .ok (.getfield 9, 3) := dk_180 0 9 (dk_at dksJ6_init_2_2 19 rfl rfl)
theorem dJ6_init_2_70 : decode cJ6_init_2 70 = .ok (.iload 4, 2) := dk_21 4 (dk_at dksJ6_init_2_2 22 rfl rfl)
theorem dJ6_init_2_72 : decode cJ6_init_2 72 = .ok (.invokestatic 47, 3) := dk_184 0 47 (dk_at dksJ6_init_2_3 0 rfl rfl)
theorem dJ6_init_2_75 : decode cJ6_init_2 75 = .ok (.putfield 15, 3) := dk_181 0 15 (dk_at dksJ6_init_2_3 3 rfl rfl)
theorem dJ6_init_2_78 : decode cJ6_init_2 78 = .ok (.return_, 1) := dk_177 (dk_at dksJ6_init_2_3 6 rfl rfl)
theorem dJ6_init_2_79 : decode cJ6_init_2 79 = .ok (.aload_n 0, 1) := dk_42 (dk_at dksJ6_init_2_3 7 rfl rfl)
theorem dJ6_init_2_80 : decode cJ6_init_2 80 = .ok (.iconst 1, 1) := dk_4 (dk_at dksJ6_init_2_3 8 rfl rfl)
theorem dJ6_init_2_81 : decode cJ6_init_2 81 = .ok (.putfield 15, 3) := dk_181 0 15 (dk_at dksJ6_init_2_3 9 rfl rfl)
theorem dJ6_init_2_84 : decode cJ6_init_2 84 = .ok (.aload_n 0, 1) := dk_42 (dk_at dksJ6_init_2_3 12 rfl rfl)
theorem dJ6_init_2_85 : decode cJ6_init_2 85 = .ok (.aload_n 3, 1) := dk_45 (dk_at dksJ6_init_2_3 13 rfl rfl)
theorem dJ6_init_2_86 : decode cJ6_init_2 86 = .ok (.iconst 0, 1) := dk_3 (dk_at dksJ6_init_2_3 14 rfl rfl)
theorem dJ6_init_2_87 : decode cJ6_init_2 87 = .ok (.iload 4, 2) := dk_21 4 (dk_at dksJ6_init_2_3 15 rfl rfl)
theorem dJ6_init_2_89 : decode cJ6_init_2 89 = .ok (.iconst 1, 1) := dk_4 (dk_at dksJ6_init_2_3 17 rfl rfl)
theorem dJ6_init_2_90 : decode cJ6_init_2 90 = .ok (.ishl, 1) := dk_120 (dk_at dksJ6_init_2_3 18 rfl rfl)
theorem dJ6_init_2_91 : decode cJ6_init_2 91 = .ok (.invokestatic 54, 3) := dk_184 0 54 (dk_at dksJ6_init_2_3 19 rfl rfl)
theorem dJ6_init_2_94 : decode cJ6_init_2 94 = .ok (.putfield 9, 3) := dk_181 0 9 (dk_at dksJ6_init_2_4 0 rfl rfl)
theorem dJ6_init_2_97 : decode cJ6_init_2 97 = .ok (.return_, 1) := dk_177 (dk_at dksJ6_init_2_4 3 rfl rfl)
abbrev cJ6_length : ByteArray := prog_28_method_54_code
def yJ6_length : MethodName := ⟨RJ6, "length", "()I"⟩
def dkwJ6_length_0 : List UInt8 := [42, 180, 0, 9, 190, 42, 182, 1, 79, 122, 172]
abbrev dktJ6_length_0 : List UInt8 := dkwJ6_length_0 ++ []
theorem dksJ6_length_0 : cJ6_length.data.toList.drop 0 = dktJ6_length_0 := by decide +kernel
theorem dJ6_length_0 : decode cJ6_length 0 = .ok (.aload_n 0, 1) := dk_42 (dk_at dksJ6_length_0 0 rfl rfl)
theorem dJ6_length_1 : decode cJ6_length 1 = .ok (.getfield 9, 3) := dk_180 0 9 (dk_at dksJ6_length_0 1 rfl rfl)
theorem dJ6_length_4 : decode cJ6_length 4 = .ok (.arraylength, 1) := dk_190 (dk_at dksJ6_length_0 4 rfl rfl)
theorem dJ6_length_5 : decode cJ6_length 5 = .ok (.aload_n 0, 1) := dk_42 (dk_at dksJ6_length_0 5 rfl rfl)
theorem dJ6_length_6 : decode cJ6_length 6 = .ok (.invokevirtual 335, 3) := dk_182 1 79 (dk_at dksJ6_length_0 6 rfl rfl)
theorem dJ6_length_9 : decode cJ6_length 9 = .ok (.ishr, 1) := dk_122 (dk_at dksJ6_length_0 9 rfl rfl)
theorem dJ6_length_10 : decode cJ6_length 10 = .ok (.ireturn, 1) := dk_172 (dk_at dksJ6_length_0 10 rfl rfl)
abbrev cJ6_coder : ByteArray := prog_28_method_152_code
def yJ6_coder : MethodName := ⟨RJ6, "coder", "()B"⟩
def dkwJ6_coder_0 : List UInt8 := [178, 0, 38, 153, 0, 10, 42, 180, 0, 15, 167, 0, 4, 4, 172]
abbrev dktJ6_coder_0 : List UInt8 := dkwJ6_coder_0 ++ []
theorem dksJ6_coder_0 : cJ6_coder.data.toList.drop 0 = dktJ6_coder_0 := by decide +kernel
theorem dJ6_coder_0 : decode cJ6_coder 0 = .ok (.getstatic 38, 3) := dk_178 0 38 (dk_at dksJ6_coder_0 0 rfl rfl)
theorem dJ6_coder_3 : decode cJ6_coder 3 = .ok (.ifCond .eq 10, 3) := dk_153 0 10 (dk_at dksJ6_coder_0 3 rfl rfl)
theorem dJ6_coder_6 : decode cJ6_coder 6 = .ok (.aload_n 0, 1) := dk_42 (dk_at dksJ6_coder_0 6 rfl rfl)
theorem dJ6_coder_7 : decode cJ6_coder 7 = .ok (.getfield 15, 3) := dk_180 0 15 (dk_at dksJ6_coder_0 7 rfl rfl)
theorem dJ6_coder_10 : decode cJ6_coder 10 = .ok (.goto 4, 3) := dk_167 0 4 (dk_at dksJ6_coder_0 10 rfl rfl)
theorem dJ6_coder_13 : decode cJ6_coder 13 = .ok (.iconst 1, 1) := dk_4 (dk_at dksJ6_coder_0 13 rfl rfl)
theorem dJ6_coder_14 : decode cJ6_coder 14 = .ok (.ireturn, 1) := dk_172 (dk_at dksJ6_coder_0 14 rfl rfl)
abbrev cJ6_charAt : ByteArray := prog_28_method_56_code
def yJ6_charAt : MethodName := ⟨RJ6, "charAt", "(I)C"⟩
def dkwJ6_charAt_1 : List UInt8 := [172]
abbrev dktJ6_charAt_1 : List UInt8 := dkwJ6_charAt_1 ++ []
def dkwJ6_charAt_0 : List UInt8 := [42, 182, 1, 236, 153, 0, 12, 42, 180, 0, 9, 27, 184, 1, 239, 172, 42, 180, 0, 9, 27, 184, 1, 242]
abbrev dktJ6_charAt_0 : List UInt8 := dkwJ6_charAt_0 ++ dktJ6_charAt_1
theorem dksJ6_charAt_0 : cJ6_charAt.data.toList.drop 0 = dktJ6_charAt_0 := by decide +kernel
theorem dksJ6_charAt_1 : cJ6_charAt.data.toList.drop 24 = dktJ6_charAt_1 := dk_seg dksJ6_charAt_0 24 rfl rfl
theorem dJ6_charAt_0 : decode cJ6_charAt 0 = .ok (.aload_n 0, 1) := dk_42 (dk_at dksJ6_charAt_0 0 rfl rfl)
theorem dJ6_charAt_1 : decode cJ6_charAt 1 = .ok (.invokevirtual 492, 3) := dk_182 1 236 (dk_at dksJ6_charAt_0 1 rfl rfl)
theorem dJ6_charAt_4 : decode cJ6_charAt 4 = .ok (.ifCond .eq 12, 3) := dk_153 0 12 (dk_at dksJ6_charAt_0 4 rfl rfl)
theorem dJ6_charAt_7 : decode cJ6_charAt 7 = .ok (.aload_n 0, 1) := dk_42 (dk_at dksJ6_charAt_0 7 rfl rfl)
theorem dJ6_charAt_8 : decode cJ6_charAt 8 = .ok (.getfield 9, 3) := dk_180 0 9 (dk_at dksJ6_charAt_0 8 rfl rfl)
theorem dJ6_charAt_11 : decode cJ6_charAt 11 = .ok (.iload_n 1, 1) := dk_27 (dk_at dksJ6_charAt_0 11 rfl rfl)
theorem dJ6_charAt_12 : decode cJ6_charAt 12 = .ok (.invokestatic 495, 3) := dk_184 1 239 (dk_at dksJ6_charAt_0 12 rfl rfl)
theorem dJ6_charAt_15 : decode cJ6_charAt 15 = .ok (.ireturn, 1) := dk_172 (dk_at dksJ6_charAt_0 15 rfl rfl)
theorem dJ6_charAt_16 : decode cJ6_charAt 16 = .ok (.aload_n 0, 1) := dk_42 (dk_at dksJ6_charAt_0 16 rfl rfl)
theorem dJ6_charAt_17 : decode cJ6_charAt 17 = .ok (.getfield 9, 3) := dk_180 0 9 (dk_at dksJ6_charAt_0 17 rfl rfl)
theorem dJ6_charAt_20 : decode cJ6_charAt 20 = .ok (.iload_n 1, 1) := dk_27 (dk_at dksJ6_charAt_0 20 rfl rfl)
theorem dJ6_charAt_21 : decode cJ6_charAt 21 = .ok (.invokestatic 498, 3) := dk_184 1 242 (dk_at dksJ6_charAt_0 21 rfl rfl)
theorem dJ6_charAt_24 : decode cJ6_charAt 24 = .ok (.ireturn, 1) := dk_172 (dk_at dksJ6_charAt_1 0 rfl rfl)
abbrev cJ6_isLatin1 : ByteArray := prog_28_method_154_code
def yJ6_isLatin1 : MethodName := ⟨RJ6, "isLatin1", "()Z"⟩
def dkwJ6_isLatin1_0 : List UInt8 := [178, 0, 38, 153, 0, 14, 42, 180, 0, 15, 154, 0, 7, 4, 167, 0, 4, 3, 172]
abbrev dktJ6_isLatin1_0 : List UInt8 := dkwJ6_isLatin1_0 ++ []
theorem dksJ6_isLatin1_0 : cJ6_isLatin1.data.toList.drop 0 = dktJ6_isLatin1_0 := by decide +kernel
theorem dJ6_isLatin1_0 : decode cJ6_isLatin1 0 = .ok (.getstatic 38, 3) := dk_178 0 38 (dk_at dksJ6_isLatin1_0 0 rfl rfl)
theorem dJ6_isLatin1_3 : decode cJ6_isLatin1 3 = .ok (.ifCond .eq 14, 3) := dk_153 0 14 (dk_at dksJ6_isLatin1_0 3 rfl rfl)
theorem dJ6_isLatin1_6 : decode cJ6_isLatin1 6 = .ok (.aload_n 0, 1) := dk_42 (dk_at dksJ6_isLatin1_0 6 rfl rfl)
theorem dJ6_isLatin1_7 : decode cJ6_isLatin1 7 = .ok (.getfield 15, 3) := dk_180 0 15 (dk_at dksJ6_isLatin1_0 7 rfl rfl)
theorem dJ6_isLatin1_10 : decode cJ6_isLatin1 10 = .ok (.ifCond .ne 7, 3) := dk_154 0 7 (dk_at dksJ6_isLatin1_0 10 rfl rfl)
theorem dJ6_isLatin1_13 : decode cJ6_isLatin1 13 = .ok (.iconst 1, 1) := dk_4 (dk_at dksJ6_isLatin1_0 13 rfl rfl)
theorem dJ6_isLatin1_14 : decode cJ6_isLatin1 14 = .ok (.goto 4, 3) := dk_167 0 4 (dk_at dksJ6_isLatin1_0 14 rfl rfl)
theorem dJ6_isLatin1_17 : decode cJ6_isLatin1 17 = .ok (.iconst 0, 1) := dk_3 (dk_at dksJ6_isLatin1_0 17 rfl rfl)
theorem dJ6_isLatin1_18 : decode cJ6_isLatin1 18 = .ok (.ireturn, 1) := dk_172 (dk_at dksJ6_isLatin1_0 18 rfl rfl)
abbrev cJ6_indexOf : ByteArray := prog_28_method_79_code
def yJ6_indexOf : MethodName := ⟨RJ6, "indexOf", "(I)I"⟩
def dkwJ6_indexOf_0 : List UInt8 := [42, 27, 3, 182, 2, 121, 172]
abbrev dktJ6_indexOf_0 : List UInt8 := dkwJ6_indexOf_0 ++ []
theorem dksJ6_indexOf_0 : cJ6_indexOf.data.toList.drop 0 = dktJ6_indexOf_0 := by decide +kernel
theorem dJ6_indexOf_0 : decode cJ6_indexOf 0 = .ok (.aload_n 0, 1) := dk_42 (dk_at dksJ6_indexOf_0 0 rfl rfl)
theorem dJ6_indexOf_1 : decode cJ6_indexOf 1 = .ok (.iload_n 1, 1) := dk_27 (dk_at dksJ6_indexOf_0 1 rfl rfl)
theorem dJ6_indexOf_2 : decode cJ6_indexOf 2 = .ok (.iconst 0, 1) := dk_3 (dk_at dksJ6_indexOf_0 2 rfl rfl)
theorem dJ6_indexOf_3 : decode cJ6_indexOf 3 = .ok (.invokevirtual 633, 3) := dk_182 2 121 (dk_at dksJ6_indexOf_0 3 rfl rfl)
theorem dJ6_indexOf_6 : decode cJ6_indexOf 6 = .ok (.ireturn, 1) := dk_172 (dk_at dksJ6_indexOf_0 6 rfl rfl)
abbrev cJ6_indexOf_2 : ByteArray := prog_28_method_80_code
def yJ6_indexOf_2 : MethodName := ⟨RJ6, "indexOf", "(II)I"⟩
def dkwJ6_indexOf_2_1 : List UInt8 := [180, 0, 9, 27, 28, 42, 182, 1, 249, 184, 2, 128, 172]
abbrev dktJ6_indexOf_2_1 : List UInt8 := dkwJ6_indexOf_2_1 ++ []
def dkwJ6_indexOf_2_0 : List UInt8 := [42, 182, 1, 236, 153, 0, 19, 42, 180, 0, 9, 27, 28, 42, 182, 1, 249, 184, 2, 125, 167, 0, 16, 42]
abbrev dktJ6_indexOf_2_0 : List UInt8 := dkwJ6_indexOf_2_0 ++ dktJ6_indexOf_2_1
theorem dksJ6_indexOf_2_0 : cJ6_indexOf_2.data.toList.drop 0 = dktJ6_indexOf_2_0 := by decide +kernel
theorem dksJ6_indexOf_2_1 : cJ6_indexOf_2.data.toList.drop 24 = dktJ6_indexOf_2_1 := dk_seg dksJ6_indexOf_2_0 24 rfl rfl
theorem dJ6_indexOf_2_0 : decode cJ6_indexOf_2 0 = .ok (.aload_n 0, 1) := dk_42 (dk_at dksJ6_indexOf_2_0 0 rfl rfl)
theorem dJ6_indexOf_2_1 : decode cJ6_indexOf_2 1 = .ok (.invokevirtual 492, 3) := dk_182 1 236 (dk_at dksJ6_indexOf_2_0 1 rfl rfl)
theorem dJ6_indexOf_2_4 : decode cJ6_indexOf_2 4 = .ok (.ifCond .eq 19, 3) := dk_153 0 19 (dk_at dksJ6_indexOf_2_0 4 rfl rfl)
theorem dJ6_indexOf_2_7 : decode cJ6_indexOf_2 7 = .ok (.aload_n 0, 1) := dk_42 (dk_at dksJ6_indexOf_2_0 7 rfl rfl)
theorem dJ6_indexOf_2_8 : decode cJ6_indexOf_2 8 = .ok (.getfield 9, 3) := dk_180 0 9 (dk_at dksJ6_indexOf_2_0 8 rfl rfl)
theorem dJ6_indexOf_2_11 : decode cJ6_indexOf_2 11 = .ok (.iload_n 1, 1) := dk_27 (dk_at dksJ6_indexOf_2_0 11 rfl rfl)
theorem dJ6_indexOf_2_12 : decode cJ6_indexOf_2 12 = .ok (.iload_n 2, 1) := dk_28 (dk_at dksJ6_indexOf_2_0 12 rfl rfl)
theorem dJ6_indexOf_2_13 : decode cJ6_indexOf_2 13 = .ok (.aload_n 0, 1) := dk_42 (dk_at dksJ6_indexOf_2_0 13 rfl rfl)
theorem dJ6_indexOf_2_14 : decode cJ6_indexOf_2 14 = .ok (.invokevirtual 505, 3) := dk_182 1 249 (dk_at dksJ6_indexOf_2_0 14 rfl rfl)
theorem dJ6_indexOf_2_17 : decode cJ6_indexOf_2 17 = .ok (.invokestatic 637, 3) := dk_184 2 125 (dk_at dksJ6_indexOf_2_0 17 rfl rfl)
theorem dJ6_indexOf_2_20 : decode cJ6_indexOf_2 20 = .ok (.goto 16, 3) := dk_167 0 16 (dk_at dksJ6_indexOf_2_0 20 rfl rfl)
theorem dJ6_indexOf_2_23 : decode cJ6_indexOf_2 23 = .ok (.aload_n 0, 1) := dk_42 (dk_at dksJ6_indexOf_2_0 23 rfl rfl)
theorem dJ6_indexOf_2_24 : decode cJ6_indexOf_2 24 = .ok (.getfield 9, 3) := dk_180 0 9 (dk_at dksJ6_indexOf_2_1 0 rfl rfl)
theorem dJ6_indexOf_2_27 : decode cJ6_indexOf_2 27 = .ok (.iload_n 1, 1) := dk_27 (dk_at dksJ6_indexOf_2_1 3 rfl rfl)
theorem dJ6_indexOf_2_28 : decode cJ6_indexOf_2 28 = .ok (.iload_n 2, 1) := dk_28 (dk_at dksJ6_indexOf_2_1 4 rfl rfl)
theorem dJ6_indexOf_2_29 : decode cJ6_indexOf_2 29 = .ok (.aload_n 0, 1) := dk_42 (dk_at dksJ6_indexOf_2_1 5 rfl rfl)
theorem dJ6_indexOf_2_30 : decode cJ6_indexOf_2 30 = .ok (.invokevirtual 505, 3) := dk_182 1 249 (dk_at dksJ6_indexOf_2_1 6 rfl rfl)
theorem dJ6_indexOf_2_33 : decode cJ6_indexOf_2 33 = .ok (.invokestatic 640, 3) := dk_184 2 128 (dk_at dksJ6_indexOf_2_1 9 rfl rfl)
theorem dJ6_indexOf_2_36 : decode cJ6_indexOf_2 36 = .ok (.ireturn, 1) := dk_172 (dk_at dksJ6_indexOf_2_1 12 rfl rfl)
theorem q77 : (Jvm.Cond.initialized "java/lang/String") ∈ lw_all := lw_g (lw_at lw_m1 9 rfl) rfl
theorem q204 : (Jvm.Cond.laysStatic "java/lang/String" "COMPACT_STRINGS" "Z") ∈ lw_tbl := lw_at lw_m1 136 rfl
theorem q215 : (Jvm.Cond.fieldLink "java/lang/String" (1048 : Nat) "java/lang/AbstractStringBuilder" "maybeLatin1" "Z") ∈ lw_all := lw_g (lw_at lw_m1 147 rfl) rfl
theorem q511 : (Jvm.Cond.selects "java/lang/String" ({ cls := "java/lang/Object", name := "getClass", desc := "()Ljava/lang/Class;" } : Jvm.MethodName) ({ cls := "java/lang/Object", name := "getClass", desc := "()Ljava/lang/Class;" } : Jvm.MethodName)) ∈ lw_all := lw_g (lw_at lw_m2 203 rfl) rfl
theorem q1024 : (Jvm.Cond.static ({ cls := "java/lang/String", name := "checkBoundsBeginEnd", desc := "(III)V" } : Jvm.MethodName)) ∈ lw_all := lw_g (lw_at lw_m4 236 rfl) rfl
theorem q1025 : (Jvm.Cond.code ({ cls := "java/lang/String", name := "checkBoundsBeginEnd", desc := "(III)V" } : Jvm.MethodName) prog_28_method_158_code (3 : Nat) (Option.none : Option Jvm.ClassFile.FieldType)) ∈ lw_all := lw_g (lw_at lw_m4 237 rfl) rfl
theorem q1026 : (Jvm.Cond.fieldLink "java/lang/String" (1053 : Nat) "jdk/internal/util/Preconditions" "SIOOBE_FORMATTER" "Ljava/util/function/BiFunction;") ∈ lw_all := lw_g (lw_at lw_m4 238 rfl) rfl
theorem q1028 : (Jvm.Cond.methodLink "java/lang/String" (1062 : Nat) ({ cls := "jdk/internal/util/Preconditions", name := "checkFromToIndex", desc := "(IIILjava/util/function/BiFunction;)I" } : Jvm.MethodName)) ∈ lw_all := lw_g (lw_at lw_m5 0 rfl) rfl
theorem q1069 : (Jvm.Cond.static ({ cls := "java/lang/String", name := "checkBoundsOffCount", desc := "(III)I" } : Jvm.MethodName)) ∈ lw_all := lw_g (lw_at lw_m5 41 rfl) rfl
theorem q1070 : (Jvm.Cond.code ({ cls := "java/lang/String", name := "checkBoundsOffCount", desc := "(III)I" } : Jvm.MethodName) prog_28_method_157_code (3 : Nat) (Option.some Jvm.ClassFile.FieldType.int)) ∈ lw_all := lw_g (lw_at lw_m5 42 rfl) rfl
theorem q1071 : (Jvm.Cond.methodLink "java/lang/String" (1065 : Nat) ({ cls := "jdk/internal/util/Preconditions", name := "checkFromIndexSize", desc := "(IIILjava/util/function/BiFunction;)I" } : Jvm.MethodName)) ∈ lw_all := lw_g (lw_at lw_m5 43 rfl) rfl
theorem q1081 : (Jvm.Cond.static ({ cls := "java/lang/String", name := "checkIndex", desc := "(II)V" } : Jvm.MethodName)) ∈ lw_all := lw_g (lw_at lw_m5 53 rfl) rfl
theorem q1082 : (Jvm.Cond.code ({ cls := "java/lang/String", name := "checkIndex", desc := "(II)V" } : Jvm.MethodName) prog_28_method_155_code (2 : Nat) (Option.none : Option Jvm.ClassFile.FieldType)) ∈ lw_all := lw_g (lw_at lw_m5 54 rfl) rfl
theorem q1083 : (Jvm.Cond.methodLink "java/lang/String" (1059 : Nat) ({ cls := "jdk/internal/util/Preconditions", name := "checkIndex", desc := "(IILjava/util/function/BiFunction;)I" } : Jvm.MethodName)) ∈ lw_all := lw_g (lw_at lw_m5 55 rfl) rfl
theorem q1095 : (Jvm.Cond.instantiable "java/lang/String" (4 : Nat)) ∈ lw_all := lw_g (lw_at lw_m5 67 rfl) rfl
theorem q1097 : (Jvm.Cond.instanceMethod ({ cls := "java/lang/String", name := "<init>", desc := "(Ljava/lang/StringBuilder;)V" } : Jvm.MethodName)) ∈ lw_all := lw_g (lw_at lw_m5 69 rfl) rfl
theorem q1098 : (Jvm.Cond.code ({ cls := "java/lang/String", name := "<init>", desc := "(Ljava/lang/StringBuilder;)V" } : Jvm.MethodName) prog_28_method_53_code (2 : Nat) (Option.none : Option Jvm.ClassFile.FieldType)) ∈ lw_all := lw_g (lw_at lw_m5 70 rfl) rfl
theorem q1099 : (Jvm.Cond.methodLink "java/lang/String" (489 : Nat) ({ cls := "java/lang/String", name := "<init>", desc := "(Ljava/lang/AbstractStringBuilder;Ljava/lang/Void;)V" } : Jvm.MethodName)) ∈ lw_all := lw_g (lw_at lw_m5 71 rfl) rfl
theorem q1100 : (Jvm.Cond.instanceMethod ({ cls := "java/lang/String", name := "<init>", desc := "(Ljava/lang/AbstractStringBuilder;Ljava/lang/Void;)V" } : Jvm.MethodName)) ∈ lw_all := lw_g (lw_at lw_m5 72 rfl) rfl
theorem q1101 : (Jvm.Cond.code ({ cls := "java/lang/String", name := "<init>", desc := "(Ljava/lang/AbstractStringBuilder;Ljava/lang/Void;)V" } : Jvm.MethodName) prog_28_method_150_code (5 : Nat) (Option.none : Option Jvm.ClassFile.FieldType)) ∈ lw_all := lw_g (lw_at lw_m5 73 rfl) rfl
theorem q1102 : (Jvm.Cond.methodLink "java/lang/String" (1 : Nat) ({ cls := "java/lang/Object", name := "<init>", desc := "()V" } : Jvm.MethodName)) ∈ lw_all := lw_g (lw_at lw_m5 74 rfl) rfl
theorem q1103 : (Jvm.Cond.methodLink "java/lang/String" (552 : Nat) ({ cls := "java/lang/AbstractStringBuilder", name := "getValue", desc := "()[B" } : Jvm.MethodName)) ∈ lw_all := lw_g (lw_at lw_m5 75 rfl) rfl
theorem q1108 : (Jvm.Cond.methodLink "java/lang/String" (549 : Nat) ({ cls := "java/lang/AbstractStringBuilder", name := "length", desc := "()I" } : Jvm.MethodName)) ∈ lw_all := lw_g (lw_at lw_m5 80 rfl) rfl
theorem q1116 : (Jvm.Cond.methodLink "java/lang/String" (1047 : Nat) ({ cls := "java/lang/AbstractStringBuilder", name := "isLatin1", desc := "()Z" } : Jvm.MethodName)) ∈ lw_all := lw_g (lw_at lw_m5 88 rfl) rfl
theorem q1117 : (Jvm.Cond.methodLink "java/lang/String" (54 : Nat) ({ cls := "java/util/Arrays", name := "copyOfRange", desc := "([BII)[B" } : Jvm.MethodName)) ∈ lw_all := lw_g (lw_at lw_m5 89 rfl) rfl
theorem q1126 : (Jvm.Cond.fieldLink "java/lang/String" (38 : Nat) "java/lang/String" "COMPACT_STRINGS" "Z") ∈ lw_all := lw_g (lw_at lw_m5 98 rfl) rfl
theorem q1127 : (Jvm.Cond.methodLink "java/lang/String" (1051 : Nat) ({ cls := "java/lang/StringUTF16", name := "compress", desc := "([BII)[B" } : Jvm.MethodName)) ∈ lw_all := lw_g (lw_at lw_m5 99 rfl) rfl
theorem q1137 : (Jvm.Cond.methodLink "java/lang/String" (47 : Nat) ({ cls := "java/lang/StringUTF16", name := "coderFromArrayLen", desc := "([BI)B" } : Jvm.MethodName)) ∈ lw_all := lw_g (lw_at lw_m5 109 rfl) rfl
theorem q1140 : (Jvm.Cond.fieldLink "java/lang/String" (9 : Nat) "java/lang/String" "value" "[B") ∈ lw_all := lw_g (lw_at lw_m5 112 rfl) rfl
theorem q1141 : (Jvm.Cond.fieldLink "java/lang/String" (15 : Nat) "java/lang/String" "coder" "B") ∈ lw_all := lw_g (lw_at lw_m5 113 rfl) rfl
theorem q1142 : (Jvm.Cond.laysFinal "java/lang/String" "java/lang/String" "value" "[B") ∈ lw_all := lw_g (lw_at lw_m5 114 rfl) rfl
theorem q1143 : (Jvm.Cond.soleField "java/lang/String" "value") ∈ lw_all := lw_g (lw_at lw_m5 115 rfl) rfl
theorem q1144 : (Jvm.Cond.laysFinal "java/lang/String" "java/lang/String" "coder" "B") ∈ lw_all := lw_g (lw_at lw_m5 116 rfl) rfl
theorem q1145 : (Jvm.Cond.soleField "java/lang/String" "coder") ∈ lw_all := lw_g (lw_at lw_m5 117 rfl) rfl
theorem q1146 : (Jvm.Cond.lays "java/lang/String" "java/lang/String" "hash" "I") ∈ lw_all := lw_g (lw_at lw_m5 118 rfl) rfl
theorem q1147 : (Jvm.Cond.soleField "java/lang/String" "hash") ∈ lw_all := lw_g (lw_at lw_m5 119 rfl) rfl
theorem q1148 : (Jvm.Cond.lays "java/lang/String" "java/lang/String" "hashIsZero" "Z") ∈ lw_all := lw_g (lw_at lw_m5 120 rfl) rfl
theorem q1149 : (Jvm.Cond.soleField "java/lang/String" "hashIsZero") ∈ lw_all := lw_g (lw_at lw_m5 121 rfl) rfl
theorem q1150 : (Jvm.Cond.superclass "java/lang/String" "java/lang/Object") ∈ lw_all := lw_g (lw_at lw_m5 122 rfl) rfl
theorem q1152 : (Jvm.Cond.instanceMethod ({ cls := "java/lang/String", name := "length", desc := "()I" } : Jvm.MethodName)) ∈ lw_all := lw_g (lw_at lw_m5 124 rfl) rfl
theorem q1153 : (Jvm.Cond.selects "java/lang/String" ({ cls := "java/lang/String", name := "length", desc := "()I" } : Jvm.MethodName) ({ cls := "java/lang/String", name := "length", desc := "()I" } : Jvm.MethodName)) ∈ lw_all := lw_g (lw_at lw_m5 125 rfl) rfl
theorem q1154 : (Jvm.Cond.code ({ cls := "java/lang/String", name := "length", desc := "()I" } : Jvm.MethodName) prog_28_method_54_code (1 : Nat) (Option.some Jvm.ClassFile.FieldType.int)) ∈ lw_all := lw_g (lw_at lw_m5 126 rfl) rfl
theorem q1155 : (Jvm.Cond.methodLink "java/lang/String" (335 : Nat) ({ cls := "java/lang/String", name := "coder", desc := "()B" } : Jvm.MethodName)) ∈ lw_all := lw_g (lw_at lw_m5 127 rfl) rfl
theorem q1156 : (Jvm.Cond.instanceMethod ({ cls := "java/lang/String", name := "coder", desc := "()B" } : Jvm.MethodName)) ∈ lw_all := lw_g (lw_at lw_m5 128 rfl) rfl
theorem q1157 : (Jvm.Cond.selects "java/lang/String" ({ cls := "java/lang/String", name := "coder", desc := "()B" } : Jvm.MethodName) ({ cls := "java/lang/String", name := "coder", desc := "()B" } : Jvm.MethodName)) ∈ lw_all := lw_g (lw_at lw_m5 129 rfl) rfl
theorem q1158 : (Jvm.Cond.code ({ cls := "java/lang/String", name := "coder", desc := "()B" } : Jvm.MethodName) prog_28_method_152_code (1 : Nat) (Option.some Jvm.ClassFile.FieldType.byte)) ∈ lw_all := lw_g (lw_at lw_m5 130 rfl) rfl
theorem q1169 : (Jvm.Cond.instanceMethod ({ cls := "java/lang/String", name := "charAt", desc := "(I)C" } : Jvm.MethodName)) ∈ lw_all := lw_g (lw_at lw_m5 141 rfl) rfl
theorem q1170 : (Jvm.Cond.selects "java/lang/String" ({ cls := "java/lang/String", name := "charAt", desc := "(I)C" } : Jvm.MethodName) ({ cls := "java/lang/String", name := "charAt", desc := "(I)C" } : Jvm.MethodName)) ∈ lw_all := lw_g (lw_at lw_m5 142 rfl) rfl
theorem q1171 : (Jvm.Cond.code ({ cls := "java/lang/String", name := "charAt", desc := "(I)C" } : Jvm.MethodName) prog_28_method_56_code (2 : Nat) (Option.some Jvm.ClassFile.FieldType.char)) ∈ lw_all := lw_g (lw_at lw_m5 143 rfl) rfl
theorem q1172 : (Jvm.Cond.methodLink "java/lang/String" (492 : Nat) ({ cls := "java/lang/String", name := "isLatin1", desc := "()Z" } : Jvm.MethodName)) ∈ lw_all := lw_g (lw_at lw_m5 144 rfl) rfl
theorem q1173 : (Jvm.Cond.instanceMethod ({ cls := "java/lang/String", name := "isLatin1", desc := "()Z" } : Jvm.MethodName)) ∈ lw_all := lw_g (lw_at lw_m5 145 rfl) rfl
theorem q1174 : (Jvm.Cond.selects "java/lang/String" ({ cls := "java/lang/String", name := "isLatin1", desc := "()Z" } : Jvm.MethodName) ({ cls := "java/lang/String", name := "isLatin1", desc := "()Z" } : Jvm.MethodName)) ∈ lw_all := lw_g (lw_at lw_m5 146 rfl) rfl
theorem q1175 : (Jvm.Cond.code ({ cls := "java/lang/String", name := "isLatin1", desc := "()Z" } : Jvm.MethodName) prog_28_method_154_code (1 : Nat) (Option.some Jvm.ClassFile.FieldType.boolean)) ∈ lw_all := lw_g (lw_at lw_m5 147 rfl) rfl
theorem q1176 : (Jvm.Cond.methodLink "java/lang/String" (495 : Nat) ({ cls := "java/lang/StringLatin1", name := "charAt", desc := "([BI)C" } : Jvm.MethodName)) ∈ lw_all := lw_g (lw_at lw_m5 148 rfl) rfl
theorem q1180 : (Jvm.Cond.methodLink "java/lang/String" (498 : Nat) ({ cls := "java/lang/StringUTF16", name := "charAt", desc := "([BI)C" } : Jvm.MethodName)) ∈ lw_all := lw_g (lw_at lw_m5 152 rfl) rfl
theorem q1228 : (Jvm.Cond.instanceMethod ({ cls := "java/lang/String", name := "indexOf", desc := "(I)I" } : Jvm.MethodName)) ∈ lw_all := lw_g (lw_at lw_m5 200 rfl) rfl
theorem q1229 : (Jvm.Cond.selects "java/lang/String" ({ cls := "java/lang/String", name := "indexOf", desc := "(I)I" } : Jvm.MethodName) ({ cls := "java/lang/String", name := "indexOf", desc := "(I)I" } : Jvm.MethodName)) ∈ lw_all := lw_g (lw_at lw_m5 201 rfl) rfl
theorem q1230 : (Jvm.Cond.code ({ cls := "java/lang/String", name := "indexOf", desc := "(I)I" } : Jvm.MethodName) prog_28_method_79_code (2 : Nat) (Option.some Jvm.ClassFile.FieldType.int)) ∈ lw_all := lw_g (lw_at lw_m5 202 rfl) rfl
theorem q1231 : (Jvm.Cond.methodLink "java/lang/String" (633 : Nat) ({ cls := "java/lang/String", name := "indexOf", desc := "(II)I" } : Jvm.MethodName)) ∈ lw_all := lw_g (lw_at lw_m5 203 rfl) rfl
theorem q1232 : (Jvm.Cond.instanceMethod ({ cls := "java/lang/String", name := "indexOf", desc := "(II)I" } : Jvm.MethodName)) ∈ lw_all := lw_g (lw_at lw_m5 204 rfl) rfl
theorem q1233 : (Jvm.Cond.selects "java/lang/String" ({ cls := "java/lang/String", name := "indexOf", desc := "(II)I" } : Jvm.MethodName) ({ cls := "java/lang/String", name := "indexOf", desc := "(II)I" } : Jvm.MethodName)) ∈ lw_all := lw_g (lw_at lw_m5 205 rfl) rfl
theorem q1234 : (Jvm.Cond.code ({ cls := "java/lang/String", name := "indexOf", desc := "(II)I" } : Jvm.MethodName) prog_28_method_80_code (3 : Nat) (Option.some Jvm.ClassFile.FieldType.int)) ∈ lw_all := lw_g (lw_at lw_m5 206 rfl) rfl
theorem q1235 : (Jvm.Cond.methodLink "java/lang/String" (505 : Nat) ({ cls := "java/lang/String", name := "length", desc := "()I" } : Jvm.MethodName)) ∈ lw_all := lw_g (lw_at lw_m5 207 rfl) rfl
theorem q1236 : (Jvm.Cond.methodLink "java/lang/String" (637 : Nat) ({ cls := "java/lang/StringLatin1", name := "indexOf", desc := "([BIII)I" } : Jvm.MethodName)) ∈ lw_all := lw_g (lw_at lw_m5 208 rfl) rfl
theorem q1247 : (Jvm.Cond.methodLink "java/lang/String" (640 : Nat) ({ cls := "java/lang/StringUTF16", name := "indexOf", desc := "([BIII)I" } : Jvm.MethodName)) ∈ lw_all := lw_g (lw_at lw_m5 219 rfl) rfl
theorem q1829 : (Jvm.Cond.castable "java/lang/String" "java/lang/Object") ∈ lw_tbl := lw_at lw_m8 81 rfl
theorem in_J6 : ∀ w ∈ wsJ60, w ∈ lw_all := lw_in wsJ60 [1142, 1144, 1146, 1148] (by decide +kernel) (by decide +kernel)
