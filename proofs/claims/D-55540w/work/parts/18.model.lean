/-! TulipLinesModel -/
set_option maxRecDepth 100000
def RX2 : String := "TulipLinesModel"
def TX2 : u_T := fun k => match k with
  | 0 => ("TulipLinesModel", "m", "[I", true)
  | 1 => ("TulipLinesModel", "aside", "[I", true)
  | 2 => ("TulipLinesModel", "thought", "[I", true)
  | 3 => ("TulipLinesModel", "saved", "[I", true)
  | 4 => ("TulipLinesModel", "isSaved", "Z", false)
  | 5 => ("TulipLinesModel", "past", "[I", true)
  | 6 => ("TulipLinesModel", "changes", "I", false)
  | 7 => ("TulipLinesModel", "why", "I", false)
  | 8 => ("TulipLinesModel", "detail", "I", false)
  | 9 => ("TulipLinesModel", "item", "I", false)
  | 10 => ("TulipLinesModel", "text", "[I", true)
  | 11 => ("TulipLinesModel", "textMany", "I", false)
  | 12 => ("TulipLinesModel", "isMarked", "[Z", true)
  | 13 => ("TulipLinesModel", "isFirst", "[Z", true)
  | 14 => ("TulipLinesModel", "line", "[I", true)
  | 15 => ("TulipLinesModel", "lineMany", "I", false)
  | 16 => ("TulipLinesModel", "orders", "[I", true)
  | 17 => ("TulipLinesModel", "orderMany", "I", false)
  | 18 => ("TulipLinesModel", "place0", "I", false)
  | 19 => ("TulipLinesModel", "size0", "I", false)
  | _ => ("TulipLinesModel", "isWrong", "Z", false)
def tyX2 : Nat → FieldType := fun k => match k with
  | 0 => .array .int
  | 1 => .array .int
  | 2 => .array .int
  | 3 => .array .int
  | 4 => .boolean
  | 5 => .array .int
  | 6 => .int
  | 7 => .int
  | 8 => .int
  | 9 => .int
  | 10 => .array .int
  | 11 => .int
  | 12 => .array .boolean
  | 13 => .array .boolean
  | 14 => .array .int
  | 15 => .int
  | 16 => .array .int
  | 17 => .int
  | 18 => .int
  | 19 => .int
  | _ => .boolean
abbrev wsX20 : List Cond := u_ws RX2 TX2 21
set_option maxRecDepth 100000 in
theorem nmX2 : ∀ a, a < 21 → ∀ b, b < 21 → a ≠ b → (TX2 a).2.1 ≠ (TX2 b).2.1 := by decide +kernel
set_option maxRecDepth 100000 in
theorem tyX2_ok : ∀ k, k < 21 → parseFieldDescriptor (TX2 k).2.2.1 = some (tyX2 k) := by decide +kernel
abbrev cX2_init : ByteArray := prog_14_method_1_code
def yX2_init : MethodName := ⟨RX2, "<init>", "()V"⟩
def dkwX2_init_5 : List UInt8 := [16, 8, 162, 0, 19, 42, 180, 0, 9, 16, 6, 27, 96, 4, 79, 132, 1, 1, 167, 255, 237, 177]
abbrev dktX2_init_5 : List UInt8 := dkwX2_init_5 ++ []
def dkwX2_init_4 : List UInt8 := [188, 10, 181, 0, 42, 42, 180, 0, 9, 7, 4, 79, 42, 180, 0, 9, 8, 16, 8, 79, 3, 60, 27]
abbrev dktX2_init_4 : List UInt8 := dkwX2_init_4 ++ dktX2_init_5
def dkwX2_init_3 : List UInt8 := [181, 0, 32, 42, 16, 40, 188, 4, 181, 0, 36, 42, 16, 60, 188, 10, 181, 0, 39, 42, 17, 1, 28]
abbrev dktX2_init_3 : List UInt8 := dkwX2_init_3 ++ dktX2_init_4
def dkwX2_init_2 : List UInt8 := [181, 0, 22, 42, 16, 252, 181, 0, 25, 42, 16, 70, 188, 10, 181, 0, 29, 42, 16, 40, 188, 4]
abbrev dktX2_init_2 : List UInt8 := dkwX2_init_2 ++ dktX2_init_3
def dkwX2_init_1 : List UInt8 := [17, 1, 38, 188, 10, 181, 0, 16, 42, 17, 1, 38, 188, 10, 181, 0, 19, 42, 17, 9, 48, 188, 10]
abbrev dktX2_init_1 : List UInt8 := dkwX2_init_1 ++ dktX2_init_2
def dkwX2_init_0 : List UInt8 := [42, 183, 0, 1, 42, 17, 1, 38, 188, 10, 181, 0, 9, 42, 17, 1, 38, 188, 10, 181, 0, 13, 42]
abbrev dktX2_init_0 : List UInt8 := dkwX2_init_0 ++ dktX2_init_1
theorem dksX2_init_0 : cX2_init.data.toList.drop 0 = dktX2_init_0 := by decide +kernel
theorem dksX2_init_1 : cX2_init.data.toList.drop 23 = dktX2_init_1 := dk_seg dksX2_init_0 23 rfl rfl
theorem dksX2_init_2 : cX2_init.data.toList.drop 46 = dktX2_init_2 := dk_seg dksX2_init_1 23 rfl rfl
theorem dksX2_init_3 : cX2_init.data.toList.drop 68 = dktX2_init_3 := dk_seg dksX2_init_2 22 rfl rfl
theorem dksX2_init_4 : cX2_init.data.toList.drop 91 = dktX2_init_4 := dk_seg dksX2_init_3 23 rfl rfl
theorem dksX2_init_5 : cX2_init.data.toList.drop 114 = dktX2_init_5 := dk_seg dksX2_init_4 23 rfl rfl
theorem dX2_init_0 : decode cX2_init 0 = .ok (.aload_n 0, 1) := dk_42 (dk_at dksX2_init_0 0 rfl rfl)
theorem dX2_init_1 : decode cX2_init 1 = .ok (.invokespecial 1, 3) := dk_183 0 1 (dk_at dksX2_init_0 1 rfl rfl)
theorem dX2_init_4 : decode cX2_init 4 = .ok (.aload_n 0, 1) := dk_42 (dk_at dksX2_init_0 4 rfl rfl)
theorem dX2_init_5 : decode cX2_init 5 = .ok (.sipush 294, 3) := dk_17 1 38 (dk_at dksX2_init_0 5 rfl rfl)
theorem dX2_init_8 : decode cX2_init 8 = .ok (.newarray .int, 2) := dk_188_10 (dk_at dksX2_init_0 8 rfl rfl)
theorem dX2_init_10 : decode cX2_init 10 = .ok (.putfield 9, 3) := dk_181 0 9 (dk_at dksX2_init_0 10 rfl rfl)
theorem dX2_init_13 : decode cX2_init 13 = .ok (.aload_n 0, 1) := dk_42 (dk_at dksX2_init_0 13 rfl rfl)
theorem dX2_init_14 : decode cX2_init 14 = .ok (.sipush 294, 3) := dk_17 1 38 (dk_at dksX2_init_0 14 rfl rfl)
theorem dX2_init_17 : decode cX2_init 17 = .ok (.newarray .int, 2) := dk_188_10 (dk_at dksX2_init_0 17 rfl rfl)
theorem dX2_init_19 : decode cX2_init 19 = .ok (.putfield 13, 3) := dk_181 0 13 (dk_at dksX2_init_0 19 rfl rfl)
theorem dX2_init_22 : decode cX2_init 22 = .ok (.aload_n 0, 1) := dk_42 (dk_at dksX2_init_0 22 rfl rfl)
theorem dX2_init_23 : decode cX2_init 23 = .ok (.sipush 294, 3) := dk_17 1 38 (dk_at dksX2_init_1 0 rfl rfl)
theorem dX2_init_26 : decode cX2_init 26 = .ok (.newarray .int, 2) := dk_188_10 (dk_at dksX2_init_1 3 rfl rfl)
theorem dX2_init_28 : decode cX2_init 28 = .ok (.putfield 16, 3) := dk_181 0 16 (dk_at dksX2_init_1 5 rfl rfl)
theorem dX2_init_31 : decode cX2_init 31 = .ok (.aload_n 0, 1) := dk_42 (dk_at dksX2_init_1 8 rfl rfl)
theorem dX2_init_32 : decode cX2_init 32 = .ok (.sipush 294, 3) := dk_17 1 38 (dk_at dksX2_init_1 9 rfl rfl)
theorem dX2_init_35 : decode cX2_init 35 = .ok (.newarray .int, 2) := dk_188_10 (dk_at dksX2_init_1 12 rfl rfl)
theorem dX2_init_37 : decode cX2_init 37 = .ok (.putfield 19, 3) := dk_181 0 19 (dk_at dksX2_init_1 14 rfl rfl)
theorem dX2_init_40 : decode cX2_init 40 = .ok (.aload_n 0, 1) := dk_42 (dk_at dksX2_init_1 17 rfl rfl)
theorem dX2_init_41 : decode cX2_init 41 = .ok (.sipush 2352, 3) := dk_17 9 48 (dk_at dksX2_init_1 18 rfl rfl)
theorem dX2_init_44 : decode cX2_init 44 = .ok (.newarray .int, 2) := dk_188_10 (dk_at dksX2_init_1 21 rfl rfl)
theorem dX2_init_46 : decode cX2_init 46 = .ok (.putfield 22, 3) := dk_181 0 22 (dk_at dksX2_init_2 0 rfl rfl)
theorem dX2_init_49 : decode cX2_init 49 = .ok (.aload_n 0, 1) := dk_42 (dk_at dksX2_init_2 3 rfl rfl)
theorem dX2_init_50 : decode cX2_init 50 = .ok (.bipush (-4), 2) := dk_16 252 (dk_at dksX2_init_2 4 rfl rfl)
theorem dX2_init_52 : decode cX2_init 52 = .ok (.putfield 25, 3) := dk_181 0 25 (dk_at dksX2_init_2 6 rfl rfl)
theorem dX2_init_55 : decode cX2_init 55 = .ok (.aload_n 0, 1) := dk_42 (dk_at dksX2_init_2 9 rfl rfl)
theorem dX2_init_56 : decode cX2_init 56 = .ok (.bipush 70, 2) := dk_16 70 (dk_at dksX2_init_2 10 rfl rfl)
theorem dX2_init_58 : decode cX2_init 58 = .ok (.newarray .int, 2) := dk_188_10 (dk_at dksX2_init_2 12 rfl rfl)
theorem dX2_init_60 : decode cX2_init 60 = .ok (.putfield 29, 3) := dk_181 0 29 (dk_at dksX2_init_2 14 rfl rfl)
theorem dX2_init_63 : decode cX2_init 63 = .ok (.aload_n 0, 1) := dk_42 (dk_at dksX2_init_2 17 rfl rfl)
theorem dX2_init_64 : decode cX2_init 64 = .ok (.bipush 40, 2) := dk_16 40 (dk_at dksX2_init_2 18 rfl rfl)
theorem dX2_init_66 : decode cX2_init 66 = .ok (.newarray .boolean, 2) := dk_188_4 (dk_at dksX2_init_2 20 rfl rfl)
theorem dX2_init_68 : decode cX2_init 68 = .ok (.putfield 32, 3) := dk_181 0 32 (dk_at dksX2_init_3 0 rfl rfl)
theorem dX2_init_71 : decode cX2_init 71 = .ok (.aload_n 0, 1) := dk_42 (dk_at dksX2_init_3 3 rfl rfl)
theorem dX2_init_72 : decode cX2_init 72 = .ok (.bipush 40, 2) := dk_16 40 (dk_at dksX2_init_3 4 rfl rfl)
theorem dX2_init_74 : decode cX2_init 74 = .ok (.newarray .boolean, 2) := dk_188_4 (dk_at dksX2_init_3 6 rfl rfl)
theorem dX2_init_76 : decode cX2_init 76 = .ok (.putfield 36, 3) := dk_181 0 36 (dk_at dksX2_init_3 8 rfl rfl)
theorem dX2_init_79 : decode cX2_init 79 = .ok (.aload_n 0, 1) := dk_42 (dk_at dksX2_init_3 11 rfl rfl)
theorem dX2_init_80 : decode cX2_init 80 = .ok (.bipush 60, 2) := dk_16 60 (dk_at dksX2_init_3 12 rfl rfl)
theorem dX2_init_82 : decode cX2_init 82 = .ok (.newarray .int, 2) := dk_188_10 (dk_at dksX2_init_3 14 rfl rfl)
theorem dX2_init_84 : decode cX2_init 84 = .ok (.putfield 39, 3) := dk_181 0 39 (dk_at dksX2_init_3 16 rfl rfl)
theorem dX2_init_87 : decode cX2_init 87 = .ok (.aload_n 0, 1) := dk_42 (dk_at dksX2_init_3 19 rfl rfl)
theorem dX2_init_88 : decode cX2_init 88 = .ok (.sipush 284, 3) := dk_17 1 28 (dk_at dksX2_init_3 20 rfl rfl)
theorem dX2_init_91 : decode cX2_init 91 = .ok (.newarray .int, 2) := dk_188_10 (dk_at dksX2_init_4 0 rfl rfl)
theorem dX2_init_93 : decode cX2_init 93 = .ok (.putfield 42, 3) := dk_181 0 42 (dk_at dksX2_init_4 2 rfl rfl)
theorem dX2_init_96 : decode cX2_init 96 = .ok (.aload_n 0, 1) := dk_42 (dk_at dksX2_init_4 5 rfl rfl)
theorem dX2_init_97 : decode cX2_init 97 = .ok (.getfield 9, 3) := dk_180 0 9 (dk_at dksX2_init_4 6 rfl rfl)
theorem dX2_init_100 : decode cX2_init 100 = .ok (.iconst 4, 1) := dk_7 (dk_at dksX2_init_4 9 rfl rfl)
theorem dX2_init_101 : decode cX2_init 101 = .ok (.iconst 1, 1) := dk_4 (dk_at dksX2_init_4 10 rfl rfl)
theorem dX2_init_102 : decode cX2_init 102 = .ok (.iastore, 1) := dk_79 (dk_at dksX2_init_4 11 rfl rfl)
theorem dX2_init_103 : decode cX2_init 103 = .ok (.aload_n 0, 1) := dk_42 (dk_at dksX2_init_4 12 rfl rfl)
theorem dX2_init_104 : decode cX2_init 104 = .ok (.getfield 9, 3) := dk_180 0 9 (dk_at dksX2_init_4 13 rfl rfl)
theorem dX2_init_107 : decode cX2_init 107 = .ok (.iconst 5, 1) := dk_8 (dk_at dksX2_init_4 16 rfl rfl)
theorem dX2_init_108 : decode cX2_init 108 = .ok (.bipush 8, 2) := dk_16 8 (dk_at dksX2_init_4 17 rfl rfl)
theorem dX2_init_110 : decode cX2_init 110 = .ok (.iastore, 1) := dk_79 (dk_at dksX2_init_4 19 rfl rfl)
theorem dX2_init_111 : decode cX2_init 111 = .ok (.iconst 0, 1) := dk_3 (dk_at dksX2_init_4 20 rfl rfl)
theorem dX2_init_112 : decode cX2_init 112 = .ok (.istore_n 1, 1) := dk_60 (dk_at dksX2_init_4 21 rfl rfl)
theorem dX2_init_113 : decode cX2_init 113 = .ok (.iload_n 1, 1) := dk_27 (dk_at dksX2_init_4 22 rfl rfl)
theorem dX2_init_114 : decode cX2_init 114 = .ok (.bipush 8, 2) := dk_16 8 (dk_at dksX2_init_5 0 rfl rfl)
theorem dX2_init_116 : decode cX2_init 116 = .ok (.if_icmp .ge 19, 3) := dk_162 0 19 (dk_at dksX2_init_5 2 rfl rfl)
theorem dX2_init_119 : decode cX2_init 119 = .ok (.aload_n 0, 1) := dk_42 (dk_at dksX2_init_5 5 rfl rfl)
theorem dX2_init_120 : decode cX2_init 120 = .ok (.getfield 9, 3) := dk_180 0 9 (dk_at dksX2_init_5 6 rfl rfl)
theorem dX2_init_123 : decode cX2_init 123 = .ok (.bipush 6, 2) := dk_16 6 (dk_at dksX2_init_5 9 rfl rfl)
theorem dX2_init_125 : decode cX2_init 125 = .ok (.iload_n 1, 1) := dk_27 (dk_at dksX2_init_5 11 rfl rfl)
theorem dX2_init_126 : decode cX2_init 126 = .ok (.iadd, 1) := dk_96 (dk_at dksX2_init_5 12 rfl rfl)
theorem dX2_init_127 : decode cX2_init 127 = .ok (.iconst 1, 1) := dk_4 (dk_at dksX2_init_5 13 rfl rfl)
theorem dX2_init_128 : decode cX2_init 128 = .ok (.iastore, 1) := dk_79 (dk_at dksX2_init_5 14 rfl rfl)
theorem dX2_init_129 : decode cX2_init 129 = .ok (.iinc 1 1, 3) := dk_132 1 1 (dk_at dksX2_init_5 15 rfl rfl)
theorem dX2_init_132 : decode cX2_init 132 = .ok (.goto (-19), 3) := dk_167 255 237 (dk_at dksX2_init_5 18 rfl rfl)
theorem dX2_init_135 : decode cX2_init 135 = .ok (.return_, 1) := dk_177 (dk_at dksX2_init_5 21 rfl rfl)
abbrev cX2_plant : ByteArray := prog_14_method_15_code
def yX2_plant : MethodName := ⟨RX2, "plant", "(I)I"⟩
def dkwX2_plant_0 : List UInt8 := [42, 182, 0, 79, 42, 42, 27, 182, 0, 82, 182, 0, 85, 172]
abbrev dktX2_plant_0 : List UInt8 := dkwX2_plant_0 ++ []
theorem dksX2_plant_0 : cX2_plant.data.toList.drop 0 = dktX2_plant_0 := by decide +kernel
theorem dX2_plant_0 : decode cX2_plant 0 = .ok (.aload_n 0, 1) := dk_42 (dk_at dksX2_plant_0 0 rfl rfl)
theorem dX2_plant_1 : decode cX2_plant 1 = .ok (.invokevirtual 79, 3) := dk_182 0 79 (dk_at dksX2_plant_0 1 rfl rfl)
theorem dX2_plant_4 : decode cX2_plant 4 = .ok (.aload_n 0, 1) := dk_42 (dk_at dksX2_plant_0 4 rfl rfl)
theorem dX2_plant_5 : decode cX2_plant 5 = .ok (.aload_n 0, 1) := dk_42 (dk_at dksX2_plant_0 5 rfl rfl)
theorem dX2_plant_6 : decode cX2_plant 6 = .ok (.iload_n 1, 1) := dk_27 (dk_at dksX2_plant_0 6 rfl rfl)
theorem dX2_plant_7 : decode cX2_plant 7 = .ok (.invokevirtual 82, 3) := dk_182 0 82 (dk_at dksX2_plant_0 7 rfl rfl)
theorem dX2_plant_10 : decode cX2_plant 10 = .ok (.invokevirtual 85, 3) := dk_182 0 85 (dk_at dksX2_plant_0 10 rfl rfl)
theorem dX2_plant_13 : decode cX2_plant 13 = .ok (.ireturn, 1) := dk_172 (dk_at dksX2_plant_0 13 rfl rfl)
abbrev cX2_begins : ByteArray := prog_14_method_4_code
def yX2_begins : MethodName := ⟨RX2, "begins", "()V"⟩
def dkwX2_begins_1 : List UInt8 := [167, 255, 234, 177]
abbrev dktX2_begins_1 : List UInt8 := dkwX2_begins_1 ++ []
def dkwX2_begins_0 : List UInt8 := [3, 60, 27, 17, 1, 38, 162, 0, 21, 42, 180, 0, 13, 27, 42, 180, 0, 9, 27, 46, 79, 132, 1, 1]
abbrev dktX2_begins_0 : List UInt8 := dkwX2_begins_0 ++ dktX2_begins_1
theorem dksX2_begins_0 : cX2_begins.data.toList.drop 0 = dktX2_begins_0 := by decide +kernel
theorem dksX2_begins_1 : cX2_begins.data.toList.drop 24 = dktX2_begins_1 := dk_seg dksX2_begins_0 24 rfl rfl
theorem dX2_begins_0 : decode cX2_begins 0 = .ok (.iconst 0, 1) := dk_3 (dk_at dksX2_begins_0 0 rfl rfl)
theorem dX2_begins_1 : decode cX2_begins 1 = .ok (.istore_n 1, 1) := dk_60 (dk_at dksX2_begins_0 1 rfl rfl)
theorem dX2_begins_2 : decode cX2_begins 2 = .ok (.iload_n 1, 1) := dk_27 (dk_at dksX2_begins_0 2 rfl rfl)
theorem dX2_begins_3 : decode cX2_begins 3 = .ok (.sipush 294, 3) := dk_17 1 38 (dk_at dksX2_begins_0 3 rfl rfl)
theorem dX2_begins_6 : decode cX2_begins 6 = .ok (.if_icmp .ge 21, 3) := dk_162 0 21 (dk_at dksX2_begins_0 6 rfl rfl)
theorem dX2_begins_9 : decode cX2_begins 9 = .ok (.aload_n 0, 1) := dk_42 (dk_at dksX2_begins_0 9 rfl rfl)
theorem dX2_begins_10 : decode cX2_begins 10 = .ok (.getfield 13, 3) := dk_180 0 13 (dk_at dksX2_begins_0 10 rfl rfl)
theorem dX2_begins_13 : decode cX2_begins 13 = .ok (.iload_n 1, 1) := dk_27 (dk_at dksX2_begins_0 13 rfl rfl)
theorem dX2_begins_14 : decode cX2_begins 14 = .ok (.aload_n 0, 1) := dk_42 (dk_at dksX2_begins_0 14 rfl rfl)
theorem dX2_begins_15 : decode cX2_begins 15 = .ok (.getfield 9, 3) := dk_180 0 9 (dk_at dksX2_begins_0 15 rfl rfl)
theorem dX2_begins_18 : decode cX2_begins 18 = .ok (.iload_n 1, 1) := dk_27 (dk_at dksX2_begins_0 18 rfl rfl)
theorem dX2_begins_19 : decode cX2_begins 19 = .ok (.iaload, 1) := dk_46 (dk_at dksX2_begins_0 19 rfl rfl)
theorem dX2_begins_20 : decode cX2_begins 20 = .ok (.iastore, 1) := dk_79 (dk_at dksX2_begins_0 20 rfl rfl)
theorem dX2_begins_21 : decode cX2_begins 21 = .ok (.iinc 1 1, 3) := dk_132 1 1 (dk_at dksX2_begins_0 21 rfl rfl)
theorem dX2_begins_24 : decode cX2_begins 24 = .ok (.goto (-22), 3) := dk_167 255 234 (dk_at dksX2_begins_1 0 rfl rfl)
theorem dX2_begins_27 : decode cX2_begins 27 = .ok (.return_, 1) := dk_177 (dk_at dksX2_begins_1 3 rfl rfl)
abbrev cX2_plantIt : ByteArray := prog_14_method_14_code
def yX2_plantIt : MethodName := ⟨RX2, "plantIt", "(I)I"⟩
def dkwX2_plantIt_1 : List UInt8 := [28, 167, 0, 12, 42, 27, 3, 3, 3, 3, 182, 0, 75, 172]
abbrev dktX2_plantIt_1 : List UInt8 := dkwX2_plantIt_1 ++ []
def dkwX2_plantIt_0 : List UInt8 := [27, 133, 9, 20, 0, 70, 184, 0, 54, 154, 0, 6, 16, 254, 172, 42, 182, 0, 72, 61, 28, 156, 0, 7]
abbrev dktX2_plantIt_0 : List UInt8 := dkwX2_plantIt_0 ++ dktX2_plantIt_1
theorem dksX2_plantIt_0 : cX2_plantIt.data.toList.drop 0 = dktX2_plantIt_0 := by decide +kernel
theorem dksX2_plantIt_1 : cX2_plantIt.data.toList.drop 24 = dktX2_plantIt_1 := dk_seg dksX2_plantIt_0 24 rfl rfl
theorem dX2_plantIt_0 : decode cX2_plantIt 0 = .ok (.iload_n 1, 1) := dk_27 (dk_at dksX2_plantIt_0 0 rfl rfl)
theorem dX2_plantIt_1 : decode cX2_plantIt 1 = .ok (.i2l, 1) := dk_133 (dk_at dksX2_plantIt_0 1 rfl rfl)
theorem dX2_plantIt_2 : decode cX2_plantIt 2 = .ok (.lconst 0, 1) := dk_9 (dk_at dksX2_plantIt_0 2 rfl rfl)
theorem dX2_plantIt_3 : decode cX2_plantIt 3 = .ok (.ldc2_w 70, 3) := dk_20 0 70 (dk_at dksX2_plantIt_0 3 rfl rfl)
theorem dX2_plantIt_6 : decode cX2_plantIt 6 = .ok (.invokestatic 54, 3) := dk_184 0 54 (dk_at dksX2_plantIt_0 6 rfl rfl)
theorem dX2_plantIt_9 : decode cX2_plantIt 9 = .ok (.ifCond .ne 6, 3) := dk_154 0 6 (dk_at dksX2_plantIt_0 9 rfl rfl)
theorem dX2_plantIt_12 : decode cX2_plantIt 12 = .ok (.bipush (-2), 2) := dk_16 254 (dk_at dksX2_plantIt_0 12 rfl rfl)
theorem dX2_plantIt_14 : decode cX2_plantIt 14 = .ok (.ireturn, 1) := dk_172 (dk_at dksX2_plantIt_0 14 rfl rfl)
theorem dX2_plantIt_15 : decode cX2_plantIt 15 = .ok (.aload_n 0, 1) := dk_42 (dk_at dksX2_plantIt_0 15 rfl rfl)
theorem dX2_plantIt_16 : decode cX2_plantIt 16 = .ok (.invokevirtual 72, 3) := dk_182 0 72 (dk_at dksX2_plantIt_0 16 rfl rfl)
theorem dX2_plantIt_19 : decode cX2_plantIt 19 = .ok (.istore_n 2, 1) := dk_61 (dk_at dksX2_plantIt_0 19 rfl rfl)
theorem dX2_plantIt_20 : decode cX2_plantIt 20 = .ok (.iload_n 2, 1) := dk_28 (dk_at dksX2_plantIt_0 20 rfl rfl)
theorem dX2_plantIt_21 : decode cX2_plantIt 21 = .ok (.ifCond .ge 7, 3) := dk_156 0 7 (dk_at dksX2_plantIt_0 21 rfl rfl)
theorem dX2_plantIt_24 : decode cX2_plantIt 24 = .ok (.iload_n 2, 1) := dk_28 (dk_at dksX2_plantIt_1 0 rfl rfl)
theorem dX2_plantIt_25 : decode cX2_plantIt 25 = .ok (.goto 12, 3) := dk_167 0 12 (dk_at dksX2_plantIt_1 1 rfl rfl)
theorem dX2_plantIt_28 : decode cX2_plantIt 28 = .ok (.aload_n 0, 1) := dk_42 (dk_at dksX2_plantIt_1 4 rfl rfl)
theorem dX2_plantIt_29 : decode cX2_plantIt 29 = .ok (.iload_n 1, 1) := dk_27 (dk_at dksX2_plantIt_1 5 rfl rfl)
theorem dX2_plantIt_30 : decode cX2_plantIt 30 = .ok (.iconst 0, 1) := dk_3 (dk_at dksX2_plantIt_1 6 rfl rfl)
theorem dX2_plantIt_31 : decode cX2_plantIt 31 = .ok (.iconst 0, 1) := dk_3 (dk_at dksX2_plantIt_1 7 rfl rfl)
theorem dX2_plantIt_32 : decode cX2_plantIt 32 = .ok (.iconst 0, 1) := dk_3 (dk_at dksX2_plantIt_1 8 rfl rfl)
theorem dX2_plantIt_33 : decode cX2_plantIt 33 = .ok (.iconst 0, 1) := dk_3 (dk_at dksX2_plantIt_1 9 rfl rfl)
theorem dX2_plantIt_34 : decode cX2_plantIt 34 = .ok (.invokevirtual 75, 3) := dk_182 0 75 (dk_at dksX2_plantIt_1 10 rfl rfl)
theorem dX2_plantIt_37 : decode cX2_plantIt 37 = .ok (.ireturn, 1) := dk_172 (dk_at dksX2_plantIt_1 13 rfl rfl)
abbrev cX2_in : ByteArray := prog_14_method_2_code
def yX2_in : MethodName := ⟨RX2, "in", "(JJJ)Z"⟩
def dkwX2_in_0 : List UInt8 := [30, 32, 148, 155, 0, 14, 30, 22, 4, 148, 157, 0, 7, 4, 167, 0, 4, 3, 172]
abbrev dktX2_in_0 : List UInt8 := dkwX2_in_0 ++ []
theorem dksX2_in_0 : cX2_in.data.toList.drop 0 = dktX2_in_0 := by decide +kernel
theorem dX2_in_0 : decode cX2_in 0 = .ok (.lload_n 0, 1) := dk_30 (dk_at dksX2_in_0 0 rfl rfl)
theorem dX2_in_1 : decode cX2_in 1 = .ok (.lload_n 2, 1) := dk_32 (dk_at dksX2_in_0 1 rfl rfl)
theorem dX2_in_2 : decode cX2_in 2 = .ok (.lcmp, 1) := dk_148 (dk_at dksX2_in_0 2 rfl rfl)
theorem dX2_in_3 : decode cX2_in 3 = .ok (.ifCond .lt 14, 3) := dk_155 0 14 (dk_at dksX2_in_0 3 rfl rfl)
theorem dX2_in_6 : decode cX2_in 6 = .ok (.lload_n 0, 1) := dk_30 (dk_at dksX2_in_0 6 rfl rfl)
theorem dX2_in_7 : decode cX2_in 7 = .ok (.lload 4, 2) := dk_22 4 (dk_at dksX2_in_0 7 rfl rfl)
theorem dX2_in_9 : decode cX2_in 9 = .ok (.lcmp, 1) := dk_148 (dk_at dksX2_in_0 9 rfl rfl)
theorem dX2_in_10 : decode cX2_in 10 = .ok (.ifCond .gt 7, 3) := dk_157 0 7 (dk_at dksX2_in_0 10 rfl rfl)
theorem dX2_in_13 : decode cX2_in 13 = .ok (.iconst 1, 1) := dk_4 (dk_at dksX2_in_0 13 rfl rfl)
theorem dX2_in_14 : decode cX2_in 14 = .ok (.goto 4, 3) := dk_167 0 4 (dk_at dksX2_in_0 14 rfl rfl)
theorem dX2_in_17 : decode cX2_in 17 = .ok (.iconst 0, 1) := dk_3 (dk_at dksX2_in_0 17 rfl rfl)
theorem dX2_in_18 : decode cX2_in 18 = .ok (.ireturn, 1) := dk_172 (dk_at dksX2_in_0 18 rfl rfl)
abbrev cX2_full : ByteArray := prog_14_method_12_code
def yX2_full : MethodName := ⟨RX2, "full", "()I"⟩
def dkwX2_full_1 : List UInt8 := [16, 12, 160, 0, 13, 42, 5, 16, 12, 182, 0, 62, 167, 0, 4, 3, 172]
abbrev dktX2_full_1 : List UInt8 := dkwX2_full_1 ++ []
def dkwX2_full_0 : List UInt8 := [42, 180, 0, 9, 3, 46, 16, 40, 160, 0, 11, 42, 4, 16, 40, 182, 0, 62, 172, 42, 182, 0, 66]
abbrev dktX2_full_0 : List UInt8 := dkwX2_full_0 ++ dktX2_full_1
theorem dksX2_full_0 : cX2_full.data.toList.drop 0 = dktX2_full_0 := by decide +kernel
theorem dksX2_full_1 : cX2_full.data.toList.drop 23 = dktX2_full_1 := dk_seg dksX2_full_0 23 rfl rfl
theorem dX2_full_0 : decode cX2_full 0 = .ok (.aload_n 0, 1) := dk_42 (dk_at dksX2_full_0 0 rfl rfl)
theorem dX2_full_1 : decode cX2_full 1 = .ok (.getfield 9, 3) := dk_180 0 9 (dk_at dksX2_full_0 1 rfl rfl)
theorem dX2_full_4 : decode cX2_full 4 = .ok (.iconst 0, 1) := dk_3 (dk_at dksX2_full_0 4 rfl rfl)
theorem dX2_full_5 : decode cX2_full 5 = .ok (.iaload, 1) := dk_46 (dk_at dksX2_full_0 5 rfl rfl)
theorem dX2_full_6 : decode cX2_full 6 = .ok (.bipush 40, 2) := dk_16 40 (dk_at dksX2_full_0 6 rfl rfl)
theorem dX2_full_8 : decode cX2_full 8 = .ok (.if_icmp .ne 11, 3) := dk_160 0 11 (dk_at dksX2_full_0 8 rfl rfl)
theorem dX2_full_11 : decode cX2_full 11 = .ok (.aload_n 0, 1) := dk_42 (dk_at dksX2_full_0 11 rfl rfl)
theorem dX2_full_12 : decode cX2_full 12 = .ok (.iconst 1, 1) := dk_4 (dk_at dksX2_full_0 12 rfl rfl)
theorem dX2_full_13 : decode cX2_full 13 = .ok (.bipush 40, 2) := dk_16 40 (dk_at dksX2_full_0 13 rfl rfl)
theorem dX2_full_15 : decode cX2_full 15 = .ok (.invokevirtual 62, 3) := dk_182 0 62 (dk_at dksX2_full_0 15 rfl rfl)
theorem dX2_full_18 : decode cX2_full 18 = .ok (.ireturn, 1) := dk_172 (dk_at dksX2_full_0 18 rfl rfl)
theorem dX2_full_19 : decode cX2_full 19 = .ok (.aload_n 0, 1) := dk_42 (dk_at dksX2_full_0 19 rfl rfl)
theorem dX2_full_20 : decode cX2_full 20 = .ok (.invokevirtual 66, 3) := dk_182 0 66 (dk_at dksX2_full_0 20 rfl rfl)
theorem dX2_full_23 : decode cX2_full 23 = .ok (.bipush 12, 2) := dk_16 12 (dk_at dksX2_full_1 0 rfl rfl)
theorem dX2_full_25 : decode cX2_full 25 = .ok (.if_icmp .ne 13, 3) := dk_160 0 13 (dk_at dksX2_full_1 2 rfl rfl)
theorem dX2_full_28 : decode cX2_full 28 = .ok (.aload_n 0, 1) := dk_42 (dk_at dksX2_full_1 5 rfl rfl)
theorem dX2_full_29 : decode cX2_full 29 = .ok (.iconst 2, 1) := dk_5 (dk_at dksX2_full_1 6 rfl rfl)
theorem dX2_full_30 : decode cX2_full 30 = .ok (.bipush 12, 2) := dk_16 12 (dk_at dksX2_full_1 7 rfl rfl)
theorem dX2_full_32 : decode cX2_full 32 = .ok (.invokevirtual 62, 3) := dk_182 0 62 (dk_at dksX2_full_1 9 rfl rfl)
theorem dX2_full_35 : decode cX2_full 35 = .ok (.goto 4, 3) := dk_167 0 4 (dk_at dksX2_full_1 12 rfl rfl)
theorem dX2_full_38 : decode cX2_full 38 = .ok (.iconst 0, 1) := dk_3 (dk_at dksX2_full_1 15 rfl rfl)
theorem dX2_full_39 : decode cX2_full 39 = .ok (.ireturn, 1) := dk_172 (dk_at dksX2_full_1 16 rfl rfl)
abbrev cX2_refuse : ByteArray := prog_14_method_3_code
def yX2_refuse : MethodName := ⟨RX2, "refuse", "(II)I"⟩
def dkwX2_refuse_0 : List UInt8 := [42, 27, 181, 0, 45, 42, 28, 181, 0, 48, 42, 16, 252, 181, 0, 25, 16, 253, 172]
abbrev dktX2_refuse_0 : List UInt8 := dkwX2_refuse_0 ++ []
theorem dksX2_refuse_0 : cX2_refuse.data.toList.drop 0 = dktX2_refuse_0 := by decide +kernel
theorem dX2_refuse_0 : decode cX2_refuse 0 = .ok (.aload_n 0, 1) := dk_42 (dk_at dksX2_refuse_0 0 rfl rfl)
theorem dX2_refuse_1 : decode cX2_refuse 1 = .ok (.iload_n 1, 1) := dk_27 (dk_at dksX2_refuse_0 1 rfl rfl)
theorem dX2_refuse_2 : decode cX2_refuse 2 = .ok (.putfield 45, 3) := dk_181 0 45 (dk_at dksX2_refuse_0 2 rfl rfl)
theorem dX2_refuse_5 : decode cX2_refuse 5 = .ok (.aload_n 0, 1) := dk_42 (dk_at dksX2_refuse_0 5 rfl rfl)
theorem dX2_refuse_6 : decode cX2_refuse 6 = .ok (.iload_n 2, 1) := dk_28 (dk_at dksX2_refuse_0 6 rfl rfl)
theorem dX2_refuse_7 : decode cX2_refuse 7 = .ok (.putfield 48, 3) := dk_181 0 48 (dk_at dksX2_refuse_0 7 rfl rfl)
theorem dX2_refuse_10 : decode cX2_refuse 10 = .ok (.aload_n 0, 1) := dk_42 (dk_at dksX2_refuse_0 10 rfl rfl)
theorem dX2_refuse_11 : decode cX2_refuse 11 = .ok (.bipush (-4), 2) := dk_16 252 (dk_at dksX2_refuse_0 11 rfl rfl)
theorem dX2_refuse_13 : decode cX2_refuse 13 = .ok (.putfield 25, 3) := dk_181 0 25 (dk_at dksX2_refuse_0 13 rfl rfl)
theorem dX2_refuse_16 : decode cX2_refuse 16 = .ok (.bipush (-3), 2) := dk_16 253 (dk_at dksX2_refuse_0 16 rfl rfl)
theorem dX2_refuse_18 : decode cX2_refuse 18 = .ok (.ireturn, 1) := dk_172 (dk_at dksX2_refuse_0 18 rfl rfl)
abbrev cX2_living : ByteArray := prog_14_method_9_code
def yX2_living : MethodName := ⟨RX2, "living", "()I"⟩
def dkwX2_living_1 : List UInt8 := [96, 46, 96, 60, 132, 2, 1, 167, 255, 229, 27, 172]
abbrev dktX2_living_1 : List UInt8 := dkwX2_living_1 ++ []
def dkwX2_living_0 : List UInt8 := [3, 60, 3, 61, 28, 42, 180, 0, 9, 3, 46, 162, 0, 23, 27, 42, 180, 0, 9, 28, 184, 0, 58, 6]
abbrev dktX2_living_0 : List UInt8 := dkwX2_living_0 ++ dktX2_living_1
theorem dksX2_living_0 : cX2_living.data.toList.drop 0 = dktX2_living_0 := by decide +kernel
theorem dksX2_living_1 : cX2_living.data.toList.drop 24 = dktX2_living_1 := dk_seg dksX2_living_0 24 rfl rfl
theorem dX2_living_0 : decode cX2_living 0 = .ok (.iconst 0, 1) := dk_3 (dk_at dksX2_living_0 0 rfl rfl)
theorem dX2_living_1 : decode cX2_living 1 = .ok (.istore_n 1, 1) := dk_60 (dk_at dksX2_living_0 1 rfl rfl)
theorem dX2_living_2 : decode cX2_living 2 = .ok (.iconst 0, 1) := dk_3 (dk_at dksX2_living_0 2 rfl rfl)
theorem dX2_living_3 : decode cX2_living 3 = .ok (.istore_n 2, 1) := dk_61 (dk_at dksX2_living_0 3 rfl rfl)
theorem dX2_living_4 : decode cX2_living 4 = .ok (.iload_n 2, 1) := dk_28 (dk_at dksX2_living_0 4 rfl rfl)
theorem dX2_living_5 : decode cX2_living 5 = .ok (.aload_n 0, 1) := dk_42 (dk_at dksX2_living_0 5 rfl rfl)
theorem dX2_living_6 : decode cX2_living 6 = .ok (.getfield 9, 3) := dk_180 0 9 (dk_at dksX2_living_0 6 rfl rfl)
theorem dX2_living_9 : decode cX2_living 9 = .ok (.iconst 0, 1) := dk_3 (dk_at dksX2_living_0 9 rfl rfl)
theorem dX2_living_10 : decode cX2_living 10 = .ok (.iaload, 1) := dk_46 (dk_at dksX2_living_0 10 rfl rfl)
theorem dX2_living_11 : decode cX2_living 11 = .ok (.if_icmp .ge 23, 3) := dk_162 0 23 (dk_at dksX2_living_0 11 rfl rfl)
theorem dX2_living_14 : decode cX2_living 14 = .ok (.iload_n 1, 1) := dk_27 (dk_at dksX2_living_0 14 rfl rfl)
theorem dX2_living_15 : decode cX2_living 15 = .ok (.aload_n 0, 1) := dk_42 (dk_at dksX2_living_0 15 rfl rfl)
theorem dX2_living_16 : decode cX2_living 16 = .ok (.getfield 9, 3) := dk_180 0 9 (dk_at dksX2_living_0 16 rfl rfl)
theorem dX2_living_19 : decode cX2_living 19 = .ok (.iload_n 2, 1) := dk_28 (dk_at dksX2_living_0 19 rfl rfl)
theorem dX2_living_20 : decode cX2_living 20 = .ok (.invokestatic 58, 3) := dk_184 0 58 (dk_at dksX2_living_0 20 rfl rfl)
theorem dX2_living_23 : decode cX2_living 23 = .ok (.iconst 3, 1) := dk_6 (dk_at dksX2_living_0 23 rfl rfl)
theorem dX2_living_24 : decode cX2_living 24 = .ok (.iadd, 1) := dk_96 (dk_at dksX2_living_1 0 rfl rfl)
theorem dX2_living_25 : decode cX2_living 25 = .ok (.iaload, 1) := dk_46 (dk_at dksX2_living_1 1 rfl rfl)
theorem dX2_living_26 : decode cX2_living 26 = .ok (.iadd, 1) := dk_96 (dk_at dksX2_living_1 2 rfl rfl)
theorem dX2_living_27 : decode cX2_living 27 = .ok (.istore_n 1, 1) := dk_60 (dk_at dksX2_living_1 3 rfl rfl)
theorem dX2_living_28 : decode cX2_living 28 = .ok (.iinc 2 1, 3) := dk_132 2 1 (dk_at dksX2_living_1 4 rfl rfl)
theorem dX2_living_31 : decode cX2_living 31 = .ok (.goto (-27), 3) := dk_167 255 229 (dk_at dksX2_living_1 7 rfl rfl)
theorem dX2_living_34 : decode cX2_living 34 = .ok (.iload_n 1, 1) := dk_27 (dk_at dksX2_living_1 10 rfl rfl)
theorem dX2_living_35 : decode cX2_living 35 = .ok (.ireturn, 1) := dk_172 (dk_at dksX2_living_1 11 rfl rfl)
abbrev cX2_of : ByteArray := prog_14_method_6_code
def yX2_of : MethodName := ⟨RX2, "of", "(I)I"⟩
def dkwX2_of_0 : List UInt8 := [16, 14, 16, 7, 26, 104, 96, 172]
abbrev dktX2_of_0 : List UInt8 := dkwX2_of_0 ++ []
theorem dksX2_of_0 : cX2_of.data.toList.drop 0 = dktX2_of_0 := by decide +kernel
theorem dX2_of_0 : decode cX2_of 0 = .ok (.bipush 14, 2) := dk_16 14 (dk_at dksX2_of_0 0 rfl rfl)
theorem dX2_of_2 : decode cX2_of 2 = .ok (.bipush 7, 2) := dk_16 7 (dk_at dksX2_of_0 2 rfl rfl)
theorem dX2_of_4 : decode cX2_of 4 = .ok (.iload_n 0, 1) := dk_26 (dk_at dksX2_of_0 4 rfl rfl)
theorem dX2_of_5 : decode cX2_of 5 = .ok (.imul, 1) := dk_104 (dk_at dksX2_of_0 5 rfl rfl)
theorem dX2_of_6 : decode cX2_of 6 = .ok (.iadd, 1) := dk_96 (dk_at dksX2_of_0 6 rfl rfl)
theorem dX2_of_7 : decode cX2_of 7 = .ok (.ireturn, 1) := dk_172 (dk_at dksX2_of_0 7 rfl rfl)
abbrev cX2_comes : ByteArray := prog_14_method_13_code
def yX2_comes : MethodName := ⟨RX2, "comes", "(IIIII)I"⟩
def dkwX2_comes_4 : List UInt8 := [96, 79, 42, 180, 0, 9, 3, 46, 4, 100, 172]
abbrev dktX2_comes_4 : List UInt8 := dkwX2_comes_4 ++ []
def dkwX2_comes_3 : List UInt8 := [96, 21, 4, 79, 42, 180, 0, 9, 21, 6, 16, 6, 96, 21, 5, 79, 42, 180, 0, 9, 3, 92, 46, 4]
abbrev dktX2_comes_3 : List UInt8 := dkwX2_comes_3 ++ dktX2_comes_4
def dkwX2_comes_2 : List UInt8 := [4, 79, 42, 180, 0, 9, 21, 6, 7, 96, 42, 180, 0, 9, 4, 46, 79, 42, 180, 0, 9, 21, 6, 8]
abbrev dktX2_comes_2 : List UInt8 := dkwX2_comes_2 ++ dktX2_comes_3
def dkwX2_comes_1 : List UInt8 := [21, 6, 4, 96, 28, 79, 42, 180, 0, 9, 21, 6, 5, 96, 29, 79, 42, 180, 0, 9, 21, 6, 6, 96]
abbrev dktX2_comes_1 : List UInt8 := dkwX2_comes_1 ++ dktX2_comes_2
def dkwX2_comes_0 : List UInt8 := [42, 180, 0, 9, 3, 46, 184, 0, 58, 54, 6, 42, 180, 0, 9, 21, 6, 27, 79, 42, 180, 0, 9]
abbrev dktX2_comes_0 : List UInt8 := dkwX2_comes_0 ++ dktX2_comes_1
theorem dksX2_comes_0 : cX2_comes.data.toList.drop 0 = dktX2_comes_0 := by decide +kernel
theorem dksX2_comes_1 : cX2_comes.data.toList.drop 23 = dktX2_comes_1 := dk_seg dksX2_comes_0 23 rfl rfl
theorem dksX2_comes_2 : cX2_comes.data.toList.drop 47 = dktX2_comes_2 := dk_seg dksX2_comes_1 24 rfl rfl
theorem dksX2_comes_3 : cX2_comes.data.toList.drop 71 = dktX2_comes_3 := dk_seg dksX2_comes_2 24 rfl rfl
theorem dksX2_comes_4 : cX2_comes.data.toList.drop 95 = dktX2_comes_4 := dk_seg dksX2_comes_3 24 rfl rfl
theorem dX2_comes_0 : decode cX2_comes 0 = .ok (.aload_n 0, 1) := dk_42 (dk_at dksX2_comes_0 0 rfl rfl)
theorem dX2_comes_1 : decode cX2_comes 1 = .ok (.getfield 9, 3) := dk_180 0 9 (dk_at dksX2_comes_0 1 rfl rfl)
theorem dX2_comes_4 : decode cX2_comes 4 = .ok (.iconst 0, 1) := dk_3 (dk_at dksX2_comes_0 4 rfl rfl)
theorem dX2_comes_5 : decode cX2_comes 5 = .ok (.iaload, 1) := dk_46 (dk_at dksX2_comes_0 5 rfl rfl)
theorem dX2_comes_6 : decode cX2_comes 6 = .ok (.invokestatic 58, 3) := dk_184 0 58 (dk_at dksX2_comes_0 6 rfl rfl)
theorem dX2_comes_9 : decode cX2_comes 9 = .ok (.istore 6, 2) := dk_54 6 (dk_at dksX2_comes_0 9 rfl rfl)
theorem dX2_comes_11 : decode cX2_comes 11 = .ok (.aload_n 0, 1) := dk_42 (dk_at dksX2_comes_0 11 rfl rfl)
theorem dX2_comes_12 : decode cX2_comes 12 = .ok (.getfield 9, 3) := dk_180 0 9 (dk_at dksX2_comes_0 12 rfl rfl)
theorem dX2_comes_15 : decode cX2_comes 15 = .ok (.iload 6, 2) := dk_21 6 (dk_at dksX2_comes_0 15 rfl rfl)
theorem dX2_comes_17 : decode cX2_comes 17 = .ok (.iload_n 1, 1) := dk_27 (dk_at dksX2_comes_0 17 rfl rfl)
theorem dX2_comes_18 : decode cX2_comes 18 = .ok (.iastore, 1) := dk_79 (dk_at dksX2_comes_0 18 rfl rfl)
theorem dX2_comes_19 : decode cX2_comes 19 = .ok (.aload_n 0, 1) := dk_42 (dk_at dksX2_comes_0 19 rfl rfl)
theorem dX2_comes_20 : decode cX2_comes 20 = .ok (.getfield 9, 3) := dk_180 0 9 (dk_at dksX2_comes_0 20 rfl rfl)
theorem dX2_comes_23 : decode cX2_comes 23 = .ok (.iload 6, 2) := dk_21 6 (dk_at dksX2_comes_1 0 rfl rfl)
theorem dX2_comes_25 : decode cX2_comes 25 = .ok (.iconst 1, 1) := dk_4 (dk_at dksX2_comes_1 2 rfl rfl)
theorem dX2_comes_26 : decode cX2_comes 26 = .ok (.iadd, 1) := dk_96 (dk_at dksX2_comes_1 3 rfl rfl)
theorem dX2_comes_27 : decode cX2_comes 27 = .ok (.iload_n 2, 1) := dk_28 (dk_at dksX2_comes_1 4 rfl rfl)
theorem dX2_comes_28 : decode cX2_comes 28 = .ok (.iastore, 1) := dk_79 (dk_at dksX2_comes_1 5 rfl rfl)
theorem dX2_comes_29 : decode cX2_comes 29 = .ok (.aload_n 0, 1) := dk_42 (dk_at dksX2_comes_1 6 rfl rfl)
theorem dX2_comes_30 : decode cX2_comes 30 = .ok (.getfield 9, 3) := dk_180 0 9 (dk_at dksX2_comes_1 7 rfl rfl)
theorem dX2_comes_33 : decode cX2_comes 33 = .ok (.iload 6, 2) := dk_21 6 (dk_at dksX2_comes_1 10 rfl rfl)
theorem dX2_comes_35 : decode cX2_comes 35 = .ok (.iconst 2, 1) := dk_5 (dk_at dksX2_comes_1 12 rfl rfl)
theorem dX2_comes_36 : decode cX2_comes 36 = .ok (.iadd, 1) := dk_96 (dk_at dksX2_comes_1 13 rfl rfl)
theorem dX2_comes_37 : decode cX2_comes 37 = .ok (.iload_n 3, 1) := dk_29 (dk_at dksX2_comes_1 14 rfl rfl)
theorem dX2_comes_38 : decode cX2_comes 38 = .ok (.iastore, 1) := dk_79 (dk_at dksX2_comes_1 15 rfl rfl)
theorem dX2_comes_39 : decode cX2_comes 39 = .ok (.aload_n 0, 1) := dk_42 (dk_at dksX2_comes_1 16 rfl rfl)
theorem dX2_comes_40 : decode cX2_comes 40 = .ok (.getfield 9, 3) := dk_180 0 9 (dk_at dksX2_comes_1 17 rfl rfl)
theorem dX2_comes_43 : decode cX2_comes 43 = .ok (.iload 6, 2) := dk_21 6 (dk_at dksX2_comes_1 20 rfl rfl)
theorem dX2_comes_45 : decode cX2_comes 45 = .ok (.iconst 3, 1) := dk_6 (dk_at dksX2_comes_1 22 rfl rfl)
theorem dX2_comes_46 : decode cX2_comes 46 = .ok (.iadd, 1) := dk_96 (dk_at dksX2_comes_1 23 rfl rfl)
theorem dX2_comes_47 : decode cX2_comes 47 = .ok (.iconst 1, 1) := dk_4 (dk_at dksX2_comes_2 0 rfl rfl)
theorem dX2_comes_48 : decode cX2_comes 48 = .ok (.iastore, 1) := dk_79 (dk_at dksX2_comes_2 1 rfl rfl)
theorem dX2_comes_49 : decode cX2_comes 49 = .ok (.aload_n 0, 1) := dk_42 (dk_at dksX2_comes_2 2 rfl rfl)
theorem dX2_comes_50 : decode cX2_comes 50 = .ok (.getfield 9, 3) := dk_180 0 9 (dk_at dksX2_comes_2 3 rfl rfl)
theorem dX2_comes_53 : decode cX2_comes 53 = .ok (.iload 6, 2) := dk_21 6 (dk_at dksX2_comes_2 6 rfl rfl)
theorem dX2_comes_55 : decode cX2_comes 55 = .ok (.iconst 4, 1) := dk_7 (dk_at dksX2_comes_2 8 rfl rfl)
theorem dX2_comes_56 : decode cX2_comes 56 = .ok (.iadd, 1) := dk_96 (dk_at dksX2_comes_2 9 rfl rfl)
theorem dX2_comes_57 : decode cX2_comes 57 = .ok (.aload_n 0, 1) := dk_42 (dk_at dksX2_comes_2 10 rfl rfl)
theorem dX2_comes_58 : decode cX2_comes 58 = .ok (.getfield 9, 3) := dk_180 0 9 (dk_at dksX2_comes_2 11 rfl rfl)
theorem dX2_comes_61 : decode cX2_comes 61 = .ok (.iconst 1, 1) := dk_4 (dk_at dksX2_comes_2 14 rfl rfl)
theorem dX2_comes_62 : decode cX2_comes 62 = .ok (.iaload, 1) := dk_46 (dk_at dksX2_comes_2 15 rfl rfl)
theorem dX2_comes_63 : decode cX2_comes 63 = .ok (.iastore, 1) := dk_79 (dk_at dksX2_comes_2 16 rfl rfl)
theorem dX2_comes_64 : decode cX2_comes 64 = .ok (.aload_n 0, 1) := dk_42 (dk_at dksX2_comes_2 17 rfl rfl)
theorem dX2_comes_65 : decode cX2_comes 65 = .ok (.getfield 9, 3) := dk_180 0 9 (dk_at dksX2_comes_2 18 rfl rfl)
theorem dX2_comes_68 : decode cX2_comes 68 = .ok (.iload 6, 2) := dk_21 6 (dk_at dksX2_comes_2 21 rfl rfl)
theorem dX2_comes_70 : decode cX2_comes 70 = .ok (.iconst 5, 1) := dk_8 (dk_at dksX2_comes_2 23 rfl rfl)
theorem dX2_comes_71 : decode cX2_comes 71 = .ok (.iadd, 1) := dk_96 (dk_at dksX2_comes_3 0 rfl rfl)
theorem dX2_comes_72 : decode cX2_comes 72 = .ok (.iload 4, 2) := dk_21 4 (dk_at dksX2_comes_3 1 rfl rfl)
theorem dX2_comes_74 : decode cX2_comes 74 = .ok (.iastore, 1) := dk_79 (dk_at dksX2_comes_3 3 rfl rfl)
theorem dX2_comes_75 : decode cX2_comes 75 = .ok (.aload_n 0, 1) := dk_42 (dk_at dksX2_comes_3 4 rfl rfl)
theorem dX2_comes_76 : decode cX2_comes 76 = .ok (.getfield 9, 3) := dk_180 0 9 (dk_at dksX2_comes_3 5 rfl rfl)
theorem dX2_comes_79 : decode cX2_comes 79 = .ok (.iload 6, 2) := dk_21 6 (dk_at dksX2_comes_3 8 rfl rfl)
theorem dX2_comes_81 : decode cX2_comes 81 = .ok (.bipush 6, 2) := dk_16 6 (dk_at dksX2_comes_3 10 rfl rfl)
theorem dX2_comes_83 : decode cX2_comes 83 = .ok (.iadd, 1) := dk_96 (dk_at dksX2_comes_3 12 rfl rfl)
theorem dX2_comes_84 : decode cX2_comes 84 = .ok (.iload 5, 2) := dk_21 5 (dk_at dksX2_comes_3 13 rfl rfl)
theorem dX2_comes_86 : decode cX2_comes 86 = .ok (.iastore, 1) := dk_79 (dk_at dksX2_comes_3 15 rfl rfl)
theorem dX2_comes_87 : decode cX2_comes 87 = .ok (.aload_n 0, 1) := dk_42 (dk_at dksX2_comes_3 16 rfl rfl)
theorem dX2_comes_88 : decode cX2_comes 88 = .ok (.getfield 9, 3) := dk_180 0 9 (dk_at dksX2_comes_3 17 rfl rfl)
theorem dX2_comes_91 : decode cX2_comes 91 = .ok (.iconst 0, 1) := dk_3 (dk_at dksX2_comes_3 20 rfl rfl)
theorem dX2_comes_92 : decode cX2_comes 92 = .ok (.dup2, 1) := dk_92 (dk_at dksX2_comes_3 21 rfl rfl)
theorem dX2_comes_93 : decode cX2_comes 93 = .ok (.iaload, 1) := dk_46 (dk_at dksX2_comes_3 22 rfl rfl)
theorem dX2_comes_94 : decode cX2_comes 94 = .ok (.iconst 1, 1) := dk_4 (dk_at dksX2_comes_3 23 rfl rfl)
theorem dX2_comes_95 : decode cX2_comes 95 = .ok (.iadd, 1) := dk_96 (dk_at dksX2_comes_4 0 rfl rfl)
theorem dX2_comes_96 : decode cX2_comes 96 = .ok (.iastore, 1) := dk_79 (dk_at dksX2_comes_4 1 rfl rfl)
theorem dX2_comes_97 : decode cX2_comes 97 = .ok (.aload_n 0, 1) := dk_42 (dk_at dksX2_comes_4 2 rfl rfl)
theorem dX2_comes_98 : decode cX2_comes 98 = .ok (.getfield 9, 3) := dk_180 0 9 (dk_at dksX2_comes_4 3 rfl rfl)
theorem dX2_comes_101 : decode cX2_comes 101 = .ok (.iconst 0, 1) := dk_3 (dk_at dksX2_comes_4 6 rfl rfl)
theorem dX2_comes_102 : decode cX2_comes 102 = .ok (.iaload, 1) := dk_46 (dk_at dksX2_comes_4 7 rfl rfl)
theorem dX2_comes_103 : decode cX2_comes 103 = .ok (.iconst 1, 1) := dk_4 (dk_at dksX2_comes_4 8 rfl rfl)
theorem dX2_comes_104 : decode cX2_comes 104 = .ok (.isub, 1) := dk_100 (dk_at dksX2_comes_4 9 rfl rfl)
theorem dX2_comes_105 : decode cX2_comes 105 = .ok (.ireturn, 1) := dk_172 (dk_at dksX2_comes_4 10 rfl rfl)
abbrev cX2_changed : ByteArray := prog_14_method_5_code
def yX2_changed : MethodName := ⟨RX2, "changed", "(I)I"⟩
def dkwX2_changed_4 : List UInt8 := [180, 0, 51, 4, 96, 181, 0, 51, 27, 172]
abbrev dktX2_changed_4 : List UInt8 := dkwX2_changed_4 ++ []
def dkwX2_changed_3 : List UInt8 := [42, 180, 0, 51, 104, 28, 96, 42, 180, 0, 13, 28, 46, 79, 132, 2, 1, 167, 255, 225, 42, 89]
abbrev dktX2_changed_3 : List UInt8 := dkwX2_changed_3 ++ dktX2_changed_4
def dkwX2_changed_2 : List UInt8 := [180, 0, 51, 4, 100, 181, 0, 51, 3, 61, 28, 17, 1, 38, 162, 0, 30, 42, 180, 0, 22, 17, 1, 38]
abbrev dktX2_changed_2 : List UInt8 := dkwX2_changed_2 ++ dktX2_changed_3
def dkwX2_changed_1 : List UInt8 := [42, 180, 0, 22, 28, 42, 180, 0, 22, 28, 17, 1, 38, 96, 46, 79, 132, 2, 1, 167, 255, 230, 42, 89]
abbrev dktX2_changed_1 : List UInt8 := dkwX2_changed_1 ++ dktX2_changed_2
def dkwX2_changed_0 : List UInt8 := [27, 156, 0, 5, 27, 172, 42, 180, 0, 51, 16, 8, 160, 0, 44, 3, 61, 28, 17, 8, 10, 162, 0, 25]
abbrev dktX2_changed_0 : List UInt8 := dkwX2_changed_0 ++ dktX2_changed_1
theorem dksX2_changed_0 : cX2_changed.data.toList.drop 0 = dktX2_changed_0 := by decide +kernel
theorem dksX2_changed_1 : cX2_changed.data.toList.drop 24 = dktX2_changed_1 := dk_seg dksX2_changed_0 24 rfl rfl
theorem dksX2_changed_2 : cX2_changed.data.toList.drop 48 = dktX2_changed_2 := dk_seg dksX2_changed_1 24 rfl rfl
theorem dksX2_changed_3 : cX2_changed.data.toList.drop 72 = dktX2_changed_3 := dk_seg dksX2_changed_2 24 rfl rfl
theorem dksX2_changed_4 : cX2_changed.data.toList.drop 94 = dktX2_changed_4 := dk_seg dksX2_changed_3 22 rfl rfl
theorem dX2_changed_0 : decode cX2_changed 0 = .ok (.iload_n 1, 1) := dk_27 (dk_at dksX2_changed_0 0 rfl rfl)
theorem dX2_changed_1 : decode cX2_changed 1 = .ok (.ifCond .ge 5, 3) := dk_156 0 5 (dk_at dksX2_changed_0 1 rfl rfl)
theorem dX2_changed_4 : decode cX2_changed 4 = .ok (.iload_n 1, 1) := dk_27 (dk_at dksX2_changed_0 4 rfl rfl)
theorem dX2_changed_5 : decode cX2_changed 5 = .ok (.ireturn, 1) := dk_172 (dk_at dksX2_changed_0 5 rfl rfl)
theorem dX2_changed_6 : decode cX2_changed 6 = .ok (.aload_n 0, 1) := dk_42 (dk_at dksX2_changed_0 6 rfl rfl)
theorem dX2_changed_7 : decode cX2_changed 7 = .ok (.getfield 51, 3) := dk_180 0 51 (dk_at dksX2_changed_0 7 rfl rfl)
theorem dX2_changed_10 : decode cX2_changed 10 = .ok (.bipush 8, 2) := dk_16 8 (dk_at dksX2_changed_0 10 rfl rfl)
theorem dX2_changed_12 : decode cX2_changed 12 = .ok (.if_icmp .ne 44, 3) := dk_160 0 44 (dk_at dksX2_changed_0 12 rfl rfl)
theorem dX2_changed_15 : decode cX2_changed 15 = .ok (.iconst 0, 1) := dk_3 (dk_at dksX2_changed_0 15 rfl rfl)
theorem dX2_changed_16 : decode cX2_changed 16 = .ok (.istore_n 2, 1) := dk_61 (dk_at dksX2_changed_0 16 rfl rfl)
theorem dX2_changed_17 : decode cX2_changed 17 = .ok (.iload_n 2, 1) := dk_28 (dk_at dksX2_changed_0 17 rfl rfl)
theorem dX2_changed_18 : decode cX2_changed 18 = .ok (.sipush 2058, 3) := dk_17 8 10 (dk_at dksX2_changed_0 18 rfl rfl)
theorem dX2_changed_21 : decode cX2_changed 21 = .ok (.if_icmp .ge 25, 3) := dk_162 0 25 (dk_at dksX2_changed_0 21 rfl rfl)
theorem dX2_changed_24 : decode cX2_changed 24 = .ok (.aload_n 0, 1) := dk_42 (dk_at dksX2_changed_1 0 rfl rfl)
theorem dX2_changed_25 : decode cX2_changed 25 = .ok (.getfield 22, 3) := dk_180 0 22 (dk_at dksX2_changed_1 1 rfl rfl)
theorem dX2_changed_28 : decode cX2_changed 28 = .ok (.iload_n 2, 1) := dk_28 (dk_at dksX2_changed_1 4 rfl rfl)
theorem dX2_changed_29 : decode cX2_changed 29 = .ok (.aload_n 0, 1) := dk_42 (dk_at dksX2_changed_1 5 rfl rfl)
theorem dX2_changed_30 : decode cX2_changed 30 = .ok (.getfield 22, 3) := dk_180 0 22 (dk_at dksX2_changed_1 6 rfl rfl)
theorem dX2_changed_33 : decode cX2_changed 33 = .ok (.iload_n 2, 1) := dk_28 (dk_at dksX2_changed_1 9 rfl rfl)
theorem dX2_changed_34 : decode cX2_changed 34 = .ok (.sipush 294, 3) := dk_17 1 38 (dk_at dksX2_changed_1 10 rfl rfl)
theorem dX2_changed_37 : decode cX2_changed 37 = .ok (.iadd, 1) := dk_96 (dk_at dksX2_changed_1 13 rfl rfl)
theorem dX2_changed_38 : decode cX2_changed 38 = .ok (.iaload, 1) := dk_46 (dk_at dksX2_changed_1 14 rfl rfl)
theorem dX2_changed_39 : decode cX2_changed 39 = .ok (.iastore, 1) := dk_79 (dk_at dksX2_changed_1 15 rfl rfl)
theorem dX2_changed_40 : decode cX2_changed 40 = .ok (.iinc 2 1, 3) := dk_132 2 1 (dk_at dksX2_changed_1 16 rfl rfl)
theorem dX2_changed_43 : decode cX2_changed 43 = .ok (.goto (-26), 3) := dk_167 255 230 (dk_at dksX2_changed_1 19 rfl rfl)
theorem dX2_changed_46 : decode cX2_changed 46 = .ok (.aload_n 0, 1) := dk_42 (dk_at dksX2_changed_1 22 rfl rfl)
theorem dX2_changed_47 : decode cX2_changed 47 = .ok (.dup, 1) := dk_89 (dk_at dksX2_changed_1 23 rfl rfl)
theorem dX2_changed_48 : decode cX2_changed 48 = .ok (.getfield 51, 3) := dk_180 0 51 (dk_at dksX2_changed_2 0 rfl rfl)
theorem dX2_changed_51 : decode cX2_changed 51 = .ok (.iconst 1, 1) := dk_4 (dk_at dksX2_changed_2 3 rfl rfl)
theorem dX2_changed_52 : decode cX2_changed 52 = .ok (.isub, 1) := dk_100 (dk_at dksX2_changed_2 4 rfl rfl)
theorem dX2_changed_53 : decode cX2_changed 53 = .ok (.putfield 51, 3) := dk_181 0 51 (dk_at dksX2_changed_2 5 rfl rfl)
theorem dX2_changed_56 : decode cX2_changed 56 = .ok (.iconst 0, 1) := dk_3 (dk_at dksX2_changed_2 8 rfl rfl)
theorem dX2_changed_57 : decode cX2_changed 57 = .ok (.istore_n 2, 1) := dk_61 (dk_at dksX2_changed_2 9 rfl rfl)
theorem dX2_changed_58 : decode cX2_changed 58 = .ok (.iload_n 2, 1) := dk_28 (dk_at dksX2_changed_2 10 rfl rfl)
theorem dX2_changed_59 : decode cX2_changed 59 = .ok (.sipush 294, 3) := dk_17 1 38 (dk_at dksX2_changed_2 11 rfl rfl)
theorem dX2_changed_62 : decode cX2_changed 62 = .ok (.if_icmp .ge 30, 3) := dk_162 0 30 (dk_at dksX2_changed_2 14 rfl rfl)
theorem dX2_changed_65 : decode cX2_changed 65 = .ok (.aload_n 0, 1) := dk_42 (dk_at dksX2_changed_2 17 rfl rfl)
theorem dX2_changed_66 : decode cX2_changed 66 = .ok (.getfield 22, 3) := dk_180 0 22 (dk_at dksX2_changed_2 18 rfl rfl)
theorem dX2_changed_69 : decode cX2_changed 69 = .ok (.sipush 294, 3) := dk_17 1 38 (dk_at dksX2_changed_2 21 rfl rfl)
theorem dX2_changed_72 : decode cX2_changed 72 = .ok (.aload_n 0, 1) := dk_42 (dk_at dksX2_changed_3 0 rfl rfl)
theorem dX2_changed_73 : decode cX2_changed 73 = .ok (.getfield 51, 3) := dk_180 0 51 (dk_at dksX2_changed_3 1 rfl rfl)
theorem dX2_changed_76 : decode cX2_changed 76 = .ok (.imul, 1) := dk_104 (dk_at dksX2_changed_3 4 rfl rfl)
theorem dX2_changed_77 : decode cX2_changed 77 = .ok (.iload_n 2, 1) := dk_28 (dk_at dksX2_changed_3 5 rfl rfl)
theorem dX2_changed_78 : decode cX2_changed 78 = .ok (.iadd, 1) := dk_96 (dk_at dksX2_changed_3 6 rfl rfl)
theorem dX2_changed_79 : decode cX2_changed 79 = .ok (.aload_n 0, 1) := dk_42 (dk_at dksX2_changed_3 7 rfl rfl)
theorem dX2_changed_80 : decode cX2_changed 80 = .ok (.getfield 13, 3) := dk_180 0 13 (dk_at dksX2_changed_3 8 rfl rfl)
theorem dX2_changed_83 : decode cX2_changed 83 = .ok (.iload_n 2, 1) := dk_28 (dk_at dksX2_changed_3 11 rfl rfl)
theorem dX2_changed_84 : decode cX2_changed 84 = .ok (.iaload, 1) := dk_46 (dk_at dksX2_changed_3 12 rfl rfl)
theorem dX2_changed_85 : decode cX2_changed 85 = .ok (.iastore, 1) := dk_79 (dk_at dksX2_changed_3 13 rfl rfl)
theorem dX2_changed_86 : decode cX2_changed 86 = .ok (.iinc 2 1, 3) := dk_132 2 1 (dk_at dksX2_changed_3 14 rfl rfl)
theorem dX2_changed_89 : decode cX2_changed 89 = .ok (.goto (-31), 3) := dk_167 255 225 (dk_at dksX2_changed_3 17 rfl rfl)
theorem dX2_changed_92 : decode cX2_changed 92 = .ok (.aload_n 0, 1) := dk_42 (dk_at dksX2_changed_3 20 rfl rfl)
theorem dX2_changed_93 : decode cX2_changed 93 = .ok (.dup, 1) := dk_89 (dk_at dksX2_changed_3 21 rfl rfl)
theorem dX2_changed_94 : decode cX2_changed 94 = .ok (.getfield 51, 3) := dk_180 0 51 (dk_at dksX2_changed_4 0 rfl rfl)
theorem dX2_changed_97 : decode cX2_changed 97 = .ok (.iconst 1, 1) := dk_4 (dk_at dksX2_changed_4 3 rfl rfl)
theorem dX2_changed_98 : decode cX2_changed 98 = .ok (.iadd, 1) := dk_96 (dk_at dksX2_changed_4 4 rfl rfl)
theorem dX2_changed_99 : decode cX2_changed 99 = .ok (.putfield 51, 3) := dk_181 0 51 (dk_at dksX2_changed_4 5 rfl rfl)
theorem dX2_changed_102 : decode cX2_changed 102 = .ok (.iload_n 1, 1) := dk_27 (dk_at dksX2_changed_4 8 rfl rfl)
theorem dX2_changed_103 : decode cX2_changed 103 = .ok (.ireturn, 1) := dk_172 (dk_at dksX2_changed_4 9 rfl rfl)
abbrev cX2_cross : ByteArray := prog_14_method_20_code
def yX2_cross : MethodName := ⟨RX2, "cross", "(III)I"⟩
def dkwX2_cross_0 : List UInt8 := [42, 182, 0, 79, 42, 42, 27, 28, 29, 182, 0, 112, 182, 0, 85, 172]
abbrev dktX2_cross_0 : List UInt8 := dkwX2_cross_0 ++ []
theorem dksX2_cross_0 : cX2_cross.data.toList.drop 0 = dktX2_cross_0 := by decide +kernel
theorem dX2_cross_0 : decode cX2_cross 0 = .ok (.aload_n 0, 1) := dk_42 (dk_at dksX2_cross_0 0 rfl rfl)
theorem dX2_cross_1 : decode cX2_cross 1 = .ok (.invokevirtual 79, 3) := dk_182 0 79 (dk_at dksX2_cross_0 1 rfl rfl)
theorem dX2_cross_4 : decode cX2_cross 4 = .ok (.aload_n 0, 1) := dk_42 (dk_at dksX2_cross_0 4 rfl rfl)
theorem dX2_cross_5 : decode cX2_cross 5 = .ok (.aload_n 0, 1) := dk_42 (dk_at dksX2_cross_0 5 rfl rfl)
theorem dX2_cross_6 : decode cX2_cross 6 = .ok (.iload_n 1, 1) := dk_27 (dk_at dksX2_cross_0 6 rfl rfl)
theorem dX2_cross_7 : decode cX2_cross 7 = .ok (.iload_n 2, 1) := dk_28 (dk_at dksX2_cross_0 7 rfl rfl)
theorem dX2_cross_8 : decode cX2_cross 8 = .ok (.iload_n 3, 1) := dk_29 (dk_at dksX2_cross_0 8 rfl rfl)
theorem dX2_cross_9 : decode cX2_cross 9 = .ok (.invokevirtual 112, 3) := dk_182 0 112 (dk_at dksX2_cross_0 9 rfl rfl)
theorem dX2_cross_12 : decode cX2_cross 12 = .ok (.invokevirtual 85, 3) := dk_182 0 85 (dk_at dksX2_cross_0 12 rfl rfl)
theorem dX2_cross_15 : decode cX2_cross 15 = .ok (.ireturn, 1) := dk_172 (dk_at dksX2_cross_0 15 rfl rfl)
abbrev cX2_crossIt : ByteArray := prog_14_method_19_code
def yX2_crossIt : MethodName := ⟨RX2, "crossIt", "(III)I"⟩
def dkwX2_crossIt_3 : List UInt8 := [182, 0, 72, 54, 4, 21, 4, 156, 0, 8, 21, 4, 167, 0, 10, 42, 27, 28, 29, 182, 0, 109, 172]
abbrev dktX2_crossIt_3 : List UInt8 := dkwX2_crossIt_3 ++ []
def dkwX2_crossIt_2 : List UInt8 := [154, 0, 22, 42, 6, 42, 27, 182, 0, 106, 153, 0, 7, 28, 167, 0, 4, 27, 182, 0, 62, 172, 42]
abbrev dktX2_crossIt_2 : List UInt8 := dkwX2_crossIt_2 ++ dktX2_crossIt_3
def dkwX2_crossIt_1 : List UInt8 := [184, 0, 54, 154, 0, 6, 16, 254, 172, 42, 27, 182, 0, 106, 153, 0, 11, 42, 28, 182, 0, 106]
abbrev dktX2_crossIt_1 : List UInt8 := dkwX2_crossIt_1 ++ dktX2_crossIt_2
def dkwX2_crossIt_0 : List UInt8 := [42, 27, 182, 0, 100, 153, 0, 11, 42, 28, 182, 0, 100, 154, 0, 5, 2, 172, 29, 133, 9, 20, 0, 104]
abbrev dktX2_crossIt_0 : List UInt8 := dkwX2_crossIt_0 ++ dktX2_crossIt_1
theorem dksX2_crossIt_0 : cX2_crossIt.data.toList.drop 0 = dktX2_crossIt_0 := by decide +kernel
theorem dksX2_crossIt_1 : cX2_crossIt.data.toList.drop 24 = dktX2_crossIt_1 := dk_seg dksX2_crossIt_0 24 rfl rfl
theorem dksX2_crossIt_2 : cX2_crossIt.data.toList.drop 46 = dktX2_crossIt_2 := dk_seg dksX2_crossIt_1 22 rfl rfl
theorem dksX2_crossIt_3 : cX2_crossIt.data.toList.drop 69 = dktX2_crossIt_3 := dk_seg dksX2_crossIt_2 23 rfl rfl
theorem dX2_crossIt_0 : decode cX2_crossIt 0 = .ok (.aload_n 0, 1) := dk_42 (dk_at dksX2_crossIt_0 0 rfl rfl)
theorem dX2_crossIt_1 : decode cX2_crossIt 1 = .ok (.iload_n 1, 1) := dk_27 (dk_at dksX2_crossIt_0 1 rfl rfl)
theorem dX2_crossIt_2 : decode cX2_crossIt 2 = .ok (.invokevirtual 100, 3) := dk_182 0 100 (dk_at dksX2_crossIt_0 2 rfl rfl)
theorem dX2_crossIt_5 : decode cX2_crossIt 5 = .ok (.ifCond .eq 11, 3) := dk_153 0 11 (dk_at dksX2_crossIt_0 5 rfl rfl)
theorem dX2_crossIt_8 : decode cX2_crossIt 8 = .ok (.aload_n 0, 1) := dk_42 (dk_at dksX2_crossIt_0 8 rfl rfl)
theorem dX2_crossIt_9 : decode cX2_crossIt 9 = .ok (.iload_n 2, 1) := dk_28 (dk_at dksX2_crossIt_0 9 rfl rfl)
theorem dX2_crossIt_10 : decode cX2_crossIt 10 = .ok (.invokevirtual 100, 3) := dk_182 0 100 (dk_at dksX2_crossIt_0 10 rfl rfl)
theorem dX2_crossIt_13 : decode cX2_crossIt 13 = .ok (.ifCond .ne 5, 3) := dk_154 0 5 (dk_at dksX2_crossIt_0 13 rfl rfl)
theorem dX2_crossIt_16 : decode cX2_crossIt 16 = .ok (.iconst (-1), 1) := dk_2 (dk_at dksX2_crossIt_0 16 rfl rfl)
theorem dX2_crossIt_17 : decode cX2_crossIt 17 = .ok (.ireturn, 1) := dk_172 (dk_at dksX2_crossIt_0 17 rfl rfl)
theorem dX2_crossIt_18 : decode cX2_crossIt 18 = .ok (.iload_n 3, 1) := dk_29 (dk_at dksX2_crossIt_0 18 rfl rfl)
theorem dX2_crossIt_19 : decode cX2_crossIt 19 = .ok (.i2l, 1) := dk_133 (dk_at dksX2_crossIt_0 19 rfl rfl)
theorem dX2_crossIt_20 : decode cX2_crossIt 20 = .ok (.lconst 0, 1) := dk_9 (dk_at dksX2_crossIt_0 20 rfl rfl)
theorem dX2_crossIt_21 : decode cX2_crossIt 21 = .ok (.ldc2_w 104, 3) := dk_20 0 104 (dk_at dksX2_crossIt_0 21 rfl rfl)
theorem dX2_crossIt_24 : decode cX2_crossIt 24 = .ok (.invokestatic 54, 3) := dk_184 0 54 (dk_at dksX2_crossIt_1 0 rfl rfl)
theorem dX2_crossIt_27 : decode cX2_crossIt 27 = .ok (.ifCond .ne 6, 3) := dk_154 0 6 (dk_at dksX2_crossIt_1 3 rfl rfl)
theorem dX2_crossIt_30 : decode cX2_crossIt 30 = .ok (.bipush (-2), 2) := dk_16 254 (dk_at dksX2_crossIt_1 6 rfl rfl)
theorem dX2_crossIt_32 : decode cX2_crossIt 32 = .ok (.ireturn, 1) := dk_172 (dk_at dksX2_crossIt_1 8 rfl rfl)
theorem dX2_crossIt_33 : decode cX2_crossIt 33 = .ok (.aload_n 0, 1) := dk_42 (dk_at dksX2_crossIt_1 9 rfl rfl)
theorem dX2_crossIt_34 : decode cX2_crossIt 34 = .ok (.iload_n 1, 1) := dk_27 (dk_at dksX2_crossIt_1 10 rfl rfl)
theorem dX2_crossIt_35 : decode cX2_crossIt 35 = .ok (.invokevirtual 106, 3) := dk_182 0 106 (dk_at dksX2_crossIt_1 11 rfl rfl)
theorem dX2_crossIt_38 : decode cX2_crossIt 38 = .ok (.ifCond .eq 11, 3) := dk_153 0 11 (dk_at dksX2_crossIt_1 14 rfl rfl)
theorem dX2_crossIt_41 : decode cX2_crossIt 41 = .ok (.aload_n 0, 1) := dk_42 (dk_at dksX2_crossIt_1 17 rfl rfl)
theorem dX2_crossIt_42 : decode cX2_crossIt 42 = .ok (.iload_n 2, 1) := dk_28 (dk_at dksX2_crossIt_1 18 rfl rfl)
theorem dX2_crossIt_43 : decode cX2_crossIt 43 = .ok (.invokevirtual 106, 3) := dk_182 0 106 (dk_at dksX2_crossIt_1 19 rfl rfl)
theorem dX2_crossIt_46 : decode cX2_crossIt 46 = .ok (.ifCond .ne 22, 3) := dk_154 0 22 (dk_at dksX2_crossIt_2 0 rfl rfl)
theorem dX2_crossIt_49 : decode cX2_crossIt 49 = .ok (.aload_n 0, 1) := dk_42 (dk_at dksX2_crossIt_2 3 rfl rfl)
theorem dX2_crossIt_50 : decode cX2_crossIt 50 = .ok (.iconst 3, 1) := dk_6 (dk_at dksX2_crossIt_2 4 rfl rfl)
theorem dX2_crossIt_51 : decode cX2_crossIt 51 = .ok (.aload_n 0, 1) := dk_42 (dk_at dksX2_crossIt_2 5 rfl rfl)
theorem dX2_crossIt_52 : decode cX2_crossIt 52 = .ok (.iload_n 1, 1) := dk_27 (dk_at dksX2_crossIt_2 6 rfl rfl)
theorem dX2_crossIt_53 : decode cX2_crossIt 53 = .ok (.invokevirtual 106, 3) := dk_182 0 106 (dk_at dksX2_crossIt_2 7 rfl rfl)
theorem dX2_crossIt_56 : decode cX2_crossIt 56 = .ok (.ifCond .eq 7, 3) := dk_153 0 7 (dk_at dksX2_crossIt_2 10 rfl rfl)
theorem dX2_crossIt_59 : decode cX2_crossIt 59 = .ok (.iload_n 2, 1) := dk_28 (dk_at dksX2_crossIt_2 13 rfl rfl)
theorem dX2_crossIt_60 : decode cX2_crossIt 60 = .ok (.goto 4, 3) := dk_167 0 4 (dk_at dksX2_crossIt_2 14 rfl rfl)
theorem dX2_crossIt_63 : decode cX2_crossIt 63 = .ok (.iload_n 1, 1) := dk_27 (dk_at dksX2_crossIt_2 17 rfl rfl)
theorem dX2_crossIt_64 : decode cX2_crossIt 64 = .ok (.invokevirtual 62, 3) := dk_182 0 62 (dk_at dksX2_crossIt_2 18 rfl rfl)
theorem dX2_crossIt_67 : decode cX2_crossIt 67 = .ok (.ireturn, 1) := dk_172 (dk_at dksX2_crossIt_2 21 rfl rfl)
theorem dX2_crossIt_68 : decode cX2_crossIt 68 = .ok (.aload_n 0, 1) := dk_42 (dk_at dksX2_crossIt_2 22 rfl rfl)
theorem dX2_crossIt_69 : decode cX2_crossIt 69 = .ok (.invokevirtual 72, 3) := dk_182 0 72 (dk_at dksX2_crossIt_3 0 rfl rfl)
theorem dX2_crossIt_72 : decode cX2_crossIt 72 = .ok (.istore 4, 2) := dk_54 4 (dk_at dksX2_crossIt_3 3 rfl rfl)
theorem dX2_crossIt_74 : decode cX2_crossIt 74 = .ok (.iload 4, 2) := dk_21 4 (dk_at dksX2_crossIt_3 5 rfl rfl)
theorem dX2_crossIt_76 : decode cX2_crossIt 76 = .ok (.ifCond .ge 8, 3) := dk_156 0 8 (dk_at dksX2_crossIt_3 7 rfl rfl)
theorem dX2_crossIt_79 : decode cX2_crossIt 79 = .ok (.iload 4, 2) := dk_21 4 (dk_at dksX2_crossIt_3 10 rfl rfl)
theorem dX2_crossIt_81 : decode cX2_crossIt 81 = .ok (.goto 10, 3) := dk_167 0 10 (dk_at dksX2_crossIt_3 12 rfl rfl)
theorem dX2_crossIt_84 : decode cX2_crossIt 84 = .ok (.aload_n 0, 1) := dk_42 (dk_at dksX2_crossIt_3 15 rfl rfl)
theorem dX2_crossIt_85 : decode cX2_crossIt 85 = .ok (.iload_n 1, 1) := dk_27 (dk_at dksX2_crossIt_3 16 rfl rfl)
theorem dX2_crossIt_86 : decode cX2_crossIt 86 = .ok (.iload_n 2, 1) := dk_28 (dk_at dksX2_crossIt_3 17 rfl rfl)
theorem dX2_crossIt_87 : decode cX2_crossIt 87 = .ok (.iload_n 3, 1) := dk_29 (dk_at dksX2_crossIt_3 18 rfl rfl)
theorem dX2_crossIt_88 : decode cX2_crossIt 88 = .ok (.invokevirtual 109, 3) := dk_182 0 109 (dk_at dksX2_crossIt_3 19 rfl rfl)
theorem dX2_crossIt_91 : decode cX2_crossIt 91 = .ok (.ireturn, 1) := dk_172 (dk_at dksX2_crossIt_3 22 rfl rfl)
abbrev cX2_isBulb : ByteArray := prog_14_method_7_code
def yX2_isBulb : MethodName := ⟨RX2, "isBulb", "(I)Z"⟩
def dkwX2_isBulb_0 : List UInt8 := [27, 133, 9, 42, 180, 0, 9, 3, 46, 4, 100, 133, 184, 0, 54, 172]
abbrev dktX2_isBulb_0 : List UInt8 := dkwX2_isBulb_0 ++ []
theorem dksX2_isBulb_0 : cX2_isBulb.data.toList.drop 0 = dktX2_isBulb_0 := by decide +kernel
theorem dX2_isBulb_0 : decode cX2_isBulb 0 = .ok (.iload_n 1, 1) := dk_27 (dk_at dksX2_isBulb_0 0 rfl rfl)
theorem dX2_isBulb_1 : decode cX2_isBulb 1 = .ok (.i2l, 1) := dk_133 (dk_at dksX2_isBulb_0 1 rfl rfl)
theorem dX2_isBulb_2 : decode cX2_isBulb 2 = .ok (.lconst 0, 1) := dk_9 (dk_at dksX2_isBulb_0 2 rfl rfl)
theorem dX2_isBulb_3 : decode cX2_isBulb 3 = .ok (.aload_n 0, 1) := dk_42 (dk_at dksX2_isBulb_0 3 rfl rfl)
theorem dX2_isBulb_4 : decode cX2_isBulb 4 = .ok (.getfield 9, 3) := dk_180 0 9 (dk_at dksX2_isBulb_0 4 rfl rfl)
theorem dX2_isBulb_7 : decode cX2_isBulb 7 = .ok (.iconst 0, 1) := dk_3 (dk_at dksX2_isBulb_0 7 rfl rfl)
theorem dX2_isBulb_8 : decode cX2_isBulb 8 = .ok (.iaload, 1) := dk_46 (dk_at dksX2_isBulb_0 8 rfl rfl)
theorem dX2_isBulb_9 : decode cX2_isBulb 9 = .ok (.iconst 1, 1) := dk_4 (dk_at dksX2_isBulb_0 9 rfl rfl)
theorem dX2_isBulb_10 : decode cX2_isBulb 10 = .ok (.isub, 1) := dk_100 (dk_at dksX2_isBulb_0 10 rfl rfl)
theorem dX2_isBulb_11 : decode cX2_isBulb 11 = .ok (.i2l, 1) := dk_133 (dk_at dksX2_isBulb_0 11 rfl rfl)
theorem dX2_isBulb_12 : decode cX2_isBulb 12 = .ok (.invokestatic 54, 3) := dk_184 0 54 (dk_at dksX2_isBulb_0 12 rfl rfl)
theorem dX2_isBulb_15 : decode cX2_isBulb 15 = .ok (.ireturn, 1) := dk_172 (dk_at dksX2_isBulb_0 15 rfl rfl)
abbrev cX2_lives : ByteArray := prog_14_method_8_code
def yX2_lives : MethodName := ⟨RX2, "lives", "(I)Z"⟩
def dkwX2_lives_0 : List UInt8 := [42, 180, 0, 9, 27, 184, 0, 58, 6, 96, 46, 4, 160, 0, 7, 4, 167, 0, 4, 3, 172]
abbrev dktX2_lives_0 : List UInt8 := dkwX2_lives_0 ++ []
theorem dksX2_lives_0 : cX2_lives.data.toList.drop 0 = dktX2_lives_0 := by decide +kernel
theorem dX2_lives_0 : decode cX2_lives 0 = .ok (.aload_n 0, 1) := dk_42 (dk_at dksX2_lives_0 0 rfl rfl)
theorem dX2_lives_1 : decode cX2_lives 1 = .ok (.getfield 9, 3) := dk_180 0 9 (dk_at dksX2_lives_0 1 rfl rfl)
theorem dX2_lives_4 : decode cX2_lives 4 = .ok (.iload_n 1, 1) := dk_27 (dk_at dksX2_lives_0 4 rfl rfl)
theorem dX2_lives_5 : decode cX2_lives 5 = .ok (.invokestatic 58, 3) := dk_184 0 58 (dk_at dksX2_lives_0 5 rfl rfl)
theorem dX2_lives_8 : decode cX2_lives 8 = .ok (.iconst 3, 1) := dk_6 (dk_at dksX2_lives_0 8 rfl rfl)
theorem dX2_lives_9 : decode cX2_lives 9 = .ok (.iadd, 1) := dk_96 (dk_at dksX2_lives_0 9 rfl rfl)
theorem dX2_lives_10 : decode cX2_lives 10 = .ok (.iaload, 1) := dk_46 (dk_at dksX2_lives_0 10 rfl rfl)
theorem dX2_lives_11 : decode cX2_lives 11 = .ok (.iconst 1, 1) := dk_4 (dk_at dksX2_lives_0 11 rfl rfl)
theorem dX2_lives_12 : decode cX2_lives 12 = .ok (.if_icmp .ne 7, 3) := dk_160 0 7 (dk_at dksX2_lives_0 12 rfl rfl)
theorem dX2_lives_15 : decode cX2_lives 15 = .ok (.iconst 1, 1) := dk_4 (dk_at dksX2_lives_0 15 rfl rfl)
theorem dX2_lives_16 : decode cX2_lives 16 = .ok (.goto 4, 3) := dk_167 0 4 (dk_at dksX2_lives_0 16 rfl rfl)
theorem dX2_lives_19 : decode cX2_lives 19 = .ok (.iconst 0, 1) := dk_3 (dk_at dksX2_lives_0 19 rfl rfl)
theorem dX2_lives_20 : decode cX2_lives 20 = .ok (.ireturn, 1) := dk_172 (dk_at dksX2_lives_0 20 rfl rfl)
abbrev cX2_breeds : ByteArray := prog_14_method_18_code
def yX2_breeds : MethodName := ⟨RX2, "breeds", "(III)I"⟩
def dkwX2_breeds_4 : List UInt8 := [96, 21, 6, 21, 5, 182, 0, 75, 172]
abbrev dktX2_breeds_4 : List UInt8 := dkwX2_breeds_4 ++ []
def dkwX2_breeds_3 : List UInt8 := [180, 0, 9, 28, 184, 0, 58, 8, 96, 46, 184, 0, 95, 96, 54, 6, 42, 21, 4, 27, 4, 96, 28, 4]
abbrev dktX2_breeds_3 : List UInt8 := dkwX2_breeds_3 ++ dktX2_breeds_4
def dkwX2_breeds_2 : List UInt8 := [16, 8, 112, 120, 167, 0, 4, 3, 130, 54, 4, 4, 42, 180, 0, 9, 27, 184, 0, 58, 8, 96, 46, 42]
abbrev dktX2_breeds_2 : List UInt8 := dkwX2_breeds_2 ++ dktX2_breeds_3
def dkwX2_breeds_1 : List UInt8 := [162, 0, 7, 4, 167, 0, 4, 3, 54, 5, 21, 4, 21, 5, 4, 160, 0, 15, 4, 42, 182, 0, 92]
abbrev dktX2_breeds_1 : List UInt8 := dkwX2_breeds_1 ++ dktX2_breeds_2
def dkwX2_breeds_0 : List UInt8 := [42, 27, 28, 29, 182, 0, 88, 54, 4, 42, 182, 0, 92, 16, 100, 112, 42, 180, 0, 9, 6, 46]
abbrev dktX2_breeds_0 : List UInt8 := dkwX2_breeds_0 ++ dktX2_breeds_1
theorem dksX2_breeds_0 : cX2_breeds.data.toList.drop 0 = dktX2_breeds_0 := by decide +kernel
theorem dksX2_breeds_1 : cX2_breeds.data.toList.drop 22 = dktX2_breeds_1 := dk_seg dksX2_breeds_0 22 rfl rfl
theorem dksX2_breeds_2 : cX2_breeds.data.toList.drop 45 = dktX2_breeds_2 := dk_seg dksX2_breeds_1 23 rfl rfl
theorem dksX2_breeds_3 : cX2_breeds.data.toList.drop 69 = dktX2_breeds_3 := dk_seg dksX2_breeds_2 24 rfl rfl
theorem dksX2_breeds_4 : cX2_breeds.data.toList.drop 93 = dktX2_breeds_4 := dk_seg dksX2_breeds_3 24 rfl rfl
theorem dX2_breeds_0 : decode cX2_breeds 0 = .ok (.aload_n 0, 1) := dk_42 (dk_at dksX2_breeds_0 0 rfl rfl)
theorem dX2_breeds_1 : decode cX2_breeds 1 = .ok (.iload_n 1, 1) := dk_27 (dk_at dksX2_breeds_0 1 rfl rfl)
theorem dX2_breeds_2 : decode cX2_breeds 2 = .ok (.iload_n 2, 1) := dk_28 (dk_at dksX2_breeds_0 2 rfl rfl)
theorem dX2_breeds_3 : decode cX2_breeds 3 = .ok (.iload_n 3, 1) := dk_29 (dk_at dksX2_breeds_0 3 rfl rfl)
theorem dX2_breeds_4 : decode cX2_breeds 4 = .ok (.invokevirtual 88, 3) := dk_182 0 88 (dk_at dksX2_breeds_0 4 rfl rfl)
theorem dX2_breeds_7 : decode cX2_breeds 7 = .ok (.istore 4, 2) := dk_54 4 (dk_at dksX2_breeds_0 7 rfl rfl)
theorem dX2_breeds_9 : decode cX2_breeds 9 = .ok (.aload_n 0, 1) := dk_42 (dk_at dksX2_breeds_0 9 rfl rfl)
theorem dX2_breeds_10 : decode cX2_breeds 10 = .ok (.invokevirtual 92, 3) := dk_182 0 92 (dk_at dksX2_breeds_0 10 rfl rfl)
theorem dX2_breeds_13 : decode cX2_breeds 13 = .ok (.bipush 100, 2) := dk_16 100 (dk_at dksX2_breeds_0 13 rfl rfl)
theorem dX2_breeds_15 : decode cX2_breeds 15 = .ok (.irem, 1) := dk_112 (dk_at dksX2_breeds_0 15 rfl rfl)
theorem dX2_breeds_16 : decode cX2_breeds 16 = .ok (.aload_n 0, 1) := dk_42 (dk_at dksX2_breeds_0 16 rfl rfl)
theorem dX2_breeds_17 : decode cX2_breeds 17 = .ok (.getfield 9, 3) := dk_180 0 9 (dk_at dksX2_breeds_0 17 rfl rfl)
theorem dX2_breeds_20 : decode cX2_breeds 20 = .ok (.iconst 3, 1) := dk_6 (dk_at dksX2_breeds_0 20 rfl rfl)
theorem dX2_breeds_21 : decode cX2_breeds 21 = .ok (.iaload, 1) := dk_46 (dk_at dksX2_breeds_0 21 rfl rfl)
theorem dX2_breeds_22 : decode cX2_breeds 22 = .ok (.if_icmp .ge 7, 3) := dk_162 0 7 (dk_at dksX2_breeds_1 0 rfl rfl)
theorem dX2_breeds_25 : decode cX2_breeds 25 = .ok (.iconst 1, 1) := dk_4 (dk_at dksX2_breeds_1 3 rfl rfl)
theorem dX2_breeds_26 : decode cX2_breeds 26 = .ok (.goto 4, 3) := dk_167 0 4 (dk_at dksX2_breeds_1 4 rfl rfl)
theorem dX2_breeds_29 : decode cX2_breeds 29 = .ok (.iconst 0, 1) := dk_3 (dk_at dksX2_breeds_1 7 rfl rfl)
theorem dX2_breeds_30 : decode cX2_breeds 30 = .ok (.istore 5, 2) := dk_54 5 (dk_at dksX2_breeds_1 8 rfl rfl)
theorem dX2_breeds_32 : decode cX2_breeds 32 = .ok (.iload 4, 2) := dk_21 4 (dk_at dksX2_breeds_1 10 rfl rfl)
theorem dX2_breeds_34 : decode cX2_breeds 34 = .ok (.iload 5, 2) := dk_21 5 (dk_at dksX2_breeds_1 12 rfl rfl)
theorem dX2_breeds_36 : decode cX2_breeds 36 = .ok (.iconst 1, 1) := dk_4 (dk_at dksX2_breeds_1 14 rfl rfl)
theorem dX2_breeds_37 : decode cX2_breeds 37 = .ok (.if_icmp .ne 15, 3) := dk_160 0 15 (dk_at dksX2_breeds_1 15 rfl rfl)
theorem dX2_breeds_40 : decode cX2_breeds 40 = .ok (.iconst 1, 1) := dk_4 (dk_at dksX2_breeds_1 18 rfl rfl)
theorem dX2_breeds_41 : decode cX2_breeds 41 = .ok (.aload_n 0, 1) := dk_42 (dk_at dksX2_breeds_1 19 rfl rfl)
theorem dX2_breeds_42 : decode cX2_breeds 42 = .ok (.invokevirtual 92, 3) := dk_182 0 92 (dk_at dksX2_breeds_1 20 rfl rfl)
theorem dX2_breeds_45 : decode cX2_breeds 45 = .ok (.bipush 8, 2) := dk_16 8 (dk_at dksX2_breeds_2 0 rfl rfl)
theorem dX2_breeds_47 : decode cX2_breeds 47 = .ok (.irem, 1) := dk_112 (dk_at dksX2_breeds_2 2 rfl rfl)
theorem dX2_breeds_48 : decode cX2_breeds 48 = .ok (.ishl, 1) := dk_120 (dk_at dksX2_breeds_2 3 rfl rfl)
theorem dX2_breeds_49 : decode cX2_breeds 49 = .ok (.goto 4, 3) := dk_167 0 4 (dk_at dksX2_breeds_2 4 rfl rfl)
theorem dX2_breeds_52 : decode cX2_breeds 52 = .ok (.iconst 0, 1) := dk_3 (dk_at dksX2_breeds_2 7 rfl rfl)
theorem dX2_breeds_53 : decode cX2_breeds 53 = .ok (.ixor, 1) := dk_130 (dk_at dksX2_breeds_2 8 rfl rfl)
theorem dX2_breeds_54 : decode cX2_breeds 54 = .ok (.istore 4, 2) := dk_54 4 (dk_at dksX2_breeds_2 9 rfl rfl)
theorem dX2_breeds_56 : decode cX2_breeds 56 = .ok (.iconst 1, 1) := dk_4 (dk_at dksX2_breeds_2 11 rfl rfl)
theorem dX2_breeds_57 : decode cX2_breeds 57 = .ok (.aload_n 0, 1) := dk_42 (dk_at dksX2_breeds_2 12 rfl rfl)
theorem dX2_breeds_58 : decode cX2_breeds 58 = .ok (.getfield 9, 3) := dk_180 0 9 (dk_at dksX2_breeds_2 13 rfl rfl)
theorem dX2_breeds_61 : decode cX2_breeds 61 = .ok (.iload_n 1, 1) := dk_27 (dk_at dksX2_breeds_2 16 rfl rfl)
theorem dX2_breeds_62 : decode cX2_breeds 62 = .ok (.invokestatic 58, 3) := dk_184 0 58 (dk_at dksX2_breeds_2 17 rfl rfl)
theorem dX2_breeds_65 : decode cX2_breeds 65 = .ok (.iconst 5, 1) := dk_8 (dk_at dksX2_breeds_2 20 rfl rfl)
theorem dX2_breeds_66 : decode cX2_breeds 66 = .ok (.iadd, 1) := dk_96 (dk_at dksX2_breeds_2 21 rfl rfl)
theorem dX2_breeds_67 : decode cX2_breeds 67 = .ok (.iaload, 1) := dk_46 (dk_at dksX2_breeds_2 22 rfl rfl)
theorem dX2_breeds_68 : decode cX2_breeds 68 = .ok (.aload_n 0, 1) := dk_42 (dk_at dksX2_breeds_2 23 rfl rfl)
theorem dX2_breeds_69 : decode cX2_breeds 69 = .ok (.getfield 9, 3) := dk_180 0 9 (dk_at dksX2_breeds_3 0 rfl rfl)
theorem dX2_breeds_72 : decode cX2_breeds 72 = .ok (.iload_n 2, 1) := dk_28 (dk_at dksX2_breeds_3 3 rfl rfl)
theorem dX2_breeds_73 : decode cX2_breeds 73 = .ok (.invokestatic 58, 3) := dk_184 0 58 (dk_at dksX2_breeds_3 4 rfl rfl)
theorem dX2_breeds_76 : decode cX2_breeds 76 = .ok (.iconst 5, 1) := dk_8 (dk_at dksX2_breeds_3 7 rfl rfl)
theorem dX2_breeds_77 : decode cX2_breeds 77 = .ok (.iadd, 1) := dk_96 (dk_at dksX2_breeds_3 8 rfl rfl)
theorem dX2_breeds_78 : decode cX2_breeds 78 = .ok (.iaload, 1) := dk_46 (dk_at dksX2_breeds_3 9 rfl rfl)
theorem dX2_breeds_79 : decode cX2_breeds 79 = .ok (.invokestatic 95, 3) := dk_184 0 95 (dk_at dksX2_breeds_3 10 rfl rfl)
theorem dX2_breeds_82 : decode cX2_breeds 82 = .ok (.iadd, 1) := dk_96 (dk_at dksX2_breeds_3 13 rfl rfl)
theorem dX2_breeds_83 : decode cX2_breeds 83 = .ok (.istore 6, 2) := dk_54 6 (dk_at dksX2_breeds_3 14 rfl rfl)
theorem dX2_breeds_85 : decode cX2_breeds 85 = .ok (.aload_n 0, 1) := dk_42 (dk_at dksX2_breeds_3 16 rfl rfl)
theorem dX2_breeds_86 : decode cX2_breeds 86 = .ok (.iload 4, 2) := dk_21 4 (dk_at dksX2_breeds_3 17 rfl rfl)
theorem dX2_breeds_88 : decode cX2_breeds 88 = .ok (.iload_n 1, 1) := dk_27 (dk_at dksX2_breeds_3 19 rfl rfl)
theorem dX2_breeds_89 : decode cX2_breeds 89 = .ok (.iconst 1, 1) := dk_4 (dk_at dksX2_breeds_3 20 rfl rfl)
theorem dX2_breeds_90 : decode cX2_breeds 90 = .ok (.iadd, 1) := dk_96 (dk_at dksX2_breeds_3 21 rfl rfl)
theorem dX2_breeds_91 : decode cX2_breeds 91 = .ok (.iload_n 2, 1) := dk_28 (dk_at dksX2_breeds_3 22 rfl rfl)
theorem dX2_breeds_92 : decode cX2_breeds 92 = .ok (.iconst 1, 1) := dk_4 (dk_at dksX2_breeds_3 23 rfl rfl)
theorem dX2_breeds_93 : decode cX2_breeds 93 = .ok (.iadd, 1) := dk_96 (dk_at dksX2_breeds_4 0 rfl rfl)
theorem dX2_breeds_94 : decode cX2_breeds 94 = .ok (.iload 6, 2) := dk_21 6 (dk_at dksX2_breeds_4 1 rfl rfl)
theorem dX2_breeds_96 : decode cX2_breeds 96 = .ok (.iload 5, 2) := dk_21 5 (dk_at dksX2_breeds_4 3 rfl rfl)
theorem dX2_breeds_98 : decode cX2_breeds 98 = .ok (.invokevirtual 75, 3) := dk_182 0 75 (dk_at dksX2_breeds_4 5 rfl rfl)
theorem dX2_breeds_101 : decode cX2_breeds 101 = .ok (.ireturn, 1) := dk_172 (dk_at dksX2_breeds_4 8 rfl rfl)
abbrev cX2_mixed : ByteArray := prog_14_method_17_code
def yX2_mixed : MethodName := ⟨RX2, "mixed", "(III)I"⟩
def dkwX2_mixed_1 : List UInt8 := [184, 0, 58, 46, 21, 4, 2, 130, 126, 128, 172]
abbrev dktX2_mixed_1 : List UInt8 := dkwX2_mixed_1 ++ []
def dkwX2_mixed_0 : List UInt8 := [4, 29, 120, 4, 100, 54, 4, 42, 180, 0, 9, 27, 184, 0, 58, 46, 21, 4, 126, 42, 180, 0, 9, 28]
abbrev dktX2_mixed_0 : List UInt8 := dkwX2_mixed_0 ++ dktX2_mixed_1
theorem dksX2_mixed_0 : cX2_mixed.data.toList.drop 0 = dktX2_mixed_0 := by decide +kernel
theorem dksX2_mixed_1 : cX2_mixed.data.toList.drop 24 = dktX2_mixed_1 := dk_seg dksX2_mixed_0 24 rfl rfl
theorem dX2_mixed_0 : decode cX2_mixed 0 = .ok (.iconst 1, 1) := dk_4 (dk_at dksX2_mixed_0 0 rfl rfl)
theorem dX2_mixed_1 : decode cX2_mixed 1 = .ok (.iload_n 3, 1) := dk_29 (dk_at dksX2_mixed_0 1 rfl rfl)
theorem dX2_mixed_2 : decode cX2_mixed 2 = .ok (.ishl, 1) := dk_120 (dk_at dksX2_mixed_0 2 rfl rfl)
theorem dX2_mixed_3 : decode cX2_mixed 3 = .ok (.iconst 1, 1) := dk_4 (dk_at dksX2_mixed_0 3 rfl rfl)
theorem dX2_mixed_4 : decode cX2_mixed 4 = .ok (.isub, 1) := dk_100 (dk_at dksX2_mixed_0 4 rfl rfl)
theorem dX2_mixed_5 : decode cX2_mixed 5 = .ok (.istore 4, 2) := dk_54 4 (dk_at dksX2_mixed_0 5 rfl rfl)
theorem dX2_mixed_7 : decode cX2_mixed 7 = .ok (.aload_n 0, 1) := dk_42 (dk_at dksX2_mixed_0 7 rfl rfl)
theorem dX2_mixed_8 : decode cX2_mixed 8 = .ok (.getfield 9, 3) := dk_180 0 9 (dk_at dksX2_mixed_0 8 rfl rfl)
theorem dX2_mixed_11 : decode cX2_mixed 11 = .ok (.iload_n 1, 1) := dk_27 (dk_at dksX2_mixed_0 11 rfl rfl)
theorem dX2_mixed_12 : decode cX2_mixed 12 = .ok (.invokestatic 58, 3) := dk_184 0 58 (dk_at dksX2_mixed_0 12 rfl rfl)
theorem dX2_mixed_15 : decode cX2_mixed 15 = .ok (.iaload, 1) := dk_46 (dk_at dksX2_mixed_0 15 rfl rfl)
theorem dX2_mixed_16 : decode cX2_mixed 16 = .ok (.iload 4, 2) := dk_21 4 (dk_at dksX2_mixed_0 16 rfl rfl)
theorem dX2_mixed_18 : decode cX2_mixed 18 = .ok (.iand, 1) := dk_126 (dk_at dksX2_mixed_0 18 rfl rfl)
theorem dX2_mixed_19 : decode cX2_mixed 19 = .ok (.aload_n 0, 1) := dk_42 (dk_at dksX2_mixed_0 19 rfl rfl)
theorem dX2_mixed_20 : decode cX2_mixed 20 = .ok (.getfield 9, 3) := dk_180 0 9 (dk_at dksX2_mixed_0 20 rfl rfl)
theorem dX2_mixed_23 : decode cX2_mixed 23 = .ok (.iload_n 2, 1) := dk_28 (dk_at dksX2_mixed_0 23 rfl rfl)
theorem dX2_mixed_24 : decode cX2_mixed 24 = .ok (.invokestatic 58, 3) := dk_184 0 58 (dk_at dksX2_mixed_1 0 rfl rfl)
theorem dX2_mixed_27 : decode cX2_mixed 27 = .ok (.iaload, 1) := dk_46 (dk_at dksX2_mixed_1 3 rfl rfl)
theorem dX2_mixed_28 : decode cX2_mixed 28 = .ok (.iload 4, 2) := dk_21 4 (dk_at dksX2_mixed_1 4 rfl rfl)
theorem dX2_mixed_30 : decode cX2_mixed 30 = .ok (.iconst (-1), 1) := dk_2 (dk_at dksX2_mixed_1 6 rfl rfl)
theorem dX2_mixed_31 : decode cX2_mixed 31 = .ok (.ixor, 1) := dk_130 (dk_at dksX2_mixed_1 7 rfl rfl)
theorem dX2_mixed_32 : decode cX2_mixed 32 = .ok (.iand, 1) := dk_126 (dk_at dksX2_mixed_1 8 rfl rfl)
theorem dX2_mixed_33 : decode cX2_mixed 33 = .ok (.ior, 1) := dk_128 (dk_at dksX2_mixed_1 9 rfl rfl)
theorem dX2_mixed_34 : decode cX2_mixed 34 = .ok (.ireturn, 1) := dk_172 (dk_at dksX2_mixed_1 10 rfl rfl)
abbrev cX2_drawn : ByteArray := prog_14_method_16_code
def yX2_drawn : MethodName := ⟨RX2, "drawn", "()I"⟩
def dkwX2_drawn_1 : List UInt8 := [42, 180, 0, 9, 7, 46, 172]
abbrev dktX2_drawn_1 : List UInt8 := dkwX2_drawn_1 ++ []
def dkwX2_drawn_0 : List UInt8 := [42, 180, 0, 9, 7, 17, 1, 165, 42, 180, 0, 9, 7, 46, 104, 17, 6, 127, 96, 17, 30, 195, 112, 79]
abbrev dktX2_drawn_0 : List UInt8 := dkwX2_drawn_0 ++ dktX2_drawn_1
theorem dksX2_drawn_0 : cX2_drawn.data.toList.drop 0 = dktX2_drawn_0 := by decide +kernel
theorem dksX2_drawn_1 : cX2_drawn.data.toList.drop 24 = dktX2_drawn_1 := dk_seg dksX2_drawn_0 24 rfl rfl
theorem dX2_drawn_0 : decode cX2_drawn 0 = .ok (.aload_n 0, 1) := dk_42 (dk_at dksX2_drawn_0 0 rfl rfl)
theorem dX2_drawn_1 : decode cX2_drawn 1 = .ok (.getfield 9, 3) := dk_180 0 9 (dk_at dksX2_drawn_0 1 rfl rfl)
theorem dX2_drawn_4 : decode cX2_drawn 4 = .ok (.iconst 4, 1) := dk_7 (dk_at dksX2_drawn_0 4 rfl rfl)
theorem dX2_drawn_5 : decode cX2_drawn 5 = .ok (.sipush 421, 3) := dk_17 1 165 (dk_at dksX2_drawn_0 5 rfl rfl)
theorem dX2_drawn_8 : decode cX2_drawn 8 = .ok (.aload_n 0, 1) := dk_42 (dk_at dksX2_drawn_0 8 rfl rfl)
theorem dX2_drawn_9 : decode cX2_drawn 9 = .ok (.getfield 9, 3) := dk_180 0 9 (dk_at dksX2_drawn_0 9 rfl rfl)
theorem dX2_drawn_12 : decode cX2_drawn 12 = .ok (.iconst 4, 1) := dk_7 (dk_at dksX2_drawn_0 12 rfl rfl)
theorem dX2_drawn_13 : decode cX2_drawn 13 = .ok (.iaload, 1) := dk_46 (dk_at dksX2_drawn_0 13 rfl rfl)
theorem dX2_drawn_14 : decode cX2_drawn 14 = .ok (.imul, 1) := dk_104 (dk_at dksX2_drawn_0 14 rfl rfl)
theorem dX2_drawn_15 : decode cX2_drawn 15 = .ok (.sipush 1663, 3) := dk_17 6 127 (dk_at dksX2_drawn_0 15 rfl rfl)
theorem dX2_drawn_18 : decode cX2_drawn 18 = .ok (.iadd, 1) := dk_96 (dk_at dksX2_drawn_0 18 rfl rfl)
theorem dX2_drawn_19 : decode cX2_drawn 19 = .ok (.sipush 7875, 3) := dk_17 30 195 (dk_at dksX2_drawn_0 19 rfl rfl)
theorem dX2_drawn_22 : decode cX2_drawn 22 = .ok (.irem, 1) := dk_112 (dk_at dksX2_drawn_0 22 rfl rfl)
theorem dX2_drawn_23 : decode cX2_drawn 23 = .ok (.iastore, 1) := dk_79 (dk_at dksX2_drawn_0 23 rfl rfl)
theorem dX2_drawn_24 : decode cX2_drawn 24 = .ok (.aload_n 0, 1) := dk_42 (dk_at dksX2_drawn_1 0 rfl rfl)
theorem dX2_drawn_25 : decode cX2_drawn 25 = .ok (.getfield 9, 3) := dk_180 0 9 (dk_at dksX2_drawn_1 1 rfl rfl)
theorem dX2_drawn_28 : decode cX2_drawn 28 = .ok (.iconst 4, 1) := dk_7 (dk_at dksX2_drawn_1 4 rfl rfl)
theorem dX2_drawn_29 : decode cX2_drawn 29 = .ok (.iaload, 1) := dk_46 (dk_at dksX2_drawn_1 5 rfl rfl)
theorem dX2_drawn_30 : decode cX2_drawn 30 = .ok (.ireturn, 1) := dk_172 (dk_at dksX2_drawn_1 6 rfl rfl)
abbrev cX2_die : ByteArray := prog_14_method_22_code
def yX2_die : MethodName := ⟨RX2, "die", "(I)I"⟩
def dkwX2_die_0 : List UInt8 := [42, 182, 0, 79, 42, 42, 27, 182, 0, 115, 182, 0, 85, 172]
abbrev dktX2_die_0 : List UInt8 := dkwX2_die_0 ++ []
theorem dksX2_die_0 : cX2_die.data.toList.drop 0 = dktX2_die_0 := by decide +kernel
theorem dX2_die_0 : decode cX2_die 0 = .ok (.aload_n 0, 1) := dk_42 (dk_at dksX2_die_0 0 rfl rfl)
theorem dX2_die_1 : decode cX2_die 1 = .ok (.invokevirtual 79, 3) := dk_182 0 79 (dk_at dksX2_die_0 1 rfl rfl)
theorem dX2_die_4 : decode cX2_die 4 = .ok (.aload_n 0, 1) := dk_42 (dk_at dksX2_die_0 4 rfl rfl)
theorem dX2_die_5 : decode cX2_die 5 = .ok (.aload_n 0, 1) := dk_42 (dk_at dksX2_die_0 5 rfl rfl)
theorem dX2_die_6 : decode cX2_die 6 = .ok (.iload_n 1, 1) := dk_27 (dk_at dksX2_die_0 6 rfl rfl)
theorem dX2_die_7 : decode cX2_die 7 = .ok (.invokevirtual 115, 3) := dk_182 0 115 (dk_at dksX2_die_0 7 rfl rfl)
theorem dX2_die_10 : decode cX2_die 10 = .ok (.invokevirtual 85, 3) := dk_182 0 85 (dk_at dksX2_die_0 10 rfl rfl)
theorem dX2_die_13 : decode cX2_die 13 = .ok (.ireturn, 1) := dk_172 (dk_at dksX2_die_0 13 rfl rfl)
abbrev cX2_dieIt : ByteArray := prog_14_method_21_code
def yX2_dieIt : MethodName := ⟨RX2, "dieIt", "(I)I"⟩
def dkwX2_dieIt_1 : List UInt8 := [172, 42, 180, 0, 9, 27, 184, 0, 58, 6, 96, 3, 79, 42, 182, 0, 66, 172]
abbrev dktX2_dieIt_1 : List UInt8 := dkwX2_dieIt_1 ++ []
def dkwX2_dieIt_0 : List UInt8 := [42, 27, 182, 0, 100, 154, 0, 5, 2, 172, 42, 27, 182, 0, 106, 154, 0, 10, 42, 6, 27, 182, 0, 62]
abbrev dktX2_dieIt_0 : List UInt8 := dkwX2_dieIt_0 ++ dktX2_dieIt_1
theorem dksX2_dieIt_0 : cX2_dieIt.data.toList.drop 0 = dktX2_dieIt_0 := by decide +kernel
theorem dksX2_dieIt_1 : cX2_dieIt.data.toList.drop 24 = dktX2_dieIt_1 := dk_seg dksX2_dieIt_0 24 rfl rfl
theorem dX2_dieIt_0 : decode cX2_dieIt 0 = .ok (.aload_n 0, 1) := dk_42 (dk_at dksX2_dieIt_0 0 rfl rfl)
theorem dX2_dieIt_1 : decode cX2_dieIt 1 = .ok (.iload_n 1, 1) := dk_27 (dk_at dksX2_dieIt_0 1 rfl rfl)
theorem dX2_dieIt_2 : decode cX2_dieIt 2 = .ok (.invokevirtual 100, 3) := dk_182 0 100 (dk_at dksX2_dieIt_0 2 rfl rfl)
theorem dX2_dieIt_5 : decode cX2_dieIt 5 = .ok (.ifCond .ne 5, 3) := dk_154 0 5 (dk_at dksX2_dieIt_0 5 rfl rfl)
theorem dX2_dieIt_8 : decode cX2_dieIt 8 = .ok (.iconst (-1), 1) := dk_2 (dk_at dksX2_dieIt_0 8 rfl rfl)
theorem dX2_dieIt_9 : decode cX2_dieIt 9 = .ok (.ireturn, 1) := dk_172 (dk_at dksX2_dieIt_0 9 rfl rfl)
theorem dX2_dieIt_10 : decode cX2_dieIt 10 = .ok (.aload_n 0, 1) := dk_42 (dk_at dksX2_dieIt_0 10 rfl rfl)
theorem dX2_dieIt_11 : decode cX2_dieIt 11 = .ok (.iload_n 1, 1) := dk_27 (dk_at dksX2_dieIt_0 11 rfl rfl)
theorem dX2_dieIt_12 : decode cX2_dieIt 12 = .ok (.invokevirtual 106, 3) := dk_182 0 106 (dk_at dksX2_dieIt_0 12 rfl rfl)
theorem dX2_dieIt_15 : decode cX2_dieIt 15 = .ok (.ifCond .ne 10, 3) := dk_154 0 10 (dk_at dksX2_dieIt_0 15 rfl rfl)
theorem dX2_dieIt_18 : decode cX2_dieIt 18 = .ok (.aload_n 0, 1) := dk_42 (dk_at dksX2_dieIt_0 18 rfl rfl)
theorem dX2_dieIt_19 : decode cX2_dieIt 19 = .ok (.iconst 3, 1) := dk_6 (dk_at dksX2_dieIt_0 19 rfl rfl)
theorem dX2_dieIt_20 : decode cX2_dieIt 20 = .ok (.iload_n 1, 1) := dk_27 (dk_at dksX2_dieIt_0 20 rfl rfl)
theorem dX2_dieIt_21 : decode cX2_dieIt 21 = .ok (.invokevirtual 62, 3) := dk_182 0 62 (dk_at dksX2_dieIt_0 21 rfl rfl)
theorem dX2_dieIt_24 : decode cX2_dieIt 24 = .ok (.ireturn, 1) := dk_172 (dk_at dksX2_dieIt_1 0 rfl rfl)
theorem dX2_dieIt_25 : decode cX2_dieIt 25 = .ok (.aload_n 0, 1) := dk_42 (dk_at dksX2_dieIt_1 1 rfl rfl)
theorem dX2_dieIt_26 : decode cX2_dieIt 26 = .ok (.getfield 9, 3) := dk_180 0 9 (dk_at dksX2_dieIt_1 2 rfl rfl)
theorem dX2_dieIt_29 : decode cX2_dieIt 29 = .ok (.iload_n 1, 1) := dk_27 (dk_at dksX2_dieIt_1 5 rfl rfl)
theorem dX2_dieIt_30 : decode cX2_dieIt 30 = .ok (.invokestatic 58, 3) := dk_184 0 58 (dk_at dksX2_dieIt_1 6 rfl rfl)
theorem dX2_dieIt_33 : decode cX2_dieIt 33 = .ok (.iconst 3, 1) := dk_6 (dk_at dksX2_dieIt_1 9 rfl rfl)
theorem dX2_dieIt_34 : decode cX2_dieIt 34 = .ok (.iadd, 1) := dk_96 (dk_at dksX2_dieIt_1 10 rfl rfl)
theorem dX2_dieIt_35 : decode cX2_dieIt 35 = .ok (.iconst 0, 1) := dk_3 (dk_at dksX2_dieIt_1 11 rfl rfl)
theorem dX2_dieIt_36 : decode cX2_dieIt 36 = .ok (.iastore, 1) := dk_79 (dk_at dksX2_dieIt_1 12 rfl rfl)
theorem dX2_dieIt_37 : decode cX2_dieIt 37 = .ok (.aload_n 0, 1) := dk_42 (dk_at dksX2_dieIt_1 13 rfl rfl)
theorem dX2_dieIt_38 : decode cX2_dieIt 38 = .ok (.invokevirtual 66, 3) := dk_182 0 66 (dk_at dksX2_dieIt_1 14 rfl rfl)
theorem dX2_dieIt_41 : decode cX2_dieIt 41 = .ok (.ireturn, 1) := dk_172 (dk_at dksX2_dieIt_1 17 rfl rfl)
abbrev cX2_want : ByteArray := prog_14_method_25_code
def yX2_want : MethodName := ⟨RX2, "want", "(I)I"⟩
def dkwX2_want_0 : List UInt8 := [42, 182, 0, 79, 42, 42, 27, 182, 0, 122, 182, 0, 85, 172]
abbrev dktX2_want_0 : List UInt8 := dkwX2_want_0 ++ []
theorem dksX2_want_0 : cX2_want.data.toList.drop 0 = dktX2_want_0 := by decide +kernel
theorem dX2_want_0 : decode cX2_want 0 = .ok (.aload_n 0, 1) := dk_42 (dk_at dksX2_want_0 0 rfl rfl)
theorem dX2_want_1 : decode cX2_want 1 = .ok (.invokevirtual 79, 3) := dk_182 0 79 (dk_at dksX2_want_0 1 rfl rfl)
theorem dX2_want_4 : decode cX2_want 4 = .ok (.aload_n 0, 1) := dk_42 (dk_at dksX2_want_0 4 rfl rfl)
theorem dX2_want_5 : decode cX2_want 5 = .ok (.aload_n 0, 1) := dk_42 (dk_at dksX2_want_0 5 rfl rfl)
theorem dX2_want_6 : decode cX2_want 6 = .ok (.iload_n 1, 1) := dk_27 (dk_at dksX2_want_0 6 rfl rfl)
theorem dX2_want_7 : decode cX2_want 7 = .ok (.invokevirtual 122, 3) := dk_182 0 122 (dk_at dksX2_want_0 7 rfl rfl)
theorem dX2_want_10 : decode cX2_want 10 = .ok (.invokevirtual 85, 3) := dk_182 0 85 (dk_at dksX2_want_0 10 rfl rfl)
theorem dX2_want_13 : decode cX2_want 13 = .ok (.ireturn, 1) := dk_172 (dk_at dksX2_want_0 13 rfl rfl)
abbrev cX2_wantIt : ByteArray := prog_14_method_24_code
def yX2_wantIt : MethodName := ⟨RX2, "wantIt", "(I)I"⟩
def dkwX2_wantIt_0 : List UInt8 := [42, 5, 27, 3, 17, 0, 255, 182, 0, 118, 172]
abbrev dktX2_wantIt_0 : List UInt8 := dkwX2_wantIt_0 ++ []
theorem dksX2_wantIt_0 : cX2_wantIt.data.toList.drop 0 = dktX2_wantIt_0 := by decide +kernel
theorem dX2_wantIt_0 : decode cX2_wantIt 0 = .ok (.aload_n 0, 1) := dk_42 (dk_at dksX2_wantIt_0 0 rfl rfl)
theorem dX2_wantIt_1 : decode cX2_wantIt 1 = .ok (.iconst 2, 1) := dk_5 (dk_at dksX2_wantIt_0 1 rfl rfl)
theorem dX2_wantIt_2 : decode cX2_wantIt 2 = .ok (.iload_n 1, 1) := dk_27 (dk_at dksX2_wantIt_0 2 rfl rfl)
theorem dX2_wantIt_3 : decode cX2_wantIt 3 = .ok (.iconst 0, 1) := dk_3 (dk_at dksX2_wantIt_0 3 rfl rfl)
theorem dX2_wantIt_4 : decode cX2_wantIt 4 = .ok (.sipush 255, 3) := dk_17 0 255 (dk_at dksX2_wantIt_0 4 rfl rfl)
theorem dX2_wantIt_7 : decode cX2_wantIt 7 = .ok (.invokevirtual 118, 3) := dk_182 0 118 (dk_at dksX2_wantIt_0 7 rfl rfl)
theorem dX2_wantIt_10 : decode cX2_wantIt 10 = .ok (.ireturn, 1) := dk_172 (dk_at dksX2_wantIt_0 10 rfl rfl)
abbrev cX2_setIt : ByteArray := prog_14_method_23_code
def yX2_setIt : MethodName := ⟨RX2, "setIt", "(IIII)I"⟩
def dkwX2_setIt_1 : List UInt8 := [21, 5, 28, 160, 0, 10, 42, 7, 28, 182, 0, 62, 172, 42, 180, 0, 9, 27, 28, 79, 21, 5, 172]
abbrev dktX2_setIt_1 : List UInt8 := dkwX2_setIt_1 ++ []
def dkwX2_setIt_0 : List UInt8 := [28, 133, 29, 133, 21, 4, 133, 184, 0, 54, 154, 0, 6, 16, 254, 172, 42, 180, 0, 9, 27, 46, 54, 5]
abbrev dktX2_setIt_0 : List UInt8 := dkwX2_setIt_0 ++ dktX2_setIt_1
theorem dksX2_setIt_0 : cX2_setIt.data.toList.drop 0 = dktX2_setIt_0 := by decide +kernel
theorem dksX2_setIt_1 : cX2_setIt.data.toList.drop 24 = dktX2_setIt_1 := dk_seg dksX2_setIt_0 24 rfl rfl
theorem dX2_setIt_0 : decode cX2_setIt 0 = .ok (.iload_n 2, 1) := dk_28 (dk_at dksX2_setIt_0 0 rfl rfl)
theorem dX2_setIt_1 : decode cX2_setIt 1 = .ok (.i2l, 1) := dk_133 (dk_at dksX2_setIt_0 1 rfl rfl)
theorem dX2_setIt_2 : decode cX2_setIt 2 = .ok (.iload_n 3, 1) := dk_29 (dk_at dksX2_setIt_0 2 rfl rfl)
theorem dX2_setIt_3 : decode cX2_setIt 3 = .ok (.i2l, 1) := dk_133 (dk_at dksX2_setIt_0 3 rfl rfl)
theorem dX2_setIt_4 : decode cX2_setIt 4 = .ok (.iload 4, 2) := dk_21 4 (dk_at dksX2_setIt_0 4 rfl rfl)
theorem dX2_setIt_6 : decode cX2_setIt 6 = .ok (.i2l, 1) := dk_133 (dk_at dksX2_setIt_0 6 rfl rfl)
theorem dX2_setIt_7 : decode cX2_setIt 7 = .ok (.invokestatic 54, 3) := dk_184 0 54 (dk_at dksX2_setIt_0 7 rfl rfl)
theorem dX2_setIt_10 : decode cX2_setIt 10 = .ok (.ifCond .ne 6, 3) := dk_154 0 6 (dk_at dksX2_setIt_0 10 rfl rfl)
theorem dX2_setIt_13 : decode cX2_setIt 13 = .ok (.bipush (-2), 2) := dk_16 254 (dk_at dksX2_setIt_0 13 rfl rfl)
theorem dX2_setIt_15 : decode cX2_setIt 15 = .ok (.ireturn, 1) := dk_172 (dk_at dksX2_setIt_0 15 rfl rfl)
theorem dX2_setIt_16 : decode cX2_setIt 16 = .ok (.aload_n 0, 1) := dk_42 (dk_at dksX2_setIt_0 16 rfl rfl)
theorem dX2_setIt_17 : decode cX2_setIt 17 = .ok (.getfield 9, 3) := dk_180 0 9 (dk_at dksX2_setIt_0 17 rfl rfl)
theorem dX2_setIt_20 : decode cX2_setIt 20 = .ok (.iload_n 1, 1) := dk_27 (dk_at dksX2_setIt_0 20 rfl rfl)
theorem dX2_setIt_21 : decode cX2_setIt 21 = .ok (.iaload, 1) := dk_46 (dk_at dksX2_setIt_0 21 rfl rfl)
theorem dX2_setIt_22 : decode cX2_setIt 22 = .ok (.istore 5, 2) := dk_54 5 (dk_at dksX2_setIt_0 22 rfl rfl)
theorem dX2_setIt_24 : decode cX2_setIt 24 = .ok (.iload 5, 2) := dk_21 5 (dk_at dksX2_setIt_1 0 rfl rfl)
theorem dX2_setIt_26 : decode cX2_setIt 26 = .ok (.iload_n 2, 1) := dk_28 (dk_at dksX2_setIt_1 2 rfl rfl)
theorem dX2_setIt_27 : decode cX2_setIt 27 = .ok (.if_icmp .ne 10, 3) := dk_160 0 10 (dk_at dksX2_setIt_1 3 rfl rfl)
theorem dX2_setIt_30 : decode cX2_setIt 30 = .ok (.aload_n 0, 1) := dk_42 (dk_at dksX2_setIt_1 6 rfl rfl)
theorem dX2_setIt_31 : decode cX2_setIt 31 = .ok (.iconst 4, 1) := dk_7 (dk_at dksX2_setIt_1 7 rfl rfl)
theorem dX2_setIt_32 : decode cX2_setIt 32 = .ok (.iload_n 2, 1) := dk_28 (dk_at dksX2_setIt_1 8 rfl rfl)
theorem dX2_setIt_33 : decode cX2_setIt 33 = .ok (.invokevirtual 62, 3) := dk_182 0 62 (dk_at dksX2_setIt_1 9 rfl rfl)
theorem dX2_setIt_36 : decode cX2_setIt 36 = .ok (.ireturn, 1) := dk_172 (dk_at dksX2_setIt_1 12 rfl rfl)
theorem dX2_setIt_37 : decode cX2_setIt 37 = .ok (.aload_n 0, 1) := dk_42 (dk_at dksX2_setIt_1 13 rfl rfl)
theorem dX2_setIt_38 : decode cX2_setIt 38 = .ok (.getfield 9, 3) := dk_180 0 9 (dk_at dksX2_setIt_1 14 rfl rfl)
theorem dX2_setIt_41 : decode cX2_setIt 41 = .ok (.iload_n 1, 1) := dk_27 (dk_at dksX2_setIt_1 17 rfl rfl)
theorem dX2_setIt_42 : decode cX2_setIt 42 = .ok (.iload_n 2, 1) := dk_28 (dk_at dksX2_setIt_1 18 rfl rfl)
theorem dX2_setIt_43 : decode cX2_setIt 43 = .ok (.iastore, 1) := dk_79 (dk_at dksX2_setIt_1 19 rfl rfl)
theorem dX2_setIt_44 : decode cX2_setIt 44 = .ok (.iload 5, 2) := dk_21 5 (dk_at dksX2_setIt_1 20 rfl rfl)
theorem dX2_setIt_46 : decode cX2_setIt 46 = .ok (.ireturn, 1) := dk_172 (dk_at dksX2_setIt_1 22 rfl rfl)
abbrev cX2_heavy : ByteArray := prog_14_method_27_code
def yX2_heavy : MethodName := ⟨RX2, "heavy", "(II)I"⟩
def dkwX2_heavy_0 : List UInt8 := [42, 182, 0, 79, 42, 42, 27, 28, 182, 0, 127, 182, 0, 85, 172]
abbrev dktX2_heavy_0 : List UInt8 := dkwX2_heavy_0 ++ []
theorem dksX2_heavy_0 : cX2_heavy.data.toList.drop 0 = dktX2_heavy_0 := by decide +kernel
theorem dX2_heavy_0 : decode cX2_heavy 0 = .ok (.aload_n 0, 1) := dk_42 (dk_at dksX2_heavy_0 0 rfl rfl)
theorem dX2_heavy_1 : decode cX2_heavy 1 = .ok (.invokevirtual 79, 3) := dk_182 0 79 (dk_at dksX2_heavy_0 1 rfl rfl)
theorem dX2_heavy_4 : decode cX2_heavy 4 = .ok (.aload_n 0, 1) := dk_42 (dk_at dksX2_heavy_0 4 rfl rfl)
theorem dX2_heavy_5 : decode cX2_heavy 5 = .ok (.aload_n 0, 1) := dk_42 (dk_at dksX2_heavy_0 5 rfl rfl)
theorem dX2_heavy_6 : decode cX2_heavy 6 = .ok (.iload_n 1, 1) := dk_27 (dk_at dksX2_heavy_0 6 rfl rfl)
theorem dX2_heavy_7 : decode cX2_heavy 7 = .ok (.iload_n 2, 1) := dk_28 (dk_at dksX2_heavy_0 7 rfl rfl)
theorem dX2_heavy_8 : decode cX2_heavy 8 = .ok (.invokevirtual 127, 3) := dk_182 0 127 (dk_at dksX2_heavy_0 8 rfl rfl)
theorem dX2_heavy_11 : decode cX2_heavy 11 = .ok (.invokevirtual 85, 3) := dk_182 0 85 (dk_at dksX2_heavy_0 11 rfl rfl)
theorem dX2_heavy_14 : decode cX2_heavy 14 = .ok (.ireturn, 1) := dk_172 (dk_at dksX2_heavy_0 14 rfl rfl)
abbrev cX2_heavyIt : ByteArray := prog_14_method_26_code
def yX2_heavyIt : MethodName := ⟨RX2, "heavyIt", "(II)I"⟩
def dkwX2_heavyIt_1 : List UInt8 := [167, 0, 4, 2, 172]
abbrev dktX2_heavyIt_1 : List UInt8 := dkwX2_heavyIt_1 ++ []
def dkwX2_heavyIt_0 : List UInt8 := [27, 133, 9, 20, 0, 125, 184, 0, 54, 153, 0, 18, 42, 16, 6, 27, 96, 28, 3, 16, 9, 182, 0, 118]
abbrev dktX2_heavyIt_0 : List UInt8 := dkwX2_heavyIt_0 ++ dktX2_heavyIt_1
theorem dksX2_heavyIt_0 : cX2_heavyIt.data.toList.drop 0 = dktX2_heavyIt_0 := by decide +kernel
theorem dksX2_heavyIt_1 : cX2_heavyIt.data.toList.drop 24 = dktX2_heavyIt_1 := dk_seg dksX2_heavyIt_0 24 rfl rfl
theorem dX2_heavyIt_0 : decode cX2_heavyIt 0 = .ok (.iload_n 1, 1) := dk_27 (dk_at dksX2_heavyIt_0 0 rfl rfl)
theorem dX2_heavyIt_1 : decode cX2_heavyIt 1 = .ok (.i2l, 1) := dk_133 (dk_at dksX2_heavyIt_0 1 rfl rfl)
theorem dX2_heavyIt_2 : decode cX2_heavyIt 2 = .ok (.lconst 0, 1) := dk_9 (dk_at dksX2_heavyIt_0 2 rfl rfl)
theorem dX2_heavyIt_3 : decode cX2_heavyIt 3 = .ok (.ldc2_w 125, 3) := dk_20 0 125 (dk_at dksX2_heavyIt_0 3 rfl rfl)
theorem dX2_heavyIt_6 : decode cX2_heavyIt 6 = .ok (.invokestatic 54, 3) := dk_184 0 54 (dk_at dksX2_heavyIt_0 6 rfl rfl)
theorem dX2_heavyIt_9 : decode cX2_heavyIt 9 = .ok (.ifCond .eq 18, 3) := dk_153 0 18 (dk_at dksX2_heavyIt_0 9 rfl rfl)
theorem dX2_heavyIt_12 : decode cX2_heavyIt 12 = .ok (.aload_n 0, 1) := dk_42 (dk_at dksX2_heavyIt_0 12 rfl rfl)
theorem dX2_heavyIt_13 : decode cX2_heavyIt 13 = .ok (.bipush 6, 2) := dk_16 6 (dk_at dksX2_heavyIt_0 13 rfl rfl)
theorem dX2_heavyIt_15 : decode cX2_heavyIt 15 = .ok (.iload_n 1, 1) := dk_27 (dk_at dksX2_heavyIt_0 15 rfl rfl)
theorem dX2_heavyIt_16 : decode cX2_heavyIt 16 = .ok (.iadd, 1) := dk_96 (dk_at dksX2_heavyIt_0 16 rfl rfl)
theorem dX2_heavyIt_17 : decode cX2_heavyIt 17 = .ok (.iload_n 2, 1) := dk_28 (dk_at dksX2_heavyIt_0 17 rfl rfl)
theorem dX2_heavyIt_18 : decode cX2_heavyIt 18 = .ok (.iconst 0, 1) := dk_3 (dk_at dksX2_heavyIt_0 18 rfl rfl)
theorem dX2_heavyIt_19 : decode cX2_heavyIt 19 = .ok (.bipush 9, 2) := dk_16 9 (dk_at dksX2_heavyIt_0 19 rfl rfl)
theorem dX2_heavyIt_21 : decode cX2_heavyIt 21 = .ok (.invokevirtual 118, 3) := dk_182 0 118 (dk_at dksX2_heavyIt_0 21 rfl rfl)
theorem dX2_heavyIt_24 : decode cX2_heavyIt 24 = .ok (.goto 4, 3) := dk_167 0 4 (dk_at dksX2_heavyIt_1 0 rfl rfl)
theorem dX2_heavyIt_27 : decode cX2_heavyIt 27 = .ok (.iconst (-1), 1) := dk_2 (dk_at dksX2_heavyIt_1 3 rfl rfl)
theorem dX2_heavyIt_28 : decode cX2_heavyIt 28 = .ok (.ireturn, 1) := dk_172 (dk_at dksX2_heavyIt_1 4 rfl rfl)
abbrev cX2_luck : ByteArray := prog_14_method_29_code
def yX2_luck : MethodName := ⟨RX2, "luck", "(I)I"⟩
def dkwX2_luck_0 : List UInt8 := [42, 182, 0, 79, 42, 42, 27, 182, 0, 130, 182, 0, 85, 172]
abbrev dktX2_luck_0 : List UInt8 := dkwX2_luck_0 ++ []
theorem dksX2_luck_0 : cX2_luck.data.toList.drop 0 = dktX2_luck_0 := by decide +kernel
theorem dX2_luck_0 : decode cX2_luck 0 = .ok (.aload_n 0, 1) := dk_42 (dk_at dksX2_luck_0 0 rfl rfl)
theorem dX2_luck_1 : decode cX2_luck 1 = .ok (.invokevirtual 79, 3) := dk_182 0 79 (dk_at dksX2_luck_0 1 rfl rfl)
theorem dX2_luck_4 : decode cX2_luck 4 = .ok (.aload_n 0, 1) := dk_42 (dk_at dksX2_luck_0 4 rfl rfl)
theorem dX2_luck_5 : decode cX2_luck 5 = .ok (.aload_n 0, 1) := dk_42 (dk_at dksX2_luck_0 5 rfl rfl)
theorem dX2_luck_6 : decode cX2_luck 6 = .ok (.iload_n 1, 1) := dk_27 (dk_at dksX2_luck_0 6 rfl rfl)
theorem dX2_luck_7 : decode cX2_luck 7 = .ok (.invokevirtual 130, 3) := dk_182 0 130 (dk_at dksX2_luck_0 7 rfl rfl)
theorem dX2_luck_10 : decode cX2_luck 10 = .ok (.invokevirtual 85, 3) := dk_182 0 85 (dk_at dksX2_luck_0 10 rfl rfl)
theorem dX2_luck_13 : decode cX2_luck 13 = .ok (.ireturn, 1) := dk_172 (dk_at dksX2_luck_0 13 rfl rfl)
abbrev cX2_luckIt : ByteArray := prog_14_method_28_code
def yX2_luckIt : MethodName := ⟨RX2, "luckIt", "(I)I"⟩
def dkwX2_luckIt_0 : List UInt8 := [42, 6, 27, 3, 16, 100, 182, 0, 118, 172]
abbrev dktX2_luckIt_0 : List UInt8 := dkwX2_luckIt_0 ++ []
theorem dksX2_luckIt_0 : cX2_luckIt.data.toList.drop 0 = dktX2_luckIt_0 := by decide +kernel
theorem dX2_luckIt_0 : decode cX2_luckIt 0 = .ok (.aload_n 0, 1) := dk_42 (dk_at dksX2_luckIt_0 0 rfl rfl)
theorem dX2_luckIt_1 : decode cX2_luckIt 1 = .ok (.iconst 3, 1) := dk_6 (dk_at dksX2_luckIt_0 1 rfl rfl)
theorem dX2_luckIt_2 : decode cX2_luckIt 2 = .ok (.iload_n 1, 1) := dk_27 (dk_at dksX2_luckIt_0 2 rfl rfl)
theorem dX2_luckIt_3 : decode cX2_luckIt 3 = .ok (.iconst 0, 1) := dk_3 (dk_at dksX2_luckIt_0 3 rfl rfl)
theorem dX2_luckIt_4 : decode cX2_luckIt 4 = .ok (.bipush 100, 2) := dk_16 100 (dk_at dksX2_luckIt_0 4 rfl rfl)
theorem dX2_luckIt_6 : decode cX2_luckIt 6 = .ok (.invokevirtual 118, 3) := dk_182 0 118 (dk_at dksX2_luckIt_0 6 rfl rfl)
theorem dX2_luckIt_9 : decode cX2_luckIt 9 = .ok (.ireturn, 1) := dk_172 (dk_at dksX2_luckIt_0 9 rfl rfl)
abbrev cX2_seed : ByteArray := prog_14_method_30_code
def yX2_seed : MethodName := ⟨RX2, "seed", "(I)I"⟩
def dkwX2_seed_0 : List UInt8 := [42, 182, 0, 79, 42, 42, 7, 27, 3, 18, 133, 182, 0, 118, 182, 0, 85, 172]
abbrev dktX2_seed_0 : List UInt8 := dkwX2_seed_0 ++ []
theorem dksX2_seed_0 : cX2_seed.data.toList.drop 0 = dktX2_seed_0 := by decide +kernel
theorem dX2_seed_0 : decode cX2_seed 0 = .ok (.aload_n 0, 1) := dk_42 (dk_at dksX2_seed_0 0 rfl rfl)
theorem dX2_seed_1 : decode cX2_seed 1 = .ok (.invokevirtual 79, 3) := dk_182 0 79 (dk_at dksX2_seed_0 1 rfl rfl)
theorem dX2_seed_4 : decode cX2_seed 4 = .ok (.aload_n 0, 1) := dk_42 (dk_at dksX2_seed_0 4 rfl rfl)
theorem dX2_seed_5 : decode cX2_seed 5 = .ok (.aload_n 0, 1) := dk_42 (dk_at dksX2_seed_0 5 rfl rfl)
theorem dX2_seed_6 : decode cX2_seed 6 = .ok (.iconst 4, 1) := dk_7 (dk_at dksX2_seed_0 6 rfl rfl)
theorem dX2_seed_7 : decode cX2_seed 7 = .ok (.iload_n 1, 1) := dk_27 (dk_at dksX2_seed_0 7 rfl rfl)
theorem dX2_seed_8 : decode cX2_seed 8 = .ok (.iconst 0, 1) := dk_3 (dk_at dksX2_seed_0 8 rfl rfl)
theorem dX2_seed_9 : decode cX2_seed 9 = .ok (.ldc 133, 2) := dk_18 133 (dk_at dksX2_seed_0 9 rfl rfl)
theorem dX2_seed_11 : decode cX2_seed 11 = .ok (.invokevirtual 118, 3) := dk_182 0 118 (dk_at dksX2_seed_0 11 rfl rfl)
theorem dX2_seed_14 : decode cX2_seed 14 = .ok (.invokevirtual 85, 3) := dk_182 0 85 (dk_at dksX2_seed_0 14 rfl rfl)
theorem dX2_seed_17 : decode cX2_seed 17 = .ok (.ireturn, 1) := dk_172 (dk_at dksX2_seed_0 17 rfl rfl)
abbrev cX2_room : ByteArray := prog_14_method_32_code
def yX2_room : MethodName := ⟨RX2, "room", "(I)I"⟩
def dkwX2_room_0 : List UInt8 := [42, 182, 0, 79, 42, 42, 27, 182, 0, 134, 182, 0, 85, 172]
abbrev dktX2_room_0 : List UInt8 := dkwX2_room_0 ++ []
theorem dksX2_room_0 : cX2_room.data.toList.drop 0 = dktX2_room_0 := by decide +kernel
theorem dX2_room_0 : decode cX2_room 0 = .ok (.aload_n 0, 1) := dk_42 (dk_at dksX2_room_0 0 rfl rfl)
theorem dX2_room_1 : decode cX2_room 1 = .ok (.invokevirtual 79, 3) := dk_182 0 79 (dk_at dksX2_room_0 1 rfl rfl)
theorem dX2_room_4 : decode cX2_room 4 = .ok (.aload_n 0, 1) := dk_42 (dk_at dksX2_room_0 4 rfl rfl)
theorem dX2_room_5 : decode cX2_room 5 = .ok (.aload_n 0, 1) := dk_42 (dk_at dksX2_room_0 5 rfl rfl)
theorem dX2_room_6 : decode cX2_room 6 = .ok (.iload_n 1, 1) := dk_27 (dk_at dksX2_room_0 6 rfl rfl)
theorem dX2_room_7 : decode cX2_room 7 = .ok (.invokevirtual 134, 3) := dk_182 0 134 (dk_at dksX2_room_0 7 rfl rfl)
theorem dX2_room_10 : decode cX2_room 10 = .ok (.invokevirtual 85, 3) := dk_182 0 85 (dk_at dksX2_room_0 10 rfl rfl)
theorem dX2_room_13 : decode cX2_room 13 = .ok (.ireturn, 1) := dk_172 (dk_at dksX2_room_0 13 rfl rfl)
abbrev cX2_roomIt : ByteArray := prog_14_method_31_code
def yX2_roomIt : MethodName := ⟨RX2, "roomIt", "(I)I"⟩
def dkwX2_roomIt_0 : List UInt8 := [42, 8, 27, 5, 16, 12, 182, 0, 118, 172]
abbrev dktX2_roomIt_0 : List UInt8 := dkwX2_roomIt_0 ++ []
theorem dksX2_roomIt_0 : cX2_roomIt.data.toList.drop 0 = dktX2_roomIt_0 := by decide +kernel
theorem dX2_roomIt_0 : decode cX2_roomIt 0 = .ok (.aload_n 0, 1) := dk_42 (dk_at dksX2_roomIt_0 0 rfl rfl)
theorem dX2_roomIt_1 : decode cX2_roomIt 1 = .ok (.iconst 5, 1) := dk_8 (dk_at dksX2_roomIt_0 1 rfl rfl)
theorem dX2_roomIt_2 : decode cX2_roomIt 2 = .ok (.iload_n 1, 1) := dk_27 (dk_at dksX2_roomIt_0 2 rfl rfl)
theorem dX2_roomIt_3 : decode cX2_roomIt 3 = .ok (.iconst 2, 1) := dk_5 (dk_at dksX2_roomIt_0 3 rfl rfl)
theorem dX2_roomIt_4 : decode cX2_roomIt 4 = .ok (.bipush 12, 2) := dk_16 12 (dk_at dksX2_roomIt_0 4 rfl rfl)
theorem dX2_roomIt_6 : decode cX2_roomIt 6 = .ok (.invokevirtual 118, 3) := dk_182 0 118 (dk_at dksX2_roomIt_0 6 rfl rfl)
theorem dX2_roomIt_9 : decode cX2_roomIt 9 = .ok (.ireturn, 1) := dk_172 (dk_at dksX2_roomIt_0 9 rfl rfl)
abbrev cX2_years : ByteArray := prog_14_method_37_code
def yX2_years : MethodName := ⟨RX2, "years", "(I)I"⟩
def dkwX2_years_0 : List UInt8 := [42, 182, 0, 79, 42, 42, 27, 182, 0, 151, 182, 0, 85, 172]
abbrev dktX2_years_0 : List UInt8 := dkwX2_years_0 ++ []
theorem dksX2_years_0 : cX2_years.data.toList.drop 0 = dktX2_years_0 := by decide +kernel
theorem dX2_years_0 : decode cX2_years 0 = .ok (.aload_n 0, 1) := dk_42 (dk_at dksX2_years_0 0 rfl rfl)
theorem dX2_years_1 : decode cX2_years 1 = .ok (.invokevirtual 79, 3) := dk_182 0 79 (dk_at dksX2_years_0 1 rfl rfl)
theorem dX2_years_4 : decode cX2_years 4 = .ok (.aload_n 0, 1) := dk_42 (dk_at dksX2_years_0 4 rfl rfl)
theorem dX2_years_5 : decode cX2_years 5 = .ok (.aload_n 0, 1) := dk_42 (dk_at dksX2_years_0 5 rfl rfl)
theorem dX2_years_6 : decode cX2_years 6 = .ok (.iload_n 1, 1) := dk_27 (dk_at dksX2_years_0 6 rfl rfl)
theorem dX2_years_7 : decode cX2_years 7 = .ok (.invokevirtual 151, 3) := dk_182 0 151 (dk_at dksX2_years_0 7 rfl rfl)
theorem dX2_years_10 : decode cX2_years 10 = .ok (.invokevirtual 85, 3) := dk_182 0 85 (dk_at dksX2_years_0 10 rfl rfl)
theorem dX2_years_13 : decode cX2_years 13 = .ok (.ireturn, 1) := dk_172 (dk_at dksX2_years_0 13 rfl rfl)
abbrev cX2_yearsIt : ByteArray := prog_14_method_36_code
def yX2_yearsIt : MethodName := ⟨RX2, "yearsIt", "(I)I"⟩
def dkwX2_yearsIt_0 : List UInt8 := [27, 133, 10, 20, 0, 146, 184, 0, 54, 153, 0, 11, 42, 27, 182, 0, 148, 167, 0, 5, 16, 254, 172]
abbrev dktX2_yearsIt_0 : List UInt8 := dkwX2_yearsIt_0 ++ []
theorem dksX2_yearsIt_0 : cX2_yearsIt.data.toList.drop 0 = dktX2_yearsIt_0 := by decide +kernel
theorem dX2_yearsIt_0 : decode cX2_yearsIt 0 = .ok (.iload_n 1, 1) := dk_27 (dk_at dksX2_yearsIt_0 0 rfl rfl)
theorem dX2_yearsIt_1 : decode cX2_yearsIt 1 = .ok (.i2l, 1) := dk_133 (dk_at dksX2_yearsIt_0 1 rfl rfl)
theorem dX2_yearsIt_2 : decode cX2_yearsIt 2 = .ok (.lconst 1, 1) := dk_10 (dk_at dksX2_yearsIt_0 2 rfl rfl)
theorem dX2_yearsIt_3 : decode cX2_yearsIt 3 = .ok (.ldc2_w 146, 3) := dk_20 0 146 (dk_at dksX2_yearsIt_0 3 rfl rfl)
theorem dX2_yearsIt_6 : decode cX2_yearsIt 6 = .ok (.invokestatic 54, 3) := dk_184 0 54 (dk_at dksX2_yearsIt_0 6 rfl rfl)
theorem dX2_yearsIt_9 : decode cX2_yearsIt 9 = .ok (.ifCond .eq 11, 3) := dk_153 0 11 (dk_at dksX2_yearsIt_0 9 rfl rfl)
theorem dX2_yearsIt_12 : decode cX2_yearsIt 12 = .ok (.aload_n 0, 1) := dk_42 (dk_at dksX2_yearsIt_0 12 rfl rfl)
theorem dX2_yearsIt_13 : decode cX2_yearsIt 13 = .ok (.iload_n 1, 1) := dk_27 (dk_at dksX2_yearsIt_0 13 rfl rfl)
theorem dX2_yearsIt_14 : decode cX2_yearsIt 14 = .ok (.invokevirtual 148, 3) := dk_182 0 148 (dk_at dksX2_yearsIt_0 14 rfl rfl)
theorem dX2_yearsIt_17 : decode cX2_yearsIt 17 = .ok (.goto 5, 3) := dk_167 0 5 (dk_at dksX2_yearsIt_0 17 rfl rfl)
theorem dX2_yearsIt_20 : decode cX2_yearsIt 20 = .ok (.bipush (-2), 2) := dk_16 254 (dk_at dksX2_yearsIt_0 20 rfl rfl)
theorem dX2_yearsIt_22 : decode cX2_yearsIt 22 = .ok (.ireturn, 1) := dk_172 (dk_at dksX2_yearsIt_0 22 rfl rfl)
abbrev cX2_yearsGo : ByteArray := prog_14_method_35_code
def yX2_yearsGo : MethodName := ⟨RX2, "yearsGo", "(I)I"⟩
def dkwX2_yearsGo_0 : List UInt8 := [3, 61, 3, 62, 29, 27, 162, 0, 16, 28, 42, 182, 0, 143, 96, 61, 132, 3, 1, 167, 255, 241, 28, 172]
abbrev dktX2_yearsGo_0 : List UInt8 := dkwX2_yearsGo_0 ++ []
theorem dksX2_yearsGo_0 : cX2_yearsGo.data.toList.drop 0 = dktX2_yearsGo_0 := by decide +kernel
theorem dX2_yearsGo_0 : decode cX2_yearsGo 0 = .ok (.iconst 0, 1) := dk_3 (dk_at dksX2_yearsGo_0 0 rfl rfl)
theorem dX2_yearsGo_1 : decode cX2_yearsGo 1 = .ok (.istore_n 2, 1) := dk_61 (dk_at dksX2_yearsGo_0 1 rfl rfl)
theorem dX2_yearsGo_2 : decode cX2_yearsGo 2 = .ok (.iconst 0, 1) := dk_3 (dk_at dksX2_yearsGo_0 2 rfl rfl)
theorem dX2_yearsGo_3 : decode cX2_yearsGo 3 = .ok (.istore_n 3, 1) := dk_62 (dk_at dksX2_yearsGo_0 3 rfl rfl)
theorem dX2_yearsGo_4 : decode cX2_yearsGo 4 = .ok (.iload_n 3, 1) := dk_29 (dk_at dksX2_yearsGo_0 4 rfl rfl)
theorem dX2_yearsGo_5 : decode cX2_yearsGo 5 = .ok (.iload_n 1, 1) := dk_27 (dk_at dksX2_yearsGo_0 5 rfl rfl)
theorem dX2_yearsGo_6 : decode cX2_yearsGo 6 = .ok (.if_icmp .ge 16, 3) := dk_162 0 16 (dk_at dksX2_yearsGo_0 6 rfl rfl)
theorem dX2_yearsGo_9 : decode cX2_yearsGo 9 = .ok (.iload_n 2, 1) := dk_28 (dk_at dksX2_yearsGo_0 9 rfl rfl)
theorem dX2_yearsGo_10 : decode cX2_yearsGo 10 = .ok (.aload_n 0, 1) := dk_42 (dk_at dksX2_yearsGo_0 10 rfl rfl)
theorem dX2_yearsGo_11 : decode cX2_yearsGo 11 = .ok (.invokevirtual 143, 3) := dk_182 0 143 (dk_at dksX2_yearsGo_0 11 rfl rfl)
theorem dX2_yearsGo_14 : decode cX2_yearsGo 14 = .ok (.iadd, 1) := dk_96 (dk_at dksX2_yearsGo_0 14 rfl rfl)
theorem dX2_yearsGo_15 : decode cX2_yearsGo 15 = .ok (.istore_n 2, 1) := dk_61 (dk_at dksX2_yearsGo_0 15 rfl rfl)
theorem dX2_yearsGo_16 : decode cX2_yearsGo 16 = .ok (.iinc 3 1, 3) := dk_132 3 1 (dk_at dksX2_yearsGo_0 16 rfl rfl)
theorem dX2_yearsGo_19 : decode cX2_yearsGo 19 = .ok (.goto (-15), 3) := dk_167 255 241 (dk_at dksX2_yearsGo_0 19 rfl rfl)
theorem dX2_yearsGo_22 : decode cX2_yearsGo 22 = .ok (.iload_n 2, 1) := dk_28 (dk_at dksX2_yearsGo_0 22 rfl rfl)
theorem dX2_yearsGo_23 : decode cX2_yearsGo 23 = .ok (.ireturn, 1) := dk_172 (dk_at dksX2_yearsGo_0 23 rfl rfl)
abbrev cX2_yearGoes : ByteArray := prog_14_method_34_code
def yX2_yearGoes : MethodName := ⟨RX2, "yearGoes", "()I"⟩
def dkwX2_yearGoes_4 : List UInt8 := [3, 79, 132, 3, 255, 167, 255, 225, 42, 180, 0, 9, 4, 92, 46, 4, 96, 79, 27, 172]
abbrev dktX2_yearGoes_4 : List UInt8 := dkwX2_yearGoes_4 ++ []
def dkwX2_yearGoes_3 : List UInt8 := [180, 0, 9, 8, 46, 164, 0, 27, 42, 180, 0, 9, 42, 29, 4, 100, 182, 0, 140, 184, 0, 58, 6, 96]
abbrev dktX2_yearGoes_3 : List UInt8 := dkwX2_yearGoes_3 ++ dktX2_yearGoes_4
def dkwX2_yearGoes_2 : List UInt8 := [112, 54, 5, 42, 29, 21, 4, 21, 5, 182, 0, 109, 87, 4, 60, 42, 182, 0, 66, 62, 29, 42]
abbrev dktX2_yearGoes_2 : List UInt8 := dkwX2_yearGoes_2 ++ dktX2_yearGoes_3
def dkwX2_yearGoes_1 : List UInt8 := [16, 40, 162, 0, 37, 42, 3, 182, 0, 140, 62, 42, 4, 182, 0, 140, 54, 4, 42, 182, 0, 92, 16, 9]
abbrev dktX2_yearGoes_1 : List UInt8 := dkwX2_yearGoes_1 ++ dktX2_yearGoes_2
def dkwX2_yearGoes_0 : List UInt8 := [3, 60, 42, 182, 0, 66, 61, 28, 5, 161, 0, 54, 28, 16, 12, 162, 0, 48, 42, 180, 0, 9, 3, 46]
abbrev dktX2_yearGoes_0 : List UInt8 := dkwX2_yearGoes_0 ++ dktX2_yearGoes_1
theorem dksX2_yearGoes_0 : cX2_yearGoes.data.toList.drop 0 = dktX2_yearGoes_0 := by decide +kernel
theorem dksX2_yearGoes_1 : cX2_yearGoes.data.toList.drop 24 = dktX2_yearGoes_1 := dk_seg dksX2_yearGoes_0 24 rfl rfl
theorem dksX2_yearGoes_2 : cX2_yearGoes.data.toList.drop 48 = dktX2_yearGoes_2 := dk_seg dksX2_yearGoes_1 24 rfl rfl
theorem dksX2_yearGoes_3 : cX2_yearGoes.data.toList.drop 70 = dktX2_yearGoes_3 := dk_seg dksX2_yearGoes_2 22 rfl rfl
theorem dksX2_yearGoes_4 : cX2_yearGoes.data.toList.drop 94 = dktX2_yearGoes_4 := dk_seg dksX2_yearGoes_3 24 rfl rfl
theorem dX2_yearGoes_0 : decode cX2_yearGoes 0 = .ok (.iconst 0, 1) := dk_3 (dk_at dksX2_yearGoes_0 0 rfl rfl)
theorem dX2_yearGoes_1 : decode cX2_yearGoes 1 = .ok (.istore_n 1, 1) := dk_60 (dk_at dksX2_yearGoes_0 1 rfl rfl)
theorem dX2_yearGoes_2 : decode cX2_yearGoes 2 = .ok (.aload_n 0, 1) := dk_42 (dk_at dksX2_yearGoes_0 2 rfl rfl)
theorem dX2_yearGoes_3 : decode cX2_yearGoes 3 = .ok (.invokevirtual 66, 3) := dk_182 0 66 (dk_at dksX2_yearGoes_0 3 rfl rfl)
theorem dX2_yearGoes_6 : decode cX2_yearGoes 6 = .ok (.istore_n 2, 1) := dk_61 (dk_at dksX2_yearGoes_0 6 rfl rfl)
theorem dX2_yearGoes_7 : decode cX2_yearGoes 7 = .ok (.iload_n 2, 1) := dk_28 (dk_at dksX2_yearGoes_0 7 rfl rfl)
theorem dX2_yearGoes_8 : decode cX2_yearGoes 8 = .ok (.iconst 2, 1) := dk_5 (dk_at dksX2_yearGoes_0 8 rfl rfl)
theorem dX2_yearGoes_9 : decode cX2_yearGoes 9 = .ok (.if_icmp .lt 54, 3) := dk_161 0 54 (dk_at dksX2_yearGoes_0 9 rfl rfl)
theorem dX2_yearGoes_12 : decode cX2_yearGoes 12 = .ok (.iload_n 2, 1) := dk_28 (dk_at dksX2_yearGoes_0 12 rfl rfl)
theorem dX2_yearGoes_13 : decode cX2_yearGoes 13 = .ok (.bipush 12, 2) := dk_16 12 (dk_at dksX2_yearGoes_0 13 rfl rfl)
theorem dX2_yearGoes_15 : decode cX2_yearGoes 15 = .ok (.if_icmp .ge 48, 3) := dk_162 0 48 (dk_at dksX2_yearGoes_0 15 rfl rfl)
theorem dX2_yearGoes_18 : decode cX2_yearGoes 18 = .ok (.aload_n 0, 1) := dk_42 (dk_at dksX2_yearGoes_0 18 rfl rfl)
theorem dX2_yearGoes_19 : decode cX2_yearGoes 19 = .ok (.getfield 9, 3) := dk_180 0 9 (dk_at dksX2_yearGoes_0 19 rfl rfl)
theorem dX2_yearGoes_22 : decode cX2_yearGoes 22 = .ok (.iconst 0, 1) := dk_3 (dk_at dksX2_yearGoes_0 22 rfl rfl)
theorem dX2_yearGoes_23 : decode cX2_yearGoes 23 = .ok (.iaload, 1) := dk_46 (dk_at dksX2_yearGoes_0 23 rfl rfl)
theorem dX2_yearGoes_24 : decode cX2_yearGoes 24 = .ok (.bipush 40, 2) := dk_16 40 (dk_at dksX2_yearGoes_1 0 rfl rfl)
theorem dX2_yearGoes_26 : decode cX2_yearGoes 26 = .ok (.if_icmp .ge 37, 3) := dk_162 0 37 (dk_at dksX2_yearGoes_1 2 rfl rfl)
theorem dX2_yearGoes_29 : decode cX2_yearGoes 29 = .ok (.aload_n 0, 1) := dk_42 (dk_at dksX2_yearGoes_1 5 rfl rfl)
theorem dX2_yearGoes_30 : decode cX2_yearGoes 30 = .ok (.iconst 0, 1) := dk_3 (dk_at dksX2_yearGoes_1 6 rfl rfl)
theorem dX2_yearGoes_31 : decode cX2_yearGoes 31 = .ok (.invokevirtual 140, 3) := dk_182 0 140 (dk_at dksX2_yearGoes_1 7 rfl rfl)
theorem dX2_yearGoes_34 : decode cX2_yearGoes 34 = .ok (.istore_n 3, 1) := dk_62 (dk_at dksX2_yearGoes_1 10 rfl rfl)
theorem dX2_yearGoes_35 : decode cX2_yearGoes 35 = .ok (.aload_n 0, 1) := dk_42 (dk_at dksX2_yearGoes_1 11 rfl rfl)
theorem dX2_yearGoes_36 : decode cX2_yearGoes 36 = .ok (.iconst 1, 1) := dk_4 (dk_at dksX2_yearGoes_1 12 rfl rfl)
theorem dX2_yearGoes_37 : decode cX2_yearGoes 37 = .ok (.invokevirtual 140, 3) := dk_182 0 140 (dk_at dksX2_yearGoes_1 13 rfl rfl)
theorem dX2_yearGoes_40 : decode cX2_yearGoes 40 = .ok (.istore 4, 2) := dk_54 4 (dk_at dksX2_yearGoes_1 16 rfl rfl)
theorem dX2_yearGoes_42 : decode cX2_yearGoes 42 = .ok (.aload_n 0, 1) := dk_42 (dk_at dksX2_yearGoes_1 18 rfl rfl)
theorem dX2_yearGoes_43 : decode cX2_yearGoes 43 = .ok (.invokevirtual 92, 3) := dk_182 0 92 (dk_at dksX2_yearGoes_1 19 rfl rfl)
theorem dX2_yearGoes_46 : decode cX2_yearGoes 46 = .ok (.bipush 9, 2) := dk_16 9 (dk_at dksX2_yearGoes_1 22 rfl rfl)
theorem dX2_yearGoes_48 : decode cX2_yearGoes 48 = .ok (.irem, 1) := dk_112 (dk_at dksX2_yearGoes_2 0 rfl rfl)
theorem dX2_yearGoes_49 : decode cX2_yearGoes 49 = .ok (.istore 5, 2) := dk_54 5 (dk_at dksX2_yearGoes_2 1 rfl rfl)
theorem dX2_yearGoes_51 : decode cX2_yearGoes 51 = .ok (.aload_n 0, 1) := dk_42 (dk_at dksX2_yearGoes_2 3 rfl rfl)
theorem dX2_yearGoes_52 : decode cX2_yearGoes 52 = .ok (.iload_n 3, 1) := dk_29 (dk_at dksX2_yearGoes_2 4 rfl rfl)
theorem dX2_yearGoes_53 : decode cX2_yearGoes 53 = .ok (.iload 4, 2) := dk_21 4 (dk_at dksX2_yearGoes_2 5 rfl rfl)
theorem dX2_yearGoes_55 : decode cX2_yearGoes 55 = .ok (.iload 5, 2) := dk_21 5 (dk_at dksX2_yearGoes_2 7 rfl rfl)
theorem dX2_yearGoes_57 : decode cX2_yearGoes 57 = .ok (.invokevirtual 109, 3) := dk_182 0 109 (dk_at dksX2_yearGoes_2 9 rfl rfl)
theorem dX2_yearGoes_60 : decode cX2_yearGoes 60 = .ok (.pop, 1) := dk_87 (dk_at dksX2_yearGoes_2 12 rfl rfl)
theorem dX2_yearGoes_61 : decode cX2_yearGoes 61 = .ok (.iconst 1, 1) := dk_4 (dk_at dksX2_yearGoes_2 13 rfl rfl)
theorem dX2_yearGoes_62 : decode cX2_yearGoes 62 = .ok (.istore_n 1, 1) := dk_60 (dk_at dksX2_yearGoes_2 14 rfl rfl)
theorem dX2_yearGoes_63 : decode cX2_yearGoes 63 = .ok (.aload_n 0, 1) := dk_42 (dk_at dksX2_yearGoes_2 15 rfl rfl)
theorem dX2_yearGoes_64 : decode cX2_yearGoes 64 = .ok (.invokevirtual 66, 3) := dk_182 0 66 (dk_at dksX2_yearGoes_2 16 rfl rfl)
theorem dX2_yearGoes_67 : decode cX2_yearGoes 67 = .ok (.istore_n 3, 1) := dk_62 (dk_at dksX2_yearGoes_2 19 rfl rfl)
theorem dX2_yearGoes_68 : decode cX2_yearGoes 68 = .ok (.iload_n 3, 1) := dk_29 (dk_at dksX2_yearGoes_2 20 rfl rfl)
theorem dX2_yearGoes_69 : decode cX2_yearGoes 69 = .ok (.aload_n 0, 1) := dk_42 (dk_at dksX2_yearGoes_2 21 rfl rfl)
theorem dX2_yearGoes_70 : decode cX2_yearGoes 70 = .ok (.getfield 9, 3) := dk_180 0 9 (dk_at dksX2_yearGoes_3 0 rfl rfl)
theorem dX2_yearGoes_73 : decode cX2_yearGoes 73 = .ok (.iconst 5, 1) := dk_8 (dk_at dksX2_yearGoes_3 3 rfl rfl)
theorem dX2_yearGoes_74 : decode cX2_yearGoes 74 = .ok (.iaload, 1) := dk_46 (dk_at dksX2_yearGoes_3 4 rfl rfl)
theorem dX2_yearGoes_75 : decode cX2_yearGoes 75 = .ok (.if_icmp .le 27, 3) := dk_164 0 27 (dk_at dksX2_yearGoes_3 5 rfl rfl)
theorem dX2_yearGoes_78 : decode cX2_yearGoes 78 = .ok (.aload_n 0, 1) := dk_42 (dk_at dksX2_yearGoes_3 8 rfl rfl)
theorem dX2_yearGoes_79 : decode cX2_yearGoes 79 = .ok (.getfield 9, 3) := dk_180 0 9 (dk_at dksX2_yearGoes_3 9 rfl rfl)
theorem dX2_yearGoes_82 : decode cX2_yearGoes 82 = .ok (.aload_n 0, 1) := dk_42 (dk_at dksX2_yearGoes_3 12 rfl rfl)
theorem dX2_yearGoes_83 : decode cX2_yearGoes 83 = .ok (.iload_n 3, 1) := dk_29 (dk_at dksX2_yearGoes_3 13 rfl rfl)
theorem dX2_yearGoes_84 : decode cX2_yearGoes 84 = .ok (.iconst 1, 1) := dk_4 (dk_at dksX2_yearGoes_3 14 rfl rfl)
theorem dX2_yearGoes_85 : decode cX2_yearGoes 85 = .ok (.isub, 1) := dk_100 (dk_at dksX2_yearGoes_3 15 rfl rfl)
theorem dX2_yearGoes_86 : decode cX2_yearGoes 86 = .ok (.invokevirtual 140, 3) := dk_182 0 140 (dk_at dksX2_yearGoes_3 16 rfl rfl)
theorem dX2_yearGoes_89 : decode cX2_yearGoes 89 = .ok (.invokestatic 58, 3) := dk_184 0 58 (dk_at dksX2_yearGoes_3 19 rfl rfl)
theorem dX2_yearGoes_92 : decode cX2_yearGoes 92 = .ok (.iconst 3, 1) := dk_6 (dk_at dksX2_yearGoes_3 22 rfl rfl)
theorem dX2_yearGoes_93 : decode cX2_yearGoes 93 = .ok (.iadd, 1) := dk_96 (dk_at dksX2_yearGoes_3 23 rfl rfl)
theorem dX2_yearGoes_94 : decode cX2_yearGoes 94 = .ok (.iconst 0, 1) := dk_3 (dk_at dksX2_yearGoes_4 0 rfl rfl)
theorem dX2_yearGoes_95 : decode cX2_yearGoes 95 = .ok (.iastore, 1) := dk_79 (dk_at dksX2_yearGoes_4 1 rfl rfl)
theorem dX2_yearGoes_96 : decode cX2_yearGoes 96 = .ok (.iinc 3 (-1), 3) := dk_132 3 255 (dk_at dksX2_yearGoes_4 2 rfl rfl)
theorem dX2_yearGoes_99 : decode cX2_yearGoes 99 = .ok (.goto (-31), 3) := dk_167 255 225 (dk_at dksX2_yearGoes_4 5 rfl rfl)
theorem dX2_yearGoes_102 : decode cX2_yearGoes 102 = .ok (.aload_n 0, 1) := dk_42 (dk_at dksX2_yearGoes_4 8 rfl rfl)
theorem dX2_yearGoes_103 : decode cX2_yearGoes 103 = .ok (.getfield 9, 3) := dk_180 0 9 (dk_at dksX2_yearGoes_4 9 rfl rfl)
theorem dX2_yearGoes_106 : decode cX2_yearGoes 106 = .ok (.iconst 1, 1) := dk_4 (dk_at dksX2_yearGoes_4 12 rfl rfl)
theorem dX2_yearGoes_107 : decode cX2_yearGoes 107 = .ok (.dup2, 1) := dk_92 (dk_at dksX2_yearGoes_4 13 rfl rfl)
theorem dX2_yearGoes_108 : decode cX2_yearGoes 108 = .ok (.iaload, 1) := dk_46 (dk_at dksX2_yearGoes_4 14 rfl rfl)
theorem dX2_yearGoes_109 : decode cX2_yearGoes 109 = .ok (.iconst 1, 1) := dk_4 (dk_at dksX2_yearGoes_4 15 rfl rfl)
theorem dX2_yearGoes_110 : decode cX2_yearGoes 110 = .ok (.iadd, 1) := dk_96 (dk_at dksX2_yearGoes_4 16 rfl rfl)
theorem dX2_yearGoes_111 : decode cX2_yearGoes 111 = .ok (.iastore, 1) := dk_79 (dk_at dksX2_yearGoes_4 17 rfl rfl)
theorem dX2_yearGoes_112 : decode cX2_yearGoes 112 = .ok (.iload_n 1, 1) := dk_27 (dk_at dksX2_yearGoes_4 18 rfl rfl)
theorem dX2_yearGoes_113 : decode cX2_yearGoes 113 = .ok (.ireturn, 1) := dk_172 (dk_at dksX2_yearGoes_4 19 rfl rfl)
abbrev cX2_at : ByteArray := prog_14_method_33_code
def yX2_at : MethodName := ⟨RX2, "at", "(I)I"⟩
def dkwX2_at_5 : List UInt8 := [2, 172]
abbrev dktX2_at_5 : List UInt8 := dkwX2_at_5 ++ []
def dkwX2_at_4 : List UInt8 := [167, 255, 179, 42, 28, 182, 0, 106, 153, 0, 10, 29, 27, 160, 0, 5, 28, 172, 132, 2, 1, 167, 255, 143]
abbrev dktX2_at_4 : List UInt8 := dkwX2_at_4 ++ dktX2_at_5
def dkwX2_at_3 : List UInt8 := [157, 0, 14, 21, 5, 154, 0, 13, 21, 4, 28, 164, 0, 7, 4, 167, 0, 4, 3, 96, 62, 132, 4, 1]
abbrev dktX2_at_3 : List UInt8 := dkwX2_at_3 ++ dktX2_at_4
def dkwX2_at_2 : List UInt8 := [184, 0, 58, 46, 182, 0, 137, 100, 54, 5, 29, 42, 21, 4, 182, 0, 106, 153, 0, 23, 21, 5]
abbrev dktX2_at_2 : List UInt8 := dkwX2_at_2 ++ dktX2_at_3
def dkwX2_at_1 : List UInt8 := [46, 162, 0, 72, 42, 42, 180, 0, 9, 21, 4, 184, 0, 58, 46, 182, 0, 137, 42, 42, 180, 0, 9, 28]
abbrev dktX2_at_1 : List UInt8 := dkwX2_at_1 ++ dktX2_at_2
def dkwX2_at_0 : List UInt8 := [3, 61, 28, 42, 180, 0, 9, 3, 46, 162, 0, 109, 3, 62, 3, 54, 4, 21, 4, 42, 180, 0, 9, 3]
abbrev dktX2_at_0 : List UInt8 := dkwX2_at_0 ++ dktX2_at_1
theorem dksX2_at_0 : cX2_at.data.toList.drop 0 = dktX2_at_0 := by decide +kernel
theorem dksX2_at_1 : cX2_at.data.toList.drop 24 = dktX2_at_1 := dk_seg dksX2_at_0 24 rfl rfl
theorem dksX2_at_2 : cX2_at.data.toList.drop 48 = dktX2_at_2 := dk_seg dksX2_at_1 24 rfl rfl
theorem dksX2_at_3 : cX2_at.data.toList.drop 70 = dktX2_at_3 := dk_seg dksX2_at_2 22 rfl rfl
theorem dksX2_at_4 : cX2_at.data.toList.drop 94 = dktX2_at_4 := dk_seg dksX2_at_3 24 rfl rfl
theorem dksX2_at_5 : cX2_at.data.toList.drop 118 = dktX2_at_5 := dk_seg dksX2_at_4 24 rfl rfl
theorem dX2_at_0 : decode cX2_at 0 = .ok (.iconst 0, 1) := dk_3 (dk_at dksX2_at_0 0 rfl rfl)
theorem dX2_at_1 : decode cX2_at 1 = .ok (.istore_n 2, 1) := dk_61 (dk_at dksX2_at_0 1 rfl rfl)
theorem dX2_at_2 : decode cX2_at 2 = .ok (.iload_n 2, 1) := dk_28 (dk_at dksX2_at_0 2 rfl rfl)
theorem dX2_at_3 : decode cX2_at 3 = .ok (.aload_n 0, 1) := dk_42 (dk_at dksX2_at_0 3 rfl rfl)
theorem dX2_at_4 : decode cX2_at 4 = .ok (.getfield 9, 3) := dk_180 0 9 (dk_at dksX2_at_0 4 rfl rfl)
theorem dX2_at_7 : decode cX2_at 7 = .ok (.iconst 0, 1) := dk_3 (dk_at dksX2_at_0 7 rfl rfl)
theorem dX2_at_8 : decode cX2_at 8 = .ok (.iaload, 1) := dk_46 (dk_at dksX2_at_0 8 rfl rfl)
theorem dX2_at_9 : decode cX2_at 9 = .ok (.if_icmp .ge 109, 3) := dk_162 0 109 (dk_at dksX2_at_0 9 rfl rfl)
theorem dX2_at_12 : decode cX2_at 12 = .ok (.iconst 0, 1) := dk_3 (dk_at dksX2_at_0 12 rfl rfl)
theorem dX2_at_13 : decode cX2_at 13 = .ok (.istore_n 3, 1) := dk_62 (dk_at dksX2_at_0 13 rfl rfl)
theorem dX2_at_14 : decode cX2_at 14 = .ok (.iconst 0, 1) := dk_3 (dk_at dksX2_at_0 14 rfl rfl)
theorem dX2_at_15 : decode cX2_at 15 = .ok (.istore 4, 2) := dk_54 4 (dk_at dksX2_at_0 15 rfl rfl)
theorem dX2_at_17 : decode cX2_at 17 = .ok (.iload 4, 2) := dk_21 4 (dk_at dksX2_at_0 17 rfl rfl)
theorem dX2_at_19 : decode cX2_at 19 = .ok (.aload_n 0, 1) := dk_42 (dk_at dksX2_at_0 19 rfl rfl)
theorem dX2_at_20 : decode cX2_at 20 = .ok (.getfield 9, 3) := dk_180 0 9 (dk_at dksX2_at_0 20 rfl rfl)
theorem dX2_at_23 : decode cX2_at 23 = .ok (.iconst 0, 1) := dk_3 (dk_at dksX2_at_0 23 rfl rfl)
theorem dX2_at_24 : decode cX2_at 24 = .ok (.iaload, 1) := dk_46 (dk_at dksX2_at_1 0 rfl rfl)
theorem dX2_at_25 : decode cX2_at 25 = .ok (.if_icmp .ge 72, 3) := dk_162 0 72 (dk_at dksX2_at_1 1 rfl rfl)
theorem dX2_at_28 : decode cX2_at 28 = .ok (.aload_n 0, 1) := dk_42 (dk_at dksX2_at_1 4 rfl rfl)
theorem dX2_at_29 : decode cX2_at 29 = .ok (.aload_n 0, 1) := dk_42 (dk_at dksX2_at_1 5 rfl rfl)
theorem dX2_at_30 : decode cX2_at 30 = .ok (.getfield 9, 3) := dk_180 0 9 (dk_at dksX2_at_1 6 rfl rfl)
theorem dX2_at_33 : decode cX2_at 33 = .ok (.iload 4, 2) := dk_21 4 (dk_at dksX2_at_1 9 rfl rfl)
theorem dX2_at_35 : decode cX2_at 35 = .ok (.invokestatic 58, 3) := dk_184 0 58 (dk_at dksX2_at_1 11 rfl rfl)
theorem dX2_at_38 : decode cX2_at 38 = .ok (.iaload, 1) := dk_46 (dk_at dksX2_at_1 14 rfl rfl)
theorem dX2_at_39 : decode cX2_at 39 = .ok (.invokevirtual 137, 3) := dk_182 0 137 (dk_at dksX2_at_1 15 rfl rfl)
theorem dX2_at_42 : decode cX2_at 42 = .ok (.aload_n 0, 1) := dk_42 (dk_at dksX2_at_1 18 rfl rfl)
theorem dX2_at_43 : decode cX2_at 43 = .ok (.aload_n 0, 1) := dk_42 (dk_at dksX2_at_1 19 rfl rfl)
theorem dX2_at_44 : decode cX2_at 44 = .ok (.getfield 9, 3) := dk_180 0 9 (dk_at dksX2_at_1 20 rfl rfl)
theorem dX2_at_47 : decode cX2_at 47 = .ok (.iload_n 2, 1) := dk_28 (dk_at dksX2_at_1 23 rfl rfl)
theorem dX2_at_48 : decode cX2_at 48 = .ok (.invokestatic 58, 3) := dk_184 0 58 (dk_at dksX2_at_2 0 rfl rfl)
theorem dX2_at_51 : decode cX2_at 51 = .ok (.iaload, 1) := dk_46 (dk_at dksX2_at_2 3 rfl rfl)
theorem dX2_at_52 : decode cX2_at 52 = .ok (.invokevirtual 137, 3) := dk_182 0 137 (dk_at dksX2_at_2 4 rfl rfl)
theorem dX2_at_55 : decode cX2_at 55 = .ok (.isub, 1) := dk_100 (dk_at dksX2_at_2 7 rfl rfl)
theorem dX2_at_56 : decode cX2_at 56 = .ok (.istore 5, 2) := dk_54 5 (dk_at dksX2_at_2 8 rfl rfl)
theorem dX2_at_58 : decode cX2_at 58 = .ok (.iload_n 3, 1) := dk_29 (dk_at dksX2_at_2 10 rfl rfl)
theorem dX2_at_59 : decode cX2_at 59 = .ok (.aload_n 0, 1) := dk_42 (dk_at dksX2_at_2 11 rfl rfl)
theorem dX2_at_60 : decode cX2_at 60 = .ok (.iload 4, 2) := dk_21 4 (dk_at dksX2_at_2 12 rfl rfl)
theorem dX2_at_62 : decode cX2_at 62 = .ok (.invokevirtual 106, 3) := dk_182 0 106 (dk_at dksX2_at_2 14 rfl rfl)
theorem dX2_at_65 : decode cX2_at 65 = .ok (.ifCond .eq 23, 3) := dk_153 0 23 (dk_at dksX2_at_2 17 rfl rfl)
theorem dX2_at_68 : decode cX2_at 68 = .ok (.iload 5, 2) := dk_21 5 (dk_at dksX2_at_2 20 rfl rfl)
theorem dX2_at_70 : decode cX2_at 70 = .ok (.ifCond .gt 14, 3) := dk_157 0 14 (dk_at dksX2_at_3 0 rfl rfl)
theorem dX2_at_73 : decode cX2_at 73 = .ok (.iload 5, 2) := dk_21 5 (dk_at dksX2_at_3 3 rfl rfl)
theorem dX2_at_75 : decode cX2_at 75 = .ok (.ifCond .ne 13, 3) := dk_154 0 13 (dk_at dksX2_at_3 5 rfl rfl)
theorem dX2_at_78 : decode cX2_at 78 = .ok (.iload 4, 2) := dk_21 4 (dk_at dksX2_at_3 8 rfl rfl)
theorem dX2_at_80 : decode cX2_at 80 = .ok (.iload_n 2, 1) := dk_28 (dk_at dksX2_at_3 10 rfl rfl)
theorem dX2_at_81 : decode cX2_at 81 = .ok (.if_icmp .le 7, 3) := dk_164 0 7 (dk_at dksX2_at_3 11 rfl rfl)
theorem dX2_at_84 : decode cX2_at 84 = .ok (.iconst 1, 1) := dk_4 (dk_at dksX2_at_3 14 rfl rfl)
theorem dX2_at_85 : decode cX2_at 85 = .ok (.goto 4, 3) := dk_167 0 4 (dk_at dksX2_at_3 15 rfl rfl)
theorem dX2_at_88 : decode cX2_at 88 = .ok (.iconst 0, 1) := dk_3 (dk_at dksX2_at_3 18 rfl rfl)
theorem dX2_at_89 : decode cX2_at 89 = .ok (.iadd, 1) := dk_96 (dk_at dksX2_at_3 19 rfl rfl)
theorem dX2_at_90 : decode cX2_at 90 = .ok (.istore_n 3, 1) := dk_62 (dk_at dksX2_at_3 20 rfl rfl)
theorem dX2_at_91 : decode cX2_at 91 = .ok (.iinc 4 1, 3) := dk_132 4 1 (dk_at dksX2_at_3 21 rfl rfl)
theorem dX2_at_94 : decode cX2_at 94 = .ok (.goto (-77), 3) := dk_167 255 179 (dk_at dksX2_at_4 0 rfl rfl)
theorem dX2_at_97 : decode cX2_at 97 = .ok (.aload_n 0, 1) := dk_42 (dk_at dksX2_at_4 3 rfl rfl)
theorem dX2_at_98 : decode cX2_at 98 = .ok (.iload_n 2, 1) := dk_28 (dk_at dksX2_at_4 4 rfl rfl)
theorem dX2_at_99 : decode cX2_at 99 = .ok (.invokevirtual 106, 3) := dk_182 0 106 (dk_at dksX2_at_4 5 rfl rfl)
theorem dX2_at_102 : decode cX2_at 102 = .ok (.ifCond .eq 10, 3) := dk_153 0 10 (dk_at dksX2_at_4 8 rfl rfl)
theorem dX2_at_105 : decode cX2_at 105 = .ok (.iload_n 3, 1) := dk_29 (dk_at dksX2_at_4 11 rfl rfl)
theorem dX2_at_106 : decode cX2_at 106 = .ok (.iload_n 1, 1) := dk_27 (dk_at dksX2_at_4 12 rfl rfl)
theorem dX2_at_107 : decode cX2_at 107 = .ok (.if_icmp .ne 5, 3) := dk_160 0 5 (dk_at dksX2_at_4 13 rfl rfl)
theorem dX2_at_110 : decode cX2_at 110 = .ok (.iload_n 2, 1) := dk_28 (dk_at dksX2_at_4 16 rfl rfl)
theorem dX2_at_111 : decode cX2_at 111 = .ok (.ireturn, 1) := dk_172 (dk_at dksX2_at_4 17 rfl rfl)
theorem dX2_at_112 : decode cX2_at 112 = .ok (.iinc 2 1, 3) := dk_132 2 1 (dk_at dksX2_at_4 18 rfl rfl)
theorem dX2_at_115 : decode cX2_at 115 = .ok (.goto (-113), 3) := dk_167 255 143 (dk_at dksX2_at_4 21 rfl rfl)
theorem dX2_at_118 : decode cX2_at 118 = .ok (.iconst (-1), 1) := dk_2 (dk_at dksX2_at_5 0 rfl rfl)
theorem dX2_at_119 : decode cX2_at 119 = .ok (.ireturn, 1) := dk_172 (dk_at dksX2_at_5 1 rfl rfl)
abbrev cX2_worth : ByteArray := prog_14_method_10_code
def yX2_worth : MethodName := ⟨RX2, "worth", "(I)I"⟩
def dkwX2_worth_2 : List UInt8 := [167, 255, 213, 28, 172]
abbrev dktX2_worth_2 : List UInt8 := dkwX2_worth_2 ++ []
def dkwX2_worth_1 : List UInt8 := [4, 126, 160, 0, 15, 42, 180, 0, 9, 16, 6, 29, 96, 46, 167, 0, 4, 3, 96, 61, 132, 3, 1]
abbrev dktX2_worth_1 : List UInt8 := dkwX2_worth_1 ++ dktX2_worth_2
def dkwX2_worth_0 : List UInt8 := [3, 61, 3, 62, 29, 16, 8, 162, 0, 43, 28, 27, 29, 122, 4, 126, 42, 180, 0, 9, 5, 46, 29, 122]
abbrev dktX2_worth_0 : List UInt8 := dkwX2_worth_0 ++ dktX2_worth_1
theorem dksX2_worth_0 : cX2_worth.data.toList.drop 0 = dktX2_worth_0 := by decide +kernel
theorem dksX2_worth_1 : cX2_worth.data.toList.drop 24 = dktX2_worth_1 := dk_seg dksX2_worth_0 24 rfl rfl
theorem dksX2_worth_2 : cX2_worth.data.toList.drop 47 = dktX2_worth_2 := dk_seg dksX2_worth_1 23 rfl rfl
theorem dX2_worth_0 : decode cX2_worth 0 = .ok (.iconst 0, 1) := dk_3 (dk_at dksX2_worth_0 0 rfl rfl)
theorem dX2_worth_1 : decode cX2_worth 1 = .ok (.istore_n 2, 1) := dk_61 (dk_at dksX2_worth_0 1 rfl rfl)
theorem dX2_worth_2 : decode cX2_worth 2 = .ok (.iconst 0, 1) := dk_3 (dk_at dksX2_worth_0 2 rfl rfl)
theorem dX2_worth_3 : decode cX2_worth 3 = .ok (.istore_n 3, 1) := dk_62 (dk_at dksX2_worth_0 3 rfl rfl)
theorem dX2_worth_4 : decode cX2_worth 4 = .ok (.iload_n 3, 1) := dk_29 (dk_at dksX2_worth_0 4 rfl rfl)
theorem dX2_worth_5 : decode cX2_worth 5 = .ok (.bipush 8, 2) := dk_16 8 (dk_at dksX2_worth_0 5 rfl rfl)
theorem dX2_worth_7 : decode cX2_worth 7 = .ok (.if_icmp .ge 43, 3) := dk_162 0 43 (dk_at dksX2_worth_0 7 rfl rfl)
theorem dX2_worth_10 : decode cX2_worth 10 = .ok (.iload_n 2, 1) := dk_28 (dk_at dksX2_worth_0 10 rfl rfl)
theorem dX2_worth_11 : decode cX2_worth 11 = .ok (.iload_n 1, 1) := dk_27 (dk_at dksX2_worth_0 11 rfl rfl)
theorem dX2_worth_12 : decode cX2_worth 12 = .ok (.iload_n 3, 1) := dk_29 (dk_at dksX2_worth_0 12 rfl rfl)
theorem dX2_worth_13 : decode cX2_worth 13 = .ok (.ishr, 1) := dk_122 (dk_at dksX2_worth_0 13 rfl rfl)
theorem dX2_worth_14 : decode cX2_worth 14 = .ok (.iconst 1, 1) := dk_4 (dk_at dksX2_worth_0 14 rfl rfl)
theorem dX2_worth_15 : decode cX2_worth 15 = .ok (.iand, 1) := dk_126 (dk_at dksX2_worth_0 15 rfl rfl)
theorem dX2_worth_16 : decode cX2_worth 16 = .ok (.aload_n 0, 1) := dk_42 (dk_at dksX2_worth_0 16 rfl rfl)
theorem dX2_worth_17 : decode cX2_worth 17 = .ok (.getfield 9, 3) := dk_180 0 9 (dk_at dksX2_worth_0 17 rfl rfl)
theorem dX2_worth_20 : decode cX2_worth 20 = .ok (.iconst 2, 1) := dk_5 (dk_at dksX2_worth_0 20 rfl rfl)
theorem dX2_worth_21 : decode cX2_worth 21 = .ok (.iaload, 1) := dk_46 (dk_at dksX2_worth_0 21 rfl rfl)
theorem dX2_worth_22 : decode cX2_worth 22 = .ok (.iload_n 3, 1) := dk_29 (dk_at dksX2_worth_0 22 rfl rfl)
theorem dX2_worth_23 : decode cX2_worth 23 = .ok (.ishr, 1) := dk_122 (dk_at dksX2_worth_0 23 rfl rfl)
theorem dX2_worth_24 : decode cX2_worth 24 = .ok (.iconst 1, 1) := dk_4 (dk_at dksX2_worth_1 0 rfl rfl)
theorem dX2_worth_25 : decode cX2_worth 25 = .ok (.iand, 1) := dk_126 (dk_at dksX2_worth_1 1 rfl rfl)
theorem dX2_worth_26 : decode cX2_worth 26 = .ok (.if_icmp .ne 15, 3) := dk_160 0 15 (dk_at dksX2_worth_1 2 rfl rfl)
theorem dX2_worth_29 : decode cX2_worth 29 = .ok (.aload_n 0, 1) := dk_42 (dk_at dksX2_worth_1 5 rfl rfl)
theorem dX2_worth_30 : decode cX2_worth 30 = .ok (.getfield 9, 3) := dk_180 0 9 (dk_at dksX2_worth_1 6 rfl rfl)
theorem dX2_worth_33 : decode cX2_worth 33 = .ok (.bipush 6, 2) := dk_16 6 (dk_at dksX2_worth_1 9 rfl rfl)
theorem dX2_worth_35 : decode cX2_worth 35 = .ok (.iload_n 3, 1) := dk_29 (dk_at dksX2_worth_1 11 rfl rfl)
theorem dX2_worth_36 : decode cX2_worth 36 = .ok (.iadd, 1) := dk_96 (dk_at dksX2_worth_1 12 rfl rfl)
theorem dX2_worth_37 : decode cX2_worth 37 = .ok (.iaload, 1) := dk_46 (dk_at dksX2_worth_1 13 rfl rfl)
theorem dX2_worth_38 : decode cX2_worth 38 = .ok (.goto 4, 3) := dk_167 0 4 (dk_at dksX2_worth_1 14 rfl rfl)
theorem dX2_worth_41 : decode cX2_worth 41 = .ok (.iconst 0, 1) := dk_3 (dk_at dksX2_worth_1 17 rfl rfl)
theorem dX2_worth_42 : decode cX2_worth 42 = .ok (.iadd, 1) := dk_96 (dk_at dksX2_worth_1 18 rfl rfl)
theorem dX2_worth_43 : decode cX2_worth 43 = .ok (.istore_n 2, 1) := dk_61 (dk_at dksX2_worth_1 19 rfl rfl)
theorem dX2_worth_44 : decode cX2_worth 44 = .ok (.iinc 3 1, 3) := dk_132 3 1 (dk_at dksX2_worth_1 20 rfl rfl)
theorem dX2_worth_47 : decode cX2_worth 47 = .ok (.goto (-43), 3) := dk_167 255 213 (dk_at dksX2_worth_2 0 rfl rfl)
theorem dX2_worth_50 : decode cX2_worth 50 = .ok (.iload_n 2, 1) := dk_28 (dk_at dksX2_worth_2 3 rfl rfl)
theorem dX2_worth_51 : decode cX2_worth 51 = .ok (.ireturn, 1) := dk_172 (dk_at dksX2_worth_2 4 rfl rfl)
abbrev cX2_bulbOf : ByteArray := prog_14_method_40_code
def yX2_bulbOf : MethodName := ⟨RX2, "bulbOf", "(II)I"⟩
def dkwX2_bulbOf_5 : List UInt8 := [42, 180, 0, 9, 5, 46, 130, 184, 0, 157, 172, 16, 254, 172]
abbrev dktX2_bulbOf_5 : List UInt8 := dkwX2_bulbOf_5 ++ []
def dkwX2_bulbOf_4 : List UInt8 := [172, 42, 180, 0, 9, 29, 28, 96, 4, 100, 46, 172, 42, 27, 182, 0, 154, 172, 42, 180, 0, 9, 29, 46]
abbrev dktX2_bulbOf_4 : List UInt8 := dkwX2_bulbOf_4 ++ dktX2_bulbOf_5
def dkwX2_bulbOf_3 : List UInt8 := [96, 4, 100, 46, 154, 0, 8, 16, 252, 167, 0, 15, 42, 180, 0, 9, 29, 28, 96, 4, 100, 46, 4, 100]
abbrev dktX2_bulbOf_3 : List UInt8 := dkwX2_bulbOf_3 ++ dktX2_bulbOf_4
def dkwX2_bulbOf_2 : List UInt8 := [42, 180, 0, 9, 29, 46, 172, 42, 42, 180, 0, 9, 29, 46, 182, 0, 137, 172, 42, 180, 0, 9, 29, 28]
abbrev dktX2_bulbOf_2 : List UInt8 := dkwX2_bulbOf_2 ++ dktX2_bulbOf_3
def dkwX2_bulbOf_1 : List UInt8 := [170, 0, 0, 0, 0, 0, 0, 139, 0, 0, 0, 0, 0, 0, 0, 9, 0, 0, 0, 56, 0, 0, 0, 63, 0, 0, 0, 74, 0, 0, 0, 74, 0, 0, 0, 105, 0, 0, 0, 105, 0, 0, 0, 105, 0, 0, 0, 105, 0, 0, 0, 116, 0, 0, 0, 122]
abbrev dktX2_bulbOf_1 : List UInt8 := dkwX2_bulbOf_1 ++ dktX2_bulbOf_2
def dkwX2_bulbOf_0 : List UInt8 := [42, 27, 182, 0, 100, 154, 0, 5, 2, 172, 27, 184, 0, 58, 62, 28]
abbrev dktX2_bulbOf_0 : List UInt8 := dkwX2_bulbOf_0 ++ dktX2_bulbOf_1
theorem dksX2_bulbOf_0 : cX2_bulbOf.data.toList.drop 0 = dktX2_bulbOf_0 := by decide +kernel
theorem dksX2_bulbOf_1 : cX2_bulbOf.data.toList.drop 16 = dktX2_bulbOf_1 := dk_seg dksX2_bulbOf_0 16 rfl rfl
theorem dksX2_bulbOf_2 : cX2_bulbOf.data.toList.drop 72 = dktX2_bulbOf_2 := dk_seg dksX2_bulbOf_1 56 rfl rfl
theorem dksX2_bulbOf_3 : cX2_bulbOf.data.toList.drop 96 = dktX2_bulbOf_3 := dk_seg dksX2_bulbOf_2 24 rfl rfl
theorem dksX2_bulbOf_4 : cX2_bulbOf.data.toList.drop 120 = dktX2_bulbOf_4 := dk_seg dksX2_bulbOf_3 24 rfl rfl
theorem dksX2_bulbOf_5 : cX2_bulbOf.data.toList.drop 144 = dktX2_bulbOf_5 := dk_seg dksX2_bulbOf_4 24 rfl rfl
theorem dX2_bulbOf_0 : decode cX2_bulbOf 0 = .ok (.aload_n 0, 1) := dk_42 (dk_at dksX2_bulbOf_0 0 rfl rfl)
theorem dX2_bulbOf_1 : decode cX2_bulbOf 1 = .ok (.iload_n 1, 1) := dk_27 (dk_at dksX2_bulbOf_0 1 rfl rfl)
theorem dX2_bulbOf_2 : decode cX2_bulbOf 2 = .ok (.invokevirtual 100, 3) := dk_182 0 100 (dk_at dksX2_bulbOf_0 2 rfl rfl)
theorem dX2_bulbOf_5 : decode cX2_bulbOf 5 = .ok (.ifCond .ne 5, 3) := dk_154 0 5 (dk_at dksX2_bulbOf_0 5 rfl rfl)
theorem dX2_bulbOf_8 : decode cX2_bulbOf 8 = .ok (.iconst (-1), 1) := dk_2 (dk_at dksX2_bulbOf_0 8 rfl rfl)
theorem dX2_bulbOf_9 : decode cX2_bulbOf 9 = .ok (.ireturn, 1) := dk_172 (dk_at dksX2_bulbOf_0 9 rfl rfl)
theorem dX2_bulbOf_10 : decode cX2_bulbOf 10 = .ok (.iload_n 1, 1) := dk_27 (dk_at dksX2_bulbOf_0 10 rfl rfl)
theorem dX2_bulbOf_11 : decode cX2_bulbOf 11 = .ok (.invokestatic 58, 3) := dk_184 0 58 (dk_at dksX2_bulbOf_0 11 rfl rfl)
theorem dX2_bulbOf_14 : decode cX2_bulbOf 14 = .ok (.istore_n 3, 1) := dk_62 (dk_at dksX2_bulbOf_0 14 rfl rfl)
theorem dX2_bulbOf_15 : decode cX2_bulbOf 15 = .ok (.iload_n 2, 1) := dk_28 (dk_at dksX2_bulbOf_0 15 rfl rfl)
theorem dX2_bulbOf_16 : decode cX2_bulbOf 16 = .ok (.tableswitch 139 0 9 #[56, 63, 74, 74, 105, 105, 105, 105, 116, 122], 56) := by decide +kernel
theorem dX2_bulbOf_72 : decode cX2_bulbOf 72 = .ok (.aload_n 0, 1) := dk_42 (dk_at dksX2_bulbOf_2 0 rfl rfl)
theorem dX2_bulbOf_73 : decode cX2_bulbOf 73 = .ok (.getfield 9, 3) := dk_180 0 9 (dk_at dksX2_bulbOf_2 1 rfl rfl)
theorem dX2_bulbOf_76 : decode cX2_bulbOf 76 = .ok (.iload_n 3, 1) := dk_29 (dk_at dksX2_bulbOf_2 4 rfl rfl)
theorem dX2_bulbOf_77 : decode cX2_bulbOf 77 = .ok (.iaload, 1) := dk_46 (dk_at dksX2_bulbOf_2 5 rfl rfl)
theorem dX2_bulbOf_78 : decode cX2_bulbOf 78 = .ok (.ireturn, 1) := dk_172 (dk_at dksX2_bulbOf_2 6 rfl rfl)
theorem dX2_bulbOf_79 : decode cX2_bulbOf 79 = .ok (.aload_n 0, 1) := dk_42 (dk_at dksX2_bulbOf_2 7 rfl rfl)
theorem dX2_bulbOf_80 : decode cX2_bulbOf 80 = .ok (.aload_n 0, 1) := dk_42 (dk_at dksX2_bulbOf_2 8 rfl rfl)
theorem dX2_bulbOf_81 : decode cX2_bulbOf 81 = .ok (.getfield 9, 3) := dk_180 0 9 (dk_at dksX2_bulbOf_2 9 rfl rfl)
theorem dX2_bulbOf_84 : decode cX2_bulbOf 84 = .ok (.iload_n 3, 1) := dk_29 (dk_at dksX2_bulbOf_2 12 rfl rfl)
theorem dX2_bulbOf_85 : decode cX2_bulbOf 85 = .ok (.iaload, 1) := dk_46 (dk_at dksX2_bulbOf_2 13 rfl rfl)
theorem dX2_bulbOf_86 : decode cX2_bulbOf 86 = .ok (.invokevirtual 137, 3) := dk_182 0 137 (dk_at dksX2_bulbOf_2 14 rfl rfl)
theorem dX2_bulbOf_89 : decode cX2_bulbOf 89 = .ok (.ireturn, 1) := dk_172 (dk_at dksX2_bulbOf_2 17 rfl rfl)
theorem dX2_bulbOf_90 : decode cX2_bulbOf 90 = .ok (.aload_n 0, 1) := dk_42 (dk_at dksX2_bulbOf_2 18 rfl rfl)
theorem dX2_bulbOf_91 : decode cX2_bulbOf 91 = .ok (.getfield 9, 3) := dk_180 0 9 (dk_at dksX2_bulbOf_2 19 rfl rfl)
theorem dX2_bulbOf_94 : decode cX2_bulbOf 94 = .ok (.iload_n 3, 1) := dk_29 (dk_at dksX2_bulbOf_2 22 rfl rfl)
theorem dX2_bulbOf_95 : decode cX2_bulbOf 95 = .ok (.iload_n 2, 1) := dk_28 (dk_at dksX2_bulbOf_2 23 rfl rfl)
theorem dX2_bulbOf_96 : decode cX2_bulbOf 96 = .ok (.iadd, 1) := dk_96 (dk_at dksX2_bulbOf_3 0 rfl rfl)
theorem dX2_bulbOf_97 : decode cX2_bulbOf 97 = .ok (.iconst 1, 1) := dk_4 (dk_at dksX2_bulbOf_3 1 rfl rfl)
theorem dX2_bulbOf_98 : decode cX2_bulbOf 98 = .ok (.isub, 1) := dk_100 (dk_at dksX2_bulbOf_3 2 rfl rfl)
theorem dX2_bulbOf_99 : decode cX2_bulbOf 99 = .ok (.iaload, 1) := dk_46 (dk_at dksX2_bulbOf_3 3 rfl rfl)
theorem dX2_bulbOf_100 : decode cX2_bulbOf 100 = .ok (.ifCond .ne 8, 3) := dk_154 0 8 (dk_at dksX2_bulbOf_3 4 rfl rfl)
theorem dX2_bulbOf_103 : decode cX2_bulbOf 103 = .ok (.bipush (-4), 2) := dk_16 252 (dk_at dksX2_bulbOf_3 7 rfl rfl)
theorem dX2_bulbOf_105 : decode cX2_bulbOf 105 = .ok (.goto 15, 3) := dk_167 0 15 (dk_at dksX2_bulbOf_3 9 rfl rfl)
theorem dX2_bulbOf_108 : decode cX2_bulbOf 108 = .ok (.aload_n 0, 1) := dk_42 (dk_at dksX2_bulbOf_3 12 rfl rfl)
theorem dX2_bulbOf_109 : decode cX2_bulbOf 109 = .ok (.getfield 9, 3) := dk_180 0 9 (dk_at dksX2_bulbOf_3 13 rfl rfl)
theorem dX2_bulbOf_112 : decode cX2_bulbOf 112 = .ok (.iload_n 3, 1) := dk_29 (dk_at dksX2_bulbOf_3 16 rfl rfl)
theorem dX2_bulbOf_113 : decode cX2_bulbOf 113 = .ok (.iload_n 2, 1) := dk_28 (dk_at dksX2_bulbOf_3 17 rfl rfl)
theorem dX2_bulbOf_114 : decode cX2_bulbOf 114 = .ok (.iadd, 1) := dk_96 (dk_at dksX2_bulbOf_3 18 rfl rfl)
theorem dX2_bulbOf_115 : decode cX2_bulbOf 115 = .ok (.iconst 1, 1) := dk_4 (dk_at dksX2_bulbOf_3 19 rfl rfl)
theorem dX2_bulbOf_116 : decode cX2_bulbOf 116 = .ok (.isub, 1) := dk_100 (dk_at dksX2_bulbOf_3 20 rfl rfl)
theorem dX2_bulbOf_117 : decode cX2_bulbOf 117 = .ok (.iaload, 1) := dk_46 (dk_at dksX2_bulbOf_3 21 rfl rfl)
theorem dX2_bulbOf_118 : decode cX2_bulbOf 118 = .ok (.iconst 1, 1) := dk_4 (dk_at dksX2_bulbOf_3 22 rfl rfl)
theorem dX2_bulbOf_119 : decode cX2_bulbOf 119 = .ok (.isub, 1) := dk_100 (dk_at dksX2_bulbOf_3 23 rfl rfl)
theorem dX2_bulbOf_120 : decode cX2_bulbOf 120 = .ok (.ireturn, 1) := dk_172 (dk_at dksX2_bulbOf_4 0 rfl rfl)
theorem dX2_bulbOf_121 : decode cX2_bulbOf 121 = .ok (.aload_n 0, 1) := dk_42 (dk_at dksX2_bulbOf_4 1 rfl rfl)
theorem dX2_bulbOf_122 : decode cX2_bulbOf 122 = .ok (.getfield 9, 3) := dk_180 0 9 (dk_at dksX2_bulbOf_4 2 rfl rfl)
theorem dX2_bulbOf_125 : decode cX2_bulbOf 125 = .ok (.iload_n 3, 1) := dk_29 (dk_at dksX2_bulbOf_4 5 rfl rfl)
theorem dX2_bulbOf_126 : decode cX2_bulbOf 126 = .ok (.iload_n 2, 1) := dk_28 (dk_at dksX2_bulbOf_4 6 rfl rfl)
theorem dX2_bulbOf_127 : decode cX2_bulbOf 127 = .ok (.iadd, 1) := dk_96 (dk_at dksX2_bulbOf_4 7 rfl rfl)
theorem dX2_bulbOf_128 : decode cX2_bulbOf 128 = .ok (.iconst 1, 1) := dk_4 (dk_at dksX2_bulbOf_4 8 rfl rfl)
theorem dX2_bulbOf_129 : decode cX2_bulbOf 129 = .ok (.isub, 1) := dk_100 (dk_at dksX2_bulbOf_4 9 rfl rfl)
theorem dX2_bulbOf_130 : decode cX2_bulbOf 130 = .ok (.iaload, 1) := dk_46 (dk_at dksX2_bulbOf_4 10 rfl rfl)
theorem dX2_bulbOf_131 : decode cX2_bulbOf 131 = .ok (.ireturn, 1) := dk_172 (dk_at dksX2_bulbOf_4 11 rfl rfl)
theorem dX2_bulbOf_132 : decode cX2_bulbOf 132 = .ok (.aload_n 0, 1) := dk_42 (dk_at dksX2_bulbOf_4 12 rfl rfl)
theorem dX2_bulbOf_133 : decode cX2_bulbOf 133 = .ok (.iload_n 1, 1) := dk_27 (dk_at dksX2_bulbOf_4 13 rfl rfl)
theorem dX2_bulbOf_134 : decode cX2_bulbOf 134 = .ok (.invokevirtual 154, 3) := dk_182 0 154 (dk_at dksX2_bulbOf_4 14 rfl rfl)
theorem dX2_bulbOf_137 : decode cX2_bulbOf 137 = .ok (.ireturn, 1) := dk_172 (dk_at dksX2_bulbOf_4 17 rfl rfl)
theorem dX2_bulbOf_138 : decode cX2_bulbOf 138 = .ok (.aload_n 0, 1) := dk_42 (dk_at dksX2_bulbOf_4 18 rfl rfl)
theorem dX2_bulbOf_139 : decode cX2_bulbOf 139 = .ok (.getfield 9, 3) := dk_180 0 9 (dk_at dksX2_bulbOf_4 19 rfl rfl)
theorem dX2_bulbOf_142 : decode cX2_bulbOf 142 = .ok (.iload_n 3, 1) := dk_29 (dk_at dksX2_bulbOf_4 22 rfl rfl)
theorem dX2_bulbOf_143 : decode cX2_bulbOf 143 = .ok (.iaload, 1) := dk_46 (dk_at dksX2_bulbOf_4 23 rfl rfl)
theorem dX2_bulbOf_144 : decode cX2_bulbOf 144 = .ok (.aload_n 0, 1) := dk_42 (dk_at dksX2_bulbOf_5 0 rfl rfl)
theorem dX2_bulbOf_145 : decode cX2_bulbOf 145 = .ok (.getfield 9, 3) := dk_180 0 9 (dk_at dksX2_bulbOf_5 1 rfl rfl)
theorem dX2_bulbOf_148 : decode cX2_bulbOf 148 = .ok (.iconst 2, 1) := dk_5 (dk_at dksX2_bulbOf_5 4 rfl rfl)
theorem dX2_bulbOf_149 : decode cX2_bulbOf 149 = .ok (.iaload, 1) := dk_46 (dk_at dksX2_bulbOf_5 5 rfl rfl)
theorem dX2_bulbOf_150 : decode cX2_bulbOf 150 = .ok (.ixor, 1) := dk_130 (dk_at dksX2_bulbOf_5 6 rfl rfl)
theorem dX2_bulbOf_151 : decode cX2_bulbOf 151 = .ok (.invokestatic 157, 3) := dk_184 0 157 (dk_at dksX2_bulbOf_5 7 rfl rfl)
theorem dX2_bulbOf_154 : decode cX2_bulbOf 154 = .ok (.ireturn, 1) := dk_172 (dk_at dksX2_bulbOf_5 10 rfl rfl)
theorem dX2_bulbOf_155 : decode cX2_bulbOf 155 = .ok (.bipush (-2), 2) := dk_16 254 (dk_at dksX2_bulbOf_5 11 rfl rfl)
theorem dX2_bulbOf_157 : decode cX2_bulbOf 157 = .ok (.ireturn, 1) := dk_172 (dk_at dksX2_bulbOf_5 13 rfl rfl)
abbrev cX2_children : ByteArray := prog_14_method_41_code
def yX2_children : MethodName := ⟨RX2, "children", "(I)I"⟩
def dkwX2_children_2 : List UInt8 := [160, 0, 7, 4, 167, 0, 4, 3, 96, 61, 132, 3, 1, 167, 255, 201, 28, 172]
abbrev dktX2_children_2 : List UInt8 := dkwX2_children_2 ++ []
def dkwX2_children_1 : List UInt8 := [96, 46, 27, 4, 96, 159, 0, 20, 42, 180, 0, 9, 29, 184, 0, 58, 5, 96, 46, 27, 4, 96]
abbrev dktX2_children_1 : List UInt8 := dkwX2_children_1 ++ dktX2_children_2
def dkwX2_children_0 : List UInt8 := [3, 61, 3, 62, 29, 42, 180, 0, 9, 3, 46, 162, 0, 51, 28, 42, 180, 0, 9, 29, 184, 0, 58, 4]
abbrev dktX2_children_0 : List UInt8 := dkwX2_children_0 ++ dktX2_children_1
theorem dksX2_children_0 : cX2_children.data.toList.drop 0 = dktX2_children_0 := by decide +kernel
theorem dksX2_children_1 : cX2_children.data.toList.drop 24 = dktX2_children_1 := dk_seg dksX2_children_0 24 rfl rfl
theorem dksX2_children_2 : cX2_children.data.toList.drop 46 = dktX2_children_2 := dk_seg dksX2_children_1 22 rfl rfl
theorem dX2_children_0 : decode cX2_children 0 = .ok (.iconst 0, 1) := dk_3 (dk_at dksX2_children_0 0 rfl rfl)
theorem dX2_children_1 : decode cX2_children 1 = .ok (.istore_n 2, 1) := dk_61 (dk_at dksX2_children_0 1 rfl rfl)
theorem dX2_children_2 : decode cX2_children 2 = .ok (.iconst 0, 1) := dk_3 (dk_at dksX2_children_0 2 rfl rfl)
theorem dX2_children_3 : decode cX2_children 3 = .ok (.istore_n 3, 1) := dk_62 (dk_at dksX2_children_0 3 rfl rfl)
theorem dX2_children_4 : decode cX2_children 4 = .ok (.iload_n 3, 1) := dk_29 (dk_at dksX2_children_0 4 rfl rfl)
theorem dX2_children_5 : decode cX2_children 5 = .ok (.aload_n 0, 1) := dk_42 (dk_at dksX2_children_0 5 rfl rfl)
theorem dX2_children_6 : decode cX2_children 6 = .ok (.getfield 9, 3) := dk_180 0 9 (dk_at dksX2_children_0 6 rfl rfl)
theorem dX2_children_9 : decode cX2_children 9 = .ok (.iconst 0, 1) := dk_3 (dk_at dksX2_children_0 9 rfl rfl)
theorem dX2_children_10 : decode cX2_children 10 = .ok (.iaload, 1) := dk_46 (dk_at dksX2_children_0 10 rfl rfl)
theorem dX2_children_11 : decode cX2_children 11 = .ok (.if_icmp .ge 51, 3) := dk_162 0 51 (dk_at dksX2_children_0 11 rfl rfl)
theorem dX2_children_14 : decode cX2_children 14 = .ok (.iload_n 2, 1) := dk_28 (dk_at dksX2_children_0 14 rfl rfl)
theorem dX2_children_15 : decode cX2_children 15 = .ok (.aload_n 0, 1) := dk_42 (dk_at dksX2_children_0 15 rfl rfl)
theorem dX2_children_16 : decode cX2_children 16 = .ok (.getfield 9, 3) := dk_180 0 9 (dk_at dksX2_children_0 16 rfl rfl)
theorem dX2_children_19 : decode cX2_children 19 = .ok (.iload_n 3, 1) := dk_29 (dk_at dksX2_children_0 19 rfl rfl)
theorem dX2_children_20 : decode cX2_children 20 = .ok (.invokestatic 58, 3) := dk_184 0 58 (dk_at dksX2_children_0 20 rfl rfl)
theorem dX2_children_23 : decode cX2_children 23 = .ok (.iconst 1, 1) := dk_4 (dk_at dksX2_children_0 23 rfl rfl)
theorem dX2_children_24 : decode cX2_children 24 = .ok (.iadd, 1) := dk_96 (dk_at dksX2_children_1 0 rfl rfl)
theorem dX2_children_25 : decode cX2_children 25 = .ok (.iaload, 1) := dk_46 (dk_at dksX2_children_1 1 rfl rfl)
theorem dX2_children_26 : decode cX2_children 26 = .ok (.iload_n 1, 1) := dk_27 (dk_at dksX2_children_1 2 rfl rfl)
theorem dX2_children_27 : decode cX2_children 27 = .ok (.iconst 1, 1) := dk_4 (dk_at dksX2_children_1 3 rfl rfl)
theorem dX2_children_28 : decode cX2_children 28 = .ok (.iadd, 1) := dk_96 (dk_at dksX2_children_1 4 rfl rfl)
theorem dX2_children_29 : decode cX2_children 29 = .ok (.if_icmp .eq 20, 3) := dk_159 0 20 (dk_at dksX2_children_1 5 rfl rfl)
theorem dX2_children_32 : decode cX2_children 32 = .ok (.aload_n 0, 1) := dk_42 (dk_at dksX2_children_1 8 rfl rfl)
theorem dX2_children_33 : decode cX2_children 33 = .ok (.getfield 9, 3) := dk_180 0 9 (dk_at dksX2_children_1 9 rfl rfl)
theorem dX2_children_36 : decode cX2_children 36 = .ok (.iload_n 3, 1) := dk_29 (dk_at dksX2_children_1 12 rfl rfl)
theorem dX2_children_37 : decode cX2_children 37 = .ok (.invokestatic 58, 3) := dk_184 0 58 (dk_at dksX2_children_1 13 rfl rfl)
theorem dX2_children_40 : decode cX2_children 40 = .ok (.iconst 2, 1) := dk_5 (dk_at dksX2_children_1 16 rfl rfl)
theorem dX2_children_41 : decode cX2_children 41 = .ok (.iadd, 1) := dk_96 (dk_at dksX2_children_1 17 rfl rfl)
theorem dX2_children_42 : decode cX2_children 42 = .ok (.iaload, 1) := dk_46 (dk_at dksX2_children_1 18 rfl rfl)
theorem dX2_children_43 : decode cX2_children 43 = .ok (.iload_n 1, 1) := dk_27 (dk_at dksX2_children_1 19 rfl rfl)
theorem dX2_children_44 : decode cX2_children 44 = .ok (.iconst 1, 1) := dk_4 (dk_at dksX2_children_1 20 rfl rfl)
theorem dX2_children_45 : decode cX2_children 45 = .ok (.iadd, 1) := dk_96 (dk_at dksX2_children_1 21 rfl rfl)
theorem dX2_children_46 : decode cX2_children 46 = .ok (.if_icmp .ne 7, 3) := dk_160 0 7 (dk_at dksX2_children_2 0 rfl rfl)
theorem dX2_children_49 : decode cX2_children 49 = .ok (.iconst 1, 1) := dk_4 (dk_at dksX2_children_2 3 rfl rfl)
theorem dX2_children_50 : decode cX2_children 50 = .ok (.goto 4, 3) := dk_167 0 4 (dk_at dksX2_children_2 4 rfl rfl)
theorem dX2_children_53 : decode cX2_children 53 = .ok (.iconst 0, 1) := dk_3 (dk_at dksX2_children_2 7 rfl rfl)
theorem dX2_children_54 : decode cX2_children 54 = .ok (.iadd, 1) := dk_96 (dk_at dksX2_children_2 8 rfl rfl)
theorem dX2_children_55 : decode cX2_children 55 = .ok (.istore_n 2, 1) := dk_61 (dk_at dksX2_children_2 9 rfl rfl)
theorem dX2_children_56 : decode cX2_children 56 = .ok (.iinc 3 1, 3) := dk_132 3 1 (dk_at dksX2_children_2 10 rfl rfl)
theorem dX2_children_59 : decode cX2_children 59 = .ok (.goto (-55), 3) := dk_167 255 201 (dk_at dksX2_children_2 13 rfl rfl)
theorem dX2_children_62 : decode cX2_children 62 = .ok (.iload_n 2, 1) := dk_28 (dk_at dksX2_children_2 16 rfl rfl)
theorem dX2_children_63 : decode cX2_children 63 = .ok (.ireturn, 1) := dk_172 (dk_at dksX2_children_2 17 rfl rfl)
abbrev cX2_ones : ByteArray := prog_14_method_11_code
def yX2_ones : MethodName := ⟨RX2, "ones", "(I)I"⟩
def dkwX2_ones_1 : List UInt8 := [27, 172]
abbrev dktX2_ones_1 : List UInt8 := dkwX2_ones_1 ++ []
def dkwX2_ones_0 : List UInt8 := [3, 60, 3, 61, 28, 16, 8, 162, 0, 17, 27, 26, 28, 122, 4, 126, 96, 60, 132, 2, 1, 167, 255, 239]
abbrev dktX2_ones_0 : List UInt8 := dkwX2_ones_0 ++ dktX2_ones_1
theorem dksX2_ones_0 : cX2_ones.data.toList.drop 0 = dktX2_ones_0 := by decide +kernel
theorem dksX2_ones_1 : cX2_ones.data.toList.drop 24 = dktX2_ones_1 := dk_seg dksX2_ones_0 24 rfl rfl
theorem dX2_ones_0 : decode cX2_ones 0 = .ok (.iconst 0, 1) := dk_3 (dk_at dksX2_ones_0 0 rfl rfl)
theorem dX2_ones_1 : decode cX2_ones 1 = .ok (.istore_n 1, 1) := dk_60 (dk_at dksX2_ones_0 1 rfl rfl)
theorem dX2_ones_2 : decode cX2_ones 2 = .ok (.iconst 0, 1) := dk_3 (dk_at dksX2_ones_0 2 rfl rfl)
theorem dX2_ones_3 : decode cX2_ones 3 = .ok (.istore_n 2, 1) := dk_61 (dk_at dksX2_ones_0 3 rfl rfl)
theorem dX2_ones_4 : decode cX2_ones 4 = .ok (.iload_n 2, 1) := dk_28 (dk_at dksX2_ones_0 4 rfl rfl)
theorem dX2_ones_5 : decode cX2_ones 5 = .ok (.bipush 8, 2) := dk_16 8 (dk_at dksX2_ones_0 5 rfl rfl)
theorem dX2_ones_7 : decode cX2_ones 7 = .ok (.if_icmp .ge 17, 3) := dk_162 0 17 (dk_at dksX2_ones_0 7 rfl rfl)
theorem dX2_ones_10 : decode cX2_ones 10 = .ok (.iload_n 1, 1) := dk_27 (dk_at dksX2_ones_0 10 rfl rfl)
theorem dX2_ones_11 : decode cX2_ones 11 = .ok (.iload_n 0, 1) := dk_26 (dk_at dksX2_ones_0 11 rfl rfl)
theorem dX2_ones_12 : decode cX2_ones 12 = .ok (.iload_n 2, 1) := dk_28 (dk_at dksX2_ones_0 12 rfl rfl)
theorem dX2_ones_13 : decode cX2_ones 13 = .ok (.ishr, 1) := dk_122 (dk_at dksX2_ones_0 13 rfl rfl)
theorem dX2_ones_14 : decode cX2_ones 14 = .ok (.iconst 1, 1) := dk_4 (dk_at dksX2_ones_0 14 rfl rfl)
theorem dX2_ones_15 : decode cX2_ones 15 = .ok (.iand, 1) := dk_126 (dk_at dksX2_ones_0 15 rfl rfl)
theorem dX2_ones_16 : decode cX2_ones 16 = .ok (.iadd, 1) := dk_96 (dk_at dksX2_ones_0 16 rfl rfl)
theorem dX2_ones_17 : decode cX2_ones 17 = .ok (.istore_n 1, 1) := dk_60 (dk_at dksX2_ones_0 17 rfl rfl)
theorem dX2_ones_18 : decode cX2_ones 18 = .ok (.iinc 2 1, 3) := dk_132 2 1 (dk_at dksX2_ones_0 18 rfl rfl)
theorem dX2_ones_21 : decode cX2_ones 21 = .ok (.goto (-17), 3) := dk_167 255 239 (dk_at dksX2_ones_0 21 rfl rfl)
theorem dX2_ones_24 : decode cX2_ones 24 = .ok (.iload_n 1, 1) := dk_27 (dk_at dksX2_ones_1 0 rfl rfl)
theorem dX2_ones_25 : decode cX2_ones 25 = .ok (.ireturn, 1) := dk_172 (dk_at dksX2_ones_1 1 rfl rfl)
abbrev cX2_areKin : ByteArray := prog_14_method_42_code
def yX2_areKin : MethodName := ⟨RX2, "areKin", "(II)I"⟩
def dkwX2_areKin_4 : List UInt8 := [3, 62, 132, 4, 1, 167, 255, 216, 29, 153, 0, 7, 4, 167, 0, 4, 3, 172]
abbrev dktX2_areKin_4 : List UInt8 := dkwX2_areKin_4 ++ []
def dkwX2_areKin_3 : List UInt8 := [42, 180, 0, 36, 21, 4, 51, 153, 0, 17, 42, 180, 0, 32, 21, 4, 51, 153, 0, 7, 4, 167, 0, 4]
abbrev dktX2_areKin_3 : List UInt8 := dkwX2_areKin_3 ++ dktX2_areKin_4
def dkwX2_areKin_2 : List UInt8 := [167, 255, 235, 42, 28, 182, 0, 160, 3, 62, 3, 54, 4, 21, 4, 16, 40, 162, 0, 39, 29, 154, 0, 23]
abbrev dktX2_areKin_2 : List UInt8 := dkwX2_areKin_2 ++ dktX2_areKin_3
def dkwX2_areKin_1 : List UInt8 := [62, 29, 16, 40, 162, 0, 21, 42, 180, 0, 36, 29, 42, 180, 0, 32, 29, 51, 84, 132, 3, 1]
abbrev dktX2_areKin_1 : List UInt8 := dkwX2_areKin_1 ++ dktX2_areKin_2
def dkwX2_areKin_0 : List UInt8 := [42, 27, 182, 0, 100, 153, 0, 11, 42, 28, 182, 0, 100, 154, 0, 5, 2, 172, 42, 27, 182, 0, 160, 3]
abbrev dktX2_areKin_0 : List UInt8 := dkwX2_areKin_0 ++ dktX2_areKin_1
theorem dksX2_areKin_0 : cX2_areKin.data.toList.drop 0 = dktX2_areKin_0 := by decide +kernel
theorem dksX2_areKin_1 : cX2_areKin.data.toList.drop 24 = dktX2_areKin_1 := dk_seg dksX2_areKin_0 24 rfl rfl
theorem dksX2_areKin_2 : cX2_areKin.data.toList.drop 46 = dktX2_areKin_2 := dk_seg dksX2_areKin_1 22 rfl rfl
theorem dksX2_areKin_3 : cX2_areKin.data.toList.drop 70 = dktX2_areKin_3 := dk_seg dksX2_areKin_2 24 rfl rfl
theorem dksX2_areKin_4 : cX2_areKin.data.toList.drop 94 = dktX2_areKin_4 := dk_seg dksX2_areKin_3 24 rfl rfl
theorem dX2_areKin_0 : decode cX2_areKin 0 = .ok (.aload_n 0, 1) := dk_42 (dk_at dksX2_areKin_0 0 rfl rfl)
theorem dX2_areKin_1 : decode cX2_areKin 1 = .ok (.iload_n 1, 1) := dk_27 (dk_at dksX2_areKin_0 1 rfl rfl)
theorem dX2_areKin_2 : decode cX2_areKin 2 = .ok (.invokevirtual 100, 3) := dk_182 0 100 (dk_at dksX2_areKin_0 2 rfl rfl)
theorem dX2_areKin_5 : decode cX2_areKin 5 = .ok (.ifCond .eq 11, 3) := dk_153 0 11 (dk_at dksX2_areKin_0 5 rfl rfl)
theorem dX2_areKin_8 : decode cX2_areKin 8 = .ok (.aload_n 0, 1) := dk_42 (dk_at dksX2_areKin_0 8 rfl rfl)
theorem dX2_areKin_9 : decode cX2_areKin 9 = .ok (.iload_n 2, 1) := dk_28 (dk_at dksX2_areKin_0 9 rfl rfl)
theorem dX2_areKin_10 : decode cX2_areKin 10 = .ok (.invokevirtual 100, 3) := dk_182 0 100 (dk_at dksX2_areKin_0 10 rfl rfl)
theorem dX2_areKin_13 : decode cX2_areKin 13 = .ok (.ifCond .ne 5, 3) := dk_154 0 5 (dk_at dksX2_areKin_0 13 rfl rfl)
theorem dX2_areKin_16 : decode cX2_areKin 16 = .ok (.iconst (-1), 1) := dk_2 (dk_at dksX2_areKin_0 16 rfl rfl)
theorem dX2_areKin_17 : decode cX2_areKin 17 = .ok (.ireturn, 1) := dk_172 (dk_at dksX2_areKin_0 17 rfl rfl)
theorem dX2_areKin_18 : decode cX2_areKin 18 = .ok (.aload_n 0, 1) := dk_42 (dk_at dksX2_areKin_0 18 rfl rfl)
theorem dX2_areKin_19 : decode cX2_areKin 19 = .ok (.iload_n 1, 1) := dk_27 (dk_at dksX2_areKin_0 19 rfl rfl)
theorem dX2_areKin_20 : decode cX2_areKin 20 = .ok (.invokevirtual 160, 3) := dk_182 0 160 (dk_at dksX2_areKin_0 20 rfl rfl)
theorem dX2_areKin_23 : decode cX2_areKin 23 = .ok (.iconst 0, 1) := dk_3 (dk_at dksX2_areKin_0 23 rfl rfl)
theorem dX2_areKin_24 : decode cX2_areKin 24 = .ok (.istore_n 3, 1) := dk_62 (dk_at dksX2_areKin_1 0 rfl rfl)
theorem dX2_areKin_25 : decode cX2_areKin 25 = .ok (.iload_n 3, 1) := dk_29 (dk_at dksX2_areKin_1 1 rfl rfl)
theorem dX2_areKin_26 : decode cX2_areKin 26 = .ok (.bipush 40, 2) := dk_16 40 (dk_at dksX2_areKin_1 2 rfl rfl)
theorem dX2_areKin_28 : decode cX2_areKin 28 = .ok (.if_icmp .ge 21, 3) := dk_162 0 21 (dk_at dksX2_areKin_1 4 rfl rfl)
theorem dX2_areKin_31 : decode cX2_areKin 31 = .ok (.aload_n 0, 1) := dk_42 (dk_at dksX2_areKin_1 7 rfl rfl)
theorem dX2_areKin_32 : decode cX2_areKin 32 = .ok (.getfield 36, 3) := dk_180 0 36 (dk_at dksX2_areKin_1 8 rfl rfl)
theorem dX2_areKin_35 : decode cX2_areKin 35 = .ok (.iload_n 3, 1) := dk_29 (dk_at dksX2_areKin_1 11 rfl rfl)
theorem dX2_areKin_36 : decode cX2_areKin 36 = .ok (.aload_n 0, 1) := dk_42 (dk_at dksX2_areKin_1 12 rfl rfl)
theorem dX2_areKin_37 : decode cX2_areKin 37 = .ok (.getfield 32, 3) := dk_180 0 32 (dk_at dksX2_areKin_1 13 rfl rfl)
theorem dX2_areKin_40 : decode cX2_areKin 40 = .ok (.iload_n 3, 1) := dk_29 (dk_at dksX2_areKin_1 16 rfl rfl)
theorem dX2_areKin_41 : decode cX2_areKin 41 = .ok (.baload, 1) := dk_51 (dk_at dksX2_areKin_1 17 rfl rfl)
theorem dX2_areKin_42 : decode cX2_areKin 42 = .ok (.bastore, 1) := dk_84 (dk_at dksX2_areKin_1 18 rfl rfl)
theorem dX2_areKin_43 : decode cX2_areKin 43 = .ok (.iinc 3 1, 3) := dk_132 3 1 (dk_at dksX2_areKin_1 19 rfl rfl)
theorem dX2_areKin_46 : decode cX2_areKin 46 = .ok (.goto (-21), 3) := dk_167 255 235 (dk_at dksX2_areKin_2 0 rfl rfl)
theorem dX2_areKin_49 : decode cX2_areKin 49 = .ok (.aload_n 0, 1) := dk_42 (dk_at dksX2_areKin_2 3 rfl rfl)
theorem dX2_areKin_50 : decode cX2_areKin 50 = .ok (.iload_n 2, 1) := dk_28 (dk_at dksX2_areKin_2 4 rfl rfl)
theorem dX2_areKin_51 : decode cX2_areKin 51 = .ok (.invokevirtual 160, 3) := dk_182 0 160 (dk_at dksX2_areKin_2 5 rfl rfl)
theorem dX2_areKin_54 : decode cX2_areKin 54 = .ok (.iconst 0, 1) := dk_3 (dk_at dksX2_areKin_2 8 rfl rfl)
theorem dX2_areKin_55 : decode cX2_areKin 55 = .ok (.istore_n 3, 1) := dk_62 (dk_at dksX2_areKin_2 9 rfl rfl)
theorem dX2_areKin_56 : decode cX2_areKin 56 = .ok (.iconst 0, 1) := dk_3 (dk_at dksX2_areKin_2 10 rfl rfl)
theorem dX2_areKin_57 : decode cX2_areKin 57 = .ok (.istore 4, 2) := dk_54 4 (dk_at dksX2_areKin_2 11 rfl rfl)
theorem dX2_areKin_59 : decode cX2_areKin 59 = .ok (.iload 4, 2) := dk_21 4 (dk_at dksX2_areKin_2 13 rfl rfl)
theorem dX2_areKin_61 : decode cX2_areKin 61 = .ok (.bipush 40, 2) := dk_16 40 (dk_at dksX2_areKin_2 15 rfl rfl)
theorem dX2_areKin_63 : decode cX2_areKin 63 = .ok (.if_icmp .ge 39, 3) := dk_162 0 39 (dk_at dksX2_areKin_2 17 rfl rfl)
theorem dX2_areKin_66 : decode cX2_areKin 66 = .ok (.iload_n 3, 1) := dk_29 (dk_at dksX2_areKin_2 20 rfl rfl)
theorem dX2_areKin_67 : decode cX2_areKin 67 = .ok (.ifCond .ne 23, 3) := dk_154 0 23 (dk_at dksX2_areKin_2 21 rfl rfl)
theorem dX2_areKin_70 : decode cX2_areKin 70 = .ok (.aload_n 0, 1) := dk_42 (dk_at dksX2_areKin_3 0 rfl rfl)
theorem dX2_areKin_71 : decode cX2_areKin 71 = .ok (.getfield 36, 3) := dk_180 0 36 (dk_at dksX2_areKin_3 1 rfl rfl)
theorem dX2_areKin_74 : decode cX2_areKin 74 = .ok (.iload 4, 2) := dk_21 4 (dk_at dksX2_areKin_3 4 rfl rfl)
theorem dX2_areKin_76 : decode cX2_areKin 76 = .ok (.baload, 1) := dk_51 (dk_at dksX2_areKin_3 6 rfl rfl)
theorem dX2_areKin_77 : decode cX2_areKin 77 = .ok (.ifCond .eq 17, 3) := dk_153 0 17 (dk_at dksX2_areKin_3 7 rfl rfl)
theorem dX2_areKin_80 : decode cX2_areKin 80 = .ok (.aload_n 0, 1) := dk_42 (dk_at dksX2_areKin_3 10 rfl rfl)
theorem dX2_areKin_81 : decode cX2_areKin 81 = .ok (.getfield 32, 3) := dk_180 0 32 (dk_at dksX2_areKin_3 11 rfl rfl)
theorem dX2_areKin_84 : decode cX2_areKin 84 = .ok (.iload 4, 2) := dk_21 4 (dk_at dksX2_areKin_3 14 rfl rfl)
theorem dX2_areKin_86 : decode cX2_areKin 86 = .ok (.baload, 1) := dk_51 (dk_at dksX2_areKin_3 16 rfl rfl)
theorem dX2_areKin_87 : decode cX2_areKin 87 = .ok (.ifCond .eq 7, 3) := dk_153 0 7 (dk_at dksX2_areKin_3 17 rfl rfl)
theorem dX2_areKin_90 : decode cX2_areKin 90 = .ok (.iconst 1, 1) := dk_4 (dk_at dksX2_areKin_3 20 rfl rfl)
theorem dX2_areKin_91 : decode cX2_areKin 91 = .ok (.goto 4, 3) := dk_167 0 4 (dk_at dksX2_areKin_3 21 rfl rfl)
theorem dX2_areKin_94 : decode cX2_areKin 94 = .ok (.iconst 0, 1) := dk_3 (dk_at dksX2_areKin_4 0 rfl rfl)
theorem dX2_areKin_95 : decode cX2_areKin 95 = .ok (.istore_n 3, 1) := dk_62 (dk_at dksX2_areKin_4 1 rfl rfl)
theorem dX2_areKin_96 : decode cX2_areKin 96 = .ok (.iinc 4 1, 3) := dk_132 4 1 (dk_at dksX2_areKin_4 2 rfl rfl)
theorem dX2_areKin_99 : decode cX2_areKin 99 = .ok (.goto (-40), 3) := dk_167 255 216 (dk_at dksX2_areKin_4 5 rfl rfl)
theorem dX2_areKin_102 : decode cX2_areKin 102 = .ok (.iload_n 3, 1) := dk_29 (dk_at dksX2_areKin_4 8 rfl rfl)
theorem dX2_areKin_103 : decode cX2_areKin 103 = .ok (.ifCond .eq 7, 3) := dk_153 0 7 (dk_at dksX2_areKin_4 9 rfl rfl)
theorem dX2_areKin_106 : decode cX2_areKin 106 = .ok (.iconst 1, 1) := dk_4 (dk_at dksX2_areKin_4 12 rfl rfl)
theorem dX2_areKin_107 : decode cX2_areKin 107 = .ok (.goto 4, 3) := dk_167 0 4 (dk_at dksX2_areKin_4 13 rfl rfl)
theorem dX2_areKin_110 : decode cX2_areKin 110 = .ok (.iconst 0, 1) := dk_3 (dk_at dksX2_areKin_4 16 rfl rfl)
theorem dX2_areKin_111 : decode cX2_areKin 111 = .ok (.ireturn, 1) := dk_172 (dk_at dksX2_areKin_4 17 rfl rfl)
abbrev cX2_marksUp : ByteArray := prog_14_method_38_code
def yX2_marksUp : MethodName := ⟨RX2, "marksUp", "(I)V"⟩
def dkwX2_marksUp_4 : List UInt8 := [46, 4, 100, 4, 84, 132, 2, 255, 167, 255, 188, 177]
abbrev dktX2_marksUp_4 : List UInt8 := dkwX2_marksUp_4 ++ []
def dkwX2_marksUp_3 : List UInt8 := [184, 0, 58, 4, 96, 46, 4, 100, 4, 84, 42, 180, 0, 32, 42, 180, 0, 9, 28, 184, 0, 58, 5, 96]
abbrev dktX2_marksUp_3 : List UInt8 := dkwX2_marksUp_3 ++ dktX2_marksUp_4
def dkwX2_marksUp_2 : List UInt8 := [180, 0, 9, 28, 184, 0, 58, 4, 96, 46, 158, 0, 41, 42, 180, 0, 32, 42, 180, 0, 9, 28]
abbrev dktX2_marksUp_2 : List UInt8 := dkwX2_marksUp_2 ++ dktX2_marksUp_3
def dkwX2_marksUp_1 : List UInt8 := [132, 2, 1, 167, 255, 231, 27, 61, 28, 155, 0, 70, 42, 180, 0, 32, 28, 51, 153, 0, 55, 42]
abbrev dktX2_marksUp_1 : List UInt8 := dkwX2_marksUp_1 ++ dktX2_marksUp_2
def dkwX2_marksUp_0 : List UInt8 := [3, 61, 28, 16, 40, 162, 0, 25, 42, 180, 0, 32, 28, 28, 27, 160, 0, 7, 4, 167, 0, 4, 3, 84]
abbrev dktX2_marksUp_0 : List UInt8 := dkwX2_marksUp_0 ++ dktX2_marksUp_1
theorem dksX2_marksUp_0 : cX2_marksUp.data.toList.drop 0 = dktX2_marksUp_0 := by decide +kernel
theorem dksX2_marksUp_1 : cX2_marksUp.data.toList.drop 24 = dktX2_marksUp_1 := dk_seg dksX2_marksUp_0 24 rfl rfl
theorem dksX2_marksUp_2 : cX2_marksUp.data.toList.drop 46 = dktX2_marksUp_2 := dk_seg dksX2_marksUp_1 22 rfl rfl
theorem dksX2_marksUp_3 : cX2_marksUp.data.toList.drop 68 = dktX2_marksUp_3 := dk_seg dksX2_marksUp_2 22 rfl rfl
theorem dksX2_marksUp_4 : cX2_marksUp.data.toList.drop 92 = dktX2_marksUp_4 := dk_seg dksX2_marksUp_3 24 rfl rfl
theorem dX2_marksUp_0 : decode cX2_marksUp 0 = .ok (.iconst 0, 1) := dk_3 (dk_at dksX2_marksUp_0 0 rfl rfl)
theorem dX2_marksUp_1 : decode cX2_marksUp 1 = .ok (.istore_n 2, 1) := dk_61 (dk_at dksX2_marksUp_0 1 rfl rfl)
theorem dX2_marksUp_2 : decode cX2_marksUp 2 = .ok (.iload_n 2, 1) := dk_28 (dk_at dksX2_marksUp_0 2 rfl rfl)
theorem dX2_marksUp_3 : decode cX2_marksUp 3 = .ok (.bipush 40, 2) := dk_16 40 (dk_at dksX2_marksUp_0 3 rfl rfl)
theorem dX2_marksUp_5 : decode cX2_marksUp 5 = .ok (.if_icmp .ge 25, 3) := dk_162 0 25 (dk_at dksX2_marksUp_0 5 rfl rfl)
theorem dX2_marksUp_8 : decode cX2_marksUp 8 = .ok (.aload_n 0, 1) := dk_42 (dk_at dksX2_marksUp_0 8 rfl rfl)
theorem dX2_marksUp_9 : decode cX2_marksUp 9 = .ok (.getfield 32, 3) := dk_180 0 32 (dk_at dksX2_marksUp_0 9 rfl rfl)
theorem dX2_marksUp_12 : decode cX2_marksUp 12 = .ok (.iload_n 2, 1) := dk_28 (dk_at dksX2_marksUp_0 12 rfl rfl)
theorem dX2_marksUp_13 : decode cX2_marksUp 13 = .ok (.iload_n 2, 1) := dk_28 (dk_at dksX2_marksUp_0 13 rfl rfl)
theorem dX2_marksUp_14 : decode cX2_marksUp 14 = .ok (.iload_n 1, 1) := dk_27 (dk_at dksX2_marksUp_0 14 rfl rfl)
theorem dX2_marksUp_15 : decode cX2_marksUp 15 = .ok (.if_icmp .ne 7, 3) := dk_160 0 7 (dk_at dksX2_marksUp_0 15 rfl rfl)
theorem dX2_marksUp_18 : decode cX2_marksUp 18 = .ok (.iconst 1, 1) := dk_4 (dk_at dksX2_marksUp_0 18 rfl rfl)
theorem dX2_marksUp_19 : decode cX2_marksUp 19 = .ok (.goto 4, 3) := dk_167 0 4 (dk_at dksX2_marksUp_0 19 rfl rfl)
theorem dX2_marksUp_22 : decode cX2_marksUp 22 = .ok (.iconst 0, 1) := dk_3 (dk_at dksX2_marksUp_0 22 rfl rfl)
theorem dX2_marksUp_23 : decode cX2_marksUp 23 = .ok (.bastore, 1) := dk_84 (dk_at dksX2_marksUp_0 23 rfl rfl)
theorem dX2_marksUp_24 : decode cX2_marksUp 24 = .ok (.iinc 2 1, 3) := dk_132 2 1 (dk_at dksX2_marksUp_1 0 rfl rfl)
theorem dX2_marksUp_27 : decode cX2_marksUp 27 = .ok (.goto (-25), 3) := dk_167 255 231 (dk_at dksX2_marksUp_1 3 rfl rfl)
theorem dX2_marksUp_30 : decode cX2_marksUp 30 = .ok (.iload_n 1, 1) := dk_27 (dk_at dksX2_marksUp_1 6 rfl rfl)
theorem dX2_marksUp_31 : decode cX2_marksUp 31 = .ok (.istore_n 2, 1) := dk_61 (dk_at dksX2_marksUp_1 7 rfl rfl)
theorem dX2_marksUp_32 : decode cX2_marksUp 32 = .ok (.iload_n 2, 1) := dk_28 (dk_at dksX2_marksUp_1 8 rfl rfl)
theorem dX2_marksUp_33 : decode cX2_marksUp 33 = .ok (.ifCond .lt 70, 3) := dk_155 0 70 (dk_at dksX2_marksUp_1 9 rfl rfl)
theorem dX2_marksUp_36 : decode cX2_marksUp 36 = .ok (.aload_n 0, 1) := dk_42 (dk_at dksX2_marksUp_1 12 rfl rfl)
theorem dX2_marksUp_37 : decode cX2_marksUp 37 = .ok (.getfield 32, 3) := dk_180 0 32 (dk_at dksX2_marksUp_1 13 rfl rfl)
theorem dX2_marksUp_40 : decode cX2_marksUp 40 = .ok (.iload_n 2, 1) := dk_28 (dk_at dksX2_marksUp_1 16 rfl rfl)
theorem dX2_marksUp_41 : decode cX2_marksUp 41 = .ok (.baload, 1) := dk_51 (dk_at dksX2_marksUp_1 17 rfl rfl)
theorem dX2_marksUp_42 : decode cX2_marksUp 42 = .ok (.ifCond .eq 55, 3) := dk_153 0 55 (dk_at dksX2_marksUp_1 18 rfl rfl)
theorem dX2_marksUp_45 : decode cX2_marksUp 45 = .ok (.aload_n 0, 1) := dk_42 (dk_at dksX2_marksUp_1 21 rfl rfl)
theorem dX2_marksUp_46 : decode cX2_marksUp 46 = .ok (.getfield 9, 3) := dk_180 0 9 (dk_at dksX2_marksUp_2 0 rfl rfl)
theorem dX2_marksUp_49 : decode cX2_marksUp 49 = .ok (.iload_n 2, 1) := dk_28 (dk_at dksX2_marksUp_2 3 rfl rfl)
theorem dX2_marksUp_50 : decode cX2_marksUp 50 = .ok (.invokestatic 58, 3) := dk_184 0 58 (dk_at dksX2_marksUp_2 4 rfl rfl)
theorem dX2_marksUp_53 : decode cX2_marksUp 53 = .ok (.iconst 1, 1) := dk_4 (dk_at dksX2_marksUp_2 7 rfl rfl)
theorem dX2_marksUp_54 : decode cX2_marksUp 54 = .ok (.iadd, 1) := dk_96 (dk_at dksX2_marksUp_2 8 rfl rfl)
theorem dX2_marksUp_55 : decode cX2_marksUp 55 = .ok (.iaload, 1) := dk_46 (dk_at dksX2_marksUp_2 9 rfl rfl)
theorem dX2_marksUp_56 : decode cX2_marksUp 56 = .ok (.ifCond .le 41, 3) := dk_158 0 41 (dk_at dksX2_marksUp_2 10 rfl rfl)
theorem dX2_marksUp_59 : decode cX2_marksUp 59 = .ok (.aload_n 0, 1) := dk_42 (dk_at dksX2_marksUp_2 13 rfl rfl)
theorem dX2_marksUp_60 : decode cX2_marksUp 60 = .ok (.getfield 32, 3) := dk_180 0 32 (dk_at dksX2_marksUp_2 14 rfl rfl)
theorem dX2_marksUp_63 : decode cX2_marksUp 63 = .ok (.aload_n 0, 1) := dk_42 (dk_at dksX2_marksUp_2 17 rfl rfl)
theorem dX2_marksUp_64 : decode cX2_marksUp 64 = .ok (.getfield 9, 3) := dk_180 0 9 (dk_at dksX2_marksUp_2 18 rfl rfl)
theorem dX2_marksUp_67 : decode cX2_marksUp 67 = .ok (.iload_n 2, 1) := dk_28 (dk_at dksX2_marksUp_2 21 rfl rfl)
theorem dX2_marksUp_68 : decode cX2_marksUp 68 = .ok (.invokestatic 58, 3) := dk_184 0 58 (dk_at dksX2_marksUp_3 0 rfl rfl)
theorem dX2_marksUp_71 : decode cX2_marksUp 71 = .ok (.iconst 1, 1) := dk_4 (dk_at dksX2_marksUp_3 3 rfl rfl)
theorem dX2_marksUp_72 : decode cX2_marksUp 72 = .ok (.iadd, 1) := dk_96 (dk_at dksX2_marksUp_3 4 rfl rfl)
theorem dX2_marksUp_73 : decode cX2_marksUp 73 = .ok (.iaload, 1) := dk_46 (dk_at dksX2_marksUp_3 5 rfl rfl)
theorem dX2_marksUp_74 : decode cX2_marksUp 74 = .ok (.iconst 1, 1) := dk_4 (dk_at dksX2_marksUp_3 6 rfl rfl)
theorem dX2_marksUp_75 : decode cX2_marksUp 75 = .ok (.isub, 1) := dk_100 (dk_at dksX2_marksUp_3 7 rfl rfl)
theorem dX2_marksUp_76 : decode cX2_marksUp 76 = .ok (.iconst 1, 1) := dk_4 (dk_at dksX2_marksUp_3 8 rfl rfl)
theorem dX2_marksUp_77 : decode cX2_marksUp 77 = .ok (.bastore, 1) := dk_84 (dk_at dksX2_marksUp_3 9 rfl rfl)
theorem dX2_marksUp_78 : decode cX2_marksUp 78 = .ok (.aload_n 0, 1) := dk_42 (dk_at dksX2_marksUp_3 10 rfl rfl)
theorem dX2_marksUp_79 : decode cX2_marksUp 79 = .ok (.getfield 32, 3) := dk_180 0 32 (dk_at dksX2_marksUp_3 11 rfl rfl)
theorem dX2_marksUp_82 : decode cX2_marksUp 82 = .ok (.aload_n 0, 1) := dk_42 (dk_at dksX2_marksUp_3 14 rfl rfl)
theorem dX2_marksUp_83 : decode cX2_marksUp 83 = .ok (.getfield 9, 3) := dk_180 0 9 (dk_at dksX2_marksUp_3 15 rfl rfl)
theorem dX2_marksUp_86 : decode cX2_marksUp 86 = .ok (.iload_n 2, 1) := dk_28 (dk_at dksX2_marksUp_3 18 rfl rfl)
theorem dX2_marksUp_87 : decode cX2_marksUp 87 = .ok (.invokestatic 58, 3) := dk_184 0 58 (dk_at dksX2_marksUp_3 19 rfl rfl)
theorem dX2_marksUp_90 : decode cX2_marksUp 90 = .ok (.iconst 2, 1) := dk_5 (dk_at dksX2_marksUp_3 22 rfl rfl)
theorem dX2_marksUp_91 : decode cX2_marksUp 91 = .ok (.iadd, 1) := dk_96 (dk_at dksX2_marksUp_3 23 rfl rfl)
theorem dX2_marksUp_92 : decode cX2_marksUp 92 = .ok (.iaload, 1) := dk_46 (dk_at dksX2_marksUp_4 0 rfl rfl)
theorem dX2_marksUp_93 : decode cX2_marksUp 93 = .ok (.iconst 1, 1) := dk_4 (dk_at dksX2_marksUp_4 1 rfl rfl)
theorem dX2_marksUp_94 : decode cX2_marksUp 94 = .ok (.isub, 1) := dk_100 (dk_at dksX2_marksUp_4 2 rfl rfl)
theorem dX2_marksUp_95 : decode cX2_marksUp 95 = .ok (.iconst 1, 1) := dk_4 (dk_at dksX2_marksUp_4 3 rfl rfl)
theorem dX2_marksUp_96 : decode cX2_marksUp 96 = .ok (.bastore, 1) := dk_84 (dk_at dksX2_marksUp_4 4 rfl rfl)
theorem dX2_marksUp_97 : decode cX2_marksUp 97 = .ok (.iinc 2 (-1), 3) := dk_132 2 255 (dk_at dksX2_marksUp_4 5 rfl rfl)
theorem dX2_marksUp_100 : decode cX2_marksUp 100 = .ok (.goto (-68), 3) := dk_167 255 188 (dk_at dksX2_marksUp_4 8 rfl rfl)
theorem dX2_marksUp_103 : decode cX2_marksUp 103 = .ok (.return_, 1) := dk_177 (dk_at dksX2_marksUp_4 11 rfl rfl)
abbrev cX2_areKinAgain : ByteArray := prog_14_method_43_code
def yX2_areKinAgain : MethodName := ⟨RX2, "areKinAgain", "(II)I"⟩
def dkwX2_areKinAgain_0 : List UInt8 := [42, 27, 28, 182, 0, 164, 172]
abbrev dktX2_areKinAgain_0 : List UInt8 := dkwX2_areKinAgain_0 ++ []
theorem dksX2_areKinAgain_0 : cX2_areKinAgain.data.toList.drop 0 = dktX2_areKinAgain_0 := by decide +kernel
theorem dX2_areKinAgain_0 : decode cX2_areKinAgain 0 = .ok (.aload_n 0, 1) := dk_42 (dk_at dksX2_areKinAgain_0 0 rfl rfl)
theorem dX2_areKinAgain_1 : decode cX2_areKinAgain 1 = .ok (.iload_n 1, 1) := dk_27 (dk_at dksX2_areKinAgain_0 1 rfl rfl)
theorem dX2_areKinAgain_2 : decode cX2_areKinAgain 2 = .ok (.iload_n 2, 1) := dk_28 (dk_at dksX2_areKinAgain_0 2 rfl rfl)
theorem dX2_areKinAgain_3 : decode cX2_areKinAgain 3 = .ok (.invokevirtual 164, 3) := dk_182 0 164 (dk_at dksX2_areKinAgain_0 3 rfl rfl)
theorem dX2_areKinAgain_6 : decode cX2_areKinAgain 6 = .ok (.ireturn, 1) := dk_172 (dk_at dksX2_areKinAgain_0 6 rfl rfl)
abbrev cX2_forebears : ByteArray := prog_14_method_44_code
def yX2_forebears : MethodName := ⟨RX2, "forebears", "(I)I"⟩
def dkwX2_forebears_2 : List UInt8 := [167, 255, 230, 28, 172]
abbrev dktX2_forebears_2 : List UInt8 := dkwX2_forebears_2 ++ []
def dkwX2_forebears_1 : List UInt8 := [162, 0, 26, 28, 42, 180, 0, 32, 29, 51, 153, 0, 7, 4, 167, 0, 4, 3, 96, 61, 132, 3, 1]
abbrev dktX2_forebears_1 : List UInt8 := dkwX2_forebears_1 ++ dktX2_forebears_2
def dkwX2_forebears_0 : List UInt8 := [42, 27, 182, 0, 100, 154, 0, 5, 2, 172, 42, 27, 182, 0, 160, 2, 61, 3, 62, 29, 16, 40]
abbrev dktX2_forebears_0 : List UInt8 := dkwX2_forebears_0 ++ dktX2_forebears_1
theorem dksX2_forebears_0 : cX2_forebears.data.toList.drop 0 = dktX2_forebears_0 := by decide +kernel
theorem dksX2_forebears_1 : cX2_forebears.data.toList.drop 22 = dktX2_forebears_1 := dk_seg dksX2_forebears_0 22 rfl rfl
theorem dksX2_forebears_2 : cX2_forebears.data.toList.drop 45 = dktX2_forebears_2 := dk_seg dksX2_forebears_1 23 rfl rfl
theorem dX2_forebears_0 : decode cX2_forebears 0 = .ok (.aload_n 0, 1) := dk_42 (dk_at dksX2_forebears_0 0 rfl rfl)
theorem dX2_forebears_1 : decode cX2_forebears 1 = .ok (.iload_n 1, 1) := dk_27 (dk_at dksX2_forebears_0 1 rfl rfl)
theorem dX2_forebears_2 : decode cX2_forebears 2 = .ok (.invokevirtual 100, 3) := dk_182 0 100 (dk_at dksX2_forebears_0 2 rfl rfl)
theorem dX2_forebears_5 : decode cX2_forebears 5 = .ok (.ifCond .ne 5, 3) := dk_154 0 5 (dk_at dksX2_forebears_0 5 rfl rfl)
theorem dX2_forebears_8 : decode cX2_forebears 8 = .ok (.iconst (-1), 1) := dk_2 (dk_at dksX2_forebears_0 8 rfl rfl)
theorem dX2_forebears_9 : decode cX2_forebears 9 = .ok (.ireturn, 1) := dk_172 (dk_at dksX2_forebears_0 9 rfl rfl)
theorem dX2_forebears_10 : decode cX2_forebears 10 = .ok (.aload_n 0, 1) := dk_42 (dk_at dksX2_forebears_0 10 rfl rfl)
theorem dX2_forebears_11 : decode cX2_forebears 11 = .ok (.iload_n 1, 1) := dk_27 (dk_at dksX2_forebears_0 11 rfl rfl)
theorem dX2_forebears_12 : decode cX2_forebears 12 = .ok (.invokevirtual 160, 3) := dk_182 0 160 (dk_at dksX2_forebears_0 12 rfl rfl)
theorem dX2_forebears_15 : decode cX2_forebears 15 = .ok (.iconst (-1), 1) := dk_2 (dk_at dksX2_forebears_0 15 rfl rfl)
theorem dX2_forebears_16 : decode cX2_forebears 16 = .ok (.istore_n 2, 1) := dk_61 (dk_at dksX2_forebears_0 16 rfl rfl)
theorem dX2_forebears_17 : decode cX2_forebears 17 = .ok (.iconst 0, 1) := dk_3 (dk_at dksX2_forebears_0 17 rfl rfl)
theorem dX2_forebears_18 : decode cX2_forebears 18 = .ok (.istore_n 3, 1) := dk_62 (dk_at dksX2_forebears_0 18 rfl rfl)
theorem dX2_forebears_19 : decode cX2_forebears 19 = .ok (.iload_n 3, 1) := dk_29 (dk_at dksX2_forebears_0 19 rfl rfl)
theorem dX2_forebears_20 : decode cX2_forebears 20 = .ok (.bipush 40, 2) := dk_16 40 (dk_at dksX2_forebears_0 20 rfl rfl)
theorem dX2_forebears_22 : decode cX2_forebears 22 = .ok (.if_icmp .ge 26, 3) := dk_162 0 26 (dk_at dksX2_forebears_1 0 rfl rfl)
theorem dX2_forebears_25 : decode cX2_forebears 25 = .ok (.iload_n 2, 1) := dk_28 (dk_at dksX2_forebears_1 3 rfl rfl)
theorem dX2_forebears_26 : decode cX2_forebears 26 = .ok (.aload_n 0, 1) := dk_42 (dk_at dksX2_forebears_1 4 rfl rfl)
theorem dX2_forebears_27 : decode cX2_forebears 27 = .ok (.getfield 32, 3) := dk_180 0 32 (dk_at dksX2_forebears_1 5 rfl rfl)
theorem dX2_forebears_30 : decode cX2_forebears 30 = .ok (.iload_n 3, 1) := dk_29 (dk_at dksX2_forebears_1 8 rfl rfl)
theorem dX2_forebears_31 : decode cX2_forebears 31 = .ok (.baload, 1) := dk_51 (dk_at dksX2_forebears_1 9 rfl rfl)
theorem dX2_forebears_32 : decode cX2_forebears 32 = .ok (.ifCond .eq 7, 3) := dk_153 0 7 (dk_at dksX2_forebears_1 10 rfl rfl)
theorem dX2_forebears_35 : decode cX2_forebears 35 = .ok (.iconst 1, 1) := dk_4 (dk_at dksX2_forebears_1 13 rfl rfl)
theorem dX2_forebears_36 : decode cX2_forebears 36 = .ok (.goto 4, 3) := dk_167 0 4 (dk_at dksX2_forebears_1 14 rfl rfl)
theorem dX2_forebears_39 : decode cX2_forebears 39 = .ok (.iconst 0, 1) := dk_3 (dk_at dksX2_forebears_1 17 rfl rfl)
theorem dX2_forebears_40 : decode cX2_forebears 40 = .ok (.iadd, 1) := dk_96 (dk_at dksX2_forebears_1 18 rfl rfl)
theorem dX2_forebears_41 : decode cX2_forebears 41 = .ok (.istore_n 2, 1) := dk_61 (dk_at dksX2_forebears_1 19 rfl rfl)
theorem dX2_forebears_42 : decode cX2_forebears 42 = .ok (.iinc 3 1, 3) := dk_132 3 1 (dk_at dksX2_forebears_1 20 rfl rfl)
theorem dX2_forebears_45 : decode cX2_forebears 45 = .ok (.goto (-26), 3) := dk_167 255 230 (dk_at dksX2_forebears_2 0 rfl rfl)
theorem dX2_forebears_48 : decode cX2_forebears 48 = .ok (.iload_n 2, 1) := dk_28 (dk_at dksX2_forebears_2 3 rfl rfl)
theorem dX2_forebears_49 : decode cX2_forebears 49 = .ok (.ireturn, 1) := dk_172 (dk_at dksX2_forebears_2 4 rfl rfl)
abbrev cX2_lineOf : ByteArray := prog_14_method_45_code
def yX2_lineOf : MethodName := ⟨RX2, "lineOf", "(II)I"⟩
def dkwX2_lineOf_7 : List UInt8 := [29, 167, 0, 15, 28, 4, 160, 0, 8, 21, 4, 167, 0, 5, 21, 5, 172]
abbrev dktX2_lineOf_7 : List UInt8 := dkwX2_lineOf_7 ++ []
def dkwX2_lineOf_6 : List UInt8 := [184, 0, 58, 46, 182, 0, 137, 167, 0, 5, 21, 5, 54, 5, 132, 6, 1, 167, 255, 138, 28, 154, 0, 7]
abbrev dktX2_lineOf_6 : List UInt8 := dkwX2_lineOf_6 ++ dktX2_lineOf_7
def dkwX2_lineOf_5 : List UInt8 := [180, 0, 9, 21, 6, 184, 0, 58, 46, 182, 0, 137, 21, 5, 164, 0, 20, 42, 42, 180, 0, 9, 21, 6]
abbrev dktX2_lineOf_5 : List UInt8 := dkwX2_lineOf_5 ++ dktX2_lineOf_6
def dkwX2_lineOf_4 : List UInt8 := [62, 21, 4, 21, 7, 153, 0, 7, 4, 167, 0, 4, 3, 96, 54, 4, 21, 7, 153, 0, 39, 42, 42]
abbrev dktX2_lineOf_4 : List UInt8 := dkwX2_lineOf_4 ++ dktX2_lineOf_5
def dkwX2_lineOf_3 : List UInt8 := [4, 167, 0, 4, 3, 54, 7, 29, 42, 180, 0, 32, 21, 6, 51, 153, 0, 7, 4, 167, 0, 4, 3, 96]
abbrev dktX2_lineOf_3 : List UInt8 := dkwX2_lineOf_3 ++ dktX2_lineOf_4
def dkwX2_lineOf_2 : List UInt8 := [3, 46, 162, 0, 113, 42, 180, 0, 32, 21, 6, 51, 153, 0, 16, 42, 21, 6, 182, 0, 106, 153, 0, 7]
abbrev dktX2_lineOf_2 : List UInt8 := dkwX2_lineOf_2 ++ dktX2_lineOf_3
def dkwX2_lineOf_1 : List UInt8 := [172, 42, 27, 182, 0, 169, 3, 62, 3, 54, 4, 16, 252, 54, 5, 3, 54, 6, 21, 6, 42, 180, 0, 9]
abbrev dktX2_lineOf_1 : List UInt8 := dkwX2_lineOf_1 ++ dktX2_lineOf_2
def dkwX2_lineOf_0 : List UInt8 := [42, 27, 182, 0, 100, 154, 0, 5, 2, 172, 28, 133, 9, 20, 0, 167, 184, 0, 54, 154, 0, 6, 16, 254]
abbrev dktX2_lineOf_0 : List UInt8 := dkwX2_lineOf_0 ++ dktX2_lineOf_1
theorem dksX2_lineOf_0 : cX2_lineOf.data.toList.drop 0 = dktX2_lineOf_0 := by decide +kernel
theorem dksX2_lineOf_1 : cX2_lineOf.data.toList.drop 24 = dktX2_lineOf_1 := dk_seg dksX2_lineOf_0 24 rfl rfl
theorem dksX2_lineOf_2 : cX2_lineOf.data.toList.drop 48 = dktX2_lineOf_2 := dk_seg dksX2_lineOf_1 24 rfl rfl
theorem dksX2_lineOf_3 : cX2_lineOf.data.toList.drop 72 = dktX2_lineOf_3 := dk_seg dksX2_lineOf_2 24 rfl rfl
theorem dksX2_lineOf_4 : cX2_lineOf.data.toList.drop 96 = dktX2_lineOf_4 := dk_seg dksX2_lineOf_3 24 rfl rfl
theorem dksX2_lineOf_5 : cX2_lineOf.data.toList.drop 119 = dktX2_lineOf_5 := dk_seg dksX2_lineOf_4 23 rfl rfl
theorem dksX2_lineOf_6 : cX2_lineOf.data.toList.drop 143 = dktX2_lineOf_6 := dk_seg dksX2_lineOf_5 24 rfl rfl
theorem dksX2_lineOf_7 : cX2_lineOf.data.toList.drop 167 = dktX2_lineOf_7 := dk_seg dksX2_lineOf_6 24 rfl rfl
theorem dX2_lineOf_0 : decode cX2_lineOf 0 = .ok (.aload_n 0, 1) := dk_42 (dk_at dksX2_lineOf_0 0 rfl rfl)
theorem dX2_lineOf_1 : decode cX2_lineOf 1 = .ok (.iload_n 1, 1) := dk_27 (dk_at dksX2_lineOf_0 1 rfl rfl)
theorem dX2_lineOf_2 : decode cX2_lineOf 2 = .ok (.invokevirtual 100, 3) := dk_182 0 100 (dk_at dksX2_lineOf_0 2 rfl rfl)
theorem dX2_lineOf_5 : decode cX2_lineOf 5 = .ok (.ifCond .ne 5, 3) := dk_154 0 5 (dk_at dksX2_lineOf_0 5 rfl rfl)
theorem dX2_lineOf_8 : decode cX2_lineOf 8 = .ok (.iconst (-1), 1) := dk_2 (dk_at dksX2_lineOf_0 8 rfl rfl)
theorem dX2_lineOf_9 : decode cX2_lineOf 9 = .ok (.ireturn, 1) := dk_172 (dk_at dksX2_lineOf_0 9 rfl rfl)
theorem dX2_lineOf_10 : decode cX2_lineOf 10 = .ok (.iload_n 2, 1) := dk_28 (dk_at dksX2_lineOf_0 10 rfl rfl)
theorem dX2_lineOf_11 : decode cX2_lineOf 11 = .ok (.i2l, 1) := dk_133 (dk_at dksX2_lineOf_0 11 rfl rfl)
theorem dX2_lineOf_12 : decode cX2_lineOf 12 = .ok (.lconst 0, 1) := dk_9 (dk_at dksX2_lineOf_0 12 rfl rfl)
theorem dX2_lineOf_13 : decode cX2_lineOf 13 = .ok (.ldc2_w 167, 3) := dk_20 0 167 (dk_at dksX2_lineOf_0 13 rfl rfl)
theorem dX2_lineOf_16 : decode cX2_lineOf 16 = .ok (.invokestatic 54, 3) := dk_184 0 54 (dk_at dksX2_lineOf_0 16 rfl rfl)
theorem dX2_lineOf_19 : decode cX2_lineOf 19 = .ok (.ifCond .ne 6, 3) := dk_154 0 6 (dk_at dksX2_lineOf_0 19 rfl rfl)
theorem dX2_lineOf_22 : decode cX2_lineOf 22 = .ok (.bipush (-2), 2) := dk_16 254 (dk_at dksX2_lineOf_0 22 rfl rfl)
theorem dX2_lineOf_24 : decode cX2_lineOf 24 = .ok (.ireturn, 1) := dk_172 (dk_at dksX2_lineOf_1 0 rfl rfl)
theorem dX2_lineOf_25 : decode cX2_lineOf 25 = .ok (.aload_n 0, 1) := dk_42 (dk_at dksX2_lineOf_1 1 rfl rfl)
theorem dX2_lineOf_26 : decode cX2_lineOf 26 = .ok (.iload_n 1, 1) := dk_27 (dk_at dksX2_lineOf_1 2 rfl rfl)
theorem dX2_lineOf_27 : decode cX2_lineOf 27 = .ok (.invokevirtual 169, 3) := dk_182 0 169 (dk_at dksX2_lineOf_1 3 rfl rfl)
theorem dX2_lineOf_30 : decode cX2_lineOf 30 = .ok (.iconst 0, 1) := dk_3 (dk_at dksX2_lineOf_1 6 rfl rfl)
theorem dX2_lineOf_31 : decode cX2_lineOf 31 = .ok (.istore_n 3, 1) := dk_62 (dk_at dksX2_lineOf_1 7 rfl rfl)
theorem dX2_lineOf_32 : decode cX2_lineOf 32 = .ok (.iconst 0, 1) := dk_3 (dk_at dksX2_lineOf_1 8 rfl rfl)
theorem dX2_lineOf_33 : decode cX2_lineOf 33 = .ok (.istore 4, 2) := dk_54 4 (dk_at dksX2_lineOf_1 9 rfl rfl)
theorem dX2_lineOf_35 : decode cX2_lineOf 35 = .ok (.bipush (-4), 2) := dk_16 252 (dk_at dksX2_lineOf_1 11 rfl rfl)
theorem dX2_lineOf_37 : decode cX2_lineOf 37 = .ok (.istore 5, 2) := dk_54 5 (dk_at dksX2_lineOf_1 13 rfl rfl)
theorem dX2_lineOf_39 : decode cX2_lineOf 39 = .ok (.iconst 0, 1) := dk_3 (dk_at dksX2_lineOf_1 15 rfl rfl)
theorem dX2_lineOf_40 : decode cX2_lineOf 40 = .ok (.istore 6, 2) := dk_54 6 (dk_at dksX2_lineOf_1 16 rfl rfl)
theorem dX2_lineOf_42 : decode cX2_lineOf 42 = .ok (.iload 6, 2) := dk_21 6 (dk_at dksX2_lineOf_1 18 rfl rfl)
theorem dX2_lineOf_44 : decode cX2_lineOf 44 = .ok (.aload_n 0, 1) := dk_42 (dk_at dksX2_lineOf_1 20 rfl rfl)
theorem dX2_lineOf_45 : decode cX2_lineOf 45 = .ok (.getfield 9, 3) := dk_180 0 9 (dk_at dksX2_lineOf_1 21 rfl rfl)
theorem dX2_lineOf_48 : decode cX2_lineOf 48 = .ok (.iconst 0, 1) := dk_3 (dk_at dksX2_lineOf_2 0 rfl rfl)
theorem dX2_lineOf_49 : decode cX2_lineOf 49 = .ok (.iaload, 1) := dk_46 (dk_at dksX2_lineOf_2 1 rfl rfl)
theorem dX2_lineOf_50 : decode cX2_lineOf 50 = .ok (.if_icmp .ge 113, 3) := dk_162 0 113 (dk_at dksX2_lineOf_2 2 rfl rfl)
theorem dX2_lineOf_53 : decode cX2_lineOf 53 = .ok (.aload_n 0, 1) := dk_42 (dk_at dksX2_lineOf_2 5 rfl rfl)
theorem dX2_lineOf_54 : decode cX2_lineOf 54 = .ok (.getfield 32, 3) := dk_180 0 32 (dk_at dksX2_lineOf_2 6 rfl rfl)
theorem dX2_lineOf_57 : decode cX2_lineOf 57 = .ok (.iload 6, 2) := dk_21 6 (dk_at dksX2_lineOf_2 9 rfl rfl)
theorem dX2_lineOf_59 : decode cX2_lineOf 59 = .ok (.baload, 1) := dk_51 (dk_at dksX2_lineOf_2 11 rfl rfl)
theorem dX2_lineOf_60 : decode cX2_lineOf 60 = .ok (.ifCond .eq 16, 3) := dk_153 0 16 (dk_at dksX2_lineOf_2 12 rfl rfl)
theorem dX2_lineOf_63 : decode cX2_lineOf 63 = .ok (.aload_n 0, 1) := dk_42 (dk_at dksX2_lineOf_2 15 rfl rfl)
theorem dX2_lineOf_64 : decode cX2_lineOf 64 = .ok (.iload 6, 2) := dk_21 6 (dk_at dksX2_lineOf_2 16 rfl rfl)
theorem dX2_lineOf_66 : decode cX2_lineOf 66 = .ok (.invokevirtual 106, 3) := dk_182 0 106 (dk_at dksX2_lineOf_2 18 rfl rfl)
theorem dX2_lineOf_69 : decode cX2_lineOf 69 = .ok (.ifCond .eq 7, 3) := dk_153 0 7 (dk_at dksX2_lineOf_2 21 rfl rfl)
theorem dX2_lineOf_72 : decode cX2_lineOf 72 = .ok (.iconst 1, 1) := dk_4 (dk_at dksX2_lineOf_3 0 rfl rfl)
theorem dX2_lineOf_73 : decode cX2_lineOf 73 = .ok (.goto 4, 3) := dk_167 0 4 (dk_at dksX2_lineOf_3 1 rfl rfl)
theorem dX2_lineOf_76 : decode cX2_lineOf 76 = .ok (.iconst 0, 1) := dk_3 (dk_at dksX2_lineOf_3 4 rfl rfl)
theorem dX2_lineOf_77 : decode cX2_lineOf 77 = .ok (.istore 7, 2) := dk_54 7 (dk_at dksX2_lineOf_3 5 rfl rfl)
theorem dX2_lineOf_79 : decode cX2_lineOf 79 = .ok (.iload_n 3, 1) := dk_29 (dk_at dksX2_lineOf_3 7 rfl rfl)
theorem dX2_lineOf_80 : decode cX2_lineOf 80 = .ok (.aload_n 0, 1) := dk_42 (dk_at dksX2_lineOf_3 8 rfl rfl)
theorem dX2_lineOf_81 : decode cX2_lineOf 81 = .ok (.getfield 32, 3) := dk_180 0 32 (dk_at dksX2_lineOf_3 9 rfl rfl)
theorem dX2_lineOf_84 : decode cX2_lineOf 84 = .ok (.iload 6, 2) := dk_21 6 (dk_at dksX2_lineOf_3 12 rfl rfl)
theorem dX2_lineOf_86 : decode cX2_lineOf 86 = .ok (.baload, 1) := dk_51 (dk_at dksX2_lineOf_3 14 rfl rfl)
theorem dX2_lineOf_87 : decode cX2_lineOf 87 = .ok (.ifCond .eq 7, 3) := dk_153 0 7 (dk_at dksX2_lineOf_3 15 rfl rfl)
theorem dX2_lineOf_90 : decode cX2_lineOf 90 = .ok (.iconst 1, 1) := dk_4 (dk_at dksX2_lineOf_3 18 rfl rfl)
theorem dX2_lineOf_91 : decode cX2_lineOf 91 = .ok (.goto 4, 3) := dk_167 0 4 (dk_at dksX2_lineOf_3 19 rfl rfl)
theorem dX2_lineOf_94 : decode cX2_lineOf 94 = .ok (.iconst 0, 1) := dk_3 (dk_at dksX2_lineOf_3 22 rfl rfl)
theorem dX2_lineOf_95 : decode cX2_lineOf 95 = .ok (.iadd, 1) := dk_96 (dk_at dksX2_lineOf_3 23 rfl rfl)
theorem dX2_lineOf_96 : decode cX2_lineOf 96 = .ok (.istore_n 3, 1) := dk_62 (dk_at dksX2_lineOf_4 0 rfl rfl)
theorem dX2_lineOf_97 : decode cX2_lineOf 97 = .ok (.iload 4, 2) := dk_21 4 (dk_at dksX2_lineOf_4 1 rfl rfl)
theorem dX2_lineOf_99 : decode cX2_lineOf 99 = .ok (.iload 7, 2) := dk_21 7 (dk_at dksX2_lineOf_4 3 rfl rfl)
theorem dX2_lineOf_101 : decode cX2_lineOf 101 = .ok (.ifCond .eq 7, 3) := dk_153 0 7 (dk_at dksX2_lineOf_4 5 rfl rfl)
theorem dX2_lineOf_104 : decode cX2_lineOf 104 = .ok (.iconst 1, 1) := dk_4 (dk_at dksX2_lineOf_4 8 rfl rfl)
theorem dX2_lineOf_105 : decode cX2_lineOf 105 = .ok (.goto 4, 3) := dk_167 0 4 (dk_at dksX2_lineOf_4 9 rfl rfl)
theorem dX2_lineOf_108 : decode cX2_lineOf 108 = .ok (.iconst 0, 1) := dk_3 (dk_at dksX2_lineOf_4 12 rfl rfl)
theorem dX2_lineOf_109 : decode cX2_lineOf 109 = .ok (.iadd, 1) := dk_96 (dk_at dksX2_lineOf_4 13 rfl rfl)
theorem dX2_lineOf_110 : decode cX2_lineOf 110 = .ok (.istore 4, 2) := dk_54 4 (dk_at dksX2_lineOf_4 14 rfl rfl)
theorem dX2_lineOf_112 : decode cX2_lineOf 112 = .ok (.iload 7, 2) := dk_21 7 (dk_at dksX2_lineOf_4 16 rfl rfl)
theorem dX2_lineOf_114 : decode cX2_lineOf 114 = .ok (.ifCond .eq 39, 3) := dk_153 0 39 (dk_at dksX2_lineOf_4 18 rfl rfl)
theorem dX2_lineOf_117 : decode cX2_lineOf 117 = .ok (.aload_n 0, 1) := dk_42 (dk_at dksX2_lineOf_4 21 rfl rfl)
theorem dX2_lineOf_118 : decode cX2_lineOf 118 = .ok (.aload_n 0, 1) := dk_42 (dk_at dksX2_lineOf_4 22 rfl rfl)
theorem dX2_lineOf_119 : decode cX2_lineOf 119 = .ok (.getfield 9, 3) := dk_180 0 9 (dk_at dksX2_lineOf_5 0 rfl rfl)
theorem dX2_lineOf_122 : decode cX2_lineOf 122 = .ok (.iload 6, 2) := dk_21 6 (dk_at dksX2_lineOf_5 3 rfl rfl)
theorem dX2_lineOf_124 : decode cX2_lineOf 124 = .ok (.invokestatic 58, 3) := dk_184 0 58 (dk_at dksX2_lineOf_5 5 rfl rfl)
theorem dX2_lineOf_127 : decode cX2_lineOf 127 = .ok (.iaload, 1) := dk_46 (dk_at dksX2_lineOf_5 8 rfl rfl)
theorem dX2_lineOf_128 : decode cX2_lineOf 128 = .ok (.invokevirtual 137, 3) := dk_182 0 137 (dk_at dksX2_lineOf_5 9 rfl rfl)
theorem dX2_lineOf_131 : decode cX2_lineOf 131 = .ok (.iload 5, 2) := dk_21 5 (dk_at dksX2_lineOf_5 12 rfl rfl)
theorem dX2_lineOf_133 : decode cX2_lineOf 133 = .ok (.if_icmp .le 20, 3) := dk_164 0 20 (dk_at dksX2_lineOf_5 14 rfl rfl)
theorem dX2_lineOf_136 : decode cX2_lineOf 136 = .ok (.aload_n 0, 1) := dk_42 (dk_at dksX2_lineOf_5 17 rfl rfl)
theorem dX2_lineOf_137 : decode cX2_lineOf 137 = .ok (.aload_n 0, 1) := dk_42 (dk_at dksX2_lineOf_5 18 rfl rfl)
theorem dX2_lineOf_138 : decode cX2_lineOf 138 = .ok (.getfield 9, 3) := dk_180 0 9 (dk_at dksX2_lineOf_5 19 rfl rfl)
theorem dX2_lineOf_141 : decode cX2_lineOf 141 = .ok (.iload 6, 2) := dk_21 6 (dk_at dksX2_lineOf_5 22 rfl rfl)
theorem dX2_lineOf_143 : decode cX2_lineOf 143 = .ok (.invokestatic 58, 3) := dk_184 0 58 (dk_at dksX2_lineOf_6 0 rfl rfl)
theorem dX2_lineOf_146 : decode cX2_lineOf 146 = .ok (.iaload, 1) := dk_46 (dk_at dksX2_lineOf_6 3 rfl rfl)
theorem dX2_lineOf_147 : decode cX2_lineOf 147 = .ok (.invokevirtual 137, 3) := dk_182 0 137 (dk_at dksX2_lineOf_6 4 rfl rfl)
theorem dX2_lineOf_150 : decode cX2_lineOf 150 = .ok (.goto 5, 3) := dk_167 0 5 (dk_at dksX2_lineOf_6 7 rfl rfl)
theorem dX2_lineOf_153 : decode cX2_lineOf 153 = .ok (.iload 5, 2) := dk_21 5 (dk_at dksX2_lineOf_6 10 rfl rfl)
theorem dX2_lineOf_155 : decode cX2_lineOf 155 = .ok (.istore 5, 2) := dk_54 5 (dk_at dksX2_lineOf_6 12 rfl rfl)
theorem dX2_lineOf_157 : decode cX2_lineOf 157 = .ok (.iinc 6 1, 3) := dk_132 6 1 (dk_at dksX2_lineOf_6 14 rfl rfl)
theorem dX2_lineOf_160 : decode cX2_lineOf 160 = .ok (.goto (-118), 3) := dk_167 255 138 (dk_at dksX2_lineOf_6 17 rfl rfl)
theorem dX2_lineOf_163 : decode cX2_lineOf 163 = .ok (.iload_n 2, 1) := dk_28 (dk_at dksX2_lineOf_6 20 rfl rfl)
theorem dX2_lineOf_164 : decode cX2_lineOf 164 = .ok (.ifCond .ne 7, 3) := dk_154 0 7 (dk_at dksX2_lineOf_6 21 rfl rfl)
theorem dX2_lineOf_167 : decode cX2_lineOf 167 = .ok (.iload_n 3, 1) := dk_29 (dk_at dksX2_lineOf_7 0 rfl rfl)
theorem dX2_lineOf_168 : decode cX2_lineOf 168 = .ok (.goto 15, 3) := dk_167 0 15 (dk_at dksX2_lineOf_7 1 rfl rfl)
theorem dX2_lineOf_171 : decode cX2_lineOf 171 = .ok (.iload_n 2, 1) := dk_28 (dk_at dksX2_lineOf_7 4 rfl rfl)
theorem dX2_lineOf_172 : decode cX2_lineOf 172 = .ok (.iconst 1, 1) := dk_4 (dk_at dksX2_lineOf_7 5 rfl rfl)
theorem dX2_lineOf_173 : decode cX2_lineOf 173 = .ok (.if_icmp .ne 8, 3) := dk_160 0 8 (dk_at dksX2_lineOf_7 6 rfl rfl)
theorem dX2_lineOf_176 : decode cX2_lineOf 176 = .ok (.iload 4, 2) := dk_21 4 (dk_at dksX2_lineOf_7 9 rfl rfl)
theorem dX2_lineOf_178 : decode cX2_lineOf 178 = .ok (.goto 5, 3) := dk_167 0 5 (dk_at dksX2_lineOf_7 11 rfl rfl)
theorem dX2_lineOf_181 : decode cX2_lineOf 181 = .ok (.iload 5, 2) := dk_21 5 (dk_at dksX2_lineOf_7 14 rfl rfl)
theorem dX2_lineOf_183 : decode cX2_lineOf 183 = .ok (.ireturn, 1) := dk_172 (dk_at dksX2_lineOf_7 16 rfl rfl)
abbrev cX2_marksDown : ByteArray := prog_14_method_39_code
def yX2_marksDown : MethodName := ⟨RX2, "marksDown", "(I)V"⟩
def dkwX2_marksDown_4 : List UInt8 := [180, 0, 32, 28, 29, 84, 132, 2, 1, 167, 255, 153, 177]
abbrev dktX2_marksDown_4 : List UInt8 := dkwX2_marksDown_4 ++ []
def dkwX2_marksDown_3 : List UInt8 := [42, 180, 0, 9, 28, 184, 0, 58, 5, 96, 46, 4, 100, 51, 153, 0, 7, 4, 167, 0, 4, 3, 62, 42]
abbrev dktX2_marksDown_3 : List UInt8 := dkwX2_marksDown_3 ++ dktX2_marksDown_4
def dkwX2_marksDown_2 : List UInt8 := [180, 0, 32, 42, 180, 0, 9, 28, 184, 0, 58, 4, 96, 46, 4, 100, 51, 154, 0, 24, 42, 180, 0, 32]
abbrev dktX2_marksDown_2 : List UInt8 := dkwX2_marksDown_2 ++ dktX2_marksDown_3
def dkwX2_marksDown_1 : List UInt8 := [3, 46, 162, 0, 69, 42, 180, 0, 9, 28, 184, 0, 58, 4, 96, 46, 158, 0, 55, 29, 154, 0, 45, 42]
abbrev dktX2_marksDown_1 : List UInt8 := dkwX2_marksDown_1 ++ dktX2_marksDown_2
def dkwX2_marksDown_0 : List UInt8 := [3, 61, 28, 16, 40, 162, 0, 103, 28, 27, 160, 0, 7, 4, 167, 0, 4, 3, 62, 28, 42, 180, 0, 9]
abbrev dktX2_marksDown_0 : List UInt8 := dkwX2_marksDown_0 ++ dktX2_marksDown_1
theorem dksX2_marksDown_0 : cX2_marksDown.data.toList.drop 0 = dktX2_marksDown_0 := by decide +kernel
theorem dksX2_marksDown_1 : cX2_marksDown.data.toList.drop 24 = dktX2_marksDown_1 := dk_seg dksX2_marksDown_0 24 rfl rfl
theorem dksX2_marksDown_2 : cX2_marksDown.data.toList.drop 48 = dktX2_marksDown_2 := dk_seg dksX2_marksDown_1 24 rfl rfl
theorem dksX2_marksDown_3 : cX2_marksDown.data.toList.drop 72 = dktX2_marksDown_3 := dk_seg dksX2_marksDown_2 24 rfl rfl
theorem dksX2_marksDown_4 : cX2_marksDown.data.toList.drop 96 = dktX2_marksDown_4 := dk_seg dksX2_marksDown_3 24 rfl rfl
theorem dX2_marksDown_0 : decode cX2_marksDown 0 = .ok (.iconst 0, 1) := dk_3 (dk_at dksX2_marksDown_0 0 rfl rfl)
theorem dX2_marksDown_1 : decode cX2_marksDown 1 = .ok (.istore_n 2, 1) := dk_61 (dk_at dksX2_marksDown_0 1 rfl rfl)
theorem dX2_marksDown_2 : decode cX2_marksDown 2 = .ok (.iload_n 2, 1) := dk_28 (dk_at dksX2_marksDown_0 2 rfl rfl)
theorem dX2_marksDown_3 : decode cX2_marksDown 3 = .ok (.bipush 40, 2) := dk_16 40 (dk_at dksX2_marksDown_0 3 rfl rfl)
theorem dX2_marksDown_5 : decode cX2_marksDown 5 = .ok (.if_icmp .ge 103, 3) := dk_162 0 103 (dk_at dksX2_marksDown_0 5 rfl rfl)
theorem dX2_marksDown_8 : decode cX2_marksDown 8 = .ok (.iload_n 2, 1) := dk_28 (dk_at dksX2_marksDown_0 8 rfl rfl)
theorem dX2_marksDown_9 : decode cX2_marksDown 9 = .ok (.iload_n 1, 1) := dk_27 (dk_at dksX2_marksDown_0 9 rfl rfl)
theorem dX2_marksDown_10 : decode cX2_marksDown 10 = .ok (.if_icmp .ne 7, 3) := dk_160 0 7 (dk_at dksX2_marksDown_0 10 rfl rfl)
theorem dX2_marksDown_13 : decode cX2_marksDown 13 = .ok (.iconst 1, 1) := dk_4 (dk_at dksX2_marksDown_0 13 rfl rfl)
theorem dX2_marksDown_14 : decode cX2_marksDown 14 = .ok (.goto 4, 3) := dk_167 0 4 (dk_at dksX2_marksDown_0 14 rfl rfl)
theorem dX2_marksDown_17 : decode cX2_marksDown 17 = .ok (.iconst 0, 1) := dk_3 (dk_at dksX2_marksDown_0 17 rfl rfl)
theorem dX2_marksDown_18 : decode cX2_marksDown 18 = .ok (.istore_n 3, 1) := dk_62 (dk_at dksX2_marksDown_0 18 rfl rfl)
theorem dX2_marksDown_19 : decode cX2_marksDown 19 = .ok (.iload_n 2, 1) := dk_28 (dk_at dksX2_marksDown_0 19 rfl rfl)
theorem dX2_marksDown_20 : decode cX2_marksDown 20 = .ok (.aload_n 0, 1) := dk_42 (dk_at dksX2_marksDown_0 20 rfl rfl)
theorem dX2_marksDown_21 : decode cX2_marksDown 21 = .ok (.getfield 9, 3) := dk_180 0 9 (dk_at dksX2_marksDown_0 21 rfl rfl)
theorem dX2_marksDown_24 : decode cX2_marksDown 24 = .ok (.iconst 0, 1) := dk_3 (dk_at dksX2_marksDown_1 0 rfl rfl)
theorem dX2_marksDown_25 : decode cX2_marksDown 25 = .ok (.iaload, 1) := dk_46 (dk_at dksX2_marksDown_1 1 rfl rfl)
theorem dX2_marksDown_26 : decode cX2_marksDown 26 = .ok (.if_icmp .ge 69, 3) := dk_162 0 69 (dk_at dksX2_marksDown_1 2 rfl rfl)
theorem dX2_marksDown_29 : decode cX2_marksDown 29 = .ok (.aload_n 0, 1) := dk_42 (dk_at dksX2_marksDown_1 5 rfl rfl)
theorem dX2_marksDown_30 : decode cX2_marksDown 30 = .ok (.getfield 9, 3) := dk_180 0 9 (dk_at dksX2_marksDown_1 6 rfl rfl)
theorem dX2_marksDown_33 : decode cX2_marksDown 33 = .ok (.iload_n 2, 1) := dk_28 (dk_at dksX2_marksDown_1 9 rfl rfl)
theorem dX2_marksDown_34 : decode cX2_marksDown 34 = .ok (.invokestatic 58, 3) := dk_184 0 58 (dk_at dksX2_marksDown_1 10 rfl rfl)
theorem dX2_marksDown_37 : decode cX2_marksDown 37 = .ok (.iconst 1, 1) := dk_4 (dk_at dksX2_marksDown_1 13 rfl rfl)
theorem dX2_marksDown_38 : decode cX2_marksDown 38 = .ok (.iadd, 1) := dk_96 (dk_at dksX2_marksDown_1 14 rfl rfl)
theorem dX2_marksDown_39 : decode cX2_marksDown 39 = .ok (.iaload, 1) := dk_46 (dk_at dksX2_marksDown_1 15 rfl rfl)
theorem dX2_marksDown_40 : decode cX2_marksDown 40 = .ok (.ifCond .le 55, 3) := dk_158 0 55 (dk_at dksX2_marksDown_1 16 rfl rfl)
theorem dX2_marksDown_43 : decode cX2_marksDown 43 = .ok (.iload_n 3, 1) := dk_29 (dk_at dksX2_marksDown_1 19 rfl rfl)
theorem dX2_marksDown_44 : decode cX2_marksDown 44 = .ok (.ifCond .ne 45, 3) := dk_154 0 45 (dk_at dksX2_marksDown_1 20 rfl rfl)
theorem dX2_marksDown_47 : decode cX2_marksDown 47 = .ok (.aload_n 0, 1) := dk_42 (dk_at dksX2_marksDown_1 23 rfl rfl)
theorem dX2_marksDown_48 : decode cX2_marksDown 48 = .ok (.getfield 32, 3) := dk_180 0 32 (dk_at dksX2_marksDown_2 0 rfl rfl)
theorem dX2_marksDown_51 : decode cX2_marksDown 51 = .ok (.aload_n 0, 1) := dk_42 (dk_at dksX2_marksDown_2 3 rfl rfl)
theorem dX2_marksDown_52 : decode cX2_marksDown 52 = .ok (.getfield 9, 3) := dk_180 0 9 (dk_at dksX2_marksDown_2 4 rfl rfl)
theorem dX2_marksDown_55 : decode cX2_marksDown 55 = .ok (.iload_n 2, 1) := dk_28 (dk_at dksX2_marksDown_2 7 rfl rfl)
theorem dX2_marksDown_56 : decode cX2_marksDown 56 = .ok (.invokestatic 58, 3) := dk_184 0 58 (dk_at dksX2_marksDown_2 8 rfl rfl)
theorem dX2_marksDown_59 : decode cX2_marksDown 59 = .ok (.iconst 1, 1) := dk_4 (dk_at dksX2_marksDown_2 11 rfl rfl)
theorem dX2_marksDown_60 : decode cX2_marksDown 60 = .ok (.iadd, 1) := dk_96 (dk_at dksX2_marksDown_2 12 rfl rfl)
theorem dX2_marksDown_61 : decode cX2_marksDown 61 = .ok (.iaload, 1) := dk_46 (dk_at dksX2_marksDown_2 13 rfl rfl)
theorem dX2_marksDown_62 : decode cX2_marksDown 62 = .ok (.iconst 1, 1) := dk_4 (dk_at dksX2_marksDown_2 14 rfl rfl)
theorem dX2_marksDown_63 : decode cX2_marksDown 63 = .ok (.isub, 1) := dk_100 (dk_at dksX2_marksDown_2 15 rfl rfl)
theorem dX2_marksDown_64 : decode cX2_marksDown 64 = .ok (.baload, 1) := dk_51 (dk_at dksX2_marksDown_2 16 rfl rfl)
theorem dX2_marksDown_65 : decode cX2_marksDown 65 = .ok (.ifCond .ne 24, 3) := dk_154 0 24 (dk_at dksX2_marksDown_2 17 rfl rfl)
theorem dX2_marksDown_68 : decode cX2_marksDown 68 = .ok (.aload_n 0, 1) := dk_42 (dk_at dksX2_marksDown_2 20 rfl rfl)
theorem dX2_marksDown_69 : decode cX2_marksDown 69 = .ok (.getfield 32, 3) := dk_180 0 32 (dk_at dksX2_marksDown_2 21 rfl rfl)
theorem dX2_marksDown_72 : decode cX2_marksDown 72 = .ok (.aload_n 0, 1) := dk_42 (dk_at dksX2_marksDown_3 0 rfl rfl)
theorem dX2_marksDown_73 : decode cX2_marksDown 73 = .ok (.getfield 9, 3) := dk_180 0 9 (dk_at dksX2_marksDown_3 1 rfl rfl)
theorem dX2_marksDown_76 : decode cX2_marksDown 76 = .ok (.iload_n 2, 1) := dk_28 (dk_at dksX2_marksDown_3 4 rfl rfl)
theorem dX2_marksDown_77 : decode cX2_marksDown 77 = .ok (.invokestatic 58, 3) := dk_184 0 58 (dk_at dksX2_marksDown_3 5 rfl rfl)
theorem dX2_marksDown_80 : decode cX2_marksDown 80 = .ok (.iconst 2, 1) := dk_5 (dk_at dksX2_marksDown_3 8 rfl rfl)
theorem dX2_marksDown_81 : decode cX2_marksDown 81 = .ok (.iadd, 1) := dk_96 (dk_at dksX2_marksDown_3 9 rfl rfl)
theorem dX2_marksDown_82 : decode cX2_marksDown 82 = .ok (.iaload, 1) := dk_46 (dk_at dksX2_marksDown_3 10 rfl rfl)
theorem dX2_marksDown_83 : decode cX2_marksDown 83 = .ok (.iconst 1, 1) := dk_4 (dk_at dksX2_marksDown_3 11 rfl rfl)
theorem dX2_marksDown_84 : decode cX2_marksDown 84 = .ok (.isub, 1) := dk_100 (dk_at dksX2_marksDown_3 12 rfl rfl)
theorem dX2_marksDown_85 : decode cX2_marksDown 85 = .ok (.baload, 1) := dk_51 (dk_at dksX2_marksDown_3 13 rfl rfl)
theorem dX2_marksDown_86 : decode cX2_marksDown 86 = .ok (.ifCond .eq 7, 3) := dk_153 0 7 (dk_at dksX2_marksDown_3 14 rfl rfl)
theorem dX2_marksDown_89 : decode cX2_marksDown 89 = .ok (.iconst 1, 1) := dk_4 (dk_at dksX2_marksDown_3 17 rfl rfl)
theorem dX2_marksDown_90 : decode cX2_marksDown 90 = .ok (.goto 4, 3) := dk_167 0 4 (dk_at dksX2_marksDown_3 18 rfl rfl)
theorem dX2_marksDown_93 : decode cX2_marksDown 93 = .ok (.iconst 0, 1) := dk_3 (dk_at dksX2_marksDown_3 21 rfl rfl)
theorem dX2_marksDown_94 : decode cX2_marksDown 94 = .ok (.istore_n 3, 1) := dk_62 (dk_at dksX2_marksDown_3 22 rfl rfl)
theorem dX2_marksDown_95 : decode cX2_marksDown 95 = .ok (.aload_n 0, 1) := dk_42 (dk_at dksX2_marksDown_3 23 rfl rfl)
theorem dX2_marksDown_96 : decode cX2_marksDown 96 = .ok (.getfield 32, 3) := dk_180 0 32 (dk_at dksX2_marksDown_4 0 rfl rfl)
theorem dX2_marksDown_99 : decode cX2_marksDown 99 = .ok (.iload_n 2, 1) := dk_28 (dk_at dksX2_marksDown_4 3 rfl rfl)
theorem dX2_marksDown_100 : decode cX2_marksDown 100 = .ok (.iload_n 3, 1) := dk_29 (dk_at dksX2_marksDown_4 4 rfl rfl)
theorem dX2_marksDown_101 : decode cX2_marksDown 101 = .ok (.bastore, 1) := dk_84 (dk_at dksX2_marksDown_4 5 rfl rfl)
theorem dX2_marksDown_102 : decode cX2_marksDown 102 = .ok (.iinc 2 1, 3) := dk_132 2 1 (dk_at dksX2_marksDown_4 6 rfl rfl)
theorem dX2_marksDown_105 : decode cX2_marksDown 105 = .ok (.goto (-103), 3) := dk_167 255 153 (dk_at dksX2_marksDown_4 9 rfl rfl)
theorem dX2_marksDown_108 : decode cX2_marksDown 108 = .ok (.return_, 1) := dk_177 (dk_at dksX2_marksDown_4 12 rfl rfl)
abbrev cX2_apart : ByteArray := prog_14_method_46_code
def yX2_apart : MethodName := ⟨RX2, "apart", "(II)I"⟩
def dkwX2_apart_1 : List UInt8 := [46, 42, 180, 0, 9, 28, 184, 0, 58, 46, 130, 184, 0, 157, 167, 0, 4, 2, 172]
abbrev dktX2_apart_1 : List UInt8 := dkwX2_apart_1 ++ []
def dkwX2_apart_0 : List UInt8 := [42, 27, 182, 0, 100, 153, 0, 36, 42, 28, 182, 0, 100, 153, 0, 28, 42, 180, 0, 9, 27, 184, 0, 58]
abbrev dktX2_apart_0 : List UInt8 := dkwX2_apart_0 ++ dktX2_apart_1
theorem dksX2_apart_0 : cX2_apart.data.toList.drop 0 = dktX2_apart_0 := by decide +kernel
theorem dksX2_apart_1 : cX2_apart.data.toList.drop 24 = dktX2_apart_1 := dk_seg dksX2_apart_0 24 rfl rfl
theorem dX2_apart_0 : decode cX2_apart 0 = .ok (.aload_n 0, 1) := dk_42 (dk_at dksX2_apart_0 0 rfl rfl)
theorem dX2_apart_1 : decode cX2_apart 1 = .ok (.iload_n 1, 1) := dk_27 (dk_at dksX2_apart_0 1 rfl rfl)
theorem dX2_apart_2 : decode cX2_apart 2 = .ok (.invokevirtual 100, 3) := dk_182 0 100 (dk_at dksX2_apart_0 2 rfl rfl)
theorem dX2_apart_5 : decode cX2_apart 5 = .ok (.ifCond .eq 36, 3) := dk_153 0 36 (dk_at dksX2_apart_0 5 rfl rfl)
theorem dX2_apart_8 : decode cX2_apart 8 = .ok (.aload_n 0, 1) := dk_42 (dk_at dksX2_apart_0 8 rfl rfl)
theorem dX2_apart_9 : decode cX2_apart 9 = .ok (.iload_n 2, 1) := dk_28 (dk_at dksX2_apart_0 9 rfl rfl)
theorem dX2_apart_10 : decode cX2_apart 10 = .ok (.invokevirtual 100, 3) := dk_182 0 100 (dk_at dksX2_apart_0 10 rfl rfl)
theorem dX2_apart_13 : decode cX2_apart 13 = .ok (.ifCond .eq 28, 3) := dk_153 0 28 (dk_at dksX2_apart_0 13 rfl rfl)
theorem dX2_apart_16 : decode cX2_apart 16 = .ok (.aload_n 0, 1) := dk_42 (dk_at dksX2_apart_0 16 rfl rfl)
theorem dX2_apart_17 : decode cX2_apart 17 = .ok (.getfield 9, 3) := dk_180 0 9 (dk_at dksX2_apart_0 17 rfl rfl)
theorem dX2_apart_20 : decode cX2_apart 20 = .ok (.iload_n 1, 1) := dk_27 (dk_at dksX2_apart_0 20 rfl rfl)
theorem dX2_apart_21 : decode cX2_apart 21 = .ok (.invokestatic 58, 3) := dk_184 0 58 (dk_at dksX2_apart_0 21 rfl rfl)
theorem dX2_apart_24 : decode cX2_apart 24 = .ok (.iaload, 1) := dk_46 (dk_at dksX2_apart_1 0 rfl rfl)
theorem dX2_apart_25 : decode cX2_apart 25 = .ok (.aload_n 0, 1) := dk_42 (dk_at dksX2_apart_1 1 rfl rfl)
theorem dX2_apart_26 : decode cX2_apart 26 = .ok (.getfield 9, 3) := dk_180 0 9 (dk_at dksX2_apart_1 2 rfl rfl)
theorem dX2_apart_29 : decode cX2_apart 29 = .ok (.iload_n 2, 1) := dk_28 (dk_at dksX2_apart_1 5 rfl rfl)
theorem dX2_apart_30 : decode cX2_apart 30 = .ok (.invokestatic 58, 3) := dk_184 0 58 (dk_at dksX2_apart_1 6 rfl rfl)
theorem dX2_apart_33 : decode cX2_apart 33 = .ok (.iaload, 1) := dk_46 (dk_at dksX2_apart_1 9 rfl rfl)
theorem dX2_apart_34 : decode cX2_apart 34 = .ok (.ixor, 1) := dk_130 (dk_at dksX2_apart_1 10 rfl rfl)
theorem dX2_apart_35 : decode cX2_apart 35 = .ok (.invokestatic 157, 3) := dk_184 0 157 (dk_at dksX2_apart_1 11 rfl rfl)
theorem dX2_apart_38 : decode cX2_apart 38 = .ok (.goto 4, 3) := dk_167 0 4 (dk_at dksX2_apart_1 14 rfl rfl)
theorem dX2_apart_41 : decode cX2_apart 41 = .ok (.iconst (-1), 1) := dk_2 (dk_at dksX2_apart_1 17 rfl rfl)
theorem dX2_apart_42 : decode cX2_apart 42 = .ok (.ireturn, 1) := dk_172 (dk_at dksX2_apart_1 18 rfl rfl)
abbrev cX2_unlike : ByteArray := prog_14_method_47_code
def yX2_unlike : MethodName := ⟨RX2, "unlike", "()I"⟩
def dkwX2_unlike_4 : List UInt8 := [27, 172]
abbrev dktX2_unlike_4 : List UInt8 := dkwX2_unlike_4 ++ []
def dkwX2_unlike_3 : List UInt8 := [132, 4, 1, 167, 255, 206, 27, 29, 153, 0, 7, 4, 167, 0, 4, 3, 96, 60, 132, 2, 1, 167, 255, 169]
abbrev dktX2_unlike_3 : List UInt8 := dkwX2_unlike_3 ++ dktX2_unlike_4
def dkwX2_unlike_2 : List UInt8 := [21, 4, 184, 0, 58, 46, 42, 180, 0, 9, 28, 184, 0, 58, 46, 159, 0, 7, 4, 167, 0, 4, 3, 62]
abbrev dktX2_unlike_2 : List UInt8 := dkwX2_unlike_2 ++ dktX2_unlike_3
def dkwX2_unlike_1 : List UInt8 := [21, 4, 28, 162, 0, 50, 29, 153, 0, 38, 42, 21, 4, 182, 0, 106, 153, 0, 25, 42, 180, 0, 9]
abbrev dktX2_unlike_1 : List UInt8 := dkwX2_unlike_1 ++ dktX2_unlike_2
def dkwX2_unlike_0 : List UInt8 := [3, 60, 3, 61, 28, 42, 180, 0, 9, 3, 46, 162, 0, 83, 42, 28, 182, 0, 106, 62, 3, 54, 4]
abbrev dktX2_unlike_0 : List UInt8 := dkwX2_unlike_0 ++ dktX2_unlike_1
theorem dksX2_unlike_0 : cX2_unlike.data.toList.drop 0 = dktX2_unlike_0 := by decide +kernel
theorem dksX2_unlike_1 : cX2_unlike.data.toList.drop 23 = dktX2_unlike_1 := dk_seg dksX2_unlike_0 23 rfl rfl
theorem dksX2_unlike_2 : cX2_unlike.data.toList.drop 46 = dktX2_unlike_2 := dk_seg dksX2_unlike_1 23 rfl rfl
theorem dksX2_unlike_3 : cX2_unlike.data.toList.drop 70 = dktX2_unlike_3 := dk_seg dksX2_unlike_2 24 rfl rfl
theorem dksX2_unlike_4 : cX2_unlike.data.toList.drop 94 = dktX2_unlike_4 := dk_seg dksX2_unlike_3 24 rfl rfl
theorem dX2_unlike_0 : decode cX2_unlike 0 = .ok (.iconst 0, 1) := dk_3 (dk_at dksX2_unlike_0 0 rfl rfl)
theorem dX2_unlike_1 : decode cX2_unlike 1 = .ok (.istore_n 1, 1) := dk_60 (dk_at dksX2_unlike_0 1 rfl rfl)
theorem dX2_unlike_2 : decode cX2_unlike 2 = .ok (.iconst 0, 1) := dk_3 (dk_at dksX2_unlike_0 2 rfl rfl)
theorem dX2_unlike_3 : decode cX2_unlike 3 = .ok (.istore_n 2, 1) := dk_61 (dk_at dksX2_unlike_0 3 rfl rfl)
theorem dX2_unlike_4 : decode cX2_unlike 4 = .ok (.iload_n 2, 1) := dk_28 (dk_at dksX2_unlike_0 4 rfl rfl)
theorem dX2_unlike_5 : decode cX2_unlike 5 = .ok (.aload_n 0, 1) := dk_42 (dk_at dksX2_unlike_0 5 rfl rfl)
theorem dX2_unlike_6 : decode cX2_unlike 6 = .ok (.getfield 9, 3) := dk_180 0 9 (dk_at dksX2_unlike_0 6 rfl rfl)
theorem dX2_unlike_9 : decode cX2_unlike 9 = .ok (.iconst 0, 1) := dk_3 (dk_at dksX2_unlike_0 9 rfl rfl)
theorem dX2_unlike_10 : decode cX2_unlike 10 = .ok (.iaload, 1) := dk_46 (dk_at dksX2_unlike_0 10 rfl rfl)
theorem dX2_unlike_11 : decode cX2_unlike 11 = .ok (.if_icmp .ge 83, 3) := dk_162 0 83 (dk_at dksX2_unlike_0 11 rfl rfl)
theorem dX2_unlike_14 : decode cX2_unlike 14 = .ok (.aload_n 0, 1) := dk_42 (dk_at dksX2_unlike_0 14 rfl rfl)
theorem dX2_unlike_15 : decode cX2_unlike 15 = .ok (.iload_n 2, 1) := dk_28 (dk_at dksX2_unlike_0 15 rfl rfl)
theorem dX2_unlike_16 : decode cX2_unlike 16 = .ok (.invokevirtual 106, 3) := dk_182 0 106 (dk_at dksX2_unlike_0 16 rfl rfl)
theorem dX2_unlike_19 : decode cX2_unlike 19 = .ok (.istore_n 3, 1) := dk_62 (dk_at dksX2_unlike_0 19 rfl rfl)
theorem dX2_unlike_20 : decode cX2_unlike 20 = .ok (.iconst 0, 1) := dk_3 (dk_at dksX2_unlike_0 20 rfl rfl)
theorem dX2_unlike_21 : decode cX2_unlike 21 = .ok (.istore 4, 2) := dk_54 4 (dk_at dksX2_unlike_0 21 rfl rfl)
theorem dX2_unlike_23 : decode cX2_unlike 23 = .ok (.iload 4, 2) := dk_21 4 (dk_at dksX2_unlike_1 0 rfl rfl)
theorem dX2_unlike_25 : decode cX2_unlike 25 = .ok (.iload_n 2, 1) := dk_28 (dk_at dksX2_unlike_1 2 rfl rfl)
theorem dX2_unlike_26 : decode cX2_unlike 26 = .ok (.if_icmp .ge 50, 3) := dk_162 0 50 (dk_at dksX2_unlike_1 3 rfl rfl)
theorem dX2_unlike_29 : decode cX2_unlike 29 = .ok (.iload_n 3, 1) := dk_29 (dk_at dksX2_unlike_1 6 rfl rfl)
theorem dX2_unlike_30 : decode cX2_unlike 30 = .ok (.ifCond .eq 38, 3) := dk_153 0 38 (dk_at dksX2_unlike_1 7 rfl rfl)
theorem dX2_unlike_33 : decode cX2_unlike 33 = .ok (.aload_n 0, 1) := dk_42 (dk_at dksX2_unlike_1 10 rfl rfl)
theorem dX2_unlike_34 : decode cX2_unlike 34 = .ok (.iload 4, 2) := dk_21 4 (dk_at dksX2_unlike_1 11 rfl rfl)
theorem dX2_unlike_36 : decode cX2_unlike 36 = .ok (.invokevirtual 106, 3) := dk_182 0 106 (dk_at dksX2_unlike_1 13 rfl rfl)
theorem dX2_unlike_39 : decode cX2_unlike 39 = .ok (.ifCond .eq 25, 3) := dk_153 0 25 (dk_at dksX2_unlike_1 16 rfl rfl)
theorem dX2_unlike_42 : decode cX2_unlike 42 = .ok (.aload_n 0, 1) := dk_42 (dk_at dksX2_unlike_1 19 rfl rfl)
theorem dX2_unlike_43 : decode cX2_unlike 43 = .ok (.getfield 9, 3) := dk_180 0 9 (dk_at dksX2_unlike_1 20 rfl rfl)
theorem dX2_unlike_46 : decode cX2_unlike 46 = .ok (.iload 4, 2) := dk_21 4 (dk_at dksX2_unlike_2 0 rfl rfl)
theorem dX2_unlike_48 : decode cX2_unlike 48 = .ok (.invokestatic 58, 3) := dk_184 0 58 (dk_at dksX2_unlike_2 2 rfl rfl)
theorem dX2_unlike_51 : decode cX2_unlike 51 = .ok (.iaload, 1) := dk_46 (dk_at dksX2_unlike_2 5 rfl rfl)
theorem dX2_unlike_52 : decode cX2_unlike 52 = .ok (.aload_n 0, 1) := dk_42 (dk_at dksX2_unlike_2 6 rfl rfl)
theorem dX2_unlike_53 : decode cX2_unlike 53 = .ok (.getfield 9, 3) := dk_180 0 9 (dk_at dksX2_unlike_2 7 rfl rfl)
theorem dX2_unlike_56 : decode cX2_unlike 56 = .ok (.iload_n 2, 1) := dk_28 (dk_at dksX2_unlike_2 10 rfl rfl)
theorem dX2_unlike_57 : decode cX2_unlike 57 = .ok (.invokestatic 58, 3) := dk_184 0 58 (dk_at dksX2_unlike_2 11 rfl rfl)
theorem dX2_unlike_60 : decode cX2_unlike 60 = .ok (.iaload, 1) := dk_46 (dk_at dksX2_unlike_2 14 rfl rfl)
theorem dX2_unlike_61 : decode cX2_unlike 61 = .ok (.if_icmp .eq 7, 3) := dk_159 0 7 (dk_at dksX2_unlike_2 15 rfl rfl)
theorem dX2_unlike_64 : decode cX2_unlike 64 = .ok (.iconst 1, 1) := dk_4 (dk_at dksX2_unlike_2 18 rfl rfl)
theorem dX2_unlike_65 : decode cX2_unlike 65 = .ok (.goto 4, 3) := dk_167 0 4 (dk_at dksX2_unlike_2 19 rfl rfl)
theorem dX2_unlike_68 : decode cX2_unlike 68 = .ok (.iconst 0, 1) := dk_3 (dk_at dksX2_unlike_2 22 rfl rfl)
theorem dX2_unlike_69 : decode cX2_unlike 69 = .ok (.istore_n 3, 1) := dk_62 (dk_at dksX2_unlike_2 23 rfl rfl)
theorem dX2_unlike_70 : decode cX2_unlike 70 = .ok (.iinc 4 1, 3) := dk_132 4 1 (dk_at dksX2_unlike_3 0 rfl rfl)
theorem dX2_unlike_73 : decode cX2_unlike 73 = .ok (.goto (-50), 3) := dk_167 255 206 (dk_at dksX2_unlike_3 3 rfl rfl)
theorem dX2_unlike_76 : decode cX2_unlike 76 = .ok (.iload_n 1, 1) := dk_27 (dk_at dksX2_unlike_3 6 rfl rfl)
theorem dX2_unlike_77 : decode cX2_unlike 77 = .ok (.iload_n 3, 1) := dk_29 (dk_at dksX2_unlike_3 7 rfl rfl)
theorem dX2_unlike_78 : decode cX2_unlike 78 = .ok (.ifCond .eq 7, 3) := dk_153 0 7 (dk_at dksX2_unlike_3 8 rfl rfl)
theorem dX2_unlike_81 : decode cX2_unlike 81 = .ok (.iconst 1, 1) := dk_4 (dk_at dksX2_unlike_3 11 rfl rfl)
theorem dX2_unlike_82 : decode cX2_unlike 82 = .ok (.goto 4, 3) := dk_167 0 4 (dk_at dksX2_unlike_3 12 rfl rfl)
theorem dX2_unlike_85 : decode cX2_unlike 85 = .ok (.iconst 0, 1) := dk_3 (dk_at dksX2_unlike_3 15 rfl rfl)
theorem dX2_unlike_86 : decode cX2_unlike 86 = .ok (.iadd, 1) := dk_96 (dk_at dksX2_unlike_3 16 rfl rfl)
theorem dX2_unlike_87 : decode cX2_unlike 87 = .ok (.istore_n 1, 1) := dk_60 (dk_at dksX2_unlike_3 17 rfl rfl)
theorem dX2_unlike_88 : decode cX2_unlike 88 = .ok (.iinc 2 1, 3) := dk_132 2 1 (dk_at dksX2_unlike_3 18 rfl rfl)
theorem dX2_unlike_91 : decode cX2_unlike 91 = .ok (.goto (-87), 3) := dk_167 255 169 (dk_at dksX2_unlike_3 21 rfl rfl)
theorem dX2_unlike_94 : decode cX2_unlike 94 = .ok (.iload_n 1, 1) := dk_27 (dk_at dksX2_unlike_4 0 rfl rfl)
theorem dX2_unlike_95 : decode cX2_unlike 95 = .ok (.ireturn, 1) := dk_172 (dk_at dksX2_unlike_4 1 rfl rfl)
abbrev cX2_ranked : ByteArray := prog_14_method_48_code
def yX2_ranked : MethodName := ⟨RX2, "ranked", "(I)I"⟩
def dkwX2_ranked_0 : List UInt8 := [42, 27, 182, 0, 140, 172]
abbrev dktX2_ranked_0 : List UInt8 := dkwX2_ranked_0 ++ []
theorem dksX2_ranked_0 : cX2_ranked.data.toList.drop 0 = dktX2_ranked_0 := by decide +kernel
theorem dX2_ranked_0 : decode cX2_ranked 0 = .ok (.aload_n 0, 1) := dk_42 (dk_at dksX2_ranked_0 0 rfl rfl)
theorem dX2_ranked_1 : decode cX2_ranked 1 = .ok (.iload_n 1, 1) := dk_27 (dk_at dksX2_ranked_0 1 rfl rfl)
theorem dX2_ranked_2 : decode cX2_ranked 2 = .ok (.invokevirtual 140, 3) := dk_182 0 140 (dk_at dksX2_ranked_0 2 rfl rfl)
theorem dX2_ranked_5 : decode cX2_ranked 5 = .ok (.ireturn, 1) := dk_172 (dk_at dksX2_ranked_0 5 rfl rfl)
abbrev cX2_would : ByteArray := prog_14_method_49_code
def yX2_would : MethodName := ⟨RX2, "would", "(IIII)I"⟩
def dkwX2_would_2 : List UInt8 := [182, 0, 88, 54, 5, 21, 4, 154, 0, 8, 21, 5, 167, 0, 9, 42, 21, 5, 182, 0, 137, 172]
abbrev dktX2_would_2 : List UInt8 := dkwX2_would_2 ++ []
def dkwX2_would_1 : List UInt8 := [184, 0, 54, 153, 0, 14, 21, 4, 133, 9, 10, 184, 0, 54, 154, 0, 6, 16, 254, 172, 42, 27, 28, 29]
abbrev dktX2_would_1 : List UInt8 := dkwX2_would_1 ++ dktX2_would_2
def dkwX2_would_0 : List UInt8 := [42, 27, 182, 0, 100, 153, 0, 11, 42, 28, 182, 0, 100, 154, 0, 5, 2, 172, 29, 133, 9, 20, 0, 104]
abbrev dktX2_would_0 : List UInt8 := dkwX2_would_0 ++ dktX2_would_1
theorem dksX2_would_0 : cX2_would.data.toList.drop 0 = dktX2_would_0 := by decide +kernel
theorem dksX2_would_1 : cX2_would.data.toList.drop 24 = dktX2_would_1 := dk_seg dksX2_would_0 24 rfl rfl
theorem dksX2_would_2 : cX2_would.data.toList.drop 48 = dktX2_would_2 := dk_seg dksX2_would_1 24 rfl rfl
theorem dX2_would_0 : decode cX2_would 0 = .ok (.aload_n 0, 1) := dk_42 (dk_at dksX2_would_0 0 rfl rfl)
theorem dX2_would_1 : decode cX2_would 1 = .ok (.iload_n 1, 1) := dk_27 (dk_at dksX2_would_0 1 rfl rfl)
theorem dX2_would_2 : decode cX2_would 2 = .ok (.invokevirtual 100, 3) := dk_182 0 100 (dk_at dksX2_would_0 2 rfl rfl)
theorem dX2_would_5 : decode cX2_would 5 = .ok (.ifCond .eq 11, 3) := dk_153 0 11 (dk_at dksX2_would_0 5 rfl rfl)
theorem dX2_would_8 : decode cX2_would 8 = .ok (.aload_n 0, 1) := dk_42 (dk_at dksX2_would_0 8 rfl rfl)
theorem dX2_would_9 : decode cX2_would 9 = .ok (.iload_n 2, 1) := dk_28 (dk_at dksX2_would_0 9 rfl rfl)
theorem dX2_would_10 : decode cX2_would 10 = .ok (.invokevirtual 100, 3) := dk_182 0 100 (dk_at dksX2_would_0 10 rfl rfl)
theorem dX2_would_13 : decode cX2_would 13 = .ok (.ifCond .ne 5, 3) := dk_154 0 5 (dk_at dksX2_would_0 13 rfl rfl)
theorem dX2_would_16 : decode cX2_would 16 = .ok (.iconst (-1), 1) := dk_2 (dk_at dksX2_would_0 16 rfl rfl)
theorem dX2_would_17 : decode cX2_would 17 = .ok (.ireturn, 1) := dk_172 (dk_at dksX2_would_0 17 rfl rfl)
theorem dX2_would_18 : decode cX2_would 18 = .ok (.iload_n 3, 1) := dk_29 (dk_at dksX2_would_0 18 rfl rfl)
theorem dX2_would_19 : decode cX2_would 19 = .ok (.i2l, 1) := dk_133 (dk_at dksX2_would_0 19 rfl rfl)
theorem dX2_would_20 : decode cX2_would 20 = .ok (.lconst 0, 1) := dk_9 (dk_at dksX2_would_0 20 rfl rfl)
theorem dX2_would_21 : decode cX2_would 21 = .ok (.ldc2_w 104, 3) := dk_20 0 104 (dk_at dksX2_would_0 21 rfl rfl)
theorem dX2_would_24 : decode cX2_would 24 = .ok (.invokestatic 54, 3) := dk_184 0 54 (dk_at dksX2_would_1 0 rfl rfl)
theorem dX2_would_27 : decode cX2_would 27 = .ok (.ifCond .eq 14, 3) := dk_153 0 14 (dk_at dksX2_would_1 3 rfl rfl)
theorem dX2_would_30 : decode cX2_would 30 = .ok (.iload 4, 2) := dk_21 4 (dk_at dksX2_would_1 6 rfl rfl)
theorem dX2_would_32 : decode cX2_would 32 = .ok (.i2l, 1) := dk_133 (dk_at dksX2_would_1 8 rfl rfl)
theorem dX2_would_33 : decode cX2_would 33 = .ok (.lconst 0, 1) := dk_9 (dk_at dksX2_would_1 9 rfl rfl)
theorem dX2_would_34 : decode cX2_would 34 = .ok (.lconst 1, 1) := dk_10 (dk_at dksX2_would_1 10 rfl rfl)
theorem dX2_would_35 : decode cX2_would 35 = .ok (.invokestatic 54, 3) := dk_184 0 54 (dk_at dksX2_would_1 11 rfl rfl)
theorem dX2_would_38 : decode cX2_would 38 = .ok (.ifCond .ne 6, 3) := dk_154 0 6 (dk_at dksX2_would_1 14 rfl rfl)
theorem dX2_would_41 : decode cX2_would 41 = .ok (.bipush (-2), 2) := dk_16 254 (dk_at dksX2_would_1 17 rfl rfl)
theorem dX2_would_43 : decode cX2_would 43 = .ok (.ireturn, 1) := dk_172 (dk_at dksX2_would_1 19 rfl rfl)
theorem dX2_would_44 : decode cX2_would 44 = .ok (.aload_n 0, 1) := dk_42 (dk_at dksX2_would_1 20 rfl rfl)
theorem dX2_would_45 : decode cX2_would 45 = .ok (.iload_n 1, 1) := dk_27 (dk_at dksX2_would_1 21 rfl rfl)
theorem dX2_would_46 : decode cX2_would 46 = .ok (.iload_n 2, 1) := dk_28 (dk_at dksX2_would_1 22 rfl rfl)
theorem dX2_would_47 : decode cX2_would 47 = .ok (.iload_n 3, 1) := dk_29 (dk_at dksX2_would_1 23 rfl rfl)
theorem dX2_would_48 : decode cX2_would 48 = .ok (.invokevirtual 88, 3) := dk_182 0 88 (dk_at dksX2_would_2 0 rfl rfl)
theorem dX2_would_51 : decode cX2_would 51 = .ok (.istore 5, 2) := dk_54 5 (dk_at dksX2_would_2 3 rfl rfl)
theorem dX2_would_53 : decode cX2_would 53 = .ok (.iload 4, 2) := dk_21 4 (dk_at dksX2_would_2 5 rfl rfl)
theorem dX2_would_55 : decode cX2_would 55 = .ok (.ifCond .ne 8, 3) := dk_154 0 8 (dk_at dksX2_would_2 7 rfl rfl)
theorem dX2_would_58 : decode cX2_would 58 = .ok (.iload 5, 2) := dk_21 5 (dk_at dksX2_would_2 10 rfl rfl)
theorem dX2_would_60 : decode cX2_would 60 = .ok (.goto 9, 3) := dk_167 0 9 (dk_at dksX2_would_2 12 rfl rfl)
theorem dX2_would_63 : decode cX2_would 63 = .ok (.aload_n 0, 1) := dk_42 (dk_at dksX2_would_2 15 rfl rfl)
theorem dX2_would_64 : decode cX2_would 64 = .ok (.iload 5, 2) := dk_21 5 (dk_at dksX2_would_2 16 rfl rfl)
theorem dX2_would_66 : decode cX2_would 66 = .ok (.invokevirtual 137, 3) := dk_182 0 137 (dk_at dksX2_would_2 18 rfl rfl)
theorem dX2_would_69 : decode cX2_would 69 = .ok (.ireturn, 1) := dk_172 (dk_at dksX2_would_2 21 rfl rfl)
abbrev cX2_bestPoint : ByteArray := prog_14_method_51_code
def yX2_bestPoint : MethodName := ⟨RX2, "bestPoint", "(II)I"⟩
def dkwX2_bestPoint_1 : List UInt8 := [167, 0, 4, 2, 172]
abbrev dktX2_bestPoint_1 : List UInt8 := dkwX2_bestPoint_1 ++ []
def dkwX2_bestPoint_0 : List UInt8 := [42, 27, 182, 0, 100, 153, 0, 20, 42, 28, 182, 0, 100, 153, 0, 12, 42, 27, 28, 182, 0, 172]
abbrev dktX2_bestPoint_0 : List UInt8 := dkwX2_bestPoint_0 ++ dktX2_bestPoint_1
theorem dksX2_bestPoint_0 : cX2_bestPoint.data.toList.drop 0 = dktX2_bestPoint_0 := by decide +kernel
theorem dksX2_bestPoint_1 : cX2_bestPoint.data.toList.drop 22 = dktX2_bestPoint_1 := dk_seg dksX2_bestPoint_0 22 rfl rfl
theorem dX2_bestPoint_0 : decode cX2_bestPoint 0 = .ok (.aload_n 0, 1) := dk_42 (dk_at dksX2_bestPoint_0 0 rfl rfl)
theorem dX2_bestPoint_1 : decode cX2_bestPoint 1 = .ok (.iload_n 1, 1) := dk_27 (dk_at dksX2_bestPoint_0 1 rfl rfl)
theorem dX2_bestPoint_2 : decode cX2_bestPoint 2 = .ok (.invokevirtual 100, 3) := dk_182 0 100 (dk_at dksX2_bestPoint_0 2 rfl rfl)
theorem dX2_bestPoint_5 : decode cX2_bestPoint 5 = .ok (.ifCond .eq 20, 3) := dk_153 0 20 (dk_at dksX2_bestPoint_0 5 rfl rfl)
theorem dX2_bestPoint_8 : decode cX2_bestPoint 8 = .ok (.aload_n 0, 1) := dk_42 (dk_at dksX2_bestPoint_0 8 rfl rfl)
theorem dX2_bestPoint_9 : decode cX2_bestPoint 9 = .ok (.iload_n 2, 1) := dk_28 (dk_at dksX2_bestPoint_0 9 rfl rfl)
theorem dX2_bestPoint_10 : decode cX2_bestPoint 10 = .ok (.invokevirtual 100, 3) := dk_182 0 100 (dk_at dksX2_bestPoint_0 10 rfl rfl)
theorem dX2_bestPoint_13 : decode cX2_bestPoint 13 = .ok (.ifCond .eq 12, 3) := dk_153 0 12 (dk_at dksX2_bestPoint_0 13 rfl rfl)
theorem dX2_bestPoint_16 : decode cX2_bestPoint 16 = .ok (.aload_n 0, 1) := dk_42 (dk_at dksX2_bestPoint_0 16 rfl rfl)
theorem dX2_bestPoint_17 : decode cX2_bestPoint 17 = .ok (.iload_n 1, 1) := dk_27 (dk_at dksX2_bestPoint_0 17 rfl rfl)
theorem dX2_bestPoint_18 : decode cX2_bestPoint 18 = .ok (.iload_n 2, 1) := dk_28 (dk_at dksX2_bestPoint_0 18 rfl rfl)
theorem dX2_bestPoint_19 : decode cX2_bestPoint 19 = .ok (.invokevirtual 172, 3) := dk_182 0 172 (dk_at dksX2_bestPoint_0 19 rfl rfl)
theorem dX2_bestPoint_22 : decode cX2_bestPoint 22 = .ok (.goto 4, 3) := dk_167 0 4 (dk_at dksX2_bestPoint_1 0 rfl rfl)
theorem dX2_bestPoint_25 : decode cX2_bestPoint 25 = .ok (.iconst (-1), 1) := dk_2 (dk_at dksX2_bestPoint_1 3 rfl rfl)
theorem dX2_bestPoint_26 : decode cX2_bestPoint 26 = .ok (.ireturn, 1) := dk_172 (dk_at dksX2_bestPoint_1 4 rfl rfl)
abbrev cX2_bestOf : ByteArray := prog_14_method_50_code
def yX2_bestOf : MethodName := ⟨RX2, "bestOf", "(II)I"⟩
def dkwX2_bestOf_2 : List UInt8 := [167, 255, 213, 29, 172]
abbrev dktX2_bestOf_2 : List UInt8 := dkwX2_bestOf_2 ++ []
def dkwX2_bestOf_1 : List UInt8 := [42, 42, 27, 28, 29, 182, 0, 88, 182, 0, 137, 164, 0, 8, 21, 4, 167, 0, 4, 29, 62, 132, 4, 1]
abbrev dktX2_bestOf_1 : List UInt8 := dkwX2_bestOf_1 ++ dktX2_bestOf_2
def dkwX2_bestOf_0 : List UInt8 := [3, 62, 4, 54, 4, 21, 4, 16, 8, 163, 0, 42, 42, 42, 27, 28, 21, 4, 182, 0, 88, 182, 0, 137]
abbrev dktX2_bestOf_0 : List UInt8 := dkwX2_bestOf_0 ++ dktX2_bestOf_1
theorem dksX2_bestOf_0 : cX2_bestOf.data.toList.drop 0 = dktX2_bestOf_0 := by decide +kernel
theorem dksX2_bestOf_1 : cX2_bestOf.data.toList.drop 24 = dktX2_bestOf_1 := dk_seg dksX2_bestOf_0 24 rfl rfl
theorem dksX2_bestOf_2 : cX2_bestOf.data.toList.drop 48 = dktX2_bestOf_2 := dk_seg dksX2_bestOf_1 24 rfl rfl
theorem dX2_bestOf_0 : decode cX2_bestOf 0 = .ok (.iconst 0, 1) := dk_3 (dk_at dksX2_bestOf_0 0 rfl rfl)
theorem dX2_bestOf_1 : decode cX2_bestOf 1 = .ok (.istore_n 3, 1) := dk_62 (dk_at dksX2_bestOf_0 1 rfl rfl)
theorem dX2_bestOf_2 : decode cX2_bestOf 2 = .ok (.iconst 1, 1) := dk_4 (dk_at dksX2_bestOf_0 2 rfl rfl)
theorem dX2_bestOf_3 : decode cX2_bestOf 3 = .ok (.istore 4, 2) := dk_54 4 (dk_at dksX2_bestOf_0 3 rfl rfl)
theorem dX2_bestOf_5 : decode cX2_bestOf 5 = .ok (.iload 4, 2) := dk_21 4 (dk_at dksX2_bestOf_0 5 rfl rfl)
theorem dX2_bestOf_7 : decode cX2_bestOf 7 = .ok (.bipush 8, 2) := dk_16 8 (dk_at dksX2_bestOf_0 7 rfl rfl)
theorem dX2_bestOf_9 : decode cX2_bestOf 9 = .ok (.if_icmp .gt 42, 3) := dk_163 0 42 (dk_at dksX2_bestOf_0 9 rfl rfl)
theorem dX2_bestOf_12 : decode cX2_bestOf 12 = .ok (.aload_n 0, 1) := dk_42 (dk_at dksX2_bestOf_0 12 rfl rfl)
theorem dX2_bestOf_13 : decode cX2_bestOf 13 = .ok (.aload_n 0, 1) := dk_42 (dk_at dksX2_bestOf_0 13 rfl rfl)
theorem dX2_bestOf_14 : decode cX2_bestOf 14 = .ok (.iload_n 1, 1) := dk_27 (dk_at dksX2_bestOf_0 14 rfl rfl)
theorem dX2_bestOf_15 : decode cX2_bestOf 15 = .ok (.iload_n 2, 1) := dk_28 (dk_at dksX2_bestOf_0 15 rfl rfl)
theorem dX2_bestOf_16 : decode cX2_bestOf 16 = .ok (.iload 4, 2) := dk_21 4 (dk_at dksX2_bestOf_0 16 rfl rfl)
theorem dX2_bestOf_18 : decode cX2_bestOf 18 = .ok (.invokevirtual 88, 3) := dk_182 0 88 (dk_at dksX2_bestOf_0 18 rfl rfl)
theorem dX2_bestOf_21 : decode cX2_bestOf 21 = .ok (.invokevirtual 137, 3) := dk_182 0 137 (dk_at dksX2_bestOf_0 21 rfl rfl)
theorem dX2_bestOf_24 : decode cX2_bestOf 24 = .ok (.aload_n 0, 1) := dk_42 (dk_at dksX2_bestOf_1 0 rfl rfl)
theorem dX2_bestOf_25 : decode cX2_bestOf 25 = .ok (.aload_n 0, 1) := dk_42 (dk_at dksX2_bestOf_1 1 rfl rfl)
theorem dX2_bestOf_26 : decode cX2_bestOf 26 = .ok (.iload_n 1, 1) := dk_27 (dk_at dksX2_bestOf_1 2 rfl rfl)
theorem dX2_bestOf_27 : decode cX2_bestOf 27 = .ok (.iload_n 2, 1) := dk_28 (dk_at dksX2_bestOf_1 3 rfl rfl)
theorem dX2_bestOf_28 : decode cX2_bestOf 28 = .ok (.iload_n 3, 1) := dk_29 (dk_at dksX2_bestOf_1 4 rfl rfl)
theorem dX2_bestOf_29 : decode cX2_bestOf 29 = .ok (.invokevirtual 88, 3) := dk_182 0 88 (dk_at dksX2_bestOf_1 5 rfl rfl)
theorem dX2_bestOf_32 : decode cX2_bestOf 32 = .ok (.invokevirtual 137, 3) := dk_182 0 137 (dk_at dksX2_bestOf_1 8 rfl rfl)
theorem dX2_bestOf_35 : decode cX2_bestOf 35 = .ok (.if_icmp .le 8, 3) := dk_164 0 8 (dk_at dksX2_bestOf_1 11 rfl rfl)
theorem dX2_bestOf_38 : decode cX2_bestOf 38 = .ok (.iload 4, 2) := dk_21 4 (dk_at dksX2_bestOf_1 14 rfl rfl)
theorem dX2_bestOf_40 : decode cX2_bestOf 40 = .ok (.goto 4, 3) := dk_167 0 4 (dk_at dksX2_bestOf_1 16 rfl rfl)
theorem dX2_bestOf_43 : decode cX2_bestOf 43 = .ok (.iload_n 3, 1) := dk_29 (dk_at dksX2_bestOf_1 19 rfl rfl)
theorem dX2_bestOf_44 : decode cX2_bestOf 44 = .ok (.istore_n 3, 1) := dk_62 (dk_at dksX2_bestOf_1 20 rfl rfl)
theorem dX2_bestOf_45 : decode cX2_bestOf 45 = .ok (.iinc 4 1, 3) := dk_132 4 1 (dk_at dksX2_bestOf_1 21 rfl rfl)
theorem dX2_bestOf_48 : decode cX2_bestOf 48 = .ok (.goto (-43), 3) := dk_167 255 213 (dk_at dksX2_bestOf_2 0 rfl rfl)
theorem dX2_bestOf_51 : decode cX2_bestOf 51 = .ok (.iload_n 3, 1) := dk_29 (dk_at dksX2_bestOf_2 3 rfl rfl)
theorem dX2_bestOf_52 : decode cX2_bestOf 52 = .ok (.ireturn, 1) := dk_172 (dk_at dksX2_bestOf_2 4 rfl rfl)
abbrev cX2_bestPair : ByteArray := prog_14_method_52_code
def yX2_bestPair : MethodName := ⟨RX2, "bestPair", "(I)I"⟩
def dkwX2_bestPair_5 : List UInt8 := [167, 255, 175, 132, 4, 1, 167, 255, 155, 29, 172]
abbrev dktX2_bestPair_5 : List UInt8 := dkwX2_bestPair_5 ++ []
def dkwX2_bestPair_4 : List UInt8 := [164, 0, 19, 21, 6, 61, 27, 4, 160, 0, 8, 21, 5, 167, 0, 5, 21, 4, 62, 132, 5, 1]
abbrev dktX2_bestPair_4 : List UInt8 := dkwX2_bestPair_4 ++ dktX2_bestPair_5
def dkwX2_bestPair_3 : List UInt8 := [21, 4, 21, 5, 182, 0, 172, 182, 0, 88, 182, 0, 137, 167, 0, 5, 16, 252, 54, 6, 21, 6, 28]
abbrev dktX2_bestPair_3 : List UInt8 := dkwX2_bestPair_3 ++ dktX2_bestPair_4
def dkwX2_bestPair_2 : List UInt8 := [21, 4, 182, 0, 106, 153, 0, 35, 42, 21, 5, 182, 0, 106, 153, 0, 26, 42, 42, 21, 4, 21, 5, 42]
abbrev dktX2_bestPair_2 : List UInt8 := dkwX2_bestPair_2 ++ dktX2_bestPair_3
def dkwX2_bestPair_1 : List UInt8 := [42, 180, 0, 9, 3, 46, 162, 0, 96, 3, 54, 5, 21, 5, 42, 180, 0, 9, 3, 46, 162, 0, 76, 42]
abbrev dktX2_bestPair_1 : List UInt8 := dkwX2_bestPair_1 ++ dktX2_bestPair_2
def dkwX2_bestPair_0 : List UInt8 := [27, 133, 9, 10, 184, 0, 54, 154, 0, 6, 16, 254, 172, 16, 252, 61, 16, 252, 62, 3, 54, 4, 21, 4]
abbrev dktX2_bestPair_0 : List UInt8 := dkwX2_bestPair_0 ++ dktX2_bestPair_1
theorem dksX2_bestPair_0 : cX2_bestPair.data.toList.drop 0 = dktX2_bestPair_0 := by decide +kernel
theorem dksX2_bestPair_1 : cX2_bestPair.data.toList.drop 24 = dktX2_bestPair_1 := dk_seg dksX2_bestPair_0 24 rfl rfl
theorem dksX2_bestPair_2 : cX2_bestPair.data.toList.drop 48 = dktX2_bestPair_2 := dk_seg dksX2_bestPair_1 24 rfl rfl
theorem dksX2_bestPair_3 : cX2_bestPair.data.toList.drop 72 = dktX2_bestPair_3 := dk_seg dksX2_bestPair_2 24 rfl rfl
theorem dksX2_bestPair_4 : cX2_bestPair.data.toList.drop 95 = dktX2_bestPair_4 := dk_seg dksX2_bestPair_3 23 rfl rfl
theorem dksX2_bestPair_5 : cX2_bestPair.data.toList.drop 117 = dktX2_bestPair_5 := dk_seg dksX2_bestPair_4 22 rfl rfl
theorem dX2_bestPair_0 : decode cX2_bestPair 0 = .ok (.iload_n 1, 1) := dk_27 (dk_at dksX2_bestPair_0 0 rfl rfl)
theorem dX2_bestPair_1 : decode cX2_bestPair 1 = .ok (.i2l, 1) := dk_133 (dk_at dksX2_bestPair_0 1 rfl rfl)
theorem dX2_bestPair_2 : decode cX2_bestPair 2 = .ok (.lconst 0, 1) := dk_9 (dk_at dksX2_bestPair_0 2 rfl rfl)
theorem dX2_bestPair_3 : decode cX2_bestPair 3 = .ok (.lconst 1, 1) := dk_10 (dk_at dksX2_bestPair_0 3 rfl rfl)
theorem dX2_bestPair_4 : decode cX2_bestPair 4 = .ok (.invokestatic 54, 3) := dk_184 0 54 (dk_at dksX2_bestPair_0 4 rfl rfl)
theorem dX2_bestPair_7 : decode cX2_bestPair 7 = .ok (.ifCond .ne 6, 3) := dk_154 0 6 (dk_at dksX2_bestPair_0 7 rfl rfl)
theorem dX2_bestPair_10 : decode cX2_bestPair 10 = .ok (.bipush (-2), 2) := dk_16 254 (dk_at dksX2_bestPair_0 10 rfl rfl)
theorem dX2_bestPair_12 : decode cX2_bestPair 12 = .ok (.ireturn, 1) := dk_172 (dk_at dksX2_bestPair_0 12 rfl rfl)
theorem dX2_bestPair_13 : decode cX2_bestPair 13 = .ok (.bipush (-4), 2) := dk_16 252 (dk_at dksX2_bestPair_0 13 rfl rfl)
theorem dX2_bestPair_15 : decode cX2_bestPair 15 = .ok (.istore_n 2, 1) := dk_61 (dk_at dksX2_bestPair_0 15 rfl rfl)
theorem dX2_bestPair_16 : decode cX2_bestPair 16 = .ok (.bipush (-4), 2) := dk_16 252 (dk_at dksX2_bestPair_0 16 rfl rfl)
theorem dX2_bestPair_18 : decode cX2_bestPair 18 = .ok (.istore_n 3, 1) := dk_62 (dk_at dksX2_bestPair_0 18 rfl rfl)
theorem dX2_bestPair_19 : decode cX2_bestPair 19 = .ok (.iconst 0, 1) := dk_3 (dk_at dksX2_bestPair_0 19 rfl rfl)
theorem dX2_bestPair_20 : decode cX2_bestPair 20 = .ok (.istore 4, 2) := dk_54 4 (dk_at dksX2_bestPair_0 20 rfl rfl)
theorem dX2_bestPair_22 : decode cX2_bestPair 22 = .ok (.iload 4, 2) := dk_21 4 (dk_at dksX2_bestPair_0 22 rfl rfl)
theorem dX2_bestPair_24 : decode cX2_bestPair 24 = .ok (.aload_n 0, 1) := dk_42 (dk_at dksX2_bestPair_1 0 rfl rfl)
theorem dX2_bestPair_25 : decode cX2_bestPair 25 = .ok (.getfield 9, 3) := dk_180 0 9 (dk_at dksX2_bestPair_1 1 rfl rfl)
theorem dX2_bestPair_28 : decode cX2_bestPair 28 = .ok (.iconst 0, 1) := dk_3 (dk_at dksX2_bestPair_1 4 rfl rfl)
theorem dX2_bestPair_29 : decode cX2_bestPair 29 = .ok (.iaload, 1) := dk_46 (dk_at dksX2_bestPair_1 5 rfl rfl)
theorem dX2_bestPair_30 : decode cX2_bestPair 30 = .ok (.if_icmp .ge 96, 3) := dk_162 0 96 (dk_at dksX2_bestPair_1 6 rfl rfl)
theorem dX2_bestPair_33 : decode cX2_bestPair 33 = .ok (.iconst 0, 1) := dk_3 (dk_at dksX2_bestPair_1 9 rfl rfl)
theorem dX2_bestPair_34 : decode cX2_bestPair 34 = .ok (.istore 5, 2) := dk_54 5 (dk_at dksX2_bestPair_1 10 rfl rfl)
theorem dX2_bestPair_36 : decode cX2_bestPair 36 = .ok (.iload 5, 2) := dk_21 5 (dk_at dksX2_bestPair_1 12 rfl rfl)
theorem dX2_bestPair_38 : decode cX2_bestPair 38 = .ok (.aload_n 0, 1) := dk_42 (dk_at dksX2_bestPair_1 14 rfl rfl)
theorem dX2_bestPair_39 : decode cX2_bestPair 39 = .ok (.getfield 9, 3) := dk_180 0 9 (dk_at dksX2_bestPair_1 15 rfl rfl)
theorem dX2_bestPair_42 : decode cX2_bestPair 42 = .ok (.iconst 0, 1) := dk_3 (dk_at dksX2_bestPair_1 18 rfl rfl)
theorem dX2_bestPair_43 : decode cX2_bestPair 43 = .ok (.iaload, 1) := dk_46 (dk_at dksX2_bestPair_1 19 rfl rfl)
theorem dX2_bestPair_44 : decode cX2_bestPair 44 = .ok (.if_icmp .ge 76, 3) := dk_162 0 76 (dk_at dksX2_bestPair_1 20 rfl rfl)
theorem dX2_bestPair_47 : decode cX2_bestPair 47 = .ok (.aload_n 0, 1) := dk_42 (dk_at dksX2_bestPair_1 23 rfl rfl)
theorem dX2_bestPair_48 : decode cX2_bestPair 48 = .ok (.iload 4, 2) := dk_21 4 (dk_at dksX2_bestPair_2 0 rfl rfl)
theorem dX2_bestPair_50 : decode cX2_bestPair 50 = .ok (.invokevirtual 106, 3) := dk_182 0 106 (dk_at dksX2_bestPair_2 2 rfl rfl)
theorem dX2_bestPair_53 : decode cX2_bestPair 53 = .ok (.ifCond .eq 35, 3) := dk_153 0 35 (dk_at dksX2_bestPair_2 5 rfl rfl)
theorem dX2_bestPair_56 : decode cX2_bestPair 56 = .ok (.aload_n 0, 1) := dk_42 (dk_at dksX2_bestPair_2 8 rfl rfl)
theorem dX2_bestPair_57 : decode cX2_bestPair 57 = .ok (.iload 5, 2) := dk_21 5 (dk_at dksX2_bestPair_2 9 rfl rfl)
theorem dX2_bestPair_59 : decode cX2_bestPair 59 = .ok (.invokevirtual 106, 3) := dk_182 0 106 (dk_at dksX2_bestPair_2 11 rfl rfl)
theorem dX2_bestPair_62 : decode cX2_bestPair 62 = .ok (.ifCond .eq 26, 3) := dk_153 0 26 (dk_at dksX2_bestPair_2 14 rfl rfl)
theorem dX2_bestPair_65 : decode cX2_bestPair 65 = .ok (.aload_n 0, 1) := dk_42 (dk_at dksX2_bestPair_2 17 rfl rfl)
theorem dX2_bestPair_66 : decode cX2_bestPair 66 = .ok (.aload_n 0, 1) := dk_42 (dk_at dksX2_bestPair_2 18 rfl rfl)
theorem dX2_bestPair_67 : decode cX2_bestPair 67 = .ok (.iload 4, 2) := dk_21 4 (dk_at dksX2_bestPair_2 19 rfl rfl)
theorem dX2_bestPair_69 : decode cX2_bestPair 69 = .ok (.iload 5, 2) := dk_21 5 (dk_at dksX2_bestPair_2 21 rfl rfl)
theorem dX2_bestPair_71 : decode cX2_bestPair 71 = .ok (.aload_n 0, 1) := dk_42 (dk_at dksX2_bestPair_2 23 rfl rfl)
theorem dX2_bestPair_72 : decode cX2_bestPair 72 = .ok (.iload 4, 2) := dk_21 4 (dk_at dksX2_bestPair_3 0 rfl rfl)
theorem dX2_bestPair_74 : decode cX2_bestPair 74 = .ok (.iload 5, 2) := dk_21 5 (dk_at dksX2_bestPair_3 2 rfl rfl)
theorem dX2_bestPair_76 : decode cX2_bestPair 76 = .ok (.invokevirtual 172, 3) := dk_182 0 172 (dk_at dksX2_bestPair_3 4 rfl rfl)
theorem dX2_bestPair_79 : decode cX2_bestPair 79 = .ok (.invokevirtual 88, 3) := dk_182 0 88 (dk_at dksX2_bestPair_3 7 rfl rfl)
theorem dX2_bestPair_82 : decode cX2_bestPair 82 = .ok (.invokevirtual 137, 3) := dk_182 0 137 (dk_at dksX2_bestPair_3 10 rfl rfl)
theorem dX2_bestPair_85 : decode cX2_bestPair 85 = .ok (.goto 5, 3) := dk_167 0 5 (dk_at dksX2_bestPair_3 13 rfl rfl)
theorem dX2_bestPair_88 : decode cX2_bestPair 88 = .ok (.bipush (-4), 2) := dk_16 252 (dk_at dksX2_bestPair_3 16 rfl rfl)
theorem dX2_bestPair_90 : decode cX2_bestPair 90 = .ok (.istore 6, 2) := dk_54 6 (dk_at dksX2_bestPair_3 18 rfl rfl)
theorem dX2_bestPair_92 : decode cX2_bestPair 92 = .ok (.iload 6, 2) := dk_21 6 (dk_at dksX2_bestPair_3 20 rfl rfl)
theorem dX2_bestPair_94 : decode cX2_bestPair 94 = .ok (.iload_n 2, 1) := dk_28 (dk_at dksX2_bestPair_3 22 rfl rfl)
theorem dX2_bestPair_95 : decode cX2_bestPair 95 = .ok (.if_icmp .le 19, 3) := dk_164 0 19 (dk_at dksX2_bestPair_4 0 rfl rfl)
theorem dX2_bestPair_98 : decode cX2_bestPair 98 = .ok (.iload 6, 2) := dk_21 6 (dk_at dksX2_bestPair_4 3 rfl rfl)
theorem dX2_bestPair_100 : decode cX2_bestPair 100 = .ok (.istore_n 2, 1) := dk_61 (dk_at dksX2_bestPair_4 5 rfl rfl)
theorem dX2_bestPair_101 : decode cX2_bestPair 101 = .ok (.iload_n 1, 1) := dk_27 (dk_at dksX2_bestPair_4 6 rfl rfl)
theorem dX2_bestPair_102 : decode cX2_bestPair 102 = .ok (.iconst 1, 1) := dk_4 (dk_at dksX2_bestPair_4 7 rfl rfl)
theorem dX2_bestPair_103 : decode cX2_bestPair 103 = .ok (.if_icmp .ne 8, 3) := dk_160 0 8 (dk_at dksX2_bestPair_4 8 rfl rfl)
theorem dX2_bestPair_106 : decode cX2_bestPair 106 = .ok (.iload 5, 2) := dk_21 5 (dk_at dksX2_bestPair_4 11 rfl rfl)
theorem dX2_bestPair_108 : decode cX2_bestPair 108 = .ok (.goto 5, 3) := dk_167 0 5 (dk_at dksX2_bestPair_4 13 rfl rfl)
theorem dX2_bestPair_111 : decode cX2_bestPair 111 = .ok (.iload 4, 2) := dk_21 4 (dk_at dksX2_bestPair_4 16 rfl rfl)
theorem dX2_bestPair_113 : decode cX2_bestPair 113 = .ok (.istore_n 3, 1) := dk_62 (dk_at dksX2_bestPair_4 18 rfl rfl)
theorem dX2_bestPair_114 : decode cX2_bestPair 114 = .ok (.iinc 5 1, 3) := dk_132 5 1 (dk_at dksX2_bestPair_4 19 rfl rfl)
theorem dX2_bestPair_117 : decode cX2_bestPair 117 = .ok (.goto (-81), 3) := dk_167 255 175 (dk_at dksX2_bestPair_5 0 rfl rfl)
theorem dX2_bestPair_120 : decode cX2_bestPair 120 = .ok (.iinc 4 1, 3) := dk_132 4 1 (dk_at dksX2_bestPair_5 3 rfl rfl)
theorem dX2_bestPair_123 : decode cX2_bestPair 123 = .ok (.goto (-101), 3) := dk_167 255 155 (dk_at dksX2_bestPair_5 6 rfl rfl)
theorem dX2_bestPair_126 : decode cX2_bestPair 126 = .ok (.iload_n 3, 1) := dk_29 (dk_at dksX2_bestPair_5 9 rfl rfl)
theorem dX2_bestPair_127 : decode cX2_bestPair 127 = .ok (.ireturn, 1) := dk_172 (dk_at dksX2_bestPair_5 10 rfl rfl)
abbrev cX2_worthIn : ByteArray := prog_14_method_53_code
def yX2_worthIn : MethodName := ⟨RX2, "worthIn", "(I)I"⟩
def dkwX2_worthIn_4 : List UInt8 := [21, 4, 42, 180, 0, 16, 21, 4, 46, 79, 132, 4, 1, 167, 255, 231, 29, 172]
abbrev dktX2_worthIn_4 : List UInt8 := dkwX2_worthIn_4 ++ []
def dkwX2_worthIn_3 : List UInt8 := [184, 0, 58, 46, 182, 0, 137, 62, 3, 54, 4, 21, 4, 17, 1, 38, 162, 0, 23, 42, 180, 0, 9]
abbrev dktX2_worthIn_3 : List UInt8 := dkwX2_worthIn_3 ++ dktX2_worthIn_4
def dkwX2_worthIn_2 : List UInt8 := [42, 3, 182, 0, 140, 61, 28, 2, 160, 0, 8, 16, 252, 167, 0, 16, 42, 42, 180, 0, 9, 28]
abbrev dktX2_worthIn_2 : List UInt8 := dkwX2_worthIn_2 ++ dktX2_worthIn_3
def dkwX2_worthIn_1 : List UInt8 := [42, 180, 0, 16, 28, 42, 180, 0, 9, 28, 46, 79, 132, 2, 1, 167, 255, 234, 42, 27, 182, 0, 148, 87]
abbrev dktX2_worthIn_1 : List UInt8 := dkwX2_worthIn_1 ++ dktX2_worthIn_2
def dkwX2_worthIn_0 : List UInt8 := [27, 133, 9, 20, 0, 146, 184, 0, 54, 154, 0, 6, 16, 254, 172, 3, 61, 28, 17, 1, 38, 162, 0, 21]
abbrev dktX2_worthIn_0 : List UInt8 := dkwX2_worthIn_0 ++ dktX2_worthIn_1
theorem dksX2_worthIn_0 : cX2_worthIn.data.toList.drop 0 = dktX2_worthIn_0 := by decide +kernel
theorem dksX2_worthIn_1 : cX2_worthIn.data.toList.drop 24 = dktX2_worthIn_1 := dk_seg dksX2_worthIn_0 24 rfl rfl
theorem dksX2_worthIn_2 : cX2_worthIn.data.toList.drop 48 = dktX2_worthIn_2 := dk_seg dksX2_worthIn_1 24 rfl rfl
theorem dksX2_worthIn_3 : cX2_worthIn.data.toList.drop 70 = dktX2_worthIn_3 := dk_seg dksX2_worthIn_2 22 rfl rfl
theorem dksX2_worthIn_4 : cX2_worthIn.data.toList.drop 93 = dktX2_worthIn_4 := dk_seg dksX2_worthIn_3 23 rfl rfl
theorem dX2_worthIn_0 : decode cX2_worthIn 0 = .ok (.iload_n 1, 1) := dk_27 (dk_at dksX2_worthIn_0 0 rfl rfl)
theorem dX2_worthIn_1 : decode cX2_worthIn 1 = .ok (.i2l, 1) := dk_133 (dk_at dksX2_worthIn_0 1 rfl rfl)
theorem dX2_worthIn_2 : decode cX2_worthIn 2 = .ok (.lconst 0, 1) := dk_9 (dk_at dksX2_worthIn_0 2 rfl rfl)
theorem dX2_worthIn_3 : decode cX2_worthIn 3 = .ok (.ldc2_w 146, 3) := dk_20 0 146 (dk_at dksX2_worthIn_0 3 rfl rfl)
theorem dX2_worthIn_6 : decode cX2_worthIn 6 = .ok (.invokestatic 54, 3) := dk_184 0 54 (dk_at dksX2_worthIn_0 6 rfl rfl)
theorem dX2_worthIn_9 : decode cX2_worthIn 9 = .ok (.ifCond .ne 6, 3) := dk_154 0 6 (dk_at dksX2_worthIn_0 9 rfl rfl)
theorem dX2_worthIn_12 : decode cX2_worthIn 12 = .ok (.bipush (-2), 2) := dk_16 254 (dk_at dksX2_worthIn_0 12 rfl rfl)
theorem dX2_worthIn_14 : decode cX2_worthIn 14 = .ok (.ireturn, 1) := dk_172 (dk_at dksX2_worthIn_0 14 rfl rfl)
theorem dX2_worthIn_15 : decode cX2_worthIn 15 = .ok (.iconst 0, 1) := dk_3 (dk_at dksX2_worthIn_0 15 rfl rfl)
theorem dX2_worthIn_16 : decode cX2_worthIn 16 = .ok (.istore_n 2, 1) := dk_61 (dk_at dksX2_worthIn_0 16 rfl rfl)
theorem dX2_worthIn_17 : decode cX2_worthIn 17 = .ok (.iload_n 2, 1) := dk_28 (dk_at dksX2_worthIn_0 17 rfl rfl)
theorem dX2_worthIn_18 : decode cX2_worthIn 18 = .ok (.sipush 294, 3) := dk_17 1 38 (dk_at dksX2_worthIn_0 18 rfl rfl)
theorem dX2_worthIn_21 : decode cX2_worthIn 21 = .ok (.if_icmp .ge 21, 3) := dk_162 0 21 (dk_at dksX2_worthIn_0 21 rfl rfl)
theorem dX2_worthIn_24 : decode cX2_worthIn 24 = .ok (.aload_n 0, 1) := dk_42 (dk_at dksX2_worthIn_1 0 rfl rfl)
theorem dX2_worthIn_25 : decode cX2_worthIn 25 = .ok (.getfield 16, 3) := dk_180 0 16 (dk_at dksX2_worthIn_1 1 rfl rfl)
theorem dX2_worthIn_28 : decode cX2_worthIn 28 = .ok (.iload_n 2, 1) := dk_28 (dk_at dksX2_worthIn_1 4 rfl rfl)
theorem dX2_worthIn_29 : decode cX2_worthIn 29 = .ok (.aload_n 0, 1) := dk_42 (dk_at dksX2_worthIn_1 5 rfl rfl)
theorem dX2_worthIn_30 : decode cX2_worthIn 30 = .ok (.getfield 9, 3) := dk_180 0 9 (dk_at dksX2_worthIn_1 6 rfl rfl)
theorem dX2_worthIn_33 : decode cX2_worthIn 33 = .ok (.iload_n 2, 1) := dk_28 (dk_at dksX2_worthIn_1 9 rfl rfl)
theorem dX2_worthIn_34 : decode cX2_worthIn 34 = .ok (.iaload, 1) := dk_46 (dk_at dksX2_worthIn_1 10 rfl rfl)
theorem dX2_worthIn_35 : decode cX2_worthIn 35 = .ok (.iastore, 1) := dk_79 (dk_at dksX2_worthIn_1 11 rfl rfl)
theorem dX2_worthIn_36 : decode cX2_worthIn 36 = .ok (.iinc 2 1, 3) := dk_132 2 1 (dk_at dksX2_worthIn_1 12 rfl rfl)
theorem dX2_worthIn_39 : decode cX2_worthIn 39 = .ok (.goto (-22), 3) := dk_167 255 234 (dk_at dksX2_worthIn_1 15 rfl rfl)
theorem dX2_worthIn_42 : decode cX2_worthIn 42 = .ok (.aload_n 0, 1) := dk_42 (dk_at dksX2_worthIn_1 18 rfl rfl)
theorem dX2_worthIn_43 : decode cX2_worthIn 43 = .ok (.iload_n 1, 1) := dk_27 (dk_at dksX2_worthIn_1 19 rfl rfl)
theorem dX2_worthIn_44 : decode cX2_worthIn 44 = .ok (.invokevirtual 148, 3) := dk_182 0 148 (dk_at dksX2_worthIn_1 20 rfl rfl)
theorem dX2_worthIn_47 : decode cX2_worthIn 47 = .ok (.pop, 1) := dk_87 (dk_at dksX2_worthIn_1 23 rfl rfl)
theorem dX2_worthIn_48 : decode cX2_worthIn 48 = .ok (.aload_n 0, 1) := dk_42 (dk_at dksX2_worthIn_2 0 rfl rfl)
theorem dX2_worthIn_49 : decode cX2_worthIn 49 = .ok (.iconst 0, 1) := dk_3 (dk_at dksX2_worthIn_2 1 rfl rfl)
theorem dX2_worthIn_50 : decode cX2_worthIn 50 = .ok (.invokevirtual 140, 3) := dk_182 0 140 (dk_at dksX2_worthIn_2 2 rfl rfl)
theorem dX2_worthIn_53 : decode cX2_worthIn 53 = .ok (.istore_n 2, 1) := dk_61 (dk_at dksX2_worthIn_2 5 rfl rfl)
theorem dX2_worthIn_54 : decode cX2_worthIn 54 = .ok (.iload_n 2, 1) := dk_28 (dk_at dksX2_worthIn_2 6 rfl rfl)
theorem dX2_worthIn_55 : decode cX2_worthIn 55 = .ok (.iconst (-1), 1) := dk_2 (dk_at dksX2_worthIn_2 7 rfl rfl)
theorem dX2_worthIn_56 : decode cX2_worthIn 56 = .ok (.if_icmp .ne 8, 3) := dk_160 0 8 (dk_at dksX2_worthIn_2 8 rfl rfl)
theorem dX2_worthIn_59 : decode cX2_worthIn 59 = .ok (.bipush (-4), 2) := dk_16 252 (dk_at dksX2_worthIn_2 11 rfl rfl)
theorem dX2_worthIn_61 : decode cX2_worthIn 61 = .ok (.goto 16, 3) := dk_167 0 16 (dk_at dksX2_worthIn_2 13 rfl rfl)
theorem dX2_worthIn_64 : decode cX2_worthIn 64 = .ok (.aload_n 0, 1) := dk_42 (dk_at dksX2_worthIn_2 16 rfl rfl)
theorem dX2_worthIn_65 : decode cX2_worthIn 65 = .ok (.aload_n 0, 1) := dk_42 (dk_at dksX2_worthIn_2 17 rfl rfl)
theorem dX2_worthIn_66 : decode cX2_worthIn 66 = .ok (.getfield 9, 3) := dk_180 0 9 (dk_at dksX2_worthIn_2 18 rfl rfl)
theorem dX2_worthIn_69 : decode cX2_worthIn 69 = .ok (.iload_n 2, 1) := dk_28 (dk_at dksX2_worthIn_2 21 rfl rfl)
theorem dX2_worthIn_70 : decode cX2_worthIn 70 = .ok (.invokestatic 58, 3) := dk_184 0 58 (dk_at dksX2_worthIn_3 0 rfl rfl)
theorem dX2_worthIn_73 : decode cX2_worthIn 73 = .ok (.iaload, 1) := dk_46 (dk_at dksX2_worthIn_3 3 rfl rfl)
theorem dX2_worthIn_74 : decode cX2_worthIn 74 = .ok (.invokevirtual 137, 3) := dk_182 0 137 (dk_at dksX2_worthIn_3 4 rfl rfl)
theorem dX2_worthIn_77 : decode cX2_worthIn 77 = .ok (.istore_n 3, 1) := dk_62 (dk_at dksX2_worthIn_3 7 rfl rfl)
theorem dX2_worthIn_78 : decode cX2_worthIn 78 = .ok (.iconst 0, 1) := dk_3 (dk_at dksX2_worthIn_3 8 rfl rfl)
theorem dX2_worthIn_79 : decode cX2_worthIn 79 = .ok (.istore 4, 2) := dk_54 4 (dk_at dksX2_worthIn_3 9 rfl rfl)
theorem dX2_worthIn_81 : decode cX2_worthIn 81 = .ok (.iload 4, 2) := dk_21 4 (dk_at dksX2_worthIn_3 11 rfl rfl)
theorem dX2_worthIn_83 : decode cX2_worthIn 83 = .ok (.sipush 294, 3) := dk_17 1 38 (dk_at dksX2_worthIn_3 13 rfl rfl)
theorem dX2_worthIn_86 : decode cX2_worthIn 86 = .ok (.if_icmp .ge 23, 3) := dk_162 0 23 (dk_at dksX2_worthIn_3 16 rfl rfl)
theorem dX2_worthIn_89 : decode cX2_worthIn 89 = .ok (.aload_n 0, 1) := dk_42 (dk_at dksX2_worthIn_3 19 rfl rfl)
theorem dX2_worthIn_90 : decode cX2_worthIn 90 = .ok (.getfield 9, 3) := dk_180 0 9 (dk_at dksX2_worthIn_3 20 rfl rfl)
theorem dX2_worthIn_93 : decode cX2_worthIn 93 = .ok (.iload 4, 2) := dk_21 4 (dk_at dksX2_worthIn_4 0 rfl rfl)
theorem dX2_worthIn_95 : decode cX2_worthIn 95 = .ok (.aload_n 0, 1) := dk_42 (dk_at dksX2_worthIn_4 2 rfl rfl)
theorem dX2_worthIn_96 : decode cX2_worthIn 96 = .ok (.getfield 16, 3) := dk_180 0 16 (dk_at dksX2_worthIn_4 3 rfl rfl)
theorem dX2_worthIn_99 : decode cX2_worthIn 99 = .ok (.iload 4, 2) := dk_21 4 (dk_at dksX2_worthIn_4 6 rfl rfl)
theorem dX2_worthIn_101 : decode cX2_worthIn 101 = .ok (.iaload, 1) := dk_46 (dk_at dksX2_worthIn_4 8 rfl rfl)
theorem dX2_worthIn_102 : decode cX2_worthIn 102 = .ok (.iastore, 1) := dk_79 (dk_at dksX2_worthIn_4 9 rfl rfl)
theorem dX2_worthIn_103 : decode cX2_worthIn 103 = .ok (.iinc 4 1, 3) := dk_132 4 1 (dk_at dksX2_worthIn_4 10 rfl rfl)
theorem dX2_worthIn_106 : decode cX2_worthIn 106 = .ok (.goto (-25), 3) := dk_167 255 231 (dk_at dksX2_worthIn_4 13 rfl rfl)
theorem dX2_worthIn_109 : decode cX2_worthIn 109 = .ok (.iload_n 3, 1) := dk_29 (dk_at dksX2_worthIn_4 16 rfl rfl)
theorem dX2_worthIn_110 : decode cX2_worthIn 110 = .ok (.ireturn, 1) := dk_172 (dk_at dksX2_worthIn_4 17 rfl rfl)
abbrev cX2_describe : ByteArray := prog_14_method_56_code
def yX2_describe : MethodName := ⟨RX2, "describe", "(I)I"⟩
def dkwX2_describe_6 : List UInt8 := [27, 182, 0, 106, 154, 0, 9, 42, 16, 43, 182, 0, 178, 42, 180, 0, 175, 172]
abbrev dktX2_describe_6 : List UInt8 := dkwX2_describe_6 ++ []
def dkwX2_describe_5 : List UInt8 := [182, 0, 181, 42, 16, 120, 182, 0, 178, 42, 42, 180, 0, 9, 28, 5, 96, 46, 4, 100, 182, 0, 181, 42]
abbrev dktX2_describe_5 : List UInt8 := dkwX2_describe_5 ++ dktX2_describe_6
def dkwX2_describe_4 : List UInt8 := [28, 4, 96, 46, 158, 0, 43, 42, 16, 126, 182, 0, 178, 42, 42, 180, 0, 9, 28, 4, 96, 46, 4, 100]
abbrev dktX2_describe_4 : List UInt8 := dkwX2_describe_4 ++ dktX2_describe_5
def dkwX2_describe_3 : List UInt8 := [42, 16, 35, 182, 0, 178, 42, 42, 42, 180, 0, 9, 28, 46, 182, 0, 137, 182, 0, 181, 42, 180, 0, 9]
abbrev dktX2_describe_3 : List UInt8 := dkwX2_describe_3 ++ dktX2_describe_4
def dkwX2_describe_2 : List UInt8 := [29, 122, 4, 126, 4, 160, 0, 8, 16, 82, 167, 0, 5, 16, 119, 182, 0, 178, 132, 3, 1, 167, 255, 222]
abbrev dktX2_describe_2 : List UInt8 := dkwX2_describe_2 ++ dktX2_describe_3
def dkwX2_describe_1 : List UInt8 := [182, 0, 181, 42, 16, 61, 182, 0, 178, 3, 62, 29, 16, 8, 162, 0, 34, 42, 42, 180, 0, 9, 28, 46]
abbrev dktX2_describe_1 : List UInt8 := dkwX2_describe_1 ++ dktX2_describe_2
def dkwX2_describe_0 : List UInt8 := [42, 27, 182, 0, 100, 154, 0, 5, 2, 172, 27, 184, 0, 58, 61, 42, 3, 181, 0, 175, 42, 27]
abbrev dktX2_describe_0 : List UInt8 := dkwX2_describe_0 ++ dktX2_describe_1
theorem dksX2_describe_0 : cX2_describe.data.toList.drop 0 = dktX2_describe_0 := by decide +kernel
theorem dksX2_describe_1 : cX2_describe.data.toList.drop 22 = dktX2_describe_1 := dk_seg dksX2_describe_0 22 rfl rfl
theorem dksX2_describe_2 : cX2_describe.data.toList.drop 46 = dktX2_describe_2 := dk_seg dksX2_describe_1 24 rfl rfl
theorem dksX2_describe_3 : cX2_describe.data.toList.drop 70 = dktX2_describe_3 := dk_seg dksX2_describe_2 24 rfl rfl
theorem dksX2_describe_4 : cX2_describe.data.toList.drop 94 = dktX2_describe_4 := dk_seg dksX2_describe_3 24 rfl rfl
theorem dksX2_describe_5 : cX2_describe.data.toList.drop 118 = dktX2_describe_5 := dk_seg dksX2_describe_4 24 rfl rfl
theorem dksX2_describe_6 : cX2_describe.data.toList.drop 142 = dktX2_describe_6 := dk_seg dksX2_describe_5 24 rfl rfl
theorem dX2_describe_0 : decode cX2_describe 0 = .ok (.aload_n 0, 1) := dk_42 (dk_at dksX2_describe_0 0 rfl rfl)
theorem dX2_describe_1 : decode cX2_describe 1 = .ok (.iload_n 1, 1) := dk_27 (dk_at dksX2_describe_0 1 rfl rfl)
theorem dX2_describe_2 : decode cX2_describe 2 = .ok (.invokevirtual 100, 3) := dk_182 0 100 (dk_at dksX2_describe_0 2 rfl rfl)
theorem dX2_describe_5 : decode cX2_describe 5 = .ok (.ifCond .ne 5, 3) := dk_154 0 5 (dk_at dksX2_describe_0 5 rfl rfl)
theorem dX2_describe_8 : decode cX2_describe 8 = .ok (.iconst (-1), 1) := dk_2 (dk_at dksX2_describe_0 8 rfl rfl)
theorem dX2_describe_9 : decode cX2_describe 9 = .ok (.ireturn, 1) := dk_172 (dk_at dksX2_describe_0 9 rfl rfl)
theorem dX2_describe_10 : decode cX2_describe 10 = .ok (.iload_n 1, 1) := dk_27 (dk_at dksX2_describe_0 10 rfl rfl)
theorem dX2_describe_11 : decode cX2_describe 11 = .ok (.invokestatic 58, 3) := dk_184 0 58 (dk_at dksX2_describe_0 11 rfl rfl)
theorem dX2_describe_14 : decode cX2_describe 14 = .ok (.istore_n 2, 1) := dk_61 (dk_at dksX2_describe_0 14 rfl rfl)
theorem dX2_describe_15 : decode cX2_describe 15 = .ok (.aload_n 0, 1) := dk_42 (dk_at dksX2_describe_0 15 rfl rfl)
theorem dX2_describe_16 : decode cX2_describe 16 = .ok (.iconst 0, 1) := dk_3 (dk_at dksX2_describe_0 16 rfl rfl)
theorem dX2_describe_17 : decode cX2_describe 17 = .ok (.putfield 175, 3) := dk_181 0 175 (dk_at dksX2_describe_0 17 rfl rfl)
theorem dX2_describe_20 : decode cX2_describe 20 = .ok (.aload_n 0, 1) := dk_42 (dk_at dksX2_describe_0 20 rfl rfl)
theorem dX2_describe_21 : decode cX2_describe 21 = .ok (.iload_n 1, 1) := dk_27 (dk_at dksX2_describe_0 21 rfl rfl)
theorem dX2_describe_22 : decode cX2_describe 22 = .ok (.invokevirtual 181, 3) := dk_182 0 181 (dk_at dksX2_describe_1 0 rfl rfl)
theorem dX2_describe_25 : decode cX2_describe 25 = .ok (.aload_n 0, 1) := dk_42 (dk_at dksX2_describe_1 3 rfl rfl)
theorem dX2_describe_26 : decode cX2_describe 26 = .ok (.bipush 61, 2) := dk_16 61 (dk_at dksX2_describe_1 4 rfl rfl)
theorem dX2_describe_28 : decode cX2_describe 28 = .ok (.invokevirtual 178, 3) := dk_182 0 178 (dk_at dksX2_describe_1 6 rfl rfl)
theorem dX2_describe_31 : decode cX2_describe 31 = .ok (.iconst 0, 1) := dk_3 (dk_at dksX2_describe_1 9 rfl rfl)
theorem dX2_describe_32 : decode cX2_describe 32 = .ok (.istore_n 3, 1) := dk_62 (dk_at dksX2_describe_1 10 rfl rfl)
theorem dX2_describe_33 : decode cX2_describe 33 = .ok (.iload_n 3, 1) := dk_29 (dk_at dksX2_describe_1 11 rfl rfl)
theorem dX2_describe_34 : decode cX2_describe 34 = .ok (.bipush 8, 2) := dk_16 8 (dk_at dksX2_describe_1 12 rfl rfl)
theorem dX2_describe_36 : decode cX2_describe 36 = .ok (.if_icmp .ge 34, 3) := dk_162 0 34 (dk_at dksX2_describe_1 14 rfl rfl)
theorem dX2_describe_39 : decode cX2_describe 39 = .ok (.aload_n 0, 1) := dk_42 (dk_at dksX2_describe_1 17 rfl rfl)
theorem dX2_describe_40 : decode cX2_describe 40 = .ok (.aload_n 0, 1) := dk_42 (dk_at dksX2_describe_1 18 rfl rfl)
theorem dX2_describe_41 : decode cX2_describe 41 = .ok (.getfield 9, 3) := dk_180 0 9 (dk_at dksX2_describe_1 19 rfl rfl)
theorem dX2_describe_44 : decode cX2_describe 44 = .ok (.iload_n 2, 1) := dk_28 (dk_at dksX2_describe_1 22 rfl rfl)
theorem dX2_describe_45 : decode cX2_describe 45 = .ok (.iaload, 1) := dk_46 (dk_at dksX2_describe_1 23 rfl rfl)
theorem dX2_describe_46 : decode cX2_describe 46 = .ok (.iload_n 3, 1) := dk_29 (dk_at dksX2_describe_2 0 rfl rfl)
theorem dX2_describe_47 : decode cX2_describe 47 = .ok (.ishr, 1) := dk_122 (dk_at dksX2_describe_2 1 rfl rfl)
theorem dX2_describe_48 : decode cX2_describe 48 = .ok (.iconst 1, 1) := dk_4 (dk_at dksX2_describe_2 2 rfl rfl)
theorem dX2_describe_49 : decode cX2_describe 49 = .ok (.iand, 1) := dk_126 (dk_at dksX2_describe_2 3 rfl rfl)
theorem dX2_describe_50 : decode cX2_describe 50 = .ok (.iconst 1, 1) := dk_4 (dk_at dksX2_describe_2 4 rfl rfl)
theorem dX2_describe_51 : decode cX2_describe 51 = .ok (.if_icmp .ne 8, 3) := dk_160 0 8 (dk_at dksX2_describe_2 5 rfl rfl)
theorem dX2_describe_54 : decode cX2_describe 54 = .ok (.bipush 82, 2) := dk_16 82 (dk_at dksX2_describe_2 8 rfl rfl)
theorem dX2_describe_56 : decode cX2_describe 56 = .ok (.goto 5, 3) := dk_167 0 5 (dk_at dksX2_describe_2 10 rfl rfl)
theorem dX2_describe_59 : decode cX2_describe 59 = .ok (.bipush 119, 2) := dk_16 119 (dk_at dksX2_describe_2 13 rfl rfl)
theorem dX2_describe_61 : decode cX2_describe 61 = .ok (.invokevirtual 178, 3) := dk_182 0 178 (dk_at dksX2_describe_2 15 rfl rfl)
theorem dX2_describe_64 : decode cX2_describe 64 = .ok (.iinc 3 1, 3) := dk_132 3 1 (dk_at dksX2_describe_2 18 rfl rfl)
theorem dX2_describe_67 : decode cX2_describe 67 = .ok (.goto (-34), 3) := dk_167 255 222 (dk_at dksX2_describe_2 21 rfl rfl)
theorem dX2_describe_70 : decode cX2_describe 70 = .ok (.aload_n 0, 1) := dk_42 (dk_at dksX2_describe_3 0 rfl rfl)
theorem dX2_describe_71 : decode cX2_describe 71 = .ok (.bipush 35, 2) := dk_16 35 (dk_at dksX2_describe_3 1 rfl rfl)
theorem dX2_describe_73 : decode cX2_describe 73 = .ok (.invokevirtual 178, 3) := dk_182 0 178 (dk_at dksX2_describe_3 3 rfl rfl)
theorem dX2_describe_76 : decode cX2_describe 76 = .ok (.aload_n 0, 1) := dk_42 (dk_at dksX2_describe_3 6 rfl rfl)
theorem dX2_describe_77 : decode cX2_describe 77 = .ok (.aload_n 0, 1) := dk_42 (dk_at dksX2_describe_3 7 rfl rfl)
theorem dX2_describe_78 : decode cX2_describe 78 = .ok (.aload_n 0, 1) := dk_42 (dk_at dksX2_describe_3 8 rfl rfl)
theorem dX2_describe_79 : decode cX2_describe 79 = .ok (.getfield 9, 3) := dk_180 0 9 (dk_at dksX2_describe_3 9 rfl rfl)
theorem dX2_describe_82 : decode cX2_describe 82 = .ok (.iload_n 2, 1) := dk_28 (dk_at dksX2_describe_3 12 rfl rfl)
theorem dX2_describe_83 : decode cX2_describe 83 = .ok (.iaload, 1) := dk_46 (dk_at dksX2_describe_3 13 rfl rfl)
theorem dX2_describe_84 : decode cX2_describe 84 = .ok (.invokevirtual 137, 3) := dk_182 0 137 (dk_at dksX2_describe_3 14 rfl rfl)
theorem dX2_describe_87 : decode cX2_describe 87 = .ok (.invokevirtual 181, 3) := dk_182 0 181 (dk_at dksX2_describe_3 17 rfl rfl)
theorem dX2_describe_90 : decode cX2_describe 90 = .ok (.aload_n 0, 1) := dk_42 (dk_at dksX2_describe_3 20 rfl rfl)
theorem dX2_describe_91 : decode cX2_describe 91 = .ok (.getfield 9, 3) := dk_180 0 9 (dk_at dksX2_describe_3 21 rfl rfl)
theorem dX2_describe_94 : decode cX2_describe 94 = .ok (.iload_n 2, 1) := dk_28 (dk_at dksX2_describe_4 0 rfl rfl)
theorem dX2_describe_95 : decode cX2_describe 95 = .ok (.iconst 1, 1) := dk_4 (dk_at dksX2_describe_4 1 rfl rfl)
theorem dX2_describe_96 : decode cX2_describe 96 = .ok (.iadd, 1) := dk_96 (dk_at dksX2_describe_4 2 rfl rfl)
theorem dX2_describe_97 : decode cX2_describe 97 = .ok (.iaload, 1) := dk_46 (dk_at dksX2_describe_4 3 rfl rfl)
theorem dX2_describe_98 : decode cX2_describe 98 = .ok (.ifCond .le 43, 3) := dk_158 0 43 (dk_at dksX2_describe_4 4 rfl rfl)
theorem dX2_describe_101 : decode cX2_describe 101 = .ok (.aload_n 0, 1) := dk_42 (dk_at dksX2_describe_4 7 rfl rfl)
theorem dX2_describe_102 : decode cX2_describe 102 = .ok (.bipush 126, 2) := dk_16 126 (dk_at dksX2_describe_4 8 rfl rfl)
theorem dX2_describe_104 : decode cX2_describe 104 = .ok (.invokevirtual 178, 3) := dk_182 0 178 (dk_at dksX2_describe_4 10 rfl rfl)
theorem dX2_describe_107 : decode cX2_describe 107 = .ok (.aload_n 0, 1) := dk_42 (dk_at dksX2_describe_4 13 rfl rfl)
theorem dX2_describe_108 : decode cX2_describe 108 = .ok (.aload_n 0, 1) := dk_42 (dk_at dksX2_describe_4 14 rfl rfl)
theorem dX2_describe_109 : decode cX2_describe 109 = .ok (.getfield 9, 3) := dk_180 0 9 (dk_at dksX2_describe_4 15 rfl rfl)
theorem dX2_describe_112 : decode cX2_describe 112 = .ok (.iload_n 2, 1) := dk_28 (dk_at dksX2_describe_4 18 rfl rfl)
theorem dX2_describe_113 : decode cX2_describe 113 = .ok (.iconst 1, 1) := dk_4 (dk_at dksX2_describe_4 19 rfl rfl)
theorem dX2_describe_114 : decode cX2_describe 114 = .ok (.iadd, 1) := dk_96 (dk_at dksX2_describe_4 20 rfl rfl)
theorem dX2_describe_115 : decode cX2_describe 115 = .ok (.iaload, 1) := dk_46 (dk_at dksX2_describe_4 21 rfl rfl)
theorem dX2_describe_116 : decode cX2_describe 116 = .ok (.iconst 1, 1) := dk_4 (dk_at dksX2_describe_4 22 rfl rfl)
theorem dX2_describe_117 : decode cX2_describe 117 = .ok (.isub, 1) := dk_100 (dk_at dksX2_describe_4 23 rfl rfl)
theorem dX2_describe_118 : decode cX2_describe 118 = .ok (.invokevirtual 181, 3) := dk_182 0 181 (dk_at dksX2_describe_5 0 rfl rfl)
theorem dX2_describe_121 : decode cX2_describe 121 = .ok (.aload_n 0, 1) := dk_42 (dk_at dksX2_describe_5 3 rfl rfl)
theorem dX2_describe_122 : decode cX2_describe 122 = .ok (.bipush 120, 2) := dk_16 120 (dk_at dksX2_describe_5 4 rfl rfl)
theorem dX2_describe_124 : decode cX2_describe 124 = .ok (.invokevirtual 178, 3) := dk_182 0 178 (dk_at dksX2_describe_5 6 rfl rfl)
theorem dX2_describe_127 : decode cX2_describe 127 = .ok (.aload_n 0, 1) := dk_42 (dk_at dksX2_describe_5 9 rfl rfl)
theorem dX2_describe_128 : decode cX2_describe 128 = .ok (.aload_n 0, 1) := dk_42 (dk_at dksX2_describe_5 10 rfl rfl)
theorem dX2_describe_129 : decode cX2_describe 129 = .ok (.getfield 9, 3) := dk_180 0 9 (dk_at dksX2_describe_5 11 rfl rfl)
theorem dX2_describe_132 : decode cX2_describe 132 = .ok (.iload_n 2, 1) := dk_28 (dk_at dksX2_describe_5 14 rfl rfl)
theorem dX2_describe_133 : decode cX2_describe 133 = .ok (.iconst 2, 1) := dk_5 (dk_at dksX2_describe_5 15 rfl rfl)
theorem dX2_describe_134 : decode cX2_describe 134 = .ok (.iadd, 1) := dk_96 (dk_at dksX2_describe_5 16 rfl rfl)
theorem dX2_describe_135 : decode cX2_describe 135 = .ok (.iaload, 1) := dk_46 (dk_at dksX2_describe_5 17 rfl rfl)
theorem dX2_describe_136 : decode cX2_describe 136 = .ok (.iconst 1, 1) := dk_4 (dk_at dksX2_describe_5 18 rfl rfl)
theorem dX2_describe_137 : decode cX2_describe 137 = .ok (.isub, 1) := dk_100 (dk_at dksX2_describe_5 19 rfl rfl)
theorem dX2_describe_138 : decode cX2_describe 138 = .ok (.invokevirtual 181, 3) := dk_182 0 181 (dk_at dksX2_describe_5 20 rfl rfl)
theorem dX2_describe_141 : decode cX2_describe 141 = .ok (.aload_n 0, 1) := dk_42 (dk_at dksX2_describe_5 23 rfl rfl)
theorem dX2_describe_142 : decode cX2_describe 142 = .ok (.iload_n 1, 1) := dk_27 (dk_at dksX2_describe_6 0 rfl rfl)
theorem dX2_describe_143 : decode cX2_describe 143 = .ok (.invokevirtual 106, 3) := dk_182 0 106 (dk_at dksX2_describe_6 1 rfl rfl)
theorem dX2_describe_146 : decode cX2_describe 146 = .ok (.ifCond .ne 9, 3) := dk_154 0 9 (dk_at dksX2_describe_6 4 rfl rfl)
theorem dX2_describe_149 : decode cX2_describe 149 = .ok (.aload_n 0, 1) := dk_42 (dk_at dksX2_describe_6 7 rfl rfl)
theorem dX2_describe_150 : decode cX2_describe 150 = .ok (.bipush 43, 2) := dk_16 43 (dk_at dksX2_describe_6 8 rfl rfl)
theorem dX2_describe_152 : decode cX2_describe 152 = .ok (.invokevirtual 178, 3) := dk_182 0 178 (dk_at dksX2_describe_6 10 rfl rfl)
theorem dX2_describe_155 : decode cX2_describe 155 = .ok (.aload_n 0, 1) := dk_42 (dk_at dksX2_describe_6 13 rfl rfl)
theorem dX2_describe_156 : decode cX2_describe 156 = .ok (.getfield 175, 3) := dk_180 0 175 (dk_at dksX2_describe_6 14 rfl rfl)
theorem dX2_describe_159 : decode cX2_describe 159 = .ok (.ireturn, 1) := dk_172 (dk_at dksX2_describe_6 17 rfl rfl)
abbrev cX2_writesNumber : ByteArray := prog_14_method_55_code
def yX2_writesNumber : MethodName := ⟨RX2, "writesNumber", "(I)V"⟩
def dkwX2_writesNumber_1 : List UInt8 := [42, 16, 48, 27, 29, 108, 16, 10, 112, 96, 182, 0, 178, 29, 16, 10, 108, 62, 167, 255, 234, 177]
abbrev dktX2_writesNumber_1 : List UInt8 := dkwX2_writesNumber_1 ++ []
def dkwX2_writesNumber_0 : List UInt8 := [4, 61, 27, 28, 108, 16, 9, 164, 0, 11, 28, 16, 10, 104, 61, 167, 255, 243, 28, 62, 29, 158, 0, 24]
abbrev dktX2_writesNumber_0 : List UInt8 := dkwX2_writesNumber_0 ++ dktX2_writesNumber_1
theorem dksX2_writesNumber_0 : cX2_writesNumber.data.toList.drop 0 = dktX2_writesNumber_0 := by decide +kernel
theorem dksX2_writesNumber_1 : cX2_writesNumber.data.toList.drop 24 = dktX2_writesNumber_1 := dk_seg dksX2_writesNumber_0 24 rfl rfl
theorem dX2_writesNumber_0 : decode cX2_writesNumber 0 = .ok (.iconst 1, 1) := dk_4 (dk_at dksX2_writesNumber_0 0 rfl rfl)
theorem dX2_writesNumber_1 : decode cX2_writesNumber 1 = .ok (.istore_n 2, 1) := dk_61 (dk_at dksX2_writesNumber_0 1 rfl rfl)
theorem dX2_writesNumber_2 : decode cX2_writesNumber 2 = .ok (.iload_n 1, 1) := dk_27 (dk_at dksX2_writesNumber_0 2 rfl rfl)
theorem dX2_writesNumber_3 : decode cX2_writesNumber 3 = .ok (.iload_n 2, 1) := dk_28 (dk_at dksX2_writesNumber_0 3 rfl rfl)
theorem dX2_writesNumber_4 : decode cX2_writesNumber 4 = .ok (.idiv, 1) := dk_108 (dk_at dksX2_writesNumber_0 4 rfl rfl)
theorem dX2_writesNumber_5 : decode cX2_writesNumber 5 = .ok (.bipush 9, 2) := dk_16 9 (dk_at dksX2_writesNumber_0 5 rfl rfl)
theorem dX2_writesNumber_7 : decode cX2_writesNumber 7 = .ok (.if_icmp .le 11, 3) := dk_164 0 11 (dk_at dksX2_writesNumber_0 7 rfl rfl)
theorem dX2_writesNumber_10 : decode cX2_writesNumber 10 = .ok (.iload_n 2, 1) := dk_28 (dk_at dksX2_writesNumber_0 10 rfl rfl)
theorem dX2_writesNumber_11 : decode cX2_writesNumber 11 = .ok (.bipush 10, 2) := dk_16 10 (dk_at dksX2_writesNumber_0 11 rfl rfl)
theorem dX2_writesNumber_13 : decode cX2_writesNumber 13 = .ok (.imul, 1) := dk_104 (dk_at dksX2_writesNumber_0 13 rfl rfl)
theorem dX2_writesNumber_14 : decode cX2_writesNumber 14 = .ok (.istore_n 2, 1) := dk_61 (dk_at dksX2_writesNumber_0 14 rfl rfl)
theorem dX2_writesNumber_15 : decode cX2_writesNumber 15 = .ok (.goto (-13), 3) := dk_167 255 243 (dk_at dksX2_writesNumber_0 15 rfl rfl)
theorem dX2_writesNumber_18 : decode cX2_writesNumber 18 = .ok (.iload_n 2, 1) := dk_28 (dk_at dksX2_writesNumber_0 18 rfl rfl)
theorem dX2_writesNumber_19 : decode cX2_writesNumber 19 = .ok (.istore_n 3, 1) := dk_62 (dk_at dksX2_writesNumber_0 19 rfl rfl)
theorem dX2_writesNumber_20 : decode cX2_writesNumber 20 = .ok (.iload_n 3, 1) := dk_29 (dk_at dksX2_writesNumber_0 20 rfl rfl)
theorem dX2_writesNumber_21 : decode cX2_writesNumber 21 = .ok (.ifCond .le 24, 3) := dk_158 0 24 (dk_at dksX2_writesNumber_0 21 rfl rfl)
theorem dX2_writesNumber_24 : decode cX2_writesNumber 24 = .ok (.aload_n 0, 1) := dk_42 (dk_at dksX2_writesNumber_1 0 rfl rfl)
theorem dX2_writesNumber_25 : decode cX2_writesNumber 25 = .ok (.bipush 48, 2) := dk_16 48 (dk_at dksX2_writesNumber_1 1 rfl rfl)
theorem dX2_writesNumber_27 : decode cX2_writesNumber 27 = .ok (.iload_n 1, 1) := dk_27 (dk_at dksX2_writesNumber_1 3 rfl rfl)
theorem dX2_writesNumber_28 : decode cX2_writesNumber 28 = .ok (.iload_n 3, 1) := dk_29 (dk_at dksX2_writesNumber_1 4 rfl rfl)
theorem dX2_writesNumber_29 : decode cX2_writesNumber 29 = .ok (.idiv, 1) := dk_108 (dk_at dksX2_writesNumber_1 5 rfl rfl)
theorem dX2_writesNumber_30 : decode cX2_writesNumber 30 = .ok (.bipush 10, 2) := dk_16 10 (dk_at dksX2_writesNumber_1 6 rfl rfl)
theorem dX2_writesNumber_32 : decode cX2_writesNumber 32 = .ok (.irem, 1) := dk_112 (dk_at dksX2_writesNumber_1 8 rfl rfl)
theorem dX2_writesNumber_33 : decode cX2_writesNumber 33 = .ok (.iadd, 1) := dk_96 (dk_at dksX2_writesNumber_1 9 rfl rfl)
theorem dX2_writesNumber_34 : decode cX2_writesNumber 34 = .ok (.invokevirtual 178, 3) := dk_182 0 178 (dk_at dksX2_writesNumber_1 10 rfl rfl)
theorem dX2_writesNumber_37 : decode cX2_writesNumber 37 = .ok (.iload_n 3, 1) := dk_29 (dk_at dksX2_writesNumber_1 13 rfl rfl)
theorem dX2_writesNumber_38 : decode cX2_writesNumber 38 = .ok (.bipush 10, 2) := dk_16 10 (dk_at dksX2_writesNumber_1 14 rfl rfl)
theorem dX2_writesNumber_40 : decode cX2_writesNumber 40 = .ok (.idiv, 1) := dk_108 (dk_at dksX2_writesNumber_1 16 rfl rfl)
theorem dX2_writesNumber_41 : decode cX2_writesNumber 41 = .ok (.istore_n 3, 1) := dk_62 (dk_at dksX2_writesNumber_1 17 rfl rfl)
theorem dX2_writesNumber_42 : decode cX2_writesNumber 42 = .ok (.goto (-22), 3) := dk_167 255 234 (dk_at dksX2_writesNumber_1 18 rfl rfl)
theorem dX2_writesNumber_45 : decode cX2_writesNumber 45 = .ok (.return_, 1) := dk_177 (dk_at dksX2_writesNumber_1 21 rfl rfl)
abbrev cX2_sign0 : ByteArray := prog_14_method_54_code
def yX2_sign0 : MethodName := ⟨RX2, "sign0", "(I)V"⟩
def dkwX2_sign0_0 : List UInt8 := [42, 180, 0, 39, 42, 180, 0, 175, 27, 79, 42, 89, 180, 0, 175, 4, 96, 181, 0, 175, 177]
abbrev dktX2_sign0_0 : List UInt8 := dkwX2_sign0_0 ++ []
theorem dksX2_sign0_0 : cX2_sign0.data.toList.drop 0 = dktX2_sign0_0 := by decide +kernel
theorem dX2_sign0_0 : decode cX2_sign0 0 = .ok (.aload_n 0, 1) := dk_42 (dk_at dksX2_sign0_0 0 rfl rfl)
theorem dX2_sign0_1 : decode cX2_sign0 1 = .ok (.getfield 39, 3) := dk_180 0 39 (dk_at dksX2_sign0_0 1 rfl rfl)
theorem dX2_sign0_4 : decode cX2_sign0 4 = .ok (.aload_n 0, 1) := dk_42 (dk_at dksX2_sign0_0 4 rfl rfl)
theorem dX2_sign0_5 : decode cX2_sign0 5 = .ok (.getfield 175, 3) := dk_180 0 175 (dk_at dksX2_sign0_0 5 rfl rfl)
theorem dX2_sign0_8 : decode cX2_sign0 8 = .ok (.iload_n 1, 1) := dk_27 (dk_at dksX2_sign0_0 8 rfl rfl)
theorem dX2_sign0_9 : decode cX2_sign0 9 = .ok (.iastore, 1) := dk_79 (dk_at dksX2_sign0_0 9 rfl rfl)
theorem dX2_sign0_10 : decode cX2_sign0 10 = .ok (.aload_n 0, 1) := dk_42 (dk_at dksX2_sign0_0 10 rfl rfl)
theorem dX2_sign0_11 : decode cX2_sign0 11 = .ok (.dup, 1) := dk_89 (dk_at dksX2_sign0_0 11 rfl rfl)
theorem dX2_sign0_12 : decode cX2_sign0 12 = .ok (.getfield 175, 3) := dk_180 0 175 (dk_at dksX2_sign0_0 12 rfl rfl)
theorem dX2_sign0_15 : decode cX2_sign0 15 = .ok (.iconst 1, 1) := dk_4 (dk_at dksX2_sign0_0 15 rfl rfl)
theorem dX2_sign0_16 : decode cX2_sign0 16 = .ok (.iadd, 1) := dk_96 (dk_at dksX2_sign0_0 16 rfl rfl)
theorem dX2_sign0_17 : decode cX2_sign0 17 = .ok (.putfield 175, 3) := dk_181 0 175 (dk_at dksX2_sign0_0 17 rfl rfl)
theorem dX2_sign0_20 : decode cX2_sign0 20 = .ok (.return_, 1) := dk_177 (dk_at dksX2_sign0_0 20 rfl rfl)
abbrev cX2_tell : ByteArray := prog_14_method_57_code
def yX2_tell : MethodName := ⟨RX2, "tell", "()I"⟩
def dkwX2_tell_1 : List UInt8 := [182, 0, 178, 42, 42, 28, 182, 0, 140, 182, 0, 181, 132, 2, 1, 167, 255, 229, 42, 180, 0, 175, 172]
abbrev dktX2_tell_1 : List UInt8 := dkwX2_tell_1 ++ []
def dkwX2_tell_0 : List UInt8 := [42, 3, 181, 0, 175, 42, 182, 0, 66, 60, 3, 61, 28, 27, 162, 0, 28, 28, 158, 0, 9, 42, 16, 44]
abbrev dktX2_tell_0 : List UInt8 := dkwX2_tell_0 ++ dktX2_tell_1
theorem dksX2_tell_0 : cX2_tell.data.toList.drop 0 = dktX2_tell_0 := by decide +kernel
theorem dksX2_tell_1 : cX2_tell.data.toList.drop 24 = dktX2_tell_1 := dk_seg dksX2_tell_0 24 rfl rfl
theorem dX2_tell_0 : decode cX2_tell 0 = .ok (.aload_n 0, 1) := dk_42 (dk_at dksX2_tell_0 0 rfl rfl)
theorem dX2_tell_1 : decode cX2_tell 1 = .ok (.iconst 0, 1) := dk_3 (dk_at dksX2_tell_0 1 rfl rfl)
theorem dX2_tell_2 : decode cX2_tell 2 = .ok (.putfield 175, 3) := dk_181 0 175 (dk_at dksX2_tell_0 2 rfl rfl)
theorem dX2_tell_5 : decode cX2_tell 5 = .ok (.aload_n 0, 1) := dk_42 (dk_at dksX2_tell_0 5 rfl rfl)
theorem dX2_tell_6 : decode cX2_tell 6 = .ok (.invokevirtual 66, 3) := dk_182 0 66 (dk_at dksX2_tell_0 6 rfl rfl)
theorem dX2_tell_9 : decode cX2_tell 9 = .ok (.istore_n 1, 1) := dk_60 (dk_at dksX2_tell_0 9 rfl rfl)
theorem dX2_tell_10 : decode cX2_tell 10 = .ok (.iconst 0, 1) := dk_3 (dk_at dksX2_tell_0 10 rfl rfl)
theorem dX2_tell_11 : decode cX2_tell 11 = .ok (.istore_n 2, 1) := dk_61 (dk_at dksX2_tell_0 11 rfl rfl)
theorem dX2_tell_12 : decode cX2_tell 12 = .ok (.iload_n 2, 1) := dk_28 (dk_at dksX2_tell_0 12 rfl rfl)
theorem dX2_tell_13 : decode cX2_tell 13 = .ok (.iload_n 1, 1) := dk_27 (dk_at dksX2_tell_0 13 rfl rfl)
theorem dX2_tell_14 : decode cX2_tell 14 = .ok (.if_icmp .ge 28, 3) := dk_162 0 28 (dk_at dksX2_tell_0 14 rfl rfl)
theorem dX2_tell_17 : decode cX2_tell 17 = .ok (.iload_n 2, 1) := dk_28 (dk_at dksX2_tell_0 17 rfl rfl)
theorem dX2_tell_18 : decode cX2_tell 18 = .ok (.ifCond .le 9, 3) := dk_158 0 9 (dk_at dksX2_tell_0 18 rfl rfl)
theorem dX2_tell_21 : decode cX2_tell 21 = .ok (.aload_n 0, 1) := dk_42 (dk_at dksX2_tell_0 21 rfl rfl)
theorem dX2_tell_22 : decode cX2_tell 22 = .ok (.bipush 44, 2) := dk_16 44 (dk_at dksX2_tell_0 22 rfl rfl)
theorem dX2_tell_24 : decode cX2_tell 24 = .ok (.invokevirtual 178, 3) := dk_182 0 178 (dk_at dksX2_tell_1 0 rfl rfl)
theorem dX2_tell_27 : decode cX2_tell 27 = .ok (.aload_n 0, 1) := dk_42 (dk_at dksX2_tell_1 3 rfl rfl)
theorem dX2_tell_28 : decode cX2_tell 28 = .ok (.aload_n 0, 1) := dk_42 (dk_at dksX2_tell_1 4 rfl rfl)
theorem dX2_tell_29 : decode cX2_tell 29 = .ok (.iload_n 2, 1) := dk_28 (dk_at dksX2_tell_1 5 rfl rfl)
theorem dX2_tell_30 : decode cX2_tell 30 = .ok (.invokevirtual 140, 3) := dk_182 0 140 (dk_at dksX2_tell_1 6 rfl rfl)
theorem dX2_tell_33 : decode cX2_tell 33 = .ok (.invokevirtual 181, 3) := dk_182 0 181 (dk_at dksX2_tell_1 9 rfl rfl)
theorem dX2_tell_36 : decode cX2_tell 36 = .ok (.iinc 2 1, 3) := dk_132 2 1 (dk_at dksX2_tell_1 12 rfl rfl)
theorem dX2_tell_39 : decode cX2_tell 39 = .ok (.goto (-27), 3) := dk_167 255 229 (dk_at dksX2_tell_1 15 rfl rfl)
theorem dX2_tell_42 : decode cX2_tell 42 = .ok (.aload_n 0, 1) := dk_42 (dk_at dksX2_tell_1 18 rfl rfl)
theorem dX2_tell_43 : decode cX2_tell 43 = .ok (.getfield 175, 3) := dk_180 0 175 (dk_at dksX2_tell_1 19 rfl rfl)
theorem dX2_tell_46 : decode cX2_tell 46 = .ok (.ireturn, 1) := dk_172 (dk_at dksX2_tell_1 22 rfl rfl)
abbrev cX2_sign : ByteArray := prog_14_method_58_code
def yX2_sign : MethodName := ⟨RX2, "sign", "(I)I"⟩
def dkwX2_sign_1 : List UInt8 := [167, 0, 4, 2, 172]
abbrev dktX2_sign_1 : List UInt8 := dkwX2_sign_1 ++ []
def dkwX2_sign_0 : List UInt8 := [27, 133, 9, 42, 180, 0, 175, 4, 100, 133, 184, 0, 54, 153, 0, 12, 42, 180, 0, 39, 27, 46]
abbrev dktX2_sign_0 : List UInt8 := dkwX2_sign_0 ++ dktX2_sign_1
theorem dksX2_sign_0 : cX2_sign.data.toList.drop 0 = dktX2_sign_0 := by decide +kernel
theorem dksX2_sign_1 : cX2_sign.data.toList.drop 22 = dktX2_sign_1 := dk_seg dksX2_sign_0 22 rfl rfl
theorem dX2_sign_0 : decode cX2_sign 0 = .ok (.iload_n 1, 1) := dk_27 (dk_at dksX2_sign_0 0 rfl rfl)
theorem dX2_sign_1 : decode cX2_sign 1 = .ok (.i2l, 1) := dk_133 (dk_at dksX2_sign_0 1 rfl rfl)
theorem dX2_sign_2 : decode cX2_sign 2 = .ok (.lconst 0, 1) := dk_9 (dk_at dksX2_sign_0 2 rfl rfl)
theorem dX2_sign_3 : decode cX2_sign 3 = .ok (.aload_n 0, 1) := dk_42 (dk_at dksX2_sign_0 3 rfl rfl)
theorem dX2_sign_4 : decode cX2_sign 4 = .ok (.getfield 175, 3) := dk_180 0 175 (dk_at dksX2_sign_0 4 rfl rfl)
theorem dX2_sign_7 : decode cX2_sign 7 = .ok (.iconst 1, 1) := dk_4 (dk_at dksX2_sign_0 7 rfl rfl)
theorem dX2_sign_8 : decode cX2_sign 8 = .ok (.isub, 1) := dk_100 (dk_at dksX2_sign_0 8 rfl rfl)
theorem dX2_sign_9 : decode cX2_sign 9 = .ok (.i2l, 1) := dk_133 (dk_at dksX2_sign_0 9 rfl rfl)
theorem dX2_sign_10 : decode cX2_sign 10 = .ok (.invokestatic 54, 3) := dk_184 0 54 (dk_at dksX2_sign_0 10 rfl rfl)
theorem dX2_sign_13 : decode cX2_sign 13 = .ok (.ifCond .eq 12, 3) := dk_153 0 12 (dk_at dksX2_sign_0 13 rfl rfl)
theorem dX2_sign_16 : decode cX2_sign 16 = .ok (.aload_n 0, 1) := dk_42 (dk_at dksX2_sign_0 16 rfl rfl)
theorem dX2_sign_17 : decode cX2_sign 17 = .ok (.getfield 39, 3) := dk_180 0 39 (dk_at dksX2_sign_0 17 rfl rfl)
theorem dX2_sign_20 : decode cX2_sign 20 = .ok (.iload_n 1, 1) := dk_27 (dk_at dksX2_sign_0 20 rfl rfl)
theorem dX2_sign_21 : decode cX2_sign 21 = .ok (.iaload, 1) := dk_46 (dk_at dksX2_sign_0 21 rfl rfl)
theorem dX2_sign_22 : decode cX2_sign 22 = .ok (.goto 4, 3) := dk_167 0 4 (dk_at dksX2_sign_1 0 rfl rfl)
theorem dX2_sign_25 : decode cX2_sign 25 = .ok (.iconst (-1), 1) := dk_2 (dk_at dksX2_sign_1 3 rfl rfl)
theorem dX2_sign_26 : decode cX2_sign 26 = .ok (.ireturn, 1) := dk_172 (dk_at dksX2_sign_1 4 rfl rfl)
abbrev cX2_append : ByteArray := prog_14_method_59_code
def yX2_append : MethodName := ⟨RX2, "append", "(I)I"⟩
def dkwX2_append_2 : List UInt8 := [180, 0, 188, 172]
abbrev dktX2_append_2 : List UInt8 := dkwX2_append_2 ++ []
def dkwX2_append_1 : List UInt8 := [16, 254, 172, 42, 180, 0, 29, 42, 180, 0, 188, 27, 79, 42, 89, 180, 0, 188, 4, 96, 181, 0, 188, 42]
abbrev dktX2_append_1 : List UInt8 := dkwX2_append_1 ++ dktX2_append_2
def dkwX2_append_0 : List UInt8 := [27, 133, 20, 0, 184, 20, 0, 186, 184, 0, 54, 153, 0, 12, 42, 180, 0, 188, 16, 70, 160, 0, 6]
abbrev dktX2_append_0 : List UInt8 := dkwX2_append_0 ++ dktX2_append_1
theorem dksX2_append_0 : cX2_append.data.toList.drop 0 = dktX2_append_0 := by decide +kernel
theorem dksX2_append_1 : cX2_append.data.toList.drop 23 = dktX2_append_1 := dk_seg dksX2_append_0 23 rfl rfl
theorem dksX2_append_2 : cX2_append.data.toList.drop 47 = dktX2_append_2 := dk_seg dksX2_append_1 24 rfl rfl
theorem dX2_append_0 : decode cX2_append 0 = .ok (.iload_n 1, 1) := dk_27 (dk_at dksX2_append_0 0 rfl rfl)
theorem dX2_append_1 : decode cX2_append 1 = .ok (.i2l, 1) := dk_133 (dk_at dksX2_append_0 1 rfl rfl)
theorem dX2_append_2 : decode cX2_append 2 = .ok (.ldc2_w 184, 3) := dk_20 0 184 (dk_at dksX2_append_0 2 rfl rfl)
theorem dX2_append_5 : decode cX2_append 5 = .ok (.ldc2_w 186, 3) := dk_20 0 186 (dk_at dksX2_append_0 5 rfl rfl)
theorem dX2_append_8 : decode cX2_append 8 = .ok (.invokestatic 54, 3) := dk_184 0 54 (dk_at dksX2_append_0 8 rfl rfl)
theorem dX2_append_11 : decode cX2_append 11 = .ok (.ifCond .eq 12, 3) := dk_153 0 12 (dk_at dksX2_append_0 11 rfl rfl)
theorem dX2_append_14 : decode cX2_append 14 = .ok (.aload_n 0, 1) := dk_42 (dk_at dksX2_append_0 14 rfl rfl)
theorem dX2_append_15 : decode cX2_append 15 = .ok (.getfield 188, 3) := dk_180 0 188 (dk_at dksX2_append_0 15 rfl rfl)
theorem dX2_append_18 : decode cX2_append 18 = .ok (.bipush 70, 2) := dk_16 70 (dk_at dksX2_append_0 18 rfl rfl)
theorem dX2_append_20 : decode cX2_append 20 = .ok (.if_icmp .ne 6, 3) := dk_160 0 6 (dk_at dksX2_append_0 20 rfl rfl)
theorem dX2_append_23 : decode cX2_append 23 = .ok (.bipush (-2), 2) := dk_16 254 (dk_at dksX2_append_1 0 rfl rfl)
theorem dX2_append_25 : decode cX2_append 25 = .ok (.ireturn, 1) := dk_172 (dk_at dksX2_append_1 2 rfl rfl)
theorem dX2_append_26 : decode cX2_append 26 = .ok (.aload_n 0, 1) := dk_42 (dk_at dksX2_append_1 3 rfl rfl)
theorem dX2_append_27 : decode cX2_append 27 = .ok (.getfield 29, 3) := dk_180 0 29 (dk_at dksX2_append_1 4 rfl rfl)
theorem dX2_append_30 : decode cX2_append 30 = .ok (.aload_n 0, 1) := dk_42 (dk_at dksX2_append_1 7 rfl rfl)
theorem dX2_append_31 : decode cX2_append 31 = .ok (.getfield 188, 3) := dk_180 0 188 (dk_at dksX2_append_1 8 rfl rfl)
theorem dX2_append_34 : decode cX2_append 34 = .ok (.iload_n 1, 1) := dk_27 (dk_at dksX2_append_1 11 rfl rfl)
theorem dX2_append_35 : decode cX2_append 35 = .ok (.iastore, 1) := dk_79 (dk_at dksX2_append_1 12 rfl rfl)
theorem dX2_append_36 : decode cX2_append 36 = .ok (.aload_n 0, 1) := dk_42 (dk_at dksX2_append_1 13 rfl rfl)
theorem dX2_append_37 : decode cX2_append 37 = .ok (.dup, 1) := dk_89 (dk_at dksX2_append_1 14 rfl rfl)
theorem dX2_append_38 : decode cX2_append 38 = .ok (.getfield 188, 3) := dk_180 0 188 (dk_at dksX2_append_1 15 rfl rfl)
theorem dX2_append_41 : decode cX2_append 41 = .ok (.iconst 1, 1) := dk_4 (dk_at dksX2_append_1 18 rfl rfl)
theorem dX2_append_42 : decode cX2_append 42 = .ok (.iadd, 1) := dk_96 (dk_at dksX2_append_1 19 rfl rfl)
theorem dX2_append_43 : decode cX2_append 43 = .ok (.putfield 188, 3) := dk_181 0 188 (dk_at dksX2_append_1 20 rfl rfl)
theorem dX2_append_46 : decode cX2_append 46 = .ok (.aload_n 0, 1) := dk_42 (dk_at dksX2_append_1 23 rfl rfl)
theorem dX2_append_47 : decode cX2_append 47 = .ok (.getfield 188, 3) := dk_180 0 188 (dk_at dksX2_append_2 0 rfl rfl)
theorem dX2_append_50 : decode cX2_append 50 = .ok (.ireturn, 1) := dk_172 (dk_at dksX2_append_2 3 rfl rfl)
abbrev cX2_read : ByteArray := prog_14_method_66_code
def yX2_read : MethodName := ⟨RX2, "read", "()I"⟩
def dkwX2_read_8 : List UInt8 := [167, 0, 5, 16, 254, 172, 132, 2, 1, 167, 255, 170, 42, 42, 180, 0, 211, 182, 0, 85, 172]
abbrev dktX2_read_8 : List UInt8 := dkwX2_read_8 ++ []
def dkwX2_read_7 : List UInt8 := [160, 0, 7, 28, 167, 0, 7, 42, 180, 0, 25, 181, 0, 25, 29, 16, 253, 160, 0, 8, 16, 253]
abbrev dktX2_read_7 : List UInt8 := dkwX2_read_7 ++ dktX2_read_8
def dkwX2_read_6 : List UInt8 := [180, 0, 9, 21, 4, 42, 180, 0, 13, 21, 4, 46, 79, 132, 4, 1, 167, 255, 231, 42, 29, 16, 253]
abbrev dktX2_read_6 : List UInt8 := dkwX2_read_6 ++ dktX2_read_7
def dkwX2_read_5 : List UInt8 := [42, 7, 28, 104, 182, 0, 223, 62, 29, 156, 0, 66, 3, 54, 4, 21, 4, 17, 1, 38, 162, 0, 23, 42]
abbrev dktX2_read_5 : List UInt8 := dkwX2_read_5 ++ dktX2_read_6
def dkwX2_read_4 : List UInt8 := [180, 0, 197, 153, 0, 11, 16, 156, 42, 180, 0, 191, 100, 172, 3, 61, 28, 42, 180, 0, 211, 162, 0, 84]
abbrev dktX2_read_4 : List UInt8 := dkwX2_read_4 ++ dktX2_read_5
def dkwX2_read_3 : List UInt8 := [42, 16, 59, 182, 0, 217, 42, 180, 0, 197, 154, 0, 7, 4, 167, 0, 4, 3, 60, 167, 255, 201, 42]
abbrev dktX2_read_3 : List UInt8 := dkwX2_read_3 ++ dktX2_read_4
def dkwX2_read_2 : List UInt8 := [154, 0, 18, 42, 180, 0, 191, 42, 180, 0, 194, 162, 0, 7, 4, 167, 0, 4, 3, 60, 27, 153, 255, 223]
abbrev dktX2_read_2 : List UInt8 := dkwX2_read_2 ++ dktX2_read_3
def dkwX2_read_1 : List UInt8 := [181, 0, 211, 42, 3, 181, 0, 197, 4, 60, 27, 153, 0, 57, 42, 182, 0, 220, 42, 180, 0, 197]
abbrev dktX2_read_1 : List UInt8 := dkwX2_read_1 ++ dktX2_read_2
def dkwX2_read_0 : List UInt8 := [42, 182, 0, 79, 42, 42, 180, 0, 188, 181, 0, 194, 42, 3, 181, 0, 188, 42, 3, 181, 0, 191, 42, 3]
abbrev dktX2_read_0 : List UInt8 := dkwX2_read_0 ++ dktX2_read_1
theorem dksX2_read_0 : cX2_read.data.toList.drop 0 = dktX2_read_0 := by decide +kernel
theorem dksX2_read_1 : cX2_read.data.toList.drop 24 = dktX2_read_1 := dk_seg dksX2_read_0 24 rfl rfl
theorem dksX2_read_2 : cX2_read.data.toList.drop 46 = dktX2_read_2 := dk_seg dksX2_read_1 22 rfl rfl
theorem dksX2_read_3 : cX2_read.data.toList.drop 70 = dktX2_read_3 := dk_seg dksX2_read_2 24 rfl rfl
theorem dksX2_read_4 : cX2_read.data.toList.drop 93 = dktX2_read_4 := dk_seg dksX2_read_3 23 rfl rfl
theorem dksX2_read_5 : cX2_read.data.toList.drop 117 = dktX2_read_5 := dk_seg dksX2_read_4 24 rfl rfl
theorem dksX2_read_6 : cX2_read.data.toList.drop 141 = dktX2_read_6 := dk_seg dksX2_read_5 24 rfl rfl
theorem dksX2_read_7 : cX2_read.data.toList.drop 164 = dktX2_read_7 := dk_seg dksX2_read_6 23 rfl rfl
theorem dksX2_read_8 : cX2_read.data.toList.drop 186 = dktX2_read_8 := dk_seg dksX2_read_7 22 rfl rfl
theorem dX2_read_0 : decode cX2_read 0 = .ok (.aload_n 0, 1) := dk_42 (dk_at dksX2_read_0 0 rfl rfl)
theorem dX2_read_1 : decode cX2_read 1 = .ok (.invokevirtual 79, 3) := dk_182 0 79 (dk_at dksX2_read_0 1 rfl rfl)
theorem dX2_read_4 : decode cX2_read 4 = .ok (.aload_n 0, 1) := dk_42 (dk_at dksX2_read_0 4 rfl rfl)
theorem dX2_read_5 : decode cX2_read 5 = .ok (.aload_n 0, 1) := dk_42 (dk_at dksX2_read_0 5 rfl rfl)
theorem dX2_read_6 : decode cX2_read 6 = .ok (.getfield 188, 3) := dk_180 0 188 (dk_at dksX2_read_0 6 rfl rfl)
theorem dX2_read_9 : decode cX2_read 9 = .ok (.putfield 194, 3) := dk_181 0 194 (dk_at dksX2_read_0 9 rfl rfl)
theorem dX2_read_12 : decode cX2_read 12 = .ok (.aload_n 0, 1) := dk_42 (dk_at dksX2_read_0 12 rfl rfl)
theorem dX2_read_13 : decode cX2_read 13 = .ok (.iconst 0, 1) := dk_3 (dk_at dksX2_read_0 13 rfl rfl)
theorem dX2_read_14 : decode cX2_read 14 = .ok (.putfield 188, 3) := dk_181 0 188 (dk_at dksX2_read_0 14 rfl rfl)
theorem dX2_read_17 : decode cX2_read 17 = .ok (.aload_n 0, 1) := dk_42 (dk_at dksX2_read_0 17 rfl rfl)
theorem dX2_read_18 : decode cX2_read 18 = .ok (.iconst 0, 1) := dk_3 (dk_at dksX2_read_0 18 rfl rfl)
theorem dX2_read_19 : decode cX2_read 19 = .ok (.putfield 191, 3) := dk_181 0 191 (dk_at dksX2_read_0 19 rfl rfl)
theorem dX2_read_22 : decode cX2_read 22 = .ok (.aload_n 0, 1) := dk_42 (dk_at dksX2_read_0 22 rfl rfl)
theorem dX2_read_23 : decode cX2_read 23 = .ok (.iconst 0, 1) := dk_3 (dk_at dksX2_read_0 23 rfl rfl)
theorem dX2_read_24 : decode cX2_read 24 = .ok (.putfield 211, 3) := dk_181 0 211 (dk_at dksX2_read_1 0 rfl rfl)
theorem dX2_read_27 : decode cX2_read 27 = .ok (.aload_n 0, 1) := dk_42 (dk_at dksX2_read_1 3 rfl rfl)
theorem dX2_read_28 : decode cX2_read 28 = .ok (.iconst 0, 1) := dk_3 (dk_at dksX2_read_1 4 rfl rfl)
theorem dX2_read_29 : decode cX2_read 29 = .ok (.putfield 197, 3) := dk_181 0 197 (dk_at dksX2_read_1 5 rfl rfl)
theorem dX2_read_32 : decode cX2_read 32 = .ok (.iconst 1, 1) := dk_4 (dk_at dksX2_read_1 8 rfl rfl)
theorem dX2_read_33 : decode cX2_read 33 = .ok (.istore_n 1, 1) := dk_60 (dk_at dksX2_read_1 9 rfl rfl)
theorem dX2_read_34 : decode cX2_read 34 = .ok (.iload_n 1, 1) := dk_27 (dk_at dksX2_read_1 10 rfl rfl)
theorem dX2_read_35 : decode cX2_read 35 = .ok (.ifCond .eq 57, 3) := dk_153 0 57 (dk_at dksX2_read_1 11 rfl rfl)
theorem dX2_read_38 : decode cX2_read 38 = .ok (.aload_n 0, 1) := dk_42 (dk_at dksX2_read_1 14 rfl rfl)
theorem dX2_read_39 : decode cX2_read 39 = .ok (.invokevirtual 220, 3) := dk_182 0 220 (dk_at dksX2_read_1 15 rfl rfl)
theorem dX2_read_42 : decode cX2_read 42 = .ok (.aload_n 0, 1) := dk_42 (dk_at dksX2_read_1 18 rfl rfl)
theorem dX2_read_43 : decode cX2_read 43 = .ok (.getfield 197, 3) := dk_180 0 197 (dk_at dksX2_read_1 19 rfl rfl)
theorem dX2_read_46 : decode cX2_read 46 = .ok (.ifCond .ne 18, 3) := dk_154 0 18 (dk_at dksX2_read_2 0 rfl rfl)
theorem dX2_read_49 : decode cX2_read 49 = .ok (.aload_n 0, 1) := dk_42 (dk_at dksX2_read_2 3 rfl rfl)
theorem dX2_read_50 : decode cX2_read 50 = .ok (.getfield 191, 3) := dk_180 0 191 (dk_at dksX2_read_2 4 rfl rfl)
theorem dX2_read_53 : decode cX2_read 53 = .ok (.aload_n 0, 1) := dk_42 (dk_at dksX2_read_2 7 rfl rfl)
theorem dX2_read_54 : decode cX2_read 54 = .ok (.getfield 194, 3) := dk_180 0 194 (dk_at dksX2_read_2 8 rfl rfl)
theorem dX2_read_57 : decode cX2_read 57 = .ok (.if_icmp .ge 7, 3) := dk_162 0 7 (dk_at dksX2_read_2 11 rfl rfl)
theorem dX2_read_60 : decode cX2_read 60 = .ok (.iconst 1, 1) := dk_4 (dk_at dksX2_read_2 14 rfl rfl)
theorem dX2_read_61 : decode cX2_read 61 = .ok (.goto 4, 3) := dk_167 0 4 (dk_at dksX2_read_2 15 rfl rfl)
theorem dX2_read_64 : decode cX2_read 64 = .ok (.iconst 0, 1) := dk_3 (dk_at dksX2_read_2 18 rfl rfl)
theorem dX2_read_65 : decode cX2_read 65 = .ok (.istore_n 1, 1) := dk_60 (dk_at dksX2_read_2 19 rfl rfl)
theorem dX2_read_66 : decode cX2_read 66 = .ok (.iload_n 1, 1) := dk_27 (dk_at dksX2_read_2 20 rfl rfl)
theorem dX2_read_67 : decode cX2_read 67 = .ok (.ifCond .eq (-33), 3) := dk_153 255 223 (dk_at dksX2_read_2 21 rfl rfl)
theorem dX2_read_70 : decode cX2_read 70 = .ok (.aload_n 0, 1) := dk_42 (dk_at dksX2_read_3 0 rfl rfl)
theorem dX2_read_71 : decode cX2_read 71 = .ok (.bipush 59, 2) := dk_16 59 (dk_at dksX2_read_3 1 rfl rfl)
theorem dX2_read_73 : decode cX2_read 73 = .ok (.invokevirtual 217, 3) := dk_182 0 217 (dk_at dksX2_read_3 3 rfl rfl)
theorem dX2_read_76 : decode cX2_read 76 = .ok (.aload_n 0, 1) := dk_42 (dk_at dksX2_read_3 6 rfl rfl)
theorem dX2_read_77 : decode cX2_read 77 = .ok (.getfield 197, 3) := dk_180 0 197 (dk_at dksX2_read_3 7 rfl rfl)
theorem dX2_read_80 : decode cX2_read 80 = .ok (.ifCond .ne 7, 3) := dk_154 0 7 (dk_at dksX2_read_3 10 rfl rfl)
theorem dX2_read_83 : decode cX2_read 83 = .ok (.iconst 1, 1) := dk_4 (dk_at dksX2_read_3 13 rfl rfl)
theorem dX2_read_84 : decode cX2_read 84 = .ok (.goto 4, 3) := dk_167 0 4 (dk_at dksX2_read_3 14 rfl rfl)
theorem dX2_read_87 : decode cX2_read 87 = .ok (.iconst 0, 1) := dk_3 (dk_at dksX2_read_3 17 rfl rfl)
theorem dX2_read_88 : decode cX2_read 88 = .ok (.istore_n 1, 1) := dk_60 (dk_at dksX2_read_3 18 rfl rfl)
theorem dX2_read_89 : decode cX2_read 89 = .ok (.goto (-55), 3) := dk_167 255 201 (dk_at dksX2_read_3 19 rfl rfl)
theorem dX2_read_92 : decode cX2_read 92 = .ok (.aload_n 0, 1) := dk_42 (dk_at dksX2_read_3 22 rfl rfl)
theorem dX2_read_93 : decode cX2_read 93 = .ok (.getfield 197, 3) := dk_180 0 197 (dk_at dksX2_read_4 0 rfl rfl)
theorem dX2_read_96 : decode cX2_read 96 = .ok (.ifCond .eq 11, 3) := dk_153 0 11 (dk_at dksX2_read_4 3 rfl rfl)
theorem dX2_read_99 : decode cX2_read 99 = .ok (.bipush (-100), 2) := dk_16 156 (dk_at dksX2_read_4 6 rfl rfl)
theorem dX2_read_101 : decode cX2_read 101 = .ok (.aload_n 0, 1) := dk_42 (dk_at dksX2_read_4 8 rfl rfl)
theorem dX2_read_102 : decode cX2_read 102 = .ok (.getfield 191, 3) := dk_180 0 191 (dk_at dksX2_read_4 9 rfl rfl)
theorem dX2_read_105 : decode cX2_read 105 = .ok (.isub, 1) := dk_100 (dk_at dksX2_read_4 12 rfl rfl)
theorem dX2_read_106 : decode cX2_read 106 = .ok (.ireturn, 1) := dk_172 (dk_at dksX2_read_4 13 rfl rfl)
theorem dX2_read_107 : decode cX2_read 107 = .ok (.iconst 0, 1) := dk_3 (dk_at dksX2_read_4 14 rfl rfl)
theorem dX2_read_108 : decode cX2_read 108 = .ok (.istore_n 2, 1) := dk_61 (dk_at dksX2_read_4 15 rfl rfl)
theorem dX2_read_109 : decode cX2_read 109 = .ok (.iload_n 2, 1) := dk_28 (dk_at dksX2_read_4 16 rfl rfl)
theorem dX2_read_110 : decode cX2_read 110 = .ok (.aload_n 0, 1) := dk_42 (dk_at dksX2_read_4 17 rfl rfl)
theorem dX2_read_111 : decode cX2_read 111 = .ok (.getfield 211, 3) := dk_180 0 211 (dk_at dksX2_read_4 18 rfl rfl)
theorem dX2_read_114 : decode cX2_read 114 = .ok (.if_icmp .ge 84, 3) := dk_162 0 84 (dk_at dksX2_read_4 21 rfl rfl)
theorem dX2_read_117 : decode cX2_read 117 = .ok (.aload_n 0, 1) := dk_42 (dk_at dksX2_read_5 0 rfl rfl)
theorem dX2_read_118 : decode cX2_read 118 = .ok (.iconst 4, 1) := dk_7 (dk_at dksX2_read_5 1 rfl rfl)
theorem dX2_read_119 : decode cX2_read 119 = .ok (.iload_n 2, 1) := dk_28 (dk_at dksX2_read_5 2 rfl rfl)
theorem dX2_read_120 : decode cX2_read 120 = .ok (.imul, 1) := dk_104 (dk_at dksX2_read_5 3 rfl rfl)
theorem dX2_read_121 : decode cX2_read 121 = .ok (.invokevirtual 223, 3) := dk_182 0 223 (dk_at dksX2_read_5 4 rfl rfl)
theorem dX2_read_124 : decode cX2_read 124 = .ok (.istore_n 3, 1) := dk_62 (dk_at dksX2_read_5 7 rfl rfl)
theorem dX2_read_125 : decode cX2_read 125 = .ok (.iload_n 3, 1) := dk_29 (dk_at dksX2_read_5 8 rfl rfl)
theorem dX2_read_126 : decode cX2_read 126 = .ok (.ifCond .ge 66, 3) := dk_156 0 66 (dk_at dksX2_read_5 9 rfl rfl)
theorem dX2_read_129 : decode cX2_read 129 = .ok (.iconst 0, 1) := dk_3 (dk_at dksX2_read_5 12 rfl rfl)
theorem dX2_read_130 : decode cX2_read 130 = .ok (.istore 4, 2) := dk_54 4 (dk_at dksX2_read_5 13 rfl rfl)
theorem dX2_read_132 : decode cX2_read 132 = .ok (.iload 4, 2) := dk_21 4 (dk_at dksX2_read_5 15 rfl rfl)
theorem dX2_read_134 : decode cX2_read 134 = .ok (.sipush 294, 3) := dk_17 1 38 (dk_at dksX2_read_5 17 rfl rfl)
theorem dX2_read_137 : decode cX2_read 137 = .ok (.if_icmp .ge 23, 3) := dk_162 0 23 (dk_at dksX2_read_5 20 rfl rfl)
theorem dX2_read_140 : decode cX2_read 140 = .ok (.aload_n 0, 1) := dk_42 (dk_at dksX2_read_5 23 rfl rfl)
theorem dX2_read_141 : decode cX2_read 141 = .ok (.getfield 9, 3) := dk_180 0 9 (dk_at dksX2_read_6 0 rfl rfl)
theorem dX2_read_144 : decode cX2_read 144 = .ok (.iload 4, 2) := dk_21 4 (dk_at dksX2_read_6 3 rfl rfl)
theorem dX2_read_146 : decode cX2_read 146 = .ok (.aload_n 0, 1) := dk_42 (dk_at dksX2_read_6 5 rfl rfl)
theorem dX2_read_147 : decode cX2_read 147 = .ok (.getfield 13, 3) := dk_180 0 13 (dk_at dksX2_read_6 6 rfl rfl)
theorem dX2_read_150 : decode cX2_read 150 = .ok (.iload 4, 2) := dk_21 4 (dk_at dksX2_read_6 9 rfl rfl)
theorem dX2_read_152 : decode cX2_read 152 = .ok (.iaload, 1) := dk_46 (dk_at dksX2_read_6 11 rfl rfl)
theorem dX2_read_153 : decode cX2_read 153 = .ok (.iastore, 1) := dk_79 (dk_at dksX2_read_6 12 rfl rfl)
theorem dX2_read_154 : decode cX2_read 154 = .ok (.iinc 4 1, 3) := dk_132 4 1 (dk_at dksX2_read_6 13 rfl rfl)
theorem dX2_read_157 : decode cX2_read 157 = .ok (.goto (-25), 3) := dk_167 255 231 (dk_at dksX2_read_6 16 rfl rfl)
theorem dX2_read_160 : decode cX2_read 160 = .ok (.aload_n 0, 1) := dk_42 (dk_at dksX2_read_6 19 rfl rfl)
theorem dX2_read_161 : decode cX2_read 161 = .ok (.iload_n 3, 1) := dk_29 (dk_at dksX2_read_6 20 rfl rfl)
theorem dX2_read_162 : decode cX2_read 162 = .ok (.bipush (-3), 2) := dk_16 253 (dk_at dksX2_read_6 21 rfl rfl)
theorem dX2_read_164 : decode cX2_read 164 = .ok (.if_icmp .ne 7, 3) := dk_160 0 7 (dk_at dksX2_read_7 0 rfl rfl)
theorem dX2_read_167 : decode cX2_read 167 = .ok (.iload_n 2, 1) := dk_28 (dk_at dksX2_read_7 3 rfl rfl)
theorem dX2_read_168 : decode cX2_read 168 = .ok (.goto 7, 3) := dk_167 0 7 (dk_at dksX2_read_7 4 rfl rfl)
theorem dX2_read_171 : decode cX2_read 171 = .ok (.aload_n 0, 1) := dk_42 (dk_at dksX2_read_7 7 rfl rfl)
theorem dX2_read_172 : decode cX2_read 172 = .ok (.getfield 25, 3) := dk_180 0 25 (dk_at dksX2_read_7 8 rfl rfl)
theorem dX2_read_175 : decode cX2_read 175 = .ok (.putfield 25, 3) := dk_181 0 25 (dk_at dksX2_read_7 11 rfl rfl)
theorem dX2_read_178 : decode cX2_read 178 = .ok (.iload_n 3, 1) := dk_29 (dk_at dksX2_read_7 14 rfl rfl)
theorem dX2_read_179 : decode cX2_read 179 = .ok (.bipush (-3), 2) := dk_16 253 (dk_at dksX2_read_7 15 rfl rfl)
theorem dX2_read_181 : decode cX2_read 181 = .ok (.if_icmp .ne 8, 3) := dk_160 0 8 (dk_at dksX2_read_7 17 rfl rfl)
theorem dX2_read_184 : decode cX2_read 184 = .ok (.bipush (-3), 2) := dk_16 253 (dk_at dksX2_read_7 20 rfl rfl)
theorem dX2_read_186 : decode cX2_read 186 = .ok (.goto 5, 3) := dk_167 0 5 (dk_at dksX2_read_8 0 rfl rfl)
theorem dX2_read_189 : decode cX2_read 189 = .ok (.bipush (-2), 2) := dk_16 254 (dk_at dksX2_read_8 3 rfl rfl)
theorem dX2_read_191 : decode cX2_read 191 = .ok (.ireturn, 1) := dk_172 (dk_at dksX2_read_8 5 rfl rfl)
theorem dX2_read_192 : decode cX2_read 192 = .ok (.iinc 2 1, 3) := dk_132 2 1 (dk_at dksX2_read_8 6 rfl rfl)
theorem dX2_read_195 : decode cX2_read 195 = .ok (.goto (-86), 3) := dk_167 255 170 (dk_at dksX2_read_8 9 rfl rfl)
theorem dX2_read_198 : decode cX2_read 198 = .ok (.aload_n 0, 1) := dk_42 (dk_at dksX2_read_8 12 rfl rfl)
theorem dX2_read_199 : decode cX2_read 199 = .ok (.aload_n 0, 1) := dk_42 (dk_at dksX2_read_8 13 rfl rfl)
theorem dX2_read_200 : decode cX2_read 200 = .ok (.getfield 211, 3) := dk_180 0 211 (dk_at dksX2_read_8 14 rfl rfl)
theorem dX2_read_203 : decode cX2_read 203 = .ok (.invokevirtual 85, 3) := dk_182 0 85 (dk_at dksX2_read_8 17 rfl rfl)
theorem dX2_read_206 : decode cX2_read 206 = .ok (.ireturn, 1) := dk_172 (dk_at dksX2_read_8 20 rfl rfl)
abbrev cX2_readOrder : ByteArray := prog_14_method_64_code
def yX2_readOrder : MethodName := ⟨RX2, "readOrder", "()V"⟩
def dkwX2_readOrder_10 : List UInt8 := [42, 182, 0, 208, 79, 167, 0, 16, 42, 180, 0, 42, 27, 4, 96, 42, 6, 182, 0, 214, 79, 177]
abbrev dktX2_readOrder_10 : List UInt8 := dkwX2_readOrder_10 ++ []
def dkwX2_readOrder_9 : List UInt8 := [180, 0, 42, 27, 4, 96, 42, 182, 0, 208, 79, 42, 16, 61, 182, 0, 217, 42, 180, 0, 42, 27, 5, 96]
abbrev dktX2_readOrder_9 : List UInt8 := dkwX2_readOrder_9 ++ dktX2_readOrder_10
def dkwX2_readOrder_8 : List UInt8 := [182, 0, 208, 79, 167, 0, 65, 42, 180, 0, 42, 27, 4, 96, 42, 5, 182, 0, 214, 79, 167, 0, 49, 42]
abbrev dktX2_readOrder_8 : List UInt8 := dkwX2_readOrder_8 ++ dktX2_readOrder_9
def dkwX2_readOrder_7 : List UInt8 := [5, 96, 42, 5, 182, 0, 214, 79, 42, 16, 64, 182, 0, 217, 42, 180, 0, 42, 27, 6, 96, 42]
abbrev dktX2_readOrder_7 : List UInt8 := dkwX2_readOrder_7 ++ dktX2_readOrder_8
def dkwX2_readOrder_6 : List UInt8 := [42, 180, 0, 42, 27, 4, 96, 42, 5, 182, 0, 214, 79, 42, 16, 44, 182, 0, 217, 42, 180, 0, 42, 27]
abbrev dktX2_readOrder_6 : List UInt8 := dkwX2_readOrder_6 ++ dktX2_readOrder_7
def dkwX2_readOrder_5 : List UInt8 := [171, 0, 0, 0, 0, 0, 137, 0, 0, 0, 3, 0, 0, 0, 100, 0, 0, 0, 88, 0, 0, 0, 104, 0, 0, 0, 104, 0, 0, 0, 120, 0, 0, 0, 35]
abbrev dktX2_readOrder_5 : List UInt8 := dkwX2_readOrder_5 ++ dktX2_readOrder_6
def dkwX2_readOrder_4 : List UInt8 := [42, 89, 180, 0, 211, 4, 96, 181, 0, 211, 28]
abbrev dktX2_readOrder_4 : List UInt8 := dkwX2_readOrder_4 ++ dktX2_readOrder_5
def dkwX2_readOrder_3 : List UInt8 := [180, 0, 197, 153, 0, 4, 177, 42, 89, 180, 0, 191, 4, 96, 181, 0, 191, 42, 180, 0, 42, 27, 28, 79]
abbrev dktX2_readOrder_3 : List UInt8 := dkwX2_readOrder_3 ++ dktX2_readOrder_4
def dkwX2_readOrder_2 : List UInt8 := [159, 0, 19, 28, 16, 121, 159, 0, 13, 28, 16, 104, 159, 0, 7, 4, 167, 0, 4, 3, 181, 0, 197, 42]
abbrev dktX2_readOrder_2 : List UInt8 := dkwX2_readOrder_2 ++ dktX2_readOrder_3
def dkwX2_readOrder_1 : List UInt8 := [159, 0, 43, 28, 16, 100, 159, 0, 37, 28, 16, 119, 159, 0, 31, 28, 16, 108, 159, 0, 25, 28, 16, 114]
abbrev dktX2_readOrder_1 : List UInt8 := dkwX2_readOrder_1 ++ dktX2_readOrder_2
def dkwX2_readOrder_0 : List UInt8 := [7, 42, 180, 0, 211, 104, 60, 42, 182, 0, 201, 61, 42, 28, 16, 112, 159, 0, 49, 28, 16, 120]
abbrev dktX2_readOrder_0 : List UInt8 := dkwX2_readOrder_0 ++ dktX2_readOrder_1
theorem dksX2_readOrder_0 : cX2_readOrder.data.toList.drop 0 = dktX2_readOrder_0 := by decide +kernel
theorem dksX2_readOrder_1 : cX2_readOrder.data.toList.drop 22 = dktX2_readOrder_1 := dk_seg dksX2_readOrder_0 22 rfl rfl
theorem dksX2_readOrder_2 : cX2_readOrder.data.toList.drop 46 = dktX2_readOrder_2 := dk_seg dksX2_readOrder_1 24 rfl rfl
theorem dksX2_readOrder_3 : cX2_readOrder.data.toList.drop 70 = dktX2_readOrder_3 := dk_seg dksX2_readOrder_2 24 rfl rfl
theorem dksX2_readOrder_4 : cX2_readOrder.data.toList.drop 94 = dktX2_readOrder_4 := dk_seg dksX2_readOrder_3 24 rfl rfl
theorem dksX2_readOrder_5 : cX2_readOrder.data.toList.drop 105 = dktX2_readOrder_5 := dk_seg dksX2_readOrder_4 11 rfl rfl
theorem dksX2_readOrder_6 : cX2_readOrder.data.toList.drop 140 = dktX2_readOrder_6 := dk_seg dksX2_readOrder_5 35 rfl rfl
theorem dksX2_readOrder_7 : cX2_readOrder.data.toList.drop 164 = dktX2_readOrder_7 := dk_seg dksX2_readOrder_6 24 rfl rfl
theorem dksX2_readOrder_8 : cX2_readOrder.data.toList.drop 186 = dktX2_readOrder_8 := dk_seg dksX2_readOrder_7 22 rfl rfl
theorem dksX2_readOrder_9 : cX2_readOrder.data.toList.drop 210 = dktX2_readOrder_9 := dk_seg dksX2_readOrder_8 24 rfl rfl
theorem dksX2_readOrder_10 : cX2_readOrder.data.toList.drop 234 = dktX2_readOrder_10 := dk_seg dksX2_readOrder_9 24 rfl rfl
theorem dX2_readOrder_0 : decode cX2_readOrder 0 = .ok (.iconst 4, 1) := dk_7 (dk_at dksX2_readOrder_0 0 rfl rfl)
theorem dX2_readOrder_1 : decode cX2_readOrder 1 = .ok (.aload_n 0, 1) := dk_42 (dk_at dksX2_readOrder_0 1 rfl rfl)
theorem dX2_readOrder_2 : decode cX2_readOrder 2 = .ok (.getfield 211, 3) := dk_180 0 211 (dk_at dksX2_readOrder_0 2 rfl rfl)
theorem dX2_readOrder_5 : decode cX2_readOrder 5 = .ok (.imul, 1) := dk_104 (dk_at dksX2_readOrder_0 5 rfl rfl)
theorem dX2_readOrder_6 : decode cX2_readOrder 6 = .ok (.istore_n 1, 1) := dk_60 (dk_at dksX2_readOrder_0 6 rfl rfl)
theorem dX2_readOrder_7 : decode cX2_readOrder 7 = .ok (.aload_n 0, 1) := dk_42 (dk_at dksX2_readOrder_0 7 rfl rfl)
theorem dX2_readOrder_8 : decode cX2_readOrder 8 = .ok (.invokevirtual 201, 3) := dk_182 0 201 (dk_at dksX2_readOrder_0 8 rfl rfl)
theorem dX2_readOrder_11 : decode cX2_readOrder 11 = .ok (.istore_n 2, 1) := dk_61 (dk_at dksX2_readOrder_0 11 rfl rfl)
theorem dX2_readOrder_12 : decode cX2_readOrder 12 = .ok (.aload_n 0, 1) := dk_42 (dk_at dksX2_readOrder_0 12 rfl rfl)
theorem dX2_readOrder_13 : decode cX2_readOrder 13 = .ok (.iload_n 2, 1) := dk_28 (dk_at dksX2_readOrder_0 13 rfl rfl)
theorem dX2_readOrder_14 : decode cX2_readOrder 14 = .ok (.bipush 112, 2) := dk_16 112 (dk_at dksX2_readOrder_0 14 rfl rfl)
theorem dX2_readOrder_16 : decode cX2_readOrder 16 = .ok (.if_icmp .eq 49, 3) := dk_159 0 49 (dk_at dksX2_readOrder_0 16 rfl rfl)
theorem dX2_readOrder_19 : decode cX2_readOrder 19 = .ok (.iload_n 2, 1) := dk_28 (dk_at dksX2_readOrder_0 19 rfl rfl)
theorem dX2_readOrder_20 : decode cX2_readOrder 20 = .ok (.bipush 120, 2) := dk_16 120 (dk_at dksX2_readOrder_0 20 rfl rfl)
theorem dX2_readOrder_22 : decode cX2_readOrder 22 = .ok (.if_icmp .eq 43, 3) := dk_159 0 43 (dk_at dksX2_readOrder_1 0 rfl rfl)
theorem dX2_readOrder_25 : decode cX2_readOrder 25 = .ok (.iload_n 2, 1) := dk_28 (dk_at dksX2_readOrder_1 3 rfl rfl)
theorem dX2_readOrder_26 : decode cX2_readOrder 26 = .ok (.bipush 100, 2) := dk_16 100 (dk_at dksX2_readOrder_1 4 rfl rfl)
theorem dX2_readOrder_28 : decode cX2_readOrder 28 = .ok (.if_icmp .eq 37, 3) := dk_159 0 37 (dk_at dksX2_readOrder_1 6 rfl rfl)
theorem dX2_readOrder_31 : decode cX2_readOrder 31 = .ok (.iload_n 2, 1) := dk_28 (dk_at dksX2_readOrder_1 9 rfl rfl)
theorem dX2_readOrder_32 : decode cX2_readOrder 32 = .ok (.bipush 119, 2) := dk_16 119 (dk_at dksX2_readOrder_1 10 rfl rfl)
theorem dX2_readOrder_34 : decode cX2_readOrder 34 = .ok (.if_icmp .eq 31, 3) := dk_159 0 31 (dk_at dksX2_readOrder_1 12 rfl rfl)
theorem dX2_readOrder_37 : decode cX2_readOrder 37 = .ok (.iload_n 2, 1) := dk_28 (dk_at dksX2_readOrder_1 15 rfl rfl)
theorem dX2_readOrder_38 : decode cX2_readOrder 38 = .ok (.bipush 108, 2) := dk_16 108 (dk_at dksX2_readOrder_1 16 rfl rfl)
theorem dX2_readOrder_40 : decode cX2_readOrder 40 = .ok (.if_icmp .eq 25, 3) := dk_159 0 25 (dk_at dksX2_readOrder_1 18 rfl rfl)
theorem dX2_readOrder_43 : decode cX2_readOrder 43 = .ok (.iload_n 2, 1) := dk_28 (dk_at dksX2_readOrder_1 21 rfl rfl)
theorem dX2_readOrder_44 : decode cX2_readOrder 44 = .ok (.bipush 114, 2) := dk_16 114 (dk_at dksX2_readOrder_1 22 rfl rfl)
theorem dX2_readOrder_46 : decode cX2_readOrder 46 = .ok (.if_icmp .eq 19, 3) := dk_159 0 19 (dk_at dksX2_readOrder_2 0 rfl rfl)
theorem dX2_readOrder_49 : decode cX2_readOrder 49 = .ok (.iload_n 2, 1) := dk_28 (dk_at dksX2_readOrder_2 3 rfl rfl)
theorem dX2_readOrder_50 : decode cX2_readOrder 50 = .ok (.bipush 121, 2) := dk_16 121 (dk_at dksX2_readOrder_2 4 rfl rfl)
theorem dX2_readOrder_52 : decode cX2_readOrder 52 = .ok (.if_icmp .eq 13, 3) := dk_159 0 13 (dk_at dksX2_readOrder_2 6 rfl rfl)
theorem dX2_readOrder_55 : decode cX2_readOrder 55 = .ok (.iload_n 2, 1) := dk_28 (dk_at dksX2_readOrder_2 9 rfl rfl)
theorem dX2_readOrder_56 : decode cX2_readOrder 56 = .ok (.bipush 104, 2) := dk_16 104 (dk_at dksX2_readOrder_2 10 rfl rfl)
theorem dX2_readOrder_58 : decode cX2_readOrder 58 = .ok (.if_icmp .eq 7, 3) := dk_159 0 7 (dk_at dksX2_readOrder_2 12 rfl rfl)
theorem dX2_readOrder_61 : decode cX2_readOrder 61 = .ok (.iconst 1, 1) := dk_4 (dk_at dksX2_readOrder_2 15 rfl rfl)
theorem dX2_readOrder_62 : decode cX2_readOrder 62 = .ok (.goto 4, 3) := dk_167 0 4 (dk_at dksX2_readOrder_2 16 rfl rfl)
theorem dX2_readOrder_65 : decode cX2_readOrder 65 = .ok (.iconst 0, 1) := dk_3 (dk_at dksX2_readOrder_2 19 rfl rfl)
theorem dX2_readOrder_66 : decode cX2_readOrder 66 = .ok (.putfield 197, 3) := dk_181 0 197 (dk_at dksX2_readOrder_2 20 rfl rfl)
theorem dX2_readOrder_69 : decode cX2_readOrder 69 = .ok (.aload_n 0, 1) := dk_42 (dk_at dksX2_readOrder_2 23 rfl rfl)
theorem dX2_readOrder_70 : decode cX2_readOrder 70 = .ok (.getfield 197, 3) := dk_180 0 197 (dk_at dksX2_readOrder_3 0 rfl rfl)
theorem dX2_readOrder_73 : decode cX2_readOrder 73 = .ok (.ifCond .eq 4, 3) := dk_153 0 4 (dk_at dksX2_readOrder_3 3 rfl rfl)
theorem dX2_readOrder_76 : decode cX2_readOrder 76 = .ok (.return_, 1) := dk_177 (dk_at dksX2_readOrder_3 6 rfl rfl)
theorem dX2_readOrder_77 : decode cX2_readOrder 77 = .ok (.aload_n 0, 1) := dk_42 (dk_at dksX2_readOrder_3 7 rfl rfl)
theorem dX2_readOrder_78 : decode cX2_readOrder 78 = .ok (.dup, 1) := dk_89 (dk_at dksX2_readOrder_3 8 rfl rfl)
theorem dX2_readOrder_79 : decode cX2_readOrder 79 = .ok (.getfield 191, 3) := dk_180 0 191 (dk_at dksX2_readOrder_3 9 rfl rfl)
theorem dX2_readOrder_82 : decode cX2_readOrder 82 = .ok (.iconst 1, 1) := dk_4 (dk_at dksX2_readOrder_3 12 rfl rfl)
theorem dX2_readOrder_83 : decode cX2_readOrder 83 = .ok (.iadd, 1) := dk_96 (dk_at dksX2_readOrder_3 13 rfl rfl)
theorem dX2_readOrder_84 : decode cX2_readOrder 84 = .ok (.putfield 191, 3) := dk_181 0 191 (dk_at dksX2_readOrder_3 14 rfl rfl)
theorem dX2_readOrder_87 : decode cX2_readOrder 87 = .ok (.aload_n 0, 1) := dk_42 (dk_at dksX2_readOrder_3 17 rfl rfl)
theorem dX2_readOrder_88 : decode cX2_readOrder 88 = .ok (.getfield 42, 3) := dk_180 0 42 (dk_at dksX2_readOrder_3 18 rfl rfl)
theorem dX2_readOrder_91 : decode cX2_readOrder 91 = .ok (.iload_n 1, 1) := dk_27 (dk_at dksX2_readOrder_3 21 rfl rfl)
theorem dX2_readOrder_92 : decode cX2_readOrder 92 = .ok (.iload_n 2, 1) := dk_28 (dk_at dksX2_readOrder_3 22 rfl rfl)
theorem dX2_readOrder_93 : decode cX2_readOrder 93 = .ok (.iastore, 1) := dk_79 (dk_at dksX2_readOrder_3 23 rfl rfl)
theorem dX2_readOrder_94 : decode cX2_readOrder 94 = .ok (.aload_n 0, 1) := dk_42 (dk_at dksX2_readOrder_4 0 rfl rfl)
theorem dX2_readOrder_95 : decode cX2_readOrder 95 = .ok (.dup, 1) := dk_89 (dk_at dksX2_readOrder_4 1 rfl rfl)
theorem dX2_readOrder_96 : decode cX2_readOrder 96 = .ok (.getfield 211, 3) := dk_180 0 211 (dk_at dksX2_readOrder_4 2 rfl rfl)
theorem dX2_readOrder_99 : decode cX2_readOrder 99 = .ok (.iconst 1, 1) := dk_4 (dk_at dksX2_readOrder_4 5 rfl rfl)
theorem dX2_readOrder_100 : decode cX2_readOrder 100 = .ok (.iadd, 1) := dk_96 (dk_at dksX2_readOrder_4 6 rfl rfl)
theorem dX2_readOrder_101 : decode cX2_readOrder 101 = .ok (.putfield 211, 3) := dk_181 0 211 (dk_at dksX2_readOrder_4 7 rfl rfl)
theorem dX2_readOrder_104 : decode cX2_readOrder 104 = .ok (.iload_n 2, 1) := dk_28 (dk_at dksX2_readOrder_4 10 rfl rfl)
theorem dX2_readOrder_105 : decode cX2_readOrder 105 = .ok (.lookupswitch 137 #[(100, 88), (104, 104), (120, 35)], 35) := by decide +kernel
theorem dX2_readOrder_140 : decode cX2_readOrder 140 = .ok (.aload_n 0, 1) := dk_42 (dk_at dksX2_readOrder_6 0 rfl rfl)
theorem dX2_readOrder_141 : decode cX2_readOrder 141 = .ok (.getfield 42, 3) := dk_180 0 42 (dk_at dksX2_readOrder_6 1 rfl rfl)
theorem dX2_readOrder_144 : decode cX2_readOrder 144 = .ok (.iload_n 1, 1) := dk_27 (dk_at dksX2_readOrder_6 4 rfl rfl)
theorem dX2_readOrder_145 : decode cX2_readOrder 145 = .ok (.iconst 1, 1) := dk_4 (dk_at dksX2_readOrder_6 5 rfl rfl)
theorem dX2_readOrder_146 : decode cX2_readOrder 146 = .ok (.iadd, 1) := dk_96 (dk_at dksX2_readOrder_6 6 rfl rfl)
theorem dX2_readOrder_147 : decode cX2_readOrder 147 = .ok (.aload_n 0, 1) := dk_42 (dk_at dksX2_readOrder_6 7 rfl rfl)
theorem dX2_readOrder_148 : decode cX2_readOrder 148 = .ok (.iconst 2, 1) := dk_5 (dk_at dksX2_readOrder_6 8 rfl rfl)
theorem dX2_readOrder_149 : decode cX2_readOrder 149 = .ok (.invokevirtual 214, 3) := dk_182 0 214 (dk_at dksX2_readOrder_6 9 rfl rfl)
theorem dX2_readOrder_152 : decode cX2_readOrder 152 = .ok (.iastore, 1) := dk_79 (dk_at dksX2_readOrder_6 12 rfl rfl)
theorem dX2_readOrder_153 : decode cX2_readOrder 153 = .ok (.aload_n 0, 1) := dk_42 (dk_at dksX2_readOrder_6 13 rfl rfl)
theorem dX2_readOrder_154 : decode cX2_readOrder 154 = .ok (.bipush 44, 2) := dk_16 44 (dk_at dksX2_readOrder_6 14 rfl rfl)
theorem dX2_readOrder_156 : decode cX2_readOrder 156 = .ok (.invokevirtual 217, 3) := dk_182 0 217 (dk_at dksX2_readOrder_6 16 rfl rfl)
theorem dX2_readOrder_159 : decode cX2_readOrder 159 = .ok (.aload_n 0, 1) := dk_42 (dk_at dksX2_readOrder_6 19 rfl rfl)
theorem dX2_readOrder_160 : decode cX2_readOrder 160 = .ok (.getfield 42, 3) := dk_180 0 42 (dk_at dksX2_readOrder_6 20 rfl rfl)
theorem dX2_readOrder_163 : decode cX2_readOrder 163 = .ok (.iload_n 1, 1) := dk_27 (dk_at dksX2_readOrder_6 23 rfl rfl)
theorem dX2_readOrder_164 : decode cX2_readOrder 164 = .ok (.iconst 2, 1) := dk_5 (dk_at dksX2_readOrder_7 0 rfl rfl)
theorem dX2_readOrder_165 : decode cX2_readOrder 165 = .ok (.iadd, 1) := dk_96 (dk_at dksX2_readOrder_7 1 rfl rfl)
theorem dX2_readOrder_166 : decode cX2_readOrder 166 = .ok (.aload_n 0, 1) := dk_42 (dk_at dksX2_readOrder_7 2 rfl rfl)
theorem dX2_readOrder_167 : decode cX2_readOrder 167 = .ok (.iconst 2, 1) := dk_5 (dk_at dksX2_readOrder_7 3 rfl rfl)
theorem dX2_readOrder_168 : decode cX2_readOrder 168 = .ok (.invokevirtual 214, 3) := dk_182 0 214 (dk_at dksX2_readOrder_7 4 rfl rfl)
theorem dX2_readOrder_171 : decode cX2_readOrder 171 = .ok (.iastore, 1) := dk_79 (dk_at dksX2_readOrder_7 7 rfl rfl)
theorem dX2_readOrder_172 : decode cX2_readOrder 172 = .ok (.aload_n 0, 1) := dk_42 (dk_at dksX2_readOrder_7 8 rfl rfl)
theorem dX2_readOrder_173 : decode cX2_readOrder 173 = .ok (.bipush 64, 2) := dk_16 64 (dk_at dksX2_readOrder_7 9 rfl rfl)
theorem dX2_readOrder_175 : decode cX2_readOrder 175 = .ok (.invokevirtual 217, 3) := dk_182 0 217 (dk_at dksX2_readOrder_7 11 rfl rfl)
theorem dX2_readOrder_178 : decode cX2_readOrder 178 = .ok (.aload_n 0, 1) := dk_42 (dk_at dksX2_readOrder_7 14 rfl rfl)
theorem dX2_readOrder_179 : decode cX2_readOrder 179 = .ok (.getfield 42, 3) := dk_180 0 42 (dk_at dksX2_readOrder_7 15 rfl rfl)
theorem dX2_readOrder_182 : decode cX2_readOrder 182 = .ok (.iload_n 1, 1) := dk_27 (dk_at dksX2_readOrder_7 18 rfl rfl)
theorem dX2_readOrder_183 : decode cX2_readOrder 183 = .ok (.iconst 3, 1) := dk_6 (dk_at dksX2_readOrder_7 19 rfl rfl)
theorem dX2_readOrder_184 : decode cX2_readOrder 184 = .ok (.iadd, 1) := dk_96 (dk_at dksX2_readOrder_7 20 rfl rfl)
theorem dX2_readOrder_185 : decode cX2_readOrder 185 = .ok (.aload_n 0, 1) := dk_42 (dk_at dksX2_readOrder_7 21 rfl rfl)
theorem dX2_readOrder_186 : decode cX2_readOrder 186 = .ok (.invokevirtual 208, 3) := dk_182 0 208 (dk_at dksX2_readOrder_8 0 rfl rfl)
theorem dX2_readOrder_189 : decode cX2_readOrder 189 = .ok (.iastore, 1) := dk_79 (dk_at dksX2_readOrder_8 3 rfl rfl)
theorem dX2_readOrder_190 : decode cX2_readOrder 190 = .ok (.goto 65, 3) := dk_167 0 65 (dk_at dksX2_readOrder_8 4 rfl rfl)
theorem dX2_readOrder_193 : decode cX2_readOrder 193 = .ok (.aload_n 0, 1) := dk_42 (dk_at dksX2_readOrder_8 7 rfl rfl)
theorem dX2_readOrder_194 : decode cX2_readOrder 194 = .ok (.getfield 42, 3) := dk_180 0 42 (dk_at dksX2_readOrder_8 8 rfl rfl)
theorem dX2_readOrder_197 : decode cX2_readOrder 197 = .ok (.iload_n 1, 1) := dk_27 (dk_at dksX2_readOrder_8 11 rfl rfl)
theorem dX2_readOrder_198 : decode cX2_readOrder 198 = .ok (.iconst 1, 1) := dk_4 (dk_at dksX2_readOrder_8 12 rfl rfl)
theorem dX2_readOrder_199 : decode cX2_readOrder 199 = .ok (.iadd, 1) := dk_96 (dk_at dksX2_readOrder_8 13 rfl rfl)
theorem dX2_readOrder_200 : decode cX2_readOrder 200 = .ok (.aload_n 0, 1) := dk_42 (dk_at dksX2_readOrder_8 14 rfl rfl)
theorem dX2_readOrder_201 : decode cX2_readOrder 201 = .ok (.iconst 2, 1) := dk_5 (dk_at dksX2_readOrder_8 15 rfl rfl)
theorem dX2_readOrder_202 : decode cX2_readOrder 202 = .ok (.invokevirtual 214, 3) := dk_182 0 214 (dk_at dksX2_readOrder_8 16 rfl rfl)
theorem dX2_readOrder_205 : decode cX2_readOrder 205 = .ok (.iastore, 1) := dk_79 (dk_at dksX2_readOrder_8 19 rfl rfl)
theorem dX2_readOrder_206 : decode cX2_readOrder 206 = .ok (.goto 49, 3) := dk_167 0 49 (dk_at dksX2_readOrder_8 20 rfl rfl)
theorem dX2_readOrder_209 : decode cX2_readOrder 209 = .ok (.aload_n 0, 1) := dk_42 (dk_at dksX2_readOrder_8 23 rfl rfl)
theorem dX2_readOrder_210 : decode cX2_readOrder 210 = .ok (.getfield 42, 3) := dk_180 0 42 (dk_at dksX2_readOrder_9 0 rfl rfl)
theorem dX2_readOrder_213 : decode cX2_readOrder 213 = .ok (.iload_n 1, 1) := dk_27 (dk_at dksX2_readOrder_9 3 rfl rfl)
theorem dX2_readOrder_214 : decode cX2_readOrder 214 = .ok (.iconst 1, 1) := dk_4 (dk_at dksX2_readOrder_9 4 rfl rfl)
theorem dX2_readOrder_215 : decode cX2_readOrder 215 = .ok (.iadd, 1) := dk_96 (dk_at dksX2_readOrder_9 5 rfl rfl)
theorem dX2_readOrder_216 : decode cX2_readOrder 216 = .ok (.aload_n 0, 1) := dk_42 (dk_at dksX2_readOrder_9 6 rfl rfl)
theorem dX2_readOrder_217 : decode cX2_readOrder 217 = .ok (.invokevirtual 208, 3) := dk_182 0 208 (dk_at dksX2_readOrder_9 7 rfl rfl)
theorem dX2_readOrder_220 : decode cX2_readOrder 220 = .ok (.iastore, 1) := dk_79 (dk_at dksX2_readOrder_9 10 rfl rfl)
theorem dX2_readOrder_221 : decode cX2_readOrder 221 = .ok (.aload_n 0, 1) := dk_42 (dk_at dksX2_readOrder_9 11 rfl rfl)
theorem dX2_readOrder_222 : decode cX2_readOrder 222 = .ok (.bipush 61, 2) := dk_16 61 (dk_at dksX2_readOrder_9 12 rfl rfl)
theorem dX2_readOrder_224 : decode cX2_readOrder 224 = .ok (.invokevirtual 217, 3) := dk_182 0 217 (dk_at dksX2_readOrder_9 14 rfl rfl)
theorem dX2_readOrder_227 : decode cX2_readOrder 227 = .ok (.aload_n 0, 1) := dk_42 (dk_at dksX2_readOrder_9 17 rfl rfl)
theorem dX2_readOrder_228 : decode cX2_readOrder 228 = .ok (.getfield 42, 3) := dk_180 0 42 (dk_at dksX2_readOrder_9 18 rfl rfl)
theorem dX2_readOrder_231 : decode cX2_readOrder 231 = .ok (.iload_n 1, 1) := dk_27 (dk_at dksX2_readOrder_9 21 rfl rfl)
theorem dX2_readOrder_232 : decode cX2_readOrder 232 = .ok (.iconst 2, 1) := dk_5 (dk_at dksX2_readOrder_9 22 rfl rfl)
theorem dX2_readOrder_233 : decode cX2_readOrder 233 = .ok (.iadd, 1) := dk_96 (dk_at dksX2_readOrder_9 23 rfl rfl)
theorem dX2_readOrder_234 : decode cX2_readOrder 234 = .ok (.aload_n 0, 1) := dk_42 (dk_at dksX2_readOrder_10 0 rfl rfl)
theorem dX2_readOrder_235 : decode cX2_readOrder 235 = .ok (.invokevirtual 208, 3) := dk_182 0 208 (dk_at dksX2_readOrder_10 1 rfl rfl)
theorem dX2_readOrder_238 : decode cX2_readOrder 238 = .ok (.iastore, 1) := dk_79 (dk_at dksX2_readOrder_10 4 rfl rfl)
theorem dX2_readOrder_239 : decode cX2_readOrder 239 = .ok (.goto 16, 3) := dk_167 0 16 (dk_at dksX2_readOrder_10 5 rfl rfl)
theorem dX2_readOrder_242 : decode cX2_readOrder 242 = .ok (.aload_n 0, 1) := dk_42 (dk_at dksX2_readOrder_10 8 rfl rfl)
theorem dX2_readOrder_243 : decode cX2_readOrder 243 = .ok (.getfield 42, 3) := dk_180 0 42 (dk_at dksX2_readOrder_10 9 rfl rfl)
theorem dX2_readOrder_246 : decode cX2_readOrder 246 = .ok (.iload_n 1, 1) := dk_27 (dk_at dksX2_readOrder_10 12 rfl rfl)
theorem dX2_readOrder_247 : decode cX2_readOrder 247 = .ok (.iconst 1, 1) := dk_4 (dk_at dksX2_readOrder_10 13 rfl rfl)
theorem dX2_readOrder_248 : decode cX2_readOrder 248 = .ok (.iadd, 1) := dk_96 (dk_at dksX2_readOrder_10 14 rfl rfl)
theorem dX2_readOrder_249 : decode cX2_readOrder 249 = .ok (.aload_n 0, 1) := dk_42 (dk_at dksX2_readOrder_10 15 rfl rfl)
theorem dX2_readOrder_250 : decode cX2_readOrder 250 = .ok (.iconst 3, 1) := dk_6 (dk_at dksX2_readOrder_10 16 rfl rfl)
theorem dX2_readOrder_251 : decode cX2_readOrder 251 = .ok (.invokevirtual 214, 3) := dk_182 0 214 (dk_at dksX2_readOrder_10 17 rfl rfl)
theorem dX2_readOrder_254 : decode cX2_readOrder 254 = .ok (.iastore, 1) := dk_79 (dk_at dksX2_readOrder_10 20 rfl rfl)
theorem dX2_readOrder_255 : decode cX2_readOrder 255 = .ok (.return_, 1) := dk_177 (dk_at dksX2_readOrder_10 21 rfl rfl)
abbrev cX2_here : ByteArray := prog_14_method_60_code
def yX2_here : MethodName := ⟨RX2, "here", "()I"⟩
def dkwX2_here_1 : List UInt8 := [172]
abbrev dktX2_here_1 : List UInt8 := dkwX2_here_1 ++ []
def dkwX2_here_0 : List UInt8 := [42, 180, 0, 191, 42, 180, 0, 194, 162, 0, 15, 42, 180, 0, 29, 42, 180, 0, 191, 46, 167, 0, 4, 2]
abbrev dktX2_here_0 : List UInt8 := dkwX2_here_0 ++ dktX2_here_1
theorem dksX2_here_0 : cX2_here.data.toList.drop 0 = dktX2_here_0 := by decide +kernel
theorem dksX2_here_1 : cX2_here.data.toList.drop 24 = dktX2_here_1 := dk_seg dksX2_here_0 24 rfl rfl
theorem dX2_here_0 : decode cX2_here 0 = .ok (.aload_n 0, 1) := dk_42 (dk_at dksX2_here_0 0 rfl rfl)
theorem dX2_here_1 : decode cX2_here 1 = .ok (.getfield 191, 3) := dk_180 0 191 (dk_at dksX2_here_0 1 rfl rfl)
theorem dX2_here_4 : decode cX2_here 4 = .ok (.aload_n 0, 1) := dk_42 (dk_at dksX2_here_0 4 rfl rfl)
theorem dX2_here_5 : decode cX2_here 5 = .ok (.getfield 194, 3) := dk_180 0 194 (dk_at dksX2_here_0 5 rfl rfl)
theorem dX2_here_8 : decode cX2_here 8 = .ok (.if_icmp .ge 15, 3) := dk_162 0 15 (dk_at dksX2_here_0 8 rfl rfl)
theorem dX2_here_11 : decode cX2_here 11 = .ok (.aload_n 0, 1) := dk_42 (dk_at dksX2_here_0 11 rfl rfl)
theorem dX2_here_12 : decode cX2_here 12 = .ok (.getfield 29, 3) := dk_180 0 29 (dk_at dksX2_here_0 12 rfl rfl)
theorem dX2_here_15 : decode cX2_here 15 = .ok (.aload_n 0, 1) := dk_42 (dk_at dksX2_here_0 15 rfl rfl)
theorem dX2_here_16 : decode cX2_here 16 = .ok (.getfield 191, 3) := dk_180 0 191 (dk_at dksX2_here_0 16 rfl rfl)
theorem dX2_here_19 : decode cX2_here 19 = .ok (.iaload, 1) := dk_46 (dk_at dksX2_here_0 19 rfl rfl)
theorem dX2_here_20 : decode cX2_here 20 = .ok (.goto 4, 3) := dk_167 0 4 (dk_at dksX2_here_0 20 rfl rfl)
theorem dX2_here_23 : decode cX2_here 23 = .ok (.iconst (-1), 1) := dk_2 (dk_at dksX2_here_0 23 rfl rfl)
theorem dX2_here_24 : decode cX2_here 24 = .ok (.ireturn, 1) := dk_172 (dk_at dksX2_here_1 0 rfl rfl)
abbrev cX2_number : ByteArray := prog_14_method_63_code
def yX2_number : MethodName := ⟨RX2, "number", "(I)I"⟩
def dkwX2_number_2 : List UInt8 := [132, 3, 1, 167, 255, 214, 28, 172]
abbrev dktX2_number_2 : List UInt8 := dkwX2_number_2 ++ []
def dkwX2_number_1 : List UInt8 := [20, 0, 204, 20, 0, 206, 184, 0, 54, 153, 0, 19, 16, 10, 28, 104, 42, 182, 0, 208, 96, 61]
abbrev dktX2_number_1 : List UInt8 := dkwX2_number_1 ++ dktX2_number_2
def dkwX2_number_0 : List UInt8 := [42, 182, 0, 208, 61, 4, 62, 29, 27, 162, 0, 43, 42, 180, 0, 197, 154, 0, 36, 42, 182, 0, 201, 133]
abbrev dktX2_number_0 : List UInt8 := dkwX2_number_0 ++ dktX2_number_1
theorem dksX2_number_0 : cX2_number.data.toList.drop 0 = dktX2_number_0 := by decide +kernel
theorem dksX2_number_1 : cX2_number.data.toList.drop 24 = dktX2_number_1 := dk_seg dksX2_number_0 24 rfl rfl
theorem dksX2_number_2 : cX2_number.data.toList.drop 46 = dktX2_number_2 := dk_seg dksX2_number_1 22 rfl rfl
theorem dX2_number_0 : decode cX2_number 0 = .ok (.aload_n 0, 1) := dk_42 (dk_at dksX2_number_0 0 rfl rfl)
theorem dX2_number_1 : decode cX2_number 1 = .ok (.invokevirtual 208, 3) := dk_182 0 208 (dk_at dksX2_number_0 1 rfl rfl)
theorem dX2_number_4 : decode cX2_number 4 = .ok (.istore_n 2, 1) := dk_61 (dk_at dksX2_number_0 4 rfl rfl)
theorem dX2_number_5 : decode cX2_number 5 = .ok (.iconst 1, 1) := dk_4 (dk_at dksX2_number_0 5 rfl rfl)
theorem dX2_number_6 : decode cX2_number 6 = .ok (.istore_n 3, 1) := dk_62 (dk_at dksX2_number_0 6 rfl rfl)
theorem dX2_number_7 : decode cX2_number 7 = .ok (.iload_n 3, 1) := dk_29 (dk_at dksX2_number_0 7 rfl rfl)
theorem dX2_number_8 : decode cX2_number 8 = .ok (.iload_n 1, 1) := dk_27 (dk_at dksX2_number_0 8 rfl rfl)
theorem dX2_number_9 : decode cX2_number 9 = .ok (.if_icmp .ge 43, 3) := dk_162 0 43 (dk_at dksX2_number_0 9 rfl rfl)
theorem dX2_number_12 : decode cX2_number 12 = .ok (.aload_n 0, 1) := dk_42 (dk_at dksX2_number_0 12 rfl rfl)
theorem dX2_number_13 : decode cX2_number 13 = .ok (.getfield 197, 3) := dk_180 0 197 (dk_at dksX2_number_0 13 rfl rfl)
theorem dX2_number_16 : decode cX2_number 16 = .ok (.ifCond .ne 36, 3) := dk_154 0 36 (dk_at dksX2_number_0 16 rfl rfl)
theorem dX2_number_19 : decode cX2_number 19 = .ok (.aload_n 0, 1) := dk_42 (dk_at dksX2_number_0 19 rfl rfl)
theorem dX2_number_20 : decode cX2_number 20 = .ok (.invokevirtual 201, 3) := dk_182 0 201 (dk_at dksX2_number_0 20 rfl rfl)
theorem dX2_number_23 : decode cX2_number 23 = .ok (.i2l, 1) := dk_133 (dk_at dksX2_number_0 23 rfl rfl)
theorem dX2_number_24 : decode cX2_number 24 = .ok (.ldc2_w 204, 3) := dk_20 0 204 (dk_at dksX2_number_1 0 rfl rfl)
theorem dX2_number_27 : decode cX2_number 27 = .ok (.ldc2_w 206, 3) := dk_20 0 206 (dk_at dksX2_number_1 3 rfl rfl)
theorem dX2_number_30 : decode cX2_number 30 = .ok (.invokestatic 54, 3) := dk_184 0 54 (dk_at dksX2_number_1 6 rfl rfl)
theorem dX2_number_33 : decode cX2_number 33 = .ok (.ifCond .eq 19, 3) := dk_153 0 19 (dk_at dksX2_number_1 9 rfl rfl)
theorem dX2_number_36 : decode cX2_number 36 = .ok (.bipush 10, 2) := dk_16 10 (dk_at dksX2_number_1 12 rfl rfl)
theorem dX2_number_38 : decode cX2_number 38 = .ok (.iload_n 2, 1) := dk_28 (dk_at dksX2_number_1 14 rfl rfl)
theorem dX2_number_39 : decode cX2_number 39 = .ok (.imul, 1) := dk_104 (dk_at dksX2_number_1 15 rfl rfl)
theorem dX2_number_40 : decode cX2_number 40 = .ok (.aload_n 0, 1) := dk_42 (dk_at dksX2_number_1 16 rfl rfl)
theorem dX2_number_41 : decode cX2_number 41 = .ok (.invokevirtual 208, 3) := dk_182 0 208 (dk_at dksX2_number_1 17 rfl rfl)
theorem dX2_number_44 : decode cX2_number 44 = .ok (.iadd, 1) := dk_96 (dk_at dksX2_number_1 20 rfl rfl)
theorem dX2_number_45 : decode cX2_number 45 = .ok (.istore_n 2, 1) := dk_61 (dk_at dksX2_number_1 21 rfl rfl)
theorem dX2_number_46 : decode cX2_number 46 = .ok (.iinc 3 1, 3) := dk_132 3 1 (dk_at dksX2_number_2 0 rfl rfl)
theorem dX2_number_49 : decode cX2_number 49 = .ok (.goto (-42), 3) := dk_167 255 214 (dk_at dksX2_number_2 3 rfl rfl)
theorem dX2_number_52 : decode cX2_number 52 = .ok (.iload_n 2, 1) := dk_28 (dk_at dksX2_number_2 6 rfl rfl)
theorem dX2_number_53 : decode cX2_number 53 = .ok (.ireturn, 1) := dk_172 (dk_at dksX2_number_2 7 rfl rfl)
abbrev cX2_digit : ByteArray := prog_14_method_62_code
def yX2_digit : MethodName := ⟨RX2, "digit", "()I"⟩
def dkwX2_digit_3 : List UInt8 := [96, 181, 0, 191, 27, 172]
abbrev dktX2_digit_3 : List UInt8 := dkwX2_digit_3 ++ []
def dkwX2_digit_2 : List UInt8 := [182, 0, 201, 16, 48, 100, 60, 42, 89, 180, 0, 191, 42, 180, 0, 197, 153, 0, 7, 3, 167, 0, 4, 4]
abbrev dktX2_digit_2 : List UInt8 := dkwX2_digit_2 ++ dktX2_digit_3
def dkwX2_digit_1 : List UInt8 := [154, 0, 7, 4, 167, 0, 4, 3, 181, 0, 197, 42, 180, 0, 197, 153, 0, 7, 3, 167, 0, 10, 42]
abbrev dktX2_digit_1 : List UInt8 := dkwX2_digit_1 ++ dktX2_digit_2
def dkwX2_digit_0 : List UInt8 := [42, 42, 180, 0, 197, 154, 0, 20, 42, 182, 0, 201, 133, 20, 0, 204, 20, 0, 206, 184, 0, 54]
abbrev dktX2_digit_0 : List UInt8 := dkwX2_digit_0 ++ dktX2_digit_1
theorem dksX2_digit_0 : cX2_digit.data.toList.drop 0 = dktX2_digit_0 := by decide +kernel
theorem dksX2_digit_1 : cX2_digit.data.toList.drop 22 = dktX2_digit_1 := dk_seg dksX2_digit_0 22 rfl rfl
theorem dksX2_digit_2 : cX2_digit.data.toList.drop 45 = dktX2_digit_2 := dk_seg dksX2_digit_1 23 rfl rfl
theorem dksX2_digit_3 : cX2_digit.data.toList.drop 69 = dktX2_digit_3 := dk_seg dksX2_digit_2 24 rfl rfl
theorem dX2_digit_0 : decode cX2_digit 0 = .ok (.aload_n 0, 1) := dk_42 (dk_at dksX2_digit_0 0 rfl rfl)
theorem dX2_digit_1 : decode cX2_digit 1 = .ok (.aload_n 0, 1) := dk_42 (dk_at dksX2_digit_0 1 rfl rfl)
theorem dX2_digit_2 : decode cX2_digit 2 = .ok (.getfield 197, 3) := dk_180 0 197 (dk_at dksX2_digit_0 2 rfl rfl)
theorem dX2_digit_5 : decode cX2_digit 5 = .ok (.ifCond .ne 20, 3) := dk_154 0 20 (dk_at dksX2_digit_0 5 rfl rfl)
theorem dX2_digit_8 : decode cX2_digit 8 = .ok (.aload_n 0, 1) := dk_42 (dk_at dksX2_digit_0 8 rfl rfl)
theorem dX2_digit_9 : decode cX2_digit 9 = .ok (.invokevirtual 201, 3) := dk_182 0 201 (dk_at dksX2_digit_0 9 rfl rfl)
theorem dX2_digit_12 : decode cX2_digit 12 = .ok (.i2l, 1) := dk_133 (dk_at dksX2_digit_0 12 rfl rfl)
theorem dX2_digit_13 : decode cX2_digit 13 = .ok (.ldc2_w 204, 3) := dk_20 0 204 (dk_at dksX2_digit_0 13 rfl rfl)
theorem dX2_digit_16 : decode cX2_digit 16 = .ok (.ldc2_w 206, 3) := dk_20 0 206 (dk_at dksX2_digit_0 16 rfl rfl)
theorem dX2_digit_19 : decode cX2_digit 19 = .ok (.invokestatic 54, 3) := dk_184 0 54 (dk_at dksX2_digit_0 19 rfl rfl)
theorem dX2_digit_22 : decode cX2_digit 22 = .ok (.ifCond .ne 7, 3) := dk_154 0 7 (dk_at dksX2_digit_1 0 rfl rfl)
theorem dX2_digit_25 : decode cX2_digit 25 = .ok (.iconst 1, 1) := dk_4 (dk_at dksX2_digit_1 3 rfl rfl)
theorem dX2_digit_26 : decode cX2_digit 26 = .ok (.goto 4, 3) := dk_167 0 4 (dk_at dksX2_digit_1 4 rfl rfl)
theorem dX2_digit_29 : decode cX2_digit 29 = .ok (.iconst 0, 1) := dk_3 (dk_at dksX2_digit_1 7 rfl rfl)
theorem dX2_digit_30 : decode cX2_digit 30 = .ok (.putfield 197, 3) := dk_181 0 197 (dk_at dksX2_digit_1 8 rfl rfl)
theorem dX2_digit_33 : decode cX2_digit 33 = .ok (.aload_n 0, 1) := dk_42 (dk_at dksX2_digit_1 11 rfl rfl)
theorem dX2_digit_34 : decode cX2_digit 34 = .ok (.getfield 197, 3) := dk_180 0 197 (dk_at dksX2_digit_1 12 rfl rfl)
theorem dX2_digit_37 : decode cX2_digit 37 = .ok (.ifCond .eq 7, 3) := dk_153 0 7 (dk_at dksX2_digit_1 15 rfl rfl)
theorem dX2_digit_40 : decode cX2_digit 40 = .ok (.iconst 0, 1) := dk_3 (dk_at dksX2_digit_1 18 rfl rfl)
theorem dX2_digit_41 : decode cX2_digit 41 = .ok (.goto 10, 3) := dk_167 0 10 (dk_at dksX2_digit_1 19 rfl rfl)
theorem dX2_digit_44 : decode cX2_digit 44 = .ok (.aload_n 0, 1) := dk_42 (dk_at dksX2_digit_1 22 rfl rfl)
theorem dX2_digit_45 : decode cX2_digit 45 = .ok (.invokevirtual 201, 3) := dk_182 0 201 (dk_at dksX2_digit_2 0 rfl rfl)
theorem dX2_digit_48 : decode cX2_digit 48 = .ok (.bipush 48, 2) := dk_16 48 (dk_at dksX2_digit_2 3 rfl rfl)
theorem dX2_digit_50 : decode cX2_digit 50 = .ok (.isub, 1) := dk_100 (dk_at dksX2_digit_2 5 rfl rfl)
theorem dX2_digit_51 : decode cX2_digit 51 = .ok (.istore_n 1, 1) := dk_60 (dk_at dksX2_digit_2 6 rfl rfl)
theorem dX2_digit_52 : decode cX2_digit 52 = .ok (.aload_n 0, 1) := dk_42 (dk_at dksX2_digit_2 7 rfl rfl)
theorem dX2_digit_53 : decode cX2_digit 53 = .ok (.dup, 1) := dk_89 (dk_at dksX2_digit_2 8 rfl rfl)
theorem dX2_digit_54 : decode cX2_digit 54 = .ok (.getfield 191, 3) := dk_180 0 191 (dk_at dksX2_digit_2 9 rfl rfl)
theorem dX2_digit_57 : decode cX2_digit 57 = .ok (.aload_n 0, 1) := dk_42 (dk_at dksX2_digit_2 12 rfl rfl)
theorem dX2_digit_58 : decode cX2_digit 58 = .ok (.getfield 197, 3) := dk_180 0 197 (dk_at dksX2_digit_2 13 rfl rfl)
theorem dX2_digit_61 : decode cX2_digit 61 = .ok (.ifCond .eq 7, 3) := dk_153 0 7 (dk_at dksX2_digit_2 16 rfl rfl)
theorem dX2_digit_64 : decode cX2_digit 64 = .ok (.iconst 0, 1) := dk_3 (dk_at dksX2_digit_2 19 rfl rfl)
theorem dX2_digit_65 : decode cX2_digit 65 = .ok (.goto 4, 3) := dk_167 0 4 (dk_at dksX2_digit_2 20 rfl rfl)
theorem dX2_digit_68 : decode cX2_digit 68 = .ok (.iconst 1, 1) := dk_4 (dk_at dksX2_digit_2 23 rfl rfl)
theorem dX2_digit_69 : decode cX2_digit 69 = .ok (.iadd, 1) := dk_96 (dk_at dksX2_digit_3 0 rfl rfl)
theorem dX2_digit_70 : decode cX2_digit 70 = .ok (.putfield 191, 3) := dk_181 0 191 (dk_at dksX2_digit_3 1 rfl rfl)
theorem dX2_digit_73 : decode cX2_digit 73 = .ok (.iload_n 1, 1) := dk_27 (dk_at dksX2_digit_3 4 rfl rfl)
theorem dX2_digit_74 : decode cX2_digit 74 = .ok (.ireturn, 1) := dk_172 (dk_at dksX2_digit_3 5 rfl rfl)
abbrev cX2_expects : ByteArray := prog_14_method_61_code
def yX2_expects : MethodName := ⟨RX2, "expects", "(I)V"⟩
def dkwX2_expects_1 : List UInt8 := [42, 89, 180, 0, 191, 42, 180, 0, 197, 153, 0, 7, 3, 167, 0, 4, 4, 96, 181, 0, 191, 177]
abbrev dktX2_expects_1 : List UInt8 := dkwX2_expects_1 ++ []
def dkwX2_expects_0 : List UInt8 := [42, 42, 180, 0, 197, 154, 0, 11, 42, 182, 0, 201, 27, 159, 0, 7, 4, 167, 0, 4, 3, 181, 0, 197]
abbrev dktX2_expects_0 : List UInt8 := dkwX2_expects_0 ++ dktX2_expects_1
theorem dksX2_expects_0 : cX2_expects.data.toList.drop 0 = dktX2_expects_0 := by decide +kernel
theorem dksX2_expects_1 : cX2_expects.data.toList.drop 24 = dktX2_expects_1 := dk_seg dksX2_expects_0 24 rfl rfl
theorem dX2_expects_0 : decode cX2_expects 0 = .ok (.aload_n 0, 1) := dk_42 (dk_at dksX2_expects_0 0 rfl rfl)
theorem dX2_expects_1 : decode cX2_expects 1 = .ok (.aload_n 0, 1) := dk_42 (dk_at dksX2_expects_0 1 rfl rfl)
theorem dX2_expects_2 : decode cX2_expects 2 = .ok (.getfield 197, 3) := dk_180 0 197 (dk_at dksX2_expects_0 2 rfl rfl)
theorem dX2_expects_5 : decode cX2_expects 5 = .ok (.ifCond .ne 11, 3) := dk_154 0 11 (dk_at dksX2_expects_0 5 rfl rfl)
theorem dX2_expects_8 : decode cX2_expects 8 = .ok (.aload_n 0, 1) := dk_42 (dk_at dksX2_expects_0 8 rfl rfl)
theorem dX2_expects_9 : decode cX2_expects 9 = .ok (.invokevirtual 201, 3) := dk_182 0 201 (dk_at dksX2_expects_0 9 rfl rfl)
theorem dX2_expects_12 : decode cX2_expects 12 = .ok (.iload_n 1, 1) := dk_27 (dk_at dksX2_expects_0 12 rfl rfl)
theorem dX2_expects_13 : decode cX2_expects 13 = .ok (.if_icmp .eq 7, 3) := dk_159 0 7 (dk_at dksX2_expects_0 13 rfl rfl)
theorem dX2_expects_16 : decode cX2_expects 16 = .ok (.iconst 1, 1) := dk_4 (dk_at dksX2_expects_0 16 rfl rfl)
theorem dX2_expects_17 : decode cX2_expects 17 = .ok (.goto 4, 3) := dk_167 0 4 (dk_at dksX2_expects_0 17 rfl rfl)
theorem dX2_expects_20 : decode cX2_expects 20 = .ok (.iconst 0, 1) := dk_3 (dk_at dksX2_expects_0 20 rfl rfl)
theorem dX2_expects_21 : decode cX2_expects 21 = .ok (.putfield 197, 3) := dk_181 0 197 (dk_at dksX2_expects_0 21 rfl rfl)
theorem dX2_expects_24 : decode cX2_expects 24 = .ok (.aload_n 0, 1) := dk_42 (dk_at dksX2_expects_1 0 rfl rfl)
theorem dX2_expects_25 : decode cX2_expects 25 = .ok (.dup, 1) := dk_89 (dk_at dksX2_expects_1 1 rfl rfl)
theorem dX2_expects_26 : decode cX2_expects 26 = .ok (.getfield 191, 3) := dk_180 0 191 (dk_at dksX2_expects_1 2 rfl rfl)
theorem dX2_expects_29 : decode cX2_expects 29 = .ok (.aload_n 0, 1) := dk_42 (dk_at dksX2_expects_1 5 rfl rfl)
theorem dX2_expects_30 : decode cX2_expects 30 = .ok (.getfield 197, 3) := dk_180 0 197 (dk_at dksX2_expects_1 6 rfl rfl)
theorem dX2_expects_33 : decode cX2_expects 33 = .ok (.ifCond .eq 7, 3) := dk_153 0 7 (dk_at dksX2_expects_1 9 rfl rfl)
theorem dX2_expects_36 : decode cX2_expects 36 = .ok (.iconst 0, 1) := dk_3 (dk_at dksX2_expects_1 12 rfl rfl)
theorem dX2_expects_37 : decode cX2_expects 37 = .ok (.goto 4, 3) := dk_167 0 4 (dk_at dksX2_expects_1 13 rfl rfl)
theorem dX2_expects_40 : decode cX2_expects 40 = .ok (.iconst 1, 1) := dk_4 (dk_at dksX2_expects_1 16 rfl rfl)
theorem dX2_expects_41 : decode cX2_expects 41 = .ok (.iadd, 1) := dk_96 (dk_at dksX2_expects_1 17 rfl rfl)
theorem dX2_expects_42 : decode cX2_expects 42 = .ok (.putfield 191, 3) := dk_181 0 191 (dk_at dksX2_expects_1 18 rfl rfl)
theorem dX2_expects_45 : decode cX2_expects 45 = .ok (.return_, 1) := dk_177 (dk_at dksX2_expects_1 21 rfl rfl)
abbrev cX2_does : ByteArray := prog_14_method_65_code
def yX2_does : MethodName := ⟨RX2, "does", "(I)I"⟩
def dkwX2_does_4 : List UInt8 := [182, 0, 151, 172, 42, 28, 29, 182, 0, 127, 172]
abbrev dktX2_does_4 : List UInt8 := dkwX2_does_4 ++ []
def dkwX2_does_3 : List UInt8 := [182, 0, 115, 172, 42, 28, 182, 0, 122, 172, 42, 28, 182, 0, 130, 172, 42, 28, 182, 0, 134, 172, 42, 28]
abbrev dktX2_does_3 : List UInt8 := dkwX2_does_3 ++ dktX2_does_4
def dkwX2_does_2 : List UInt8 := [42, 28, 182, 0, 82, 172, 42, 28, 29, 42, 180, 0, 42, 27, 6, 96, 46, 182, 0, 112, 172, 42, 28]
abbrev dktX2_does_2 : List UInt8 := dkwX2_does_2 ++ dktX2_does_3
def dkwX2_does_1 : List UInt8 := [170, 0, 0, 0, 0, 0, 0, 155, 0, 0, 0, 100, 0, 0, 0, 121, 0, 0, 0, 125, 0, 0, 0, 155, 0, 0, 0, 155, 0, 0, 0, 155, 0, 0, 0, 155, 0, 0, 0, 155, 0, 0, 0, 155, 0, 0, 0, 155, 0, 0, 0, 137, 0, 0, 0, 155, 0, 0, 0, 155, 0, 0, 0, 155, 0, 0, 0, 104, 0, 0, 0, 155, 0, 0, 0, 143, 0, 0, 0, 155, 0, 0, 0, 155, 0, 0, 0, 155, 0, 0, 0, 155, 0, 0, 0, 131, 0, 0, 0, 110, 0, 0, 0, 149]
abbrev dktX2_does_1 : List UInt8 := dkwX2_does_1 ++ dktX2_does_2
def dkwX2_does_0 : List UInt8 := [42, 180, 0, 42, 27, 4, 96, 46, 61, 42, 180, 0, 42, 27, 5, 96, 46, 62, 42, 180, 0, 42, 27, 46]
abbrev dktX2_does_0 : List UInt8 := dkwX2_does_0 ++ dktX2_does_1
theorem dksX2_does_0 : cX2_does.data.toList.drop 0 = dktX2_does_0 := by decide +kernel
theorem dksX2_does_1 : cX2_does.data.toList.drop 24 = dktX2_does_1 := dk_seg dksX2_does_0 24 rfl rfl
theorem dksX2_does_2 : cX2_does.data.toList.drop 128 = dktX2_does_2 := dk_seg dksX2_does_1 104 rfl rfl
theorem dksX2_does_3 : cX2_does.data.toList.drop 151 = dktX2_does_3 := dk_seg dksX2_does_2 23 rfl rfl
theorem dksX2_does_4 : cX2_does.data.toList.drop 175 = dktX2_does_4 := dk_seg dksX2_does_3 24 rfl rfl
theorem dX2_does_0 : decode cX2_does 0 = .ok (.aload_n 0, 1) := dk_42 (dk_at dksX2_does_0 0 rfl rfl)
theorem dX2_does_1 : decode cX2_does 1 = .ok (.getfield 42, 3) := dk_180 0 42 (dk_at dksX2_does_0 1 rfl rfl)
theorem dX2_does_4 : decode cX2_does 4 = .ok (.iload_n 1, 1) := dk_27 (dk_at dksX2_does_0 4 rfl rfl)
theorem dX2_does_5 : decode cX2_does 5 = .ok (.iconst 1, 1) := dk_4 (dk_at dksX2_does_0 5 rfl rfl)
theorem dX2_does_6 : decode cX2_does 6 = .ok (.iadd, 1) := dk_96 (dk_at dksX2_does_0 6 rfl rfl)
theorem dX2_does_7 : decode cX2_does 7 = .ok (.iaload, 1) := dk_46 (dk_at dksX2_does_0 7 rfl rfl)
theorem dX2_does_8 : decode cX2_does 8 = .ok (.istore_n 2, 1) := dk_61 (dk_at dksX2_does_0 8 rfl rfl)
theorem dX2_does_9 : decode cX2_does 9 = .ok (.aload_n 0, 1) := dk_42 (dk_at dksX2_does_0 9 rfl rfl)
theorem dX2_does_10 : decode cX2_does 10 = .ok (.getfield 42, 3) := dk_180 0 42 (dk_at dksX2_does_0 10 rfl rfl)
theorem dX2_does_13 : decode cX2_does 13 = .ok (.iload_n 1, 1) := dk_27 (dk_at dksX2_does_0 13 rfl rfl)
theorem dX2_does_14 : decode cX2_does 14 = .ok (.iconst 2, 1) := dk_5 (dk_at dksX2_does_0 14 rfl rfl)
theorem dX2_does_15 : decode cX2_does 15 = .ok (.iadd, 1) := dk_96 (dk_at dksX2_does_0 15 rfl rfl)
theorem dX2_does_16 : decode cX2_does 16 = .ok (.iaload, 1) := dk_46 (dk_at dksX2_does_0 16 rfl rfl)
theorem dX2_does_17 : decode cX2_does 17 = .ok (.istore_n 3, 1) := dk_62 (dk_at dksX2_does_0 17 rfl rfl)
theorem dX2_does_18 : decode cX2_does 18 = .ok (.aload_n 0, 1) := dk_42 (dk_at dksX2_does_0 18 rfl rfl)
theorem dX2_does_19 : decode cX2_does 19 = .ok (.getfield 42, 3) := dk_180 0 42 (dk_at dksX2_does_0 19 rfl rfl)
theorem dX2_does_22 : decode cX2_does 22 = .ok (.iload_n 1, 1) := dk_27 (dk_at dksX2_does_0 22 rfl rfl)
theorem dX2_does_23 : decode cX2_does 23 = .ok (.iaload, 1) := dk_46 (dk_at dksX2_does_0 23 rfl rfl)
theorem dX2_does_24 : decode cX2_does 24 = .ok (.tableswitch 155 100 121 #[125, 155, 155, 155, 155, 155, 155, 155, 137, 155, 155, 155, 104, 155, 143, 155, 155, 155, 155, 131, 110, 149], 104) := by decide +kernel
theorem dX2_does_128 : decode cX2_does 128 = .ok (.aload_n 0, 1) := dk_42 (dk_at dksX2_does_2 0 rfl rfl)
theorem dX2_does_129 : decode cX2_does 129 = .ok (.iload_n 2, 1) := dk_28 (dk_at dksX2_does_2 1 rfl rfl)
theorem dX2_does_130 : decode cX2_does 130 = .ok (.invokevirtual 82, 3) := dk_182 0 82 (dk_at dksX2_does_2 2 rfl rfl)
theorem dX2_does_133 : decode cX2_does 133 = .ok (.ireturn, 1) := dk_172 (dk_at dksX2_does_2 5 rfl rfl)
theorem dX2_does_134 : decode cX2_does 134 = .ok (.aload_n 0, 1) := dk_42 (dk_at dksX2_does_2 6 rfl rfl)
theorem dX2_does_135 : decode cX2_does 135 = .ok (.iload_n 2, 1) := dk_28 (dk_at dksX2_does_2 7 rfl rfl)
theorem dX2_does_136 : decode cX2_does 136 = .ok (.iload_n 3, 1) := dk_29 (dk_at dksX2_does_2 8 rfl rfl)
theorem dX2_does_137 : decode cX2_does 137 = .ok (.aload_n 0, 1) := dk_42 (dk_at dksX2_does_2 9 rfl rfl)
theorem dX2_does_138 : decode cX2_does 138 = .ok (.getfield 42, 3) := dk_180 0 42 (dk_at dksX2_does_2 10 rfl rfl)
theorem dX2_does_141 : decode cX2_does 141 = .ok (.iload_n 1, 1) := dk_27 (dk_at dksX2_does_2 13 rfl rfl)
theorem dX2_does_142 : decode cX2_does 142 = .ok (.iconst 3, 1) := dk_6 (dk_at dksX2_does_2 14 rfl rfl)
theorem dX2_does_143 : decode cX2_does 143 = .ok (.iadd, 1) := dk_96 (dk_at dksX2_does_2 15 rfl rfl)
theorem dX2_does_144 : decode cX2_does 144 = .ok (.iaload, 1) := dk_46 (dk_at dksX2_does_2 16 rfl rfl)
theorem dX2_does_145 : decode cX2_does 145 = .ok (.invokevirtual 112, 3) := dk_182 0 112 (dk_at dksX2_does_2 17 rfl rfl)
theorem dX2_does_148 : decode cX2_does 148 = .ok (.ireturn, 1) := dk_172 (dk_at dksX2_does_2 20 rfl rfl)
theorem dX2_does_149 : decode cX2_does 149 = .ok (.aload_n 0, 1) := dk_42 (dk_at dksX2_does_2 21 rfl rfl)
theorem dX2_does_150 : decode cX2_does 150 = .ok (.iload_n 2, 1) := dk_28 (dk_at dksX2_does_2 22 rfl rfl)
theorem dX2_does_151 : decode cX2_does 151 = .ok (.invokevirtual 115, 3) := dk_182 0 115 (dk_at dksX2_does_3 0 rfl rfl)
theorem dX2_does_154 : decode cX2_does 154 = .ok (.ireturn, 1) := dk_172 (dk_at dksX2_does_3 3 rfl rfl)
theorem dX2_does_155 : decode cX2_does 155 = .ok (.aload_n 0, 1) := dk_42 (dk_at dksX2_does_3 4 rfl rfl)
theorem dX2_does_156 : decode cX2_does 156 = .ok (.iload_n 2, 1) := dk_28 (dk_at dksX2_does_3 5 rfl rfl)
theorem dX2_does_157 : decode cX2_does 157 = .ok (.invokevirtual 122, 3) := dk_182 0 122 (dk_at dksX2_does_3 6 rfl rfl)
theorem dX2_does_160 : decode cX2_does 160 = .ok (.ireturn, 1) := dk_172 (dk_at dksX2_does_3 9 rfl rfl)
theorem dX2_does_161 : decode cX2_does 161 = .ok (.aload_n 0, 1) := dk_42 (dk_at dksX2_does_3 10 rfl rfl)
theorem dX2_does_162 : decode cX2_does 162 = .ok (.iload_n 2, 1) := dk_28 (dk_at dksX2_does_3 11 rfl rfl)
theorem dX2_does_163 : decode cX2_does 163 = .ok (.invokevirtual 130, 3) := dk_182 0 130 (dk_at dksX2_does_3 12 rfl rfl)
theorem dX2_does_166 : decode cX2_does 166 = .ok (.ireturn, 1) := dk_172 (dk_at dksX2_does_3 15 rfl rfl)
theorem dX2_does_167 : decode cX2_does 167 = .ok (.aload_n 0, 1) := dk_42 (dk_at dksX2_does_3 16 rfl rfl)
theorem dX2_does_168 : decode cX2_does 168 = .ok (.iload_n 2, 1) := dk_28 (dk_at dksX2_does_3 17 rfl rfl)
theorem dX2_does_169 : decode cX2_does 169 = .ok (.invokevirtual 134, 3) := dk_182 0 134 (dk_at dksX2_does_3 18 rfl rfl)
theorem dX2_does_172 : decode cX2_does 172 = .ok (.ireturn, 1) := dk_172 (dk_at dksX2_does_3 21 rfl rfl)
theorem dX2_does_173 : decode cX2_does 173 = .ok (.aload_n 0, 1) := dk_42 (dk_at dksX2_does_3 22 rfl rfl)
theorem dX2_does_174 : decode cX2_does 174 = .ok (.iload_n 2, 1) := dk_28 (dk_at dksX2_does_3 23 rfl rfl)
theorem dX2_does_175 : decode cX2_does 175 = .ok (.invokevirtual 151, 3) := dk_182 0 151 (dk_at dksX2_does_4 0 rfl rfl)
theorem dX2_does_178 : decode cX2_does 178 = .ok (.ireturn, 1) := dk_172 (dk_at dksX2_does_4 3 rfl rfl)
theorem dX2_does_179 : decode cX2_does 179 = .ok (.aload_n 0, 1) := dk_42 (dk_at dksX2_does_4 4 rfl rfl)
theorem dX2_does_180 : decode cX2_does 180 = .ok (.iload_n 2, 1) := dk_28 (dk_at dksX2_does_4 5 rfl rfl)
theorem dX2_does_181 : decode cX2_does 181 = .ok (.iload_n 3, 1) := dk_29 (dk_at dksX2_does_4 6 rfl rfl)
theorem dX2_does_182 : decode cX2_does 182 = .ok (.invokevirtual 127, 3) := dk_182 0 127 (dk_at dksX2_does_4 7 rfl rfl)
theorem dX2_does_185 : decode cX2_does 185 = .ok (.ireturn, 1) := dk_172 (dk_at dksX2_does_4 10 rfl rfl)
abbrev cX2_refusal : ByteArray := prog_14_method_67_code
def yX2_refusal : MethodName := ⟨RX2, "refusal", "(I)I"⟩
def dkwX2_refusal_2 : List UInt8 := [42, 180, 0, 25, 172]
abbrev dktX2_refusal_2 : List UInt8 := dkwX2_refusal_2 ++ []
def dkwX2_refusal_1 : List UInt8 := [172, 27, 154, 0, 10, 42, 180, 0, 45, 167, 0, 19, 27, 4, 160, 0, 10, 42, 180, 0, 48, 167, 0, 7]
abbrev dktX2_refusal_1 : List UInt8 := dkwX2_refusal_1 ++ dktX2_refusal_2
def dkwX2_refusal_0 : List UInt8 := [27, 133, 9, 20, 0, 167, 184, 0, 54, 154, 0, 6, 16, 254, 172, 42, 180, 0, 45, 154, 0, 6, 16, 252]
abbrev dktX2_refusal_0 : List UInt8 := dkwX2_refusal_0 ++ dktX2_refusal_1
theorem dksX2_refusal_0 : cX2_refusal.data.toList.drop 0 = dktX2_refusal_0 := by decide +kernel
theorem dksX2_refusal_1 : cX2_refusal.data.toList.drop 24 = dktX2_refusal_1 := dk_seg dksX2_refusal_0 24 rfl rfl
theorem dksX2_refusal_2 : cX2_refusal.data.toList.drop 48 = dktX2_refusal_2 := dk_seg dksX2_refusal_1 24 rfl rfl
theorem dX2_refusal_0 : decode cX2_refusal 0 = .ok (.iload_n 1, 1) := dk_27 (dk_at dksX2_refusal_0 0 rfl rfl)
theorem dX2_refusal_1 : decode cX2_refusal 1 = .ok (.i2l, 1) := dk_133 (dk_at dksX2_refusal_0 1 rfl rfl)
theorem dX2_refusal_2 : decode cX2_refusal 2 = .ok (.lconst 0, 1) := dk_9 (dk_at dksX2_refusal_0 2 rfl rfl)
theorem dX2_refusal_3 : decode cX2_refusal 3 = .ok (.ldc2_w 167, 3) := dk_20 0 167 (dk_at dksX2_refusal_0 3 rfl rfl)
theorem dX2_refusal_6 : decode cX2_refusal 6 = .ok (.invokestatic 54, 3) := dk_184 0 54 (dk_at dksX2_refusal_0 6 rfl rfl)
theorem dX2_refusal_9 : decode cX2_refusal 9 = .ok (.ifCond .ne 6, 3) := dk_154 0 6 (dk_at dksX2_refusal_0 9 rfl rfl)
theorem dX2_refusal_12 : decode cX2_refusal 12 = .ok (.bipush (-2), 2) := dk_16 254 (dk_at dksX2_refusal_0 12 rfl rfl)
theorem dX2_refusal_14 : decode cX2_refusal 14 = .ok (.ireturn, 1) := dk_172 (dk_at dksX2_refusal_0 14 rfl rfl)
theorem dX2_refusal_15 : decode cX2_refusal 15 = .ok (.aload_n 0, 1) := dk_42 (dk_at dksX2_refusal_0 15 rfl rfl)
theorem dX2_refusal_16 : decode cX2_refusal 16 = .ok (.getfield 45, 3) := dk_180 0 45 (dk_at dksX2_refusal_0 16 rfl rfl)
theorem dX2_refusal_19 : decode cX2_refusal 19 = .ok (.ifCond .ne 6, 3) := dk_154 0 6 (dk_at dksX2_refusal_0 19 rfl rfl)
theorem dX2_refusal_22 : decode cX2_refusal 22 = .ok (.bipush (-4), 2) := dk_16 252 (dk_at dksX2_refusal_0 22 rfl rfl)
theorem dX2_refusal_24 : decode cX2_refusal 24 = .ok (.ireturn, 1) := dk_172 (dk_at dksX2_refusal_1 0 rfl rfl)
theorem dX2_refusal_25 : decode cX2_refusal 25 = .ok (.iload_n 1, 1) := dk_27 (dk_at dksX2_refusal_1 1 rfl rfl)
theorem dX2_refusal_26 : decode cX2_refusal 26 = .ok (.ifCond .ne 10, 3) := dk_154 0 10 (dk_at dksX2_refusal_1 2 rfl rfl)
theorem dX2_refusal_29 : decode cX2_refusal 29 = .ok (.aload_n 0, 1) := dk_42 (dk_at dksX2_refusal_1 5 rfl rfl)
theorem dX2_refusal_30 : decode cX2_refusal 30 = .ok (.getfield 45, 3) := dk_180 0 45 (dk_at dksX2_refusal_1 6 rfl rfl)
theorem dX2_refusal_33 : decode cX2_refusal 33 = .ok (.goto 19, 3) := dk_167 0 19 (dk_at dksX2_refusal_1 9 rfl rfl)
theorem dX2_refusal_36 : decode cX2_refusal 36 = .ok (.iload_n 1, 1) := dk_27 (dk_at dksX2_refusal_1 12 rfl rfl)
theorem dX2_refusal_37 : decode cX2_refusal 37 = .ok (.iconst 1, 1) := dk_4 (dk_at dksX2_refusal_1 13 rfl rfl)
theorem dX2_refusal_38 : decode cX2_refusal 38 = .ok (.if_icmp .ne 10, 3) := dk_160 0 10 (dk_at dksX2_refusal_1 14 rfl rfl)
theorem dX2_refusal_41 : decode cX2_refusal 41 = .ok (.aload_n 0, 1) := dk_42 (dk_at dksX2_refusal_1 17 rfl rfl)
theorem dX2_refusal_42 : decode cX2_refusal 42 = .ok (.getfield 48, 3) := dk_180 0 48 (dk_at dksX2_refusal_1 18 rfl rfl)
theorem dX2_refusal_45 : decode cX2_refusal 45 = .ok (.goto 7, 3) := dk_167 0 7 (dk_at dksX2_refusal_1 21 rfl rfl)
theorem dX2_refusal_48 : decode cX2_refusal 48 = .ok (.aload_n 0, 1) := dk_42 (dk_at dksX2_refusal_2 0 rfl rfl)
theorem dX2_refusal_49 : decode cX2_refusal 49 = .ok (.getfield 25, 3) := dk_180 0 25 (dk_at dksX2_refusal_2 1 rfl rfl)
theorem dX2_refusal_52 : decode cX2_refusal 52 = .ok (.ireturn, 1) := dk_172 (dk_at dksX2_refusal_2 4 rfl rfl)
abbrev cX2_account : ByteArray := prog_14_method_71_code
def yX2_account : MethodName := ⟨RX2, "account", "(I)I"⟩
def dkwX2_account_4 : List UInt8 := [27, 7, 100, 46, 172, 42, 182, 0, 232, 172, 42, 180, 0, 188, 172, 42, 180, 0, 51, 172, 16, 254, 172]
abbrev dktX2_account_4 : List UInt8 := dkwX2_account_4 ++ []
def dkwX2_account_3 : List UInt8 := [172, 42, 180, 0, 9, 4, 46, 172, 42, 180, 0, 9, 5, 46, 172, 42, 182, 0, 229, 172, 42, 180, 0, 9]
abbrev dktX2_account_3 : List UInt8 := dkwX2_account_3 ++ dktX2_account_4
def dkwX2_account_2 : List UInt8 := [42, 180, 0, 9, 3, 46, 172, 42, 182, 0, 66, 172, 42, 4, 182, 0, 226, 172, 42, 16, 6, 182, 0, 226]
abbrev dktX2_account_2 : List UInt8 := dkwX2_account_2 ++ dktX2_account_3
def dkwX2_account_1 : List UInt8 := [170, 0, 0, 0, 0, 0, 135, 0, 0, 0, 0, 0, 0, 0, 12, 0, 0, 0, 67, 0, 0, 0, 74, 0, 0, 0, 79, 0, 0, 0, 85, 0, 0, 0, 92, 0, 0, 0, 99, 0, 0, 0, 106, 0, 0, 0, 111, 0, 0, 0, 111, 0, 0, 0, 111, 0, 0, 0, 120, 0, 0, 0, 125, 0, 0, 0, 130]
abbrev dktX2_account_1 : List UInt8 := dkwX2_account_1 ++ dktX2_account_2
def dkwX2_account_0 : List UInt8 := [27]
abbrev dktX2_account_0 : List UInt8 := dkwX2_account_0 ++ dktX2_account_1
theorem dksX2_account_0 : cX2_account.data.toList.drop 0 = dktX2_account_0 := by decide +kernel
theorem dksX2_account_1 : cX2_account.data.toList.drop 1 = dktX2_account_1 := dk_seg dksX2_account_0 1 rfl rfl
theorem dksX2_account_2 : cX2_account.data.toList.drop 68 = dktX2_account_2 := dk_seg dksX2_account_1 67 rfl rfl
theorem dksX2_account_3 : cX2_account.data.toList.drop 92 = dktX2_account_3 := dk_seg dksX2_account_2 24 rfl rfl
theorem dksX2_account_4 : cX2_account.data.toList.drop 116 = dktX2_account_4 := dk_seg dksX2_account_3 24 rfl rfl
theorem dX2_account_0 : decode cX2_account 0 = .ok (.iload_n 1, 1) := dk_27 (dk_at dksX2_account_0 0 rfl rfl)
theorem dX2_account_1 : decode cX2_account 1 = .ok (.tableswitch 135 0 12 #[67, 74, 79, 85, 92, 99, 106, 111, 111, 111, 120, 125, 130], 67) := by decide +kernel
theorem dX2_account_68 : decode cX2_account 68 = .ok (.aload_n 0, 1) := dk_42 (dk_at dksX2_account_2 0 rfl rfl)
theorem dX2_account_69 : decode cX2_account 69 = .ok (.getfield 9, 3) := dk_180 0 9 (dk_at dksX2_account_2 1 rfl rfl)
theorem dX2_account_72 : decode cX2_account 72 = .ok (.iconst 0, 1) := dk_3 (dk_at dksX2_account_2 4 rfl rfl)
theorem dX2_account_73 : decode cX2_account 73 = .ok (.iaload, 1) := dk_46 (dk_at dksX2_account_2 5 rfl rfl)
theorem dX2_account_74 : decode cX2_account 74 = .ok (.ireturn, 1) := dk_172 (dk_at dksX2_account_2 6 rfl rfl)
theorem dX2_account_75 : decode cX2_account 75 = .ok (.aload_n 0, 1) := dk_42 (dk_at dksX2_account_2 7 rfl rfl)
theorem dX2_account_76 : decode cX2_account 76 = .ok (.invokevirtual 66, 3) := dk_182 0 66 (dk_at dksX2_account_2 8 rfl rfl)
theorem dX2_account_79 : decode cX2_account 79 = .ok (.ireturn, 1) := dk_172 (dk_at dksX2_account_2 11 rfl rfl)
theorem dX2_account_80 : decode cX2_account 80 = .ok (.aload_n 0, 1) := dk_42 (dk_at dksX2_account_2 12 rfl rfl)
theorem dX2_account_81 : decode cX2_account 81 = .ok (.iconst 1, 1) := dk_4 (dk_at dksX2_account_2 13 rfl rfl)
theorem dX2_account_82 : decode cX2_account 82 = .ok (.invokevirtual 226, 3) := dk_182 0 226 (dk_at dksX2_account_2 14 rfl rfl)
theorem dX2_account_85 : decode cX2_account 85 = .ok (.ireturn, 1) := dk_172 (dk_at dksX2_account_2 17 rfl rfl)
theorem dX2_account_86 : decode cX2_account 86 = .ok (.aload_n 0, 1) := dk_42 (dk_at dksX2_account_2 18 rfl rfl)
theorem dX2_account_87 : decode cX2_account 87 = .ok (.bipush 6, 2) := dk_16 6 (dk_at dksX2_account_2 19 rfl rfl)
theorem dX2_account_89 : decode cX2_account 89 = .ok (.invokevirtual 226, 3) := dk_182 0 226 (dk_at dksX2_account_2 21 rfl rfl)
theorem dX2_account_92 : decode cX2_account 92 = .ok (.ireturn, 1) := dk_172 (dk_at dksX2_account_3 0 rfl rfl)
theorem dX2_account_93 : decode cX2_account 93 = .ok (.aload_n 0, 1) := dk_42 (dk_at dksX2_account_3 1 rfl rfl)
theorem dX2_account_94 : decode cX2_account 94 = .ok (.getfield 9, 3) := dk_180 0 9 (dk_at dksX2_account_3 2 rfl rfl)
theorem dX2_account_97 : decode cX2_account 97 = .ok (.iconst 1, 1) := dk_4 (dk_at dksX2_account_3 5 rfl rfl)
theorem dX2_account_98 : decode cX2_account 98 = .ok (.iaload, 1) := dk_46 (dk_at dksX2_account_3 6 rfl rfl)
theorem dX2_account_99 : decode cX2_account 99 = .ok (.ireturn, 1) := dk_172 (dk_at dksX2_account_3 7 rfl rfl)
theorem dX2_account_100 : decode cX2_account 100 = .ok (.aload_n 0, 1) := dk_42 (dk_at dksX2_account_3 8 rfl rfl)
theorem dX2_account_101 : decode cX2_account 101 = .ok (.getfield 9, 3) := dk_180 0 9 (dk_at dksX2_account_3 9 rfl rfl)
theorem dX2_account_104 : decode cX2_account 104 = .ok (.iconst 2, 1) := dk_5 (dk_at dksX2_account_3 12 rfl rfl)
theorem dX2_account_105 : decode cX2_account 105 = .ok (.iaload, 1) := dk_46 (dk_at dksX2_account_3 13 rfl rfl)
theorem dX2_account_106 : decode cX2_account 106 = .ok (.ireturn, 1) := dk_172 (dk_at dksX2_account_3 14 rfl rfl)
theorem dX2_account_107 : decode cX2_account 107 = .ok (.aload_n 0, 1) := dk_42 (dk_at dksX2_account_3 15 rfl rfl)
theorem dX2_account_108 : decode cX2_account 108 = .ok (.invokevirtual 229, 3) := dk_182 0 229 (dk_at dksX2_account_3 16 rfl rfl)
theorem dX2_account_111 : decode cX2_account 111 = .ok (.ireturn, 1) := dk_172 (dk_at dksX2_account_3 19 rfl rfl)
theorem dX2_account_112 : decode cX2_account 112 = .ok (.aload_n 0, 1) := dk_42 (dk_at dksX2_account_3 20 rfl rfl)
theorem dX2_account_113 : decode cX2_account 113 = .ok (.getfield 9, 3) := dk_180 0 9 (dk_at dksX2_account_3 21 rfl rfl)
theorem dX2_account_116 : decode cX2_account 116 = .ok (.iload_n 1, 1) := dk_27 (dk_at dksX2_account_4 0 rfl rfl)
theorem dX2_account_117 : decode cX2_account 117 = .ok (.iconst 4, 1) := dk_7 (dk_at dksX2_account_4 1 rfl rfl)
theorem dX2_account_118 : decode cX2_account 118 = .ok (.isub, 1) := dk_100 (dk_at dksX2_account_4 2 rfl rfl)
theorem dX2_account_119 : decode cX2_account 119 = .ok (.iaload, 1) := dk_46 (dk_at dksX2_account_4 3 rfl rfl)
theorem dX2_account_120 : decode cX2_account 120 = .ok (.ireturn, 1) := dk_172 (dk_at dksX2_account_4 4 rfl rfl)
theorem dX2_account_121 : decode cX2_account 121 = .ok (.aload_n 0, 1) := dk_42 (dk_at dksX2_account_4 5 rfl rfl)
theorem dX2_account_122 : decode cX2_account 122 = .ok (.invokevirtual 232, 3) := dk_182 0 232 (dk_at dksX2_account_4 6 rfl rfl)
theorem dX2_account_125 : decode cX2_account 125 = .ok (.ireturn, 1) := dk_172 (dk_at dksX2_account_4 9 rfl rfl)
theorem dX2_account_126 : decode cX2_account 126 = .ok (.aload_n 0, 1) := dk_42 (dk_at dksX2_account_4 10 rfl rfl)
theorem dX2_account_127 : decode cX2_account 127 = .ok (.getfield 188, 3) := dk_180 0 188 (dk_at dksX2_account_4 11 rfl rfl)
theorem dX2_account_130 : decode cX2_account 130 = .ok (.ireturn, 1) := dk_172 (dk_at dksX2_account_4 14 rfl rfl)
theorem dX2_account_131 : decode cX2_account 131 = .ok (.aload_n 0, 1) := dk_42 (dk_at dksX2_account_4 15 rfl rfl)
theorem dX2_account_132 : decode cX2_account 132 = .ok (.getfield 51, 3) := dk_180 0 51 (dk_at dksX2_account_4 16 rfl rfl)
theorem dX2_account_135 : decode cX2_account 135 = .ok (.ireturn, 1) := dk_172 (dk_at dksX2_account_4 19 rfl rfl)
theorem dX2_account_136 : decode cX2_account 136 = .ok (.bipush (-2), 2) := dk_16 254 (dk_at dksX2_account_4 20 rfl rfl)
theorem dX2_account_138 : decode cX2_account 138 = .ok (.ireturn, 1) := dk_172 (dk_at dksX2_account_4 22 rfl rfl)
abbrev cX2_sum : ByteArray := prog_14_method_68_code
def yX2_sum : MethodName := ⟨RX2, "sum", "(I)I"⟩
def dkwX2_sum_1 : List UInt8 := [96, 46, 158, 0, 7, 4, 167, 0, 4, 3, 96, 61, 132, 3, 1, 167, 255, 221, 28, 172]
abbrev dktX2_sum_1 : List UInt8 := dkwX2_sum_1 ++ []
def dkwX2_sum_0 : List UInt8 := [3, 61, 3, 62, 29, 42, 180, 0, 9, 3, 46, 162, 0, 31, 28, 42, 180, 0, 9, 29, 184, 0, 58, 27]
abbrev dktX2_sum_0 : List UInt8 := dkwX2_sum_0 ++ dktX2_sum_1
theorem dksX2_sum_0 : cX2_sum.data.toList.drop 0 = dktX2_sum_0 := by decide +kernel
theorem dksX2_sum_1 : cX2_sum.data.toList.drop 24 = dktX2_sum_1 := dk_seg dksX2_sum_0 24 rfl rfl
theorem dX2_sum_0 : decode cX2_sum 0 = .ok (.iconst 0, 1) := dk_3 (dk_at dksX2_sum_0 0 rfl rfl)
theorem dX2_sum_1 : decode cX2_sum 1 = .ok (.istore_n 2, 1) := dk_61 (dk_at dksX2_sum_0 1 rfl rfl)
theorem dX2_sum_2 : decode cX2_sum 2 = .ok (.iconst 0, 1) := dk_3 (dk_at dksX2_sum_0 2 rfl rfl)
theorem dX2_sum_3 : decode cX2_sum 3 = .ok (.istore_n 3, 1) := dk_62 (dk_at dksX2_sum_0 3 rfl rfl)
theorem dX2_sum_4 : decode cX2_sum 4 = .ok (.iload_n 3, 1) := dk_29 (dk_at dksX2_sum_0 4 rfl rfl)
theorem dX2_sum_5 : decode cX2_sum 5 = .ok (.aload_n 0, 1) := dk_42 (dk_at dksX2_sum_0 5 rfl rfl)
theorem dX2_sum_6 : decode cX2_sum 6 = .ok (.getfield 9, 3) := dk_180 0 9 (dk_at dksX2_sum_0 6 rfl rfl)
theorem dX2_sum_9 : decode cX2_sum 9 = .ok (.iconst 0, 1) := dk_3 (dk_at dksX2_sum_0 9 rfl rfl)
theorem dX2_sum_10 : decode cX2_sum 10 = .ok (.iaload, 1) := dk_46 (dk_at dksX2_sum_0 10 rfl rfl)
theorem dX2_sum_11 : decode cX2_sum 11 = .ok (.if_icmp .ge 31, 3) := dk_162 0 31 (dk_at dksX2_sum_0 11 rfl rfl)
theorem dX2_sum_14 : decode cX2_sum 14 = .ok (.iload_n 2, 1) := dk_28 (dk_at dksX2_sum_0 14 rfl rfl)
theorem dX2_sum_15 : decode cX2_sum 15 = .ok (.aload_n 0, 1) := dk_42 (dk_at dksX2_sum_0 15 rfl rfl)
theorem dX2_sum_16 : decode cX2_sum 16 = .ok (.getfield 9, 3) := dk_180 0 9 (dk_at dksX2_sum_0 16 rfl rfl)
theorem dX2_sum_19 : decode cX2_sum 19 = .ok (.iload_n 3, 1) := dk_29 (dk_at dksX2_sum_0 19 rfl rfl)
theorem dX2_sum_20 : decode cX2_sum 20 = .ok (.invokestatic 58, 3) := dk_184 0 58 (dk_at dksX2_sum_0 20 rfl rfl)
theorem dX2_sum_23 : decode cX2_sum 23 = .ok (.iload_n 1, 1) := dk_27 (dk_at dksX2_sum_0 23 rfl rfl)
theorem dX2_sum_24 : decode cX2_sum 24 = .ok (.iadd, 1) := dk_96 (dk_at dksX2_sum_1 0 rfl rfl)
theorem dX2_sum_25 : decode cX2_sum 25 = .ok (.iaload, 1) := dk_46 (dk_at dksX2_sum_1 1 rfl rfl)
theorem dX2_sum_26 : decode cX2_sum 26 = .ok (.ifCond .le 7, 3) := dk_158 0 7 (dk_at dksX2_sum_1 2 rfl rfl)
theorem dX2_sum_29 : decode cX2_sum 29 = .ok (.iconst 1, 1) := dk_4 (dk_at dksX2_sum_1 5 rfl rfl)
theorem dX2_sum_30 : decode cX2_sum 30 = .ok (.goto 4, 3) := dk_167 0 4 (dk_at dksX2_sum_1 6 rfl rfl)
theorem dX2_sum_33 : decode cX2_sum 33 = .ok (.iconst 0, 1) := dk_3 (dk_at dksX2_sum_1 9 rfl rfl)
theorem dX2_sum_34 : decode cX2_sum 34 = .ok (.iadd, 1) := dk_96 (dk_at dksX2_sum_1 10 rfl rfl)
theorem dX2_sum_35 : decode cX2_sum 35 = .ok (.istore_n 2, 1) := dk_61 (dk_at dksX2_sum_1 11 rfl rfl)
theorem dX2_sum_36 : decode cX2_sum 36 = .ok (.iinc 3 1, 3) := dk_132 3 1 (dk_at dksX2_sum_1 12 rfl rfl)
theorem dX2_sum_39 : decode cX2_sum 39 = .ok (.goto (-35), 3) := dk_167 255 221 (dk_at dksX2_sum_1 15 rfl rfl)
theorem dX2_sum_42 : decode cX2_sum 42 = .ok (.iload_n 2, 1) := dk_28 (dk_at dksX2_sum_1 18 rfl rfl)
theorem dX2_sum_43 : decode cX2_sum 43 = .ok (.ireturn, 1) := dk_172 (dk_at dksX2_sum_1 19 rfl rfl)
abbrev cX2_weights : ByteArray := prog_14_method_69_code
def yX2_weights : MethodName := ⟨RX2, "weights", "()I"⟩
def dkwX2_weights_1 : List UInt8 := [132, 2, 1, 167, 255, 235, 27, 172]
abbrev dktX2_weights_1 : List UInt8 := dkwX2_weights_1 ++ []
def dkwX2_weights_0 : List UInt8 := [3, 60, 3, 61, 28, 16, 8, 162, 0, 21, 27, 42, 180, 0, 9, 16, 6, 28, 96, 46, 96, 60]
abbrev dktX2_weights_0 : List UInt8 := dkwX2_weights_0 ++ dktX2_weights_1
theorem dksX2_weights_0 : cX2_weights.data.toList.drop 0 = dktX2_weights_0 := by decide +kernel
theorem dksX2_weights_1 : cX2_weights.data.toList.drop 22 = dktX2_weights_1 := dk_seg dksX2_weights_0 22 rfl rfl
theorem dX2_weights_0 : decode cX2_weights 0 = .ok (.iconst 0, 1) := dk_3 (dk_at dksX2_weights_0 0 rfl rfl)
theorem dX2_weights_1 : decode cX2_weights 1 = .ok (.istore_n 1, 1) := dk_60 (dk_at dksX2_weights_0 1 rfl rfl)
theorem dX2_weights_2 : decode cX2_weights 2 = .ok (.iconst 0, 1) := dk_3 (dk_at dksX2_weights_0 2 rfl rfl)
theorem dX2_weights_3 : decode cX2_weights 3 = .ok (.istore_n 2, 1) := dk_61 (dk_at dksX2_weights_0 3 rfl rfl)
theorem dX2_weights_4 : decode cX2_weights 4 = .ok (.iload_n 2, 1) := dk_28 (dk_at dksX2_weights_0 4 rfl rfl)
theorem dX2_weights_5 : decode cX2_weights 5 = .ok (.bipush 8, 2) := dk_16 8 (dk_at dksX2_weights_0 5 rfl rfl)
theorem dX2_weights_7 : decode cX2_weights 7 = .ok (.if_icmp .ge 21, 3) := dk_162 0 21 (dk_at dksX2_weights_0 7 rfl rfl)
theorem dX2_weights_10 : decode cX2_weights 10 = .ok (.iload_n 1, 1) := dk_27 (dk_at dksX2_weights_0 10 rfl rfl)
theorem dX2_weights_11 : decode cX2_weights 11 = .ok (.aload_n 0, 1) := dk_42 (dk_at dksX2_weights_0 11 rfl rfl)
theorem dX2_weights_12 : decode cX2_weights 12 = .ok (.getfield 9, 3) := dk_180 0 9 (dk_at dksX2_weights_0 12 rfl rfl)
theorem dX2_weights_15 : decode cX2_weights 15 = .ok (.bipush 6, 2) := dk_16 6 (dk_at dksX2_weights_0 15 rfl rfl)
theorem dX2_weights_17 : decode cX2_weights 17 = .ok (.iload_n 2, 1) := dk_28 (dk_at dksX2_weights_0 17 rfl rfl)
theorem dX2_weights_18 : decode cX2_weights 18 = .ok (.iadd, 1) := dk_96 (dk_at dksX2_weights_0 18 rfl rfl)
theorem dX2_weights_19 : decode cX2_weights 19 = .ok (.iaload, 1) := dk_46 (dk_at dksX2_weights_0 19 rfl rfl)
theorem dX2_weights_20 : decode cX2_weights 20 = .ok (.iadd, 1) := dk_96 (dk_at dksX2_weights_0 20 rfl rfl)
theorem dX2_weights_21 : decode cX2_weights 21 = .ok (.istore_n 1, 1) := dk_60 (dk_at dksX2_weights_0 21 rfl rfl)
theorem dX2_weights_22 : decode cX2_weights 22 = .ok (.iinc 2 1, 3) := dk_132 2 1 (dk_at dksX2_weights_1 0 rfl rfl)
theorem dX2_weights_25 : decode cX2_weights 25 = .ok (.goto (-21), 3) := dk_167 255 235 (dk_at dksX2_weights_1 3 rfl rfl)
theorem dX2_weights_28 : decode cX2_weights 28 = .ok (.iload_n 1, 1) := dk_27 (dk_at dksX2_weights_1 6 rfl rfl)
theorem dX2_weights_29 : decode cX2_weights 29 = .ok (.ireturn, 1) := dk_172 (dk_at dksX2_weights_1 7 rfl rfl)
abbrev cX2_oldest : ByteArray := prog_14_method_70_code
def yX2_oldest : MethodName := ⟨RX2, "oldest", "()I"⟩
def dkwX2_oldest_1 : List UInt8 := [96, 46, 184, 0, 95, 60, 132, 2, 1, 167, 255, 227, 27, 172]
abbrev dktX2_oldest_1 : List UInt8 := dkwX2_oldest_1 ++ []
def dkwX2_oldest_0 : List UInt8 := [3, 60, 3, 61, 28, 42, 180, 0, 9, 3, 46, 162, 0, 25, 27, 42, 180, 0, 9, 28, 184, 0, 58, 8]
abbrev dktX2_oldest_0 : List UInt8 := dkwX2_oldest_0 ++ dktX2_oldest_1
theorem dksX2_oldest_0 : cX2_oldest.data.toList.drop 0 = dktX2_oldest_0 := by decide +kernel
theorem dksX2_oldest_1 : cX2_oldest.data.toList.drop 24 = dktX2_oldest_1 := dk_seg dksX2_oldest_0 24 rfl rfl
theorem dX2_oldest_0 : decode cX2_oldest 0 = .ok (.iconst 0, 1) := dk_3 (dk_at dksX2_oldest_0 0 rfl rfl)
theorem dX2_oldest_1 : decode cX2_oldest 1 = .ok (.istore_n 1, 1) := dk_60 (dk_at dksX2_oldest_0 1 rfl rfl)
theorem dX2_oldest_2 : decode cX2_oldest 2 = .ok (.iconst 0, 1) := dk_3 (dk_at dksX2_oldest_0 2 rfl rfl)
theorem dX2_oldest_3 : decode cX2_oldest 3 = .ok (.istore_n 2, 1) := dk_61 (dk_at dksX2_oldest_0 3 rfl rfl)
theorem dX2_oldest_4 : decode cX2_oldest 4 = .ok (.iload_n 2, 1) := dk_28 (dk_at dksX2_oldest_0 4 rfl rfl)
theorem dX2_oldest_5 : decode cX2_oldest 5 = .ok (.aload_n 0, 1) := dk_42 (dk_at dksX2_oldest_0 5 rfl rfl)
theorem dX2_oldest_6 : decode cX2_oldest 6 = .ok (.getfield 9, 3) := dk_180 0 9 (dk_at dksX2_oldest_0 6 rfl rfl)
theorem dX2_oldest_9 : decode cX2_oldest 9 = .ok (.iconst 0, 1) := dk_3 (dk_at dksX2_oldest_0 9 rfl rfl)
theorem dX2_oldest_10 : decode cX2_oldest 10 = .ok (.iaload, 1) := dk_46 (dk_at dksX2_oldest_0 10 rfl rfl)
theorem dX2_oldest_11 : decode cX2_oldest 11 = .ok (.if_icmp .ge 25, 3) := dk_162 0 25 (dk_at dksX2_oldest_0 11 rfl rfl)
theorem dX2_oldest_14 : decode cX2_oldest 14 = .ok (.iload_n 1, 1) := dk_27 (dk_at dksX2_oldest_0 14 rfl rfl)
theorem dX2_oldest_15 : decode cX2_oldest 15 = .ok (.aload_n 0, 1) := dk_42 (dk_at dksX2_oldest_0 15 rfl rfl)
theorem dX2_oldest_16 : decode cX2_oldest 16 = .ok (.getfield 9, 3) := dk_180 0 9 (dk_at dksX2_oldest_0 16 rfl rfl)
theorem dX2_oldest_19 : decode cX2_oldest 19 = .ok (.iload_n 2, 1) := dk_28 (dk_at dksX2_oldest_0 19 rfl rfl)
theorem dX2_oldest_20 : decode cX2_oldest 20 = .ok (.invokestatic 58, 3) := dk_184 0 58 (dk_at dksX2_oldest_0 20 rfl rfl)
theorem dX2_oldest_23 : decode cX2_oldest 23 = .ok (.iconst 5, 1) := dk_8 (dk_at dksX2_oldest_0 23 rfl rfl)
theorem dX2_oldest_24 : decode cX2_oldest 24 = .ok (.iadd, 1) := dk_96 (dk_at dksX2_oldest_1 0 rfl rfl)
theorem dX2_oldest_25 : decode cX2_oldest 25 = .ok (.iaload, 1) := dk_46 (dk_at dksX2_oldest_1 1 rfl rfl)
theorem dX2_oldest_26 : decode cX2_oldest 26 = .ok (.invokestatic 95, 3) := dk_184 0 95 (dk_at dksX2_oldest_1 2 rfl rfl)
theorem dX2_oldest_29 : decode cX2_oldest 29 = .ok (.istore_n 1, 1) := dk_60 (dk_at dksX2_oldest_1 5 rfl rfl)
theorem dX2_oldest_30 : decode cX2_oldest 30 = .ok (.iinc 2 1, 3) := dk_132 2 1 (dk_at dksX2_oldest_1 6 rfl rfl)
theorem dX2_oldest_33 : decode cX2_oldest 33 = .ok (.goto (-29), 3) := dk_167 255 227 (dk_at dksX2_oldest_1 9 rfl rfl)
theorem dX2_oldest_36 : decode cX2_oldest 36 = .ok (.iload_n 1, 1) := dk_27 (dk_at dksX2_oldest_1 12 rfl rfl)
theorem dX2_oldest_37 : decode cX2_oldest 37 = .ok (.ireturn, 1) := dk_172 (dk_at dksX2_oldest_1 13 rfl rfl)
abbrev cX2_isWell : ByteArray := prog_14_method_72_code
def yX2_isWell : MethodName := ⟨RX2, "isWell", "()I"⟩
def dkwX2_isWell_5 : List UInt8 := [167, 255, 143, 27, 153, 0, 7, 4, 167, 0, 4, 3, 172]
abbrev dktX2_isWell_5 : List UInt8 := dkwX2_isWell_5 ++ []
def dkwX2_isWell_4 : List UInt8 := [42, 180, 0, 9, 29, 46, 21, 5, 130, 126, 154, 0, 7, 4, 167, 0, 4, 3, 60, 132, 2, 1]
abbrev dktX2_isWell_4 : List UInt8 := dkwX2_isWell_4 ++ dktX2_isWell_5
def dkwX2_isWell_3 : List UInt8 := [5, 96, 46, 4, 100, 184, 0, 58, 46, 54, 5, 27, 153, 0, 29, 42, 180, 0, 9, 29, 46, 21, 4, 130]
abbrev dktX2_isWell_3 : List UInt8 := dkwX2_isWell_3 ++ dktX2_isWell_4
def dkwX2_isWell_2 : List UInt8 := [180, 0, 9, 29, 4, 96, 46, 4, 100, 184, 0, 58, 46, 54, 4, 42, 180, 0, 9, 42, 180, 0, 9, 29]
abbrev dktX2_isWell_2 : List UInt8 := dkwX2_isWell_2 ++ dktX2_isWell_3
def dkwX2_isWell_1 : List UInt8 := [4, 96, 46, 158, 0, 87, 42, 180, 0, 9, 29, 16, 6, 96, 46, 154, 0, 75, 42, 180, 0, 9, 42]
abbrev dktX2_isWell_1 : List UInt8 := dkwX2_isWell_1 ++ dktX2_isWell_2
def dkwX2_isWell_0 : List UInt8 := [4, 60, 3, 61, 28, 42, 180, 0, 9, 3, 46, 162, 0, 109, 28, 184, 0, 58, 62, 42, 180, 0, 9, 29]
abbrev dktX2_isWell_0 : List UInt8 := dkwX2_isWell_0 ++ dktX2_isWell_1
theorem dksX2_isWell_0 : cX2_isWell.data.toList.drop 0 = dktX2_isWell_0 := by decide +kernel
theorem dksX2_isWell_1 : cX2_isWell.data.toList.drop 24 = dktX2_isWell_1 := dk_seg dksX2_isWell_0 24 rfl rfl
theorem dksX2_isWell_2 : cX2_isWell.data.toList.drop 47 = dktX2_isWell_2 := dk_seg dksX2_isWell_1 23 rfl rfl
theorem dksX2_isWell_3 : cX2_isWell.data.toList.drop 71 = dktX2_isWell_3 := dk_seg dksX2_isWell_2 24 rfl rfl
theorem dksX2_isWell_4 : cX2_isWell.data.toList.drop 95 = dktX2_isWell_4 := dk_seg dksX2_isWell_3 24 rfl rfl
theorem dksX2_isWell_5 : cX2_isWell.data.toList.drop 117 = dktX2_isWell_5 := dk_seg dksX2_isWell_4 22 rfl rfl
theorem dX2_isWell_0 : decode cX2_isWell 0 = .ok (.iconst 1, 1) := dk_4 (dk_at dksX2_isWell_0 0 rfl rfl)
theorem dX2_isWell_1 : decode cX2_isWell 1 = .ok (.istore_n 1, 1) := dk_60 (dk_at dksX2_isWell_0 1 rfl rfl)
theorem dX2_isWell_2 : decode cX2_isWell 2 = .ok (.iconst 0, 1) := dk_3 (dk_at dksX2_isWell_0 2 rfl rfl)
theorem dX2_isWell_3 : decode cX2_isWell 3 = .ok (.istore_n 2, 1) := dk_61 (dk_at dksX2_isWell_0 3 rfl rfl)
theorem dX2_isWell_4 : decode cX2_isWell 4 = .ok (.iload_n 2, 1) := dk_28 (dk_at dksX2_isWell_0 4 rfl rfl)
theorem dX2_isWell_5 : decode cX2_isWell 5 = .ok (.aload_n 0, 1) := dk_42 (dk_at dksX2_isWell_0 5 rfl rfl)
theorem dX2_isWell_6 : decode cX2_isWell 6 = .ok (.getfield 9, 3) := dk_180 0 9 (dk_at dksX2_isWell_0 6 rfl rfl)
theorem dX2_isWell_9 : decode cX2_isWell 9 = .ok (.iconst 0, 1) := dk_3 (dk_at dksX2_isWell_0 9 rfl rfl)
theorem dX2_isWell_10 : decode cX2_isWell 10 = .ok (.iaload, 1) := dk_46 (dk_at dksX2_isWell_0 10 rfl rfl)
theorem dX2_isWell_11 : decode cX2_isWell 11 = .ok (.if_icmp .ge 109, 3) := dk_162 0 109 (dk_at dksX2_isWell_0 11 rfl rfl)
theorem dX2_isWell_14 : decode cX2_isWell 14 = .ok (.iload_n 2, 1) := dk_28 (dk_at dksX2_isWell_0 14 rfl rfl)
theorem dX2_isWell_15 : decode cX2_isWell 15 = .ok (.invokestatic 58, 3) := dk_184 0 58 (dk_at dksX2_isWell_0 15 rfl rfl)
theorem dX2_isWell_18 : decode cX2_isWell 18 = .ok (.istore_n 3, 1) := dk_62 (dk_at dksX2_isWell_0 18 rfl rfl)
theorem dX2_isWell_19 : decode cX2_isWell 19 = .ok (.aload_n 0, 1) := dk_42 (dk_at dksX2_isWell_0 19 rfl rfl)
theorem dX2_isWell_20 : decode cX2_isWell 20 = .ok (.getfield 9, 3) := dk_180 0 9 (dk_at dksX2_isWell_0 20 rfl rfl)
theorem dX2_isWell_23 : decode cX2_isWell 23 = .ok (.iload_n 3, 1) := dk_29 (dk_at dksX2_isWell_0 23 rfl rfl)
theorem dX2_isWell_24 : decode cX2_isWell 24 = .ok (.iconst 1, 1) := dk_4 (dk_at dksX2_isWell_1 0 rfl rfl)
theorem dX2_isWell_25 : decode cX2_isWell 25 = .ok (.iadd, 1) := dk_96 (dk_at dksX2_isWell_1 1 rfl rfl)
theorem dX2_isWell_26 : decode cX2_isWell 26 = .ok (.iaload, 1) := dk_46 (dk_at dksX2_isWell_1 2 rfl rfl)
theorem dX2_isWell_27 : decode cX2_isWell 27 = .ok (.ifCond .le 87, 3) := dk_158 0 87 (dk_at dksX2_isWell_1 3 rfl rfl)
theorem dX2_isWell_30 : decode cX2_isWell 30 = .ok (.aload_n 0, 1) := dk_42 (dk_at dksX2_isWell_1 6 rfl rfl)
theorem dX2_isWell_31 : decode cX2_isWell 31 = .ok (.getfield 9, 3) := dk_180 0 9 (dk_at dksX2_isWell_1 7 rfl rfl)
theorem dX2_isWell_34 : decode cX2_isWell 34 = .ok (.iload_n 3, 1) := dk_29 (dk_at dksX2_isWell_1 10 rfl rfl)
theorem dX2_isWell_35 : decode cX2_isWell 35 = .ok (.bipush 6, 2) := dk_16 6 (dk_at dksX2_isWell_1 11 rfl rfl)
theorem dX2_isWell_37 : decode cX2_isWell 37 = .ok (.iadd, 1) := dk_96 (dk_at dksX2_isWell_1 13 rfl rfl)
theorem dX2_isWell_38 : decode cX2_isWell 38 = .ok (.iaload, 1) := dk_46 (dk_at dksX2_isWell_1 14 rfl rfl)
theorem dX2_isWell_39 : decode cX2_isWell 39 = .ok (.ifCond .ne 75, 3) := dk_154 0 75 (dk_at dksX2_isWell_1 15 rfl rfl)
theorem dX2_isWell_42 : decode cX2_isWell 42 = .ok (.aload_n 0, 1) := dk_42 (dk_at dksX2_isWell_1 18 rfl rfl)
theorem dX2_isWell_43 : decode cX2_isWell 43 = .ok (.getfield 9, 3) := dk_180 0 9 (dk_at dksX2_isWell_1 19 rfl rfl)
theorem dX2_isWell_46 : decode cX2_isWell 46 = .ok (.aload_n 0, 1) := dk_42 (dk_at dksX2_isWell_1 22 rfl rfl)
theorem dX2_isWell_47 : decode cX2_isWell 47 = .ok (.getfield 9, 3) := dk_180 0 9 (dk_at dksX2_isWell_2 0 rfl rfl)
theorem dX2_isWell_50 : decode cX2_isWell 50 = .ok (.iload_n 3, 1) := dk_29 (dk_at dksX2_isWell_2 3 rfl rfl)
theorem dX2_isWell_51 : decode cX2_isWell 51 = .ok (.iconst 1, 1) := dk_4 (dk_at dksX2_isWell_2 4 rfl rfl)
theorem dX2_isWell_52 : decode cX2_isWell 52 = .ok (.iadd, 1) := dk_96 (dk_at dksX2_isWell_2 5 rfl rfl)
theorem dX2_isWell_53 : decode cX2_isWell 53 = .ok (.iaload, 1) := dk_46 (dk_at dksX2_isWell_2 6 rfl rfl)
theorem dX2_isWell_54 : decode cX2_isWell 54 = .ok (.iconst 1, 1) := dk_4 (dk_at dksX2_isWell_2 7 rfl rfl)
theorem dX2_isWell_55 : decode cX2_isWell 55 = .ok (.isub, 1) := dk_100 (dk_at dksX2_isWell_2 8 rfl rfl)
theorem dX2_isWell_56 : decode cX2_isWell 56 = .ok (.invokestatic 58, 3) := dk_184 0 58 (dk_at dksX2_isWell_2 9 rfl rfl)
theorem dX2_isWell_59 : decode cX2_isWell 59 = .ok (.iaload, 1) := dk_46 (dk_at dksX2_isWell_2 12 rfl rfl)
theorem dX2_isWell_60 : decode cX2_isWell 60 = .ok (.istore 4, 2) := dk_54 4 (dk_at dksX2_isWell_2 13 rfl rfl)
theorem dX2_isWell_62 : decode cX2_isWell 62 = .ok (.aload_n 0, 1) := dk_42 (dk_at dksX2_isWell_2 15 rfl rfl)
theorem dX2_isWell_63 : decode cX2_isWell 63 = .ok (.getfield 9, 3) := dk_180 0 9 (dk_at dksX2_isWell_2 16 rfl rfl)
theorem dX2_isWell_66 : decode cX2_isWell 66 = .ok (.aload_n 0, 1) := dk_42 (dk_at dksX2_isWell_2 19 rfl rfl)
theorem dX2_isWell_67 : decode cX2_isWell 67 = .ok (.getfield 9, 3) := dk_180 0 9 (dk_at dksX2_isWell_2 20 rfl rfl)
theorem dX2_isWell_70 : decode cX2_isWell 70 = .ok (.iload_n 3, 1) := dk_29 (dk_at dksX2_isWell_2 23 rfl rfl)
theorem dX2_isWell_71 : decode cX2_isWell 71 = .ok (.iconst 2, 1) := dk_5 (dk_at dksX2_isWell_3 0 rfl rfl)
theorem dX2_isWell_72 : decode cX2_isWell 72 = .ok (.iadd, 1) := dk_96 (dk_at dksX2_isWell_3 1 rfl rfl)
theorem dX2_isWell_73 : decode cX2_isWell 73 = .ok (.iaload, 1) := dk_46 (dk_at dksX2_isWell_3 2 rfl rfl)
theorem dX2_isWell_74 : decode cX2_isWell 74 = .ok (.iconst 1, 1) := dk_4 (dk_at dksX2_isWell_3 3 rfl rfl)
theorem dX2_isWell_75 : decode cX2_isWell 75 = .ok (.isub, 1) := dk_100 (dk_at dksX2_isWell_3 4 rfl rfl)
theorem dX2_isWell_76 : decode cX2_isWell 76 = .ok (.invokestatic 58, 3) := dk_184 0 58 (dk_at dksX2_isWell_3 5 rfl rfl)
theorem dX2_isWell_79 : decode cX2_isWell 79 = .ok (.iaload, 1) := dk_46 (dk_at dksX2_isWell_3 8 rfl rfl)
theorem dX2_isWell_80 : decode cX2_isWell 80 = .ok (.istore 5, 2) := dk_54 5 (dk_at dksX2_isWell_3 9 rfl rfl)
theorem dX2_isWell_82 : decode cX2_isWell 82 = .ok (.iload_n 1, 1) := dk_27 (dk_at dksX2_isWell_3 11 rfl rfl)
theorem dX2_isWell_83 : decode cX2_isWell 83 = .ok (.ifCond .eq 29, 3) := dk_153 0 29 (dk_at dksX2_isWell_3 12 rfl rfl)
theorem dX2_isWell_86 : decode cX2_isWell 86 = .ok (.aload_n 0, 1) := dk_42 (dk_at dksX2_isWell_3 15 rfl rfl)
theorem dX2_isWell_87 : decode cX2_isWell 87 = .ok (.getfield 9, 3) := dk_180 0 9 (dk_at dksX2_isWell_3 16 rfl rfl)
theorem dX2_isWell_90 : decode cX2_isWell 90 = .ok (.iload_n 3, 1) := dk_29 (dk_at dksX2_isWell_3 19 rfl rfl)
theorem dX2_isWell_91 : decode cX2_isWell 91 = .ok (.iaload, 1) := dk_46 (dk_at dksX2_isWell_3 20 rfl rfl)
theorem dX2_isWell_92 : decode cX2_isWell 92 = .ok (.iload 4, 2) := dk_21 4 (dk_at dksX2_isWell_3 21 rfl rfl)
theorem dX2_isWell_94 : decode cX2_isWell 94 = .ok (.ixor, 1) := dk_130 (dk_at dksX2_isWell_3 23 rfl rfl)
theorem dX2_isWell_95 : decode cX2_isWell 95 = .ok (.aload_n 0, 1) := dk_42 (dk_at dksX2_isWell_4 0 rfl rfl)
theorem dX2_isWell_96 : decode cX2_isWell 96 = .ok (.getfield 9, 3) := dk_180 0 9 (dk_at dksX2_isWell_4 1 rfl rfl)
theorem dX2_isWell_99 : decode cX2_isWell 99 = .ok (.iload_n 3, 1) := dk_29 (dk_at dksX2_isWell_4 4 rfl rfl)
theorem dX2_isWell_100 : decode cX2_isWell 100 = .ok (.iaload, 1) := dk_46 (dk_at dksX2_isWell_4 5 rfl rfl)
theorem dX2_isWell_101 : decode cX2_isWell 101 = .ok (.iload 5, 2) := dk_21 5 (dk_at dksX2_isWell_4 6 rfl rfl)
theorem dX2_isWell_103 : decode cX2_isWell 103 = .ok (.ixor, 1) := dk_130 (dk_at dksX2_isWell_4 8 rfl rfl)
theorem dX2_isWell_104 : decode cX2_isWell 104 = .ok (.iand, 1) := dk_126 (dk_at dksX2_isWell_4 9 rfl rfl)
theorem dX2_isWell_105 : decode cX2_isWell 105 = .ok (.ifCond .ne 7, 3) := dk_154 0 7 (dk_at dksX2_isWell_4 10 rfl rfl)
theorem dX2_isWell_108 : decode cX2_isWell 108 = .ok (.iconst 1, 1) := dk_4 (dk_at dksX2_isWell_4 13 rfl rfl)
theorem dX2_isWell_109 : decode cX2_isWell 109 = .ok (.goto 4, 3) := dk_167 0 4 (dk_at dksX2_isWell_4 14 rfl rfl)
theorem dX2_isWell_112 : decode cX2_isWell 112 = .ok (.iconst 0, 1) := dk_3 (dk_at dksX2_isWell_4 17 rfl rfl)
theorem dX2_isWell_113 : decode cX2_isWell 113 = .ok (.istore_n 1, 1) := dk_60 (dk_at dksX2_isWell_4 18 rfl rfl)
theorem dX2_isWell_114 : decode cX2_isWell 114 = .ok (.iinc 2 1, 3) := dk_132 2 1 (dk_at dksX2_isWell_4 19 rfl rfl)
theorem dX2_isWell_117 : decode cX2_isWell 117 = .ok (.goto (-113), 3) := dk_167 255 143 (dk_at dksX2_isWell_5 0 rfl rfl)
theorem dX2_isWell_120 : decode cX2_isWell 120 = .ok (.iload_n 1, 1) := dk_27 (dk_at dksX2_isWell_5 3 rfl rfl)
theorem dX2_isWell_121 : decode cX2_isWell 121 = .ok (.ifCond .eq 7, 3) := dk_153 0 7 (dk_at dksX2_isWell_5 4 rfl rfl)
theorem dX2_isWell_124 : decode cX2_isWell 124 = .ok (.iconst 1, 1) := dk_4 (dk_at dksX2_isWell_5 7 rfl rfl)
theorem dX2_isWell_125 : decode cX2_isWell 125 = .ok (.goto 4, 3) := dk_167 0 4 (dk_at dksX2_isWell_5 8 rfl rfl)
theorem dX2_isWell_128 : decode cX2_isWell 128 = .ok (.iconst 0, 1) := dk_3 (dk_at dksX2_isWell_5 11 rfl rfl)
theorem dX2_isWell_129 : decode cX2_isWell 129 = .ok (.ireturn, 1) := dk_172 (dk_at dksX2_isWell_5 12 rfl rfl)
abbrev cX2_mean : ByteArray := prog_14_method_73_code
def yX2_mean : MethodName := ⟨RX2, "mean", "()I"⟩
def dkwX2_mean_3 : List UInt8 := [172]
abbrev dktX2_mean_3 : List UInt8 := dkwX2_mean_3 ++ []
def dkwX2_mean_2 : List UInt8 := [61, 132, 3, 1, 167, 255, 215, 27, 154, 0, 8, 16, 252, 167, 0, 11, 28, 134, 27, 134, 110, 184, 0, 235]
abbrev dktX2_mean_2 : List UInt8 := dkwX2_mean_2 ++ dktX2_mean_3
def dkwX2_mean_1 : List UInt8 := [182, 0, 106, 153, 0, 19, 42, 42, 180, 0, 9, 29, 184, 0, 58, 46, 182, 0, 137, 167, 0, 4, 3, 96]
abbrev dktX2_mean_1 : List UInt8 := dkwX2_mean_1 ++ dktX2_mean_2
def dkwX2_mean_0 : List UInt8 := [42, 182, 0, 66, 60, 3, 61, 3, 62, 29, 42, 180, 0, 9, 3, 46, 162, 0, 37, 28, 42, 29]
abbrev dktX2_mean_0 : List UInt8 := dkwX2_mean_0 ++ dktX2_mean_1
theorem dksX2_mean_0 : cX2_mean.data.toList.drop 0 = dktX2_mean_0 := by decide +kernel
theorem dksX2_mean_1 : cX2_mean.data.toList.drop 22 = dktX2_mean_1 := dk_seg dksX2_mean_0 22 rfl rfl
theorem dksX2_mean_2 : cX2_mean.data.toList.drop 46 = dktX2_mean_2 := dk_seg dksX2_mean_1 24 rfl rfl
theorem dksX2_mean_3 : cX2_mean.data.toList.drop 70 = dktX2_mean_3 := dk_seg dksX2_mean_2 24 rfl rfl
theorem dX2_mean_0 : decode cX2_mean 0 = .ok (.aload_n 0, 1) := dk_42 (dk_at dksX2_mean_0 0 rfl rfl)
theorem dX2_mean_1 : decode cX2_mean 1 = .ok (.invokevirtual 66, 3) := dk_182 0 66 (dk_at dksX2_mean_0 1 rfl rfl)
theorem dX2_mean_4 : decode cX2_mean 4 = .ok (.istore_n 1, 1) := dk_60 (dk_at dksX2_mean_0 4 rfl rfl)
theorem dX2_mean_5 : decode cX2_mean 5 = .ok (.iconst 0, 1) := dk_3 (dk_at dksX2_mean_0 5 rfl rfl)
theorem dX2_mean_6 : decode cX2_mean 6 = .ok (.istore_n 2, 1) := dk_61 (dk_at dksX2_mean_0 6 rfl rfl)
theorem dX2_mean_7 : decode cX2_mean 7 = .ok (.iconst 0, 1) := dk_3 (dk_at dksX2_mean_0 7 rfl rfl)
theorem dX2_mean_8 : decode cX2_mean 8 = .ok (.istore_n 3, 1) := dk_62 (dk_at dksX2_mean_0 8 rfl rfl)
theorem dX2_mean_9 : decode cX2_mean 9 = .ok (.iload_n 3, 1) := dk_29 (dk_at dksX2_mean_0 9 rfl rfl)
theorem dX2_mean_10 : decode cX2_mean 10 = .ok (.aload_n 0, 1) := dk_42 (dk_at dksX2_mean_0 10 rfl rfl)
theorem dX2_mean_11 : decode cX2_mean 11 = .ok (.getfield 9, 3) := dk_180 0 9 (dk_at dksX2_mean_0 11 rfl rfl)
theorem dX2_mean_14 : decode cX2_mean 14 = .ok (.iconst 0, 1) := dk_3 (dk_at dksX2_mean_0 14 rfl rfl)
theorem dX2_mean_15 : decode cX2_mean 15 = .ok (.iaload, 1) := dk_46 (dk_at dksX2_mean_0 15 rfl rfl)
theorem dX2_mean_16 : decode cX2_mean 16 = .ok (.if_icmp .ge 37, 3) := dk_162 0 37 (dk_at dksX2_mean_0 16 rfl rfl)
theorem dX2_mean_19 : decode cX2_mean 19 = .ok (.iload_n 2, 1) := dk_28 (dk_at dksX2_mean_0 19 rfl rfl)
theorem dX2_mean_20 : decode cX2_mean 20 = .ok (.aload_n 0, 1) := dk_42 (dk_at dksX2_mean_0 20 rfl rfl)
theorem dX2_mean_21 : decode cX2_mean 21 = .ok (.iload_n 3, 1) := dk_29 (dk_at dksX2_mean_0 21 rfl rfl)
theorem dX2_mean_22 : decode cX2_mean 22 = .ok (.invokevirtual 106, 3) := dk_182 0 106 (dk_at dksX2_mean_1 0 rfl rfl)
theorem dX2_mean_25 : decode cX2_mean 25 = .ok (.ifCond .eq 19, 3) := dk_153 0 19 (dk_at dksX2_mean_1 3 rfl rfl)
theorem dX2_mean_28 : decode cX2_mean 28 = .ok (.aload_n 0, 1) := dk_42 (dk_at dksX2_mean_1 6 rfl rfl)
theorem dX2_mean_29 : decode cX2_mean 29 = .ok (.aload_n 0, 1) := dk_42 (dk_at dksX2_mean_1 7 rfl rfl)
theorem dX2_mean_30 : decode cX2_mean 30 = .ok (.getfield 9, 3) := dk_180 0 9 (dk_at dksX2_mean_1 8 rfl rfl)
theorem dX2_mean_33 : decode cX2_mean 33 = .ok (.iload_n 3, 1) := dk_29 (dk_at dksX2_mean_1 11 rfl rfl)
theorem dX2_mean_34 : decode cX2_mean 34 = .ok (.invokestatic 58, 3) := dk_184 0 58 (dk_at dksX2_mean_1 12 rfl rfl)
theorem dX2_mean_37 : decode cX2_mean 37 = .ok (.iaload, 1) := dk_46 (dk_at dksX2_mean_1 15 rfl rfl)
theorem dX2_mean_38 : decode cX2_mean 38 = .ok (.invokevirtual 137, 3) := dk_182 0 137 (dk_at dksX2_mean_1 16 rfl rfl)
theorem dX2_mean_41 : decode cX2_mean 41 = .ok (.goto 4, 3) := dk_167 0 4 (dk_at dksX2_mean_1 19 rfl rfl)
theorem dX2_mean_44 : decode cX2_mean 44 = .ok (.iconst 0, 1) := dk_3 (dk_at dksX2_mean_1 22 rfl rfl)
theorem dX2_mean_45 : decode cX2_mean 45 = .ok (.iadd, 1) := dk_96 (dk_at dksX2_mean_1 23 rfl rfl)
theorem dX2_mean_46 : decode cX2_mean 46 = .ok (.istore_n 2, 1) := dk_61 (dk_at dksX2_mean_2 0 rfl rfl)
theorem dX2_mean_47 : decode cX2_mean 47 = .ok (.iinc 3 1, 3) := dk_132 3 1 (dk_at dksX2_mean_2 1 rfl rfl)
theorem dX2_mean_50 : decode cX2_mean 50 = .ok (.goto (-41), 3) := dk_167 255 215 (dk_at dksX2_mean_2 4 rfl rfl)
theorem dX2_mean_53 : decode cX2_mean 53 = .ok (.iload_n 1, 1) := dk_27 (dk_at dksX2_mean_2 7 rfl rfl)
theorem dX2_mean_54 : decode cX2_mean 54 = .ok (.ifCond .ne 8, 3) := dk_154 0 8 (dk_at dksX2_mean_2 8 rfl rfl)
theorem dX2_mean_57 : decode cX2_mean 57 = .ok (.bipush (-4), 2) := dk_16 252 (dk_at dksX2_mean_2 11 rfl rfl)
theorem dX2_mean_59 : decode cX2_mean 59 = .ok (.goto 11, 3) := dk_167 0 11 (dk_at dksX2_mean_2 13 rfl rfl)
theorem dX2_mean_62 : decode cX2_mean 62 = .ok (.iload_n 2, 1) := dk_28 (dk_at dksX2_mean_2 16 rfl rfl)
theorem dX2_mean_63 : decode cX2_mean 63 = .ok (.i2f, 1) := dk_134 (dk_at dksX2_mean_2 17 rfl rfl)
theorem dX2_mean_64 : decode cX2_mean 64 = .ok (.iload_n 1, 1) := dk_27 (dk_at dksX2_mean_2 18 rfl rfl)
theorem dX2_mean_65 : decode cX2_mean 65 = .ok (.i2f, 1) := dk_134 (dk_at dksX2_mean_2 19 rfl rfl)
theorem dX2_mean_66 : decode cX2_mean 66 = .ok (.fdiv, 1) := dk_110 (dk_at dksX2_mean_2 20 rfl rfl)
theorem dX2_mean_67 : decode cX2_mean 67 = .ok (.invokestatic 235, 3) := dk_184 0 235 (dk_at dksX2_mean_2 21 rfl rfl)
theorem dX2_mean_70 : decode cX2_mean 70 = .ok (.ireturn, 1) := dk_172 (dk_at dksX2_mean_3 0 rfl rfl)
abbrev cX2_undo : ByteArray := prog_14_method_74_code
def yX2_undo : MethodName := ⟨RX2, "undo", "()I"⟩
def dkwX2_undo_2 : List UInt8 := [96, 46, 79, 132, 1, 1, 167, 255, 225, 42, 180, 0, 51, 172]
abbrev dktX2_undo_2 : List UInt8 := dkwX2_undo_2 ++ []
def dkwX2_undo_1 : List UInt8 := [17, 1, 38, 162, 0, 30, 42, 180, 0, 9, 27, 42, 180, 0, 22, 17, 1, 38, 42, 180, 0, 51, 104, 27]
abbrev dktX2_undo_1 : List UInt8 := dkwX2_undo_1 ++ dktX2_undo_2
def dkwX2_undo_0 : List UInt8 := [42, 180, 0, 51, 154, 0, 6, 16, 252, 172, 42, 89, 180, 0, 51, 4, 100, 181, 0, 51, 3, 60, 27]
abbrev dktX2_undo_0 : List UInt8 := dkwX2_undo_0 ++ dktX2_undo_1
theorem dksX2_undo_0 : cX2_undo.data.toList.drop 0 = dktX2_undo_0 := by decide +kernel
theorem dksX2_undo_1 : cX2_undo.data.toList.drop 23 = dktX2_undo_1 := dk_seg dksX2_undo_0 23 rfl rfl
theorem dksX2_undo_2 : cX2_undo.data.toList.drop 47 = dktX2_undo_2 := dk_seg dksX2_undo_1 24 rfl rfl
theorem dX2_undo_0 : decode cX2_undo 0 = .ok (.aload_n 0, 1) := dk_42 (dk_at dksX2_undo_0 0 rfl rfl)
theorem dX2_undo_1 : decode cX2_undo 1 = .ok (.getfield 51, 3) := dk_180 0 51 (dk_at dksX2_undo_0 1 rfl rfl)
theorem dX2_undo_4 : decode cX2_undo 4 = .ok (.ifCond .ne 6, 3) := dk_154 0 6 (dk_at dksX2_undo_0 4 rfl rfl)
theorem dX2_undo_7 : decode cX2_undo 7 = .ok (.bipush (-4), 2) := dk_16 252 (dk_at dksX2_undo_0 7 rfl rfl)
theorem dX2_undo_9 : decode cX2_undo 9 = .ok (.ireturn, 1) := dk_172 (dk_at dksX2_undo_0 9 rfl rfl)
theorem dX2_undo_10 : decode cX2_undo 10 = .ok (.aload_n 0, 1) := dk_42 (dk_at dksX2_undo_0 10 rfl rfl)
theorem dX2_undo_11 : decode cX2_undo 11 = .ok (.dup, 1) := dk_89 (dk_at dksX2_undo_0 11 rfl rfl)
theorem dX2_undo_12 : decode cX2_undo 12 = .ok (.getfield 51, 3) := dk_180 0 51 (dk_at dksX2_undo_0 12 rfl rfl)
theorem dX2_undo_15 : decode cX2_undo 15 = .ok (.iconst 1, 1) := dk_4 (dk_at dksX2_undo_0 15 rfl rfl)
theorem dX2_undo_16 : decode cX2_undo 16 = .ok (.isub, 1) := dk_100 (dk_at dksX2_undo_0 16 rfl rfl)
theorem dX2_undo_17 : decode cX2_undo 17 = .ok (.putfield 51, 3) := dk_181 0 51 (dk_at dksX2_undo_0 17 rfl rfl)
theorem dX2_undo_20 : decode cX2_undo 20 = .ok (.iconst 0, 1) := dk_3 (dk_at dksX2_undo_0 20 rfl rfl)
theorem dX2_undo_21 : decode cX2_undo 21 = .ok (.istore_n 1, 1) := dk_60 (dk_at dksX2_undo_0 21 rfl rfl)
theorem dX2_undo_22 : decode cX2_undo 22 = .ok (.iload_n 1, 1) := dk_27 (dk_at dksX2_undo_0 22 rfl rfl)
theorem dX2_undo_23 : decode cX2_undo 23 = .ok (.sipush 294, 3) := dk_17 1 38 (dk_at dksX2_undo_1 0 rfl rfl)
theorem dX2_undo_26 : decode cX2_undo 26 = .ok (.if_icmp .ge 30, 3) := dk_162 0 30 (dk_at dksX2_undo_1 3 rfl rfl)
theorem dX2_undo_29 : decode cX2_undo 29 = .ok (.aload_n 0, 1) := dk_42 (dk_at dksX2_undo_1 6 rfl rfl)
theorem dX2_undo_30 : decode cX2_undo 30 = .ok (.getfield 9, 3) := dk_180 0 9 (dk_at dksX2_undo_1 7 rfl rfl)
theorem dX2_undo_33 : decode cX2_undo 33 = .ok (.iload_n 1, 1) := dk_27 (dk_at dksX2_undo_1 10 rfl rfl)
theorem dX2_undo_34 : decode cX2_undo 34 = .ok (.aload_n 0, 1) := dk_42 (dk_at dksX2_undo_1 11 rfl rfl)
theorem dX2_undo_35 : decode cX2_undo 35 = .ok (.getfield 22, 3) := dk_180 0 22 (dk_at dksX2_undo_1 12 rfl rfl)
theorem dX2_undo_38 : decode cX2_undo 38 = .ok (.sipush 294, 3) := dk_17 1 38 (dk_at dksX2_undo_1 15 rfl rfl)
theorem dX2_undo_41 : decode cX2_undo 41 = .ok (.aload_n 0, 1) := dk_42 (dk_at dksX2_undo_1 18 rfl rfl)
theorem dX2_undo_42 : decode cX2_undo 42 = .ok (.getfield 51, 3) := dk_180 0 51 (dk_at dksX2_undo_1 19 rfl rfl)
theorem dX2_undo_45 : decode cX2_undo 45 = .ok (.imul, 1) := dk_104 (dk_at dksX2_undo_1 22 rfl rfl)
theorem dX2_undo_46 : decode cX2_undo 46 = .ok (.iload_n 1, 1) := dk_27 (dk_at dksX2_undo_1 23 rfl rfl)
theorem dX2_undo_47 : decode cX2_undo 47 = .ok (.iadd, 1) := dk_96 (dk_at dksX2_undo_2 0 rfl rfl)
theorem dX2_undo_48 : decode cX2_undo 48 = .ok (.iaload, 1) := dk_46 (dk_at dksX2_undo_2 1 rfl rfl)
theorem dX2_undo_49 : decode cX2_undo 49 = .ok (.iastore, 1) := dk_79 (dk_at dksX2_undo_2 2 rfl rfl)
theorem dX2_undo_50 : decode cX2_undo 50 = .ok (.iinc 1 1, 3) := dk_132 1 1 (dk_at dksX2_undo_2 3 rfl rfl)
theorem dX2_undo_53 : decode cX2_undo 53 = .ok (.goto (-31), 3) := dk_167 255 225 (dk_at dksX2_undo_2 6 rfl rfl)
theorem dX2_undo_56 : decode cX2_undo 56 = .ok (.aload_n 0, 1) := dk_42 (dk_at dksX2_undo_2 9 rfl rfl)
theorem dX2_undo_57 : decode cX2_undo 57 = .ok (.getfield 51, 3) := dk_180 0 51 (dk_at dksX2_undo_2 10 rfl rfl)
theorem dX2_undo_60 : decode cX2_undo 60 = .ok (.ireturn, 1) := dk_172 (dk_at dksX2_undo_2 13 rfl rfl)
abbrev cX2_save : ByteArray := prog_14_method_75_code
def yX2_save : MethodName := ⟨RX2, "save", "()I"⟩
def dkwX2_save_1 : List UInt8 := [167, 255, 234, 42, 4, 181, 0, 241, 42, 182, 0, 66, 172]
abbrev dktX2_save_1 : List UInt8 := dkwX2_save_1 ++ []
def dkwX2_save_0 : List UInt8 := [3, 60, 27, 17, 1, 38, 162, 0, 21, 42, 180, 0, 19, 27, 42, 180, 0, 9, 27, 46, 79, 132, 1, 1]
abbrev dktX2_save_0 : List UInt8 := dkwX2_save_0 ++ dktX2_save_1
theorem dksX2_save_0 : cX2_save.data.toList.drop 0 = dktX2_save_0 := by decide +kernel
theorem dksX2_save_1 : cX2_save.data.toList.drop 24 = dktX2_save_1 := dk_seg dksX2_save_0 24 rfl rfl
theorem dX2_save_0 : decode cX2_save 0 = .ok (.iconst 0, 1) := dk_3 (dk_at dksX2_save_0 0 rfl rfl)
theorem dX2_save_1 : decode cX2_save 1 = .ok (.istore_n 1, 1) := dk_60 (dk_at dksX2_save_0 1 rfl rfl)
theorem dX2_save_2 : decode cX2_save 2 = .ok (.iload_n 1, 1) := dk_27 (dk_at dksX2_save_0 2 rfl rfl)
theorem dX2_save_3 : decode cX2_save 3 = .ok (.sipush 294, 3) := dk_17 1 38 (dk_at dksX2_save_0 3 rfl rfl)
theorem dX2_save_6 : decode cX2_save 6 = .ok (.if_icmp .ge 21, 3) := dk_162 0 21 (dk_at dksX2_save_0 6 rfl rfl)
theorem dX2_save_9 : decode cX2_save 9 = .ok (.aload_n 0, 1) := dk_42 (dk_at dksX2_save_0 9 rfl rfl)
theorem dX2_save_10 : decode cX2_save 10 = .ok (.getfield 19, 3) := dk_180 0 19 (dk_at dksX2_save_0 10 rfl rfl)
theorem dX2_save_13 : decode cX2_save 13 = .ok (.iload_n 1, 1) := dk_27 (dk_at dksX2_save_0 13 rfl rfl)
theorem dX2_save_14 : decode cX2_save 14 = .ok (.aload_n 0, 1) := dk_42 (dk_at dksX2_save_0 14 rfl rfl)
theorem dX2_save_15 : decode cX2_save 15 = .ok (.getfield 9, 3) := dk_180 0 9 (dk_at dksX2_save_0 15 rfl rfl)
theorem dX2_save_18 : decode cX2_save 18 = .ok (.iload_n 1, 1) := dk_27 (dk_at dksX2_save_0 18 rfl rfl)
theorem dX2_save_19 : decode cX2_save 19 = .ok (.iaload, 1) := dk_46 (dk_at dksX2_save_0 19 rfl rfl)
theorem dX2_save_20 : decode cX2_save 20 = .ok (.iastore, 1) := dk_79 (dk_at dksX2_save_0 20 rfl rfl)
theorem dX2_save_21 : decode cX2_save 21 = .ok (.iinc 1 1, 3) := dk_132 1 1 (dk_at dksX2_save_0 21 rfl rfl)
theorem dX2_save_24 : decode cX2_save 24 = .ok (.goto (-22), 3) := dk_167 255 234 (dk_at dksX2_save_1 0 rfl rfl)
theorem dX2_save_27 : decode cX2_save 27 = .ok (.aload_n 0, 1) := dk_42 (dk_at dksX2_save_1 3 rfl rfl)
theorem dX2_save_28 : decode cX2_save 28 = .ok (.iconst 1, 1) := dk_4 (dk_at dksX2_save_1 4 rfl rfl)
theorem dX2_save_29 : decode cX2_save 29 = .ok (.putfield 241, 3) := dk_181 0 241 (dk_at dksX2_save_1 5 rfl rfl)
theorem dX2_save_32 : decode cX2_save 32 = .ok (.aload_n 0, 1) := dk_42 (dk_at dksX2_save_1 8 rfl rfl)
theorem dX2_save_33 : decode cX2_save 33 = .ok (.invokevirtual 66, 3) := dk_182 0 66 (dk_at dksX2_save_1 9 rfl rfl)
theorem dX2_save_36 : decode cX2_save 36 = .ok (.ireturn, 1) := dk_172 (dk_at dksX2_save_1 12 rfl rfl)
abbrev cX2_restore : ByteArray := prog_14_method_76_code
def yX2_restore : MethodName := ⟨RX2, "restore", "()I"⟩
def dkwX2_restore_1 : List UInt8 := [42, 180, 0, 19, 27, 46, 79, 132, 1, 1, 167, 255, 234, 42, 3, 181, 0, 51, 42, 182, 0, 66, 172]
abbrev dktX2_restore_1 : List UInt8 := dkwX2_restore_1 ++ []
def dkwX2_restore_0 : List UInt8 := [42, 180, 0, 241, 154, 0, 6, 16, 252, 172, 3, 60, 27, 17, 1, 38, 162, 0, 21, 42, 180, 0, 9, 27]
abbrev dktX2_restore_0 : List UInt8 := dkwX2_restore_0 ++ dktX2_restore_1
theorem dksX2_restore_0 : cX2_restore.data.toList.drop 0 = dktX2_restore_0 := by decide +kernel
theorem dksX2_restore_1 : cX2_restore.data.toList.drop 24 = dktX2_restore_1 := dk_seg dksX2_restore_0 24 rfl rfl
theorem dX2_restore_0 : decode cX2_restore 0 = .ok (.aload_n 0, 1) := dk_42 (dk_at dksX2_restore_0 0 rfl rfl)
theorem dX2_restore_1 : decode cX2_restore 1 = .ok (.getfield 241, 3) := dk_180 0 241 (dk_at dksX2_restore_0 1 rfl rfl)
theorem dX2_restore_4 : decode cX2_restore 4 = .ok (.ifCond .ne 6, 3) := dk_154 0 6 (dk_at dksX2_restore_0 4 rfl rfl)
theorem dX2_restore_7 : decode cX2_restore 7 = .ok (.bipush (-4), 2) := dk_16 252 (dk_at dksX2_restore_0 7 rfl rfl)
theorem dX2_restore_9 : decode cX2_restore 9 = .ok (.ireturn, 1) := dk_172 (dk_at dksX2_restore_0 9 rfl rfl)
theorem dX2_restore_10 : decode cX2_restore 10 = .ok (.iconst 0, 1) := dk_3 (dk_at dksX2_restore_0 10 rfl rfl)
theorem dX2_restore_11 : decode cX2_restore 11 = .ok (.istore_n 1, 1) := dk_60 (dk_at dksX2_restore_0 11 rfl rfl)
theorem dX2_restore_12 : decode cX2_restore 12 = .ok (.iload_n 1, 1) := dk_27 (dk_at dksX2_restore_0 12 rfl rfl)
theorem dX2_restore_13 : decode cX2_restore 13 = .ok (.sipush 294, 3) := dk_17 1 38 (dk_at dksX2_restore_0 13 rfl rfl)
theorem dX2_restore_16 : decode cX2_restore 16 = .ok (.if_icmp .ge 21, 3) := dk_162 0 21 (dk_at dksX2_restore_0 16 rfl rfl)
theorem dX2_restore_19 : decode cX2_restore 19 = .ok (.aload_n 0, 1) := dk_42 (dk_at dksX2_restore_0 19 rfl rfl)
theorem dX2_restore_20 : decode cX2_restore 20 = .ok (.getfield 9, 3) := dk_180 0 9 (dk_at dksX2_restore_0 20 rfl rfl)
theorem dX2_restore_23 : decode cX2_restore 23 = .ok (.iload_n 1, 1) := dk_27 (dk_at dksX2_restore_0 23 rfl rfl)
theorem dX2_restore_24 : decode cX2_restore 24 = .ok (.aload_n 0, 1) := dk_42 (dk_at dksX2_restore_1 0 rfl rfl)
theorem dX2_restore_25 : decode cX2_restore 25 = .ok (.getfield 19, 3) := dk_180 0 19 (dk_at dksX2_restore_1 1 rfl rfl)
theorem dX2_restore_28 : decode cX2_restore 28 = .ok (.iload_n 1, 1) := dk_27 (dk_at dksX2_restore_1 4 rfl rfl)
theorem dX2_restore_29 : decode cX2_restore 29 = .ok (.iaload, 1) := dk_46 (dk_at dksX2_restore_1 5 rfl rfl)
theorem dX2_restore_30 : decode cX2_restore 30 = .ok (.iastore, 1) := dk_79 (dk_at dksX2_restore_1 6 rfl rfl)
theorem dX2_restore_31 : decode cX2_restore 31 = .ok (.iinc 1 1, 3) := dk_132 1 1 (dk_at dksX2_restore_1 7 rfl rfl)
theorem dX2_restore_34 : decode cX2_restore 34 = .ok (.goto (-22), 3) := dk_167 255 234 (dk_at dksX2_restore_1 10 rfl rfl)
theorem dX2_restore_37 : decode cX2_restore 37 = .ok (.aload_n 0, 1) := dk_42 (dk_at dksX2_restore_1 13 rfl rfl)
theorem dX2_restore_38 : decode cX2_restore 38 = .ok (.iconst 0, 1) := dk_3 (dk_at dksX2_restore_1 14 rfl rfl)
theorem dX2_restore_39 : decode cX2_restore 39 = .ok (.putfield 51, 3) := dk_181 0 51 (dk_at dksX2_restore_1 15 rfl rfl)
theorem dX2_restore_42 : decode cX2_restore 42 = .ok (.aload_n 0, 1) := dk_42 (dk_at dksX2_restore_1 18 rfl rfl)
theorem dX2_restore_43 : decode cX2_restore 43 = .ok (.invokevirtual 66, 3) := dk_182 0 66 (dk_at dksX2_restore_1 19 rfl rfl)
theorem dX2_restore_46 : decode cX2_restore 46 = .ok (.ireturn, 1) := dk_172 (dk_at dksX2_restore_1 22 rfl rfl)
theorem q79 : (Jvm.Cond.initialized "TulipLinesModel") ∈ lw_all := lw_g (lw_at lw_m1 11 rfl) rfl
theorem q510 : (Jvm.Cond.selects "TulipLinesModel" ({ cls := "java/lang/Object", name := "getClass", desc := "()Ljava/lang/Class;" } : Jvm.MethodName) ({ cls := "java/lang/Object", name := "getClass", desc := "()Ljava/lang/Class;" } : Jvm.MethodName)) ∈ lw_all := lw_g (lw_at lw_m2 202 rfl) rfl
theorem q1427 : (Jvm.Cond.instantiable "TulipLinesModel" (21 : Nat)) ∈ lw_all := lw_g (lw_at lw_m6 159 rfl) rfl
theorem q1429 : (Jvm.Cond.instanceMethod ({ cls := "TulipLinesModel", name := "<init>", desc := "()V" } : Jvm.MethodName)) ∈ lw_all := lw_g (lw_at lw_m6 161 rfl) rfl
theorem q1430 : (Jvm.Cond.code ({ cls := "TulipLinesModel", name := "<init>", desc := "()V" } : Jvm.MethodName) prog_14_method_1_code (2 : Nat) (Option.none : Option Jvm.ClassFile.FieldType)) ∈ lw_all := lw_g (lw_at lw_m6 162 rfl) rfl
theorem q1431 : (Jvm.Cond.methodLink "TulipLinesModel" (1 : Nat) ({ cls := "java/lang/Object", name := "<init>", desc := "()V" } : Jvm.MethodName)) ∈ lw_all := lw_g (lw_at lw_m6 163 rfl) rfl
theorem q1432 : (Jvm.Cond.fieldLink "TulipLinesModel" (9 : Nat) "TulipLinesModel" "m" "[I") ∈ lw_all := lw_g (lw_at lw_m6 164 rfl) rfl
theorem q1433 : (Jvm.Cond.fieldLink "TulipLinesModel" (13 : Nat) "TulipLinesModel" "aside" "[I") ∈ lw_all := lw_g (lw_at lw_m6 165 rfl) rfl
theorem q1434 : (Jvm.Cond.fieldLink "TulipLinesModel" (16 : Nat) "TulipLinesModel" "thought" "[I") ∈ lw_all := lw_g (lw_at lw_m6 166 rfl) rfl
theorem q1435 : (Jvm.Cond.fieldLink "TulipLinesModel" (19 : Nat) "TulipLinesModel" "saved" "[I") ∈ lw_all := lw_g (lw_at lw_m6 167 rfl) rfl
theorem q1436 : (Jvm.Cond.fieldLink "TulipLinesModel" (241 : Nat) "TulipLinesModel" "isSaved" "Z") ∈ lw_all := lw_g (lw_at lw_m6 168 rfl) rfl
theorem q1437 : (Jvm.Cond.fieldLink "TulipLinesModel" (22 : Nat) "TulipLinesModel" "past" "[I") ∈ lw_all := lw_g (lw_at lw_m6 169 rfl) rfl
theorem q1438 : (Jvm.Cond.fieldLink "TulipLinesModel" (51 : Nat) "TulipLinesModel" "changes" "I") ∈ lw_all := lw_g (lw_at lw_m6 170 rfl) rfl
theorem q1439 : (Jvm.Cond.fieldLink "TulipLinesModel" (45 : Nat) "TulipLinesModel" "why" "I") ∈ lw_all := lw_g (lw_at lw_m6 171 rfl) rfl
theorem q1440 : (Jvm.Cond.fieldLink "TulipLinesModel" (48 : Nat) "TulipLinesModel" "detail" "I") ∈ lw_all := lw_g (lw_at lw_m6 172 rfl) rfl
theorem q1441 : (Jvm.Cond.fieldLink "TulipLinesModel" (25 : Nat) "TulipLinesModel" "item" "I") ∈ lw_all := lw_g (lw_at lw_m6 173 rfl) rfl
theorem q1442 : (Jvm.Cond.fieldLink "TulipLinesModel" (29 : Nat) "TulipLinesModel" "text" "[I") ∈ lw_all := lw_g (lw_at lw_m6 174 rfl) rfl
theorem q1443 : (Jvm.Cond.fieldLink "TulipLinesModel" (188 : Nat) "TulipLinesModel" "textMany" "I") ∈ lw_all := lw_g (lw_at lw_m6 175 rfl) rfl
theorem q1444 : (Jvm.Cond.fieldLink "TulipLinesModel" (32 : Nat) "TulipLinesModel" "isMarked" "[Z") ∈ lw_all := lw_g (lw_at lw_m6 176 rfl) rfl
theorem q1445 : (Jvm.Cond.fieldLink "TulipLinesModel" (36 : Nat) "TulipLinesModel" "isFirst" "[Z") ∈ lw_all := lw_g (lw_at lw_m6 177 rfl) rfl
theorem q1446 : (Jvm.Cond.fieldLink "TulipLinesModel" (39 : Nat) "TulipLinesModel" "line" "[I") ∈ lw_all := lw_g (lw_at lw_m6 178 rfl) rfl
theorem q1447 : (Jvm.Cond.fieldLink "TulipLinesModel" (175 : Nat) "TulipLinesModel" "lineMany" "I") ∈ lw_all := lw_g (lw_at lw_m6 179 rfl) rfl
theorem q1448 : (Jvm.Cond.fieldLink "TulipLinesModel" (42 : Nat) "TulipLinesModel" "orders" "[I") ∈ lw_all := lw_g (lw_at lw_m6 180 rfl) rfl
theorem q1449 : (Jvm.Cond.fieldLink "TulipLinesModel" (211 : Nat) "TulipLinesModel" "orderMany" "I") ∈ lw_all := lw_g (lw_at lw_m6 181 rfl) rfl
theorem q1450 : (Jvm.Cond.fieldLink "TulipLinesModel" (191 : Nat) "TulipLinesModel" "place0" "I") ∈ lw_all := lw_g (lw_at lw_m6 182 rfl) rfl
theorem q1451 : (Jvm.Cond.fieldLink "TulipLinesModel" (194 : Nat) "TulipLinesModel" "size0" "I") ∈ lw_all := lw_g (lw_at lw_m6 183 rfl) rfl
theorem q1452 : (Jvm.Cond.fieldLink "TulipLinesModel" (197 : Nat) "TulipLinesModel" "isWrong" "Z") ∈ lw_all := lw_g (lw_at lw_m6 184 rfl) rfl
theorem q1453 : (Jvm.Cond.laysFinal "TulipLinesModel" "TulipLinesModel" "m" "[I") ∈ lw_all := lw_g (lw_at lw_m6 185 rfl) rfl
theorem q1454 : (Jvm.Cond.soleField "TulipLinesModel" "m") ∈ lw_all := lw_g (lw_at lw_m6 186 rfl) rfl
theorem q1455 : (Jvm.Cond.laysFinal "TulipLinesModel" "TulipLinesModel" "aside" "[I") ∈ lw_all := lw_g (lw_at lw_m6 187 rfl) rfl
theorem q1456 : (Jvm.Cond.soleField "TulipLinesModel" "aside") ∈ lw_all := lw_g (lw_at lw_m6 188 rfl) rfl
theorem q1457 : (Jvm.Cond.laysFinal "TulipLinesModel" "TulipLinesModel" "thought" "[I") ∈ lw_all := lw_g (lw_at lw_m6 189 rfl) rfl
theorem q1458 : (Jvm.Cond.soleField "TulipLinesModel" "thought") ∈ lw_all := lw_g (lw_at lw_m6 190 rfl) rfl
theorem q1459 : (Jvm.Cond.laysFinal "TulipLinesModel" "TulipLinesModel" "saved" "[I") ∈ lw_all := lw_g (lw_at lw_m6 191 rfl) rfl
theorem q1460 : (Jvm.Cond.soleField "TulipLinesModel" "saved") ∈ lw_all := lw_g (lw_at lw_m6 192 rfl) rfl
theorem q1461 : (Jvm.Cond.lays "TulipLinesModel" "TulipLinesModel" "isSaved" "Z") ∈ lw_all := lw_g (lw_at lw_m6 193 rfl) rfl
theorem q1462 : (Jvm.Cond.soleField "TulipLinesModel" "isSaved") ∈ lw_all := lw_g (lw_at lw_m6 194 rfl) rfl
theorem q1463 : (Jvm.Cond.laysFinal "TulipLinesModel" "TulipLinesModel" "past" "[I") ∈ lw_all := lw_g (lw_at lw_m6 195 rfl) rfl
theorem q1464 : (Jvm.Cond.soleField "TulipLinesModel" "past") ∈ lw_all := lw_g (lw_at lw_m6 196 rfl) rfl
theorem q1465 : (Jvm.Cond.lays "TulipLinesModel" "TulipLinesModel" "changes" "I") ∈ lw_all := lw_g (lw_at lw_m6 197 rfl) rfl
theorem q1466 : (Jvm.Cond.soleField "TulipLinesModel" "changes") ∈ lw_all := lw_g (lw_at lw_m6 198 rfl) rfl
theorem q1467 : (Jvm.Cond.lays "TulipLinesModel" "TulipLinesModel" "why" "I") ∈ lw_all := lw_g (lw_at lw_m6 199 rfl) rfl
theorem q1468 : (Jvm.Cond.soleField "TulipLinesModel" "why") ∈ lw_all := lw_g (lw_at lw_m6 200 rfl) rfl
theorem q1469 : (Jvm.Cond.lays "TulipLinesModel" "TulipLinesModel" "detail" "I") ∈ lw_all := lw_g (lw_at lw_m6 201 rfl) rfl
theorem q1470 : (Jvm.Cond.soleField "TulipLinesModel" "detail") ∈ lw_all := lw_g (lw_at lw_m6 202 rfl) rfl
theorem q1471 : (Jvm.Cond.lays "TulipLinesModel" "TulipLinesModel" "item" "I") ∈ lw_all := lw_g (lw_at lw_m6 203 rfl) rfl
theorem q1472 : (Jvm.Cond.soleField "TulipLinesModel" "item") ∈ lw_all := lw_g (lw_at lw_m6 204 rfl) rfl
theorem q1473 : (Jvm.Cond.laysFinal "TulipLinesModel" "TulipLinesModel" "text" "[I") ∈ lw_all := lw_g (lw_at lw_m6 205 rfl) rfl
theorem q1474 : (Jvm.Cond.soleField "TulipLinesModel" "text") ∈ lw_all := lw_g (lw_at lw_m6 206 rfl) rfl
theorem q1475 : (Jvm.Cond.lays "TulipLinesModel" "TulipLinesModel" "textMany" "I") ∈ lw_all := lw_g (lw_at lw_m6 207 rfl) rfl
theorem q1476 : (Jvm.Cond.soleField "TulipLinesModel" "textMany") ∈ lw_all := lw_g (lw_at lw_m6 208 rfl) rfl
theorem q1477 : (Jvm.Cond.laysFinal "TulipLinesModel" "TulipLinesModel" "isMarked" "[Z") ∈ lw_all := lw_g (lw_at lw_m6 209 rfl) rfl
theorem q1478 : (Jvm.Cond.soleField "TulipLinesModel" "isMarked") ∈ lw_all := lw_g (lw_at lw_m6 210 rfl) rfl
theorem q1479 : (Jvm.Cond.laysFinal "TulipLinesModel" "TulipLinesModel" "isFirst" "[Z") ∈ lw_all := lw_g (lw_at lw_m6 211 rfl) rfl
theorem q1480 : (Jvm.Cond.soleField "TulipLinesModel" "isFirst") ∈ lw_all := lw_g (lw_at lw_m6 212 rfl) rfl
theorem q1481 : (Jvm.Cond.laysFinal "TulipLinesModel" "TulipLinesModel" "line" "[I") ∈ lw_all := lw_g (lw_at lw_m6 213 rfl) rfl
theorem q1482 : (Jvm.Cond.soleField "TulipLinesModel" "line") ∈ lw_all := lw_g (lw_at lw_m6 214 rfl) rfl
theorem q1483 : (Jvm.Cond.lays "TulipLinesModel" "TulipLinesModel" "lineMany" "I") ∈ lw_all := lw_g (lw_at lw_m6 215 rfl) rfl
theorem q1484 : (Jvm.Cond.soleField "TulipLinesModel" "lineMany") ∈ lw_all := lw_g (lw_at lw_m6 216 rfl) rfl
theorem q1485 : (Jvm.Cond.laysFinal "TulipLinesModel" "TulipLinesModel" "orders" "[I") ∈ lw_all := lw_g (lw_at lw_m6 217 rfl) rfl
theorem q1486 : (Jvm.Cond.soleField "TulipLinesModel" "orders") ∈ lw_all := lw_g (lw_at lw_m6 218 rfl) rfl
theorem q1487 : (Jvm.Cond.lays "TulipLinesModel" "TulipLinesModel" "orderMany" "I") ∈ lw_all := lw_g (lw_at lw_m6 219 rfl) rfl
theorem q1488 : (Jvm.Cond.soleField "TulipLinesModel" "orderMany") ∈ lw_all := lw_g (lw_at lw_m6 220 rfl) rfl
theorem q1489 : (Jvm.Cond.lays "TulipLinesModel" "TulipLinesModel" "place0" "I") ∈ lw_all := lw_g (lw_at lw_m6 221 rfl) rfl
theorem q1490 : (Jvm.Cond.soleField "TulipLinesModel" "place0") ∈ lw_all := lw_g (lw_at lw_m6 222 rfl) rfl
theorem q1491 : (Jvm.Cond.lays "TulipLinesModel" "TulipLinesModel" "size0" "I") ∈ lw_all := lw_g (lw_at lw_m6 223 rfl) rfl
theorem q1492 : (Jvm.Cond.soleField "TulipLinesModel" "size0") ∈ lw_all := lw_g (lw_at lw_m6 224 rfl) rfl
theorem q1493 : (Jvm.Cond.lays "TulipLinesModel" "TulipLinesModel" "isWrong" "Z") ∈ lw_all := lw_g (lw_at lw_m6 225 rfl) rfl
theorem q1494 : (Jvm.Cond.soleField "TulipLinesModel" "isWrong") ∈ lw_all := lw_g (lw_at lw_m6 226 rfl) rfl
theorem q1495 : (Jvm.Cond.superclass "TulipLinesModel" "java/lang/Object") ∈ lw_all := lw_g (lw_at lw_m6 227 rfl) rfl
theorem q1497 : (Jvm.Cond.instanceMethod ({ cls := "TulipLinesModel", name := "plant", desc := "(I)I" } : Jvm.MethodName)) ∈ lw_all := lw_g (lw_at lw_m6 229 rfl) rfl
theorem q1498 : (Jvm.Cond.selects "TulipLinesModel" ({ cls := "TulipLinesModel", name := "plant", desc := "(I)I" } : Jvm.MethodName) ({ cls := "TulipLinesModel", name := "plant", desc := "(I)I" } : Jvm.MethodName)) ∈ lw_all := lw_g (lw_at lw_m6 230 rfl) rfl
theorem q1499 : (Jvm.Cond.code ({ cls := "TulipLinesModel", name := "plant", desc := "(I)I" } : Jvm.MethodName) prog_14_method_15_code (2 : Nat) (Option.some Jvm.ClassFile.FieldType.int)) ∈ lw_all := lw_g (lw_at lw_m6 231 rfl) rfl
theorem q1500 : (Jvm.Cond.methodLink "TulipLinesModel" (79 : Nat) ({ cls := "TulipLinesModel", name := "begins", desc := "()V" } : Jvm.MethodName)) ∈ lw_all := lw_g (lw_at lw_m6 232 rfl) rfl
theorem q1501 : (Jvm.Cond.privateMethod ({ cls := "TulipLinesModel", name := "begins", desc := "()V" } : Jvm.MethodName)) ∈ lw_tbl := lw_at lw_m6 233 rfl
theorem q1502 : (Jvm.Cond.instanceMethod ({ cls := "TulipLinesModel", name := "begins", desc := "()V" } : Jvm.MethodName)) ∈ lw_all := lw_g (lw_at lw_m6 234 rfl) rfl
theorem q1503 : (Jvm.Cond.code ({ cls := "TulipLinesModel", name := "begins", desc := "()V" } : Jvm.MethodName) prog_14_method_4_code (2 : Nat) (Option.none : Option Jvm.ClassFile.FieldType)) ∈ lw_all := lw_g (lw_at lw_m6 235 rfl) rfl
theorem q1504 : (Jvm.Cond.methodLink "TulipLinesModel" (82 : Nat) ({ cls := "TulipLinesModel", name := "plantIt", desc := "(I)I" } : Jvm.MethodName)) ∈ lw_all := lw_g (lw_at lw_m6 236 rfl) rfl
theorem q1505 : (Jvm.Cond.privateMethod ({ cls := "TulipLinesModel", name := "plantIt", desc := "(I)I" } : Jvm.MethodName)) ∈ lw_tbl := lw_at lw_m6 237 rfl
theorem q1506 : (Jvm.Cond.instanceMethod ({ cls := "TulipLinesModel", name := "plantIt", desc := "(I)I" } : Jvm.MethodName)) ∈ lw_all := lw_g (lw_at lw_m6 238 rfl) rfl
theorem q1507 : (Jvm.Cond.code ({ cls := "TulipLinesModel", name := "plantIt", desc := "(I)I" } : Jvm.MethodName) prog_14_method_14_code (3 : Nat) (Option.some Jvm.ClassFile.FieldType.int)) ∈ lw_all := lw_g (lw_at lw_m6 239 rfl) rfl
theorem q1508 : (Jvm.Cond.constantLong "TulipLinesModel" (70 : Nat) (255 : Int64)) ∈ lw_all := lw_g (lw_at lw_m7 0 rfl) rfl
theorem q1509 : (Jvm.Cond.methodLink "TulipLinesModel" (54 : Nat) ({ cls := "TulipLinesModel", name := "in", desc := "(JJJ)Z" } : Jvm.MethodName)) ∈ lw_all := lw_g (lw_at lw_m7 1 rfl) rfl
theorem q1510 : (Jvm.Cond.static ({ cls := "TulipLinesModel", name := "in", desc := "(JJJ)Z" } : Jvm.MethodName)) ∈ lw_all := lw_g (lw_at lw_m7 2 rfl) rfl
theorem q1511 : (Jvm.Cond.code ({ cls := "TulipLinesModel", name := "in", desc := "(JJJ)Z" } : Jvm.MethodName) prog_14_method_2_code (6 : Nat) (Option.some Jvm.ClassFile.FieldType.boolean)) ∈ lw_all := lw_g (lw_at lw_m7 3 rfl) rfl
theorem q1512 : (Jvm.Cond.methodLink "TulipLinesModel" (72 : Nat) ({ cls := "TulipLinesModel", name := "full", desc := "()I" } : Jvm.MethodName)) ∈ lw_all := lw_g (lw_at lw_m7 4 rfl) rfl
theorem q1513 : (Jvm.Cond.privateMethod ({ cls := "TulipLinesModel", name := "full", desc := "()I" } : Jvm.MethodName)) ∈ lw_tbl := lw_at lw_m7 5 rfl
theorem q1514 : (Jvm.Cond.instanceMethod ({ cls := "TulipLinesModel", name := "full", desc := "()I" } : Jvm.MethodName)) ∈ lw_all := lw_g (lw_at lw_m7 6 rfl) rfl
theorem q1515 : (Jvm.Cond.code ({ cls := "TulipLinesModel", name := "full", desc := "()I" } : Jvm.MethodName) prog_14_method_12_code (1 : Nat) (Option.some Jvm.ClassFile.FieldType.int)) ∈ lw_all := lw_g (lw_at lw_m7 7 rfl) rfl
theorem q1516 : (Jvm.Cond.methodLink "TulipLinesModel" (62 : Nat) ({ cls := "TulipLinesModel", name := "refuse", desc := "(II)I" } : Jvm.MethodName)) ∈ lw_all := lw_g (lw_at lw_m7 8 rfl) rfl
theorem q1517 : (Jvm.Cond.privateMethod ({ cls := "TulipLinesModel", name := "refuse", desc := "(II)I" } : Jvm.MethodName)) ∈ lw_tbl := lw_at lw_m7 9 rfl
theorem q1518 : (Jvm.Cond.instanceMethod ({ cls := "TulipLinesModel", name := "refuse", desc := "(II)I" } : Jvm.MethodName)) ∈ lw_all := lw_g (lw_at lw_m7 10 rfl) rfl
theorem q1519 : (Jvm.Cond.code ({ cls := "TulipLinesModel", name := "refuse", desc := "(II)I" } : Jvm.MethodName) prog_14_method_3_code (3 : Nat) (Option.some Jvm.ClassFile.FieldType.int)) ∈ lw_all := lw_g (lw_at lw_m7 11 rfl) rfl
theorem q1520 : (Jvm.Cond.methodLink "TulipLinesModel" (66 : Nat) ({ cls := "TulipLinesModel", name := "living", desc := "()I" } : Jvm.MethodName)) ∈ lw_all := lw_g (lw_at lw_m7 12 rfl) rfl
theorem q1521 : (Jvm.Cond.privateMethod ({ cls := "TulipLinesModel", name := "living", desc := "()I" } : Jvm.MethodName)) ∈ lw_tbl := lw_at lw_m7 13 rfl
theorem q1522 : (Jvm.Cond.instanceMethod ({ cls := "TulipLinesModel", name := "living", desc := "()I" } : Jvm.MethodName)) ∈ lw_all := lw_g (lw_at lw_m7 14 rfl) rfl
theorem q1523 : (Jvm.Cond.code ({ cls := "TulipLinesModel", name := "living", desc := "()I" } : Jvm.MethodName) prog_14_method_9_code (3 : Nat) (Option.some Jvm.ClassFile.FieldType.int)) ∈ lw_all := lw_g (lw_at lw_m7 15 rfl) rfl
theorem q1524 : (Jvm.Cond.methodLink "TulipLinesModel" (58 : Nat) ({ cls := "TulipLinesModel", name := "of", desc := "(I)I" } : Jvm.MethodName)) ∈ lw_all := lw_g (lw_at lw_m7 16 rfl) rfl
theorem q1525 : (Jvm.Cond.static ({ cls := "TulipLinesModel", name := "of", desc := "(I)I" } : Jvm.MethodName)) ∈ lw_all := lw_g (lw_at lw_m7 17 rfl) rfl
theorem q1526 : (Jvm.Cond.code ({ cls := "TulipLinesModel", name := "of", desc := "(I)I" } : Jvm.MethodName) prog_14_method_6_code (1 : Nat) (Option.some Jvm.ClassFile.FieldType.int)) ∈ lw_all := lw_g (lw_at lw_m7 18 rfl) rfl
theorem q1527 : (Jvm.Cond.methodLink "TulipLinesModel" (75 : Nat) ({ cls := "TulipLinesModel", name := "comes", desc := "(IIIII)I" } : Jvm.MethodName)) ∈ lw_all := lw_g (lw_at lw_m7 19 rfl) rfl
theorem q1528 : (Jvm.Cond.privateMethod ({ cls := "TulipLinesModel", name := "comes", desc := "(IIIII)I" } : Jvm.MethodName)) ∈ lw_tbl := lw_at lw_m7 20 rfl
theorem q1529 : (Jvm.Cond.instanceMethod ({ cls := "TulipLinesModel", name := "comes", desc := "(IIIII)I" } : Jvm.MethodName)) ∈ lw_all := lw_g (lw_at lw_m7 21 rfl) rfl
theorem q1530 : (Jvm.Cond.code ({ cls := "TulipLinesModel", name := "comes", desc := "(IIIII)I" } : Jvm.MethodName) prog_14_method_13_code (7 : Nat) (Option.some Jvm.ClassFile.FieldType.int)) ∈ lw_all := lw_g (lw_at lw_m7 22 rfl) rfl
theorem q1531 : (Jvm.Cond.methodLink "TulipLinesModel" (85 : Nat) ({ cls := "TulipLinesModel", name := "changed", desc := "(I)I" } : Jvm.MethodName)) ∈ lw_all := lw_g (lw_at lw_m7 23 rfl) rfl
theorem q1532 : (Jvm.Cond.privateMethod ({ cls := "TulipLinesModel", name := "changed", desc := "(I)I" } : Jvm.MethodName)) ∈ lw_tbl := lw_at lw_m7 24 rfl
theorem q1533 : (Jvm.Cond.instanceMethod ({ cls := "TulipLinesModel", name := "changed", desc := "(I)I" } : Jvm.MethodName)) ∈ lw_all := lw_g (lw_at lw_m7 25 rfl) rfl
theorem q1534 : (Jvm.Cond.code ({ cls := "TulipLinesModel", name := "changed", desc := "(I)I" } : Jvm.MethodName) prog_14_method_5_code (3 : Nat) (Option.some Jvm.ClassFile.FieldType.int)) ∈ lw_all := lw_g (lw_at lw_m7 26 rfl) rfl
theorem q1536 : (Jvm.Cond.instanceMethod ({ cls := "TulipLinesModel", name := "cross", desc := "(III)I" } : Jvm.MethodName)) ∈ lw_all := lw_g (lw_at lw_m7 28 rfl) rfl
theorem q1537 : (Jvm.Cond.selects "TulipLinesModel" ({ cls := "TulipLinesModel", name := "cross", desc := "(III)I" } : Jvm.MethodName) ({ cls := "TulipLinesModel", name := "cross", desc := "(III)I" } : Jvm.MethodName)) ∈ lw_all := lw_g (lw_at lw_m7 29 rfl) rfl
theorem q1538 : (Jvm.Cond.code ({ cls := "TulipLinesModel", name := "cross", desc := "(III)I" } : Jvm.MethodName) prog_14_method_20_code (4 : Nat) (Option.some Jvm.ClassFile.FieldType.int)) ∈ lw_all := lw_g (lw_at lw_m7 30 rfl) rfl
theorem q1539 : (Jvm.Cond.methodLink "TulipLinesModel" (112 : Nat) ({ cls := "TulipLinesModel", name := "crossIt", desc := "(III)I" } : Jvm.MethodName)) ∈ lw_all := lw_g (lw_at lw_m7 31 rfl) rfl
theorem q1540 : (Jvm.Cond.privateMethod ({ cls := "TulipLinesModel", name := "crossIt", desc := "(III)I" } : Jvm.MethodName)) ∈ lw_tbl := lw_at lw_m7 32 rfl
theorem q1541 : (Jvm.Cond.instanceMethod ({ cls := "TulipLinesModel", name := "crossIt", desc := "(III)I" } : Jvm.MethodName)) ∈ lw_all := lw_g (lw_at lw_m7 33 rfl) rfl
theorem q1542 : (Jvm.Cond.code ({ cls := "TulipLinesModel", name := "crossIt", desc := "(III)I" } : Jvm.MethodName) prog_14_method_19_code (5 : Nat) (Option.some Jvm.ClassFile.FieldType.int)) ∈ lw_all := lw_g (lw_at lw_m7 34 rfl) rfl
theorem q1543 : (Jvm.Cond.methodLink "TulipLinesModel" (100 : Nat) ({ cls := "TulipLinesModel", name := "isBulb", desc := "(I)Z" } : Jvm.MethodName)) ∈ lw_all := lw_g (lw_at lw_m7 35 rfl) rfl
theorem q1544 : (Jvm.Cond.privateMethod ({ cls := "TulipLinesModel", name := "isBulb", desc := "(I)Z" } : Jvm.MethodName)) ∈ lw_tbl := lw_at lw_m7 36 rfl
theorem q1545 : (Jvm.Cond.instanceMethod ({ cls := "TulipLinesModel", name := "isBulb", desc := "(I)Z" } : Jvm.MethodName)) ∈ lw_all := lw_g (lw_at lw_m7 37 rfl) rfl
theorem q1546 : (Jvm.Cond.code ({ cls := "TulipLinesModel", name := "isBulb", desc := "(I)Z" } : Jvm.MethodName) prog_14_method_7_code (2 : Nat) (Option.some Jvm.ClassFile.FieldType.boolean)) ∈ lw_all := lw_g (lw_at lw_m7 38 rfl) rfl
theorem q1547 : (Jvm.Cond.constantLong "TulipLinesModel" (104 : Nat) (8 : Int64)) ∈ lw_all := lw_g (lw_at lw_m7 39 rfl) rfl
theorem q1548 : (Jvm.Cond.methodLink "TulipLinesModel" (106 : Nat) ({ cls := "TulipLinesModel", name := "lives", desc := "(I)Z" } : Jvm.MethodName)) ∈ lw_all := lw_g (lw_at lw_m7 40 rfl) rfl
theorem q1549 : (Jvm.Cond.privateMethod ({ cls := "TulipLinesModel", name := "lives", desc := "(I)Z" } : Jvm.MethodName)) ∈ lw_tbl := lw_at lw_m7 41 rfl
theorem q1550 : (Jvm.Cond.instanceMethod ({ cls := "TulipLinesModel", name := "lives", desc := "(I)Z" } : Jvm.MethodName)) ∈ lw_all := lw_g (lw_at lw_m7 42 rfl) rfl
theorem q1551 : (Jvm.Cond.code ({ cls := "TulipLinesModel", name := "lives", desc := "(I)Z" } : Jvm.MethodName) prog_14_method_8_code (2 : Nat) (Option.some Jvm.ClassFile.FieldType.boolean)) ∈ lw_all := lw_g (lw_at lw_m7 43 rfl) rfl
theorem q1552 : (Jvm.Cond.methodLink "TulipLinesModel" (109 : Nat) ({ cls := "TulipLinesModel", name := "breeds", desc := "(III)I" } : Jvm.MethodName)) ∈ lw_all := lw_g (lw_at lw_m7 44 rfl) rfl
theorem q1553 : (Jvm.Cond.privateMethod ({ cls := "TulipLinesModel", name := "breeds", desc := "(III)I" } : Jvm.MethodName)) ∈ lw_tbl := lw_at lw_m7 45 rfl
theorem q1554 : (Jvm.Cond.instanceMethod ({ cls := "TulipLinesModel", name := "breeds", desc := "(III)I" } : Jvm.MethodName)) ∈ lw_all := lw_g (lw_at lw_m7 46 rfl) rfl
theorem q1555 : (Jvm.Cond.code ({ cls := "TulipLinesModel", name := "breeds", desc := "(III)I" } : Jvm.MethodName) prog_14_method_18_code (7 : Nat) (Option.some Jvm.ClassFile.FieldType.int)) ∈ lw_all := lw_g (lw_at lw_m7 47 rfl) rfl
theorem q1556 : (Jvm.Cond.methodLink "TulipLinesModel" (88 : Nat) ({ cls := "TulipLinesModel", name := "mixed", desc := "(III)I" } : Jvm.MethodName)) ∈ lw_all := lw_g (lw_at lw_m7 48 rfl) rfl
theorem q1557 : (Jvm.Cond.privateMethod ({ cls := "TulipLinesModel", name := "mixed", desc := "(III)I" } : Jvm.MethodName)) ∈ lw_tbl := lw_at lw_m7 49 rfl
theorem q1558 : (Jvm.Cond.instanceMethod ({ cls := "TulipLinesModel", name := "mixed", desc := "(III)I" } : Jvm.MethodName)) ∈ lw_all := lw_g (lw_at lw_m7 50 rfl) rfl
theorem q1559 : (Jvm.Cond.code ({ cls := "TulipLinesModel", name := "mixed", desc := "(III)I" } : Jvm.MethodName) prog_14_method_17_code (5 : Nat) (Option.some Jvm.ClassFile.FieldType.int)) ∈ lw_all := lw_g (lw_at lw_m7 51 rfl) rfl
theorem q1560 : (Jvm.Cond.methodLink "TulipLinesModel" (92 : Nat) ({ cls := "TulipLinesModel", name := "drawn", desc := "()I" } : Jvm.MethodName)) ∈ lw_all := lw_g (lw_at lw_m7 52 rfl) rfl
theorem q1561 : (Jvm.Cond.privateMethod ({ cls := "TulipLinesModel", name := "drawn", desc := "()I" } : Jvm.MethodName)) ∈ lw_tbl := lw_at lw_m7 53 rfl
theorem q1562 : (Jvm.Cond.instanceMethod ({ cls := "TulipLinesModel", name := "drawn", desc := "()I" } : Jvm.MethodName)) ∈ lw_all := lw_g (lw_at lw_m7 54 rfl) rfl
theorem q1563 : (Jvm.Cond.code ({ cls := "TulipLinesModel", name := "drawn", desc := "()I" } : Jvm.MethodName) prog_14_method_16_code (1 : Nat) (Option.some Jvm.ClassFile.FieldType.int)) ∈ lw_all := lw_g (lw_at lw_m7 55 rfl) rfl
theorem q1564 : (Jvm.Cond.methodLink "TulipLinesModel" (95 : Nat) ({ cls := "java/lang/Math", name := "max", desc := "(II)I" } : Jvm.MethodName)) ∈ lw_all := lw_g (lw_at lw_m7 56 rfl) rfl
theorem q1566 : (Jvm.Cond.instanceMethod ({ cls := "TulipLinesModel", name := "die", desc := "(I)I" } : Jvm.MethodName)) ∈ lw_all := lw_g (lw_at lw_m7 58 rfl) rfl
theorem q1567 : (Jvm.Cond.selects "TulipLinesModel" ({ cls := "TulipLinesModel", name := "die", desc := "(I)I" } : Jvm.MethodName) ({ cls := "TulipLinesModel", name := "die", desc := "(I)I" } : Jvm.MethodName)) ∈ lw_all := lw_g (lw_at lw_m7 59 rfl) rfl
theorem q1568 : (Jvm.Cond.code ({ cls := "TulipLinesModel", name := "die", desc := "(I)I" } : Jvm.MethodName) prog_14_method_22_code (2 : Nat) (Option.some Jvm.ClassFile.FieldType.int)) ∈ lw_all := lw_g (lw_at lw_m7 60 rfl) rfl
theorem q1569 : (Jvm.Cond.methodLink "TulipLinesModel" (115 : Nat) ({ cls := "TulipLinesModel", name := "dieIt", desc := "(I)I" } : Jvm.MethodName)) ∈ lw_all := lw_g (lw_at lw_m7 61 rfl) rfl
theorem q1570 : (Jvm.Cond.privateMethod ({ cls := "TulipLinesModel", name := "dieIt", desc := "(I)I" } : Jvm.MethodName)) ∈ lw_tbl := lw_at lw_m7 62 rfl
theorem q1571 : (Jvm.Cond.instanceMethod ({ cls := "TulipLinesModel", name := "dieIt", desc := "(I)I" } : Jvm.MethodName)) ∈ lw_all := lw_g (lw_at lw_m7 63 rfl) rfl
theorem q1572 : (Jvm.Cond.code ({ cls := "TulipLinesModel", name := "dieIt", desc := "(I)I" } : Jvm.MethodName) prog_14_method_21_code (2 : Nat) (Option.some Jvm.ClassFile.FieldType.int)) ∈ lw_all := lw_g (lw_at lw_m7 64 rfl) rfl
theorem q1574 : (Jvm.Cond.instanceMethod ({ cls := "TulipLinesModel", name := "want", desc := "(I)I" } : Jvm.MethodName)) ∈ lw_all := lw_g (lw_at lw_m7 66 rfl) rfl
theorem q1575 : (Jvm.Cond.selects "TulipLinesModel" ({ cls := "TulipLinesModel", name := "want", desc := "(I)I" } : Jvm.MethodName) ({ cls := "TulipLinesModel", name := "want", desc := "(I)I" } : Jvm.MethodName)) ∈ lw_all := lw_g (lw_at lw_m7 67 rfl) rfl
theorem q1576 : (Jvm.Cond.code ({ cls := "TulipLinesModel", name := "want", desc := "(I)I" } : Jvm.MethodName) prog_14_method_25_code (2 : Nat) (Option.some Jvm.ClassFile.FieldType.int)) ∈ lw_all := lw_g (lw_at lw_m7 68 rfl) rfl
theorem q1577 : (Jvm.Cond.methodLink "TulipLinesModel" (122 : Nat) ({ cls := "TulipLinesModel", name := "wantIt", desc := "(I)I" } : Jvm.MethodName)) ∈ lw_all := lw_g (lw_at lw_m7 69 rfl) rfl
theorem q1578 : (Jvm.Cond.privateMethod ({ cls := "TulipLinesModel", name := "wantIt", desc := "(I)I" } : Jvm.MethodName)) ∈ lw_tbl := lw_at lw_m7 70 rfl
theorem q1579 : (Jvm.Cond.instanceMethod ({ cls := "TulipLinesModel", name := "wantIt", desc := "(I)I" } : Jvm.MethodName)) ∈ lw_all := lw_g (lw_at lw_m7 71 rfl) rfl
theorem q1580 : (Jvm.Cond.code ({ cls := "TulipLinesModel", name := "wantIt", desc := "(I)I" } : Jvm.MethodName) prog_14_method_24_code (2 : Nat) (Option.some Jvm.ClassFile.FieldType.int)) ∈ lw_all := lw_g (lw_at lw_m7 72 rfl) rfl
theorem q1581 : (Jvm.Cond.methodLink "TulipLinesModel" (118 : Nat) ({ cls := "TulipLinesModel", name := "setIt", desc := "(IIII)I" } : Jvm.MethodName)) ∈ lw_all := lw_g (lw_at lw_m7 73 rfl) rfl
theorem q1582 : (Jvm.Cond.privateMethod ({ cls := "TulipLinesModel", name := "setIt", desc := "(IIII)I" } : Jvm.MethodName)) ∈ lw_tbl := lw_at lw_m7 74 rfl
theorem q1583 : (Jvm.Cond.instanceMethod ({ cls := "TulipLinesModel", name := "setIt", desc := "(IIII)I" } : Jvm.MethodName)) ∈ lw_all := lw_g (lw_at lw_m7 75 rfl) rfl
theorem q1584 : (Jvm.Cond.code ({ cls := "TulipLinesModel", name := "setIt", desc := "(IIII)I" } : Jvm.MethodName) prog_14_method_23_code (6 : Nat) (Option.some Jvm.ClassFile.FieldType.int)) ∈ lw_all := lw_g (lw_at lw_m7 76 rfl) rfl
theorem q1586 : (Jvm.Cond.instanceMethod ({ cls := "TulipLinesModel", name := "heavy", desc := "(II)I" } : Jvm.MethodName)) ∈ lw_all := lw_g (lw_at lw_m7 78 rfl) rfl
theorem q1587 : (Jvm.Cond.selects "TulipLinesModel" ({ cls := "TulipLinesModel", name := "heavy", desc := "(II)I" } : Jvm.MethodName) ({ cls := "TulipLinesModel", name := "heavy", desc := "(II)I" } : Jvm.MethodName)) ∈ lw_all := lw_g (lw_at lw_m7 79 rfl) rfl
theorem q1588 : (Jvm.Cond.code ({ cls := "TulipLinesModel", name := "heavy", desc := "(II)I" } : Jvm.MethodName) prog_14_method_27_code (3 : Nat) (Option.some Jvm.ClassFile.FieldType.int)) ∈ lw_all := lw_g (lw_at lw_m7 80 rfl) rfl
theorem q1589 : (Jvm.Cond.methodLink "TulipLinesModel" (127 : Nat) ({ cls := "TulipLinesModel", name := "heavyIt", desc := "(II)I" } : Jvm.MethodName)) ∈ lw_all := lw_g (lw_at lw_m7 81 rfl) rfl
theorem q1590 : (Jvm.Cond.privateMethod ({ cls := "TulipLinesModel", name := "heavyIt", desc := "(II)I" } : Jvm.MethodName)) ∈ lw_tbl := lw_at lw_m7 82 rfl
theorem q1591 : (Jvm.Cond.instanceMethod ({ cls := "TulipLinesModel", name := "heavyIt", desc := "(II)I" } : Jvm.MethodName)) ∈ lw_all := lw_g (lw_at lw_m7 83 rfl) rfl
theorem q1592 : (Jvm.Cond.code ({ cls := "TulipLinesModel", name := "heavyIt", desc := "(II)I" } : Jvm.MethodName) prog_14_method_26_code (3 : Nat) (Option.some Jvm.ClassFile.FieldType.int)) ∈ lw_all := lw_g (lw_at lw_m7 84 rfl) rfl
theorem q1593 : (Jvm.Cond.constantLong "TulipLinesModel" (125 : Nat) (7 : Int64)) ∈ lw_all := lw_g (lw_at lw_m7 85 rfl) rfl
theorem q1595 : (Jvm.Cond.instanceMethod ({ cls := "TulipLinesModel", name := "luck", desc := "(I)I" } : Jvm.MethodName)) ∈ lw_all := lw_g (lw_at lw_m7 87 rfl) rfl
theorem q1596 : (Jvm.Cond.selects "TulipLinesModel" ({ cls := "TulipLinesModel", name := "luck", desc := "(I)I" } : Jvm.MethodName) ({ cls := "TulipLinesModel", name := "luck", desc := "(I)I" } : Jvm.MethodName)) ∈ lw_all := lw_g (lw_at lw_m7 88 rfl) rfl
theorem q1597 : (Jvm.Cond.code ({ cls := "TulipLinesModel", name := "luck", desc := "(I)I" } : Jvm.MethodName) prog_14_method_29_code (2 : Nat) (Option.some Jvm.ClassFile.FieldType.int)) ∈ lw_all := lw_g (lw_at lw_m7 89 rfl) rfl
theorem q1598 : (Jvm.Cond.methodLink "TulipLinesModel" (130 : Nat) ({ cls := "TulipLinesModel", name := "luckIt", desc := "(I)I" } : Jvm.MethodName)) ∈ lw_all := lw_g (lw_at lw_m7 90 rfl) rfl
theorem q1599 : (Jvm.Cond.privateMethod ({ cls := "TulipLinesModel", name := "luckIt", desc := "(I)I" } : Jvm.MethodName)) ∈ lw_tbl := lw_at lw_m7 91 rfl
theorem q1600 : (Jvm.Cond.instanceMethod ({ cls := "TulipLinesModel", name := "luckIt", desc := "(I)I" } : Jvm.MethodName)) ∈ lw_all := lw_g (lw_at lw_m7 92 rfl) rfl
theorem q1601 : (Jvm.Cond.code ({ cls := "TulipLinesModel", name := "luckIt", desc := "(I)I" } : Jvm.MethodName) prog_14_method_28_code (2 : Nat) (Option.some Jvm.ClassFile.FieldType.int)) ∈ lw_all := lw_g (lw_at lw_m7 93 rfl) rfl
theorem q1603 : (Jvm.Cond.instanceMethod ({ cls := "TulipLinesModel", name := "seed", desc := "(I)I" } : Jvm.MethodName)) ∈ lw_all := lw_g (lw_at lw_m7 95 rfl) rfl
theorem q1604 : (Jvm.Cond.selects "TulipLinesModel" ({ cls := "TulipLinesModel", name := "seed", desc := "(I)I" } : Jvm.MethodName) ({ cls := "TulipLinesModel", name := "seed", desc := "(I)I" } : Jvm.MethodName)) ∈ lw_all := lw_g (lw_at lw_m7 96 rfl) rfl
theorem q1605 : (Jvm.Cond.code ({ cls := "TulipLinesModel", name := "seed", desc := "(I)I" } : Jvm.MethodName) prog_14_method_30_code (2 : Nat) (Option.some Jvm.ClassFile.FieldType.int)) ∈ lw_all := lw_g (lw_at lw_m7 97 rfl) rfl
theorem q1606 : (Jvm.Cond.constant "TulipLinesModel" (133 : Nat) (999999 : Int32)) ∈ lw_all := lw_g (lw_at lw_m7 98 rfl) rfl
theorem q1608 : (Jvm.Cond.instanceMethod ({ cls := "TulipLinesModel", name := "room", desc := "(I)I" } : Jvm.MethodName)) ∈ lw_all := lw_g (lw_at lw_m7 100 rfl) rfl
theorem q1609 : (Jvm.Cond.selects "TulipLinesModel" ({ cls := "TulipLinesModel", name := "room", desc := "(I)I" } : Jvm.MethodName) ({ cls := "TulipLinesModel", name := "room", desc := "(I)I" } : Jvm.MethodName)) ∈ lw_all := lw_g (lw_at lw_m7 101 rfl) rfl
theorem q1610 : (Jvm.Cond.code ({ cls := "TulipLinesModel", name := "room", desc := "(I)I" } : Jvm.MethodName) prog_14_method_32_code (2 : Nat) (Option.some Jvm.ClassFile.FieldType.int)) ∈ lw_all := lw_g (lw_at lw_m7 102 rfl) rfl
theorem q1611 : (Jvm.Cond.methodLink "TulipLinesModel" (134 : Nat) ({ cls := "TulipLinesModel", name := "roomIt", desc := "(I)I" } : Jvm.MethodName)) ∈ lw_all := lw_g (lw_at lw_m7 103 rfl) rfl
theorem q1612 : (Jvm.Cond.privateMethod ({ cls := "TulipLinesModel", name := "roomIt", desc := "(I)I" } : Jvm.MethodName)) ∈ lw_tbl := lw_at lw_m7 104 rfl
theorem q1613 : (Jvm.Cond.instanceMethod ({ cls := "TulipLinesModel", name := "roomIt", desc := "(I)I" } : Jvm.MethodName)) ∈ lw_all := lw_g (lw_at lw_m7 105 rfl) rfl
theorem q1614 : (Jvm.Cond.code ({ cls := "TulipLinesModel", name := "roomIt", desc := "(I)I" } : Jvm.MethodName) prog_14_method_31_code (2 : Nat) (Option.some Jvm.ClassFile.FieldType.int)) ∈ lw_all := lw_g (lw_at lw_m7 106 rfl) rfl
theorem q1616 : (Jvm.Cond.instanceMethod ({ cls := "TulipLinesModel", name := "years", desc := "(I)I" } : Jvm.MethodName)) ∈ lw_all := lw_g (lw_at lw_m7 108 rfl) rfl
theorem q1617 : (Jvm.Cond.selects "TulipLinesModel" ({ cls := "TulipLinesModel", name := "years", desc := "(I)I" } : Jvm.MethodName) ({ cls := "TulipLinesModel", name := "years", desc := "(I)I" } : Jvm.MethodName)) ∈ lw_all := lw_g (lw_at lw_m7 109 rfl) rfl
theorem q1618 : (Jvm.Cond.code ({ cls := "TulipLinesModel", name := "years", desc := "(I)I" } : Jvm.MethodName) prog_14_method_37_code (2 : Nat) (Option.some Jvm.ClassFile.FieldType.int)) ∈ lw_all := lw_g (lw_at lw_m7 110 rfl) rfl
theorem q1619 : (Jvm.Cond.methodLink "TulipLinesModel" (151 : Nat) ({ cls := "TulipLinesModel", name := "yearsIt", desc := "(I)I" } : Jvm.MethodName)) ∈ lw_all := lw_g (lw_at lw_m7 111 rfl) rfl
theorem q1620 : (Jvm.Cond.privateMethod ({ cls := "TulipLinesModel", name := "yearsIt", desc := "(I)I" } : Jvm.MethodName)) ∈ lw_tbl := lw_at lw_m7 112 rfl
theorem q1621 : (Jvm.Cond.instanceMethod ({ cls := "TulipLinesModel", name := "yearsIt", desc := "(I)I" } : Jvm.MethodName)) ∈ lw_all := lw_g (lw_at lw_m7 113 rfl) rfl
theorem q1622 : (Jvm.Cond.code ({ cls := "TulipLinesModel", name := "yearsIt", desc := "(I)I" } : Jvm.MethodName) prog_14_method_36_code (2 : Nat) (Option.some Jvm.ClassFile.FieldType.int)) ∈ lw_all := lw_g (lw_at lw_m7 114 rfl) rfl
theorem q1623 : (Jvm.Cond.constantLong "TulipLinesModel" (146 : Nat) (20 : Int64)) ∈ lw_all := lw_g (lw_at lw_m7 115 rfl) rfl
theorem q1624 : (Jvm.Cond.methodLink "TulipLinesModel" (148 : Nat) ({ cls := "TulipLinesModel", name := "yearsGo", desc := "(I)I" } : Jvm.MethodName)) ∈ lw_all := lw_g (lw_at lw_m7 116 rfl) rfl
theorem q1625 : (Jvm.Cond.privateMethod ({ cls := "TulipLinesModel", name := "yearsGo", desc := "(I)I" } : Jvm.MethodName)) ∈ lw_tbl := lw_at lw_m7 117 rfl
theorem q1626 : (Jvm.Cond.instanceMethod ({ cls := "TulipLinesModel", name := "yearsGo", desc := "(I)I" } : Jvm.MethodName)) ∈ lw_all := lw_g (lw_at lw_m7 118 rfl) rfl
theorem q1627 : (Jvm.Cond.code ({ cls := "TulipLinesModel", name := "yearsGo", desc := "(I)I" } : Jvm.MethodName) prog_14_method_35_code (4 : Nat) (Option.some Jvm.ClassFile.FieldType.int)) ∈ lw_all := lw_g (lw_at lw_m7 119 rfl) rfl
theorem q1628 : (Jvm.Cond.methodLink "TulipLinesModel" (143 : Nat) ({ cls := "TulipLinesModel", name := "yearGoes", desc := "()I" } : Jvm.MethodName)) ∈ lw_all := lw_g (lw_at lw_m7 120 rfl) rfl
theorem q1629 : (Jvm.Cond.privateMethod ({ cls := "TulipLinesModel", name := "yearGoes", desc := "()I" } : Jvm.MethodName)) ∈ lw_tbl := lw_at lw_m7 121 rfl
theorem q1630 : (Jvm.Cond.instanceMethod ({ cls := "TulipLinesModel", name := "yearGoes", desc := "()I" } : Jvm.MethodName)) ∈ lw_all := lw_g (lw_at lw_m7 122 rfl) rfl
theorem q1631 : (Jvm.Cond.code ({ cls := "TulipLinesModel", name := "yearGoes", desc := "()I" } : Jvm.MethodName) prog_14_method_34_code (6 : Nat) (Option.some Jvm.ClassFile.FieldType.int)) ∈ lw_all := lw_g (lw_at lw_m7 123 rfl) rfl
theorem q1632 : (Jvm.Cond.methodLink "TulipLinesModel" (140 : Nat) ({ cls := "TulipLinesModel", name := "at", desc := "(I)I" } : Jvm.MethodName)) ∈ lw_all := lw_g (lw_at lw_m7 124 rfl) rfl
theorem q1633 : (Jvm.Cond.privateMethod ({ cls := "TulipLinesModel", name := "at", desc := "(I)I" } : Jvm.MethodName)) ∈ lw_tbl := lw_at lw_m7 125 rfl
theorem q1634 : (Jvm.Cond.instanceMethod ({ cls := "TulipLinesModel", name := "at", desc := "(I)I" } : Jvm.MethodName)) ∈ lw_all := lw_g (lw_at lw_m7 126 rfl) rfl
theorem q1635 : (Jvm.Cond.code ({ cls := "TulipLinesModel", name := "at", desc := "(I)I" } : Jvm.MethodName) prog_14_method_33_code (6 : Nat) (Option.some Jvm.ClassFile.FieldType.int)) ∈ lw_all := lw_g (lw_at lw_m7 127 rfl) rfl
theorem q1636 : (Jvm.Cond.methodLink "TulipLinesModel" (137 : Nat) ({ cls := "TulipLinesModel", name := "worth", desc := "(I)I" } : Jvm.MethodName)) ∈ lw_all := lw_g (lw_at lw_m7 128 rfl) rfl
theorem q1637 : (Jvm.Cond.privateMethod ({ cls := "TulipLinesModel", name := "worth", desc := "(I)I" } : Jvm.MethodName)) ∈ lw_tbl := lw_at lw_m7 129 rfl
theorem q1638 : (Jvm.Cond.instanceMethod ({ cls := "TulipLinesModel", name := "worth", desc := "(I)I" } : Jvm.MethodName)) ∈ lw_all := lw_g (lw_at lw_m7 130 rfl) rfl
theorem q1639 : (Jvm.Cond.code ({ cls := "TulipLinesModel", name := "worth", desc := "(I)I" } : Jvm.MethodName) prog_14_method_10_code (4 : Nat) (Option.some Jvm.ClassFile.FieldType.int)) ∈ lw_all := lw_g (lw_at lw_m7 131 rfl) rfl
theorem q1641 : (Jvm.Cond.instanceMethod ({ cls := "TulipLinesModel", name := "bulbOf", desc := "(II)I" } : Jvm.MethodName)) ∈ lw_all := lw_g (lw_at lw_m7 133 rfl) rfl
theorem q1642 : (Jvm.Cond.selects "TulipLinesModel" ({ cls := "TulipLinesModel", name := "bulbOf", desc := "(II)I" } : Jvm.MethodName) ({ cls := "TulipLinesModel", name := "bulbOf", desc := "(II)I" } : Jvm.MethodName)) ∈ lw_all := lw_g (lw_at lw_m7 134 rfl) rfl
theorem q1643 : (Jvm.Cond.code ({ cls := "TulipLinesModel", name := "bulbOf", desc := "(II)I" } : Jvm.MethodName) prog_14_method_40_code (4 : Nat) (Option.some Jvm.ClassFile.FieldType.int)) ∈ lw_all := lw_g (lw_at lw_m7 135 rfl) rfl
theorem q1644 : (Jvm.Cond.methodLink "TulipLinesModel" (154 : Nat) ({ cls := "TulipLinesModel", name := "children", desc := "(I)I" } : Jvm.MethodName)) ∈ lw_all := lw_g (lw_at lw_m7 136 rfl) rfl
theorem q1645 : (Jvm.Cond.privateMethod ({ cls := "TulipLinesModel", name := "children", desc := "(I)I" } : Jvm.MethodName)) ∈ lw_tbl := lw_at lw_m7 137 rfl
theorem q1646 : (Jvm.Cond.instanceMethod ({ cls := "TulipLinesModel", name := "children", desc := "(I)I" } : Jvm.MethodName)) ∈ lw_all := lw_g (lw_at lw_m7 138 rfl) rfl
theorem q1647 : (Jvm.Cond.code ({ cls := "TulipLinesModel", name := "children", desc := "(I)I" } : Jvm.MethodName) prog_14_method_41_code (4 : Nat) (Option.some Jvm.ClassFile.FieldType.int)) ∈ lw_all := lw_g (lw_at lw_m7 139 rfl) rfl
theorem q1648 : (Jvm.Cond.methodLink "TulipLinesModel" (157 : Nat) ({ cls := "TulipLinesModel", name := "ones", desc := "(I)I" } : Jvm.MethodName)) ∈ lw_all := lw_g (lw_at lw_m7 140 rfl) rfl
theorem q1649 : (Jvm.Cond.static ({ cls := "TulipLinesModel", name := "ones", desc := "(I)I" } : Jvm.MethodName)) ∈ lw_all := lw_g (lw_at lw_m7 141 rfl) rfl
theorem q1650 : (Jvm.Cond.code ({ cls := "TulipLinesModel", name := "ones", desc := "(I)I" } : Jvm.MethodName) prog_14_method_11_code (3 : Nat) (Option.some Jvm.ClassFile.FieldType.int)) ∈ lw_all := lw_g (lw_at lw_m7 142 rfl) rfl
theorem q1652 : (Jvm.Cond.instanceMethod ({ cls := "TulipLinesModel", name := "areKin", desc := "(II)I" } : Jvm.MethodName)) ∈ lw_all := lw_g (lw_at lw_m7 144 rfl) rfl
theorem q1653 : (Jvm.Cond.selects "TulipLinesModel" ({ cls := "TulipLinesModel", name := "areKin", desc := "(II)I" } : Jvm.MethodName) ({ cls := "TulipLinesModel", name := "areKin", desc := "(II)I" } : Jvm.MethodName)) ∈ lw_all := lw_g (lw_at lw_m7 145 rfl) rfl
theorem q1654 : (Jvm.Cond.code ({ cls := "TulipLinesModel", name := "areKin", desc := "(II)I" } : Jvm.MethodName) prog_14_method_42_code (5 : Nat) (Option.some Jvm.ClassFile.FieldType.int)) ∈ lw_all := lw_g (lw_at lw_m7 146 rfl) rfl
theorem q1655 : (Jvm.Cond.methodLink "TulipLinesModel" (160 : Nat) ({ cls := "TulipLinesModel", name := "marksUp", desc := "(I)V" } : Jvm.MethodName)) ∈ lw_all := lw_g (lw_at lw_m7 147 rfl) rfl
theorem q1656 : (Jvm.Cond.privateMethod ({ cls := "TulipLinesModel", name := "marksUp", desc := "(I)V" } : Jvm.MethodName)) ∈ lw_tbl := lw_at lw_m7 148 rfl
theorem q1657 : (Jvm.Cond.instanceMethod ({ cls := "TulipLinesModel", name := "marksUp", desc := "(I)V" } : Jvm.MethodName)) ∈ lw_all := lw_g (lw_at lw_m7 149 rfl) rfl
theorem q1658 : (Jvm.Cond.code ({ cls := "TulipLinesModel", name := "marksUp", desc := "(I)V" } : Jvm.MethodName) prog_14_method_38_code (3 : Nat) (Option.none : Option Jvm.ClassFile.FieldType)) ∈ lw_all := lw_g (lw_at lw_m7 150 rfl) rfl
theorem q1660 : (Jvm.Cond.instanceMethod ({ cls := "TulipLinesModel", name := "areKinAgain", desc := "(II)I" } : Jvm.MethodName)) ∈ lw_all := lw_g (lw_at lw_m7 152 rfl) rfl
theorem q1661 : (Jvm.Cond.selects "TulipLinesModel" ({ cls := "TulipLinesModel", name := "areKinAgain", desc := "(II)I" } : Jvm.MethodName) ({ cls := "TulipLinesModel", name := "areKinAgain", desc := "(II)I" } : Jvm.MethodName)) ∈ lw_all := lw_g (lw_at lw_m7 153 rfl) rfl
theorem q1662 : (Jvm.Cond.code ({ cls := "TulipLinesModel", name := "areKinAgain", desc := "(II)I" } : Jvm.MethodName) prog_14_method_43_code (3 : Nat) (Option.some Jvm.ClassFile.FieldType.int)) ∈ lw_all := lw_g (lw_at lw_m7 154 rfl) rfl
theorem q1663 : (Jvm.Cond.methodLink "TulipLinesModel" (164 : Nat) ({ cls := "TulipLinesModel", name := "areKin", desc := "(II)I" } : Jvm.MethodName)) ∈ lw_all := lw_g (lw_at lw_m7 155 rfl) rfl
theorem q1665 : (Jvm.Cond.instanceMethod ({ cls := "TulipLinesModel", name := "forebears", desc := "(I)I" } : Jvm.MethodName)) ∈ lw_all := lw_g (lw_at lw_m7 157 rfl) rfl
theorem q1666 : (Jvm.Cond.selects "TulipLinesModel" ({ cls := "TulipLinesModel", name := "forebears", desc := "(I)I" } : Jvm.MethodName) ({ cls := "TulipLinesModel", name := "forebears", desc := "(I)I" } : Jvm.MethodName)) ∈ lw_all := lw_g (lw_at lw_m7 158 rfl) rfl
theorem q1667 : (Jvm.Cond.code ({ cls := "TulipLinesModel", name := "forebears", desc := "(I)I" } : Jvm.MethodName) prog_14_method_44_code (4 : Nat) (Option.some Jvm.ClassFile.FieldType.int)) ∈ lw_all := lw_g (lw_at lw_m7 159 rfl) rfl
theorem q1669 : (Jvm.Cond.instanceMethod ({ cls := "TulipLinesModel", name := "lineOf", desc := "(II)I" } : Jvm.MethodName)) ∈ lw_all := lw_g (lw_at lw_m7 161 rfl) rfl
theorem q1670 : (Jvm.Cond.selects "TulipLinesModel" ({ cls := "TulipLinesModel", name := "lineOf", desc := "(II)I" } : Jvm.MethodName) ({ cls := "TulipLinesModel", name := "lineOf", desc := "(II)I" } : Jvm.MethodName)) ∈ lw_all := lw_g (lw_at lw_m7 162 rfl) rfl
theorem q1671 : (Jvm.Cond.code ({ cls := "TulipLinesModel", name := "lineOf", desc := "(II)I" } : Jvm.MethodName) prog_14_method_45_code (8 : Nat) (Option.some Jvm.ClassFile.FieldType.int)) ∈ lw_all := lw_g (lw_at lw_m7 163 rfl) rfl
theorem q1672 : (Jvm.Cond.constantLong "TulipLinesModel" (167 : Nat) (2 : Int64)) ∈ lw_all := lw_g (lw_at lw_m7 164 rfl) rfl
theorem q1673 : (Jvm.Cond.methodLink "TulipLinesModel" (169 : Nat) ({ cls := "TulipLinesModel", name := "marksDown", desc := "(I)V" } : Jvm.MethodName)) ∈ lw_all := lw_g (lw_at lw_m7 165 rfl) rfl
theorem q1674 : (Jvm.Cond.privateMethod ({ cls := "TulipLinesModel", name := "marksDown", desc := "(I)V" } : Jvm.MethodName)) ∈ lw_tbl := lw_at lw_m7 166 rfl
theorem q1675 : (Jvm.Cond.instanceMethod ({ cls := "TulipLinesModel", name := "marksDown", desc := "(I)V" } : Jvm.MethodName)) ∈ lw_all := lw_g (lw_at lw_m7 167 rfl) rfl
theorem q1676 : (Jvm.Cond.code ({ cls := "TulipLinesModel", name := "marksDown", desc := "(I)V" } : Jvm.MethodName) prog_14_method_39_code (4 : Nat) (Option.none : Option Jvm.ClassFile.FieldType)) ∈ lw_all := lw_g (lw_at lw_m7 168 rfl) rfl
theorem q1678 : (Jvm.Cond.instanceMethod ({ cls := "TulipLinesModel", name := "apart", desc := "(II)I" } : Jvm.MethodName)) ∈ lw_all := lw_g (lw_at lw_m7 170 rfl) rfl
theorem q1679 : (Jvm.Cond.selects "TulipLinesModel" ({ cls := "TulipLinesModel", name := "apart", desc := "(II)I" } : Jvm.MethodName) ({ cls := "TulipLinesModel", name := "apart", desc := "(II)I" } : Jvm.MethodName)) ∈ lw_all := lw_g (lw_at lw_m7 171 rfl) rfl
theorem q1680 : (Jvm.Cond.code ({ cls := "TulipLinesModel", name := "apart", desc := "(II)I" } : Jvm.MethodName) prog_14_method_46_code (3 : Nat) (Option.some Jvm.ClassFile.FieldType.int)) ∈ lw_all := lw_g (lw_at lw_m7 172 rfl) rfl
theorem q1682 : (Jvm.Cond.instanceMethod ({ cls := "TulipLinesModel", name := "unlike", desc := "()I" } : Jvm.MethodName)) ∈ lw_all := lw_g (lw_at lw_m7 174 rfl) rfl
theorem q1683 : (Jvm.Cond.selects "TulipLinesModel" ({ cls := "TulipLinesModel", name := "unlike", desc := "()I" } : Jvm.MethodName) ({ cls := "TulipLinesModel", name := "unlike", desc := "()I" } : Jvm.MethodName)) ∈ lw_all := lw_g (lw_at lw_m7 175 rfl) rfl
theorem q1684 : (Jvm.Cond.code ({ cls := "TulipLinesModel", name := "unlike", desc := "()I" } : Jvm.MethodName) prog_14_method_47_code (5 : Nat) (Option.some Jvm.ClassFile.FieldType.int)) ∈ lw_all := lw_g (lw_at lw_m7 176 rfl) rfl
theorem q1686 : (Jvm.Cond.instanceMethod ({ cls := "TulipLinesModel", name := "ranked", desc := "(I)I" } : Jvm.MethodName)) ∈ lw_all := lw_g (lw_at lw_m7 178 rfl) rfl
theorem q1687 : (Jvm.Cond.selects "TulipLinesModel" ({ cls := "TulipLinesModel", name := "ranked", desc := "(I)I" } : Jvm.MethodName) ({ cls := "TulipLinesModel", name := "ranked", desc := "(I)I" } : Jvm.MethodName)) ∈ lw_all := lw_g (lw_at lw_m7 179 rfl) rfl
theorem q1688 : (Jvm.Cond.code ({ cls := "TulipLinesModel", name := "ranked", desc := "(I)I" } : Jvm.MethodName) prog_14_method_48_code (2 : Nat) (Option.some Jvm.ClassFile.FieldType.int)) ∈ lw_all := lw_g (lw_at lw_m7 180 rfl) rfl
theorem q1690 : (Jvm.Cond.instanceMethod ({ cls := "TulipLinesModel", name := "would", desc := "(IIII)I" } : Jvm.MethodName)) ∈ lw_all := lw_g (lw_at lw_m7 182 rfl) rfl
theorem q1691 : (Jvm.Cond.selects "TulipLinesModel" ({ cls := "TulipLinesModel", name := "would", desc := "(IIII)I" } : Jvm.MethodName) ({ cls := "TulipLinesModel", name := "would", desc := "(IIII)I" } : Jvm.MethodName)) ∈ lw_all := lw_g (lw_at lw_m7 183 rfl) rfl
theorem q1692 : (Jvm.Cond.code ({ cls := "TulipLinesModel", name := "would", desc := "(IIII)I" } : Jvm.MethodName) prog_14_method_49_code (6 : Nat) (Option.some Jvm.ClassFile.FieldType.int)) ∈ lw_all := lw_g (lw_at lw_m7 184 rfl) rfl
theorem q1694 : (Jvm.Cond.instanceMethod ({ cls := "TulipLinesModel", name := "bestPoint", desc := "(II)I" } : Jvm.MethodName)) ∈ lw_all := lw_g (lw_at lw_m7 186 rfl) rfl
theorem q1695 : (Jvm.Cond.selects "TulipLinesModel" ({ cls := "TulipLinesModel", name := "bestPoint", desc := "(II)I" } : Jvm.MethodName) ({ cls := "TulipLinesModel", name := "bestPoint", desc := "(II)I" } : Jvm.MethodName)) ∈ lw_all := lw_g (lw_at lw_m7 187 rfl) rfl
theorem q1696 : (Jvm.Cond.code ({ cls := "TulipLinesModel", name := "bestPoint", desc := "(II)I" } : Jvm.MethodName) prog_14_method_51_code (3 : Nat) (Option.some Jvm.ClassFile.FieldType.int)) ∈ lw_all := lw_g (lw_at lw_m7 188 rfl) rfl
theorem q1697 : (Jvm.Cond.methodLink "TulipLinesModel" (172 : Nat) ({ cls := "TulipLinesModel", name := "bestOf", desc := "(II)I" } : Jvm.MethodName)) ∈ lw_all := lw_g (lw_at lw_m7 189 rfl) rfl
theorem q1698 : (Jvm.Cond.privateMethod ({ cls := "TulipLinesModel", name := "bestOf", desc := "(II)I" } : Jvm.MethodName)) ∈ lw_tbl := lw_at lw_m7 190 rfl
theorem q1699 : (Jvm.Cond.instanceMethod ({ cls := "TulipLinesModel", name := "bestOf", desc := "(II)I" } : Jvm.MethodName)) ∈ lw_all := lw_g (lw_at lw_m7 191 rfl) rfl
theorem q1700 : (Jvm.Cond.code ({ cls := "TulipLinesModel", name := "bestOf", desc := "(II)I" } : Jvm.MethodName) prog_14_method_50_code (5 : Nat) (Option.some Jvm.ClassFile.FieldType.int)) ∈ lw_all := lw_g (lw_at lw_m7 192 rfl) rfl
theorem q1702 : (Jvm.Cond.instanceMethod ({ cls := "TulipLinesModel", name := "bestPair", desc := "(I)I" } : Jvm.MethodName)) ∈ lw_all := lw_g (lw_at lw_m7 194 rfl) rfl
theorem q1703 : (Jvm.Cond.selects "TulipLinesModel" ({ cls := "TulipLinesModel", name := "bestPair", desc := "(I)I" } : Jvm.MethodName) ({ cls := "TulipLinesModel", name := "bestPair", desc := "(I)I" } : Jvm.MethodName)) ∈ lw_all := lw_g (lw_at lw_m7 195 rfl) rfl
theorem q1704 : (Jvm.Cond.code ({ cls := "TulipLinesModel", name := "bestPair", desc := "(I)I" } : Jvm.MethodName) prog_14_method_52_code (7 : Nat) (Option.some Jvm.ClassFile.FieldType.int)) ∈ lw_all := lw_g (lw_at lw_m7 196 rfl) rfl
theorem q1706 : (Jvm.Cond.instanceMethod ({ cls := "TulipLinesModel", name := "worthIn", desc := "(I)I" } : Jvm.MethodName)) ∈ lw_all := lw_g (lw_at lw_m7 198 rfl) rfl
theorem q1707 : (Jvm.Cond.selects "TulipLinesModel" ({ cls := "TulipLinesModel", name := "worthIn", desc := "(I)I" } : Jvm.MethodName) ({ cls := "TulipLinesModel", name := "worthIn", desc := "(I)I" } : Jvm.MethodName)) ∈ lw_all := lw_g (lw_at lw_m7 199 rfl) rfl
theorem q1708 : (Jvm.Cond.code ({ cls := "TulipLinesModel", name := "worthIn", desc := "(I)I" } : Jvm.MethodName) prog_14_method_53_code (5 : Nat) (Option.some Jvm.ClassFile.FieldType.int)) ∈ lw_all := lw_g (lw_at lw_m7 200 rfl) rfl
theorem q1710 : (Jvm.Cond.instanceMethod ({ cls := "TulipLinesModel", name := "describe", desc := "(I)I" } : Jvm.MethodName)) ∈ lw_all := lw_g (lw_at lw_m7 202 rfl) rfl
theorem q1711 : (Jvm.Cond.selects "TulipLinesModel" ({ cls := "TulipLinesModel", name := "describe", desc := "(I)I" } : Jvm.MethodName) ({ cls := "TulipLinesModel", name := "describe", desc := "(I)I" } : Jvm.MethodName)) ∈ lw_all := lw_g (lw_at lw_m7 203 rfl) rfl
theorem q1712 : (Jvm.Cond.code ({ cls := "TulipLinesModel", name := "describe", desc := "(I)I" } : Jvm.MethodName) prog_14_method_56_code (4 : Nat) (Option.some Jvm.ClassFile.FieldType.int)) ∈ lw_all := lw_g (lw_at lw_m7 204 rfl) rfl
theorem q1713 : (Jvm.Cond.methodLink "TulipLinesModel" (181 : Nat) ({ cls := "TulipLinesModel", name := "writesNumber", desc := "(I)V" } : Jvm.MethodName)) ∈ lw_all := lw_g (lw_at lw_m7 205 rfl) rfl
theorem q1714 : (Jvm.Cond.privateMethod ({ cls := "TulipLinesModel", name := "writesNumber", desc := "(I)V" } : Jvm.MethodName)) ∈ lw_tbl := lw_at lw_m7 206 rfl
theorem q1715 : (Jvm.Cond.instanceMethod ({ cls := "TulipLinesModel", name := "writesNumber", desc := "(I)V" } : Jvm.MethodName)) ∈ lw_all := lw_g (lw_at lw_m7 207 rfl) rfl
theorem q1716 : (Jvm.Cond.code ({ cls := "TulipLinesModel", name := "writesNumber", desc := "(I)V" } : Jvm.MethodName) prog_14_method_55_code (4 : Nat) (Option.none : Option Jvm.ClassFile.FieldType)) ∈ lw_all := lw_g (lw_at lw_m7 208 rfl) rfl
theorem q1717 : (Jvm.Cond.methodLink "TulipLinesModel" (178 : Nat) ({ cls := "TulipLinesModel", name := "sign0", desc := "(I)V" } : Jvm.MethodName)) ∈ lw_all := lw_g (lw_at lw_m7 209 rfl) rfl
theorem q1718 : (Jvm.Cond.privateMethod ({ cls := "TulipLinesModel", name := "sign0", desc := "(I)V" } : Jvm.MethodName)) ∈ lw_tbl := lw_at lw_m7 210 rfl
theorem q1719 : (Jvm.Cond.instanceMethod ({ cls := "TulipLinesModel", name := "sign0", desc := "(I)V" } : Jvm.MethodName)) ∈ lw_all := lw_g (lw_at lw_m7 211 rfl) rfl
theorem q1720 : (Jvm.Cond.code ({ cls := "TulipLinesModel", name := "sign0", desc := "(I)V" } : Jvm.MethodName) prog_14_method_54_code (2 : Nat) (Option.none : Option Jvm.ClassFile.FieldType)) ∈ lw_all := lw_g (lw_at lw_m7 212 rfl) rfl
theorem q1722 : (Jvm.Cond.instanceMethod ({ cls := "TulipLinesModel", name := "tell", desc := "()I" } : Jvm.MethodName)) ∈ lw_all := lw_g (lw_at lw_m7 214 rfl) rfl
theorem q1723 : (Jvm.Cond.selects "TulipLinesModel" ({ cls := "TulipLinesModel", name := "tell", desc := "()I" } : Jvm.MethodName) ({ cls := "TulipLinesModel", name := "tell", desc := "()I" } : Jvm.MethodName)) ∈ lw_all := lw_g (lw_at lw_m7 215 rfl) rfl
theorem q1724 : (Jvm.Cond.code ({ cls := "TulipLinesModel", name := "tell", desc := "()I" } : Jvm.MethodName) prog_14_method_57_code (3 : Nat) (Option.some Jvm.ClassFile.FieldType.int)) ∈ lw_all := lw_g (lw_at lw_m7 216 rfl) rfl
theorem q1726 : (Jvm.Cond.instanceMethod ({ cls := "TulipLinesModel", name := "sign", desc := "(I)I" } : Jvm.MethodName)) ∈ lw_all := lw_g (lw_at lw_m7 218 rfl) rfl
theorem q1727 : (Jvm.Cond.selects "TulipLinesModel" ({ cls := "TulipLinesModel", name := "sign", desc := "(I)I" } : Jvm.MethodName) ({ cls := "TulipLinesModel", name := "sign", desc := "(I)I" } : Jvm.MethodName)) ∈ lw_all := lw_g (lw_at lw_m7 219 rfl) rfl
theorem q1728 : (Jvm.Cond.code ({ cls := "TulipLinesModel", name := "sign", desc := "(I)I" } : Jvm.MethodName) prog_14_method_58_code (2 : Nat) (Option.some Jvm.ClassFile.FieldType.int)) ∈ lw_all := lw_g (lw_at lw_m7 220 rfl) rfl
theorem q1730 : (Jvm.Cond.instanceMethod ({ cls := "TulipLinesModel", name := "append", desc := "(I)I" } : Jvm.MethodName)) ∈ lw_all := lw_g (lw_at lw_m7 222 rfl) rfl
theorem q1731 : (Jvm.Cond.selects "TulipLinesModel" ({ cls := "TulipLinesModel", name := "append", desc := "(I)I" } : Jvm.MethodName) ({ cls := "TulipLinesModel", name := "append", desc := "(I)I" } : Jvm.MethodName)) ∈ lw_all := lw_g (lw_at lw_m7 223 rfl) rfl
theorem q1732 : (Jvm.Cond.code ({ cls := "TulipLinesModel", name := "append", desc := "(I)I" } : Jvm.MethodName) prog_14_method_59_code (2 : Nat) (Option.some Jvm.ClassFile.FieldType.int)) ∈ lw_all := lw_g (lw_at lw_m7 224 rfl) rfl
theorem q1733 : (Jvm.Cond.constantLong "TulipLinesModel" (184 : Nat) (32 : Int64)) ∈ lw_all := lw_g (lw_at lw_m7 225 rfl) rfl
theorem q1734 : (Jvm.Cond.constantLong "TulipLinesModel" (186 : Nat) (126 : Int64)) ∈ lw_all := lw_g (lw_at lw_m7 226 rfl) rfl
theorem q1736 : (Jvm.Cond.instanceMethod ({ cls := "TulipLinesModel", name := "read", desc := "()I" } : Jvm.MethodName)) ∈ lw_all := lw_g (lw_at lw_m7 228 rfl) rfl
theorem q1737 : (Jvm.Cond.selects "TulipLinesModel" ({ cls := "TulipLinesModel", name := "read", desc := "()I" } : Jvm.MethodName) ({ cls := "TulipLinesModel", name := "read", desc := "()I" } : Jvm.MethodName)) ∈ lw_all := lw_g (lw_at lw_m7 229 rfl) rfl
theorem q1738 : (Jvm.Cond.code ({ cls := "TulipLinesModel", name := "read", desc := "()I" } : Jvm.MethodName) prog_14_method_66_code (5 : Nat) (Option.some Jvm.ClassFile.FieldType.int)) ∈ lw_all := lw_g (lw_at lw_m7 230 rfl) rfl
theorem q1739 : (Jvm.Cond.methodLink "TulipLinesModel" (220 : Nat) ({ cls := "TulipLinesModel", name := "readOrder", desc := "()V" } : Jvm.MethodName)) ∈ lw_all := lw_g (lw_at lw_m7 231 rfl) rfl
theorem q1740 : (Jvm.Cond.privateMethod ({ cls := "TulipLinesModel", name := "readOrder", desc := "()V" } : Jvm.MethodName)) ∈ lw_tbl := lw_at lw_m7 232 rfl
theorem q1741 : (Jvm.Cond.instanceMethod ({ cls := "TulipLinesModel", name := "readOrder", desc := "()V" } : Jvm.MethodName)) ∈ lw_all := lw_g (lw_at lw_m7 233 rfl) rfl
theorem q1742 : (Jvm.Cond.code ({ cls := "TulipLinesModel", name := "readOrder", desc := "()V" } : Jvm.MethodName) prog_14_method_64_code (3 : Nat) (Option.none : Option Jvm.ClassFile.FieldType)) ∈ lw_all := lw_g (lw_at lw_m7 234 rfl) rfl
theorem q1743 : (Jvm.Cond.methodLink "TulipLinesModel" (201 : Nat) ({ cls := "TulipLinesModel", name := "here", desc := "()I" } : Jvm.MethodName)) ∈ lw_all := lw_g (lw_at lw_m7 235 rfl) rfl
theorem q1744 : (Jvm.Cond.privateMethod ({ cls := "TulipLinesModel", name := "here", desc := "()I" } : Jvm.MethodName)) ∈ lw_tbl := lw_at lw_m7 236 rfl
theorem q1745 : (Jvm.Cond.instanceMethod ({ cls := "TulipLinesModel", name := "here", desc := "()I" } : Jvm.MethodName)) ∈ lw_all := lw_g (lw_at lw_m7 237 rfl) rfl
theorem q1746 : (Jvm.Cond.code ({ cls := "TulipLinesModel", name := "here", desc := "()I" } : Jvm.MethodName) prog_14_method_60_code (1 : Nat) (Option.some Jvm.ClassFile.FieldType.int)) ∈ lw_all := lw_g (lw_at lw_m7 238 rfl) rfl
theorem q1747 : (Jvm.Cond.methodLink "TulipLinesModel" (214 : Nat) ({ cls := "TulipLinesModel", name := "number", desc := "(I)I" } : Jvm.MethodName)) ∈ lw_all := lw_g (lw_at lw_m7 239 rfl) rfl
theorem q1748 : (Jvm.Cond.privateMethod ({ cls := "TulipLinesModel", name := "number", desc := "(I)I" } : Jvm.MethodName)) ∈ lw_tbl := lw_at lw_m8 0 rfl
theorem q1749 : (Jvm.Cond.instanceMethod ({ cls := "TulipLinesModel", name := "number", desc := "(I)I" } : Jvm.MethodName)) ∈ lw_all := lw_g (lw_at lw_m8 1 rfl) rfl
theorem q1750 : (Jvm.Cond.code ({ cls := "TulipLinesModel", name := "number", desc := "(I)I" } : Jvm.MethodName) prog_14_method_63_code (4 : Nat) (Option.some Jvm.ClassFile.FieldType.int)) ∈ lw_all := lw_g (lw_at lw_m8 2 rfl) rfl
theorem q1751 : (Jvm.Cond.methodLink "TulipLinesModel" (208 : Nat) ({ cls := "TulipLinesModel", name := "digit", desc := "()I" } : Jvm.MethodName)) ∈ lw_all := lw_g (lw_at lw_m8 3 rfl) rfl
theorem q1752 : (Jvm.Cond.privateMethod ({ cls := "TulipLinesModel", name := "digit", desc := "()I" } : Jvm.MethodName)) ∈ lw_tbl := lw_at lw_m8 4 rfl
theorem q1753 : (Jvm.Cond.instanceMethod ({ cls := "TulipLinesModel", name := "digit", desc := "()I" } : Jvm.MethodName)) ∈ lw_all := lw_g (lw_at lw_m8 5 rfl) rfl
theorem q1754 : (Jvm.Cond.code ({ cls := "TulipLinesModel", name := "digit", desc := "()I" } : Jvm.MethodName) prog_14_method_62_code (2 : Nat) (Option.some Jvm.ClassFile.FieldType.int)) ∈ lw_all := lw_g (lw_at lw_m8 6 rfl) rfl
theorem q1755 : (Jvm.Cond.constantLong "TulipLinesModel" (204 : Nat) (48 : Int64)) ∈ lw_all := lw_g (lw_at lw_m8 7 rfl) rfl
theorem q1756 : (Jvm.Cond.constantLong "TulipLinesModel" (206 : Nat) (57 : Int64)) ∈ lw_all := lw_g (lw_at lw_m8 8 rfl) rfl
theorem q1757 : (Jvm.Cond.methodLink "TulipLinesModel" (217 : Nat) ({ cls := "TulipLinesModel", name := "expects", desc := "(I)V" } : Jvm.MethodName)) ∈ lw_all := lw_g (lw_at lw_m8 9 rfl) rfl
theorem q1758 : (Jvm.Cond.privateMethod ({ cls := "TulipLinesModel", name := "expects", desc := "(I)V" } : Jvm.MethodName)) ∈ lw_tbl := lw_at lw_m8 10 rfl
theorem q1759 : (Jvm.Cond.instanceMethod ({ cls := "TulipLinesModel", name := "expects", desc := "(I)V" } : Jvm.MethodName)) ∈ lw_all := lw_g (lw_at lw_m8 11 rfl) rfl
theorem q1760 : (Jvm.Cond.code ({ cls := "TulipLinesModel", name := "expects", desc := "(I)V" } : Jvm.MethodName) prog_14_method_61_code (2 : Nat) (Option.none : Option Jvm.ClassFile.FieldType)) ∈ lw_all := lw_g (lw_at lw_m8 12 rfl) rfl
theorem q1761 : (Jvm.Cond.methodLink "TulipLinesModel" (223 : Nat) ({ cls := "TulipLinesModel", name := "does", desc := "(I)I" } : Jvm.MethodName)) ∈ lw_all := lw_g (lw_at lw_m8 13 rfl) rfl
theorem q1762 : (Jvm.Cond.privateMethod ({ cls := "TulipLinesModel", name := "does", desc := "(I)I" } : Jvm.MethodName)) ∈ lw_tbl := lw_at lw_m8 14 rfl
theorem q1763 : (Jvm.Cond.instanceMethod ({ cls := "TulipLinesModel", name := "does", desc := "(I)I" } : Jvm.MethodName)) ∈ lw_all := lw_g (lw_at lw_m8 15 rfl) rfl
theorem q1764 : (Jvm.Cond.code ({ cls := "TulipLinesModel", name := "does", desc := "(I)I" } : Jvm.MethodName) prog_14_method_65_code (4 : Nat) (Option.some Jvm.ClassFile.FieldType.int)) ∈ lw_all := lw_g (lw_at lw_m8 16 rfl) rfl
theorem q1766 : (Jvm.Cond.instanceMethod ({ cls := "TulipLinesModel", name := "refusal", desc := "(I)I" } : Jvm.MethodName)) ∈ lw_all := lw_g (lw_at lw_m8 18 rfl) rfl
theorem q1767 : (Jvm.Cond.selects "TulipLinesModel" ({ cls := "TulipLinesModel", name := "refusal", desc := "(I)I" } : Jvm.MethodName) ({ cls := "TulipLinesModel", name := "refusal", desc := "(I)I" } : Jvm.MethodName)) ∈ lw_all := lw_g (lw_at lw_m8 19 rfl) rfl
theorem q1768 : (Jvm.Cond.code ({ cls := "TulipLinesModel", name := "refusal", desc := "(I)I" } : Jvm.MethodName) prog_14_method_67_code (2 : Nat) (Option.some Jvm.ClassFile.FieldType.int)) ∈ lw_all := lw_g (lw_at lw_m8 20 rfl) rfl
theorem q1770 : (Jvm.Cond.instanceMethod ({ cls := "TulipLinesModel", name := "account", desc := "(I)I" } : Jvm.MethodName)) ∈ lw_all := lw_g (lw_at lw_m8 22 rfl) rfl
theorem q1771 : (Jvm.Cond.selects "TulipLinesModel" ({ cls := "TulipLinesModel", name := "account", desc := "(I)I" } : Jvm.MethodName) ({ cls := "TulipLinesModel", name := "account", desc := "(I)I" } : Jvm.MethodName)) ∈ lw_all := lw_g (lw_at lw_m8 23 rfl) rfl
theorem q1772 : (Jvm.Cond.code ({ cls := "TulipLinesModel", name := "account", desc := "(I)I" } : Jvm.MethodName) prog_14_method_71_code (2 : Nat) (Option.some Jvm.ClassFile.FieldType.int)) ∈ lw_all := lw_g (lw_at lw_m8 24 rfl) rfl
theorem q1773 : (Jvm.Cond.methodLink "TulipLinesModel" (226 : Nat) ({ cls := "TulipLinesModel", name := "sum", desc := "(I)I" } : Jvm.MethodName)) ∈ lw_all := lw_g (lw_at lw_m8 25 rfl) rfl
theorem q1774 : (Jvm.Cond.privateMethod ({ cls := "TulipLinesModel", name := "sum", desc := "(I)I" } : Jvm.MethodName)) ∈ lw_tbl := lw_at lw_m8 26 rfl
theorem q1775 : (Jvm.Cond.instanceMethod ({ cls := "TulipLinesModel", name := "sum", desc := "(I)I" } : Jvm.MethodName)) ∈ lw_all := lw_g (lw_at lw_m8 27 rfl) rfl
theorem q1776 : (Jvm.Cond.code ({ cls := "TulipLinesModel", name := "sum", desc := "(I)I" } : Jvm.MethodName) prog_14_method_68_code (4 : Nat) (Option.some Jvm.ClassFile.FieldType.int)) ∈ lw_all := lw_g (lw_at lw_m8 28 rfl) rfl
theorem q1777 : (Jvm.Cond.methodLink "TulipLinesModel" (229 : Nat) ({ cls := "TulipLinesModel", name := "weights", desc := "()I" } : Jvm.MethodName)) ∈ lw_all := lw_g (lw_at lw_m8 29 rfl) rfl
theorem q1778 : (Jvm.Cond.privateMethod ({ cls := "TulipLinesModel", name := "weights", desc := "()I" } : Jvm.MethodName)) ∈ lw_tbl := lw_at lw_m8 30 rfl
theorem q1779 : (Jvm.Cond.instanceMethod ({ cls := "TulipLinesModel", name := "weights", desc := "()I" } : Jvm.MethodName)) ∈ lw_all := lw_g (lw_at lw_m8 31 rfl) rfl
theorem q1780 : (Jvm.Cond.code ({ cls := "TulipLinesModel", name := "weights", desc := "()I" } : Jvm.MethodName) prog_14_method_69_code (3 : Nat) (Option.some Jvm.ClassFile.FieldType.int)) ∈ lw_all := lw_g (lw_at lw_m8 32 rfl) rfl
theorem q1781 : (Jvm.Cond.methodLink "TulipLinesModel" (232 : Nat) ({ cls := "TulipLinesModel", name := "oldest", desc := "()I" } : Jvm.MethodName)) ∈ lw_all := lw_g (lw_at lw_m8 33 rfl) rfl
theorem q1782 : (Jvm.Cond.privateMethod ({ cls := "TulipLinesModel", name := "oldest", desc := "()I" } : Jvm.MethodName)) ∈ lw_tbl := lw_at lw_m8 34 rfl
theorem q1783 : (Jvm.Cond.instanceMethod ({ cls := "TulipLinesModel", name := "oldest", desc := "()I" } : Jvm.MethodName)) ∈ lw_all := lw_g (lw_at lw_m8 35 rfl) rfl
theorem q1784 : (Jvm.Cond.code ({ cls := "TulipLinesModel", name := "oldest", desc := "()I" } : Jvm.MethodName) prog_14_method_70_code (3 : Nat) (Option.some Jvm.ClassFile.FieldType.int)) ∈ lw_all := lw_g (lw_at lw_m8 36 rfl) rfl
theorem q1786 : (Jvm.Cond.instanceMethod ({ cls := "TulipLinesModel", name := "isWell", desc := "()I" } : Jvm.MethodName)) ∈ lw_all := lw_g (lw_at lw_m8 38 rfl) rfl
theorem q1787 : (Jvm.Cond.selects "TulipLinesModel" ({ cls := "TulipLinesModel", name := "isWell", desc := "()I" } : Jvm.MethodName) ({ cls := "TulipLinesModel", name := "isWell", desc := "()I" } : Jvm.MethodName)) ∈ lw_all := lw_g (lw_at lw_m8 39 rfl) rfl
theorem q1788 : (Jvm.Cond.code ({ cls := "TulipLinesModel", name := "isWell", desc := "()I" } : Jvm.MethodName) prog_14_method_72_code (6 : Nat) (Option.some Jvm.ClassFile.FieldType.int)) ∈ lw_all := lw_g (lw_at lw_m8 40 rfl) rfl
theorem q1790 : (Jvm.Cond.instanceMethod ({ cls := "TulipLinesModel", name := "mean", desc := "()I" } : Jvm.MethodName)) ∈ lw_all := lw_g (lw_at lw_m8 42 rfl) rfl
theorem q1791 : (Jvm.Cond.selects "TulipLinesModel" ({ cls := "TulipLinesModel", name := "mean", desc := "()I" } : Jvm.MethodName) ({ cls := "TulipLinesModel", name := "mean", desc := "()I" } : Jvm.MethodName)) ∈ lw_all := lw_g (lw_at lw_m8 43 rfl) rfl
theorem q1792 : (Jvm.Cond.code ({ cls := "TulipLinesModel", name := "mean", desc := "()I" } : Jvm.MethodName) prog_14_method_73_code (4 : Nat) (Option.some Jvm.ClassFile.FieldType.int)) ∈ lw_all := lw_g (lw_at lw_m8 44 rfl) rfl
theorem q1793 : (Jvm.Cond.methodLink "TulipLinesModel" (235 : Nat) ({ cls := "java/lang/Float", name := "floatToIntBits", desc := "(F)I" } : Jvm.MethodName)) ∈ lw_all := lw_g (lw_at lw_m8 45 rfl) rfl
theorem q1795 : (Jvm.Cond.instanceMethod ({ cls := "TulipLinesModel", name := "undo", desc := "()I" } : Jvm.MethodName)) ∈ lw_all := lw_g (lw_at lw_m8 47 rfl) rfl
theorem q1796 : (Jvm.Cond.selects "TulipLinesModel" ({ cls := "TulipLinesModel", name := "undo", desc := "()I" } : Jvm.MethodName) ({ cls := "TulipLinesModel", name := "undo", desc := "()I" } : Jvm.MethodName)) ∈ lw_all := lw_g (lw_at lw_m8 48 rfl) rfl
theorem q1797 : (Jvm.Cond.code ({ cls := "TulipLinesModel", name := "undo", desc := "()I" } : Jvm.MethodName) prog_14_method_74_code (2 : Nat) (Option.some Jvm.ClassFile.FieldType.int)) ∈ lw_all := lw_g (lw_at lw_m8 49 rfl) rfl
theorem q1799 : (Jvm.Cond.instanceMethod ({ cls := "TulipLinesModel", name := "save", desc := "()I" } : Jvm.MethodName)) ∈ lw_all := lw_g (lw_at lw_m8 51 rfl) rfl
theorem q1800 : (Jvm.Cond.selects "TulipLinesModel" ({ cls := "TulipLinesModel", name := "save", desc := "()I" } : Jvm.MethodName) ({ cls := "TulipLinesModel", name := "save", desc := "()I" } : Jvm.MethodName)) ∈ lw_all := lw_g (lw_at lw_m8 52 rfl) rfl
theorem q1801 : (Jvm.Cond.code ({ cls := "TulipLinesModel", name := "save", desc := "()I" } : Jvm.MethodName) prog_14_method_75_code (2 : Nat) (Option.some Jvm.ClassFile.FieldType.int)) ∈ lw_all := lw_g (lw_at lw_m8 53 rfl) rfl
theorem q1803 : (Jvm.Cond.instanceMethod ({ cls := "TulipLinesModel", name := "restore", desc := "()I" } : Jvm.MethodName)) ∈ lw_all := lw_g (lw_at lw_m8 55 rfl) rfl
theorem q1804 : (Jvm.Cond.selects "TulipLinesModel" ({ cls := "TulipLinesModel", name := "restore", desc := "()I" } : Jvm.MethodName) ({ cls := "TulipLinesModel", name := "restore", desc := "()I" } : Jvm.MethodName)) ∈ lw_all := lw_g (lw_at lw_m8 56 rfl) rfl
theorem q1805 : (Jvm.Cond.code ({ cls := "TulipLinesModel", name := "restore", desc := "()I" } : Jvm.MethodName) prog_14_method_76_code (2 : Nat) (Option.some Jvm.ClassFile.FieldType.int)) ∈ lw_all := lw_g (lw_at lw_m8 57 rfl) rfl
theorem q1821 : (Jvm.Cond.castable "TulipLinesModel" "java/lang/Object") ∈ lw_tbl := lw_at lw_m8 73 rfl
theorem in_X2 : ∀ w ∈ wsX20, w ∈ lw_all := lw_in wsX20 [1453, 1455, 1457, 1459, 1461, 1463, 1465, 1467, 1469, 1471, 1473, 1475, 1477, 1479, 1481, 1483, 1485, 1487, 1489, 1491, 1493] (by decide +kernel) (by decide +kernel)
