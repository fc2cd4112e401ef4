/-! TulipLines$Bed -/
set_option maxRecDepth 100000
def RX1 : String := "TulipLines$Bed"
def TX1 : u_T := fun k => match k with
  | 0 => ("TulipLines$Bed", "bulbs", "Ljava/util/ArrayList;", true)
  | 1 => ("TulipLines$Bed", "weights", "[I", true)
  | 2 => ("TulipLines$Bed", "wanted", "I", false)
  | 3 => ("TulipLines$Bed", "luck", "I", false)
  | 4 => ("TulipLines$Bed", "seed", "I", false)
  | 5 => ("TulipLines$Bed", "room", "I", false)
  | _ => ("TulipLines$Bed", "year", "I", false)
def tyX1 : Nat → FieldType := fun k => match k with
  | 0 => .object "java/util/ArrayList"
  | 1 => .array .int
  | 2 => .int
  | 3 => .int
  | 4 => .int
  | 5 => .int
  | _ => .int
abbrev wsX10 : List Cond := u_ws RX1 TX1 7
theorem nmX1 : ∀ a, a < 7 → ∀ b, b < 7 → a ≠ b → (TX1 a).2.1 ≠ (TX1 b).2.1 := by decide +kernel
theorem tyX1_ok : ∀ k, k < 7 → parseFieldDescriptor (TX1 k).2.2.1 = some (tyX1 k) := by decide +kernel
abbrev cX1_init : ByteArray := prog_2_method_1_code
def yX1_init : MethodName := ⟨RX1, "<init>", "()V"⟩
def dkwX1_init_2 : List UInt8 := [79, 132, 1, 1, 167, 255, 240, 177]
abbrev dktX1_init_2 : List UInt8 := dkwX1_init_2 ++ []
def dkwX1_init_1 : List UInt8 := [4, 181, 0, 22, 42, 16, 8, 181, 0, 26, 3, 60, 27, 16, 8, 162, 0, 16, 42, 180, 0, 18, 27, 4]
abbrev dktX1_init_1 : List UInt8 := dkwX1_init_1 ++ dktX1_init_2
def dkwX1_init_0 : List UInt8 := [42, 183, 0, 3, 42, 187, 0, 9, 89, 183, 0, 11, 181, 0, 12, 42, 16, 8, 188, 10, 181, 0, 18, 42]
abbrev dktX1_init_0 : List UInt8 := dkwX1_init_0 ++ dktX1_init_1
theorem dksX1_init_0 : cX1_init.data.toList.drop 0 = dktX1_init_0 := by decide +kernel
theorem dksX1_init_1 : cX1_init.data.toList.drop 24 = dktX1_init_1 := dk_seg dksX1_init_0 24 rfl rfl
theorem dksX1_init_2 : cX1_init.data.toList.drop 48 = dktX1_init_2 := dk_seg dksX1_init_1 24 rfl rfl
theorem dX1_init_0 : decode cX1_init 0 = .ok (.aload_n 0, 1) := dk_42 (dk_at dksX1_init_0 0 rfl rfl)
theorem dX1_init_1 : decode cX1_init 1 = .ok (.invokespecial 3, 3) := dk_183 0 3 (dk_at dksX1_init_0 1 rfl rfl)
theorem dX1_init_4 : decode cX1_init 4 = .ok (.aload_n 0, 1) := dk_42 (dk_at dksX1_init_0 4 rfl rfl)
theorem dX1_init_5 : decode cX1_init 5 = .ok (.new 9, 3) := dk_187 0 9 (dk_at dksX1_init_0 5 rfl rfl)
theorem dX1_init_8 : decode cX1_init 8 = .ok (.dup, 1) := dk_89 (dk_at dksX1_init_0 8 rfl rfl)
theorem dX1_init_9 : decode cX1_init 9 = .ok (.invokespecial 11, 3) := dk_183 0 11 (dk_at dksX1_init_0 9 rfl rfl)
theorem dX1_init_12 : decode cX1_init 12 = .ok (.putfield 12, 3) := dk_181 0 12 (dk_at dksX1_init_0 12 rfl rfl)
theorem dX1_init_15 : decode cX1_init 15 = .ok (.aload_n 0, 1) := dk_42 (dk_at dksX1_init_0 15 rfl rfl)
theorem dX1_init_16 : decode cX1_init 16 = .ok (.bipush 8, 2) := dk_16 8 (dk_at dksX1_init_0 16 rfl rfl)
theorem dX1_init_18 : decode cX1_init 18 = .ok (.newarray .int, 2) := dk_188_10 (dk_at dksX1_init_0 18 rfl rfl)
theorem dX1_init_20 : decode cX1_init 20 = .ok (.putfield 18, 3) := dk_181 0 18 (dk_at dksX1_init_0 20 rfl rfl)
theorem dX1_init_23 : decode cX1_init 23 = .ok (.aload_n 0, 1) := dk_42 (dk_at dksX1_init_0 23 rfl rfl)
theorem dX1_init_24 : decode cX1_init 24 = .ok (.iconst 1, 1) := dk_4 (dk_at dksX1_init_1 0 rfl rfl)
theorem dX1_init_25 : decode cX1_init 25 = .ok (.putfield 22, 3) := dk_181 0 22 (dk_at dksX1_init_1 1 rfl rfl)
theorem dX1_init_28 : decode cX1_init 28 = .ok (.aload_n 0, 1) := dk_42 (dk_at dksX1_init_1 4 rfl rfl)
theorem dX1_init_29 : decode cX1_init 29 = .ok (.bipush 8, 2) := dk_16 8 (dk_at dksX1_init_1 5 rfl rfl)
theorem dX1_init_31 : decode cX1_init 31 = .ok (.putfield 26, 3) := dk_181 0 26 (dk_at dksX1_init_1 7 rfl rfl)
theorem dX1_init_34 : decode cX1_init 34 = .ok (.iconst 0, 1) := dk_3 (dk_at dksX1_init_1 10 rfl rfl)
theorem dX1_init_35 : decode cX1_init 35 = .ok (.istore_n 1, 1) := dk_60 (dk_at dksX1_init_1 11 rfl rfl)
theorem dX1_init_36 : decode cX1_init 36 = .ok (.iload_n 1, 1) := dk_27 (dk_at dksX1_init_1 12 rfl rfl)
theorem dX1_init_37 : decode cX1_init 37 = .ok (.bipush 8, 2) := dk_16 8 (dk_at dksX1_init_1 13 rfl rfl)
theorem dX1_init_39 : decode cX1_init 39 = .ok (.if_icmp .ge 16, 3) := dk_162 0 16 (dk_at dksX1_init_1 15 rfl rfl)
theorem dX1_init_42 : decode cX1_init 42 = .ok (.aload_n 0, 1) := dk_42 (dk_at dksX1_init_1 18 rfl rfl)
theorem dX1_init_43 : decode cX1_init 43 = .ok (.getfield 18, 3) := dk_180 0 18 (dk_at dksX1_init_1 19 rfl rfl)
theorem dX1_init_46 : decode cX1_init 46 = .ok (.iload_n 1, 1) := dk_27 (dk_at dksX1_init_1 22 rfl rfl)
theorem dX1_init_47 : decode cX1_init 47 = .ok (.iconst 1, 1) := dk_4 (dk_at dksX1_init_1 23 rfl rfl)
theorem dX1_init_48 : decode cX1_init 48 = .ok (.iastore, 1) := dk_79 (dk_at dksX1_init_2 0 rfl rfl)
theorem dX1_init_49 : decode cX1_init 49 = .ok (.iinc 1 1, 3) := dk_132 1 1 (dk_at dksX1_init_2 1 rfl rfl)
theorem dX1_init_52 : decode cX1_init 52 = .ok (.goto (-16), 3) := dk_167 255 240 (dk_at dksX1_init_2 4 rfl rfl)
theorem dX1_init_55 : decode cX1_init 55 = .ok (.return_, 1) := dk_177 (dk_at dksX1_init_2 7 rfl rfl)
abbrev cX1_plants : ByteArray := prog_2_method_13_code
def yX1_plants : MethodName := ⟨RX1, "plants", "(I)I"⟩
def dkwX1_plants_1 : List UInt8 := [180, 0, 65, 3, 3, 183, 0, 143, 182, 0, 146, 172]
abbrev dktX1_plants_1 : List UInt8 := dkwX1_plants_1 ++ []
def dkwX1_plants_0 : List UInt8 := [42, 182, 0, 150, 42, 187, 0, 43, 89, 42, 180, 0, 12, 182, 0, 68, 27, 16, 252, 16, 252, 42]
abbrev dktX1_plants_0 : List UInt8 := dkwX1_plants_0 ++ dktX1_plants_1
theorem dksX1_plants_0 : cX1_plants.data.toList.drop 0 = dktX1_plants_0 := by decide +kernel
theorem dksX1_plants_1 : cX1_plants.data.toList.drop 22 = dktX1_plants_1 := dk_seg dksX1_plants_0 22 rfl rfl
theorem dX1_plants_0 : decode cX1_plants 0 = .ok (.aload_n 0, 1) := dk_42 (dk_at dksX1_plants_0 0 rfl rfl)
theorem dX1_plants_1 : decode cX1_plants 1 = .ok (.invokevirtual 150, 3) := dk_182 0 150 (dk_at dksX1_plants_0 1 rfl rfl)
theorem dX1_plants_4 : decode cX1_plants 4 = .ok (.aload_n 0, 1) := dk_42 (dk_at dksX1_plants_0 4 rfl rfl)
theorem dX1_plants_5 : decode cX1_plants 5 = .ok (.new 43, 3) := dk_187 0 43 (dk_at dksX1_plants_0 5 rfl rfl)
theorem dX1_plants_8 : decode cX1_plants 8 = .ok (.dup, 1) := dk_89 (dk_at dksX1_plants_0 8 rfl rfl)
theorem dX1_plants_9 : decode cX1_plants 9 = .ok (.aload_n 0, 1) := dk_42 (dk_at dksX1_plants_0 9 rfl rfl)
theorem dX1_plants_10 : decode cX1_plants 10 = .ok (.getfield 12, 3) := dk_180 0 12 (dk_at dksX1_plants_0 10 rfl rfl)
theorem dX1_plants_13 : decode cX1_plants 13 = .ok (.invokevirtual 68, 3) := dk_182 0 68 (dk_at dksX1_plants_0 13 rfl rfl)
theorem dX1_plants_16 : decode cX1_plants 16 = .ok (.iload_n 1, 1) := dk_27 (dk_at dksX1_plants_0 16 rfl rfl)
theorem dX1_plants_17 : decode cX1_plants 17 = .ok (.bipush (-4), 2) := dk_16 252 (dk_at dksX1_plants_0 17 rfl rfl)
theorem dX1_plants_19 : decode cX1_plants 19 = .ok (.bipush (-4), 2) := dk_16 252 (dk_at dksX1_plants_0 19 rfl rfl)
theorem dX1_plants_21 : decode cX1_plants 21 = .ok (.aload_n 0, 1) := dk_42 (dk_at dksX1_plants_0 21 rfl rfl)
theorem dX1_plants_22 : decode cX1_plants 22 = .ok (.getfield 65, 3) := dk_180 0 65 (dk_at dksX1_plants_1 0 rfl rfl)
theorem dX1_plants_25 : decode cX1_plants 25 = .ok (.iconst 0, 1) := dk_3 (dk_at dksX1_plants_1 3 rfl rfl)
theorem dX1_plants_26 : decode cX1_plants 26 = .ok (.iconst 0, 1) := dk_3 (dk_at dksX1_plants_1 4 rfl rfl)
theorem dX1_plants_27 : decode cX1_plants 27 = .ok (.invokespecial 143, 3) := dk_183 0 143 (dk_at dksX1_plants_1 5 rfl rfl)
theorem dX1_plants_30 : decode cX1_plants 30 = .ok (.invokevirtual 146, 3) := dk_182 0 146 (dk_at dksX1_plants_1 8 rfl rfl)
theorem dX1_plants_33 : decode cX1_plants 33 = .ok (.ireturn, 1) := dk_172 (dk_at dksX1_plants_1 11 rfl rfl)
abbrev cX1_mayCome : ByteArray := prog_2_method_10_code
def yX1_mayCome : MethodName := ⟨RX1, "mayCome", "()V"⟩
def dkwX1_mayCome_1 : List UInt8 := [182, 0, 117, 16, 12, 160, 0, 7, 4, 167, 0, 4, 3, 5, 16, 12, 184, 0, 113, 177]
abbrev dktX1_mayCome_1 : List UInt8 := dkwX1_mayCome_1 ++ []
def dkwX1_mayCome_0 : List UInt8 := [42, 180, 0, 12, 182, 0, 68, 16, 40, 160, 0, 7, 4, 167, 0, 4, 3, 4, 16, 40, 184, 0, 113, 42]
abbrev dktX1_mayCome_0 : List UInt8 := dkwX1_mayCome_0 ++ dktX1_mayCome_1
theorem dksX1_mayCome_0 : cX1_mayCome.data.toList.drop 0 = dktX1_mayCome_0 := by decide +kernel
theorem dksX1_mayCome_1 : cX1_mayCome.data.toList.drop 24 = dktX1_mayCome_1 := dk_seg dksX1_mayCome_0 24 rfl rfl
theorem dX1_mayCome_0 : decode cX1_mayCome 0 = .ok (.aload_n 0, 1) := dk_42 (dk_at dksX1_mayCome_0 0 rfl rfl)
theorem dX1_mayCome_1 : decode cX1_mayCome 1 = .ok (.getfield 12, 3) := dk_180 0 12 (dk_at dksX1_mayCome_0 1 rfl rfl)
theorem dX1_mayCome_4 : decode cX1_mayCome 4 = .ok (.invokevirtual 68, 3) := dk_182 0 68 (dk_at dksX1_mayCome_0 4 rfl rfl)
theorem dX1_mayCome_7 : decode cX1_mayCome 7 = .ok (.bipush 40, 2) := dk_16 40 (dk_at dksX1_mayCome_0 7 rfl rfl)
theorem dX1_mayCome_9 : decode cX1_mayCome 9 = .ok (.if_icmp .ne 7, 3) := dk_160 0 7 (dk_at dksX1_mayCome_0 9 rfl rfl)
theorem dX1_mayCome_12 : decode cX1_mayCome 12 = .ok (.iconst 1, 1) := dk_4 (dk_at dksX1_mayCome_0 12 rfl rfl)
theorem dX1_mayCome_13 : decode cX1_mayCome 13 = .ok (.goto 4, 3) := dk_167 0 4 (dk_at dksX1_mayCome_0 13 rfl rfl)
theorem dX1_mayCome_16 : decode cX1_mayCome 16 = .ok (.iconst 0, 1) := dk_3 (dk_at dksX1_mayCome_0 16 rfl rfl)
theorem dX1_mayCome_17 : decode cX1_mayCome 17 = .ok (.iconst 1, 1) := dk_4 (dk_at dksX1_mayCome_0 17 rfl rfl)
theorem dX1_mayCome_18 : decode cX1_mayCome 18 = .ok (.bipush 40, 2) := dk_16 40 (dk_at dksX1_mayCome_0 18 rfl rfl)
theorem dX1_mayCome_20 : decode cX1_mayCome 20 = .ok (.invokestatic 113, 3) := dk_184 0 113 (dk_at dksX1_mayCome_0 20 rfl rfl)
theorem dX1_mayCome_23 : decode cX1_mayCome 23 = .ok (.aload_n 0, 1) := dk_42 (dk_at dksX1_mayCome_0 23 rfl rfl)
theorem dX1_mayCome_24 : decode cX1_mayCome 24 = .ok (.invokevirtual 117, 3) := dk_182 0 117 (dk_at dksX1_mayCome_1 0 rfl rfl)
theorem dX1_mayCome_27 : decode cX1_mayCome 27 = .ok (.bipush 12, 2) := dk_16 12 (dk_at dksX1_mayCome_1 3 rfl rfl)
theorem dX1_mayCome_29 : decode cX1_mayCome 29 = .ok (.if_icmp .ne 7, 3) := dk_160 0 7 (dk_at dksX1_mayCome_1 5 rfl rfl)
theorem dX1_mayCome_32 : decode cX1_mayCome 32 = .ok (.iconst 1, 1) := dk_4 (dk_at dksX1_mayCome_1 8 rfl rfl)
theorem dX1_mayCome_33 : decode cX1_mayCome 33 = .ok (.goto 4, 3) := dk_167 0 4 (dk_at dksX1_mayCome_1 9 rfl rfl)
theorem dX1_mayCome_36 : decode cX1_mayCome 36 = .ok (.iconst 0, 1) := dk_3 (dk_at dksX1_mayCome_1 12 rfl rfl)
theorem dX1_mayCome_37 : decode cX1_mayCome 37 = .ok (.iconst 2, 1) := dk_5 (dk_at dksX1_mayCome_1 13 rfl rfl)
theorem dX1_mayCome_38 : decode cX1_mayCome 38 = .ok (.bipush 12, 2) := dk_16 12 (dk_at dksX1_mayCome_1 14 rfl rfl)
theorem dX1_mayCome_40 : decode cX1_mayCome 40 = .ok (.invokestatic 113, 3) := dk_184 0 113 (dk_at dksX1_mayCome_1 16 rfl rfl)
theorem dX1_mayCome_43 : decode cX1_mayCome 43 = .ok (.return_, 1) := dk_177 (dk_at dksX1_mayCome_1 19 rfl rfl)
abbrev cX1_living : ByteArray := prog_2_method_6_code
def yX1_living : MethodName := ⟨RX1, "living", "()I"⟩
def dkwX1_living_1 : List UInt8 := [185, 0, 39, 1, 0, 192, 0, 43, 78, 45, 180, 0, 92, 154, 0, 6, 132, 1, 1, 167, 255, 227, 27, 172]
abbrev dktX1_living_1 : List UInt8 := dkwX1_living_1 ++ []
def dkwX1_living_0 : List UInt8 := [3, 60, 42, 180, 0, 12, 182, 0, 29, 77, 44, 185, 0, 33, 1, 0, 153, 0, 26, 44]
abbrev dktX1_living_0 : List UInt8 := dkwX1_living_0 ++ dktX1_living_1
theorem dksX1_living_0 : cX1_living.data.toList.drop 0 = dktX1_living_0 := by decide +kernel
theorem dksX1_living_1 : cX1_living.data.toList.drop 20 = dktX1_living_1 := dk_seg dksX1_living_0 20 rfl rfl
theorem dX1_living_0 : decode cX1_living 0 = .ok (.iconst 0, 1) := dk_3 (dk_at dksX1_living_0 0 rfl rfl)
theorem dX1_living_1 : decode cX1_living 1 = .ok (.istore_n 1, 1) := dk_60 (dk_at dksX1_living_0 1 rfl rfl)
theorem dX1_living_2 : decode cX1_living 2 = .ok (.aload_n 0, 1) := dk_42 (dk_at dksX1_living_0 2 rfl rfl)
theorem dX1_living_3 : decode cX1_living 3 = .ok (.getfield 12, 3) := dk_180 0 12 (dk_at dksX1_living_0 3 rfl rfl)
theorem dX1_living_6 : decode cX1_living 6 = .ok (.invokevirtual 29, 3) := dk_182 0 29 (dk_at dksX1_living_0 6 rfl rfl)
theorem dX1_living_9 : decode cX1_living 9 = .ok (.astore_n 2, 1) := dk_77 (dk_at dksX1_living_0 9 rfl rfl)
theorem dX1_living_10 : decode cX1_living 10 = .ok (.aload_n 2, 1) := dk_44 (dk_at dksX1_living_0 10 rfl rfl)
theorem dX1_living_11 : decode cX1_living 11 = .ok (.invokeinterface 33 1, 5) := by decide +kernel
theorem dX1_living_16 : decode cX1_living 16 = .ok (.ifCond .eq 26, 3) := dk_153 0 26 (dk_at dksX1_living_0 16 rfl rfl)
theorem dX1_living_19 : decode cX1_living 19 = .ok (.aload_n 2, 1) := dk_44 (dk_at dksX1_living_0 19 rfl rfl)
theorem dX1_living_20 : decode cX1_living 20 = .ok (.invokeinterface 39 1, 5) := by decide +kernel
theorem dX1_living_25 : decode cX1_living 25 = .ok (.checkcast 43, 3) := dk_192 0 43 (dk_at dksX1_living_1 5 rfl rfl)
theorem dX1_living_28 : decode cX1_living 28 = .ok (.astore_n 3, 1) := dk_78 (dk_at dksX1_living_1 8 rfl rfl)
theorem dX1_living_29 : decode cX1_living 29 = .ok (.aload_n 3, 1) := dk_45 (dk_at dksX1_living_1 9 rfl rfl)
theorem dX1_living_30 : decode cX1_living 30 = .ok (.getfield 92, 3) := dk_180 0 92 (dk_at dksX1_living_1 10 rfl rfl)
theorem dX1_living_33 : decode cX1_living 33 = .ok (.ifCond .ne 6, 3) := dk_154 0 6 (dk_at dksX1_living_1 13 rfl rfl)
theorem dX1_living_36 : decode cX1_living 36 = .ok (.iinc 1 1, 3) := dk_132 1 1 (dk_at dksX1_living_1 16 rfl rfl)
theorem dX1_living_39 : decode cX1_living 39 = .ok (.goto (-29), 3) := dk_167 255 227 (dk_at dksX1_living_1 19 rfl rfl)
theorem dX1_living_42 : decode cX1_living 42 = .ok (.iload_n 1, 1) := dk_27 (dk_at dksX1_living_1 22 rfl rfl)
theorem dX1_living_43 : decode cX1_living 43 = .ok (.ireturn, 1) := dk_172 (dk_at dksX1_living_1 23 rfl rfl)
abbrev cX1_comes : ByteArray := prog_2_method_11_code
def yX1_comes : MethodName := ⟨RX1, "comes", "(LTulipLines$Bulb;)I"⟩
def dkwX1_comes_0 : List UInt8 := [42, 180, 0, 12, 43, 182, 0, 49, 61, 43, 180, 0, 103, 172]
abbrev dktX1_comes_0 : List UInt8 := dkwX1_comes_0 ++ []
theorem dksX1_comes_0 : cX1_comes.data.toList.drop 0 = dktX1_comes_0 := by decide +kernel
theorem dX1_comes_0 : decode cX1_comes 0 = .ok (.aload_n 0, 1) := dk_42 (dk_at dksX1_comes_0 0 rfl rfl)
theorem dX1_comes_1 : decode cX1_comes 1 = .ok (.getfield 12, 3) := dk_180 0 12 (dk_at dksX1_comes_0 1 rfl rfl)
theorem dX1_comes_4 : decode cX1_comes 4 = .ok (.aload_n 1, 1) := dk_43 (dk_at dksX1_comes_0 4 rfl rfl)
theorem dX1_comes_5 : decode cX1_comes 5 = .ok (.invokevirtual 49, 3) := dk_182 0 49 (dk_at dksX1_comes_0 5 rfl rfl)
theorem dX1_comes_8 : decode cX1_comes 8 = .ok (.istore_n 2, 1) := dk_61 (dk_at dksX1_comes_0 8 rfl rfl)
theorem dX1_comes_9 : decode cX1_comes 9 = .ok (.aload_n 1, 1) := dk_43 (dk_at dksX1_comes_0 9 rfl rfl)
theorem dX1_comes_10 : decode cX1_comes 10 = .ok (.getfield 103, 3) := dk_180 0 103 (dk_at dksX1_comes_0 10 rfl rfl)
theorem dX1_comes_13 : decode cX1_comes 13 = .ok (.ireturn, 1) := dk_172 (dk_at dksX1_comes_0 13 rfl rfl)
abbrev cX1_init_2 : ByteArray := prog_2_method_2_code
def yX1_init_2 : MethodName := ⟨RX1, "<init>", "(LTulipLines$Bed;)V"⟩
def dkwX1_init_2_5 : List UInt8 := [180, 0, 26, 181, 0, 26, 42, 43, 180, 0, 65, 181, 0, 65, 177]
abbrev dktX1_init_2_5 : List UInt8 := dkwX1_init_2_5 ++ []
def dkwX1_init_2_4 : List UInt8 := [180, 0, 59, 181, 0, 59, 42, 43, 180, 0, 62, 181, 0, 62, 42, 43, 180, 0, 22, 181, 0, 22, 42, 43]
abbrev dktX1_init_2_4 : List UInt8 := dkwX1_init_2_4 ++ dktX1_init_2_5
def dkwX1_init_2_3 : List UInt8 := [54, 4, 167, 255, 224, 43, 180, 0, 18, 3, 42, 180, 0, 18, 3, 16, 8, 184, 0, 53, 42, 43]
abbrev dktX1_init_2_3 : List UInt8 := dkwX1_init_2_3 ++ dktX1_init_2_4
def dkwX1_init_2_2 : List UInt8 := [153, 0, 29, 44, 185, 0, 39, 1, 0, 192, 0, 43, 78, 42, 180, 0, 12, 45, 182, 0, 45, 182, 0, 49]
abbrev dktX1_init_2_2 : List UInt8 := dkwX1_init_2_2 ++ dktX1_init_2_3
def dkwX1_init_2_1 : List UInt8 := [4, 181, 0, 22, 42, 16, 8, 181, 0, 26, 43, 180, 0, 12, 182, 0, 29, 77, 44, 185, 0, 33, 1, 0]
abbrev dktX1_init_2_1 : List UInt8 := dkwX1_init_2_1 ++ dktX1_init_2_2
def dkwX1_init_2_0 : List UInt8 := [42, 183, 0, 3, 42, 187, 0, 9, 89, 183, 0, 11, 181, 0, 12, 42, 16, 8, 188, 10, 181, 0, 18, 42]
abbrev dktX1_init_2_0 : List UInt8 := dkwX1_init_2_0 ++ dktX1_init_2_1
theorem dksX1_init_2_0 : cX1_init_2.data.toList.drop 0 = dktX1_init_2_0 := by decide +kernel
theorem dksX1_init_2_1 : cX1_init_2.data.toList.drop 24 = dktX1_init_2_1 := dk_seg dksX1_init_2_0 24 rfl rfl
theorem dksX1_init_2_2 : cX1_init_2.data.toList.drop 48 = dktX1_init_2_2 := dk_seg dksX1_init_2_1 24 rfl rfl
theorem dksX1_init_2_3 : cX1_init_2.data.toList.drop 72 = dktX1_init_2_3 := dk_seg dksX1_init_2_2 24 rfl rfl
theorem dksX1_init_2_4 : cX1_init_2.data.toList.drop 94 = dktX1_init_2_4 := dk_seg dksX1_init_2_3 22 rfl rfl
theorem dksX1_init_2_5 : cX1_init_2.data.toList.drop 118 = dktX1_init_2_5 := dk_seg dksX1_init_2_4 24 rfl rfl
theorem dX1_init_2_0 : decode cX1_init_2 0 = .ok (.aload_n 0, 1) := dk_42 (dk_at dksX1_init_2_0 0 rfl rfl)
theorem dX1_init_2_1 : decode cX1_init_2 1 = .ok (.invokespecial 3, 3) := dk_183 0 3 (dk_at dksX1_init_2_0 1 rfl rfl)
theorem dX1_init_2_4 : decode cX1_init_2 4 = .ok (.aload_n 0, 1) := dk_42 (dk_at dksX1_init_2_0 4 rfl rfl)
theorem dX1_init_2_5 : decode cX1_init_2 5 = .ok (.new 9, 3) := dk_187 0 9 (dk_at dksX1_init_2_0 5 rfl rfl)
theorem dX1_init_2_8 : decode cX1_init_2 8 = .ok (.dup, 1) := dk_89 (dk_at dksX1_init_2_0 8 rfl rfl)
theorem dX1_init_2_9 : decode cX1_init_2 9 = .ok (.invokespecial 11, 3) := dk_183 0 11 (dk_at dksX1_init_2_0 9 rfl rfl)
theorem dX1_init_2_12 : decode cX1_init_2 12 = .ok (.putfield 12, 3) := dk_181 0 12 (dk_at dksX1_init_2_0 12 rfl rfl)
theorem dX1_init_2_15 : decode cX1_init_2 15 = .ok (.aload_n 0, 1) := dk_42 (dk_at dksX1_init_2_0 15 rfl rfl)
theorem dX1_init_2_16 : decode cX1_init_2 16 = .ok (.bipush 8, 2) := dk_16 8 (dk_at dksX1_init_2_0 16 rfl rfl)
theorem dX1_init_2_18 : decode cX1_init_2 18 = .ok (.newarray .int, 2) := dk_188_10 (dk_at dksX1_init_2_0 18 rfl rfl)
theorem dX1_init_2_20 : decode cX1_init_2 20 = .ok (.putfield 18, 3) := dk_181 0 18 (dk_at dksX1_init_2_0 20 rfl rfl)
theorem dX1_init_2_23 : decode cX1_init_2 23 = .ok (.aload_n 0, 1) := dk_42 (dk_at dksX1_init_2_0 23 rfl rfl)
theorem dX1_init_2_24 : decode cX1_init_2 24 = .ok (.iconst 1, 1) := dk_4 (dk_at dksX1_init_2_1 0 rfl rfl)
theorem dX1_init_2_25 : decode cX1_init_2 25 = .ok (.putfield 22, 3) := dk_181 0 22 (dk_at dksX1_init_2_1 1 rfl rfl)
theorem dX1_init_2_28 : decode cX1_init_2 28 = .ok (.aload_n 0, 1) := dk_42 (dk_at dksX1_init_2_1 4 rfl rfl)
theorem dX1_init_2_29 : decode cX1_init_2 29 = .ok (.bipush 8, 2) := dk_16 8 (dk_at dksX1_init_2_1 5 rfl rfl)
theorem dX1_init_2_31 : decode cX1_init_2 31 = .ok (.putfield 26, 3) := dk_181 0 26 (dk_at dksX1_init_2_1 7 rfl rfl)
theorem dX1_init_2_34 : decode cX1_init_2 34 = .ok (.aload_n 1, 1) := dk_43 (dk_at dksX1_init_2_1 10 rfl rfl)
theorem dX1_init_2_35 : decode cX1_init_2 35 = .ok (.getfield 12, 3) := dk_180 0 12 (dk_at dksX1_init_2_1 11 rfl rfl)
theorem dX1_init_2_38 : decode cX1_init_2 38 = .ok (.invokevirtual 29, 3) := dk_182 0 29 (dk_at dksX1_init_2_1 14 rfl rfl)
theorem dX1_init_2_41 : decode cX1_init_2 41 = .ok (.astore_n 2, 1) := dk_77 (dk_at dksX1_init_2_1 17 rfl rfl)
theorem dX1_init_2_42 : decode cX1_init_2 42 = .ok (.aload_n 2, 1) := dk_44 (dk_at dksX1_init_2_1 18 rfl rfl)
theorem dX1_init_2_43 : decode cX1_init_2 43 = .ok (.invokeinterface 33 1, 5) := by decide +kernel
theorem dX1_init_2_48 : decode cX1_init_2 48 = .ok (.ifCond .eq 29, 3) := dk_153 0 29 (dk_at dksX1_init_2_2 0 rfl rfl)
theorem dX1_init_2_51 : decode cX1_init_2 51 = .ok (.aload_n 2, 1) := dk_44 (dk_at dksX1_init_2_2 3 rfl rfl)
theorem dX1_init_2_52 : decode cX1_init_2 52 = .ok (.invokeinterface 39 1, 5) := by decide +kernel
theorem dX1_init_2_57 : decode cX1_init_2 57 = .ok (.checkcast 43, 3) := dk_192 0 43 (dk_at dksX1_init_2_2 9 rfl rfl)
theorem dX1_init_2_60 : decode cX1_init_2 60 = .ok (.astore_n 3, 1) := dk_78 (dk_at dksX1_init_2_2 12 rfl rfl)
theorem dX1_init_2_61 : decode cX1_init_2 61 = .ok (.aload_n 0, 1) := dk_42 (dk_at dksX1_init_2_2 13 rfl rfl)
theorem dX1_init_2_62 : decode cX1_init_2 62 = .ok (.getfield 12, 3) := dk_180 0 12 (dk_at dksX1_init_2_2 14 rfl rfl)
theorem dX1_init_2_65 : decode cX1_init_2 65 = .ok (.aload_n 3, 1) := dk_45 (dk_at dksX1_init_2_2 17 rfl rfl)
theorem dX1_init_2_66 : decode cX1_init_2 66 = .ok (.invokevirtual 45, 3) := dk_182 0 45 (dk_at dksX1_init_2_2 18 rfl rfl)
theorem dX1_init_2_69 : decode cX1_init_2 69 = .ok (.invokevirtual 49, 3) := dk_182 0 49 (dk_at dksX1_init_2_2 21 rfl rfl)
theorem dX1_init_2_72 : decode cX1_init_2 72 = .ok (.istore 4, 2) := dk_54 4 (dk_at dksX1_init_2_3 0 rfl rfl)
theorem dX1_init_2_74 : decode cX1_init_2 74 = .ok (.goto (-32), 3) := dk_167 255 224 (dk_at dksX1_init_2_3 2 rfl rfl)
theorem dX1_init_2_77 : decode cX1_init_2 77 = .ok (.aload_n 1, 1) := dk_43 (dk_at dksX1_init_2_3 5 rfl rfl)
theorem dX1_init_2_78 : decode cX1_init_2 78 = .ok (.getfield 18, 3) := dk_180 0 18 (dk_at dksX1_init_2_3 6 rfl rfl)
theorem dX1_init_2_81 : decode cX1_init_2 81 = .ok (.iconst 0, 1) := dk_3 (dk_at dksX1_init_2_3 9 rfl rfl)
theorem dX1_init_2_82 : decode cX1_init_2 82 = .ok (.aload_n 0, 1) := dk_42 (dk_at dksX1_init_2_3 10 rfl rfl)
theorem dX1_init_2_83 : decode cX1_init_2 83 = .ok (.getfield 18, 3) := dk_180 0 18 (dk_at dksX1_init_2_3 11 rfl rfl)
theorem dX1_init_2_86 : decode cX1_init_2 86 = .ok (.iconst 0, 1) := dk_3 (dk_at dksX1_init_2_3 14 rfl rfl)
theorem dX1_init_2_87 : decode cX1_init_2 87 = .ok (.bipush 8, 2) := dk_16 8 (dk_at dksX1_init_2_3 15 rfl rfl)
theorem dX1_init_2_89 : decode cX1_init_2 89 = .ok (.invokestatic 53, 3) := dk_184 0 53 (dk_at dksX1_init_2_3 17 rfl rfl)
theorem dX1_init_2_92 : decode cX1_init_2 92 = .ok (.aload_n 0, 1) := dk_42 (dk_at dksX1_init_2_3 20 rfl rfl)
theorem dX1_init_2_93 : decode cX1_init_2 93 = .ok (.aload_n 1, 1) := dk_43 (dk_at dksX1_init_2_3 21 rfl rfl)
theorem dX1_init_2_94 : decode cX1_init_2 94 = .ok (.getfield 59, 3) := dk_180 0 59 (dk_at dksX1_init_2_4 0 rfl rfl)
theorem dX1_init_2_97 : decode cX1_init_2 97 = .ok (.putfield 59, 3) := dk_181 0 59 (dk_at dksX1_init_2_4 3 rfl rfl)
theorem dX1_init_2_100 : decode cX1_init_2 100 = .ok (.aload_n 0, 1) := dk_42 (dk_at dksX1_init_2_4 6 rfl rfl)
theorem dX1_init_2_101 : decode cX1_init_2 101 = .ok (.aload_n 1, 1) := dk_43 (dk_at dksX1_init_2_4 7 rfl rfl)
theorem dX1_init_2_102 : decode cX1_init_2 102 = .ok (.getfield 62, 3) := dk_180 0 62 (dk_at dksX1_init_2_4 8 rfl rfl)
theorem dX1_init_2_105 : decode cX1_init_2 105 = .ok (.putfield 62, 3) := dk_181 0 62 (dk_at dksX1_init_2_4 11 rfl rfl)
theorem dX1_init_2_108 : decode cX1_init_2 108 = .ok (.aload_n 0, 1) := dk_42 (dk_at dksX1_init_2_4 14 rfl rfl)
theorem dX1_init_2_109 : decode cX1_init_2 109 = .ok (.aload_n 1, 1) := dk_43 (dk_at dksX1_init_2_4 15 rfl rfl)
theorem dX1_init_2_110 : decode cX1_init_2 110 = .ok (.getfield 22, 3) := dk_180 0 22 (dk_at dksX1_init_2_4 16 rfl rfl)
theorem dX1_init_2_113 : decode cX1_init_2 113 = .ok (.putfield 22, 3) := dk_181 0 22 (dk_at dksX1_init_2_4 19 rfl rfl)
theorem dX1_init_2_116 : decode cX1_init_2 116 = .ok (.aload_n 0, 1) := dk_42 (dk_at dksX1_init_2_4 22 rfl rfl)
theorem dX1_init_2_117 : decode cX1_init_2 117 = .ok (.aload_n 1, 1) := dk_43 (dk_at dksX1_init_2_4 23 rfl rfl)
theorem dX1_init_2_118 : decode cX1_init_2 118 = .ok (.getfield 26, 3) := dk_180 0 26 (dk_at dksX1_init_2_5 0 rfl rfl)
theorem dX1_init_2_121 : decode cX1_init_2 121 = .ok (.putfield 26, 3) := dk_181 0 26 (dk_at dksX1_init_2_5 3 rfl rfl)
theorem dX1_init_2_124 : decode cX1_init_2 124 = .ok (.aload_n 0, 1) := dk_42 (dk_at dksX1_init_2_5 6 rfl rfl)
theorem dX1_init_2_125 : decode cX1_init_2 125 = .ok (.aload_n 1, 1) := dk_43 (dk_at dksX1_init_2_5 7 rfl rfl)
theorem dX1_init_2_126 : decode cX1_init_2 126 = .ok (.getfield 65, 3) := dk_180 0 65 (dk_at dksX1_init_2_5 8 rfl rfl)
theorem dX1_init_2_129 : decode cX1_init_2 129 = .ok (.putfield 65, 3) := dk_181 0 65 (dk_at dksX1_init_2_5 11 rfl rfl)
theorem dX1_init_2_132 : decode cX1_init_2 132 = .ok (.return_, 1) := dk_177 (dk_at dksX1_init_2_5 14 rfl rfl)
abbrev cX1_bulb : ByteArray := prog_2_method_4_code
def yX1_bulb : MethodName := ⟨RX1, "bulb", "(I)LTulipLines$Bulb;"⟩
def dkwX1_bulb_0 : List UInt8 := [42, 27, 182, 0, 76, 2, 184, 0, 80, 42, 180, 0, 12, 27, 182, 0, 84, 192, 0, 43, 176]
abbrev dktX1_bulb_0 : List UInt8 := dkwX1_bulb_0 ++ []
theorem dksX1_bulb_0 : cX1_bulb.data.toList.drop 0 = dktX1_bulb_0 := by decide +kernel
theorem dX1_bulb_0 : decode cX1_bulb 0 = .ok (.aload_n 0, 1) := dk_42 (dk_at dksX1_bulb_0 0 rfl rfl)
theorem dX1_bulb_1 : decode cX1_bulb 1 = .ok (.iload_n 1, 1) := dk_27 (dk_at dksX1_bulb_0 1 rfl rfl)
theorem dX1_bulb_2 : decode cX1_bulb 2 = .ok (.invokevirtual 76, 3) := dk_182 0 76 (dk_at dksX1_bulb_0 2 rfl rfl)
theorem dX1_bulb_5 : decode cX1_bulb 5 = .ok (.iconst (-1), 1) := dk_2 (dk_at dksX1_bulb_0 5 rfl rfl)
theorem dX1_bulb_6 : decode cX1_bulb 6 = .ok (.invokestatic 80, 3) := dk_184 0 80 (dk_at dksX1_bulb_0 6 rfl rfl)
theorem dX1_bulb_9 : decode cX1_bulb 9 = .ok (.aload_n 0, 1) := dk_42 (dk_at dksX1_bulb_0 9 rfl rfl)
theorem dX1_bulb_10 : decode cX1_bulb 10 = .ok (.getfield 12, 3) := dk_180 0 12 (dk_at dksX1_bulb_0 10 rfl rfl)
theorem dX1_bulb_13 : decode cX1_bulb 13 = .ok (.iload_n 1, 1) := dk_27 (dk_at dksX1_bulb_0 13 rfl rfl)
theorem dX1_bulb_14 : decode cX1_bulb 14 = .ok (.invokevirtual 84, 3) := dk_182 0 84 (dk_at dksX1_bulb_0 14 rfl rfl)
theorem dX1_bulb_17 : decode cX1_bulb 17 = .ok (.checkcast 43, 3) := dk_192 0 43 (dk_at dksX1_bulb_0 17 rfl rfl)
theorem dX1_bulb_20 : decode cX1_bulb 20 = .ok (.areturn, 1) := dk_176 (dk_at dksX1_bulb_0 20 rfl rfl)
abbrev cX1_has : ByteArray := prog_2_method_3_code
def yX1_has : MethodName := ⟨RX1, "has", "(I)Z"⟩
def dkwX1_has_0 : List UInt8 := [27, 3, 42, 180, 0, 12, 182, 0, 68, 4, 100, 184, 0, 72, 172]
abbrev dktX1_has_0 : List UInt8 := dkwX1_has_0 ++ []
theorem dksX1_has_0 : cX1_has.data.toList.drop 0 = dktX1_has_0 := by decide +kernel
theorem dX1_has_0 : decode cX1_has 0 = .ok (.iload_n 1, 1) := dk_27 (dk_at dksX1_has_0 0 rfl rfl)
theorem dX1_has_1 : decode cX1_has 1 = .ok (.iconst 0, 1) := dk_3 (dk_at dksX1_has_0 1 rfl rfl)
theorem dX1_has_2 : decode cX1_has 2 = .ok (.aload_n 0, 1) := dk_42 (dk_at dksX1_has_0 2 rfl rfl)
theorem dX1_has_3 : decode cX1_has 3 = .ok (.getfield 12, 3) := dk_180 0 12 (dk_at dksX1_has_0 3 rfl rfl)
theorem dX1_has_6 : decode cX1_has 6 = .ok (.invokevirtual 68, 3) := dk_182 0 68 (dk_at dksX1_has_0 6 rfl rfl)
theorem dX1_has_9 : decode cX1_has 9 = .ok (.iconst 1, 1) := dk_4 (dk_at dksX1_has_0 9 rfl rfl)
theorem dX1_has_10 : decode cX1_has 10 = .ok (.isub, 1) := dk_100 (dk_at dksX1_has_0 10 rfl rfl)
theorem dX1_has_11 : decode cX1_has 11 = .ok (.invokestatic 72, 3) := dk_184 0 72 (dk_at dksX1_has_0 11 rfl rfl)
theorem dX1_has_14 : decode cX1_has 14 = .ok (.ireturn, 1) := dk_172 (dk_at dksX1_has_0 14 rfl rfl)
abbrev cX1_crosses : ByteArray := prog_2_method_15_code
def yX1_crosses : MethodName := ⟨RX1, "crosses", "(LTulipLines$Crossing;)I"⟩
def dkwX1_crosses_0 : List UInt8 := [43, 180, 0, 127, 184, 0, 153, 43, 180, 0, 134, 184, 0, 153, 42, 182, 0, 150, 42, 43, 182, 0, 157, 172]
abbrev dktX1_crosses_0 : List UInt8 := dkwX1_crosses_0 ++ []
theorem dksX1_crosses_0 : cX1_crosses.data.toList.drop 0 = dktX1_crosses_0 := by decide +kernel
theorem dX1_crosses_0 : decode cX1_crosses 0 = .ok (.aload_n 1, 1) := dk_43 (dk_at dksX1_crosses_0 0 rfl rfl)
theorem dX1_crosses_1 : decode cX1_crosses 1 = .ok (.getfield 127, 3) := dk_180 0 127 (dk_at dksX1_crosses_0 1 rfl rfl)
theorem dX1_crosses_4 : decode cX1_crosses 4 = .ok (.invokestatic 153, 3) := dk_184 0 153 (dk_at dksX1_crosses_0 4 rfl rfl)
theorem dX1_crosses_7 : decode cX1_crosses 7 = .ok (.aload_n 1, 1) := dk_43 (dk_at dksX1_crosses_0 7 rfl rfl)
theorem dX1_crosses_8 : decode cX1_crosses 8 = .ok (.getfield 134, 3) := dk_180 0 134 (dk_at dksX1_crosses_0 8 rfl rfl)
theorem dX1_crosses_11 : decode cX1_crosses 11 = .ok (.invokestatic 153, 3) := dk_184 0 153 (dk_at dksX1_crosses_0 11 rfl rfl)
theorem dX1_crosses_14 : decode cX1_crosses 14 = .ok (.aload_n 0, 1) := dk_42 (dk_at dksX1_crosses_0 14 rfl rfl)
theorem dX1_crosses_15 : decode cX1_crosses 15 = .ok (.invokevirtual 150, 3) := dk_182 0 150 (dk_at dksX1_crosses_0 15 rfl rfl)
theorem dX1_crosses_18 : decode cX1_crosses 18 = .ok (.aload_n 0, 1) := dk_42 (dk_at dksX1_crosses_0 18 rfl rfl)
theorem dX1_crosses_19 : decode cX1_crosses 19 = .ok (.aload_n 1, 1) := dk_43 (dk_at dksX1_crosses_0 19 rfl rfl)
theorem dX1_crosses_20 : decode cX1_crosses 20 = .ok (.invokevirtual 157, 3) := dk_182 0 157 (dk_at dksX1_crosses_0 20 rfl rfl)
theorem dX1_crosses_23 : decode cX1_crosses 23 = .ok (.ireturn, 1) := dk_172 (dk_at dksX1_crosses_0 23 rfl rfl)
abbrev cX1_mustLive : ByteArray := prog_2_method_14_code
def yX1_mustLive : MethodName := ⟨RX1, "mustLive", "(LTulipLines$Bulb;)V"⟩
def dkwX1_mustLive_0 : List UInt8 := [42, 180, 0, 92, 6, 42, 180, 0, 103, 184, 0, 113, 177]
abbrev dktX1_mustLive_0 : List UInt8 := dkwX1_mustLive_0 ++ []
theorem dksX1_mustLive_0 : cX1_mustLive.data.toList.drop 0 = dktX1_mustLive_0 := by decide +kernel
theorem dX1_mustLive_0 : decode cX1_mustLive 0 = .ok (.aload_n 0, 1) := dk_42 (dk_at dksX1_mustLive_0 0 rfl rfl)
theorem dX1_mustLive_1 : decode cX1_mustLive 1 = .ok (.getfield 92, 3) := dk_180 0 92 (dk_at dksX1_mustLive_0 1 rfl rfl)
theorem dX1_mustLive_4 : decode cX1_mustLive 4 = .ok (.iconst 3, 1) := dk_6 (dk_at dksX1_mustLive_0 4 rfl rfl)
theorem dX1_mustLive_5 : decode cX1_mustLive 5 = .ok (.aload_n 0, 1) := dk_42 (dk_at dksX1_mustLive_0 5 rfl rfl)
theorem dX1_mustLive_6 : decode cX1_mustLive 6 = .ok (.getfield 103, 3) := dk_180 0 103 (dk_at dksX1_mustLive_0 6 rfl rfl)
theorem dX1_mustLive_9 : decode cX1_mustLive 9 = .ok (.invokestatic 113, 3) := dk_184 0 113 (dk_at dksX1_mustLive_0 9 rfl rfl)
theorem dX1_mustLive_12 : decode cX1_mustLive 12 = .ok (.return_, 1) := dk_177 (dk_at dksX1_mustLive_0 12 rfl rfl)
abbrev cX1_breeds : ByteArray := prog_2_method_12_code
def yX1_breeds : MethodName := ⟨RX1, "breeds", "(LTulipLines$Crossing;)I"⟩
def dkwX1_breeds_4 : List UInt8 := [180, 0, 65, 21, 4, 29, 183, 0, 143, 182, 0, 146, 172]
abbrev dktX1_breeds_4 : List UInt8 := dkwX1_breeds_4 ++ []
def dkwX1_breeds_3 : List UInt8 := [180, 0, 12, 182, 0, 68, 28, 43, 180, 0, 127, 180, 0, 103, 43, 180, 0, 134, 180, 0, 103, 42]
abbrev dktX1_breeds_3 : List UInt8 := dkwX1_breeds_3 ++ dktX1_breeds_4
def dkwX1_breeds_2 : List UInt8 := [180, 0, 131, 43, 180, 0, 134, 180, 0, 131, 184, 0, 137, 96, 54, 4, 42, 187, 0, 43, 89, 42]
abbrev dktX1_breeds_2 : List UInt8 := dkwX1_breeds_2 ++ dktX1_breeds_3
def dkwX1_breeds_1 : List UInt8 := [62, 29, 153, 0, 15, 28, 4, 42, 182, 0, 124, 16, 8, 112, 120, 130, 61, 4, 43, 180, 0, 127]
abbrev dktX1_breeds_1 : List UInt8 := dkwX1_breeds_1 ++ dktX1_breeds_2
def dkwX1_breeds_0 : List UInt8 := [43, 182, 0, 120, 61, 42, 182, 0, 124, 16, 100, 112, 42, 180, 0, 62, 162, 0, 7, 4, 167, 0, 4, 3]
abbrev dktX1_breeds_0 : List UInt8 := dkwX1_breeds_0 ++ dktX1_breeds_1
theorem dksX1_breeds_0 : cX1_breeds.data.toList.drop 0 = dktX1_breeds_0 := by decide +kernel
theorem dksX1_breeds_1 : cX1_breeds.data.toList.drop 24 = dktX1_breeds_1 := dk_seg dksX1_breeds_0 24 rfl rfl
theorem dksX1_breeds_2 : cX1_breeds.data.toList.drop 46 = dktX1_breeds_2 := dk_seg dksX1_breeds_1 22 rfl rfl
theorem dksX1_breeds_3 : cX1_breeds.data.toList.drop 68 = dktX1_breeds_3 := dk_seg dksX1_breeds_2 22 rfl rfl
theorem dksX1_breeds_4 : cX1_breeds.data.toList.drop 90 = dktX1_breeds_4 := dk_seg dksX1_breeds_3 22 rfl rfl
theorem dX1_breeds_0 : decode cX1_breeds 0 = .ok (.aload_n 1, 1) := dk_43 (dk_at dksX1_breeds_0 0 rfl rfl)
theorem dX1_breeds_1 : decode cX1_breeds 1 = .ok (.invokevirtual 120, 3) := dk_182 0 120 (dk_at dksX1_breeds_0 1 rfl rfl)
theorem dX1_breeds_4 : decode cX1_breeds 4 = .ok (.istore_n 2, 1) := dk_61 (dk_at dksX1_breeds_0 4 rfl rfl)
theorem dX1_breeds_5 : decode cX1_breeds 5 = .ok (.aload_n 0, 1) := dk_42 (dk_at dksX1_breeds_0 5 rfl rfl)
theorem dX1_breeds_6 : decode cX1_breeds 6 = .ok (.invokevirtual 124, 3) := dk_182 0 124 (dk_at dksX1_breeds_0 6 rfl rfl)
theorem dX1_breeds_9 : decode cX1_breeds 9 = .ok (.bipush 100, 2) := dk_16 100 (dk_at dksX1_breeds_0 9 rfl rfl)
theorem dX1_breeds_11 : decode cX1_breeds 11 = .ok (.irem, 1) := dk_112 (dk_at dksX1_breeds_0 11 rfl rfl)
theorem dX1_breeds_12 : decode cX1_breeds 12 = .ok (.aload_n 0, 1) := dk_42 (dk_at dksX1_breeds_0 12 rfl rfl)
theorem dX1_breeds_13 : decode cX1_breeds 13 = .ok (.getfield 62, 3) := dk_180 0 62 (dk_at dksX1_breeds_0 13 rfl rfl)
theorem dX1_breeds_16 : decode cX1_breeds 16 = .ok (.if_icmp .ge 7, 3) := dk_162 0 7 (dk_at dksX1_breeds_0 16 rfl rfl)
theorem dX1_breeds_19 : decode cX1_breeds 19 = .ok (.iconst 1, 1) := dk_4 (dk_at dksX1_breeds_0 19 rfl rfl)
theorem dX1_breeds_20 : decode cX1_breeds 20 = .ok (.goto 4, 3) := dk_167 0 4 (dk_at dksX1_breeds_0 20 rfl rfl)
theorem dX1_breeds_23 : decode cX1_breeds 23 = .ok (.iconst 0, 1) := dk_3 (dk_at dksX1_breeds_0 23 rfl rfl)
theorem dX1_breeds_24 : decode cX1_breeds 24 = .ok (.istore_n 3, 1) := dk_62 (dk_at dksX1_breeds_1 0 rfl rfl)
theorem dX1_breeds_25 : decode cX1_breeds 25 = .ok (.iload_n 3, 1) := dk_29 (dk_at dksX1_breeds_1 1 rfl rfl)
theorem dX1_breeds_26 : decode cX1_breeds 26 = .ok (.ifCond .eq 15, 3) := dk_153 0 15 (dk_at dksX1_breeds_1 2 rfl rfl)
theorem dX1_breeds_29 : decode cX1_breeds 29 = .ok (.iload_n 2, 1) := dk_28 (dk_at dksX1_breeds_1 5 rfl rfl)
theorem dX1_breeds_30 : decode cX1_breeds 30 = .ok (.iconst 1, 1) := dk_4 (dk_at dksX1_breeds_1 6 rfl rfl)
theorem dX1_breeds_31 : decode cX1_breeds 31 = .ok (.aload_n 0, 1) := dk_42 (dk_at dksX1_breeds_1 7 rfl rfl)
theorem dX1_breeds_32 : decode cX1_breeds 32 = .ok (.invokevirtual 124, 3) := dk_182 0 124 (dk_at dksX1_breeds_1 8 rfl rfl)
theorem dX1_breeds_35 : decode cX1_breeds 35 = .ok (.bipush 8, 2) := dk_16 8 (dk_at dksX1_breeds_1 11 rfl rfl)
theorem dX1_breeds_37 : decode cX1_breeds 37 = .ok (.irem, 1) := dk_112 (dk_at dksX1_breeds_1 13 rfl rfl)
theorem dX1_breeds_38 : decode cX1_breeds 38 = .ok (.ishl, 1) := dk_120 (dk_at dksX1_breeds_1 14 rfl rfl)
theorem dX1_breeds_39 : decode cX1_breeds 39 = .ok (.ixor, 1) := dk_130 (dk_at dksX1_breeds_1 15 rfl rfl)
theorem dX1_breeds_40 : decode cX1_breeds 40 = .ok (.istore_n 2, 1) := dk_61 (dk_at dksX1_breeds_1 16 rfl rfl)
theorem dX1_breeds_41 : decode cX1_breeds 41 = .ok (.iconst 1, 1) := dk_4 (dk_at dksX1_breeds_1 17 rfl rfl)
theorem dX1_breeds_42 : decode cX1_breeds 42 = .ok (.aload_n 1, 1) := dk_43 (dk_at dksX1_breeds_1 18 rfl rfl)
theorem dX1_breeds_43 : decode cX1_breeds 43 = .ok (.getfield 127, 3) := dk_180 0 127 (dk_at dksX1_breeds_1 19 rfl rfl)
theorem dX1_breeds_46 : decode cX1_breeds 46 = .ok (.getfield 131, 3) := dk_180 0 131 (dk_at dksX1_breeds_2 0 rfl rfl)
theorem dX1_breeds_49 : decode cX1_breeds 49 = .ok (.aload_n 1, 1) := dk_43 (dk_at dksX1_breeds_2 3 rfl rfl)
theorem dX1_breeds_50 : decode cX1_breeds 50 = .ok (.getfield 134, 3) := dk_180 0 134 (dk_at dksX1_breeds_2 4 rfl rfl)
theorem dX1_breeds_53 : decode cX1_breeds 53 = .ok (.getfield 131, 3) := dk_180 0 131 (dk_at dksX1_breeds_2 7 rfl rfl)
theorem dX1_breeds_56 : decode cX1_breeds 56 = .ok (.invokestatic 137, 3) := dk_184 0 137 (dk_at dksX1_breeds_2 10 rfl rfl)
theorem dX1_breeds_59 : decode cX1_breeds 59 = .ok (.iadd, 1) := dk_96 (dk_at dksX1_breeds_2 13 rfl rfl)
theorem dX1_breeds_60 : decode cX1_breeds 60 = .ok (.istore 4, 2) := dk_54 4 (dk_at dksX1_breeds_2 14 rfl rfl)
theorem dX1_breeds_62 : decode cX1_breeds 62 = .ok (.aload_n 0, 1) := dk_42 (dk_at dksX1_breeds_2 16 rfl rfl)
theorem dX1_breeds_63 : decode cX1_breeds 63 = .ok (.new 43, 3) := dk_187 0 43 (dk_at dksX1_breeds_2 17 rfl rfl)
theorem dX1_breeds_66 : decode cX1_breeds 66 = .ok (.dup, 1) := dk_89 (dk_at dksX1_breeds_2 20 rfl rfl)
theorem dX1_breeds_67 : decode cX1_breeds 67 = .ok (.aload_n 0, 1) := dk_42 (dk_at dksX1_breeds_2 21 rfl rfl)
theorem dX1_breeds_68 : decode cX1_breeds 68 = .ok (.getfield 12, 3) := dk_180 0 12 (dk_at dksX1_breeds_3 0 rfl rfl)
theorem dX1_breeds_71 : decode cX1_breeds 71 = .ok (.invokevirtual 68, 3) := dk_182 0 68 (dk_at dksX1_breeds_3 3 rfl rfl)
theorem dX1_breeds_74 : decode cX1_breeds 74 = .ok (.iload_n 2, 1) := dk_28 (dk_at dksX1_breeds_3 6 rfl rfl)
theorem dX1_breeds_75 : decode cX1_breeds 75 = .ok (.aload_n 1, 1) := dk_43 (dk_at dksX1_breeds_3 7 rfl rfl)
theorem dX1_breeds_76 : decode cX1_breeds 76 = .ok (.getfield 127, 3) := dk_180 0 127 (dk_at dksX1_breeds_3 8 rfl rfl)
theorem dX1_breeds_79 : decode cX1_breeds 79 = .ok (.getfield 103, 3) := dk_180 0 103 (dk_at dksX1_breeds_3 11 rfl rfl)
theorem dX1_breeds_82 : decode cX1_breeds 82 = .ok (.aload_n 1, 1) := dk_43 (dk_at dksX1_breeds_3 14 rfl rfl)
theorem dX1_breeds_83 : decode cX1_breeds 83 = .ok (.getfield 134, 3) := dk_180 0 134 (dk_at dksX1_breeds_3 15 rfl rfl)
theorem dX1_breeds_86 : decode cX1_breeds 86 = .ok (.getfield 103, 3) := dk_180 0 103 (dk_at dksX1_breeds_3 18 rfl rfl)
theorem dX1_breeds_89 : decode cX1_breeds 89 = .ok (.aload_n 0, 1) := dk_42 (dk_at dksX1_breeds_3 21 rfl rfl)
theorem dX1_breeds_90 : decode cX1_breeds 90 = .ok (.getfield 65, 3) := dk_180 0 65 (dk_at dksX1_breeds_4 0 rfl rfl)
theorem dX1_breeds_93 : decode cX1_breeds 93 = .ok (.iload 4, 2) := dk_21 4 (dk_at dksX1_breeds_4 3 rfl rfl)
theorem dX1_breeds_95 : decode cX1_breeds 95 = .ok (.iload_n 3, 1) := dk_29 (dk_at dksX1_breeds_4 5 rfl rfl)
theorem dX1_breeds_96 : decode cX1_breeds 96 = .ok (.invokespecial 143, 3) := dk_183 0 143 (dk_at dksX1_breeds_4 6 rfl rfl)
theorem dX1_breeds_99 : decode cX1_breeds 99 = .ok (.invokevirtual 146, 3) := dk_182 0 146 (dk_at dksX1_breeds_4 9 rfl rfl)
theorem dX1_breeds_102 : decode cX1_breeds 102 = .ok (.ireturn, 1) := dk_172 (dk_at dksX1_breeds_4 12 rfl rfl)
abbrev cX1_drawn : ByteArray := prog_2_method_9_code
def yX1_drawn : MethodName := ⟨RX1, "drawn", "()I"⟩
def dkwX1_drawn_1 : List UInt8 := [172]
abbrev dktX1_drawn_1 : List UInt8 := dkwX1_drawn_1 ++ []
def dkwX1_drawn_0 : List UInt8 := [42, 17, 1, 165, 42, 180, 0, 22, 104, 17, 6, 127, 96, 17, 30, 195, 112, 181, 0, 22, 42, 180, 0, 22]
abbrev dktX1_drawn_0 : List UInt8 := dkwX1_drawn_0 ++ dktX1_drawn_1
theorem dksX1_drawn_0 : cX1_drawn.data.toList.drop 0 = dktX1_drawn_0 := by decide +kernel
theorem dksX1_drawn_1 : cX1_drawn.data.toList.drop 24 = dktX1_drawn_1 := dk_seg dksX1_drawn_0 24 rfl rfl
theorem dX1_drawn_0 : decode cX1_drawn 0 = .ok (.aload_n 0, 1) := dk_42 (dk_at dksX1_drawn_0 0 rfl rfl)
theorem dX1_drawn_1 : decode cX1_drawn 1 = .ok (.sipush 421, 3) := dk_17 1 165 (dk_at dksX1_drawn_0 1 rfl rfl)
theorem dX1_drawn_4 : decode cX1_drawn 4 = .ok (.aload_n 0, 1) := dk_42 (dk_at dksX1_drawn_0 4 rfl rfl)
theorem dX1_drawn_5 : decode cX1_drawn 5 = .ok (.getfield 22, 3) := dk_180 0 22 (dk_at dksX1_drawn_0 5 rfl rfl)
theorem dX1_drawn_8 : decode cX1_drawn 8 = .ok (.imul, 1) := dk_104 (dk_at dksX1_drawn_0 8 rfl rfl)
theorem dX1_drawn_9 : decode cX1_drawn 9 = .ok (.sipush 1663, 3) := dk_17 6 127 (dk_at dksX1_drawn_0 9 rfl rfl)
theorem dX1_drawn_12 : decode cX1_drawn 12 = .ok (.iadd, 1) := dk_96 (dk_at dksX1_drawn_0 12 rfl rfl)
theorem dX1_drawn_13 : decode cX1_drawn 13 = .ok (.sipush 7875, 3) := dk_17 30 195 (dk_at dksX1_drawn_0 13 rfl rfl)
theorem dX1_drawn_16 : decode cX1_drawn 16 = .ok (.irem, 1) := dk_112 (dk_at dksX1_drawn_0 16 rfl rfl)
theorem dX1_drawn_17 : decode cX1_drawn 17 = .ok (.putfield 22, 3) := dk_181 0 22 (dk_at dksX1_drawn_0 17 rfl rfl)
theorem dX1_drawn_20 : decode cX1_drawn 20 = .ok (.aload_n 0, 1) := dk_42 (dk_at dksX1_drawn_0 20 rfl rfl)
theorem dX1_drawn_21 : decode cX1_drawn 21 = .ok (.getfield 22, 3) := dk_180 0 22 (dk_at dksX1_drawn_0 21 rfl rfl)
theorem dX1_drawn_24 : decode cX1_drawn 24 = .ok (.ireturn, 1) := dk_172 (dk_at dksX1_drawn_1 0 rfl rfl)
abbrev cX1_dies : ByteArray := prog_2_method_16_code
def yX1_dies : MethodName := ⟨RX1, "dies", "(LTulipLines$Bulb;)I"⟩
def dkwX1_dies_0 : List UInt8 := [43, 184, 0, 153, 43, 4, 181, 0, 92, 42, 182, 0, 117, 172]
abbrev dktX1_dies_0 : List UInt8 := dkwX1_dies_0 ++ []
theorem dksX1_dies_0 : cX1_dies.data.toList.drop 0 = dktX1_dies_0 := by decide +kernel
theorem dX1_dies_0 : decode cX1_dies 0 = .ok (.aload_n 1, 1) := dk_43 (dk_at dksX1_dies_0 0 rfl rfl)
theorem dX1_dies_1 : decode cX1_dies 1 = .ok (.invokestatic 153, 3) := dk_184 0 153 (dk_at dksX1_dies_0 1 rfl rfl)
theorem dX1_dies_4 : decode cX1_dies 4 = .ok (.aload_n 1, 1) := dk_43 (dk_at dksX1_dies_0 4 rfl rfl)
theorem dX1_dies_5 : decode cX1_dies 5 = .ok (.iconst 1, 1) := dk_4 (dk_at dksX1_dies_0 5 rfl rfl)
theorem dX1_dies_6 : decode cX1_dies 6 = .ok (.putfield 92, 3) := dk_181 0 92 (dk_at dksX1_dies_0 6 rfl rfl)
theorem dX1_dies_9 : decode cX1_dies 9 = .ok (.aload_n 0, 1) := dk_42 (dk_at dksX1_dies_0 9 rfl rfl)
theorem dX1_dies_10 : decode cX1_dies 10 = .ok (.invokevirtual 117, 3) := dk_182 0 117 (dk_at dksX1_dies_0 10 rfl rfl)
theorem dX1_dies_13 : decode cX1_dies 13 = .ok (.ireturn, 1) := dk_172 (dk_at dksX1_dies_0 13 rfl rfl)
abbrev cX1_hasWanted : ByteArray := prog_2_method_18_code
def yX1_hasWanted : MethodName := ⟨RX1, "hasWanted", "(I)I"⟩
def dkwX1_hasWanted_0 : List UInt8 := [42, 180, 0, 59, 27, 184, 0, 161, 61, 42, 27, 181, 0, 59, 28, 172]
abbrev dktX1_hasWanted_0 : List UInt8 := dkwX1_hasWanted_0 ++ []
theorem dksX1_hasWanted_0 : cX1_hasWanted.data.toList.drop 0 = dktX1_hasWanted_0 := by decide +kernel
theorem dX1_hasWanted_0 : decode cX1_hasWanted 0 = .ok (.aload_n 0, 1) := dk_42 (dk_at dksX1_hasWanted_0 0 rfl rfl)
theorem dX1_hasWanted_1 : decode cX1_hasWanted 1 = .ok (.getfield 59, 3) := dk_180 0 59 (dk_at dksX1_hasWanted_0 1 rfl rfl)
theorem dX1_hasWanted_4 : decode cX1_hasWanted 4 = .ok (.iload_n 1, 1) := dk_27 (dk_at dksX1_hasWanted_0 4 rfl rfl)
theorem dX1_hasWanted_5 : decode cX1_hasWanted 5 = .ok (.invokestatic 161, 3) := dk_184 0 161 (dk_at dksX1_hasWanted_0 5 rfl rfl)
theorem dX1_hasWanted_8 : decode cX1_hasWanted 8 = .ok (.istore_n 2, 1) := dk_61 (dk_at dksX1_hasWanted_0 8 rfl rfl)
theorem dX1_hasWanted_9 : decode cX1_hasWanted 9 = .ok (.aload_n 0, 1) := dk_42 (dk_at dksX1_hasWanted_0 9 rfl rfl)
theorem dX1_hasWanted_10 : decode cX1_hasWanted 10 = .ok (.iload_n 1, 1) := dk_27 (dk_at dksX1_hasWanted_0 10 rfl rfl)
theorem dX1_hasWanted_11 : decode cX1_hasWanted 11 = .ok (.putfield 59, 3) := dk_181 0 59 (dk_at dksX1_hasWanted_0 11 rfl rfl)
theorem dX1_hasWanted_14 : decode cX1_hasWanted 14 = .ok (.iload_n 2, 1) := dk_28 (dk_at dksX1_hasWanted_0 14 rfl rfl)
theorem dX1_hasWanted_15 : decode cX1_hasWanted 15 = .ok (.ireturn, 1) := dk_172 (dk_at dksX1_hasWanted_0 15 rfl rfl)
abbrev cX1_told : ByteArray := prog_2_method_17_code
def yX1_told : MethodName := ⟨RX1, "told", "(II)I"⟩
def dkwX1_told_0 : List UInt8 := [26, 27, 160, 0, 7, 4, 167, 0, 4, 3, 7, 27, 184, 0, 113, 26, 172]
abbrev dktX1_told_0 : List UInt8 := dkwX1_told_0 ++ []
theorem dksX1_told_0 : cX1_told.data.toList.drop 0 = dktX1_told_0 := by decide +kernel
theorem dX1_told_0 : decode cX1_told 0 = .ok (.iload_n 0, 1) := dk_26 (dk_at dksX1_told_0 0 rfl rfl)
theorem dX1_told_1 : decode cX1_told 1 = .ok (.iload_n 1, 1) := dk_27 (dk_at dksX1_told_0 1 rfl rfl)
theorem dX1_told_2 : decode cX1_told 2 = .ok (.if_icmp .ne 7, 3) := dk_160 0 7 (dk_at dksX1_told_0 2 rfl rfl)
theorem dX1_told_5 : decode cX1_told 5 = .ok (.iconst 1, 1) := dk_4 (dk_at dksX1_told_0 5 rfl rfl)
theorem dX1_told_6 : decode cX1_told 6 = .ok (.goto 4, 3) := dk_167 0 4 (dk_at dksX1_told_0 6 rfl rfl)
theorem dX1_told_9 : decode cX1_told 9 = .ok (.iconst 0, 1) := dk_3 (dk_at dksX1_told_0 9 rfl rfl)
theorem dX1_told_10 : decode cX1_told 10 = .ok (.iconst 4, 1) := dk_7 (dk_at dksX1_told_0 10 rfl rfl)
theorem dX1_told_11 : decode cX1_told 11 = .ok (.iload_n 1, 1) := dk_27 (dk_at dksX1_told_0 11 rfl rfl)
theorem dX1_told_12 : decode cX1_told 12 = .ok (.invokestatic 113, 3) := dk_184 0 113 (dk_at dksX1_told_0 12 rfl rfl)
theorem dX1_told_15 : decode cX1_told 15 = .ok (.iload_n 0, 1) := dk_26 (dk_at dksX1_told_0 15 rfl rfl)
theorem dX1_told_16 : decode cX1_told 16 = .ok (.ireturn, 1) := dk_172 (dk_at dksX1_told_0 16 rfl rfl)
abbrev cX1_weighs : ByteArray := prog_2_method_19_code
def yX1_weighs : MethodName := ⟨RX1, "weighs", "(II)I"⟩
def dkwX1_weighs_0 : List UInt8 := [42, 180, 0, 18, 27, 46, 28, 184, 0, 161, 62, 42, 180, 0, 18, 27, 28, 79, 29, 172]
abbrev dktX1_weighs_0 : List UInt8 := dkwX1_weighs_0 ++ []
theorem dksX1_weighs_0 : cX1_weighs.data.toList.drop 0 = dktX1_weighs_0 := by decide +kernel
theorem dX1_weighs_0 : decode cX1_weighs 0 = .ok (.aload_n 0, 1) := dk_42 (dk_at dksX1_weighs_0 0 rfl rfl)
theorem dX1_weighs_1 : decode cX1_weighs 1 = .ok (.getfield 18, 3) := dk_180 0 18 (dk_at dksX1_weighs_0 1 rfl rfl)
theorem dX1_weighs_4 : decode cX1_weighs 4 = .ok (.iload_n 1, 1) := dk_27 (dk_at dksX1_weighs_0 4 rfl rfl)
theorem dX1_weighs_5 : decode cX1_weighs 5 = .ok (.iaload, 1) := dk_46 (dk_at dksX1_weighs_0 5 rfl rfl)
theorem dX1_weighs_6 : decode cX1_weighs 6 = .ok (.iload_n 2, 1) := dk_28 (dk_at dksX1_weighs_0 6 rfl rfl)
theorem dX1_weighs_7 : decode cX1_weighs 7 = .ok (.invokestatic 161, 3) := dk_184 0 161 (dk_at dksX1_weighs_0 7 rfl rfl)
theorem dX1_weighs_10 : decode cX1_weighs 10 = .ok (.istore_n 3, 1) := dk_62 (dk_at dksX1_weighs_0 10 rfl rfl)
theorem dX1_weighs_11 : decode cX1_weighs 11 = .ok (.aload_n 0, 1) := dk_42 (dk_at dksX1_weighs_0 11 rfl rfl)
theorem dX1_weighs_12 : decode cX1_weighs 12 = .ok (.getfield 18, 3) := dk_180 0 18 (dk_at dksX1_weighs_0 12 rfl rfl)
theorem dX1_weighs_15 : decode cX1_weighs 15 = .ok (.iload_n 1, 1) := dk_27 (dk_at dksX1_weighs_0 15 rfl rfl)
theorem dX1_weighs_16 : decode cX1_weighs 16 = .ok (.iload_n 2, 1) := dk_28 (dk_at dksX1_weighs_0 16 rfl rfl)
theorem dX1_weighs_17 : decode cX1_weighs 17 = .ok (.iastore, 1) := dk_79 (dk_at dksX1_weighs_0 17 rfl rfl)
theorem dX1_weighs_18 : decode cX1_weighs 18 = .ok (.iload_n 3, 1) := dk_29 (dk_at dksX1_weighs_0 18 rfl rfl)
theorem dX1_weighs_19 : decode cX1_weighs 19 = .ok (.ireturn, 1) := dk_172 (dk_at dksX1_weighs_0 19 rfl rfl)
abbrev cX1_hasLuck : ByteArray := prog_2_method_20_code
def yX1_hasLuck : MethodName := ⟨RX1, "hasLuck", "(I)I"⟩
def dkwX1_hasLuck_0 : List UInt8 := [42, 180, 0, 62, 27, 184, 0, 161, 61, 42, 27, 181, 0, 62, 28, 172]
abbrev dktX1_hasLuck_0 : List UInt8 := dkwX1_hasLuck_0 ++ []
theorem dksX1_hasLuck_0 : cX1_hasLuck.data.toList.drop 0 = dktX1_hasLuck_0 := by decide +kernel
theorem dX1_hasLuck_0 : decode cX1_hasLuck 0 = .ok (.aload_n 0, 1) := dk_42 (dk_at dksX1_hasLuck_0 0 rfl rfl)
theorem dX1_hasLuck_1 : decode cX1_hasLuck 1 = .ok (.getfield 62, 3) := dk_180 0 62 (dk_at dksX1_hasLuck_0 1 rfl rfl)
theorem dX1_hasLuck_4 : decode cX1_hasLuck 4 = .ok (.iload_n 1, 1) := dk_27 (dk_at dksX1_hasLuck_0 4 rfl rfl)
theorem dX1_hasLuck_5 : decode cX1_hasLuck 5 = .ok (.invokestatic 161, 3) := dk_184 0 161 (dk_at dksX1_hasLuck_0 5 rfl rfl)
theorem dX1_hasLuck_8 : decode cX1_hasLuck 8 = .ok (.istore_n 2, 1) := dk_61 (dk_at dksX1_hasLuck_0 8 rfl rfl)
theorem dX1_hasLuck_9 : decode cX1_hasLuck 9 = .ok (.aload_n 0, 1) := dk_42 (dk_at dksX1_hasLuck_0 9 rfl rfl)
theorem dX1_hasLuck_10 : decode cX1_hasLuck 10 = .ok (.iload_n 1, 1) := dk_27 (dk_at dksX1_hasLuck_0 10 rfl rfl)
theorem dX1_hasLuck_11 : decode cX1_hasLuck 11 = .ok (.putfield 62, 3) := dk_181 0 62 (dk_at dksX1_hasLuck_0 11 rfl rfl)
theorem dX1_hasLuck_14 : decode cX1_hasLuck 14 = .ok (.iload_n 2, 1) := dk_28 (dk_at dksX1_hasLuck_0 14 rfl rfl)
theorem dX1_hasLuck_15 : decode cX1_hasLuck 15 = .ok (.ireturn, 1) := dk_172 (dk_at dksX1_hasLuck_0 15 rfl rfl)
abbrev cX1_hasSeed : ByteArray := prog_2_method_21_code
def yX1_hasSeed : MethodName := ⟨RX1, "hasSeed", "(I)I"⟩
def dkwX1_hasSeed_0 : List UInt8 := [42, 180, 0, 22, 27, 184, 0, 161, 61, 42, 27, 181, 0, 22, 28, 172]
abbrev dktX1_hasSeed_0 : List UInt8 := dkwX1_hasSeed_0 ++ []
theorem dksX1_hasSeed_0 : cX1_hasSeed.data.toList.drop 0 = dktX1_hasSeed_0 := by decide +kernel
theorem dX1_hasSeed_0 : decode cX1_hasSeed 0 = .ok (.aload_n 0, 1) := dk_42 (dk_at dksX1_hasSeed_0 0 rfl rfl)
theorem dX1_hasSeed_1 : decode cX1_hasSeed 1 = .ok (.getfield 22, 3) := dk_180 0 22 (dk_at dksX1_hasSeed_0 1 rfl rfl)
theorem dX1_hasSeed_4 : decode cX1_hasSeed 4 = .ok (.iload_n 1, 1) := dk_27 (dk_at dksX1_hasSeed_0 4 rfl rfl)
theorem dX1_hasSeed_5 : decode cX1_hasSeed 5 = .ok (.invokestatic 161, 3) := dk_184 0 161 (dk_at dksX1_hasSeed_0 5 rfl rfl)
theorem dX1_hasSeed_8 : decode cX1_hasSeed 8 = .ok (.istore_n 2, 1) := dk_61 (dk_at dksX1_hasSeed_0 8 rfl rfl)
theorem dX1_hasSeed_9 : decode cX1_hasSeed 9 = .ok (.aload_n 0, 1) := dk_42 (dk_at dksX1_hasSeed_0 9 rfl rfl)
theorem dX1_hasSeed_10 : decode cX1_hasSeed 10 = .ok (.iload_n 1, 1) := dk_27 (dk_at dksX1_hasSeed_0 10 rfl rfl)
theorem dX1_hasSeed_11 : decode cX1_hasSeed 11 = .ok (.putfield 22, 3) := dk_181 0 22 (dk_at dksX1_hasSeed_0 11 rfl rfl)
theorem dX1_hasSeed_14 : decode cX1_hasSeed 14 = .ok (.iload_n 2, 1) := dk_28 (dk_at dksX1_hasSeed_0 14 rfl rfl)
theorem dX1_hasSeed_15 : decode cX1_hasSeed 15 = .ok (.ireturn, 1) := dk_172 (dk_at dksX1_hasSeed_0 15 rfl rfl)
abbrev cX1_hasRoom : ByteArray := prog_2_method_22_code
def yX1_hasRoom : MethodName := ⟨RX1, "hasRoom", "(I)I"⟩
def dkwX1_hasRoom_0 : List UInt8 := [42, 180, 0, 26, 27, 184, 0, 161, 61, 42, 27, 181, 0, 26, 28, 172]
abbrev dktX1_hasRoom_0 : List UInt8 := dkwX1_hasRoom_0 ++ []
theorem dksX1_hasRoom_0 : cX1_hasRoom.data.toList.drop 0 = dktX1_hasRoom_0 := by decide +kernel
theorem dX1_hasRoom_0 : decode cX1_hasRoom 0 = .ok (.aload_n 0, 1) := dk_42 (dk_at dksX1_hasRoom_0 0 rfl rfl)
theorem dX1_hasRoom_1 : decode cX1_hasRoom 1 = .ok (.getfield 26, 3) := dk_180 0 26 (dk_at dksX1_hasRoom_0 1 rfl rfl)
theorem dX1_hasRoom_4 : decode cX1_hasRoom 4 = .ok (.iload_n 1, 1) := dk_27 (dk_at dksX1_hasRoom_0 4 rfl rfl)
theorem dX1_hasRoom_5 : decode cX1_hasRoom 5 = .ok (.invokestatic 161, 3) := dk_184 0 161 (dk_at dksX1_hasRoom_0 5 rfl rfl)
theorem dX1_hasRoom_8 : decode cX1_hasRoom 8 = .ok (.istore_n 2, 1) := dk_61 (dk_at dksX1_hasRoom_0 8 rfl rfl)
theorem dX1_hasRoom_9 : decode cX1_hasRoom 9 = .ok (.aload_n 0, 1) := dk_42 (dk_at dksX1_hasRoom_0 9 rfl rfl)
theorem dX1_hasRoom_10 : decode cX1_hasRoom 10 = .ok (.iload_n 1, 1) := dk_27 (dk_at dksX1_hasRoom_0 10 rfl rfl)
theorem dX1_hasRoom_11 : decode cX1_hasRoom 11 = .ok (.putfield 26, 3) := dk_181 0 26 (dk_at dksX1_hasRoom_0 11 rfl rfl)
theorem dX1_hasRoom_14 : decode cX1_hasRoom 14 = .ok (.iload_n 2, 1) := dk_28 (dk_at dksX1_hasRoom_0 14 rfl rfl)
theorem dX1_hasRoom_15 : decode cX1_hasRoom 15 = .ok (.ireturn, 1) := dk_172 (dk_at dksX1_hasRoom_0 15 rfl rfl)
abbrev cX1_passes : ByteArray := prog_2_method_24_code
def yX1_passes : MethodName := ⟨RX1, "passes", "(I)I"⟩
def dkwX1_passes_0 : List UInt8 := [3, 61, 3, 62, 29, 27, 162, 0, 16, 28, 42, 182, 0, 171, 96, 61, 132, 3, 1, 167, 255, 241, 28, 172]
abbrev dktX1_passes_0 : List UInt8 := dkwX1_passes_0 ++ []
theorem dksX1_passes_0 : cX1_passes.data.toList.drop 0 = dktX1_passes_0 := by decide +kernel
theorem dX1_passes_0 : decode cX1_passes 0 = .ok (.iconst 0, 1) := dk_3 (dk_at dksX1_passes_0 0 rfl rfl)
theorem dX1_passes_1 : decode cX1_passes 1 = .ok (.istore_n 2, 1) := dk_61 (dk_at dksX1_passes_0 1 rfl rfl)
theorem dX1_passes_2 : decode cX1_passes 2 = .ok (.iconst 0, 1) := dk_3 (dk_at dksX1_passes_0 2 rfl rfl)
theorem dX1_passes_3 : decode cX1_passes 3 = .ok (.istore_n 3, 1) := dk_62 (dk_at dksX1_passes_0 3 rfl rfl)
theorem dX1_passes_4 : decode cX1_passes 4 = .ok (.iload_n 3, 1) := dk_29 (dk_at dksX1_passes_0 4 rfl rfl)
theorem dX1_passes_5 : decode cX1_passes 5 = .ok (.iload_n 1, 1) := dk_27 (dk_at dksX1_passes_0 5 rfl rfl)
theorem dX1_passes_6 : decode cX1_passes 6 = .ok (.if_icmp .ge 16, 3) := dk_162 0 16 (dk_at dksX1_passes_0 6 rfl rfl)
theorem dX1_passes_9 : decode cX1_passes 9 = .ok (.iload_n 2, 1) := dk_28 (dk_at dksX1_passes_0 9 rfl rfl)
theorem dX1_passes_10 : decode cX1_passes 10 = .ok (.aload_n 0, 1) := dk_42 (dk_at dksX1_passes_0 10 rfl rfl)
theorem dX1_passes_11 : decode cX1_passes 11 = .ok (.invokevirtual 171, 3) := dk_182 0 171 (dk_at dksX1_passes_0 11 rfl rfl)
theorem dX1_passes_14 : decode cX1_passes 14 = .ok (.iadd, 1) := dk_96 (dk_at dksX1_passes_0 14 rfl rfl)
theorem dX1_passes_15 : decode cX1_passes 15 = .ok (.istore_n 2, 1) := dk_61 (dk_at dksX1_passes_0 15 rfl rfl)
theorem dX1_passes_16 : decode cX1_passes 16 = .ok (.iinc 3 1, 3) := dk_132 3 1 (dk_at dksX1_passes_0 16 rfl rfl)
theorem dX1_passes_19 : decode cX1_passes 19 = .ok (.goto (-15), 3) := dk_167 255 241 (dk_at dksX1_passes_0 19 rfl rfl)
theorem dX1_passes_22 : decode cX1_passes 22 = .ok (.iload_n 2, 1) := dk_28 (dk_at dksX1_passes_0 22 rfl rfl)
theorem dX1_passes_23 : decode cX1_passes 23 = .ok (.ireturn, 1) := dk_172 (dk_at dksX1_passes_0 23 rfl rfl)
abbrev cX1_yearGoesBy : ByteArray := prog_2_method_23_code
def yX1_yearGoesBy : MethodName := ⟨RX1, "yearGoesBy", "()I"⟩
def dkwX1_yearGoesBy_5 : List UInt8 := [181, 0, 65, 28, 172]
abbrev dktX1_yearGoesBy_5 : List UInt8 := dkwX1_yearGoesBy_5 ++ []
def dkwX1_yearGoesBy_4 : List UInt8 := [182, 0, 84, 192, 0, 43, 4, 181, 0, 92, 132, 3, 1, 167, 255, 233, 42, 89, 180, 0, 65, 4, 96]
abbrev dktX1_yearGoesBy_4 : List UInt8 := dkwX1_yearGoesBy_4 ++ dktX1_yearGoesBy_5
def dkwX1_yearGoesBy_3 : List UInt8 := [54, 4, 4, 61, 42, 182, 0, 164, 76, 42, 180, 0, 26, 62, 29, 43, 182, 0, 68, 162, 0, 21, 43, 29]
abbrev dktX1_yearGoesBy_3 : List UInt8 := dkwX1_yearGoesBy_3 ++ dktX1_yearGoesBy_4
def dkwX1_yearGoesBy_2 : List UInt8 := [89, 43, 3, 182, 0, 84, 192, 0, 43, 43, 4, 182, 0, 84, 192, 0, 43, 29, 183, 0, 168, 182, 0, 157]
abbrev dktX1_yearGoesBy_2 : List UInt8 := dkwX1_yearGoesBy_2 ++ dktX1_yearGoesBy_3
def dkwX1_yearGoesBy_1 : List UInt8 := [42, 180, 0, 12, 182, 0, 68, 16, 40, 162, 0, 43, 42, 182, 0, 124, 16, 9, 112, 62, 42, 187, 0, 121]
abbrev dktX1_yearGoesBy_1 : List UInt8 := dkwX1_yearGoesBy_1 ++ dktX1_yearGoesBy_2
def dkwX1_yearGoesBy_0 : List UInt8 := [42, 182, 0, 164, 76, 3, 61, 43, 182, 0, 68, 5, 161, 0, 64, 43, 182, 0, 68, 16, 12, 162, 0, 55]
abbrev dktX1_yearGoesBy_0 : List UInt8 := dkwX1_yearGoesBy_0 ++ dktX1_yearGoesBy_1
theorem dksX1_yearGoesBy_0 : cX1_yearGoesBy.data.toList.drop 0 = dktX1_yearGoesBy_0 := by decide +kernel
theorem dksX1_yearGoesBy_1 : cX1_yearGoesBy.data.toList.drop 24 = dktX1_yearGoesBy_1 := dk_seg dksX1_yearGoesBy_0 24 rfl rfl
theorem dksX1_yearGoesBy_2 : cX1_yearGoesBy.data.toList.drop 48 = dktX1_yearGoesBy_2 := dk_seg dksX1_yearGoesBy_1 24 rfl rfl
theorem dksX1_yearGoesBy_3 : cX1_yearGoesBy.data.toList.drop 72 = dktX1_yearGoesBy_3 := dk_seg dksX1_yearGoesBy_2 24 rfl rfl
theorem dksX1_yearGoesBy_4 : cX1_yearGoesBy.data.toList.drop 96 = dktX1_yearGoesBy_4 := dk_seg dksX1_yearGoesBy_3 24 rfl rfl
theorem dksX1_yearGoesBy_5 : cX1_yearGoesBy.data.toList.drop 119 = dktX1_yearGoesBy_5 := dk_seg dksX1_yearGoesBy_4 23 rfl rfl
theorem dX1_yearGoesBy_0 : decode cX1_yearGoesBy 0 = .ok (.aload_n 0, 1) := dk_42 (dk_at dksX1_yearGoesBy_0 0 rfl rfl)
theorem dX1_yearGoesBy_1 : decode cX1_yearGoesBy 1 = .ok (.invokevirtual 164, 3) := dk_182 0 164 (dk_at dksX1_yearGoesBy_0 1 rfl rfl)
theorem dX1_yearGoesBy_4 : decode cX1_yearGoesBy 4 = .ok (.astore_n 1, 1) := dk_76 (dk_at dksX1_yearGoesBy_0 4 rfl rfl)
theorem dX1_yearGoesBy_5 : decode cX1_yearGoesBy 5 = .ok (.iconst 0, 1) := dk_3 (dk_at dksX1_yearGoesBy_0 5 rfl rfl)
theorem dX1_yearGoesBy_6 : decode cX1_yearGoesBy 6 = .ok (.istore_n 2, 1) := dk_61 (dk_at dksX1_yearGoesBy_0 6 rfl rfl)
theorem dX1_yearGoesBy_7 : decode cX1_yearGoesBy 7 = .ok (.aload_n 1, 1) := dk_43 (dk_at dksX1_yearGoesBy_0 7 rfl rfl)
theorem dX1_yearGoesBy_8 : decode cX1_yearGoesBy 8 = .ok (.invokevirtual 68, 3) := dk_182 0 68 (dk_at dksX1_yearGoesBy_0 8 rfl rfl)
theorem dX1_yearGoesBy_11 : decode cX1_yearGoesBy 11 = .ok (.iconst 2, 1) := dk_5 (dk_at dksX1_yearGoesBy_0 11 rfl rfl)
theorem dX1_yearGoesBy_12 : decode cX1_yearGoesBy 12 = .ok (.if_icmp .lt 64, 3) := dk_161 0 64 (dk_at dksX1_yearGoesBy_0 12 rfl rfl)
theorem dX1_yearGoesBy_15 : decode cX1_yearGoesBy 15 = .ok (.aload_n 1, 1) := dk_43 (dk_at dksX1_yearGoesBy_0 15 rfl rfl)
theorem dX1_yearGoesBy_16 : decode cX1_yearGoesBy 16 = .ok (.invokevirtual 68, 3) := dk_182 0 68 (dk_at dksX1_yearGoesBy_0 16 rfl rfl)
theorem dX1_yearGoesBy_19 : decode cX1_yearGoesBy 19 = .ok (.bipush 12, 2) := dk_16 12 (dk_at dksX1_yearGoesBy_0 19 rfl rfl)
theorem dX1_yearGoesBy_21 : decode cX1_yearGoesBy 21 = .ok (.if_icmp .ge 55, 3) := dk_162 0 55 (dk_at dksX1_yearGoesBy_0 21 rfl rfl)
theorem dX1_yearGoesBy_24 : decode cX1_yearGoesBy 24 = .ok (.aload_n 0, 1) := dk_42 (dk_at dksX1_yearGoesBy_1 0 rfl rfl)
theorem dX1_yearGoesBy_25 : decode cX1_yearGoesBy 25 = .ok (.getfield 12, 3) := dk_180 0 12 (dk_at dksX1_yearGoesBy_1 1 rfl rfl)
theorem dX1_yearGoesBy_28 : decode cX1_yearGoesBy 28 = .ok (.invokevirtual 68, 3) := dk_182 0 68 (dk_at dksX1_yearGoesBy_1 4 rfl rfl)
theorem dX1_yearGoesBy_31 : decode cX1_yearGoesBy 31 = .ok (.bipush 40, 2) := dk_16 40 (dk_at dksX1_yearGoesBy_1 7 rfl rfl)
theorem dX1_yearGoesBy_33 : decode cX1_yearGoesBy 33 = .ok (.if_icmp .ge 43, 3) := dk_162 0 43 (dk_at dksX1_yearGoesBy_1 9 rfl rfl)
theorem dX1_yearGoesBy_36 : decode cX1_yearGoesBy 36 = .ok (.aload_n 0, 1) := dk_42 (dk_at dksX1_yearGoesBy_1 12 rfl rfl)
theorem dX1_yearGoesBy_37 : decode cX1_yearGoesBy 37 = .ok (.invokevirtual 124, 3) := dk_182 0 124 (dk_at dksX1_yearGoesBy_1 13 rfl rfl)
theorem dX1_yearGoesBy_40 : decode cX1_yearGoesBy 40 = .ok (.bipush 9, 2) := dk_16 9 (dk_at dksX1_yearGoesBy_1 16 rfl rfl)
theorem dX1_yearGoesBy_42 : decode cX1_yearGoesBy 42 = .ok (.irem, 1) := dk_112 (dk_at dksX1_yearGoesBy_1 18 rfl rfl)
theorem dX1_yearGoesBy_43 : decode cX1_yearGoesBy 43 = .ok (.istore_n 3, 1) := dk_62 (dk_at dksX1_yearGoesBy_1 19 rfl rfl)
theorem dX1_yearGoesBy_44 : decode cX1_yearGoesBy 44 = .ok (.aload_n 0, 1) := dk_42 (dk_at dksX1_yearGoesBy_1 20 rfl rfl)
theorem dX1_yearGoesBy_45 : decode cX1_yearGoesBy 45 = .ok (.new 121, 3) := dk_187 0 121 (dk_at dksX1_yearGoesBy_1 21 rfl rfl)
theorem dX1_yearGoesBy_48 : decode cX1_yearGoesBy 48 = .ok (.dup, 1) := dk_89 (dk_at dksX1_yearGoesBy_2 0 rfl rfl)
theorem dX1_yearGoesBy_49 : decode cX1_yearGoesBy 49 = .ok (.aload_n 1, 1) := dk_43 (dk_at dksX1_yearGoesBy_2 1 rfl rfl)
theorem dX1_yearGoesBy_50 : decode cX1_yearGoesBy 50 = .ok (.iconst 0, 1) := dk_3 (dk_at dksX1_yearGoesBy_2 2 rfl rfl)
theorem dX1_yearGoesBy_51 : decode cX1_yearGoesBy 51 = .ok (.invokevirtual 84, 3) := dk_182 0 84 (dk_at dksX1_yearGoesBy_2 3 rfl rfl)
theorem dX1_yearGoesBy_54 : decode cX1_yearGoesBy 54 = .ok (.checkcast 43, 3) := dk_192 0 43 (dk_at dksX1_yearGoesBy_2 6 rfl rfl)
theorem dX1_yearGoesBy_57 : decode cX1_yearGoesBy 57 = .ok (.aload_n 1, 1) := dk_43 (dk_at dksX1_yearGoesBy_2 9 rfl rfl)
theorem dX1_yearGoesBy_58 : decode cX1_yearGoesBy 58 = .ok (.iconst 1, 1) := dk_4 (dk_at dksX1_yearGoesBy_2 10 rfl rfl)
theorem dX1_yearGoesBy_59 : decode cX1_yearGoesBy 59 = .ok (.invokevirtual 84, 3) := dk_182 0 84 (dk_at dksX1_yearGoesBy_2 11 rfl rfl)
theorem dX1_yearGoesBy_62 : decode cX1_yearGoesBy 62 = .ok (.checkcast 43, 3) := dk_192 0 43 (dk_at dksX1_yearGoesBy_2 14 rfl rfl)
theorem dX1_yearGoesBy_65 : decode cX1_yearGoesBy 65 = .ok (.iload_n 3, 1) := dk_29 (dk_at dksX1_yearGoesBy_2 17 rfl rfl)
theorem dX1_yearGoesBy_66 : decode cX1_yearGoesBy 66 = .ok (.invokespecial 168, 3) := dk_183 0 168 (dk_at dksX1_yearGoesBy_2 18 rfl rfl)
theorem dX1_yearGoesBy_69 : decode cX1_yearGoesBy 69 = .ok (.invokevirtual 157, 3) := dk_182 0 157 (dk_at dksX1_yearGoesBy_2 21 rfl rfl)
theorem dX1_yearGoesBy_72 : decode cX1_yearGoesBy 72 = .ok (.istore 4, 2) := dk_54 4 (dk_at dksX1_yearGoesBy_3 0 rfl rfl)
theorem dX1_yearGoesBy_74 : decode cX1_yearGoesBy 74 = .ok (.iconst 1, 1) := dk_4 (dk_at dksX1_yearGoesBy_3 2 rfl rfl)
theorem dX1_yearGoesBy_75 : decode cX1_yearGoesBy 75 = .ok (.istore_n 2, 1) := dk_61 (dk_at dksX1_yearGoesBy_3 3 rfl rfl)
theorem dX1_yearGoesBy_76 : decode cX1_yearGoesBy 76 = .ok (.aload_n 0, 1) := dk_42 (dk_at dksX1_yearGoesBy_3 4 rfl rfl)
theorem dX1_yearGoesBy_77 : decode cX1_yearGoesBy 77 = .ok (.invokevirtual 164, 3) := dk_182 0 164 (dk_at dksX1_yearGoesBy_3 5 rfl rfl)
theorem dX1_yearGoesBy_80 : decode cX1_yearGoesBy 80 = .ok (.astore_n 1, 1) := dk_76 (dk_at dksX1_yearGoesBy_3 8 rfl rfl)
theorem dX1_yearGoesBy_81 : decode cX1_yearGoesBy 81 = .ok (.aload_n 0, 1) := dk_42 (dk_at dksX1_yearGoesBy_3 9 rfl rfl)
theorem dX1_yearGoesBy_82 : decode cX1_yearGoesBy 82 = .ok (.getfield 26, 3) := dk_180 0 26 (dk_at dksX1_yearGoesBy_3 10 rfl rfl)
theorem dX1_yearGoesBy_85 : decode cX1_yearGoesBy 85 = .ok (.istore_n 3, 1) := dk_62 (dk_at dksX1_yearGoesBy_3 13 rfl rfl)
theorem dX1_yearGoesBy_86 : decode cX1_yearGoesBy 86 = .ok (.iload_n 3, 1) := dk_29 (dk_at dksX1_yearGoesBy_3 14 rfl rfl)
theorem dX1_yearGoesBy_87 : decode cX1_yearGoesBy 87 = .ok (.aload_n 1, 1) := dk_43 (dk_at dksX1_yearGoesBy_3 15 rfl rfl)
theorem dX1_yearGoesBy_88 : decode cX1_yearGoesBy 88 = .ok (.invokevirtual 68, 3) := dk_182 0 68 (dk_at dksX1_yearGoesBy_3 16 rfl rfl)
theorem dX1_yearGoesBy_91 : decode cX1_yearGoesBy 91 = .ok (.if_icmp .ge 21, 3) := dk_162 0 21 (dk_at dksX1_yearGoesBy_3 19 rfl rfl)
theorem dX1_yearGoesBy_94 : decode cX1_yearGoesBy 94 = .ok (.aload_n 1, 1) := dk_43 (dk_at dksX1_yearGoesBy_3 22 rfl rfl)
theorem dX1_yearGoesBy_95 : decode cX1_yearGoesBy 95 = .ok (.iload_n 3, 1) := dk_29 (dk_at dksX1_yearGoesBy_3 23 rfl rfl)
theorem dX1_yearGoesBy_96 : decode cX1_yearGoesBy 96 = .ok (.invokevirtual 84, 3) := dk_182 0 84 (dk_at dksX1_yearGoesBy_4 0 rfl rfl)
theorem dX1_yearGoesBy_99 : decode cX1_yearGoesBy 99 = .ok (.checkcast 43, 3) := dk_192 0 43 (dk_at dksX1_yearGoesBy_4 3 rfl rfl)
theorem dX1_yearGoesBy_102 : decode cX1_yearGoesBy 102 = .ok (.iconst 1, 1) := dk_4 (dk_at dksX1_yearGoesBy_4 6 rfl rfl)
theorem dX1_yearGoesBy_103 : decode cX1_yearGoesBy 103 = .ok (.putfield 92, 3) := dk_181 0 92 (dk_at dksX1_yearGoesBy_4 7 rfl rfl)
theorem dX1_yearGoesBy_106 : decode cX1_yearGoesBy 106 = .ok (.iinc 3 1, 3) := dk_132 3 1 (dk_at dksX1_yearGoesBy_4 10 rfl rfl)
theorem dX1_yearGoesBy_109 : decode cX1_yearGoesBy 109 = .ok (.goto (-23), 3) := dk_167 255 233 (dk_at dksX1_yearGoesBy_4 13 rfl rfl)
theorem dX1_yearGoesBy_112 : decode cX1_yearGoesBy 112 = .ok (.aload_n 0, 1) := dk_42 (dk_at dksX1_yearGoesBy_4 16 rfl rfl)
theorem dX1_yearGoesBy_113 : decode cX1_yearGoesBy 113 = .ok (.dup, 1) := dk_89 (dk_at dksX1_yearGoesBy_4 17 rfl rfl)
theorem dX1_yearGoesBy_114 : decode cX1_yearGoesBy 114 = .ok (.getfield 65, 3) := dk_180 0 65 (dk_at dksX1_yearGoesBy_4 18 rfl rfl)
theorem dX1_yearGoesBy_117 : decode cX1_yearGoesBy 117 = .ok (.iconst 1, 1) := dk_4 (dk_at dksX1_yearGoesBy_4 21 rfl rfl)
theorem dX1_yearGoesBy_118 : decode cX1_yearGoesBy 118 = .ok (.iadd, 1) := dk_96 (dk_at dksX1_yearGoesBy_4 22 rfl rfl)
theorem dX1_yearGoesBy_119 : decode cX1_yearGoesBy 119 = .ok (.putfield 65, 3) := dk_181 0 65 (dk_at dksX1_yearGoesBy_5 0 rfl rfl)
theorem dX1_yearGoesBy_122 : decode cX1_yearGoesBy 122 = .ok (.iload_n 2, 1) := dk_28 (dk_at dksX1_yearGoesBy_5 3 rfl rfl)
theorem dX1_yearGoesBy_123 : decode cX1_yearGoesBy 123 = .ok (.ireturn, 1) := dk_172 (dk_at dksX1_yearGoesBy_5 4 rfl rfl)
abbrev cX1_order : ByteArray := prog_2_method_8_code
def yX1_order : MethodName := ⟨RX1, "order", "()Ljava/util/ArrayList;"⟩
def dkwX1_order_3 : List UInt8 := [182, 0, 106, 153, 0, 9, 132, 4, 1, 167, 255, 227, 43, 21, 4, 45, 182, 0, 110, 167, 255, 185, 43, 176]
abbrev dktX1_order_3 : List UInt8 := dkwX1_order_3 ++ []
def dkwX1_order_2 : List UInt8 := [54, 4, 21, 4, 43, 182, 0, 68, 162, 0, 26, 42, 43, 21, 4, 182, 0, 84, 192, 0, 43, 45]
abbrev dktX1_order_2 : List UInt8 := dkwX1_order_2 ++ dktX1_order_3
def dkwX1_order_1 : List UInt8 := [153, 0, 68, 44, 185, 0, 39, 1, 0, 192, 0, 43, 78, 45, 180, 0, 92, 153, 0, 6, 167, 255, 230, 3]
abbrev dktX1_order_1 : List UInt8 := dkwX1_order_1 ++ dktX1_order_2
def dkwX1_order_0 : List UInt8 := [187, 0, 9, 89, 183, 0, 11, 76, 42, 180, 0, 12, 182, 0, 29, 77, 44, 185, 0, 33, 1, 0]
abbrev dktX1_order_0 : List UInt8 := dkwX1_order_0 ++ dktX1_order_1
theorem dksX1_order_0 : cX1_order.data.toList.drop 0 = dktX1_order_0 := by decide +kernel
theorem dksX1_order_1 : cX1_order.data.toList.drop 22 = dktX1_order_1 := dk_seg dksX1_order_0 22 rfl rfl
theorem dksX1_order_2 : cX1_order.data.toList.drop 46 = dktX1_order_2 := dk_seg dksX1_order_1 24 rfl rfl
theorem dksX1_order_3 : cX1_order.data.toList.drop 68 = dktX1_order_3 := dk_seg dksX1_order_2 22 rfl rfl
theorem dX1_order_0 : decode cX1_order 0 = .ok (.new 9, 3) := dk_187 0 9 (dk_at dksX1_order_0 0 rfl rfl)
theorem dX1_order_3 : decode cX1_order 3 = .ok (.dup, 1) := dk_89 (dk_at dksX1_order_0 3 rfl rfl)
theorem dX1_order_4 : decode cX1_order 4 = .ok (.invokespecial 11, 3) := dk_183 0 11 (dk_at dksX1_order_0 4 rfl rfl)
theorem dX1_order_7 : decode cX1_order 7 = .ok (.astore_n 1, 1) := dk_76 (dk_at dksX1_order_0 7 rfl rfl)
theorem dX1_order_8 : decode cX1_order 8 = .ok (.aload_n 0, 1) := dk_42 (dk_at dksX1_order_0 8 rfl rfl)
theorem dX1_order_9 : decode cX1_order 9 = .ok (.getfield 12, 3) := dk_180 0 12 (dk_at dksX1_order_0 9 rfl rfl)
theorem dX1_order_12 : decode cX1_order 12 = .ok (.invokevirtual 29, 3) := dk_182 0 29 (dk_at dksX1_order_0 12 rfl rfl)
theorem dX1_order_15 : decode cX1_order 15 = .ok (.astore_n 2, 1) := dk_77 (dk_at dksX1_order_0 15 rfl rfl)
theorem dX1_order_16 : decode cX1_order 16 = .ok (.aload_n 2, 1) := dk_44 (dk_at dksX1_order_0 16 rfl rfl)
theorem dX1_order_17 : decode cX1_order 17 = .ok (.invokeinterface 33 1, 5) := by decide +kernel
theorem dX1_order_22 : decode cX1_order 22 = .ok (.ifCond .eq 68, 3) := dk_153 0 68 (dk_at dksX1_order_1 0 rfl rfl)
theorem dX1_order_25 : decode cX1_order 25 = .ok (.aload_n 2, 1) := dk_44 (dk_at dksX1_order_1 3 rfl rfl)
theorem dX1_order_26 : decode cX1_order 26 = .ok (.invokeinterface 39 1, 5) := by decide +kernel
theorem dX1_order_31 : decode cX1_order 31 = .ok (.checkcast 43, 3) := dk_192 0 43 (dk_at dksX1_order_1 9 rfl rfl)
theorem dX1_order_34 : decode cX1_order 34 = .ok (.astore_n 3, 1) := dk_78 (dk_at dksX1_order_1 12 rfl rfl)
theorem dX1_order_35 : decode cX1_order 35 = .ok (.aload_n 3, 1) := dk_45 (dk_at dksX1_order_1 13 rfl rfl)
theorem dX1_order_36 : decode cX1_order 36 = .ok (.getfield 92, 3) := dk_180 0 92 (dk_at dksX1_order_1 14 rfl rfl)
theorem dX1_order_39 : decode cX1_order 39 = .ok (.ifCond .eq 6, 3) := dk_153 0 6 (dk_at dksX1_order_1 17 rfl rfl)
theorem dX1_order_42 : decode cX1_order 42 = .ok (.goto (-26), 3) := dk_167 255 230 (dk_at dksX1_order_1 20 rfl rfl)
theorem dX1_order_45 : decode cX1_order 45 = .ok (.iconst 0, 1) := dk_3 (dk_at dksX1_order_1 23 rfl rfl)
theorem dX1_order_46 : decode cX1_order 46 = .ok (.istore 4, 2) := dk_54 4 (dk_at dksX1_order_2 0 rfl rfl)
theorem dX1_order_48 : decode cX1_order 48 = .ok (.iload 4, 2) := dk_21 4 (dk_at dksX1_order_2 2 rfl rfl)
theorem dX1_order_50 : decode cX1_order 50 = .ok (.aload_n 1, 1) := dk_43 (dk_at dksX1_order_2 4 rfl rfl)
theorem dX1_order_51 : decode cX1_order 51 = .ok (.invokevirtual 68, 3) := dk_182 0 68 (dk_at dksX1_order_2 5 rfl rfl)
theorem dX1_order_54 : decode cX1_order 54 = .ok (.if_icmp .ge 26, 3) := dk_162 0 26 (dk_at dksX1_order_2 8 rfl rfl)
theorem dX1_order_57 : decode cX1_order 57 = .ok (.aload_n 0, 1) := dk_42 (dk_at dksX1_order_2 11 rfl rfl)
theorem dX1_order_58 : decode cX1_order 58 = .ok (.aload_n 1, 1) := dk_43 (dk_at dksX1_order_2 12 rfl rfl)
theorem dX1_order_59 : decode cX1_order 59 = .ok (.iload 4, 2) := dk_21 4 (dk_at dksX1_order_2 13 rfl rfl)
theorem dX1_order_61 : decode cX1_order 61 = .ok (.invokevirtual 84, 3) := dk_182 0 84 (dk_at dksX1_order_2 15 rfl rfl)
theorem dX1_order_64 : decode cX1_order 64 = .ok (.checkcast 43, 3) := dk_192 0 43 (dk_at dksX1_order_2 18 rfl rfl)
theorem dX1_order_67 : decode cX1_order 67 = .ok (.aload_n 3, 1) := dk_45 (dk_at dksX1_order_2 21 rfl rfl)
theorem dX1_order_68 : decode cX1_order 68 = .ok (.invokevirtual 106, 3) := dk_182 0 106 (dk_at dksX1_order_3 0 rfl rfl)
theorem dX1_order_71 : decode cX1_order 71 = .ok (.ifCond .eq 9, 3) := dk_153 0 9 (dk_at dksX1_order_3 3 rfl rfl)
theorem dX1_order_74 : decode cX1_order 74 = .ok (.iinc 4 1, 3) := dk_132 4 1 (dk_at dksX1_order_3 6 rfl rfl)
theorem dX1_order_77 : decode cX1_order 77 = .ok (.goto (-29), 3) := dk_167 255 227 (dk_at dksX1_order_3 9 rfl rfl)
theorem dX1_order_80 : decode cX1_order 80 = .ok (.aload_n 1, 1) := dk_43 (dk_at dksX1_order_3 12 rfl rfl)
theorem dX1_order_81 : decode cX1_order 81 = .ok (.iload 4, 2) := dk_21 4 (dk_at dksX1_order_3 13 rfl rfl)
theorem dX1_order_83 : decode cX1_order 83 = .ok (.aload_n 3, 1) := dk_45 (dk_at dksX1_order_3 15 rfl rfl)
theorem dX1_order_84 : decode cX1_order 84 = .ok (.invokevirtual 110, 3) := dk_182 0 110 (dk_at dksX1_order_3 16 rfl rfl)
theorem dX1_order_87 : decode cX1_order 87 = .ok (.goto (-71), 3) := dk_167 255 185 (dk_at dksX1_order_3 19 rfl rfl)
theorem dX1_order_90 : decode cX1_order 90 = .ok (.aload_n 1, 1) := dk_43 (dk_at dksX1_order_3 22 rfl rfl)
theorem dX1_order_91 : decode cX1_order 91 = .ok (.areturn, 1) := dk_176 (dk_at dksX1_order_3 23 rfl rfl)
abbrev cX1_isAhead : ByteArray := prog_2_method_7_code
def yX1_isAhead : MethodName := ⟨RX1, "isAhead", "(LTulipLines$Bulb;LTulipLines$Bulb;)Z"⟩
def dkwX1_isAhead_1 : List UInt8 := [154, 0, 18, 43, 180, 0, 103, 44, 180, 0, 103, 164, 0, 7, 4, 167, 0, 4, 3, 172]
abbrev dktX1_isAhead_1 : List UInt8 := dkwX1_isAhead_1 ++ []
def dkwX1_isAhead_0 : List UInt8 := [42, 43, 180, 0, 96, 182, 0, 99, 42, 44, 180, 0, 96, 182, 0, 99, 100, 62, 29, 157, 0, 18, 29]
abbrev dktX1_isAhead_0 : List UInt8 := dkwX1_isAhead_0 ++ dktX1_isAhead_1
theorem dksX1_isAhead_0 : cX1_isAhead.data.toList.drop 0 = dktX1_isAhead_0 := by decide +kernel
theorem dksX1_isAhead_1 : cX1_isAhead.data.toList.drop 23 = dktX1_isAhead_1 := dk_seg dksX1_isAhead_0 23 rfl rfl
theorem dX1_isAhead_0 : decode cX1_isAhead 0 = .ok (.aload_n 0, 1) := dk_42 (dk_at dksX1_isAhead_0 0 rfl rfl)
theorem dX1_isAhead_1 : decode cX1_isAhead 1 = .ok (.aload_n 1, 1) := dk_43 (dk_at dksX1_isAhead_0 1 rfl rfl)
theorem dX1_isAhead_2 : decode cX1_isAhead 2 = .ok (.getfield 96, 3) := dk_180 0 96 (dk_at dksX1_isAhead_0 2 rfl rfl)
theorem dX1_isAhead_5 : decode cX1_isAhead 5 = .ok (.invokevirtual 99, 3) := dk_182 0 99 (dk_at dksX1_isAhead_0 5 rfl rfl)
theorem dX1_isAhead_8 : decode cX1_isAhead 8 = .ok (.aload_n 0, 1) := dk_42 (dk_at dksX1_isAhead_0 8 rfl rfl)
theorem dX1_isAhead_9 : decode cX1_isAhead 9 = .ok (.aload_n 2, 1) := dk_44 (dk_at dksX1_isAhead_0 9 rfl rfl)
theorem dX1_isAhead_10 : decode cX1_isAhead 10 = .ok (.getfield 96, 3) := dk_180 0 96 (dk_at dksX1_isAhead_0 10 rfl rfl)
theorem dX1_isAhead_13 : decode cX1_isAhead 13 = .ok (.invokevirtual 99, 3) := dk_182 0 99 (dk_at dksX1_isAhead_0 13 rfl rfl)
theorem dX1_isAhead_16 : decode cX1_isAhead 16 = .ok (.isub, 1) := dk_100 (dk_at dksX1_isAhead_0 16 rfl rfl)
theorem dX1_isAhead_17 : decode cX1_isAhead 17 = .ok (.istore_n 3, 1) := dk_62 (dk_at dksX1_isAhead_0 17 rfl rfl)
theorem dX1_isAhead_18 : decode cX1_isAhead 18 = .ok (.iload_n 3, 1) := dk_29 (dk_at dksX1_isAhead_0 18 rfl rfl)
theorem dX1_isAhead_19 : decode cX1_isAhead 19 = .ok (.ifCond .gt 18, 3) := dk_157 0 18 (dk_at dksX1_isAhead_0 19 rfl rfl)
theorem dX1_isAhead_22 : decode cX1_isAhead 22 = .ok (.iload_n 3, 1) := dk_29 (dk_at dksX1_isAhead_0 22 rfl rfl)
theorem dX1_isAhead_23 : decode cX1_isAhead 23 = .ok (.ifCond .ne 18, 3) := dk_154 0 18 (dk_at dksX1_isAhead_1 0 rfl rfl)
theorem dX1_isAhead_26 : decode cX1_isAhead 26 = .ok (.aload_n 1, 1) := dk_43 (dk_at dksX1_isAhead_1 3 rfl rfl)
theorem dX1_isAhead_27 : decode cX1_isAhead 27 = .ok (.getfield 103, 3) := dk_180 0 103 (dk_at dksX1_isAhead_1 4 rfl rfl)
theorem dX1_isAhead_30 : decode cX1_isAhead 30 = .ok (.aload_n 2, 1) := dk_44 (dk_at dksX1_isAhead_1 7 rfl rfl)
theorem dX1_isAhead_31 : decode cX1_isAhead 31 = .ok (.getfield 103, 3) := dk_180 0 103 (dk_at dksX1_isAhead_1 8 rfl rfl)
theorem dX1_isAhead_34 : decode cX1_isAhead 34 = .ok (.if_icmp .le 7, 3) := dk_164 0 7 (dk_at dksX1_isAhead_1 11 rfl rfl)
theorem dX1_isAhead_37 : decode cX1_isAhead 37 = .ok (.iconst 1, 1) := dk_4 (dk_at dksX1_isAhead_1 14 rfl rfl)
theorem dX1_isAhead_38 : decode cX1_isAhead 38 = .ok (.goto 4, 3) := dk_167 0 4 (dk_at dksX1_isAhead_1 15 rfl rfl)
theorem dX1_isAhead_41 : decode cX1_isAhead 41 = .ok (.iconst 0, 1) := dk_3 (dk_at dksX1_isAhead_1 18 rfl rfl)
theorem dX1_isAhead_42 : decode cX1_isAhead 42 = .ok (.ireturn, 1) := dk_172 (dk_at dksX1_isAhead_1 19 rfl rfl)
abbrev cX1_worth : ByteArray := prog_2_method_5_code
def yX1_worth : MethodName := ⟨RX1, "worth", "(I)I"⟩
def dkwX1_worth_1 : List UInt8 := [160, 0, 12, 28, 42, 180, 0, 18, 29, 46, 96, 61, 132, 3, 1, 167, 255, 222, 28, 172]
abbrev dktX1_worth_1 : List UInt8 := dkwX1_worth_1 ++ []
def dkwX1_worth_0 : List UInt8 := [3, 61, 3, 62, 29, 16, 8, 162, 0, 34, 27, 29, 184, 0, 88, 42, 180, 0, 59, 29, 184, 0, 88]
abbrev dktX1_worth_0 : List UInt8 := dkwX1_worth_0 ++ dktX1_worth_1
theorem dksX1_worth_0 : cX1_worth.data.toList.drop 0 = dktX1_worth_0 := by decide +kernel
theorem dksX1_worth_1 : cX1_worth.data.toList.drop 23 = dktX1_worth_1 := dk_seg dksX1_worth_0 23 rfl rfl
theorem dX1_worth_0 : decode cX1_worth 0 = .ok (.iconst 0, 1) := dk_3 (dk_at dksX1_worth_0 0 rfl rfl)
theorem dX1_worth_1 : decode cX1_worth 1 = .ok (.istore_n 2, 1) := dk_61 (dk_at dksX1_worth_0 1 rfl rfl)
theorem dX1_worth_2 : decode cX1_worth 2 = .ok (.iconst 0, 1) := dk_3 (dk_at dksX1_worth_0 2 rfl rfl)
theorem dX1_worth_3 : decode cX1_worth 3 = .ok (.istore_n 3, 1) := dk_62 (dk_at dksX1_worth_0 3 rfl rfl)
theorem dX1_worth_4 : decode cX1_worth 4 = .ok (.iload_n 3, 1) := dk_29 (dk_at dksX1_worth_0 4 rfl rfl)
theorem dX1_worth_5 : decode cX1_worth 5 = .ok (.bipush 8, 2) := dk_16 8 (dk_at dksX1_worth_0 5 rfl rfl)
theorem dX1_worth_7 : decode cX1_worth 7 = .ok (.if_icmp .ge 34, 3) := dk_162 0 34 (dk_at dksX1_worth_0 7 rfl rfl)
theorem dX1_worth_10 : decode cX1_worth 10 = .ok (.iload_n 1, 1) := dk_27 (dk_at dksX1_worth_0 10 rfl rfl)
theorem dX1_worth_11 : decode cX1_worth 11 = .ok (.iload_n 3, 1) := dk_29 (dk_at dksX1_worth_0 11 rfl rfl)
theorem dX1_worth_12 : decode cX1_worth 12 = .ok (.invokestatic 88, 3) := dk_184 0 88 (dk_at dksX1_worth_0 12 rfl rfl)
theorem dX1_worth_15 : decode cX1_worth 15 = .ok (.aload_n 0, 1) := dk_42 (dk_at dksX1_worth_0 15 rfl rfl)
theorem dX1_worth_16 : decode cX1_worth 16 = .ok (.getfield 59, 3) := dk_180 0 59 (dk_at dksX1_worth_0 16 rfl rfl)
theorem dX1_worth_19 : decode cX1_worth 19 = .ok (.iload_n 3, 1) := dk_29 (dk_at dksX1_worth_0 19 rfl rfl)
theorem dX1_worth_20 : decode cX1_worth 20 = .ok (.invokestatic 88, 3) := dk_184 0 88 (dk_at dksX1_worth_0 20 rfl rfl)
theorem dX1_worth_23 : decode cX1_worth 23 = .ok (.if_icmp .ne 12, 3) := dk_160 0 12 (dk_at dksX1_worth_1 0 rfl rfl)
theorem dX1_worth_26 : decode cX1_worth 26 = .ok (.iload_n 2, 1) := dk_28 (dk_at dksX1_worth_1 3 rfl rfl)
theorem dX1_worth_27 : decode cX1_worth 27 = .ok (.aload_n 0, 1) := dk_42 (dk_at dksX1_worth_1 4 rfl rfl)
theorem dX1_worth_28 : decode cX1_worth 28 = .ok (.getfield 18, 3) := dk_180 0 18 (dk_at dksX1_worth_1 5 rfl rfl)
theorem dX1_worth_31 : decode cX1_worth 31 = .ok (.iload_n 3, 1) := dk_29 (dk_at dksX1_worth_1 8 rfl rfl)
theorem dX1_worth_32 : decode cX1_worth 32 = .ok (.iaload, 1) := dk_46 (dk_at dksX1_worth_1 9 rfl rfl)
theorem dX1_worth_33 : decode cX1_worth 33 = .ok (.iadd, 1) := dk_96 (dk_at dksX1_worth_1 10 rfl rfl)
theorem dX1_worth_34 : decode cX1_worth 34 = .ok (.istore_n 2, 1) := dk_61 (dk_at dksX1_worth_1 11 rfl rfl)
theorem dX1_worth_35 : decode cX1_worth 35 = .ok (.iinc 3 1, 3) := dk_132 3 1 (dk_at dksX1_worth_1 12 rfl rfl)
theorem dX1_worth_38 : decode cX1_worth 38 = .ok (.goto (-34), 3) := dk_167 255 222 (dk_at dksX1_worth_1 15 rfl rfl)
theorem dX1_worth_41 : decode cX1_worth 41 = .ok (.iload_n 2, 1) := dk_28 (dk_at dksX1_worth_1 18 rfl rfl)
theorem dX1_worth_42 : decode cX1_worth 42 = .ok (.ireturn, 1) := dk_172 (dk_at dksX1_worth_1 19 rfl rfl)
abbrev cX1_areKin : ByteArray := prog_2_method_28_code
def yX1_areKin : MethodName := ⟨RX1, "areKin", "(LTulipLines$Bulb;LTulipLines$Bulb;)Z"⟩
def dkwX1_areKin_0 : List UInt8 := [42, 43, 42, 43, 182, 0, 195, 44, 42, 44, 182, 0, 195, 182, 0, 202, 172]
abbrev dktX1_areKin_0 : List UInt8 := dkwX1_areKin_0 ++ []
theorem dksX1_areKin_0 : cX1_areKin.data.toList.drop 0 = dktX1_areKin_0 := by decide +kernel
theorem dX1_areKin_0 : decode cX1_areKin 0 = .ok (.aload_n 0, 1) := dk_42 (dk_at dksX1_areKin_0 0 rfl rfl)
theorem dX1_areKin_1 : decode cX1_areKin 1 = .ok (.aload_n 1, 1) := dk_43 (dk_at dksX1_areKin_0 1 rfl rfl)
theorem dX1_areKin_2 : decode cX1_areKin 2 = .ok (.aload_n 0, 1) := dk_42 (dk_at dksX1_areKin_0 2 rfl rfl)
theorem dX1_areKin_3 : decode cX1_areKin 3 = .ok (.aload_n 1, 1) := dk_43 (dk_at dksX1_areKin_0 3 rfl rfl)
theorem dX1_areKin_4 : decode cX1_areKin 4 = .ok (.invokevirtual 195, 3) := dk_182 0 195 (dk_at dksX1_areKin_0 4 rfl rfl)
theorem dX1_areKin_7 : decode cX1_areKin 7 = .ok (.aload_n 2, 1) := dk_44 (dk_at dksX1_areKin_0 7 rfl rfl)
theorem dX1_areKin_8 : decode cX1_areKin 8 = .ok (.aload_n 0, 1) := dk_42 (dk_at dksX1_areKin_0 8 rfl rfl)
theorem dX1_areKin_9 : decode cX1_areKin 9 = .ok (.aload_n 2, 1) := dk_44 (dk_at dksX1_areKin_0 9 rfl rfl)
theorem dX1_areKin_10 : decode cX1_areKin 10 = .ok (.invokevirtual 195, 3) := dk_182 0 195 (dk_at dksX1_areKin_0 10 rfl rfl)
theorem dX1_areKin_13 : decode cX1_areKin 13 = .ok (.invokevirtual 202, 3) := dk_182 0 202 (dk_at dksX1_areKin_0 13 rfl rfl)
theorem dX1_areKin_16 : decode cX1_areKin 16 = .ok (.ireturn, 1) := dk_172 (dk_at dksX1_areKin_0 16 rfl rfl)
abbrev cX1_forebears : ByteArray := prog_2_method_26_code
def yX1_forebears : MethodName := ⟨RX1, "forebears", "(LTulipLines$Bulb;)LTulipLines$Once;"⟩
def dkwX1_forebears_3 : List UInt8 := [167, 255, 217, 44, 176]
abbrev dktX1_forebears_3 : List UInt8 := dkwX1_forebears_3 ++ []
def dkwX1_forebears_2 : List UInt8 := [182, 0, 184, 182, 0, 188, 44, 42, 44, 29, 182, 0, 191, 4, 182, 0, 184, 182, 0, 188, 132, 3, 1]
abbrev dktX1_forebears_2 : List UInt8 := dkwX1_forebears_2 ++ dktX1_forebears_3
def dkwX1_forebears_1 : List UInt8 := [182, 0, 184, 182, 0, 188, 3, 62, 29, 44, 182, 0, 190, 162, 0, 37, 44, 42, 44, 29, 182, 0, 191, 3]
abbrev dktX1_forebears_1 : List UInt8 := dkwX1_forebears_1 ++ dktX1_forebears_2
def dkwX1_forebears_0 : List UInt8 := [187, 0, 181, 89, 183, 0, 183, 77, 44, 42, 43, 3, 182, 0, 184, 182, 0, 188, 44, 42, 43, 4]
abbrev dktX1_forebears_0 : List UInt8 := dkwX1_forebears_0 ++ dktX1_forebears_1
theorem dksX1_forebears_0 : cX1_forebears.data.toList.drop 0 = dktX1_forebears_0 := by decide +kernel
theorem dksX1_forebears_1 : cX1_forebears.data.toList.drop 22 = dktX1_forebears_1 := dk_seg dksX1_forebears_0 22 rfl rfl
theorem dksX1_forebears_2 : cX1_forebears.data.toList.drop 46 = dktX1_forebears_2 := dk_seg dksX1_forebears_1 24 rfl rfl
theorem dksX1_forebears_3 : cX1_forebears.data.toList.drop 69 = dktX1_forebears_3 := dk_seg dksX1_forebears_2 23 rfl rfl
theorem dX1_forebears_0 : decode cX1_forebears 0 = .ok (.new 181, 3) := dk_187 0 181 (dk_at dksX1_forebears_0 0 rfl rfl)
theorem dX1_forebears_3 : decode cX1_forebears 3 = .ok (.dup, 1) := dk_89 (dk_at dksX1_forebears_0 3 rfl rfl)
theorem dX1_forebears_4 : decode cX1_forebears 4 = .ok (.invokespecial 183, 3) := dk_183 0 183 (dk_at dksX1_forebears_0 4 rfl rfl)
theorem dX1_forebears_7 : decode cX1_forebears 7 = .ok (.astore_n 2, 1) := dk_77 (dk_at dksX1_forebears_0 7 rfl rfl)
theorem dX1_forebears_8 : decode cX1_forebears 8 = .ok (.aload_n 2, 1) := dk_44 (dk_at dksX1_forebears_0 8 rfl rfl)
theorem dX1_forebears_9 : decode cX1_forebears 9 = .ok (.aload_n 0, 1) := dk_42 (dk_at dksX1_forebears_0 9 rfl rfl)
theorem dX1_forebears_10 : decode cX1_forebears 10 = .ok (.aload_n 1, 1) := dk_43 (dk_at dksX1_forebears_0 10 rfl rfl)
theorem dX1_forebears_11 : decode cX1_forebears 11 = .ok (.iconst 0, 1) := dk_3 (dk_at dksX1_forebears_0 11 rfl rfl)
theorem dX1_forebears_12 : decode cX1_forebears 12 = .ok (.invokevirtual 184, 3) := dk_182 0 184 (dk_at dksX1_forebears_0 12 rfl rfl)
theorem dX1_forebears_15 : decode cX1_forebears 15 = .ok (.invokevirtual 188, 3) := dk_182 0 188 (dk_at dksX1_forebears_0 15 rfl rfl)
theorem dX1_forebears_18 : decode cX1_forebears 18 = .ok (.aload_n 2, 1) := dk_44 (dk_at dksX1_forebears_0 18 rfl rfl)
theorem dX1_forebears_19 : decode cX1_forebears 19 = .ok (.aload_n 0, 1) := dk_42 (dk_at dksX1_forebears_0 19 rfl rfl)
theorem dX1_forebears_20 : decode cX1_forebears 20 = .ok (.aload_n 1, 1) := dk_43 (dk_at dksX1_forebears_0 20 rfl rfl)
theorem dX1_forebears_21 : decode cX1_forebears 21 = .ok (.iconst 1, 1) := dk_4 (dk_at dksX1_forebears_0 21 rfl rfl)
theorem dX1_forebears_22 : decode cX1_forebears 22 = .ok (.invokevirtual 184, 3) := dk_182 0 184 (dk_at dksX1_forebears_1 0 rfl rfl)
theorem dX1_forebears_25 : decode cX1_forebears 25 = .ok (.invokevirtual 188, 3) := dk_182 0 188 (dk_at dksX1_forebears_1 3 rfl rfl)
theorem dX1_forebears_28 : decode cX1_forebears 28 = .ok (.iconst 0, 1) := dk_3 (dk_at dksX1_forebears_1 6 rfl rfl)
theorem dX1_forebears_29 : decode cX1_forebears 29 = .ok (.istore_n 3, 1) := dk_62 (dk_at dksX1_forebears_1 7 rfl rfl)
theorem dX1_forebears_30 : decode cX1_forebears 30 = .ok (.iload_n 3, 1) := dk_29 (dk_at dksX1_forebears_1 8 rfl rfl)
theorem dX1_forebears_31 : decode cX1_forebears 31 = .ok (.aload_n 2, 1) := dk_44 (dk_at dksX1_forebears_1 9 rfl rfl)
theorem dX1_forebears_32 : decode cX1_forebears 32 = .ok (.invokevirtual 190, 3) := dk_182 0 190 (dk_at dksX1_forebears_1 10 rfl rfl)
theorem dX1_forebears_35 : decode cX1_forebears 35 = .ok (.if_icmp .ge 37, 3) := dk_162 0 37 (dk_at dksX1_forebears_1 13 rfl rfl)
theorem dX1_forebears_38 : decode cX1_forebears 38 = .ok (.aload_n 2, 1) := dk_44 (dk_at dksX1_forebears_1 16 rfl rfl)
theorem dX1_forebears_39 : decode cX1_forebears 39 = .ok (.aload_n 0, 1) := dk_42 (dk_at dksX1_forebears_1 17 rfl rfl)
theorem dX1_forebears_40 : decode cX1_forebears 40 = .ok (.aload_n 2, 1) := dk_44 (dk_at dksX1_forebears_1 18 rfl rfl)
theorem dX1_forebears_41 : decode cX1_forebears 41 = .ok (.iload_n 3, 1) := dk_29 (dk_at dksX1_forebears_1 19 rfl rfl)
theorem dX1_forebears_42 : decode cX1_forebears 42 = .ok (.invokevirtual 191, 3) := dk_182 0 191 (dk_at dksX1_forebears_1 20 rfl rfl)
theorem dX1_forebears_45 : decode cX1_forebears 45 = .ok (.iconst 0, 1) := dk_3 (dk_at dksX1_forebears_1 23 rfl rfl)
theorem dX1_forebears_46 : decode cX1_forebears 46 = .ok (.invokevirtual 184, 3) := dk_182 0 184 (dk_at dksX1_forebears_2 0 rfl rfl)
theorem dX1_forebears_49 : decode cX1_forebears 49 = .ok (.invokevirtual 188, 3) := dk_182 0 188 (dk_at dksX1_forebears_2 3 rfl rfl)
theorem dX1_forebears_52 : decode cX1_forebears 52 = .ok (.aload_n 2, 1) := dk_44 (dk_at dksX1_forebears_2 6 rfl rfl)
theorem dX1_forebears_53 : decode cX1_forebears 53 = .ok (.aload_n 0, 1) := dk_42 (dk_at dksX1_forebears_2 7 rfl rfl)
theorem dX1_forebears_54 : decode cX1_forebears 54 = .ok (.aload_n 2, 1) := dk_44 (dk_at dksX1_forebears_2 8 rfl rfl)
theorem dX1_forebears_55 : decode cX1_forebears 55 = .ok (.iload_n 3, 1) := dk_29 (dk_at dksX1_forebears_2 9 rfl rfl)
theorem dX1_forebears_56 : decode cX1_forebears 56 = .ok (.invokevirtual 191, 3) := dk_182 0 191 (dk_at dksX1_forebears_2 10 rfl rfl)
theorem dX1_forebears_59 : decode cX1_forebears 59 = .ok (.iconst 1, 1) := dk_4 (dk_at dksX1_forebears_2 13 rfl rfl)
theorem dX1_forebears_60 : decode cX1_forebears 60 = .ok (.invokevirtual 184, 3) := dk_182 0 184 (dk_at dksX1_forebears_2 14 rfl rfl)
theorem dX1_forebears_63 : decode cX1_forebears 63 = .ok (.invokevirtual 188, 3) := dk_182 0 188 (dk_at dksX1_forebears_2 17 rfl rfl)
theorem dX1_forebears_66 : decode cX1_forebears 66 = .ok (.iinc 3 1, 3) := dk_132 3 1 (dk_at dksX1_forebears_2 20 rfl rfl)
theorem dX1_forebears_69 : decode cX1_forebears 69 = .ok (.goto (-39), 3) := dk_167 255 217 (dk_at dksX1_forebears_3 0 rfl rfl)
theorem dX1_forebears_72 : decode cX1_forebears 72 = .ok (.aload_n 2, 1) := dk_44 (dk_at dksX1_forebears_3 3 rfl rfl)
theorem dX1_forebears_73 : decode cX1_forebears 73 = .ok (.areturn, 1) := dk_176 (dk_at dksX1_forebears_3 4 rfl rfl)
abbrev cX1_parent : ByteArray := prog_2_method_25_code
def yX1_parent : MethodName := ⟨RX1, "parent", "(LTulipLines$Bulb;Z)LTulipLines$Bulb;"⟩
def dkwX1_parent_1 : List UInt8 := [180, 0, 179, 182, 0, 84, 192, 0, 43, 167, 0, 4, 1, 176]
abbrev dktX1_parent_1 : List UInt8 := dkwX1_parent_1 ++ []
def dkwX1_parent_0 : List UInt8 := [43, 182, 0, 174, 153, 0, 31, 42, 180, 0, 12, 28, 153, 0, 10, 43, 180, 0, 177, 167, 0, 7, 43]
abbrev dktX1_parent_0 : List UInt8 := dkwX1_parent_0 ++ dktX1_parent_1
theorem dksX1_parent_0 : cX1_parent.data.toList.drop 0 = dktX1_parent_0 := by decide +kernel
theorem dksX1_parent_1 : cX1_parent.data.toList.drop 23 = dktX1_parent_1 := dk_seg dksX1_parent_0 23 rfl rfl
theorem dX1_parent_0 : decode cX1_parent 0 = .ok (.aload_n 1, 1) := dk_43 (dk_at dksX1_parent_0 0 rfl rfl)
theorem dX1_parent_1 : decode cX1_parent 1 = .ok (.invokevirtual 174, 3) := dk_182 0 174 (dk_at dksX1_parent_0 1 rfl rfl)
theorem dX1_parent_4 : decode cX1_parent 4 = .ok (.ifCond .eq 31, 3) := dk_153 0 31 (dk_at dksX1_parent_0 4 rfl rfl)
theorem dX1_parent_7 : decode cX1_parent 7 = .ok (.aload_n 0, 1) := dk_42 (dk_at dksX1_parent_0 7 rfl rfl)
theorem dX1_parent_8 : decode cX1_parent 8 = .ok (.getfield 12, 3) := dk_180 0 12 (dk_at dksX1_parent_0 8 rfl rfl)
theorem dX1_parent_11 : decode cX1_parent 11 = .ok (.iload_n 2, 1) := dk_28 (dk_at dksX1_parent_0 11 rfl rfl)
theorem dX1_parent_12 : decode cX1_parent 12 = .ok (.ifCond .eq 10, 3) := dk_153 0 10 (dk_at dksX1_parent_0 12 rfl rfl)
theorem dX1_parent_15 : decode cX1_parent 15 = .ok (.aload_n 1, 1) := dk_43 (dk_at dksX1_parent_0 15 rfl rfl)
theorem dX1_parent_16 : decode cX1_parent 16 = .ok (.getfield 177, 3) := dk_180 0 177 (dk_at dksX1_parent_0 16 rfl rfl)
theorem dX1_parent_19 : decode cX1_parent 19 = .ok (.goto 7, 3) := dk_167 0 7 (dk_at dksX1_parent_0 19 rfl rfl)
theorem dX1_parent_22 : decode cX1_parent 22 = .ok (.aload_n 1, 1) := dk_43 (dk_at dksX1_parent_0 22 rfl rfl)
theorem dX1_parent_23 : decode cX1_parent 23 = .ok (.getfield 179, 3) := dk_180 0 179 (dk_at dksX1_parent_1 0 rfl rfl)
theorem dX1_parent_26 : decode cX1_parent 26 = .ok (.invokevirtual 84, 3) := dk_182 0 84 (dk_at dksX1_parent_1 3 rfl rfl)
theorem dX1_parent_29 : decode cX1_parent 29 = .ok (.checkcast 43, 3) := dk_192 0 43 (dk_at dksX1_parent_1 6 rfl rfl)
theorem dX1_parent_32 : decode cX1_parent 32 = .ok (.goto 4, 3) := dk_167 0 4 (dk_at dksX1_parent_1 9 rfl rfl)
theorem dX1_parent_35 : decode cX1_parent 35 = .ok (.aconst_null, 1) := dk_1 (dk_at dksX1_parent_1 12 rfl rfl)
theorem dX1_parent_36 : decode cX1_parent 36 = .ok (.areturn, 1) := dk_176 (dk_at dksX1_parent_1 13 rfl rfl)
abbrev cX1_areKin_2 : ByteArray := prog_2_method_29_code
def yX1_areKin_2 : MethodName := ⟨RX1, "areKin", "(LTulipLines$Bulb;LTulipLines$Once;LTulipLines$Bulb;LTulipLines$Once;)Z"⟩
def dkwX1_areKin_2_2 : List UInt8 := [153, 0, 5, 4, 172, 132, 5, 1, 167, 255, 228, 3, 172]
abbrev dktX1_areKin_2_2 : List UInt8 := dkwX1_areKin_2_2 ++ []
def dkwX1_areKin_2_1 : List UInt8 := [3, 54, 5, 21, 5, 44, 182, 0, 190, 162, 0, 25, 25, 4, 44, 21, 5, 182, 0, 191, 182, 0, 199]
abbrev dktX1_areKin_2_1 : List UInt8 := dkwX1_areKin_2_1 ++ dktX1_areKin_2_2
def dkwX1_areKin_2_0 : List UInt8 := [43, 45, 165, 0, 20, 44, 45, 182, 0, 199, 154, 0, 12, 25, 4, 43, 182, 0, 199, 153, 0, 5, 4, 172]
abbrev dktX1_areKin_2_0 : List UInt8 := dkwX1_areKin_2_0 ++ dktX1_areKin_2_1
theorem dksX1_areKin_2_0 : cX1_areKin_2.data.toList.drop 0 = dktX1_areKin_2_0 := by decide +kernel
theorem dksX1_areKin_2_1 : cX1_areKin_2.data.toList.drop 24 = dktX1_areKin_2_1 := dk_seg dksX1_areKin_2_0 24 rfl rfl
theorem dksX1_areKin_2_2 : cX1_areKin_2.data.toList.drop 47 = dktX1_areKin_2_2 := dk_seg dksX1_areKin_2_1 23 rfl rfl
theorem dX1_areKin_2_0 : decode cX1_areKin_2 0 = .ok (.aload_n 1, 1) := dk_43 (dk_at dksX1_areKin_2_0 0 rfl rfl)
theorem dX1_areKin_2_1 : decode cX1_areKin_2 1 = .ok (.aload_n 3, 1) := dk_45 (dk_at dksX1_areKin_2_0 1 rfl rfl)
theorem dX1_areKin_2_2 : decode cX1_areKin_2 2 = .ok (.if_acmp .eq 20, 3) := dk_165 0 20 (dk_at dksX1_areKin_2_0 2 rfl rfl)
theorem dX1_areKin_2_5 : decode cX1_areKin_2 5 = .ok (.aload_n 2, 1) := dk_44 (dk_at dksX1_areKin_2_0 5 rfl rfl)
theorem dX1_areKin_2_6 : decode cX1_areKin_2 6 = .ok (.aload_n 3, 1) := dk_45 (dk_at dksX1_areKin_2_0 6 rfl rfl)
theorem dX1_areKin_2_7 : decode cX1_areKin_2 7 = .ok (.invokevirtual 199, 3) := dk_182 0 199 (dk_at dksX1_areKin_2_0 7 rfl rfl)
theorem dX1_areKin_2_10 : decode cX1_areKin_2 10 = .ok (.ifCond .ne 12, 3) := dk_154 0 12 (dk_at dksX1_areKin_2_0 10 rfl rfl)
theorem dX1_areKin_2_13 : decode cX1_areKin_2 13 = .ok (.aload 4, 2) := dk_25 4 (dk_at dksX1_areKin_2_0 13 rfl rfl)
theorem dX1_areKin_2_15 : decode cX1_areKin_2 15 = .ok (.aload_n 1, 1) := dk_43 (dk_at dksX1_areKin_2_0 15 rfl rfl)
theorem dX1_areKin_2_16 : decode cX1_areKin_2 16 = .ok (.invokevirtual 199, 3) := dk_182 0 199 (dk_at dksX1_areKin_2_0 16 rfl rfl)
theorem dX1_areKin_2_19 : decode cX1_areKin_2 19 = .ok (.ifCond .eq 5, 3) := dk_153 0 5 (dk_at dksX1_areKin_2_0 19 rfl rfl)
theorem dX1_areKin_2_22 : decode cX1_areKin_2 22 = .ok (.iconst 1, 1) := dk_4 (dk_at dksX1_areKin_2_0 22 rfl rfl)
theorem dX1_areKin_2_23 : decode cX1_areKin_2 23 = .ok (.ireturn, 1) := dk_172 (dk_at dksX1_areKin_2_0 23 rfl rfl)
theorem dX1_areKin_2_24 : decode cX1_areKin_2 24 = .ok (.iconst 0, 1) := dk_3 (dk_at dksX1_areKin_2_1 0 rfl rfl)
theorem dX1_areKin_2_25 : decode cX1_areKin_2 25 = .ok (.istore 5, 2) := dk_54 5 (dk_at dksX1_areKin_2_1 1 rfl rfl)
theorem dX1_areKin_2_27 : decode cX1_areKin_2 27 = .ok (.iload 5, 2) := dk_21 5 (dk_at dksX1_areKin_2_1 3 rfl rfl)
theorem dX1_areKin_2_29 : decode cX1_areKin_2 29 = .ok (.aload_n 2, 1) := dk_44 (dk_at dksX1_areKin_2_1 5 rfl rfl)
theorem dX1_areKin_2_30 : decode cX1_areKin_2 30 = .ok (.invokevirtual 190, 3) := dk_182 0 190 (dk_at dksX1_areKin_2_1 6 rfl rfl)
theorem dX1_areKin_2_33 : decode cX1_areKin_2 33 = .ok (.if_icmp .ge 25, 3) := dk_162 0 25 (dk_at dksX1_areKin_2_1 9 rfl rfl)
theorem dX1_areKin_2_36 : decode cX1_areKin_2 36 = .ok (.aload 4, 2) := dk_25 4 (dk_at dksX1_areKin_2_1 12 rfl rfl)
theorem dX1_areKin_2_38 : decode cX1_areKin_2 38 = .ok (.aload_n 2, 1) := dk_44 (dk_at dksX1_areKin_2_1 14 rfl rfl)
theorem dX1_areKin_2_39 : decode cX1_areKin_2 39 = .ok (.iload 5, 2) := dk_21 5 (dk_at dksX1_areKin_2_1 15 rfl rfl)
theorem dX1_areKin_2_41 : decode cX1_areKin_2 41 = .ok (.invokevirtual 191, 3) := dk_182 0 191 (dk_at dksX1_areKin_2_1 17 rfl rfl)
theorem dX1_areKin_2_44 : decode cX1_areKin_2 44 = .ok (.invokevirtual 199, 3) := dk_182 0 199 (dk_at dksX1_areKin_2_1 20 rfl rfl)
theorem dX1_areKin_2_47 : decode cX1_areKin_2 47 = .ok (.ifCond .eq 5, 3) := dk_153 0 5 (dk_at dksX1_areKin_2_2 0 rfl rfl)
theorem dX1_areKin_2_50 : decode cX1_areKin_2 50 = .ok (.iconst 1, 1) := dk_4 (dk_at dksX1_areKin_2_2 3 rfl rfl)
theorem dX1_areKin_2_51 : decode cX1_areKin_2 51 = .ok (.ireturn, 1) := dk_172 (dk_at dksX1_areKin_2_2 4 rfl rfl)
theorem dX1_areKin_2_52 : decode cX1_areKin_2 52 = .ok (.iinc 5 1, 3) := dk_132 5 1 (dk_at dksX1_areKin_2_2 5 rfl rfl)
theorem dX1_areKin_2_55 : decode cX1_areKin_2 55 = .ok (.goto (-28), 3) := dk_167 255 228 (dk_at dksX1_areKin_2_2 8 rfl rfl)
theorem dX1_areKin_2_58 : decode cX1_areKin_2 58 = .ok (.iconst 0, 1) := dk_3 (dk_at dksX1_areKin_2_2 11 rfl rfl)
theorem dX1_areKin_2_59 : decode cX1_areKin_2 59 = .ok (.ireturn, 1) := dk_172 (dk_at dksX1_areKin_2_2 12 rfl rfl)
abbrev cX1_areKinAgain : ByteArray := prog_2_method_30_code
def yX1_areKinAgain : MethodName := ⟨RX1, "areKinAgain", "(LTulipLines$Bulb;LTulipLines$Bulb;)Z"⟩
def dkwX1_areKinAgain_0 : List UInt8 := [42, 43, 42, 43, 182, 0, 195, 44, 42, 44, 182, 0, 195, 182, 0, 206, 172]
abbrev dktX1_areKinAgain_0 : List UInt8 := dkwX1_areKinAgain_0 ++ []
theorem dksX1_areKinAgain_0 : cX1_areKinAgain.data.toList.drop 0 = dktX1_areKinAgain_0 := by decide +kernel
theorem dX1_areKinAgain_0 : decode cX1_areKinAgain 0 = .ok (.aload_n 0, 1) := dk_42 (dk_at dksX1_areKinAgain_0 0 rfl rfl)
theorem dX1_areKinAgain_1 : decode cX1_areKinAgain 1 = .ok (.aload_n 1, 1) := dk_43 (dk_at dksX1_areKinAgain_0 1 rfl rfl)
theorem dX1_areKinAgain_2 : decode cX1_areKinAgain 2 = .ok (.aload_n 0, 1) := dk_42 (dk_at dksX1_areKinAgain_0 2 rfl rfl)
theorem dX1_areKinAgain_3 : decode cX1_areKinAgain 3 = .ok (.aload_n 1, 1) := dk_43 (dk_at dksX1_areKinAgain_0 3 rfl rfl)
theorem dX1_areKinAgain_4 : decode cX1_areKinAgain 4 = .ok (.invokevirtual 195, 3) := dk_182 0 195 (dk_at dksX1_areKinAgain_0 4 rfl rfl)
theorem dX1_areKinAgain_7 : decode cX1_areKinAgain 7 = .ok (.aload_n 2, 1) := dk_44 (dk_at dksX1_areKinAgain_0 7 rfl rfl)
theorem dX1_areKinAgain_8 : decode cX1_areKinAgain 8 = .ok (.aload_n 0, 1) := dk_42 (dk_at dksX1_areKinAgain_0 8 rfl rfl)
theorem dX1_areKinAgain_9 : decode cX1_areKinAgain 9 = .ok (.aload_n 2, 1) := dk_44 (dk_at dksX1_areKinAgain_0 9 rfl rfl)
theorem dX1_areKinAgain_10 : decode cX1_areKinAgain 10 = .ok (.invokevirtual 195, 3) := dk_182 0 195 (dk_at dksX1_areKinAgain_0 10 rfl rfl)
theorem dX1_areKinAgain_13 : decode cX1_areKinAgain 13 = .ok (.invokevirtual 206, 3) := dk_182 0 206 (dk_at dksX1_areKinAgain_0 13 rfl rfl)
theorem dX1_areKinAgain_16 : decode cX1_areKinAgain 16 = .ok (.ireturn, 1) := dk_172 (dk_at dksX1_areKinAgain_0 16 rfl rfl)
abbrev cX1_areKinAgain_2 : ByteArray := prog_2_method_31_code
def yX1_areKinAgain_2 : MethodName := ⟨RX1, "areKinAgain", "(LTulipLines$Bulb;LTulipLines$Once;LTulipLines$Bulb;LTulipLines$Once;)Z"⟩
def dkwX1_areKinAgain_2_2 : List UInt8 := [165, 0, 13, 25, 4, 25, 6, 182, 0, 199, 153, 0, 5, 4, 172, 132, 5, 1, 167, 255, 194, 3, 172]
abbrev dktX1_areKinAgain_2_2 : List UInt8 := dkwX1_areKinAgain_2_2 ++ []
def dkwX1_areKinAgain_2_1 : List UInt8 := [192, 0, 43, 58, 6, 25, 6, 43, 165, 0, 12, 44, 25, 6, 182, 0, 199, 153, 0, 21, 25, 6, 45]
abbrev dktX1_areKinAgain_2_1 : List UInt8 := dkwX1_areKinAgain_2_1 ++ dktX1_areKinAgain_2_2
def dkwX1_areKinAgain_2_0 : List UInt8 := [3, 54, 5, 21, 5, 42, 180, 0, 12, 182, 0, 68, 162, 0, 56, 42, 180, 0, 12, 21, 5, 182, 0, 84]
abbrev dktX1_areKinAgain_2_0 : List UInt8 := dkwX1_areKinAgain_2_0 ++ dktX1_areKinAgain_2_1
theorem dksX1_areKinAgain_2_0 : cX1_areKinAgain_2.data.toList.drop 0 = dktX1_areKinAgain_2_0 := by decide +kernel
theorem dksX1_areKinAgain_2_1 : cX1_areKinAgain_2.data.toList.drop 24 = dktX1_areKinAgain_2_1 := dk_seg dksX1_areKinAgain_2_0 24 rfl rfl
theorem dksX1_areKinAgain_2_2 : cX1_areKinAgain_2.data.toList.drop 47 = dktX1_areKinAgain_2_2 := dk_seg dksX1_areKinAgain_2_1 23 rfl rfl
theorem dX1_areKinAgain_2_0 : decode cX1_areKinAgain_2 0 = .ok (.iconst 0, 1) := dk_3 (dk_at dksX1_areKinAgain_2_0 0 rfl rfl)
theorem dX1_areKinAgain_2_1 : decode cX1_areKinAgain_2 1 = .ok (.istore 5, 2) := dk_54 5 (dk_at dksX1_areKinAgain_2_0 1 rfl rfl)
theorem dX1_areKinAgain_2_3 : decode cX1_areKinAgain_2 3 = .ok (.iload 5, 2) := dk_21 5 (dk_at dksX1_areKinAgain_2_0 3 rfl rfl)
theorem dX1_areKinAgain_2_5 : decode cX1_areKinAgain_2 5 = .ok (.aload_n 0, 1) := dk_42 (dk_at dksX1_areKinAgain_2_0 5 rfl rfl)
theorem dX1_areKinAgain_2_6 : decode cX1_areKinAgain_2 6 = .ok (.getfield 12, 3) := dk_180 0 12 (dk_at dksX1_areKinAgain_2_0 6 rfl rfl)
theorem dX1_areKinAgain_2_9 : decode cX1_areKinAgain_2 9 = .ok (.invokevirtual 68, 3) := dk_182 0 68 (dk_at dksX1_areKinAgain_2_0 9 rfl rfl)
theorem dX1_areKinAgain_2_12 : decode cX1_areKinAgain_2 12 = .ok (.if_icmp .ge 56, 3) := dk_162 0 56 (dk_at dksX1_areKinAgain_2_0 12 rfl rfl)
theorem dX1_areKinAgain_2_15 : decode cX1_areKinAgain_2 15 = .ok (.aload_n 0, 1) := dk_42 (dk_at dksX1_areKinAgain_2_0 15 rfl rfl)
theorem dX1_areKinAgain_2_16 : decode cX1_areKinAgain_2 16 = .ok (.getfield 12, 3) := dk_180 0 12 (dk_at dksX1_areKinAgain_2_0 16 rfl rfl)
theorem dX1_areKinAgain_2_19 : decode cX1_areKinAgain_2 19 = .ok (.iload 5, 2) := dk_21 5 (dk_at dksX1_areKinAgain_2_0 19 rfl rfl)
theorem dX1_areKinAgain_2_21 : decode cX1_areKinAgain_2 21 = .ok (.invokevirtual 84, 3) := dk_182 0 84 (dk_at dksX1_areKinAgain_2_0 21 rfl rfl)
theorem dX1_areKinAgain_2_24 : decode cX1_areKinAgain_2 24 = .ok (.checkcast 43, 3) := dk_192 0 43 (dk_at dksX1_areKinAgain_2_1 0 rfl rfl)
theorem dX1_areKinAgain_2_27 : decode cX1_areKinAgain_2 27 = .ok (.astore 6, 2) := dk_58 6 (dk_at dksX1_areKinAgain_2_1 3 rfl rfl)
theorem dX1_areKinAgain_2_29 : decode cX1_areKinAgain_2 29 = .ok (.aload 6, 2) := dk_25 6 (dk_at dksX1_areKinAgain_2_1 5 rfl rfl)
theorem dX1_areKinAgain_2_31 : decode cX1_areKinAgain_2 31 = .ok (.aload_n 1, 1) := dk_43 (dk_at dksX1_areKinAgain_2_1 7 rfl rfl)
theorem dX1_areKinAgain_2_32 : decode cX1_areKinAgain_2 32 = .ok (.if_acmp .eq 12, 3) := dk_165 0 12 (dk_at dksX1_areKinAgain_2_1 8 rfl rfl)
theorem dX1_areKinAgain_2_35 : decode cX1_areKinAgain_2 35 = .ok (.aload_n 2, 1) := dk_44 (dk_at dksX1_areKinAgain_2_1 11 rfl rfl)
theorem dX1_areKinAgain_2_36 : decode cX1_areKinAgain_2 36 = .ok (.aload 6, 2) := dk_25 6 (dk_at dksX1_areKinAgain_2_1 12 rfl rfl)
theorem dX1_areKinAgain_2_38 : decode cX1_areKinAgain_2 38 = .ok (.invokevirtual 199, 3) := dk_182 0 199 (dk_at dksX1_areKinAgain_2_1 14 rfl rfl)
theorem dX1_areKinAgain_2_41 : decode cX1_areKinAgain_2 41 = .ok (.ifCond .eq 21, 3) := dk_153 0 21 (dk_at dksX1_areKinAgain_2_1 17 rfl rfl)
theorem dX1_areKinAgain_2_44 : decode cX1_areKinAgain_2 44 = .ok (.aload 6, 2) := dk_25 6 (dk_at dksX1_areKinAgain_2_1 20 rfl rfl)
theorem dX1_areKinAgain_2_46 : decode cX1_areKinAgain_2 46 = .ok (.aload_n 3, 1) := dk_45 (dk_at dksX1_areKinAgain_2_1 22 rfl rfl)
theorem dX1_areKinAgain_2_47 : decode cX1_areKinAgain_2 47 = .ok (.if_acmp .eq 13, 3) := dk_165 0 13 (dk_at dksX1_areKinAgain_2_2 0 rfl rfl)
theorem dX1_areKinAgain_2_50 : decode cX1_areKinAgain_2 50 = .ok (.aload 4, 2) := dk_25 4 (dk_at dksX1_areKinAgain_2_2 3 rfl rfl)
theorem dX1_areKinAgain_2_52 : decode cX1_areKinAgain_2 52 = .ok (.aload 6, 2) := dk_25 6 (dk_at dksX1_areKinAgain_2_2 5 rfl rfl)
theorem dX1_areKinAgain_2_54 : decode cX1_areKinAgain_2 54 = .ok (.invokevirtual 199, 3) := dk_182 0 199 (dk_at dksX1_areKinAgain_2_2 7 rfl rfl)
theorem dX1_areKinAgain_2_57 : decode cX1_areKinAgain_2 57 = .ok (.ifCond .eq 5, 3) := dk_153 0 5 (dk_at dksX1_areKinAgain_2_2 10 rfl rfl)
theorem dX1_areKinAgain_2_60 : decode cX1_areKinAgain_2 60 = .ok (.iconst 1, 1) := dk_4 (dk_at dksX1_areKinAgain_2_2 13 rfl rfl)
theorem dX1_areKinAgain_2_61 : decode cX1_areKinAgain_2 61 = .ok (.ireturn, 1) := dk_172 (dk_at dksX1_areKinAgain_2_2 14 rfl rfl)
theorem dX1_areKinAgain_2_62 : decode cX1_areKinAgain_2 62 = .ok (.iinc 5 1, 3) := dk_132 5 1 (dk_at dksX1_areKinAgain_2_2 15 rfl rfl)
theorem dX1_areKinAgain_2_65 : decode cX1_areKinAgain_2 65 = .ok (.goto (-62), 3) := dk_167 255 194 (dk_at dksX1_areKinAgain_2_2 18 rfl rfl)
theorem dX1_areKinAgain_2_68 : decode cX1_areKinAgain_2 68 = .ok (.iconst 0, 1) := dk_3 (dk_at dksX1_areKinAgain_2_2 21 rfl rfl)
theorem dX1_areKinAgain_2_69 : decode cX1_areKinAgain_2 69 = .ok (.ireturn, 1) := dk_172 (dk_at dksX1_areKinAgain_2_2 22 rfl rfl)
abbrev cX1_isInLine : ByteArray := prog_2_method_27_code
def yX1_isInLine : MethodName := ⟨RX1, "isInLine", "(LTulipLines$Bulb;LTulipLines$Bulb;)Z"⟩
def dkwX1_isInLine_0 : List UInt8 := [43, 44, 165, 0, 15, 42, 43, 182, 0, 195, 44, 182, 0, 199, 153, 0, 7, 4, 167, 0, 4, 3, 172]
abbrev dktX1_isInLine_0 : List UInt8 := dkwX1_isInLine_0 ++ []
theorem dksX1_isInLine_0 : cX1_isInLine.data.toList.drop 0 = dktX1_isInLine_0 := by decide +kernel
theorem dX1_isInLine_0 : decode cX1_isInLine 0 = .ok (.aload_n 1, 1) := dk_43 (dk_at dksX1_isInLine_0 0 rfl rfl)
theorem dX1_isInLine_1 : decode cX1_isInLine 1 = .ok (.aload_n 2, 1) := dk_44 (dk_at dksX1_isInLine_0 1 rfl rfl)
theorem dX1_isInLine_2 : decode cX1_isInLine 2 = .ok (.if_acmp .eq 15, 3) := dk_165 0 15 (dk_at dksX1_isInLine_0 2 rfl rfl)
theorem dX1_isInLine_5 : decode cX1_isInLine 5 = .ok (.aload_n 0, 1) := dk_42 (dk_at dksX1_isInLine_0 5 rfl rfl)
theorem dX1_isInLine_6 : decode cX1_isInLine 6 = .ok (.aload_n 1, 1) := dk_43 (dk_at dksX1_isInLine_0 6 rfl rfl)
theorem dX1_isInLine_7 : decode cX1_isInLine 7 = .ok (.invokevirtual 195, 3) := dk_182 0 195 (dk_at dksX1_isInLine_0 7 rfl rfl)
theorem dX1_isInLine_10 : decode cX1_isInLine 10 = .ok (.aload_n 2, 1) := dk_44 (dk_at dksX1_isInLine_0 10 rfl rfl)
theorem dX1_isInLine_11 : decode cX1_isInLine 11 = .ok (.invokevirtual 199, 3) := dk_182 0 199 (dk_at dksX1_isInLine_0 11 rfl rfl)
theorem dX1_isInLine_14 : decode cX1_isInLine 14 = .ok (.ifCond .eq 7, 3) := dk_153 0 7 (dk_at dksX1_isInLine_0 14 rfl rfl)
theorem dX1_isInLine_17 : decode cX1_isInLine 17 = .ok (.iconst 1, 1) := dk_4 (dk_at dksX1_isInLine_0 17 rfl rfl)
theorem dX1_isInLine_18 : decode cX1_isInLine 18 = .ok (.goto 4, 3) := dk_167 0 4 (dk_at dksX1_isInLine_0 18 rfl rfl)
theorem dX1_isInLine_21 : decode cX1_isInLine 21 = .ok (.iconst 0, 1) := dk_3 (dk_at dksX1_isInLine_0 21 rfl rfl)
theorem dX1_isInLine_22 : decode cX1_isInLine 22 = .ok (.ireturn, 1) := dk_172 (dk_at dksX1_isInLine_0 22 rfl rfl)
theorem q70 : (Jvm.Cond.initialized "TulipLines$Bed") ∈ lw_all := lw_g (lw_at lw_m1 2 rfl) rfl
theorem q111 : (Jvm.Cond.instantiable "TulipLines$Bed" (7 : Nat)) ∈ lw_all := lw_g (lw_at lw_m1 43 rfl) rfl
theorem q113 : (Jvm.Cond.instanceMethod ({ cls := "TulipLines$Bed", name := "<init>", desc := "()V" } : Jvm.MethodName)) ∈ lw_all := lw_g (lw_at lw_m1 45 rfl) rfl
theorem q114 : (Jvm.Cond.code ({ cls := "TulipLines$Bed", name := "<init>", desc := "()V" } : Jvm.MethodName) prog_2_method_1_code (2 : Nat) (Option.none : Option Jvm.ClassFile.FieldType)) ∈ lw_all := lw_g (lw_at lw_m1 46 rfl) rfl
theorem q115 : (Jvm.Cond.methodLink "TulipLines$Bed" (3 : Nat) ({ cls := "java/lang/Object", name := "<init>", desc := "()V" } : Jvm.MethodName)) ∈ lw_all := lw_g (lw_at lw_m1 47 rfl) rfl
theorem q116 : (Jvm.Cond.classLink "TulipLines$Bed" (9 : Nat) "java/util/ArrayList") ∈ lw_all := lw_g (lw_at lw_m1 48 rfl) rfl
theorem q118 : (Jvm.Cond.methodLink "TulipLines$Bed" (11 : Nat) ({ cls := "java/util/ArrayList", name := "<init>", desc := "()V" } : Jvm.MethodName)) ∈ lw_all := lw_g (lw_at lw_m1 50 rfl) rfl
theorem q145 : (Jvm.Cond.fieldLink "TulipLines$Bed" (12 : Nat) "TulipLines$Bed" "bulbs" "Ljava/util/ArrayList;") ∈ lw_all := lw_g (lw_at lw_m1 77 rfl) rfl
theorem q147 : (Jvm.Cond.fieldLink "TulipLines$Bed" (18 : Nat) "TulipLines$Bed" "weights" "[I") ∈ lw_all := lw_g (lw_at lw_m1 79 rfl) rfl
theorem q149 : (Jvm.Cond.fieldLink "TulipLines$Bed" (59 : Nat) "TulipLines$Bed" "wanted" "I") ∈ lw_all := lw_g (lw_at lw_m1 81 rfl) rfl
theorem q151 : (Jvm.Cond.fieldLink "TulipLines$Bed" (62 : Nat) "TulipLines$Bed" "luck" "I") ∈ lw_all := lw_g (lw_at lw_m1 83 rfl) rfl
theorem q153 : (Jvm.Cond.fieldLink "TulipLines$Bed" (22 : Nat) "TulipLines$Bed" "seed" "I") ∈ lw_all := lw_g (lw_at lw_m1 85 rfl) rfl
theorem q155 : (Jvm.Cond.fieldLink "TulipLines$Bed" (26 : Nat) "TulipLines$Bed" "room" "I") ∈ lw_all := lw_g (lw_at lw_m1 87 rfl) rfl
theorem q157 : (Jvm.Cond.fieldLink "TulipLines$Bed" (65 : Nat) "TulipLines$Bed" "year" "I") ∈ lw_all := lw_g (lw_at lw_m1 89 rfl) rfl
theorem q159 : (Jvm.Cond.laysFinal "TulipLines$Bed" "TulipLines$Bed" "bulbs" "Ljava/util/ArrayList;") ∈ lw_all := lw_g (lw_at lw_m1 91 rfl) rfl
theorem q160 : (Jvm.Cond.soleField "TulipLines$Bed" "bulbs") ∈ lw_all := lw_g (lw_at lw_m1 92 rfl) rfl
theorem q161 : (Jvm.Cond.laysFinal "TulipLines$Bed" "TulipLines$Bed" "weights" "[I") ∈ lw_all := lw_g (lw_at lw_m1 93 rfl) rfl
theorem q162 : (Jvm.Cond.soleField "TulipLines$Bed" "weights") ∈ lw_all := lw_g (lw_at lw_m1 94 rfl) rfl
theorem q163 : (Jvm.Cond.lays "TulipLines$Bed" "TulipLines$Bed" "wanted" "I") ∈ lw_all := lw_g (lw_at lw_m1 95 rfl) rfl
theorem q164 : (Jvm.Cond.soleField "TulipLines$Bed" "wanted") ∈ lw_all := lw_g (lw_at lw_m1 96 rfl) rfl
theorem q165 : (Jvm.Cond.lays "TulipLines$Bed" "TulipLines$Bed" "luck" "I") ∈ lw_all := lw_g (lw_at lw_m1 97 rfl) rfl
theorem q166 : (Jvm.Cond.soleField "TulipLines$Bed" "luck") ∈ lw_all := lw_g (lw_at lw_m1 98 rfl) rfl
theorem q167 : (Jvm.Cond.lays "TulipLines$Bed" "TulipLines$Bed" "seed" "I") ∈ lw_all := lw_g (lw_at lw_m1 99 rfl) rfl
theorem q168 : (Jvm.Cond.soleField "TulipLines$Bed" "seed") ∈ lw_all := lw_g (lw_at lw_m1 100 rfl) rfl
theorem q169 : (Jvm.Cond.lays "TulipLines$Bed" "TulipLines$Bed" "room" "I") ∈ lw_all := lw_g (lw_at lw_m1 101 rfl) rfl
theorem q170 : (Jvm.Cond.soleField "TulipLines$Bed" "room") ∈ lw_all := lw_g (lw_at lw_m1 102 rfl) rfl
theorem q171 : (Jvm.Cond.lays "TulipLines$Bed" "TulipLines$Bed" "year" "I") ∈ lw_all := lw_g (lw_at lw_m1 103 rfl) rfl
theorem q172 : (Jvm.Cond.soleField "TulipLines$Bed" "year") ∈ lw_all := lw_g (lw_at lw_m1 104 rfl) rfl
theorem q173 : (Jvm.Cond.superclass "TulipLines$Bed" "java/lang/Object") ∈ lw_all := lw_g (lw_at lw_m1 105 rfl) rfl
theorem q331 : (Jvm.Cond.instanceMethod ({ cls := "TulipLines$Bed", name := "plants", desc := "(I)I" } : Jvm.MethodName)) ∈ lw_all := lw_g (lw_at lw_m2 23 rfl) rfl
theorem q332 : (Jvm.Cond.selects "TulipLines$Bed" ({ cls := "TulipLines$Bed", name := "plants", desc := "(I)I" } : Jvm.MethodName) ({ cls := "TulipLines$Bed", name := "plants", desc := "(I)I" } : Jvm.MethodName)) ∈ lw_all := lw_g (lw_at lw_m2 24 rfl) rfl
theorem q333 : (Jvm.Cond.code ({ cls := "TulipLines$Bed", name := "plants", desc := "(I)I" } : Jvm.MethodName) prog_2_method_13_code (2 : Nat) (Option.some Jvm.ClassFile.FieldType.int)) ∈ lw_all := lw_g (lw_at lw_m2 25 rfl) rfl
theorem q334 : (Jvm.Cond.methodLink "TulipLines$Bed" (150 : Nat) ({ cls := "TulipLines$Bed", name := "mayCome", desc := "()V" } : Jvm.MethodName)) ∈ lw_all := lw_g (lw_at lw_m2 26 rfl) rfl
theorem q335 : (Jvm.Cond.privateMethod ({ cls := "TulipLines$Bed", name := "mayCome", desc := "()V" } : Jvm.MethodName)) ∈ lw_tbl := lw_at lw_m2 27 rfl
theorem q336 : (Jvm.Cond.instanceMethod ({ cls := "TulipLines$Bed", name := "mayCome", desc := "()V" } : Jvm.MethodName)) ∈ lw_all := lw_g (lw_at lw_m2 28 rfl) rfl
theorem q337 : (Jvm.Cond.code ({ cls := "TulipLines$Bed", name := "mayCome", desc := "()V" } : Jvm.MethodName) prog_2_method_10_code (1 : Nat) (Option.none : Option Jvm.ClassFile.FieldType)) ∈ lw_all := lw_g (lw_at lw_m2 29 rfl) rfl
theorem q338 : (Jvm.Cond.methodLink "TulipLines$Bed" (68 : Nat) ({ cls := "java/util/ArrayList", name := "size", desc := "()I" } : Jvm.MethodName)) ∈ lw_all := lw_g (lw_at lw_m2 30 rfl) rfl
theorem q342 : (Jvm.Cond.methodLinkNest "TulipLines$Bed" (113 : Nat) ({ cls := "TulipLines", name := "refuseIf", desc := "(ZII)V" } : Jvm.MethodName) "TulipLines") ∈ lw_tbl := lw_at lw_m2 34 rfl
theorem q368 : (Jvm.Cond.methodLink "TulipLines$Bed" (117 : Nat) ({ cls := "TulipLines$Bed", name := "living", desc := "()I" } : Jvm.MethodName)) ∈ lw_all := lw_g (lw_at lw_m2 60 rfl) rfl
theorem q369 : (Jvm.Cond.instanceMethod ({ cls := "TulipLines$Bed", name := "living", desc := "()I" } : Jvm.MethodName)) ∈ lw_all := lw_g (lw_at lw_m2 61 rfl) rfl
theorem q370 : (Jvm.Cond.selects "TulipLines$Bed" ({ cls := "TulipLines$Bed", name := "living", desc := "()I" } : Jvm.MethodName) ({ cls := "TulipLines$Bed", name := "living", desc := "()I" } : Jvm.MethodName)) ∈ lw_all := lw_g (lw_at lw_m2 62 rfl) rfl
theorem q371 : (Jvm.Cond.code ({ cls := "TulipLines$Bed", name := "living", desc := "()I" } : Jvm.MethodName) prog_2_method_6_code (4 : Nat) (Option.some Jvm.ClassFile.FieldType.int)) ∈ lw_all := lw_g (lw_at lw_m2 63 rfl) rfl
theorem q372 : (Jvm.Cond.methodLink "TulipLines$Bed" (29 : Nat) ({ cls := "java/util/ArrayList", name := "iterator", desc := "()Ljava/util/Iterator;" } : Jvm.MethodName)) ∈ lw_all := lw_g (lw_at lw_m2 64 rfl) rfl
theorem q395 : (Jvm.Cond.interfaceEntry "TulipLines$Bed" (33 : Nat)) ∈ lw_tbl := lw_at lw_m2 87 rfl
theorem q396 : (Jvm.Cond.methodLink "TulipLines$Bed" (33 : Nat) ({ cls := "java/util/Iterator", name := "hasNext", desc := "()Z" } : Jvm.MethodName)) ∈ lw_all := lw_g (lw_at lw_m2 88 rfl) rfl
theorem q405 : (Jvm.Cond.interfaceEntry "TulipLines$Bed" (39 : Nat)) ∈ lw_tbl := lw_at lw_m2 97 rfl
theorem q406 : (Jvm.Cond.methodLink "TulipLines$Bed" (39 : Nat) ({ cls := "java/util/Iterator", name := "next", desc := "()Ljava/lang/Object;" } : Jvm.MethodName)) ∈ lw_all := lw_g (lw_at lw_m2 98 rfl) rfl
theorem q418 : (Jvm.Cond.classLink "TulipLines$Bed" (43 : Nat) "TulipLines$Bulb") ∈ lw_all := lw_g (lw_at lw_m2 110 rfl) rfl
theorem q420 : (Jvm.Cond.methodLink "TulipLines$Bed" (143 : Nat) ({ cls := "TulipLines$Bulb", name := "<init>", desc := "(IIIIIIZ)V" } : Jvm.MethodName)) ∈ lw_all := lw_g (lw_at lw_m2 112 rfl) rfl
theorem q425 : (Jvm.Cond.fieldLink "TulipLines$Bed" (103 : Nat) "TulipLines$Bulb" "number" "I") ∈ lw_all := lw_g (lw_at lw_m2 117 rfl) rfl
theorem q429 : (Jvm.Cond.fieldLink "TulipLines$Bed" (96 : Nat) "TulipLines$Bulb" "pattern" "I") ∈ lw_all := lw_g (lw_at lw_m2 121 rfl) rfl
theorem q432 : (Jvm.Cond.fieldLink "TulipLines$Bed" (179 : Nat) "TulipLines$Bulb" "mother" "I") ∈ lw_all := lw_g (lw_at lw_m2 124 rfl) rfl
theorem q435 : (Jvm.Cond.fieldLink "TulipLines$Bed" (177 : Nat) "TulipLines$Bulb" "father" "I") ∈ lw_all := lw_g (lw_at lw_m2 127 rfl) rfl
theorem q440 : (Jvm.Cond.fieldLink "TulipLines$Bed" (131 : Nat) "TulipLines$Bulb" "generation" "I") ∈ lw_all := lw_g (lw_at lw_m2 132 rfl) rfl
theorem q445 : (Jvm.Cond.fieldLink "TulipLines$Bed" (92 : Nat) "TulipLines$Bulb" "hasDied" "Z") ∈ lw_all := lw_g (lw_at lw_m2 137 rfl) rfl
theorem q464 : (Jvm.Cond.methodLink "TulipLines$Bed" (146 : Nat) ({ cls := "TulipLines$Bed", name := "comes", desc := "(LTulipLines$Bulb;)I" } : Jvm.MethodName)) ∈ lw_all := lw_g (lw_at lw_m2 156 rfl) rfl
theorem q465 : (Jvm.Cond.privateMethod ({ cls := "TulipLines$Bed", name := "comes", desc := "(LTulipLines$Bulb;)I" } : Jvm.MethodName)) ∈ lw_tbl := lw_at lw_m2 157 rfl
theorem q466 : (Jvm.Cond.instanceMethod ({ cls := "TulipLines$Bed", name := "comes", desc := "(LTulipLines$Bulb;)I" } : Jvm.MethodName)) ∈ lw_all := lw_g (lw_at lw_m2 158 rfl) rfl
theorem q467 : (Jvm.Cond.code ({ cls := "TulipLines$Bed", name := "comes", desc := "(LTulipLines$Bulb;)I" } : Jvm.MethodName) prog_2_method_11_code (3 : Nat) (Option.some Jvm.ClassFile.FieldType.int)) ∈ lw_all := lw_g (lw_at lw_m2 159 rfl) rfl
theorem q468 : (Jvm.Cond.methodLink "TulipLines$Bed" (49 : Nat) ({ cls := "java/util/ArrayList", name := "add", desc := "(Ljava/lang/Object;)Z" } : Jvm.MethodName)) ∈ lw_all := lw_g (lw_at lw_m2 160 rfl) rfl
theorem q501 : (Jvm.Cond.selects "TulipLines$Bed" ({ cls := "java/lang/Object", name := "getClass", desc := "()Ljava/lang/Class;" } : Jvm.MethodName) ({ cls := "java/lang/Object", name := "getClass", desc := "()Ljava/lang/Class;" } : Jvm.MethodName)) ∈ lw_all := lw_g (lw_at lw_m2 193 rfl) rfl
theorem q535 : (Jvm.Cond.instanceMethod ({ cls := "TulipLines$Bed", name := "<init>", desc := "(LTulipLines$Bed;)V" } : Jvm.MethodName)) ∈ lw_all := lw_g (lw_at lw_m2 227 rfl) rfl
theorem q536 : (Jvm.Cond.code ({ cls := "TulipLines$Bed", name := "<init>", desc := "(LTulipLines$Bed;)V" } : Jvm.MethodName) prog_2_method_2_code (5 : Nat) (Option.none : Option Jvm.ClassFile.FieldType)) ∈ lw_all := lw_g (lw_at lw_m2 228 rfl) rfl
theorem q537 : (Jvm.Cond.methodLink "TulipLines$Bed" (45 : Nat) ({ cls := "TulipLines$Bulb", name := "copy", desc := "()LTulipLines$Bulb;" } : Jvm.MethodName)) ∈ lw_all := lw_g (lw_at lw_m2 229 rfl) rfl
theorem q543 : (Jvm.Cond.methodLink "TulipLines$Bed" (53 : Nat) ({ cls := "java/lang/System", name := "arraycopy", desc := "(Ljava/lang/Object;ILjava/lang/Object;II)V" } : Jvm.MethodName)) ∈ lw_all := lw_g (lw_at lw_m2 235 rfl) rfl
theorem q607 : (Jvm.Cond.instanceMethod ({ cls := "TulipLines$Bed", name := "bulb", desc := "(I)LTulipLines$Bulb;" } : Jvm.MethodName)) ∈ lw_all := lw_g (lw_at lw_m3 59 rfl) rfl
theorem q608 : (Jvm.Cond.selects "TulipLines$Bed" ({ cls := "TulipLines$Bed", name := "bulb", desc := "(I)LTulipLines$Bulb;" } : Jvm.MethodName) ({ cls := "TulipLines$Bed", name := "bulb", desc := "(I)LTulipLines$Bulb;" } : Jvm.MethodName)) ∈ lw_all := lw_g (lw_at lw_m3 60 rfl) rfl
theorem q609 : (Jvm.Cond.code ({ cls := "TulipLines$Bed", name := "bulb", desc := "(I)LTulipLines$Bulb;" } : Jvm.MethodName) prog_2_method_4_code (2 : Nat) (Option.some (Jvm.ClassFile.FieldType.object "TulipLines$Bulb"))) ∈ lw_all := lw_g (lw_at lw_m3 61 rfl) rfl
theorem q610 : (Jvm.Cond.methodLink "TulipLines$Bed" (76 : Nat) ({ cls := "TulipLines$Bed", name := "has", desc := "(I)Z" } : Jvm.MethodName)) ∈ lw_all := lw_g (lw_at lw_m3 62 rfl) rfl
theorem q611 : (Jvm.Cond.instanceMethod ({ cls := "TulipLines$Bed", name := "has", desc := "(I)Z" } : Jvm.MethodName)) ∈ lw_all := lw_g (lw_at lw_m3 63 rfl) rfl
theorem q612 : (Jvm.Cond.selects "TulipLines$Bed" ({ cls := "TulipLines$Bed", name := "has", desc := "(I)Z" } : Jvm.MethodName) ({ cls := "TulipLines$Bed", name := "has", desc := "(I)Z" } : Jvm.MethodName)) ∈ lw_all := lw_g (lw_at lw_m3 64 rfl) rfl
theorem q613 : (Jvm.Cond.code ({ cls := "TulipLines$Bed", name := "has", desc := "(I)Z" } : Jvm.MethodName) prog_2_method_3_code (2 : Nat) (Option.some Jvm.ClassFile.FieldType.boolean)) ∈ lw_all := lw_g (lw_at lw_m3 65 rfl) rfl
theorem q614 : (Jvm.Cond.methodLinkNest "TulipLines$Bed" (72 : Nat) ({ cls := "TulipLines", name := "isBetween", desc := "(III)Z" } : Jvm.MethodName) "TulipLines") ∈ lw_tbl := lw_at lw_m3 66 rfl
theorem q615 : (Jvm.Cond.methodLinkNest "TulipLines$Bed" (80 : Nat) ({ cls := "TulipLines", name := "wants", desc := "(ZI)V" } : Jvm.MethodName) "TulipLines") ∈ lw_tbl := lw_at lw_m3 67 rfl
theorem q616 : (Jvm.Cond.methodLink "TulipLines$Bed" (84 : Nat) ({ cls := "java/util/ArrayList", name := "get", desc := "(I)Ljava/lang/Object;" } : Jvm.MethodName)) ∈ lw_all := lw_g (lw_at lw_m3 68 rfl) rfl
theorem q637 : (Jvm.Cond.fieldLink "TulipLines$Bed" (127 : Nat) "TulipLines$Crossing" "mother" "LTulipLines$Bulb;") ∈ lw_all := lw_g (lw_at lw_m3 89 rfl) rfl
theorem q640 : (Jvm.Cond.fieldLink "TulipLines$Bed" (134 : Nat) "TulipLines$Crossing" "father" "LTulipLines$Bulb;") ∈ lw_all := lw_g (lw_at lw_m3 92 rfl) rfl
theorem q652 : (Jvm.Cond.instanceMethod ({ cls := "TulipLines$Bed", name := "crosses", desc := "(LTulipLines$Crossing;)I" } : Jvm.MethodName)) ∈ lw_all := lw_g (lw_at lw_m3 104 rfl) rfl
theorem q653 : (Jvm.Cond.selects "TulipLines$Bed" ({ cls := "TulipLines$Bed", name := "crosses", desc := "(LTulipLines$Crossing;)I" } : Jvm.MethodName) ({ cls := "TulipLines$Bed", name := "crosses", desc := "(LTulipLines$Crossing;)I" } : Jvm.MethodName)) ∈ lw_all := lw_g (lw_at lw_m3 105 rfl) rfl
theorem q654 : (Jvm.Cond.code ({ cls := "TulipLines$Bed", name := "crosses", desc := "(LTulipLines$Crossing;)I" } : Jvm.MethodName) prog_2_method_15_code (2 : Nat) (Option.some Jvm.ClassFile.FieldType.int)) ∈ lw_all := lw_g (lw_at lw_m3 106 rfl) rfl
theorem q655 : (Jvm.Cond.methodLink "TulipLines$Bed" (153 : Nat) ({ cls := "TulipLines$Bed", name := "mustLive", desc := "(LTulipLines$Bulb;)V" } : Jvm.MethodName)) ∈ lw_all := lw_g (lw_at lw_m3 107 rfl) rfl
theorem q656 : (Jvm.Cond.static ({ cls := "TulipLines$Bed", name := "mustLive", desc := "(LTulipLines$Bulb;)V" } : Jvm.MethodName)) ∈ lw_all := lw_g (lw_at lw_m3 108 rfl) rfl
theorem q657 : (Jvm.Cond.code ({ cls := "TulipLines$Bed", name := "mustLive", desc := "(LTulipLines$Bulb;)V" } : Jvm.MethodName) prog_2_method_14_code (1 : Nat) (Option.none : Option Jvm.ClassFile.FieldType)) ∈ lw_all := lw_g (lw_at lw_m3 109 rfl) rfl
theorem q658 : (Jvm.Cond.methodLink "TulipLines$Bed" (157 : Nat) ({ cls := "TulipLines$Bed", name := "breeds", desc := "(LTulipLines$Crossing;)I" } : Jvm.MethodName)) ∈ lw_all := lw_g (lw_at lw_m3 110 rfl) rfl
theorem q659 : (Jvm.Cond.privateMethod ({ cls := "TulipLines$Bed", name := "breeds", desc := "(LTulipLines$Crossing;)I" } : Jvm.MethodName)) ∈ lw_tbl := lw_at lw_m3 111 rfl
theorem q660 : (Jvm.Cond.instanceMethod ({ cls := "TulipLines$Bed", name := "breeds", desc := "(LTulipLines$Crossing;)I" } : Jvm.MethodName)) ∈ lw_all := lw_g (lw_at lw_m3 112 rfl) rfl
theorem q661 : (Jvm.Cond.code ({ cls := "TulipLines$Bed", name := "breeds", desc := "(LTulipLines$Crossing;)I" } : Jvm.MethodName) prog_2_method_12_code (5 : Nat) (Option.some Jvm.ClassFile.FieldType.int)) ∈ lw_all := lw_g (lw_at lw_m3 113 rfl) rfl
theorem q662 : (Jvm.Cond.methodLink "TulipLines$Bed" (120 : Nat) ({ cls := "TulipLines$Crossing", name := "pattern", desc := "()I" } : Jvm.MethodName)) ∈ lw_all := lw_g (lw_at lw_m3 114 rfl) rfl
theorem q666 : (Jvm.Cond.methodLink "TulipLines$Bed" (124 : Nat) ({ cls := "TulipLines$Bed", name := "drawn", desc := "()I" } : Jvm.MethodName)) ∈ lw_all := lw_g (lw_at lw_m3 118 rfl) rfl
theorem q667 : (Jvm.Cond.privateMethod ({ cls := "TulipLines$Bed", name := "drawn", desc := "()I" } : Jvm.MethodName)) ∈ lw_tbl := lw_at lw_m3 119 rfl
theorem q668 : (Jvm.Cond.instanceMethod ({ cls := "TulipLines$Bed", name := "drawn", desc := "()I" } : Jvm.MethodName)) ∈ lw_all := lw_g (lw_at lw_m3 120 rfl) rfl
theorem q669 : (Jvm.Cond.code ({ cls := "TulipLines$Bed", name := "drawn", desc := "()I" } : Jvm.MethodName) prog_2_method_9_code (1 : Nat) (Option.some Jvm.ClassFile.FieldType.int)) ∈ lw_all := lw_g (lw_at lw_m3 121 rfl) rfl
theorem q670 : (Jvm.Cond.methodLink "TulipLines$Bed" (137 : Nat) ({ cls := "java/lang/Math", name := "max", desc := "(II)I" } : Jvm.MethodName)) ∈ lw_all := lw_g (lw_at lw_m3 122 rfl) rfl
theorem q681 : (Jvm.Cond.instanceMethod ({ cls := "TulipLines$Bed", name := "dies", desc := "(LTulipLines$Bulb;)I" } : Jvm.MethodName)) ∈ lw_all := lw_g (lw_at lw_m3 133 rfl) rfl
theorem q682 : (Jvm.Cond.selects "TulipLines$Bed" ({ cls := "TulipLines$Bed", name := "dies", desc := "(LTulipLines$Bulb;)I" } : Jvm.MethodName) ({ cls := "TulipLines$Bed", name := "dies", desc := "(LTulipLines$Bulb;)I" } : Jvm.MethodName)) ∈ lw_all := lw_g (lw_at lw_m3 134 rfl) rfl
theorem q683 : (Jvm.Cond.code ({ cls := "TulipLines$Bed", name := "dies", desc := "(LTulipLines$Bulb;)I" } : Jvm.MethodName) prog_2_method_16_code (2 : Nat) (Option.some Jvm.ClassFile.FieldType.int)) ∈ lw_all := lw_g (lw_at lw_m3 135 rfl) rfl
theorem q694 : (Jvm.Cond.instanceMethod ({ cls := "TulipLines$Bed", name := "hasWanted", desc := "(I)I" } : Jvm.MethodName)) ∈ lw_all := lw_g (lw_at lw_m3 146 rfl) rfl
theorem q695 : (Jvm.Cond.selects "TulipLines$Bed" ({ cls := "TulipLines$Bed", name := "hasWanted", desc := "(I)I" } : Jvm.MethodName) ({ cls := "TulipLines$Bed", name := "hasWanted", desc := "(I)I" } : Jvm.MethodName)) ∈ lw_all := lw_g (lw_at lw_m3 147 rfl) rfl
theorem q696 : (Jvm.Cond.code ({ cls := "TulipLines$Bed", name := "hasWanted", desc := "(I)I" } : Jvm.MethodName) prog_2_method_18_code (3 : Nat) (Option.some Jvm.ClassFile.FieldType.int)) ∈ lw_all := lw_g (lw_at lw_m3 148 rfl) rfl
theorem q697 : (Jvm.Cond.methodLink "TulipLines$Bed" (161 : Nat) ({ cls := "TulipLines$Bed", name := "told", desc := "(II)I" } : Jvm.MethodName)) ∈ lw_all := lw_g (lw_at lw_m3 149 rfl) rfl
theorem q698 : (Jvm.Cond.static ({ cls := "TulipLines$Bed", name := "told", desc := "(II)I" } : Jvm.MethodName)) ∈ lw_all := lw_g (lw_at lw_m3 150 rfl) rfl
theorem q699 : (Jvm.Cond.code ({ cls := "TulipLines$Bed", name := "told", desc := "(II)I" } : Jvm.MethodName) prog_2_method_17_code (2 : Nat) (Option.some Jvm.ClassFile.FieldType.int)) ∈ lw_all := lw_g (lw_at lw_m3 151 rfl) rfl
theorem q710 : (Jvm.Cond.instanceMethod ({ cls := "TulipLines$Bed", name := "weighs", desc := "(II)I" } : Jvm.MethodName)) ∈ lw_all := lw_g (lw_at lw_m3 162 rfl) rfl
theorem q711 : (Jvm.Cond.selects "TulipLines$Bed" ({ cls := "TulipLines$Bed", name := "weighs", desc := "(II)I" } : Jvm.MethodName) ({ cls := "TulipLines$Bed", name := "weighs", desc := "(II)I" } : Jvm.MethodName)) ∈ lw_all := lw_g (lw_at lw_m3 163 rfl) rfl
theorem q712 : (Jvm.Cond.code ({ cls := "TulipLines$Bed", name := "weighs", desc := "(II)I" } : Jvm.MethodName) prog_2_method_19_code (4 : Nat) (Option.some Jvm.ClassFile.FieldType.int)) ∈ lw_all := lw_g (lw_at lw_m3 164 rfl) rfl
theorem q723 : (Jvm.Cond.instanceMethod ({ cls := "TulipLines$Bed", name := "hasLuck", desc := "(I)I" } : Jvm.MethodName)) ∈ lw_all := lw_g (lw_at lw_m3 175 rfl) rfl
theorem q724 : (Jvm.Cond.selects "TulipLines$Bed" ({ cls := "TulipLines$Bed", name := "hasLuck", desc := "(I)I" } : Jvm.MethodName) ({ cls := "TulipLines$Bed", name := "hasLuck", desc := "(I)I" } : Jvm.MethodName)) ∈ lw_all := lw_g (lw_at lw_m3 176 rfl) rfl
theorem q725 : (Jvm.Cond.code ({ cls := "TulipLines$Bed", name := "hasLuck", desc := "(I)I" } : Jvm.MethodName) prog_2_method_20_code (3 : Nat) (Option.some Jvm.ClassFile.FieldType.int)) ∈ lw_all := lw_g (lw_at lw_m3 177 rfl) rfl
theorem q734 : (Jvm.Cond.instanceMethod ({ cls := "TulipLines$Bed", name := "hasSeed", desc := "(I)I" } : Jvm.MethodName)) ∈ lw_all := lw_g (lw_at lw_m3 186 rfl) rfl
theorem q735 : (Jvm.Cond.selects "TulipLines$Bed" ({ cls := "TulipLines$Bed", name := "hasSeed", desc := "(I)I" } : Jvm.MethodName) ({ cls := "TulipLines$Bed", name := "hasSeed", desc := "(I)I" } : Jvm.MethodName)) ∈ lw_all := lw_g (lw_at lw_m3 187 rfl) rfl
theorem q736 : (Jvm.Cond.code ({ cls := "TulipLines$Bed", name := "hasSeed", desc := "(I)I" } : Jvm.MethodName) prog_2_method_21_code (3 : Nat) (Option.some Jvm.ClassFile.FieldType.int)) ∈ lw_all := lw_g (lw_at lw_m3 188 rfl) rfl
theorem q747 : (Jvm.Cond.instanceMethod ({ cls := "TulipLines$Bed", name := "hasRoom", desc := "(I)I" } : Jvm.MethodName)) ∈ lw_all := lw_g (lw_at lw_m3 199 rfl) rfl
theorem q748 : (Jvm.Cond.selects "TulipLines$Bed" ({ cls := "TulipLines$Bed", name := "hasRoom", desc := "(I)I" } : Jvm.MethodName) ({ cls := "TulipLines$Bed", name := "hasRoom", desc := "(I)I" } : Jvm.MethodName)) ∈ lw_all := lw_g (lw_at lw_m3 200 rfl) rfl
theorem q749 : (Jvm.Cond.code ({ cls := "TulipLines$Bed", name := "hasRoom", desc := "(I)I" } : Jvm.MethodName) prog_2_method_22_code (3 : Nat) (Option.some Jvm.ClassFile.FieldType.int)) ∈ lw_all := lw_g (lw_at lw_m3 201 rfl) rfl
theorem q760 : (Jvm.Cond.instanceMethod ({ cls := "TulipLines$Bed", name := "passes", desc := "(I)I" } : Jvm.MethodName)) ∈ lw_all := lw_g (lw_at lw_m3 212 rfl) rfl
theorem q761 : (Jvm.Cond.selects "TulipLines$Bed" ({ cls := "TulipLines$Bed", name := "passes", desc := "(I)I" } : Jvm.MethodName) ({ cls := "TulipLines$Bed", name := "passes", desc := "(I)I" } : Jvm.MethodName)) ∈ lw_all := lw_g (lw_at lw_m3 213 rfl) rfl
theorem q762 : (Jvm.Cond.code ({ cls := "TulipLines$Bed", name := "passes", desc := "(I)I" } : Jvm.MethodName) prog_2_method_24_code (4 : Nat) (Option.some Jvm.ClassFile.FieldType.int)) ∈ lw_all := lw_g (lw_at lw_m3 214 rfl) rfl
theorem q763 : (Jvm.Cond.methodLink "TulipLines$Bed" (171 : Nat) ({ cls := "TulipLines$Bed", name := "yearGoesBy", desc := "()I" } : Jvm.MethodName)) ∈ lw_all := lw_g (lw_at lw_m3 215 rfl) rfl
theorem q764 : (Jvm.Cond.privateMethod ({ cls := "TulipLines$Bed", name := "yearGoesBy", desc := "()I" } : Jvm.MethodName)) ∈ lw_tbl := lw_at lw_m3 216 rfl
theorem q765 : (Jvm.Cond.instanceMethod ({ cls := "TulipLines$Bed", name := "yearGoesBy", desc := "()I" } : Jvm.MethodName)) ∈ lw_all := lw_g (lw_at lw_m3 217 rfl) rfl
theorem q766 : (Jvm.Cond.code ({ cls := "TulipLines$Bed", name := "yearGoesBy", desc := "()I" } : Jvm.MethodName) prog_2_method_23_code (5 : Nat) (Option.some Jvm.ClassFile.FieldType.int)) ∈ lw_all := lw_g (lw_at lw_m3 218 rfl) rfl
theorem q767 : (Jvm.Cond.methodLink "TulipLines$Bed" (164 : Nat) ({ cls := "TulipLines$Bed", name := "order", desc := "()Ljava/util/ArrayList;" } : Jvm.MethodName)) ∈ lw_all := lw_g (lw_at lw_m3 219 rfl) rfl
theorem q768 : (Jvm.Cond.instanceMethod ({ cls := "TulipLines$Bed", name := "order", desc := "()Ljava/util/ArrayList;" } : Jvm.MethodName)) ∈ lw_all := lw_g (lw_at lw_m3 220 rfl) rfl
theorem q769 : (Jvm.Cond.selects "TulipLines$Bed" ({ cls := "TulipLines$Bed", name := "order", desc := "()Ljava/util/ArrayList;" } : Jvm.MethodName) ({ cls := "TulipLines$Bed", name := "order", desc := "()Ljava/util/ArrayList;" } : Jvm.MethodName)) ∈ lw_all := lw_g (lw_at lw_m3 221 rfl) rfl
theorem q770 : (Jvm.Cond.code ({ cls := "TulipLines$Bed", name := "order", desc := "()Ljava/util/ArrayList;" } : Jvm.MethodName) prog_2_method_8_code (5 : Nat) (Option.some (Jvm.ClassFile.FieldType.object "java/util/ArrayList"))) ∈ lw_all := lw_g (lw_at lw_m3 222 rfl) rfl
theorem q771 : (Jvm.Cond.methodLink "TulipLines$Bed" (106 : Nat) ({ cls := "TulipLines$Bed", name := "isAhead", desc := "(LTulipLines$Bulb;LTulipLines$Bulb;)Z" } : Jvm.MethodName)) ∈ lw_all := lw_g (lw_at lw_m3 223 rfl) rfl
theorem q772 : (Jvm.Cond.privateMethod ({ cls := "TulipLines$Bed", name := "isAhead", desc := "(LTulipLines$Bulb;LTulipLines$Bulb;)Z" } : Jvm.MethodName)) ∈ lw_tbl := lw_at lw_m3 224 rfl
theorem q773 : (Jvm.Cond.instanceMethod ({ cls := "TulipLines$Bed", name := "isAhead", desc := "(LTulipLines$Bulb;LTulipLines$Bulb;)Z" } : Jvm.MethodName)) ∈ lw_all := lw_g (lw_at lw_m3 225 rfl) rfl
theorem q774 : (Jvm.Cond.code ({ cls := "TulipLines$Bed", name := "isAhead", desc := "(LTulipLines$Bulb;LTulipLines$Bulb;)Z" } : Jvm.MethodName) prog_2_method_7_code (4 : Nat) (Option.some Jvm.ClassFile.FieldType.boolean)) ∈ lw_all := lw_g (lw_at lw_m3 226 rfl) rfl
theorem q775 : (Jvm.Cond.methodLink "TulipLines$Bed" (99 : Nat) ({ cls := "TulipLines$Bed", name := "worth", desc := "(I)I" } : Jvm.MethodName)) ∈ lw_all := lw_g (lw_at lw_m3 227 rfl) rfl
theorem q776 : (Jvm.Cond.instanceMethod ({ cls := "TulipLines$Bed", name := "worth", desc := "(I)I" } : Jvm.MethodName)) ∈ lw_all := lw_g (lw_at lw_m3 228 rfl) rfl
theorem q777 : (Jvm.Cond.selects "TulipLines$Bed" ({ cls := "TulipLines$Bed", name := "worth", desc := "(I)I" } : Jvm.MethodName) ({ cls := "TulipLines$Bed", name := "worth", desc := "(I)I" } : Jvm.MethodName)) ∈ lw_all := lw_g (lw_at lw_m3 229 rfl) rfl
theorem q778 : (Jvm.Cond.code ({ cls := "TulipLines$Bed", name := "worth", desc := "(I)I" } : Jvm.MethodName) prog_2_method_5_code (4 : Nat) (Option.some Jvm.ClassFile.FieldType.int)) ∈ lw_all := lw_g (lw_at lw_m3 230 rfl) rfl
theorem q779 : (Jvm.Cond.methodLinkNest "TulipLines$Bed" (88 : Nat) ({ cls := "TulipLines", name := "isRed", desc := "(II)Z" } : Jvm.MethodName) "TulipLines") ∈ lw_tbl := lw_at lw_m3 231 rfl
theorem q782 : (Jvm.Cond.methodLink "TulipLines$Bed" (110 : Nat) ({ cls := "java/util/ArrayList", name := "add", desc := "(ILjava/lang/Object;)V" } : Jvm.MethodName)) ∈ lw_all := lw_g (lw_at lw_m3 234 rfl) rfl
theorem q791 : (Jvm.Cond.classLink "TulipLines$Bed" (121 : Nat) "TulipLines$Crossing") ∈ lw_all := lw_g (lw_at lw_m4 3 rfl) rfl
theorem q792 : (Jvm.Cond.methodLink "TulipLines$Bed" (168 : Nat) ({ cls := "TulipLines$Crossing", name := "<init>", desc := "(LTulipLines$Bulb;LTulipLines$Bulb;I)V" } : Jvm.MethodName)) ∈ lw_all := lw_g (lw_at lw_m4 4 rfl) rfl
theorem q818 : (Jvm.Cond.instanceMethod ({ cls := "TulipLines$Bed", name := "areKin", desc := "(LTulipLines$Bulb;LTulipLines$Bulb;)Z" } : Jvm.MethodName)) ∈ lw_all := lw_g (lw_at lw_m4 30 rfl) rfl
theorem q819 : (Jvm.Cond.selects "TulipLines$Bed" ({ cls := "TulipLines$Bed", name := "areKin", desc := "(LTulipLines$Bulb;LTulipLines$Bulb;)Z" } : Jvm.MethodName) ({ cls := "TulipLines$Bed", name := "areKin", desc := "(LTulipLines$Bulb;LTulipLines$Bulb;)Z" } : Jvm.MethodName)) ∈ lw_all := lw_g (lw_at lw_m4 31 rfl) rfl
theorem q820 : (Jvm.Cond.code ({ cls := "TulipLines$Bed", name := "areKin", desc := "(LTulipLines$Bulb;LTulipLines$Bulb;)Z" } : Jvm.MethodName) prog_2_method_28_code (3 : Nat) (Option.some Jvm.ClassFile.FieldType.boolean)) ∈ lw_all := lw_g (lw_at lw_m4 32 rfl) rfl
theorem q821 : (Jvm.Cond.methodLink "TulipLines$Bed" (195 : Nat) ({ cls := "TulipLines$Bed", name := "forebears", desc := "(LTulipLines$Bulb;)LTulipLines$Once;" } : Jvm.MethodName)) ∈ lw_all := lw_g (lw_at lw_m4 33 rfl) rfl
theorem q822 : (Jvm.Cond.instanceMethod ({ cls := "TulipLines$Bed", name := "forebears", desc := "(LTulipLines$Bulb;)LTulipLines$Once;" } : Jvm.MethodName)) ∈ lw_all := lw_g (lw_at lw_m4 34 rfl) rfl
theorem q823 : (Jvm.Cond.selects "TulipLines$Bed" ({ cls := "TulipLines$Bed", name := "forebears", desc := "(LTulipLines$Bulb;)LTulipLines$Once;" } : Jvm.MethodName) ({ cls := "TulipLines$Bed", name := "forebears", desc := "(LTulipLines$Bulb;)LTulipLines$Once;" } : Jvm.MethodName)) ∈ lw_all := lw_g (lw_at lw_m4 35 rfl) rfl
theorem q824 : (Jvm.Cond.code ({ cls := "TulipLines$Bed", name := "forebears", desc := "(LTulipLines$Bulb;)LTulipLines$Once;" } : Jvm.MethodName) prog_2_method_26_code (4 : Nat) (Option.some (Jvm.ClassFile.FieldType.object "TulipLines$Once"))) ∈ lw_all := lw_g (lw_at lw_m4 36 rfl) rfl
theorem q825 : (Jvm.Cond.classLink "TulipLines$Bed" (181 : Nat) "TulipLines$Once") ∈ lw_all := lw_g (lw_at lw_m4 37 rfl) rfl
theorem q827 : (Jvm.Cond.methodLinkNest "TulipLines$Bed" (183 : Nat) ({ cls := "TulipLines$Once", name := "<init>", desc := "()V" } : Jvm.MethodName) "TulipLines") ∈ lw_tbl := lw_at lw_m4 39 rfl
theorem q837 : (Jvm.Cond.methodLink "TulipLines$Bed" (184 : Nat) ({ cls := "TulipLines$Bed", name := "parent", desc := "(LTulipLines$Bulb;Z)LTulipLines$Bulb;" } : Jvm.MethodName)) ∈ lw_all := lw_g (lw_at lw_m4 49 rfl) rfl
theorem q838 : (Jvm.Cond.instanceMethod ({ cls := "TulipLines$Bed", name := "parent", desc := "(LTulipLines$Bulb;Z)LTulipLines$Bulb;" } : Jvm.MethodName)) ∈ lw_all := lw_g (lw_at lw_m4 50 rfl) rfl
theorem q839 : (Jvm.Cond.selects "TulipLines$Bed" ({ cls := "TulipLines$Bed", name := "parent", desc := "(LTulipLines$Bulb;Z)LTulipLines$Bulb;" } : Jvm.MethodName) ({ cls := "TulipLines$Bed", name := "parent", desc := "(LTulipLines$Bulb;Z)LTulipLines$Bulb;" } : Jvm.MethodName)) ∈ lw_all := lw_g (lw_at lw_m4 51 rfl) rfl
theorem q840 : (Jvm.Cond.code ({ cls := "TulipLines$Bed", name := "parent", desc := "(LTulipLines$Bulb;Z)LTulipLines$Bulb;" } : Jvm.MethodName) prog_2_method_25_code (3 : Nat) (Option.some (Jvm.ClassFile.FieldType.object "TulipLines$Bulb"))) ∈ lw_all := lw_g (lw_at lw_m4 52 rfl) rfl
theorem q841 : (Jvm.Cond.methodLink "TulipLines$Bed" (174 : Nat) ({ cls := "TulipLines$Bulb", name := "isBred", desc := "()Z" } : Jvm.MethodName)) ∈ lw_all := lw_g (lw_at lw_m4 53 rfl) rfl
theorem q845 : (Jvm.Cond.methodLink "TulipLines$Bed" (188 : Nat) ({ cls := "TulipLines$Once", name := "comes", desc := "(LTulipLines$Bulb;)V" } : Jvm.MethodName)) ∈ lw_all := lw_g (lw_at lw_m4 57 rfl) rfl
theorem q856 : (Jvm.Cond.methodLink "TulipLines$Bed" (190 : Nat) ({ cls := "TulipLines$Once", name := "size", desc := "()I" } : Jvm.MethodName)) ∈ lw_all := lw_g (lw_at lw_m4 68 rfl) rfl
theorem q860 : (Jvm.Cond.methodLink "TulipLines$Bed" (191 : Nat) ({ cls := "TulipLines$Once", name := "at", desc := "(I)LTulipLines$Bulb;" } : Jvm.MethodName)) ∈ lw_all := lw_g (lw_at lw_m4 72 rfl) rfl
theorem q865 : (Jvm.Cond.methodLink "TulipLines$Bed" (202 : Nat) ({ cls := "TulipLines$Bed", name := "areKin", desc := "(LTulipLines$Bulb;LTulipLines$Once;LTulipLines$Bulb;LTulipLines$Once;)Z" } : Jvm.MethodName)) ∈ lw_all := lw_g (lw_at lw_m4 77 rfl) rfl
theorem q866 : (Jvm.Cond.instanceMethod ({ cls := "TulipLines$Bed", name := "areKin", desc := "(LTulipLines$Bulb;LTulipLines$Once;LTulipLines$Bulb;LTulipLines$Once;)Z" } : Jvm.MethodName)) ∈ lw_all := lw_g (lw_at lw_m4 78 rfl) rfl
theorem q867 : (Jvm.Cond.selects "TulipLines$Bed" ({ cls := "TulipLines$Bed", name := "areKin", desc := "(LTulipLines$Bulb;LTulipLines$Once;LTulipLines$Bulb;LTulipLines$Once;)Z" } : Jvm.MethodName) ({ cls := "TulipLines$Bed", name := "areKin", desc := "(LTulipLines$Bulb;LTulipLines$Once;LTulipLines$Bulb;LTulipLines$Once;)Z" } : Jvm.MethodName)) ∈ lw_all := lw_g (lw_at lw_m4 79 rfl) rfl
theorem q868 : (Jvm.Cond.code ({ cls := "TulipLines$Bed", name := "areKin", desc := "(LTulipLines$Bulb;LTulipLines$Once;LTulipLines$Bulb;LTulipLines$Once;)Z" } : Jvm.MethodName) prog_2_method_29_code (6 : Nat) (Option.some Jvm.ClassFile.FieldType.boolean)) ∈ lw_all := lw_g (lw_at lw_m4 80 rfl) rfl
theorem q869 : (Jvm.Cond.methodLink "TulipLines$Bed" (199 : Nat) ({ cls := "TulipLines$Once", name := "has", desc := "(LTulipLines$Bulb;)Z" } : Jvm.MethodName)) ∈ lw_all := lw_g (lw_at lw_m4 81 rfl) rfl
theorem q875 : (Jvm.Cond.instanceMethod ({ cls := "TulipLines$Bed", name := "areKinAgain", desc := "(LTulipLines$Bulb;LTulipLines$Bulb;)Z" } : Jvm.MethodName)) ∈ lw_all := lw_g (lw_at lw_m4 87 rfl) rfl
theorem q876 : (Jvm.Cond.selects "TulipLines$Bed" ({ cls := "TulipLines$Bed", name := "areKinAgain", desc := "(LTulipLines$Bulb;LTulipLines$Bulb;)Z" } : Jvm.MethodName) ({ cls := "TulipLines$Bed", name := "areKinAgain", desc := "(LTulipLines$Bulb;LTulipLines$Bulb;)Z" } : Jvm.MethodName)) ∈ lw_all := lw_g (lw_at lw_m4 88 rfl) rfl
theorem q877 : (Jvm.Cond.code ({ cls := "TulipLines$Bed", name := "areKinAgain", desc := "(LTulipLines$Bulb;LTulipLines$Bulb;)Z" } : Jvm.MethodName) prog_2_method_30_code (3 : Nat) (Option.some Jvm.ClassFile.FieldType.boolean)) ∈ lw_all := lw_g (lw_at lw_m4 89 rfl) rfl
theorem q878 : (Jvm.Cond.methodLink "TulipLines$Bed" (206 : Nat) ({ cls := "TulipLines$Bed", name := "areKinAgain", desc := "(LTulipLines$Bulb;LTulipLines$Once;LTulipLines$Bulb;LTulipLines$Once;)Z" } : Jvm.MethodName)) ∈ lw_all := lw_g (lw_at lw_m4 90 rfl) rfl
theorem q879 : (Jvm.Cond.instanceMethod ({ cls := "TulipLines$Bed", name := "areKinAgain", desc := "(LTulipLines$Bulb;LTulipLines$Once;LTulipLines$Bulb;LTulipLines$Once;)Z" } : Jvm.MethodName)) ∈ lw_all := lw_g (lw_at lw_m4 91 rfl) rfl
theorem q880 : (Jvm.Cond.selects "TulipLines$Bed" ({ cls := "TulipLines$Bed", name := "areKinAgain", desc := "(LTulipLines$Bulb;LTulipLines$Once;LTulipLines$Bulb;LTulipLines$Once;)Z" } : Jvm.MethodName) ({ cls := "TulipLines$Bed", name := "areKinAgain", desc := "(LTulipLines$Bulb;LTulipLines$Once;LTulipLines$Bulb;LTulipLines$Once;)Z" } : Jvm.MethodName)) ∈ lw_all := lw_g (lw_at lw_m4 92 rfl) rfl
theorem q881 : (Jvm.Cond.code ({ cls := "TulipLines$Bed", name := "areKinAgain", desc := "(LTulipLines$Bulb;LTulipLines$Once;LTulipLines$Bulb;LTulipLines$Once;)Z" } : Jvm.MethodName) prog_2_method_31_code (7 : Nat) (Option.some Jvm.ClassFile.FieldType.boolean)) ∈ lw_all := lw_g (lw_at lw_m4 93 rfl) rfl
theorem q893 : (Jvm.Cond.instanceMethod ({ cls := "TulipLines$Bed", name := "isInLine", desc := "(LTulipLines$Bulb;LTulipLines$Bulb;)Z" } : Jvm.MethodName)) ∈ lw_all := lw_g (lw_at lw_m4 105 rfl) rfl
theorem q894 : (Jvm.Cond.selects "TulipLines$Bed" ({ cls := "TulipLines$Bed", name := "isInLine", desc := "(LTulipLines$Bulb;LTulipLines$Bulb;)Z" } : Jvm.MethodName) ({ cls := "TulipLines$Bed", name := "isInLine", desc := "(LTulipLines$Bulb;LTulipLines$Bulb;)Z" } : Jvm.MethodName)) ∈ lw_all := lw_g (lw_at lw_m4 106 rfl) rfl
theorem q895 : (Jvm.Cond.code ({ cls := "TulipLines$Bed", name := "isInLine", desc := "(LTulipLines$Bulb;LTulipLines$Bulb;)Z" } : Jvm.MethodName) prog_2_method_27_code (3 : Nat) (Option.some Jvm.ClassFile.FieldType.boolean)) ∈ lw_all := lw_g (lw_at lw_m4 107 rfl) rfl
theorem q1817 : (Jvm.Cond.castable "TulipLines$Bed" "java/lang/Object") ∈ lw_tbl := lw_at lw_m8 69 rfl
theorem in_X1 : ∀ w ∈ wsX10, w ∈ lw_all := lw_in wsX10 [159, 161, 163, 165, 167, 169, 171] (by decide +kernel) (by decide +kernel)
